/-! AnimationControllerModel -/
set_option maxRecDepth 100000
def RX4 : String := "AnimationControllerModel"
def TX4 : u_T := fun k => match k with
  | 0 => ("AnimationControllerModel", "m", "[I", true)
  | 1 => ("AnimationControllerModel", "isKept", "[Z", true)
  | 2 => ("AnimationControllerModel", "parKind", "[I", true)
  | 3 => ("AnimationControllerModel", "parameters", "I", false)
  | 4 => ("AnimationControllerModel", "clipLength", "[I", true)
  | 5 => ("AnimationControllerModel", "eventMany", "[I", true)
  | 6 => ("AnimationControllerModel", "eventTime", "[I", true)
  | 7 => ("AnimationControllerModel", "eventId", "[I", true)
  | 8 => ("AnimationControllerModel", "clips", "I", false)
  | 9 => ("AnimationControllerModel", "nodeClip", "[I", true)
  | 10 => ("AnimationControllerModel", "nodePar", "[I", true)
  | 11 => ("AnimationControllerModel", "childMany", "[I", true)
  | 12 => ("AnimationControllerModel", "childNode", "[I", true)
  | 13 => ("AnimationControllerModel", "childAt", "[I", true)
  | 14 => ("AnimationControllerModel", "nodes", "I", false)
  | 15 => ("AnimationControllerModel", "motion", "[I", true)
  | 16 => ("AnimationControllerModel", "speed", "[I", true)
  | 17 => ("AnimationControllerModel", "loops", "[Z", true)
  | 18 => ("AnimationControllerModel", "group", "[I", true)
  | 19 => ("AnimationControllerModel", "states", "I", false)
  | 20 => ("AnimationControllerModel", "tr", "[I", true)
  | 21 => ("AnimationControllerModel", "transitions", "I", false)
  | 22 => ("AnimationControllerModel", "threshold", "I", false)
  | 23 => ("AnimationControllerModel", "text", "[I", true)
  | 24 => ("AnimationControllerModel", "length", "I", false)
  | 25 => ("AnimationControllerModel", "code", "I", false)
  | 26 => ("AnimationControllerModel", "depth", "[I", true)
  | 27 => ("AnimationControllerModel", "part", "[J", true)
  | 28 => ("AnimationControllerModel", "openNode", "[I", true)
  | 29 => ("AnimationControllerModel", "openWeight", "[J", true)
  | 30 => ("AnimationControllerModel", "at", "I", false)
  | 31 => ("AnimationControllerModel", "fine", "Z", false)
  | 32 => ("AnimationControllerModel", "adds", "Z", false)
  | 33 => ("AnimationControllerModel", "number", "I", false)
  | 34 => ("AnimationControllerModel", "readMany", "I", false)
  | 35 => ("AnimationControllerModel", "were", "I", false)
  | 36 => ("AnimationControllerModel", "conditions", "I", false)
  | 37 => ("AnimationControllerModel", "poseClips", "[I", true)
  | 38 => ("AnimationControllerModel", "poseTimes", "[I", true)
  | 39 => ("AnimationControllerModel", "poseWeights", "[J", true)
  | 40 => ("AnimationControllerModel", "poseMany", "I", false)
  | _ => ("AnimationControllerModel", "far", "[I", true)
def tyX4 : Nat → FieldType := fun k => match k with
  | 0 => .array .int
  | 1 => .array .boolean
  | 2 => .array .int
  | 3 => .int
  | 4 => .array .int
  | 5 => .array .int
  | 6 => .array .int
  | 7 => .array .int
  | 8 => .int
  | 9 => .array .int
  | 10 => .array .int
  | 11 => .array .int
  | 12 => .array .int
  | 13 => .array .int
  | 14 => .int
  | 15 => .array .int
  | 16 => .array .int
  | 17 => .array .boolean
  | 18 => .array .int
  | 19 => .int
  | 20 => .array .int
  | 21 => .int
  | 22 => .int
  | 23 => .array .int
  | 24 => .int
  | 25 => .int
  | 26 => .array .int
  | 27 => .array .long
  | 28 => .array .int
  | 29 => .array .long
  | 30 => .int
  | 31 => .boolean
  | 32 => .boolean
  | 33 => .int
  | 34 => .int
  | 35 => .int
  | 36 => .int
  | 37 => .array .int
  | 38 => .array .int
  | 39 => .array .long
  | 40 => .int
  | _ => .array .int
abbrev wsX40 : List Cond := u_ws RX4 TX4 42
set_option maxRecDepth 100000 in
theorem nmX4 : ∀ a, a < 42 → ∀ b, b < 42 → a ≠ b → (TX4 a).2.1 ≠ (TX4 b).2.1 := by decide +kernel
set_option maxRecDepth 100000 in
theorem tyX4_ok : ∀ k, k < 42 → parseFieldDescriptor (TX4 k).2.2.1 = some (tyX4 k) := by decide +kernel
abbrev cX4_init : ByteArray := prog_19_method_1_code
def yX4_init : MethodName := ⟨RX4, "<init>", "()V"⟩
def dkwX4_init_9 : List UInt8 := [188, 10, 181, 0, 91, 177]
abbrev dktX4_init_9 : List UInt8 := dkwX4_init_9 ++ []
def dkwX4_init_8 : List UInt8 := [188, 10, 181, 0, 82, 42, 16, 72, 188, 10, 181, 0, 85, 42, 16, 72, 188, 11, 181, 0, 88, 42, 16, 10]
abbrev dktX4_init_8 : List UInt8 := dkwX4_init_8 ++ dktX4_init_9
def dkwX4_init_7 : List UInt8 := [188, 11, 181, 0, 72, 42, 16, 32, 188, 10, 181, 0, 76, 42, 16, 32, 188, 11, 181, 0, 79, 42, 16, 72]
abbrev dktX4_init_7 : List UInt8 := dkwX4_init_7 ++ dktX4_init_8
def dkwX4_init_6 : List UInt8 := [181, 0, 62, 42, 17, 0, 150, 188, 10, 181, 0, 66, 42, 16, 20, 188, 10, 181, 0, 69, 42, 16, 12]
abbrev dktX4_init_6 : List UInt8 := dkwX4_init_6 ++ dktX4_init_7
def dkwX4_init_5 : List UInt8 := [188, 4, 181, 0, 53, 42, 16, 10, 188, 10, 181, 0, 56, 42, 17, 1, 152, 188, 10, 181, 0, 59, 42, 4]
abbrev dktX4_init_5 : List UInt8 := dkwX4_init_5 ++ dktX4_init_6
def dkwX4_init_4 : List UInt8 := [188, 10, 181, 0, 44, 42, 16, 10, 188, 10, 181, 0, 47, 42, 16, 10, 188, 10, 181, 0, 50, 42, 16, 10]
abbrev dktX4_init_4 : List UInt8 := dkwX4_init_4 ++ dktX4_init_5
def dkwX4_init_3 : List UInt8 := [188, 10, 181, 0, 35, 42, 16, 20, 188, 10, 181, 0, 38, 42, 16, 100, 188, 10, 181, 0, 41, 42, 16, 100]
abbrev dktX4_init_3 : List UInt8 := dkwX4_init_3 ++ dktX4_init_4
def dkwX4_init_2 : List UInt8 := [188, 10, 181, 0, 26, 42, 16, 60, 188, 10, 181, 0, 29, 42, 16, 20, 188, 10, 181, 0, 32, 42, 16, 20]
abbrev dktX4_init_2 : List UInt8 := dkwX4_init_2 ++ dktX4_init_3
def dkwX4_init_1 : List UInt8 := [188, 10, 181, 0, 17, 42, 16, 12, 188, 10, 181, 0, 20, 42, 16, 12, 188, 10, 181, 0, 23, 42, 16, 60]
abbrev dktX4_init_1 : List UInt8 := dkwX4_init_1 ++ dktX4_init_2
def dkwX4_init_0 : List UInt8 := [42, 183, 0, 1, 42, 17, 4, 136, 188, 10, 181, 0, 7, 42, 5, 188, 4, 181, 0, 13, 42, 16, 8]
abbrev dktX4_init_0 : List UInt8 := dkwX4_init_0 ++ dktX4_init_1
theorem dksX4_init_0 : cX4_init.data.toList.drop 0 = dktX4_init_0 := by decide +kernel
theorem dksX4_init_1 : cX4_init.data.toList.drop 23 = dktX4_init_1 := dk_seg dksX4_init_0 23 rfl rfl
theorem dksX4_init_2 : cX4_init.data.toList.drop 47 = dktX4_init_2 := dk_seg dksX4_init_1 24 rfl rfl
theorem dksX4_init_3 : cX4_init.data.toList.drop 71 = dktX4_init_3 := dk_seg dksX4_init_2 24 rfl rfl
theorem dksX4_init_4 : cX4_init.data.toList.drop 95 = dktX4_init_4 := dk_seg dksX4_init_3 24 rfl rfl
theorem dksX4_init_5 : cX4_init.data.toList.drop 119 = dktX4_init_5 := dk_seg dksX4_init_4 24 rfl rfl
theorem dksX4_init_6 : cX4_init.data.toList.drop 143 = dktX4_init_6 := dk_seg dksX4_init_5 24 rfl rfl
theorem dksX4_init_7 : cX4_init.data.toList.drop 166 = dktX4_init_7 := dk_seg dksX4_init_6 23 rfl rfl
theorem dksX4_init_8 : cX4_init.data.toList.drop 190 = dktX4_init_8 := dk_seg dksX4_init_7 24 rfl rfl
theorem dksX4_init_9 : cX4_init.data.toList.drop 214 = dktX4_init_9 := dk_seg dksX4_init_8 24 rfl rfl
theorem dX4_init_0 : decode cX4_init 0 = .ok (.aload_n 0, 1) := dk_42 (dk_at dksX4_init_0 0 rfl rfl)
theorem dX4_init_1 : decode cX4_init 1 = .ok (.invokespecial 1, 3) := dk_183 0 1 (dk_at dksX4_init_0 1 rfl rfl)
theorem dX4_init_4 : decode cX4_init 4 = .ok (.aload_n 0, 1) := dk_42 (dk_at dksX4_init_0 4 rfl rfl)
theorem dX4_init_5 : decode cX4_init 5 = .ok (.sipush 1160, 3) := dk_17 4 136 (dk_at dksX4_init_0 5 rfl rfl)
theorem dX4_init_8 : decode cX4_init 8 = .ok (.newarray .int, 2) := dk_188_10 (dk_at dksX4_init_0 8 rfl rfl)
theorem dX4_init_10 : decode cX4_init 10 = .ok (.putfield 7, 3) := dk_181 0 7 (dk_at dksX4_init_0 10 rfl rfl)
theorem dX4_init_13 : decode cX4_init 13 = .ok (.aload_n 0, 1) := dk_42 (dk_at dksX4_init_0 13 rfl rfl)
theorem dX4_init_14 : decode cX4_init 14 = .ok (.iconst 2, 1) := dk_5 (dk_at dksX4_init_0 14 rfl rfl)
theorem dX4_init_15 : decode cX4_init 15 = .ok (.newarray .boolean, 2) := dk_188_4 (dk_at dksX4_init_0 15 rfl rfl)
theorem dX4_init_17 : decode cX4_init 17 = .ok (.putfield 13, 3) := dk_181 0 13 (dk_at dksX4_init_0 17 rfl rfl)
theorem dX4_init_20 : decode cX4_init 20 = .ok (.aload_n 0, 1) := dk_42 (dk_at dksX4_init_0 20 rfl rfl)
theorem dX4_init_21 : decode cX4_init 21 = .ok (.bipush 8, 2) := dk_16 8 (dk_at dksX4_init_0 21 rfl rfl)
theorem dX4_init_23 : decode cX4_init 23 = .ok (.newarray .int, 2) := dk_188_10 (dk_at dksX4_init_1 0 rfl rfl)
theorem dX4_init_25 : decode cX4_init 25 = .ok (.putfield 17, 3) := dk_181 0 17 (dk_at dksX4_init_1 2 rfl rfl)
theorem dX4_init_28 : decode cX4_init 28 = .ok (.aload_n 0, 1) := dk_42 (dk_at dksX4_init_1 5 rfl rfl)
theorem dX4_init_29 : decode cX4_init 29 = .ok (.bipush 12, 2) := dk_16 12 (dk_at dksX4_init_1 6 rfl rfl)
theorem dX4_init_31 : decode cX4_init 31 = .ok (.newarray .int, 2) := dk_188_10 (dk_at dksX4_init_1 8 rfl rfl)
theorem dX4_init_33 : decode cX4_init 33 = .ok (.putfield 20, 3) := dk_181 0 20 (dk_at dksX4_init_1 10 rfl rfl)
theorem dX4_init_36 : decode cX4_init 36 = .ok (.aload_n 0, 1) := dk_42 (dk_at dksX4_init_1 13 rfl rfl)
theorem dX4_init_37 : decode cX4_init 37 = .ok (.bipush 12, 2) := dk_16 12 (dk_at dksX4_init_1 14 rfl rfl)
theorem dX4_init_39 : decode cX4_init 39 = .ok (.newarray .int, 2) := dk_188_10 (dk_at dksX4_init_1 16 rfl rfl)
theorem dX4_init_41 : decode cX4_init 41 = .ok (.putfield 23, 3) := dk_181 0 23 (dk_at dksX4_init_1 18 rfl rfl)
theorem dX4_init_44 : decode cX4_init 44 = .ok (.aload_n 0, 1) := dk_42 (dk_at dksX4_init_1 21 rfl rfl)
theorem dX4_init_45 : decode cX4_init 45 = .ok (.bipush 60, 2) := dk_16 60 (dk_at dksX4_init_1 22 rfl rfl)
theorem dX4_init_47 : decode cX4_init 47 = .ok (.newarray .int, 2) := dk_188_10 (dk_at dksX4_init_2 0 rfl rfl)
theorem dX4_init_49 : decode cX4_init 49 = .ok (.putfield 26, 3) := dk_181 0 26 (dk_at dksX4_init_2 2 rfl rfl)
theorem dX4_init_52 : decode cX4_init 52 = .ok (.aload_n 0, 1) := dk_42 (dk_at dksX4_init_2 5 rfl rfl)
theorem dX4_init_53 : decode cX4_init 53 = .ok (.bipush 60, 2) := dk_16 60 (dk_at dksX4_init_2 6 rfl rfl)
theorem dX4_init_55 : decode cX4_init 55 = .ok (.newarray .int, 2) := dk_188_10 (dk_at dksX4_init_2 8 rfl rfl)
theorem dX4_init_57 : decode cX4_init 57 = .ok (.putfield 29, 3) := dk_181 0 29 (dk_at dksX4_init_2 10 rfl rfl)
theorem dX4_init_60 : decode cX4_init 60 = .ok (.aload_n 0, 1) := dk_42 (dk_at dksX4_init_2 13 rfl rfl)
theorem dX4_init_61 : decode cX4_init 61 = .ok (.bipush 20, 2) := dk_16 20 (dk_at dksX4_init_2 14 rfl rfl)
theorem dX4_init_63 : decode cX4_init 63 = .ok (.newarray .int, 2) := dk_188_10 (dk_at dksX4_init_2 16 rfl rfl)
theorem dX4_init_65 : decode cX4_init 65 = .ok (.putfield 32, 3) := dk_181 0 32 (dk_at dksX4_init_2 18 rfl rfl)
theorem dX4_init_68 : decode cX4_init 68 = .ok (.aload_n 0, 1) := dk_42 (dk_at dksX4_init_2 21 rfl rfl)
theorem dX4_init_69 : decode cX4_init 69 = .ok (.bipush 20, 2) := dk_16 20 (dk_at dksX4_init_2 22 rfl rfl)
theorem dX4_init_71 : decode cX4_init 71 = .ok (.newarray .int, 2) := dk_188_10 (dk_at dksX4_init_3 0 rfl rfl)
theorem dX4_init_73 : decode cX4_init 73 = .ok (.putfield 35, 3) := dk_181 0 35 (dk_at dksX4_init_3 2 rfl rfl)
theorem dX4_init_76 : decode cX4_init 76 = .ok (.aload_n 0, 1) := dk_42 (dk_at dksX4_init_3 5 rfl rfl)
theorem dX4_init_77 : decode cX4_init 77 = .ok (.bipush 20, 2) := dk_16 20 (dk_at dksX4_init_3 6 rfl rfl)
theorem dX4_init_79 : decode cX4_init 79 = .ok (.newarray .int, 2) := dk_188_10 (dk_at dksX4_init_3 8 rfl rfl)
theorem dX4_init_81 : decode cX4_init 81 = .ok (.putfield 38, 3) := dk_181 0 38 (dk_at dksX4_init_3 10 rfl rfl)
theorem dX4_init_84 : decode cX4_init 84 = .ok (.aload_n 0, 1) := dk_42 (dk_at dksX4_init_3 13 rfl rfl)
theorem dX4_init_85 : decode cX4_init 85 = .ok (.bipush 100, 2) := dk_16 100 (dk_at dksX4_init_3 14 rfl rfl)
theorem dX4_init_87 : decode cX4_init 87 = .ok (.newarray .int, 2) := dk_188_10 (dk_at dksX4_init_3 16 rfl rfl)
theorem dX4_init_89 : decode cX4_init 89 = .ok (.putfield 41, 3) := dk_181 0 41 (dk_at dksX4_init_3 18 rfl rfl)
theorem dX4_init_92 : decode cX4_init 92 = .ok (.aload_n 0, 1) := dk_42 (dk_at dksX4_init_3 21 rfl rfl)
theorem dX4_init_93 : decode cX4_init 93 = .ok (.bipush 100, 2) := dk_16 100 (dk_at dksX4_init_3 22 rfl rfl)
theorem dX4_init_95 : decode cX4_init 95 = .ok (.newarray .int, 2) := dk_188_10 (dk_at dksX4_init_4 0 rfl rfl)
theorem dX4_init_97 : decode cX4_init 97 = .ok (.putfield 44, 3) := dk_181 0 44 (dk_at dksX4_init_4 2 rfl rfl)
theorem dX4_init_100 : decode cX4_init 100 = .ok (.aload_n 0, 1) := dk_42 (dk_at dksX4_init_4 5 rfl rfl)
theorem dX4_init_101 : decode cX4_init 101 = .ok (.bipush 10, 2) := dk_16 10 (dk_at dksX4_init_4 6 rfl rfl)
theorem dX4_init_103 : decode cX4_init 103 = .ok (.newarray .int, 2) := dk_188_10 (dk_at dksX4_init_4 8 rfl rfl)
theorem dX4_init_105 : decode cX4_init 105 = .ok (.putfield 47, 3) := dk_181 0 47 (dk_at dksX4_init_4 10 rfl rfl)
theorem dX4_init_108 : decode cX4_init 108 = .ok (.aload_n 0, 1) := dk_42 (dk_at dksX4_init_4 13 rfl rfl)
theorem dX4_init_109 : decode cX4_init 109 = .ok (.bipush 10, 2) := dk_16 10 (dk_at dksX4_init_4 14 rfl rfl)
theorem dX4_init_111 : decode cX4_init 111 = .ok (.newarray .int, 2) := dk_188_10 (dk_at dksX4_init_4 16 rfl rfl)
theorem dX4_init_113 : decode cX4_init 113 = .ok (.putfield 50, 3) := dk_181 0 50 (dk_at dksX4_init_4 18 rfl rfl)
theorem dX4_init_116 : decode cX4_init 116 = .ok (.aload_n 0, 1) := dk_42 (dk_at dksX4_init_4 21 rfl rfl)
theorem dX4_init_117 : decode cX4_init 117 = .ok (.bipush 10, 2) := dk_16 10 (dk_at dksX4_init_4 22 rfl rfl)
theorem dX4_init_119 : decode cX4_init 119 = .ok (.newarray .boolean, 2) := dk_188_4 (dk_at dksX4_init_5 0 rfl rfl)
theorem dX4_init_121 : decode cX4_init 121 = .ok (.putfield 53, 3) := dk_181 0 53 (dk_at dksX4_init_5 2 rfl rfl)
theorem dX4_init_124 : decode cX4_init 124 = .ok (.aload_n 0, 1) := dk_42 (dk_at dksX4_init_5 5 rfl rfl)
theorem dX4_init_125 : decode cX4_init 125 = .ok (.bipush 10, 2) := dk_16 10 (dk_at dksX4_init_5 6 rfl rfl)
theorem dX4_init_127 : decode cX4_init 127 = .ok (.newarray .int, 2) := dk_188_10 (dk_at dksX4_init_5 8 rfl rfl)
theorem dX4_init_129 : decode cX4_init 129 = .ok (.putfield 56, 3) := dk_181 0 56 (dk_at dksX4_init_5 10 rfl rfl)
theorem dX4_init_132 : decode cX4_init 132 = .ok (.aload_n 0, 1) := dk_42 (dk_at dksX4_init_5 13 rfl rfl)
theorem dX4_init_133 : decode cX4_init 133 = .ok (.sipush 408, 3) := dk_17 1 152 (dk_at dksX4_init_5 14 rfl rfl)
theorem dX4_init_136 : decode cX4_init 136 = .ok (.newarray .int, 2) := dk_188_10 (dk_at dksX4_init_5 17 rfl rfl)
theorem dX4_init_138 : decode cX4_init 138 = .ok (.putfield 59, 3) := dk_181 0 59 (dk_at dksX4_init_5 19 rfl rfl)
theorem dX4_init_141 : decode cX4_init 141 = .ok (.aload_n 0, 1) := dk_42 (dk_at dksX4_init_5 22 rfl rfl)
theorem dX4_init_142 : decode cX4_init 142 = .ok (.iconst 1, 1) := dk_4 (dk_at dksX4_init_5 23 rfl rfl)
theorem dX4_init_143 : decode cX4_init 143 = .ok (.putfield 62, 3) := dk_181 0 62 (dk_at dksX4_init_6 0 rfl rfl)
theorem dX4_init_146 : decode cX4_init 146 = .ok (.aload_n 0, 1) := dk_42 (dk_at dksX4_init_6 3 rfl rfl)
theorem dX4_init_147 : decode cX4_init 147 = .ok (.sipush 150, 3) := dk_17 0 150 (dk_at dksX4_init_6 4 rfl rfl)
theorem dX4_init_150 : decode cX4_init 150 = .ok (.newarray .int, 2) := dk_188_10 (dk_at dksX4_init_6 7 rfl rfl)
theorem dX4_init_152 : decode cX4_init 152 = .ok (.putfield 66, 3) := dk_181 0 66 (dk_at dksX4_init_6 9 rfl rfl)
theorem dX4_init_155 : decode cX4_init 155 = .ok (.aload_n 0, 1) := dk_42 (dk_at dksX4_init_6 12 rfl rfl)
theorem dX4_init_156 : decode cX4_init 156 = .ok (.bipush 20, 2) := dk_16 20 (dk_at dksX4_init_6 13 rfl rfl)
theorem dX4_init_158 : decode cX4_init 158 = .ok (.newarray .int, 2) := dk_188_10 (dk_at dksX4_init_6 15 rfl rfl)
theorem dX4_init_160 : decode cX4_init 160 = .ok (.putfield 69, 3) := dk_181 0 69 (dk_at dksX4_init_6 17 rfl rfl)
theorem dX4_init_163 : decode cX4_init 163 = .ok (.aload_n 0, 1) := dk_42 (dk_at dksX4_init_6 20 rfl rfl)
theorem dX4_init_164 : decode cX4_init 164 = .ok (.bipush 12, 2) := dk_16 12 (dk_at dksX4_init_6 21 rfl rfl)
theorem dX4_init_166 : decode cX4_init 166 = .ok (.newarray .long, 2) := dk_188_11 (dk_at dksX4_init_7 0 rfl rfl)
theorem dX4_init_168 : decode cX4_init 168 = .ok (.putfield 72, 3) := dk_181 0 72 (dk_at dksX4_init_7 2 rfl rfl)
theorem dX4_init_171 : decode cX4_init 171 = .ok (.aload_n 0, 1) := dk_42 (dk_at dksX4_init_7 5 rfl rfl)
theorem dX4_init_172 : decode cX4_init 172 = .ok (.bipush 32, 2) := dk_16 32 (dk_at dksX4_init_7 6 rfl rfl)
theorem dX4_init_174 : decode cX4_init 174 = .ok (.newarray .int, 2) := dk_188_10 (dk_at dksX4_init_7 8 rfl rfl)
theorem dX4_init_176 : decode cX4_init 176 = .ok (.putfield 76, 3) := dk_181 0 76 (dk_at dksX4_init_7 10 rfl rfl)
theorem dX4_init_179 : decode cX4_init 179 = .ok (.aload_n 0, 1) := dk_42 (dk_at dksX4_init_7 13 rfl rfl)
theorem dX4_init_180 : decode cX4_init 180 = .ok (.bipush 32, 2) := dk_16 32 (dk_at dksX4_init_7 14 rfl rfl)
theorem dX4_init_182 : decode cX4_init 182 = .ok (.newarray .long, 2) := dk_188_11 (dk_at dksX4_init_7 16 rfl rfl)
theorem dX4_init_184 : decode cX4_init 184 = .ok (.putfield 79, 3) := dk_181 0 79 (dk_at dksX4_init_7 18 rfl rfl)
theorem dX4_init_187 : decode cX4_init 187 = .ok (.aload_n 0, 1) := dk_42 (dk_at dksX4_init_7 21 rfl rfl)
theorem dX4_init_188 : decode cX4_init 188 = .ok (.bipush 72, 2) := dk_16 72 (dk_at dksX4_init_7 22 rfl rfl)
theorem dX4_init_190 : decode cX4_init 190 = .ok (.newarray .int, 2) := dk_188_10 (dk_at dksX4_init_8 0 rfl rfl)
theorem dX4_init_192 : decode cX4_init 192 = .ok (.putfield 82, 3) := dk_181 0 82 (dk_at dksX4_init_8 2 rfl rfl)
theorem dX4_init_195 : decode cX4_init 195 = .ok (.aload_n 0, 1) := dk_42 (dk_at dksX4_init_8 5 rfl rfl)
theorem dX4_init_196 : decode cX4_init 196 = .ok (.bipush 72, 2) := dk_16 72 (dk_at dksX4_init_8 6 rfl rfl)
theorem dX4_init_198 : decode cX4_init 198 = .ok (.newarray .int, 2) := dk_188_10 (dk_at dksX4_init_8 8 rfl rfl)
theorem dX4_init_200 : decode cX4_init 200 = .ok (.putfield 85, 3) := dk_181 0 85 (dk_at dksX4_init_8 10 rfl rfl)
theorem dX4_init_203 : decode cX4_init 203 = .ok (.aload_n 0, 1) := dk_42 (dk_at dksX4_init_8 13 rfl rfl)
theorem dX4_init_204 : decode cX4_init 204 = .ok (.bipush 72, 2) := dk_16 72 (dk_at dksX4_init_8 14 rfl rfl)
theorem dX4_init_206 : decode cX4_init 206 = .ok (.newarray .long, 2) := dk_188_11 (dk_at dksX4_init_8 16 rfl rfl)
theorem dX4_init_208 : decode cX4_init 208 = .ok (.putfield 88, 3) := dk_181 0 88 (dk_at dksX4_init_8 18 rfl rfl)
theorem dX4_init_211 : decode cX4_init 211 = .ok (.aload_n 0, 1) := dk_42 (dk_at dksX4_init_8 21 rfl rfl)
theorem dX4_init_212 : decode cX4_init 212 = .ok (.bipush 10, 2) := dk_16 10 (dk_at dksX4_init_8 22 rfl rfl)
theorem dX4_init_214 : decode cX4_init 214 = .ok (.newarray .int, 2) := dk_188_10 (dk_at dksX4_init_9 0 rfl rfl)
theorem dX4_init_216 : decode cX4_init 216 = .ok (.putfield 91, 3) := dk_181 0 91 (dk_at dksX4_init_9 2 rfl rfl)
theorem dX4_init_219 : decode cX4_init 219 = .ok (.return_, 1) := dk_177 (dk_at dksX4_init_9 5 rfl rfl)
abbrev cX4_thrown : ByteArray := prog_19_method_2_code
def yX4_thrown : MethodName := ⟨RX4, "thrown", "()I"⟩
theorem dX4_thrown_0 : decode cX4_thrown 0 = .ok (.aload_n 0, 1) := by decide +kernel
theorem dX4_thrown_1 : decode cX4_thrown 1 = .ok (.getfield 94, 3) := by decide +kernel
theorem dX4_thrown_4 : decode cX4_thrown 4 = .ok (.ireturn, 1) := by decide +kernel
abbrev cX4_addParameter : ByteArray := prog_19_method_5_code
def yX4_addParameter : MethodName := ⟨RX4, "addParameter", "(I)I"⟩
def dkwX4_addParameter_3 : List UInt8 := [180, 0, 107, 4, 100, 172]
abbrev dktX4_addParameter_3 : List UInt8 := dkwX4_addParameter_3 ++ []
def dkwX4_addParameter_2 : List UInt8 := [42, 180, 0, 7, 3, 42, 180, 0, 107, 96, 3, 79, 42, 89, 180, 0, 107, 4, 96, 181, 0, 107, 42]
abbrev dktX4_addParameter_2 : List UInt8 := dkwX4_addParameter_2 ++ dktX4_addParameter_3
def dkwX4_addParameter_1 : List UInt8 := [180, 0, 107, 16, 8, 160, 0, 9, 42, 5, 182, 0, 103, 172, 42, 180, 0, 17, 42, 180, 0, 107, 27, 79]
abbrev dktX4_addParameter_1 : List UInt8 := dkwX4_addParameter_1 ++ dktX4_addParameter_2
def dkwX4_addParameter_0 : List UInt8 := [42, 3, 181, 0, 94, 27, 133, 9, 20, 0, 97, 184, 0, 99, 154, 0, 9, 42, 4, 182, 0, 103, 172, 42]
abbrev dktX4_addParameter_0 : List UInt8 := dkwX4_addParameter_0 ++ dktX4_addParameter_1
theorem dksX4_addParameter_0 : cX4_addParameter.data.toList.drop 0 = dktX4_addParameter_0 := by decide +kernel
theorem dksX4_addParameter_1 : cX4_addParameter.data.toList.drop 24 = dktX4_addParameter_1 := dk_seg dksX4_addParameter_0 24 rfl rfl
theorem dksX4_addParameter_2 : cX4_addParameter.data.toList.drop 48 = dktX4_addParameter_2 := dk_seg dksX4_addParameter_1 24 rfl rfl
theorem dksX4_addParameter_3 : cX4_addParameter.data.toList.drop 71 = dktX4_addParameter_3 := dk_seg dksX4_addParameter_2 23 rfl rfl
theorem dX4_addParameter_0 : decode cX4_addParameter 0 = .ok (.aload_n 0, 1) := dk_42 (dk_at dksX4_addParameter_0 0 rfl rfl)
theorem dX4_addParameter_1 : decode cX4_addParameter 1 = .ok (.iconst 0, 1) := dk_3 (dk_at dksX4_addParameter_0 1 rfl rfl)
theorem dX4_addParameter_2 : decode cX4_addParameter 2 = .ok (.putfield 94, 3) := dk_181 0 94 (dk_at dksX4_addParameter_0 2 rfl rfl)
theorem dX4_addParameter_5 : decode cX4_addParameter 5 = .ok (.iload_n 1, 1) := dk_27 (dk_at dksX4_addParameter_0 5 rfl rfl)
theorem dX4_addParameter_6 : decode cX4_addParameter 6 = .ok (.i2l, 1) := dk_133 (dk_at dksX4_addParameter_0 6 rfl rfl)
theorem dX4_addParameter_7 : decode cX4_addParameter 7 = .ok (.lconst 0, 1) := dk_9 (dk_at dksX4_addParameter_0 7 rfl rfl)
theorem dX4_addParameter_8 : decode cX4_addParameter 8 = .ok (.ldc2_w 97, 3) := dk_20 0 97 (dk_at dksX4_addParameter_0 8 rfl rfl)
theorem dX4_addParameter_11 : decode cX4_addParameter 11 = .ok (.invokestatic 99, 3) := dk_184 0 99 (dk_at dksX4_addParameter_0 11 rfl rfl)
theorem dX4_addParameter_14 : decode cX4_addParameter 14 = .ok (.ifCond .ne 9, 3) := dk_154 0 9 (dk_at dksX4_addParameter_0 14 rfl rfl)
theorem dX4_addParameter_17 : decode cX4_addParameter 17 = .ok (.aload_n 0, 1) := dk_42 (dk_at dksX4_addParameter_0 17 rfl rfl)
theorem dX4_addParameter_18 : decode cX4_addParameter 18 = .ok (.iconst 1, 1) := dk_4 (dk_at dksX4_addParameter_0 18 rfl rfl)
theorem dX4_addParameter_19 : decode cX4_addParameter 19 = .ok (.invokevirtual 103, 3) := dk_182 0 103 (dk_at dksX4_addParameter_0 19 rfl rfl)
theorem dX4_addParameter_22 : decode cX4_addParameter 22 = .ok (.ireturn, 1) := dk_172 (dk_at dksX4_addParameter_0 22 rfl rfl)
theorem dX4_addParameter_23 : decode cX4_addParameter 23 = .ok (.aload_n 0, 1) := dk_42 (dk_at dksX4_addParameter_0 23 rfl rfl)
theorem dX4_addParameter_24 : decode cX4_addParameter 24 = .ok (.getfield 107, 3) := dk_180 0 107 (dk_at dksX4_addParameter_1 0 rfl rfl)
theorem dX4_addParameter_27 : decode cX4_addParameter 27 = .ok (.bipush 8, 2) := dk_16 8 (dk_at dksX4_addParameter_1 3 rfl rfl)
theorem dX4_addParameter_29 : decode cX4_addParameter 29 = .ok (.if_icmp .ne 9, 3) := dk_160 0 9 (dk_at dksX4_addParameter_1 5 rfl rfl)
theorem dX4_addParameter_32 : decode cX4_addParameter 32 = .ok (.aload_n 0, 1) := dk_42 (dk_at dksX4_addParameter_1 8 rfl rfl)
theorem dX4_addParameter_33 : decode cX4_addParameter 33 = .ok (.iconst 2, 1) := dk_5 (dk_at dksX4_addParameter_1 9 rfl rfl)
theorem dX4_addParameter_34 : decode cX4_addParameter 34 = .ok (.invokevirtual 103, 3) := dk_182 0 103 (dk_at dksX4_addParameter_1 10 rfl rfl)
theorem dX4_addParameter_37 : decode cX4_addParameter 37 = .ok (.ireturn, 1) := dk_172 (dk_at dksX4_addParameter_1 13 rfl rfl)
theorem dX4_addParameter_38 : decode cX4_addParameter 38 = .ok (.aload_n 0, 1) := dk_42 (dk_at dksX4_addParameter_1 14 rfl rfl)
theorem dX4_addParameter_39 : decode cX4_addParameter 39 = .ok (.getfield 17, 3) := dk_180 0 17 (dk_at dksX4_addParameter_1 15 rfl rfl)
theorem dX4_addParameter_42 : decode cX4_addParameter 42 = .ok (.aload_n 0, 1) := dk_42 (dk_at dksX4_addParameter_1 18 rfl rfl)
theorem dX4_addParameter_43 : decode cX4_addParameter 43 = .ok (.getfield 107, 3) := dk_180 0 107 (dk_at dksX4_addParameter_1 19 rfl rfl)
theorem dX4_addParameter_46 : decode cX4_addParameter 46 = .ok (.iload_n 1, 1) := dk_27 (dk_at dksX4_addParameter_1 22 rfl rfl)
theorem dX4_addParameter_47 : decode cX4_addParameter 47 = .ok (.iastore, 1) := dk_79 (dk_at dksX4_addParameter_1 23 rfl rfl)
theorem dX4_addParameter_48 : decode cX4_addParameter 48 = .ok (.aload_n 0, 1) := dk_42 (dk_at dksX4_addParameter_2 0 rfl rfl)
theorem dX4_addParameter_49 : decode cX4_addParameter 49 = .ok (.getfield 7, 3) := dk_180 0 7 (dk_at dksX4_addParameter_2 1 rfl rfl)
theorem dX4_addParameter_52 : decode cX4_addParameter 52 = .ok (.iconst 0, 1) := dk_3 (dk_at dksX4_addParameter_2 4 rfl rfl)
theorem dX4_addParameter_53 : decode cX4_addParameter 53 = .ok (.aload_n 0, 1) := dk_42 (dk_at dksX4_addParameter_2 5 rfl rfl)
theorem dX4_addParameter_54 : decode cX4_addParameter 54 = .ok (.getfield 107, 3) := dk_180 0 107 (dk_at dksX4_addParameter_2 6 rfl rfl)
theorem dX4_addParameter_57 : decode cX4_addParameter 57 = .ok (.iadd, 1) := dk_96 (dk_at dksX4_addParameter_2 9 rfl rfl)
theorem dX4_addParameter_58 : decode cX4_addParameter 58 = .ok (.iconst 0, 1) := dk_3 (dk_at dksX4_addParameter_2 10 rfl rfl)
theorem dX4_addParameter_59 : decode cX4_addParameter 59 = .ok (.iastore, 1) := dk_79 (dk_at dksX4_addParameter_2 11 rfl rfl)
theorem dX4_addParameter_60 : decode cX4_addParameter 60 = .ok (.aload_n 0, 1) := dk_42 (dk_at dksX4_addParameter_2 12 rfl rfl)
theorem dX4_addParameter_61 : decode cX4_addParameter 61 = .ok (.dup, 1) := dk_89 (dk_at dksX4_addParameter_2 13 rfl rfl)
theorem dX4_addParameter_62 : decode cX4_addParameter 62 = .ok (.getfield 107, 3) := dk_180 0 107 (dk_at dksX4_addParameter_2 14 rfl rfl)
theorem dX4_addParameter_65 : decode cX4_addParameter 65 = .ok (.iconst 1, 1) := dk_4 (dk_at dksX4_addParameter_2 17 rfl rfl)
theorem dX4_addParameter_66 : decode cX4_addParameter 66 = .ok (.iadd, 1) := dk_96 (dk_at dksX4_addParameter_2 18 rfl rfl)
theorem dX4_addParameter_67 : decode cX4_addParameter 67 = .ok (.putfield 107, 3) := dk_181 0 107 (dk_at dksX4_addParameter_2 19 rfl rfl)
theorem dX4_addParameter_70 : decode cX4_addParameter 70 = .ok (.aload_n 0, 1) := dk_42 (dk_at dksX4_addParameter_2 22 rfl rfl)
theorem dX4_addParameter_71 : decode cX4_addParameter 71 = .ok (.getfield 107, 3) := dk_180 0 107 (dk_at dksX4_addParameter_3 0 rfl rfl)
theorem dX4_addParameter_74 : decode cX4_addParameter 74 = .ok (.iconst 1, 1) := dk_4 (dk_at dksX4_addParameter_3 3 rfl rfl)
theorem dX4_addParameter_75 : decode cX4_addParameter 75 = .ok (.isub, 1) := dk_100 (dk_at dksX4_addParameter_3 4 rfl rfl)
theorem dX4_addParameter_76 : decode cX4_addParameter 76 = .ok (.ireturn, 1) := dk_172 (dk_at dksX4_addParameter_3 5 rfl rfl)
abbrev cX4_in : ByteArray := prog_19_method_3_code
def yX4_in : MethodName := ⟨RX4, "in", "(JJJ)Z"⟩
def dkwX4_in_0 : List UInt8 := [30, 32, 148, 155, 0, 14, 30, 22, 4, 148, 157, 0, 7, 4, 167, 0, 4, 3, 172]
abbrev dktX4_in_0 : List UInt8 := dkwX4_in_0 ++ []
theorem dksX4_in_0 : cX4_in.data.toList.drop 0 = dktX4_in_0 := by decide +kernel
theorem dX4_in_0 : decode cX4_in 0 = .ok (.lload_n 0, 1) := dk_30 (dk_at dksX4_in_0 0 rfl rfl)
theorem dX4_in_1 : decode cX4_in 1 = .ok (.lload_n 2, 1) := dk_32 (dk_at dksX4_in_0 1 rfl rfl)
theorem dX4_in_2 : decode cX4_in 2 = .ok (.lcmp, 1) := dk_148 (dk_at dksX4_in_0 2 rfl rfl)
theorem dX4_in_3 : decode cX4_in 3 = .ok (.ifCond .lt 14, 3) := dk_155 0 14 (dk_at dksX4_in_0 3 rfl rfl)
theorem dX4_in_6 : decode cX4_in 6 = .ok (.lload_n 0, 1) := dk_30 (dk_at dksX4_in_0 6 rfl rfl)
theorem dX4_in_7 : decode cX4_in 7 = .ok (.lload 4, 2) := dk_22 4 (dk_at dksX4_in_0 7 rfl rfl)
theorem dX4_in_9 : decode cX4_in 9 = .ok (.lcmp, 1) := dk_148 (dk_at dksX4_in_0 9 rfl rfl)
theorem dX4_in_10 : decode cX4_in 10 = .ok (.ifCond .gt 7, 3) := dk_157 0 7 (dk_at dksX4_in_0 10 rfl rfl)
theorem dX4_in_13 : decode cX4_in 13 = .ok (.iconst 1, 1) := dk_4 (dk_at dksX4_in_0 13 rfl rfl)
theorem dX4_in_14 : decode cX4_in 14 = .ok (.goto 4, 3) := dk_167 0 4 (dk_at dksX4_in_0 14 rfl rfl)
theorem dX4_in_17 : decode cX4_in 17 = .ok (.iconst 0, 1) := dk_3 (dk_at dksX4_in_0 17 rfl rfl)
theorem dX4_in_18 : decode cX4_in 18 = .ok (.ireturn, 1) := dk_172 (dk_at dksX4_in_0 18 rfl rfl)
abbrev cX4_fails : ByteArray := prog_19_method_4_code
def yX4_fails : MethodName := ⟨RX4, "fails", "(I)I"⟩
def dkwX4_fails_0 : List UInt8 := [42, 27, 181, 0, 94, 3, 172]
abbrev dktX4_fails_0 : List UInt8 := dkwX4_fails_0 ++ []
theorem dksX4_fails_0 : cX4_fails.data.toList.drop 0 = dktX4_fails_0 := by decide +kernel
theorem dX4_fails_0 : decode cX4_fails 0 = .ok (.aload_n 0, 1) := dk_42 (dk_at dksX4_fails_0 0 rfl rfl)
theorem dX4_fails_1 : decode cX4_fails 1 = .ok (.iload_n 1, 1) := dk_27 (dk_at dksX4_fails_0 1 rfl rfl)
theorem dX4_fails_2 : decode cX4_fails 2 = .ok (.putfield 94, 3) := dk_181 0 94 (dk_at dksX4_fails_0 2 rfl rfl)
theorem dX4_fails_5 : decode cX4_fails 5 = .ok (.iconst 0, 1) := dk_3 (dk_at dksX4_fails_0 5 rfl rfl)
theorem dX4_fails_6 : decode cX4_fails 6 = .ok (.ireturn, 1) := dk_172 (dk_at dksX4_fails_0 6 rfl rfl)
abbrev cX4_set : ByteArray := prog_19_method_7_code
def yX4_set : MethodName := ⟨RX4, "set", "(II)I"⟩
def dkwX4_set_3 : List UInt8 := [42, 180, 0, 7, 3, 27, 96, 28, 79, 21, 4, 172]
abbrev dktX4_set_3 : List UInt8 := dkwX4_set_3 ++ []
def dkwX4_set_2 : List UInt8 := [184, 0, 99, 62, 29, 154, 0, 9, 42, 5, 182, 0, 103, 172, 42, 180, 0, 7, 3, 27, 96, 46, 54, 4]
abbrev dktX4_set_2 : List UInt8 := dkwX4_set_2 ++ dktX4_set_3
def dkwX4_set_1 : List UInt8 := [46, 154, 0, 17, 28, 133, 20, 0, 114, 20, 0, 116, 184, 0, 99, 167, 0, 10, 28, 133, 9, 10]
abbrev dktX4_set_1 : List UInt8 := dkwX4_set_1 ++ dktX4_set_2
def dkwX4_set_0 : List UInt8 := [42, 3, 181, 0, 94, 42, 27, 182, 0, 110, 154, 0, 9, 42, 4, 182, 0, 103, 172, 42, 180, 0, 17, 27]
abbrev dktX4_set_0 : List UInt8 := dkwX4_set_0 ++ dktX4_set_1
theorem dksX4_set_0 : cX4_set.data.toList.drop 0 = dktX4_set_0 := by decide +kernel
theorem dksX4_set_1 : cX4_set.data.toList.drop 24 = dktX4_set_1 := dk_seg dksX4_set_0 24 rfl rfl
theorem dksX4_set_2 : cX4_set.data.toList.drop 46 = dktX4_set_2 := dk_seg dksX4_set_1 22 rfl rfl
theorem dksX4_set_3 : cX4_set.data.toList.drop 70 = dktX4_set_3 := dk_seg dksX4_set_2 24 rfl rfl
theorem dX4_set_0 : decode cX4_set 0 = .ok (.aload_n 0, 1) := dk_42 (dk_at dksX4_set_0 0 rfl rfl)
theorem dX4_set_1 : decode cX4_set 1 = .ok (.iconst 0, 1) := dk_3 (dk_at dksX4_set_0 1 rfl rfl)
theorem dX4_set_2 : decode cX4_set 2 = .ok (.putfield 94, 3) := dk_181 0 94 (dk_at dksX4_set_0 2 rfl rfl)
theorem dX4_set_5 : decode cX4_set 5 = .ok (.aload_n 0, 1) := dk_42 (dk_at dksX4_set_0 5 rfl rfl)
theorem dX4_set_6 : decode cX4_set 6 = .ok (.iload_n 1, 1) := dk_27 (dk_at dksX4_set_0 6 rfl rfl)
theorem dX4_set_7 : decode cX4_set 7 = .ok (.invokevirtual 110, 3) := dk_182 0 110 (dk_at dksX4_set_0 7 rfl rfl)
theorem dX4_set_10 : decode cX4_set 10 = .ok (.ifCond .ne 9, 3) := dk_154 0 9 (dk_at dksX4_set_0 10 rfl rfl)
theorem dX4_set_13 : decode cX4_set 13 = .ok (.aload_n 0, 1) := dk_42 (dk_at dksX4_set_0 13 rfl rfl)
theorem dX4_set_14 : decode cX4_set 14 = .ok (.iconst 1, 1) := dk_4 (dk_at dksX4_set_0 14 rfl rfl)
theorem dX4_set_15 : decode cX4_set 15 = .ok (.invokevirtual 103, 3) := dk_182 0 103 (dk_at dksX4_set_0 15 rfl rfl)
theorem dX4_set_18 : decode cX4_set 18 = .ok (.ireturn, 1) := dk_172 (dk_at dksX4_set_0 18 rfl rfl)
theorem dX4_set_19 : decode cX4_set 19 = .ok (.aload_n 0, 1) := dk_42 (dk_at dksX4_set_0 19 rfl rfl)
theorem dX4_set_20 : decode cX4_set 20 = .ok (.getfield 17, 3) := dk_180 0 17 (dk_at dksX4_set_0 20 rfl rfl)
theorem dX4_set_23 : decode cX4_set 23 = .ok (.iload_n 1, 1) := dk_27 (dk_at dksX4_set_0 23 rfl rfl)
theorem dX4_set_24 : decode cX4_set 24 = .ok (.iaload, 1) := dk_46 (dk_at dksX4_set_1 0 rfl rfl)
theorem dX4_set_25 : decode cX4_set 25 = .ok (.ifCond .ne 17, 3) := dk_154 0 17 (dk_at dksX4_set_1 1 rfl rfl)
theorem dX4_set_28 : decode cX4_set 28 = .ok (.iload_n 2, 1) := dk_28 (dk_at dksX4_set_1 4 rfl rfl)
theorem dX4_set_29 : decode cX4_set 29 = .ok (.i2l, 1) := dk_133 (dk_at dksX4_set_1 5 rfl rfl)
theorem dX4_set_30 : decode cX4_set 30 = .ok (.ldc2_w 114, 3) := dk_20 0 114 (dk_at dksX4_set_1 6 rfl rfl)
theorem dX4_set_33 : decode cX4_set 33 = .ok (.ldc2_w 116, 3) := dk_20 0 116 (dk_at dksX4_set_1 9 rfl rfl)
theorem dX4_set_36 : decode cX4_set 36 = .ok (.invokestatic 99, 3) := dk_184 0 99 (dk_at dksX4_set_1 12 rfl rfl)
theorem dX4_set_39 : decode cX4_set 39 = .ok (.goto 10, 3) := dk_167 0 10 (dk_at dksX4_set_1 15 rfl rfl)
theorem dX4_set_42 : decode cX4_set 42 = .ok (.iload_n 2, 1) := dk_28 (dk_at dksX4_set_1 18 rfl rfl)
theorem dX4_set_43 : decode cX4_set 43 = .ok (.i2l, 1) := dk_133 (dk_at dksX4_set_1 19 rfl rfl)
theorem dX4_set_44 : decode cX4_set 44 = .ok (.lconst 0, 1) := dk_9 (dk_at dksX4_set_1 20 rfl rfl)
theorem dX4_set_45 : decode cX4_set 45 = .ok (.lconst 1, 1) := dk_10 (dk_at dksX4_set_1 21 rfl rfl)
theorem dX4_set_46 : decode cX4_set 46 = .ok (.invokestatic 99, 3) := dk_184 0 99 (dk_at dksX4_set_2 0 rfl rfl)
theorem dX4_set_49 : decode cX4_set 49 = .ok (.istore_n 3, 1) := dk_62 (dk_at dksX4_set_2 3 rfl rfl)
theorem dX4_set_50 : decode cX4_set 50 = .ok (.iload_n 3, 1) := dk_29 (dk_at dksX4_set_2 4 rfl rfl)
theorem dX4_set_51 : decode cX4_set 51 = .ok (.ifCond .ne 9, 3) := dk_154 0 9 (dk_at dksX4_set_2 5 rfl rfl)
theorem dX4_set_54 : decode cX4_set 54 = .ok (.aload_n 0, 1) := dk_42 (dk_at dksX4_set_2 8 rfl rfl)
theorem dX4_set_55 : decode cX4_set 55 = .ok (.iconst 2, 1) := dk_5 (dk_at dksX4_set_2 9 rfl rfl)
theorem dX4_set_56 : decode cX4_set 56 = .ok (.invokevirtual 103, 3) := dk_182 0 103 (dk_at dksX4_set_2 10 rfl rfl)
theorem dX4_set_59 : decode cX4_set 59 = .ok (.ireturn, 1) := dk_172 (dk_at dksX4_set_2 13 rfl rfl)
theorem dX4_set_60 : decode cX4_set 60 = .ok (.aload_n 0, 1) := dk_42 (dk_at dksX4_set_2 14 rfl rfl)
theorem dX4_set_61 : decode cX4_set 61 = .ok (.getfield 7, 3) := dk_180 0 7 (dk_at dksX4_set_2 15 rfl rfl)
theorem dX4_set_64 : decode cX4_set 64 = .ok (.iconst 0, 1) := dk_3 (dk_at dksX4_set_2 18 rfl rfl)
theorem dX4_set_65 : decode cX4_set 65 = .ok (.iload_n 1, 1) := dk_27 (dk_at dksX4_set_2 19 rfl rfl)
theorem dX4_set_66 : decode cX4_set 66 = .ok (.iadd, 1) := dk_96 (dk_at dksX4_set_2 20 rfl rfl)
theorem dX4_set_67 : decode cX4_set 67 = .ok (.iaload, 1) := dk_46 (dk_at dksX4_set_2 21 rfl rfl)
theorem dX4_set_68 : decode cX4_set 68 = .ok (.istore 4, 2) := dk_54 4 (dk_at dksX4_set_2 22 rfl rfl)
theorem dX4_set_70 : decode cX4_set 70 = .ok (.aload_n 0, 1) := dk_42 (dk_at dksX4_set_3 0 rfl rfl)
theorem dX4_set_71 : decode cX4_set 71 = .ok (.getfield 7, 3) := dk_180 0 7 (dk_at dksX4_set_3 1 rfl rfl)
theorem dX4_set_74 : decode cX4_set 74 = .ok (.iconst 0, 1) := dk_3 (dk_at dksX4_set_3 4 rfl rfl)
theorem dX4_set_75 : decode cX4_set 75 = .ok (.iload_n 1, 1) := dk_27 (dk_at dksX4_set_3 5 rfl rfl)
theorem dX4_set_76 : decode cX4_set 76 = .ok (.iadd, 1) := dk_96 (dk_at dksX4_set_3 6 rfl rfl)
theorem dX4_set_77 : decode cX4_set 77 = .ok (.iload_n 2, 1) := dk_28 (dk_at dksX4_set_3 7 rfl rfl)
theorem dX4_set_78 : decode cX4_set 78 = .ok (.iastore, 1) := dk_79 (dk_at dksX4_set_3 8 rfl rfl)
theorem dX4_set_79 : decode cX4_set 79 = .ok (.iload 4, 2) := dk_21 4 (dk_at dksX4_set_3 9 rfl rfl)
theorem dX4_set_81 : decode cX4_set 81 = .ok (.ireturn, 1) := dk_172 (dk_at dksX4_set_3 11 rfl rfl)
abbrev cX4_isParameter : ByteArray := prog_19_method_6_code
def yX4_isParameter : MethodName := ⟨RX4, "isParameter", "(I)Z"⟩
def dkwX4_isParameter_0 : List UInt8 := [27, 133, 9, 42, 180, 0, 107, 4, 100, 133, 184, 0, 99, 172]
abbrev dktX4_isParameter_0 : List UInt8 := dkwX4_isParameter_0 ++ []
theorem dksX4_isParameter_0 : cX4_isParameter.data.toList.drop 0 = dktX4_isParameter_0 := by decide +kernel
theorem dX4_isParameter_0 : decode cX4_isParameter 0 = .ok (.iload_n 1, 1) := dk_27 (dk_at dksX4_isParameter_0 0 rfl rfl)
theorem dX4_isParameter_1 : decode cX4_isParameter 1 = .ok (.i2l, 1) := dk_133 (dk_at dksX4_isParameter_0 1 rfl rfl)
theorem dX4_isParameter_2 : decode cX4_isParameter 2 = .ok (.lconst 0, 1) := dk_9 (dk_at dksX4_isParameter_0 2 rfl rfl)
theorem dX4_isParameter_3 : decode cX4_isParameter 3 = .ok (.aload_n 0, 1) := dk_42 (dk_at dksX4_isParameter_0 3 rfl rfl)
theorem dX4_isParameter_4 : decode cX4_isParameter 4 = .ok (.getfield 107, 3) := dk_180 0 107 (dk_at dksX4_isParameter_0 4 rfl rfl)
theorem dX4_isParameter_7 : decode cX4_isParameter 7 = .ok (.iconst 1, 1) := dk_4 (dk_at dksX4_isParameter_0 7 rfl rfl)
theorem dX4_isParameter_8 : decode cX4_isParameter 8 = .ok (.isub, 1) := dk_100 (dk_at dksX4_isParameter_0 8 rfl rfl)
theorem dX4_isParameter_9 : decode cX4_isParameter 9 = .ok (.i2l, 1) := dk_133 (dk_at dksX4_isParameter_0 9 rfl rfl)
theorem dX4_isParameter_10 : decode cX4_isParameter 10 = .ok (.invokestatic 99, 3) := dk_184 0 99 (dk_at dksX4_isParameter_0 10 rfl rfl)
theorem dX4_isParameter_13 : decode cX4_isParameter 13 = .ok (.ireturn, 1) := dk_172 (dk_at dksX4_isParameter_0 13 rfl rfl)
abbrev cX4_value : ByteArray := prog_19_method_8_code
def yX4_value : MethodName := ⟨RX4, "value", "(I)I"⟩
def dkwX4_value_1 : List UInt8 := [42, 4, 182, 0, 103, 172]
abbrev dktX4_value_1 : List UInt8 := dkwX4_value_1 ++ []
def dkwX4_value_0 : List UInt8 := [42, 3, 181, 0, 94, 42, 27, 182, 0, 110, 153, 0, 14, 42, 180, 0, 7, 3, 27, 96, 46, 167, 0, 8]
abbrev dktX4_value_0 : List UInt8 := dkwX4_value_0 ++ dktX4_value_1
theorem dksX4_value_0 : cX4_value.data.toList.drop 0 = dktX4_value_0 := by decide +kernel
theorem dksX4_value_1 : cX4_value.data.toList.drop 24 = dktX4_value_1 := dk_seg dksX4_value_0 24 rfl rfl
theorem dX4_value_0 : decode cX4_value 0 = .ok (.aload_n 0, 1) := dk_42 (dk_at dksX4_value_0 0 rfl rfl)
theorem dX4_value_1 : decode cX4_value 1 = .ok (.iconst 0, 1) := dk_3 (dk_at dksX4_value_0 1 rfl rfl)
theorem dX4_value_2 : decode cX4_value 2 = .ok (.putfield 94, 3) := dk_181 0 94 (dk_at dksX4_value_0 2 rfl rfl)
theorem dX4_value_5 : decode cX4_value 5 = .ok (.aload_n 0, 1) := dk_42 (dk_at dksX4_value_0 5 rfl rfl)
theorem dX4_value_6 : decode cX4_value 6 = .ok (.iload_n 1, 1) := dk_27 (dk_at dksX4_value_0 6 rfl rfl)
theorem dX4_value_7 : decode cX4_value 7 = .ok (.invokevirtual 110, 3) := dk_182 0 110 (dk_at dksX4_value_0 7 rfl rfl)
theorem dX4_value_10 : decode cX4_value 10 = .ok (.ifCond .eq 14, 3) := dk_153 0 14 (dk_at dksX4_value_0 10 rfl rfl)
theorem dX4_value_13 : decode cX4_value 13 = .ok (.aload_n 0, 1) := dk_42 (dk_at dksX4_value_0 13 rfl rfl)
theorem dX4_value_14 : decode cX4_value 14 = .ok (.getfield 7, 3) := dk_180 0 7 (dk_at dksX4_value_0 14 rfl rfl)
theorem dX4_value_17 : decode cX4_value 17 = .ok (.iconst 0, 1) := dk_3 (dk_at dksX4_value_0 17 rfl rfl)
theorem dX4_value_18 : decode cX4_value 18 = .ok (.iload_n 1, 1) := dk_27 (dk_at dksX4_value_0 18 rfl rfl)
theorem dX4_value_19 : decode cX4_value 19 = .ok (.iadd, 1) := dk_96 (dk_at dksX4_value_0 19 rfl rfl)
theorem dX4_value_20 : decode cX4_value 20 = .ok (.iaload, 1) := dk_46 (dk_at dksX4_value_0 20 rfl rfl)
theorem dX4_value_21 : decode cX4_value 21 = .ok (.goto 8, 3) := dk_167 0 8 (dk_at dksX4_value_0 21 rfl rfl)
theorem dX4_value_24 : decode cX4_value 24 = .ok (.aload_n 0, 1) := dk_42 (dk_at dksX4_value_1 0 rfl rfl)
theorem dX4_value_25 : decode cX4_value 25 = .ok (.iconst 1, 1) := dk_4 (dk_at dksX4_value_1 1 rfl rfl)
theorem dX4_value_26 : decode cX4_value 26 = .ok (.invokevirtual 103, 3) := dk_182 0 103 (dk_at dksX4_value_1 2 rfl rfl)
theorem dX4_value_29 : decode cX4_value 29 = .ok (.ireturn, 1) := dk_172 (dk_at dksX4_value_1 5 rfl rfl)
abbrev cX4_addClip : ByteArray := prog_19_method_9_code
def yX4_addClip : MethodName := ⟨RX4, "addClip", "(I)I"⟩
def dkwX4_addClip_2 : List UInt8 := [42, 89, 180, 0, 120, 4, 96, 181, 0, 120, 42, 180, 0, 120, 4, 100, 172]
abbrev dktX4_addClip_2 : List UInt8 := dkwX4_addClip_2 ++ []
def dkwX4_addClip_1 : List UInt8 := [180, 0, 120, 16, 12, 160, 0, 9, 42, 5, 182, 0, 103, 172, 42, 180, 0, 20, 42, 180, 0, 120, 27, 79]
abbrev dktX4_addClip_1 : List UInt8 := dkwX4_addClip_1 ++ dktX4_addClip_2
def dkwX4_addClip_0 : List UInt8 := [42, 3, 181, 0, 94, 27, 133, 10, 20, 0, 118, 184, 0, 99, 154, 0, 9, 42, 4, 182, 0, 103, 172, 42]
abbrev dktX4_addClip_0 : List UInt8 := dkwX4_addClip_0 ++ dktX4_addClip_1
theorem dksX4_addClip_0 : cX4_addClip.data.toList.drop 0 = dktX4_addClip_0 := by decide +kernel
theorem dksX4_addClip_1 : cX4_addClip.data.toList.drop 24 = dktX4_addClip_1 := dk_seg dksX4_addClip_0 24 rfl rfl
theorem dksX4_addClip_2 : cX4_addClip.data.toList.drop 48 = dktX4_addClip_2 := dk_seg dksX4_addClip_1 24 rfl rfl
theorem dX4_addClip_0 : decode cX4_addClip 0 = .ok (.aload_n 0, 1) := dk_42 (dk_at dksX4_addClip_0 0 rfl rfl)
theorem dX4_addClip_1 : decode cX4_addClip 1 = .ok (.iconst 0, 1) := dk_3 (dk_at dksX4_addClip_0 1 rfl rfl)
theorem dX4_addClip_2 : decode cX4_addClip 2 = .ok (.putfield 94, 3) := dk_181 0 94 (dk_at dksX4_addClip_0 2 rfl rfl)
theorem dX4_addClip_5 : decode cX4_addClip 5 = .ok (.iload_n 1, 1) := dk_27 (dk_at dksX4_addClip_0 5 rfl rfl)
theorem dX4_addClip_6 : decode cX4_addClip 6 = .ok (.i2l, 1) := dk_133 (dk_at dksX4_addClip_0 6 rfl rfl)
theorem dX4_addClip_7 : decode cX4_addClip 7 = .ok (.lconst 1, 1) := dk_10 (dk_at dksX4_addClip_0 7 rfl rfl)
theorem dX4_addClip_8 : decode cX4_addClip 8 = .ok (.ldc2_w 118, 3) := dk_20 0 118 (dk_at dksX4_addClip_0 8 rfl rfl)
theorem dX4_addClip_11 : decode cX4_addClip 11 = .ok (.invokestatic 99, 3) := dk_184 0 99 (dk_at dksX4_addClip_0 11 rfl rfl)
theorem dX4_addClip_14 : decode cX4_addClip 14 = .ok (.ifCond .ne 9, 3) := dk_154 0 9 (dk_at dksX4_addClip_0 14 rfl rfl)
theorem dX4_addClip_17 : decode cX4_addClip 17 = .ok (.aload_n 0, 1) := dk_42 (dk_at dksX4_addClip_0 17 rfl rfl)
theorem dX4_addClip_18 : decode cX4_addClip 18 = .ok (.iconst 1, 1) := dk_4 (dk_at dksX4_addClip_0 18 rfl rfl)
theorem dX4_addClip_19 : decode cX4_addClip 19 = .ok (.invokevirtual 103, 3) := dk_182 0 103 (dk_at dksX4_addClip_0 19 rfl rfl)
theorem dX4_addClip_22 : decode cX4_addClip 22 = .ok (.ireturn, 1) := dk_172 (dk_at dksX4_addClip_0 22 rfl rfl)
theorem dX4_addClip_23 : decode cX4_addClip 23 = .ok (.aload_n 0, 1) := dk_42 (dk_at dksX4_addClip_0 23 rfl rfl)
theorem dX4_addClip_24 : decode cX4_addClip 24 = .ok (.getfield 120, 3) := dk_180 0 120 (dk_at dksX4_addClip_1 0 rfl rfl)
theorem dX4_addClip_27 : decode cX4_addClip 27 = .ok (.bipush 12, 2) := dk_16 12 (dk_at dksX4_addClip_1 3 rfl rfl)
theorem dX4_addClip_29 : decode cX4_addClip 29 = .ok (.if_icmp .ne 9, 3) := dk_160 0 9 (dk_at dksX4_addClip_1 5 rfl rfl)
theorem dX4_addClip_32 : decode cX4_addClip 32 = .ok (.aload_n 0, 1) := dk_42 (dk_at dksX4_addClip_1 8 rfl rfl)
theorem dX4_addClip_33 : decode cX4_addClip 33 = .ok (.iconst 2, 1) := dk_5 (dk_at dksX4_addClip_1 9 rfl rfl)
theorem dX4_addClip_34 : decode cX4_addClip 34 = .ok (.invokevirtual 103, 3) := dk_182 0 103 (dk_at dksX4_addClip_1 10 rfl rfl)
theorem dX4_addClip_37 : decode cX4_addClip 37 = .ok (.ireturn, 1) := dk_172 (dk_at dksX4_addClip_1 13 rfl rfl)
theorem dX4_addClip_38 : decode cX4_addClip 38 = .ok (.aload_n 0, 1) := dk_42 (dk_at dksX4_addClip_1 14 rfl rfl)
theorem dX4_addClip_39 : decode cX4_addClip 39 = .ok (.getfield 20, 3) := dk_180 0 20 (dk_at dksX4_addClip_1 15 rfl rfl)
theorem dX4_addClip_42 : decode cX4_addClip 42 = .ok (.aload_n 0, 1) := dk_42 (dk_at dksX4_addClip_1 18 rfl rfl)
theorem dX4_addClip_43 : decode cX4_addClip 43 = .ok (.getfield 120, 3) := dk_180 0 120 (dk_at dksX4_addClip_1 19 rfl rfl)
theorem dX4_addClip_46 : decode cX4_addClip 46 = .ok (.iload_n 1, 1) := dk_27 (dk_at dksX4_addClip_1 22 rfl rfl)
theorem dX4_addClip_47 : decode cX4_addClip 47 = .ok (.iastore, 1) := dk_79 (dk_at dksX4_addClip_1 23 rfl rfl)
theorem dX4_addClip_48 : decode cX4_addClip 48 = .ok (.aload_n 0, 1) := dk_42 (dk_at dksX4_addClip_2 0 rfl rfl)
theorem dX4_addClip_49 : decode cX4_addClip 49 = .ok (.dup, 1) := dk_89 (dk_at dksX4_addClip_2 1 rfl rfl)
theorem dX4_addClip_50 : decode cX4_addClip 50 = .ok (.getfield 120, 3) := dk_180 0 120 (dk_at dksX4_addClip_2 2 rfl rfl)
theorem dX4_addClip_53 : decode cX4_addClip 53 = .ok (.iconst 1, 1) := dk_4 (dk_at dksX4_addClip_2 5 rfl rfl)
theorem dX4_addClip_54 : decode cX4_addClip 54 = .ok (.iadd, 1) := dk_96 (dk_at dksX4_addClip_2 6 rfl rfl)
theorem dX4_addClip_55 : decode cX4_addClip 55 = .ok (.putfield 120, 3) := dk_181 0 120 (dk_at dksX4_addClip_2 7 rfl rfl)
theorem dX4_addClip_58 : decode cX4_addClip 58 = .ok (.aload_n 0, 1) := dk_42 (dk_at dksX4_addClip_2 10 rfl rfl)
theorem dX4_addClip_59 : decode cX4_addClip 59 = .ok (.getfield 120, 3) := dk_180 0 120 (dk_at dksX4_addClip_2 11 rfl rfl)
theorem dX4_addClip_62 : decode cX4_addClip 62 = .ok (.iconst 1, 1) := dk_4 (dk_at dksX4_addClip_2 14 rfl rfl)
theorem dX4_addClip_63 : decode cX4_addClip 63 = .ok (.isub, 1) := dk_100 (dk_at dksX4_addClip_2 15 rfl rfl)
theorem dX4_addClip_64 : decode cX4_addClip 64 = .ok (.ireturn, 1) := dk_172 (dk_at dksX4_addClip_2 16 rfl rfl)
abbrev cX4_addEvent : ByteArray := prog_19_method_11_code
def yX4_addEvent : MethodName := ⟨RX4, "addEvent", "(III)I"⟩
def dkwX4_addEvent_7 : List UInt8 := [92, 46, 4, 96, 79, 42, 180, 0, 23, 27, 46, 172]
abbrev dktX4_addEvent_7 : List UInt8 := dkwX4_addEvent_7 ++ []
def dkwX4_addEvent_6 : List UInt8 := [167, 255, 200, 42, 180, 0, 26, 21, 4, 28, 79, 42, 180, 0, 29, 21, 4, 29, 79, 42, 180, 0, 23, 27]
abbrev dktX4_addEvent_6 : List UInt8 := dkwX4_addEvent_6 ++ dktX4_addEvent_7
def dkwX4_addEvent_5 : List UInt8 := [4, 100, 46, 79, 42, 180, 0, 29, 21, 4, 42, 180, 0, 29, 21, 4, 4, 100, 46, 79, 132, 4, 255]
abbrev dktX4_addEvent_5 : List UInt8 := dkwX4_addEvent_5 ++ dktX4_addEvent_6
def dkwX4_addEvent_4 : List UInt8 := [180, 0, 26, 21, 4, 4, 100, 46, 28, 164, 0, 41, 42, 180, 0, 26, 21, 4, 42, 180, 0, 26, 21, 4]
abbrev dktX4_addEvent_4 : List UInt8 := dkwX4_addEvent_4 ++ dktX4_addEvent_5
def dkwX4_addEvent_3 : List UInt8 := [172, 8, 27, 104, 42, 180, 0, 23, 27, 46, 96, 54, 4, 21, 4, 8, 27, 104, 164, 0, 54, 42]
abbrev dktX4_addEvent_3 : List UInt8 := dkwX4_addEvent_3 ++ dktX4_addEvent_4
def dkwX4_addEvent_2 : List UInt8 := [154, 0, 9, 42, 5, 182, 0, 103, 172, 42, 180, 0, 23, 27, 46, 8, 160, 0, 9, 42, 6, 182, 0, 103]
abbrev dktX4_addEvent_2 : List UInt8 := dkwX4_addEvent_2 ++ dktX4_addEvent_3
def dkwX4_addEvent_1 : List UInt8 := [180, 0, 20, 27, 46, 4, 100, 133, 184, 0, 99, 153, 0, 15, 29, 133, 9, 20, 0, 126, 184, 0, 99]
abbrev dktX4_addEvent_1 : List UInt8 := dkwX4_addEvent_1 ++ dktX4_addEvent_2
def dkwX4_addEvent_0 : List UInt8 := [42, 3, 181, 0, 94, 42, 27, 182, 0, 123, 154, 0, 9, 42, 4, 182, 0, 103, 172, 28, 133, 9, 42]
abbrev dktX4_addEvent_0 : List UInt8 := dkwX4_addEvent_0 ++ dktX4_addEvent_1
theorem dksX4_addEvent_0 : cX4_addEvent.data.toList.drop 0 = dktX4_addEvent_0 := by decide +kernel
theorem dksX4_addEvent_1 : cX4_addEvent.data.toList.drop 23 = dktX4_addEvent_1 := dk_seg dksX4_addEvent_0 23 rfl rfl
theorem dksX4_addEvent_2 : cX4_addEvent.data.toList.drop 46 = dktX4_addEvent_2 := dk_seg dksX4_addEvent_1 23 rfl rfl
theorem dksX4_addEvent_3 : cX4_addEvent.data.toList.drop 70 = dktX4_addEvent_3 := dk_seg dksX4_addEvent_2 24 rfl rfl
theorem dksX4_addEvent_4 : cX4_addEvent.data.toList.drop 92 = dktX4_addEvent_4 := dk_seg dksX4_addEvent_3 22 rfl rfl
theorem dksX4_addEvent_5 : cX4_addEvent.data.toList.drop 116 = dktX4_addEvent_5 := dk_seg dksX4_addEvent_4 24 rfl rfl
theorem dksX4_addEvent_6 : cX4_addEvent.data.toList.drop 139 = dktX4_addEvent_6 := dk_seg dksX4_addEvent_5 23 rfl rfl
theorem dksX4_addEvent_7 : cX4_addEvent.data.toList.drop 163 = dktX4_addEvent_7 := dk_seg dksX4_addEvent_6 24 rfl rfl
theorem dX4_addEvent_0 : decode cX4_addEvent 0 = .ok (.aload_n 0, 1) := dk_42 (dk_at dksX4_addEvent_0 0 rfl rfl)
theorem dX4_addEvent_1 : decode cX4_addEvent 1 = .ok (.iconst 0, 1) := dk_3 (dk_at dksX4_addEvent_0 1 rfl rfl)
theorem dX4_addEvent_2 : decode cX4_addEvent 2 = .ok (.putfield 94, 3) := dk_181 0 94 (dk_at dksX4_addEvent_0 2 rfl rfl)
theorem dX4_addEvent_5 : decode cX4_addEvent 5 = .ok (.aload_n 0, 1) := dk_42 (dk_at dksX4_addEvent_0 5 rfl rfl)
theorem dX4_addEvent_6 : decode cX4_addEvent 6 = .ok (.iload_n 1, 1) := dk_27 (dk_at dksX4_addEvent_0 6 rfl rfl)
theorem dX4_addEvent_7 : decode cX4_addEvent 7 = .ok (.invokevirtual 123, 3) := dk_182 0 123 (dk_at dksX4_addEvent_0 7 rfl rfl)
theorem dX4_addEvent_10 : decode cX4_addEvent 10 = .ok (.ifCond .ne 9, 3) := dk_154 0 9 (dk_at dksX4_addEvent_0 10 rfl rfl)
theorem dX4_addEvent_13 : decode cX4_addEvent 13 = .ok (.aload_n 0, 1) := dk_42 (dk_at dksX4_addEvent_0 13 rfl rfl)
theorem dX4_addEvent_14 : decode cX4_addEvent 14 = .ok (.iconst 1, 1) := dk_4 (dk_at dksX4_addEvent_0 14 rfl rfl)
theorem dX4_addEvent_15 : decode cX4_addEvent 15 = .ok (.invokevirtual 103, 3) := dk_182 0 103 (dk_at dksX4_addEvent_0 15 rfl rfl)
theorem dX4_addEvent_18 : decode cX4_addEvent 18 = .ok (.ireturn, 1) := dk_172 (dk_at dksX4_addEvent_0 18 rfl rfl)
theorem dX4_addEvent_19 : decode cX4_addEvent 19 = .ok (.iload_n 2, 1) := dk_28 (dk_at dksX4_addEvent_0 19 rfl rfl)
theorem dX4_addEvent_20 : decode cX4_addEvent 20 = .ok (.i2l, 1) := dk_133 (dk_at dksX4_addEvent_0 20 rfl rfl)
theorem dX4_addEvent_21 : decode cX4_addEvent 21 = .ok (.lconst 0, 1) := dk_9 (dk_at dksX4_addEvent_0 21 rfl rfl)
theorem dX4_addEvent_22 : decode cX4_addEvent 22 = .ok (.aload_n 0, 1) := dk_42 (dk_at dksX4_addEvent_0 22 rfl rfl)
theorem dX4_addEvent_23 : decode cX4_addEvent 23 = .ok (.getfield 20, 3) := dk_180 0 20 (dk_at dksX4_addEvent_1 0 rfl rfl)
theorem dX4_addEvent_26 : decode cX4_addEvent 26 = .ok (.iload_n 1, 1) := dk_27 (dk_at dksX4_addEvent_1 3 rfl rfl)
theorem dX4_addEvent_27 : decode cX4_addEvent 27 = .ok (.iaload, 1) := dk_46 (dk_at dksX4_addEvent_1 4 rfl rfl)
theorem dX4_addEvent_28 : decode cX4_addEvent 28 = .ok (.iconst 1, 1) := dk_4 (dk_at dksX4_addEvent_1 5 rfl rfl)
theorem dX4_addEvent_29 : decode cX4_addEvent 29 = .ok (.isub, 1) := dk_100 (dk_at dksX4_addEvent_1 6 rfl rfl)
theorem dX4_addEvent_30 : decode cX4_addEvent 30 = .ok (.i2l, 1) := dk_133 (dk_at dksX4_addEvent_1 7 rfl rfl)
theorem dX4_addEvent_31 : decode cX4_addEvent 31 = .ok (.invokestatic 99, 3) := dk_184 0 99 (dk_at dksX4_addEvent_1 8 rfl rfl)
theorem dX4_addEvent_34 : decode cX4_addEvent 34 = .ok (.ifCond .eq 15, 3) := dk_153 0 15 (dk_at dksX4_addEvent_1 11 rfl rfl)
theorem dX4_addEvent_37 : decode cX4_addEvent 37 = .ok (.iload_n 3, 1) := dk_29 (dk_at dksX4_addEvent_1 14 rfl rfl)
theorem dX4_addEvent_38 : decode cX4_addEvent 38 = .ok (.i2l, 1) := dk_133 (dk_at dksX4_addEvent_1 15 rfl rfl)
theorem dX4_addEvent_39 : decode cX4_addEvent 39 = .ok (.lconst 0, 1) := dk_9 (dk_at dksX4_addEvent_1 16 rfl rfl)
theorem dX4_addEvent_40 : decode cX4_addEvent 40 = .ok (.ldc2_w 126, 3) := dk_20 0 126 (dk_at dksX4_addEvent_1 17 rfl rfl)
theorem dX4_addEvent_43 : decode cX4_addEvent 43 = .ok (.invokestatic 99, 3) := dk_184 0 99 (dk_at dksX4_addEvent_1 20 rfl rfl)
theorem dX4_addEvent_46 : decode cX4_addEvent 46 = .ok (.ifCond .ne 9, 3) := dk_154 0 9 (dk_at dksX4_addEvent_2 0 rfl rfl)
theorem dX4_addEvent_49 : decode cX4_addEvent 49 = .ok (.aload_n 0, 1) := dk_42 (dk_at dksX4_addEvent_2 3 rfl rfl)
theorem dX4_addEvent_50 : decode cX4_addEvent 50 = .ok (.iconst 2, 1) := dk_5 (dk_at dksX4_addEvent_2 4 rfl rfl)
theorem dX4_addEvent_51 : decode cX4_addEvent 51 = .ok (.invokevirtual 103, 3) := dk_182 0 103 (dk_at dksX4_addEvent_2 5 rfl rfl)
theorem dX4_addEvent_54 : decode cX4_addEvent 54 = .ok (.ireturn, 1) := dk_172 (dk_at dksX4_addEvent_2 8 rfl rfl)
theorem dX4_addEvent_55 : decode cX4_addEvent 55 = .ok (.aload_n 0, 1) := dk_42 (dk_at dksX4_addEvent_2 9 rfl rfl)
theorem dX4_addEvent_56 : decode cX4_addEvent 56 = .ok (.getfield 23, 3) := dk_180 0 23 (dk_at dksX4_addEvent_2 10 rfl rfl)
theorem dX4_addEvent_59 : decode cX4_addEvent 59 = .ok (.iload_n 1, 1) := dk_27 (dk_at dksX4_addEvent_2 13 rfl rfl)
theorem dX4_addEvent_60 : decode cX4_addEvent 60 = .ok (.iaload, 1) := dk_46 (dk_at dksX4_addEvent_2 14 rfl rfl)
theorem dX4_addEvent_61 : decode cX4_addEvent 61 = .ok (.iconst 5, 1) := dk_8 (dk_at dksX4_addEvent_2 15 rfl rfl)
theorem dX4_addEvent_62 : decode cX4_addEvent 62 = .ok (.if_icmp .ne 9, 3) := dk_160 0 9 (dk_at dksX4_addEvent_2 16 rfl rfl)
theorem dX4_addEvent_65 : decode cX4_addEvent 65 = .ok (.aload_n 0, 1) := dk_42 (dk_at dksX4_addEvent_2 19 rfl rfl)
theorem dX4_addEvent_66 : decode cX4_addEvent 66 = .ok (.iconst 3, 1) := dk_6 (dk_at dksX4_addEvent_2 20 rfl rfl)
theorem dX4_addEvent_67 : decode cX4_addEvent 67 = .ok (.invokevirtual 103, 3) := dk_182 0 103 (dk_at dksX4_addEvent_2 21 rfl rfl)
theorem dX4_addEvent_70 : decode cX4_addEvent 70 = .ok (.ireturn, 1) := dk_172 (dk_at dksX4_addEvent_3 0 rfl rfl)
theorem dX4_addEvent_71 : decode cX4_addEvent 71 = .ok (.iconst 5, 1) := dk_8 (dk_at dksX4_addEvent_3 1 rfl rfl)
theorem dX4_addEvent_72 : decode cX4_addEvent 72 = .ok (.iload_n 1, 1) := dk_27 (dk_at dksX4_addEvent_3 2 rfl rfl)
theorem dX4_addEvent_73 : decode cX4_addEvent 73 = .ok (.imul, 1) := dk_104 (dk_at dksX4_addEvent_3 3 rfl rfl)
theorem dX4_addEvent_74 : decode cX4_addEvent 74 = .ok (.aload_n 0, 1) := dk_42 (dk_at dksX4_addEvent_3 4 rfl rfl)
theorem dX4_addEvent_75 : decode cX4_addEvent 75 = .ok (.getfield 23, 3) := dk_180 0 23 (dk_at dksX4_addEvent_3 5 rfl rfl)
theorem dX4_addEvent_78 : decode cX4_addEvent 78 = .ok (.iload_n 1, 1) := dk_27 (dk_at dksX4_addEvent_3 8 rfl rfl)
theorem dX4_addEvent_79 : decode cX4_addEvent 79 = .ok (.iaload, 1) := dk_46 (dk_at dksX4_addEvent_3 9 rfl rfl)
theorem dX4_addEvent_80 : decode cX4_addEvent 80 = .ok (.iadd, 1) := dk_96 (dk_at dksX4_addEvent_3 10 rfl rfl)
theorem dX4_addEvent_81 : decode cX4_addEvent 81 = .ok (.istore 4, 2) := dk_54 4 (dk_at dksX4_addEvent_3 11 rfl rfl)
theorem dX4_addEvent_83 : decode cX4_addEvent 83 = .ok (.iload 4, 2) := dk_21 4 (dk_at dksX4_addEvent_3 13 rfl rfl)
theorem dX4_addEvent_85 : decode cX4_addEvent 85 = .ok (.iconst 5, 1) := dk_8 (dk_at dksX4_addEvent_3 15 rfl rfl)
theorem dX4_addEvent_86 : decode cX4_addEvent 86 = .ok (.iload_n 1, 1) := dk_27 (dk_at dksX4_addEvent_3 16 rfl rfl)
theorem dX4_addEvent_87 : decode cX4_addEvent 87 = .ok (.imul, 1) := dk_104 (dk_at dksX4_addEvent_3 17 rfl rfl)
theorem dX4_addEvent_88 : decode cX4_addEvent 88 = .ok (.if_icmp .le 54, 3) := dk_164 0 54 (dk_at dksX4_addEvent_3 18 rfl rfl)
theorem dX4_addEvent_91 : decode cX4_addEvent 91 = .ok (.aload_n 0, 1) := dk_42 (dk_at dksX4_addEvent_3 21 rfl rfl)
theorem dX4_addEvent_92 : decode cX4_addEvent 92 = .ok (.getfield 26, 3) := dk_180 0 26 (dk_at dksX4_addEvent_4 0 rfl rfl)
theorem dX4_addEvent_95 : decode cX4_addEvent 95 = .ok (.iload 4, 2) := dk_21 4 (dk_at dksX4_addEvent_4 3 rfl rfl)
theorem dX4_addEvent_97 : decode cX4_addEvent 97 = .ok (.iconst 1, 1) := dk_4 (dk_at dksX4_addEvent_4 5 rfl rfl)
theorem dX4_addEvent_98 : decode cX4_addEvent 98 = .ok (.isub, 1) := dk_100 (dk_at dksX4_addEvent_4 6 rfl rfl)
theorem dX4_addEvent_99 : decode cX4_addEvent 99 = .ok (.iaload, 1) := dk_46 (dk_at dksX4_addEvent_4 7 rfl rfl)
theorem dX4_addEvent_100 : decode cX4_addEvent 100 = .ok (.iload_n 2, 1) := dk_28 (dk_at dksX4_addEvent_4 8 rfl rfl)
theorem dX4_addEvent_101 : decode cX4_addEvent 101 = .ok (.if_icmp .le 41, 3) := dk_164 0 41 (dk_at dksX4_addEvent_4 9 rfl rfl)
theorem dX4_addEvent_104 : decode cX4_addEvent 104 = .ok (.aload_n 0, 1) := dk_42 (dk_at dksX4_addEvent_4 12 rfl rfl)
theorem dX4_addEvent_105 : decode cX4_addEvent 105 = .ok (.getfield 26, 3) := dk_180 0 26 (dk_at dksX4_addEvent_4 13 rfl rfl)
theorem dX4_addEvent_108 : decode cX4_addEvent 108 = .ok (.iload 4, 2) := dk_21 4 (dk_at dksX4_addEvent_4 16 rfl rfl)
theorem dX4_addEvent_110 : decode cX4_addEvent 110 = .ok (.aload_n 0, 1) := dk_42 (dk_at dksX4_addEvent_4 18 rfl rfl)
theorem dX4_addEvent_111 : decode cX4_addEvent 111 = .ok (.getfield 26, 3) := dk_180 0 26 (dk_at dksX4_addEvent_4 19 rfl rfl)
theorem dX4_addEvent_114 : decode cX4_addEvent 114 = .ok (.iload 4, 2) := dk_21 4 (dk_at dksX4_addEvent_4 22 rfl rfl)
theorem dX4_addEvent_116 : decode cX4_addEvent 116 = .ok (.iconst 1, 1) := dk_4 (dk_at dksX4_addEvent_5 0 rfl rfl)
theorem dX4_addEvent_117 : decode cX4_addEvent 117 = .ok (.isub, 1) := dk_100 (dk_at dksX4_addEvent_5 1 rfl rfl)
theorem dX4_addEvent_118 : decode cX4_addEvent 118 = .ok (.iaload, 1) := dk_46 (dk_at dksX4_addEvent_5 2 rfl rfl)
theorem dX4_addEvent_119 : decode cX4_addEvent 119 = .ok (.iastore, 1) := dk_79 (dk_at dksX4_addEvent_5 3 rfl rfl)
theorem dX4_addEvent_120 : decode cX4_addEvent 120 = .ok (.aload_n 0, 1) := dk_42 (dk_at dksX4_addEvent_5 4 rfl rfl)
theorem dX4_addEvent_121 : decode cX4_addEvent 121 = .ok (.getfield 29, 3) := dk_180 0 29 (dk_at dksX4_addEvent_5 5 rfl rfl)
theorem dX4_addEvent_124 : decode cX4_addEvent 124 = .ok (.iload 4, 2) := dk_21 4 (dk_at dksX4_addEvent_5 8 rfl rfl)
theorem dX4_addEvent_126 : decode cX4_addEvent 126 = .ok (.aload_n 0, 1) := dk_42 (dk_at dksX4_addEvent_5 10 rfl rfl)
theorem dX4_addEvent_127 : decode cX4_addEvent 127 = .ok (.getfield 29, 3) := dk_180 0 29 (dk_at dksX4_addEvent_5 11 rfl rfl)
theorem dX4_addEvent_130 : decode cX4_addEvent 130 = .ok (.iload 4, 2) := dk_21 4 (dk_at dksX4_addEvent_5 14 rfl rfl)
theorem dX4_addEvent_132 : decode cX4_addEvent 132 = .ok (.iconst 1, 1) := dk_4 (dk_at dksX4_addEvent_5 16 rfl rfl)
theorem dX4_addEvent_133 : decode cX4_addEvent 133 = .ok (.isub, 1) := dk_100 (dk_at dksX4_addEvent_5 17 rfl rfl)
theorem dX4_addEvent_134 : decode cX4_addEvent 134 = .ok (.iaload, 1) := dk_46 (dk_at dksX4_addEvent_5 18 rfl rfl)
theorem dX4_addEvent_135 : decode cX4_addEvent 135 = .ok (.iastore, 1) := dk_79 (dk_at dksX4_addEvent_5 19 rfl rfl)
theorem dX4_addEvent_136 : decode cX4_addEvent 136 = .ok (.iinc 4 (-1), 3) := dk_132 4 255 (dk_at dksX4_addEvent_5 20 rfl rfl)
theorem dX4_addEvent_139 : decode cX4_addEvent 139 = .ok (.goto (-56), 3) := dk_167 255 200 (dk_at dksX4_addEvent_6 0 rfl rfl)
theorem dX4_addEvent_142 : decode cX4_addEvent 142 = .ok (.aload_n 0, 1) := dk_42 (dk_at dksX4_addEvent_6 3 rfl rfl)
theorem dX4_addEvent_143 : decode cX4_addEvent 143 = .ok (.getfield 26, 3) := dk_180 0 26 (dk_at dksX4_addEvent_6 4 rfl rfl)
theorem dX4_addEvent_146 : decode cX4_addEvent 146 = .ok (.iload 4, 2) := dk_21 4 (dk_at dksX4_addEvent_6 7 rfl rfl)
theorem dX4_addEvent_148 : decode cX4_addEvent 148 = .ok (.iload_n 2, 1) := dk_28 (dk_at dksX4_addEvent_6 9 rfl rfl)
theorem dX4_addEvent_149 : decode cX4_addEvent 149 = .ok (.iastore, 1) := dk_79 (dk_at dksX4_addEvent_6 10 rfl rfl)
theorem dX4_addEvent_150 : decode cX4_addEvent 150 = .ok (.aload_n 0, 1) := dk_42 (dk_at dksX4_addEvent_6 11 rfl rfl)
theorem dX4_addEvent_151 : decode cX4_addEvent 151 = .ok (.getfield 29, 3) := dk_180 0 29 (dk_at dksX4_addEvent_6 12 rfl rfl)
theorem dX4_addEvent_154 : decode cX4_addEvent 154 = .ok (.iload 4, 2) := dk_21 4 (dk_at dksX4_addEvent_6 15 rfl rfl)
theorem dX4_addEvent_156 : decode cX4_addEvent 156 = .ok (.iload_n 3, 1) := dk_29 (dk_at dksX4_addEvent_6 17 rfl rfl)
theorem dX4_addEvent_157 : decode cX4_addEvent 157 = .ok (.iastore, 1) := dk_79 (dk_at dksX4_addEvent_6 18 rfl rfl)
theorem dX4_addEvent_158 : decode cX4_addEvent 158 = .ok (.aload_n 0, 1) := dk_42 (dk_at dksX4_addEvent_6 19 rfl rfl)
theorem dX4_addEvent_159 : decode cX4_addEvent 159 = .ok (.getfield 23, 3) := dk_180 0 23 (dk_at dksX4_addEvent_6 20 rfl rfl)
theorem dX4_addEvent_162 : decode cX4_addEvent 162 = .ok (.iload_n 1, 1) := dk_27 (dk_at dksX4_addEvent_6 23 rfl rfl)
theorem dX4_addEvent_163 : decode cX4_addEvent 163 = .ok (.dup2, 1) := dk_92 (dk_at dksX4_addEvent_7 0 rfl rfl)
theorem dX4_addEvent_164 : decode cX4_addEvent 164 = .ok (.iaload, 1) := dk_46 (dk_at dksX4_addEvent_7 1 rfl rfl)
theorem dX4_addEvent_165 : decode cX4_addEvent 165 = .ok (.iconst 1, 1) := dk_4 (dk_at dksX4_addEvent_7 2 rfl rfl)
theorem dX4_addEvent_166 : decode cX4_addEvent 166 = .ok (.iadd, 1) := dk_96 (dk_at dksX4_addEvent_7 3 rfl rfl)
theorem dX4_addEvent_167 : decode cX4_addEvent 167 = .ok (.iastore, 1) := dk_79 (dk_at dksX4_addEvent_7 4 rfl rfl)
theorem dX4_addEvent_168 : decode cX4_addEvent 168 = .ok (.aload_n 0, 1) := dk_42 (dk_at dksX4_addEvent_7 5 rfl rfl)
theorem dX4_addEvent_169 : decode cX4_addEvent 169 = .ok (.getfield 23, 3) := dk_180 0 23 (dk_at dksX4_addEvent_7 6 rfl rfl)
theorem dX4_addEvent_172 : decode cX4_addEvent 172 = .ok (.iload_n 1, 1) := dk_27 (dk_at dksX4_addEvent_7 9 rfl rfl)
theorem dX4_addEvent_173 : decode cX4_addEvent 173 = .ok (.iaload, 1) := dk_46 (dk_at dksX4_addEvent_7 10 rfl rfl)
theorem dX4_addEvent_174 : decode cX4_addEvent 174 = .ok (.ireturn, 1) := dk_172 (dk_at dksX4_addEvent_7 11 rfl rfl)
abbrev cX4_isClip : ByteArray := prog_19_method_10_code
def yX4_isClip : MethodName := ⟨RX4, "isClip", "(I)Z"⟩
def dkwX4_isClip_0 : List UInt8 := [27, 133, 9, 42, 180, 0, 120, 4, 100, 133, 184, 0, 99, 172]
abbrev dktX4_isClip_0 : List UInt8 := dkwX4_isClip_0 ++ []
theorem dksX4_isClip_0 : cX4_isClip.data.toList.drop 0 = dktX4_isClip_0 := by decide +kernel
theorem dX4_isClip_0 : decode cX4_isClip 0 = .ok (.iload_n 1, 1) := dk_27 (dk_at dksX4_isClip_0 0 rfl rfl)
theorem dX4_isClip_1 : decode cX4_isClip 1 = .ok (.i2l, 1) := dk_133 (dk_at dksX4_isClip_0 1 rfl rfl)
theorem dX4_isClip_2 : decode cX4_isClip 2 = .ok (.lconst 0, 1) := dk_9 (dk_at dksX4_isClip_0 2 rfl rfl)
theorem dX4_isClip_3 : decode cX4_isClip 3 = .ok (.aload_n 0, 1) := dk_42 (dk_at dksX4_isClip_0 3 rfl rfl)
theorem dX4_isClip_4 : decode cX4_isClip 4 = .ok (.getfield 120, 3) := dk_180 0 120 (dk_at dksX4_isClip_0 4 rfl rfl)
theorem dX4_isClip_7 : decode cX4_isClip 7 = .ok (.iconst 1, 1) := dk_4 (dk_at dksX4_isClip_0 7 rfl rfl)
theorem dX4_isClip_8 : decode cX4_isClip 8 = .ok (.isub, 1) := dk_100 (dk_at dksX4_isClip_0 8 rfl rfl)
theorem dX4_isClip_9 : decode cX4_isClip 9 = .ok (.i2l, 1) := dk_133 (dk_at dksX4_isClip_0 9 rfl rfl)
theorem dX4_isClip_10 : decode cX4_isClip 10 = .ok (.invokestatic 99, 3) := dk_184 0 99 (dk_at dksX4_isClip_0 10 rfl rfl)
theorem dX4_isClip_13 : decode cX4_isClip 13 = .ok (.ireturn, 1) := dk_172 (dk_at dksX4_isClip_0 13 rfl rfl)
abbrev cX4_addClipNode : ByteArray := prog_19_method_12_code
def yX4_addClipNode : MethodName := ⟨RX4, "addClipNode", "(I)I"⟩
def dkwX4_addClipNode_2 : List UInt8 := [180, 0, 128, 4, 96, 181, 0, 128, 42, 180, 0, 128, 4, 100, 172]
abbrev dktX4_addClipNode_2 : List UInt8 := dkwX4_addClipNode_2 ++ []
def dkwX4_addClipNode_1 : List UInt8 := [16, 20, 160, 0, 9, 42, 5, 182, 0, 103, 172, 42, 180, 0, 32, 42, 180, 0, 128, 27, 79, 42, 89]
abbrev dktX4_addClipNode_1 : List UInt8 := dkwX4_addClipNode_1 ++ dktX4_addClipNode_2
def dkwX4_addClipNode_0 : List UInt8 := [42, 3, 181, 0, 94, 42, 27, 182, 0, 123, 154, 0, 9, 42, 4, 182, 0, 103, 172, 42, 180, 0, 128]
abbrev dktX4_addClipNode_0 : List UInt8 := dkwX4_addClipNode_0 ++ dktX4_addClipNode_1
theorem dksX4_addClipNode_0 : cX4_addClipNode.data.toList.drop 0 = dktX4_addClipNode_0 := by decide +kernel
theorem dksX4_addClipNode_1 : cX4_addClipNode.data.toList.drop 23 = dktX4_addClipNode_1 := dk_seg dksX4_addClipNode_0 23 rfl rfl
theorem dksX4_addClipNode_2 : cX4_addClipNode.data.toList.drop 46 = dktX4_addClipNode_2 := dk_seg dksX4_addClipNode_1 23 rfl rfl
theorem dX4_addClipNode_0 : decode cX4_addClipNode 0 = .ok (.aload_n 0, 1) := dk_42 (dk_at dksX4_addClipNode_0 0 rfl rfl)
theorem dX4_addClipNode_1 : decode cX4_addClipNode 1 = .ok (.iconst 0, 1) := dk_3 (dk_at dksX4_addClipNode_0 1 rfl rfl)
theorem dX4_addClipNode_2 : decode cX4_addClipNode 2 = .ok (.putfield 94, 3) := dk_181 0 94 (dk_at dksX4_addClipNode_0 2 rfl rfl)
theorem dX4_addClipNode_5 : decode cX4_addClipNode 5 = .ok (.aload_n 0, 1) := dk_42 (dk_at dksX4_addClipNode_0 5 rfl rfl)
theorem dX4_addClipNode_6 : decode cX4_addClipNode 6 = .ok (.iload_n 1, 1) := dk_27 (dk_at dksX4_addClipNode_0 6 rfl rfl)
theorem dX4_addClipNode_7 : decode cX4_addClipNode 7 = .ok (.invokevirtual 123, 3) := dk_182 0 123 (dk_at dksX4_addClipNode_0 7 rfl rfl)
theorem dX4_addClipNode_10 : decode cX4_addClipNode 10 = .ok (.ifCond .ne 9, 3) := dk_154 0 9 (dk_at dksX4_addClipNode_0 10 rfl rfl)
theorem dX4_addClipNode_13 : decode cX4_addClipNode 13 = .ok (.aload_n 0, 1) := dk_42 (dk_at dksX4_addClipNode_0 13 rfl rfl)
theorem dX4_addClipNode_14 : decode cX4_addClipNode 14 = .ok (.iconst 1, 1) := dk_4 (dk_at dksX4_addClipNode_0 14 rfl rfl)
theorem dX4_addClipNode_15 : decode cX4_addClipNode 15 = .ok (.invokevirtual 103, 3) := dk_182 0 103 (dk_at dksX4_addClipNode_0 15 rfl rfl)
theorem dX4_addClipNode_18 : decode cX4_addClipNode 18 = .ok (.ireturn, 1) := dk_172 (dk_at dksX4_addClipNode_0 18 rfl rfl)
theorem dX4_addClipNode_19 : decode cX4_addClipNode 19 = .ok (.aload_n 0, 1) := dk_42 (dk_at dksX4_addClipNode_0 19 rfl rfl)
theorem dX4_addClipNode_20 : decode cX4_addClipNode 20 = .ok (.getfield 128, 3) := dk_180 0 128 (dk_at dksX4_addClipNode_0 20 rfl rfl)
theorem dX4_addClipNode_23 : decode cX4_addClipNode 23 = .ok (.bipush 20, 2) := dk_16 20 (dk_at dksX4_addClipNode_1 0 rfl rfl)
theorem dX4_addClipNode_25 : decode cX4_addClipNode 25 = .ok (.if_icmp .ne 9, 3) := dk_160 0 9 (dk_at dksX4_addClipNode_1 2 rfl rfl)
theorem dX4_addClipNode_28 : decode cX4_addClipNode 28 = .ok (.aload_n 0, 1) := dk_42 (dk_at dksX4_addClipNode_1 5 rfl rfl)
theorem dX4_addClipNode_29 : decode cX4_addClipNode 29 = .ok (.iconst 2, 1) := dk_5 (dk_at dksX4_addClipNode_1 6 rfl rfl)
theorem dX4_addClipNode_30 : decode cX4_addClipNode 30 = .ok (.invokevirtual 103, 3) := dk_182 0 103 (dk_at dksX4_addClipNode_1 7 rfl rfl)
theorem dX4_addClipNode_33 : decode cX4_addClipNode 33 = .ok (.ireturn, 1) := dk_172 (dk_at dksX4_addClipNode_1 10 rfl rfl)
theorem dX4_addClipNode_34 : decode cX4_addClipNode 34 = .ok (.aload_n 0, 1) := dk_42 (dk_at dksX4_addClipNode_1 11 rfl rfl)
theorem dX4_addClipNode_35 : decode cX4_addClipNode 35 = .ok (.getfield 32, 3) := dk_180 0 32 (dk_at dksX4_addClipNode_1 12 rfl rfl)
theorem dX4_addClipNode_38 : decode cX4_addClipNode 38 = .ok (.aload_n 0, 1) := dk_42 (dk_at dksX4_addClipNode_1 15 rfl rfl)
theorem dX4_addClipNode_39 : decode cX4_addClipNode 39 = .ok (.getfield 128, 3) := dk_180 0 128 (dk_at dksX4_addClipNode_1 16 rfl rfl)
theorem dX4_addClipNode_42 : decode cX4_addClipNode 42 = .ok (.iload_n 1, 1) := dk_27 (dk_at dksX4_addClipNode_1 19 rfl rfl)
theorem dX4_addClipNode_43 : decode cX4_addClipNode 43 = .ok (.iastore, 1) := dk_79 (dk_at dksX4_addClipNode_1 20 rfl rfl)
theorem dX4_addClipNode_44 : decode cX4_addClipNode 44 = .ok (.aload_n 0, 1) := dk_42 (dk_at dksX4_addClipNode_1 21 rfl rfl)
theorem dX4_addClipNode_45 : decode cX4_addClipNode 45 = .ok (.dup, 1) := dk_89 (dk_at dksX4_addClipNode_1 22 rfl rfl)
theorem dX4_addClipNode_46 : decode cX4_addClipNode 46 = .ok (.getfield 128, 3) := dk_180 0 128 (dk_at dksX4_addClipNode_2 0 rfl rfl)
theorem dX4_addClipNode_49 : decode cX4_addClipNode 49 = .ok (.iconst 1, 1) := dk_4 (dk_at dksX4_addClipNode_2 3 rfl rfl)
theorem dX4_addClipNode_50 : decode cX4_addClipNode 50 = .ok (.iadd, 1) := dk_96 (dk_at dksX4_addClipNode_2 4 rfl rfl)
theorem dX4_addClipNode_51 : decode cX4_addClipNode 51 = .ok (.putfield 128, 3) := dk_181 0 128 (dk_at dksX4_addClipNode_2 5 rfl rfl)
theorem dX4_addClipNode_54 : decode cX4_addClipNode 54 = .ok (.aload_n 0, 1) := dk_42 (dk_at dksX4_addClipNode_2 8 rfl rfl)
theorem dX4_addClipNode_55 : decode cX4_addClipNode 55 = .ok (.getfield 128, 3) := dk_180 0 128 (dk_at dksX4_addClipNode_2 9 rfl rfl)
theorem dX4_addClipNode_58 : decode cX4_addClipNode 58 = .ok (.iconst 1, 1) := dk_4 (dk_at dksX4_addClipNode_2 12 rfl rfl)
theorem dX4_addClipNode_59 : decode cX4_addClipNode 59 = .ok (.isub, 1) := dk_100 (dk_at dksX4_addClipNode_2 13 rfl rfl)
theorem dX4_addClipNode_60 : decode cX4_addClipNode 60 = .ok (.ireturn, 1) := dk_172 (dk_at dksX4_addClipNode_2 14 rfl rfl)
abbrev cX4_addLine : ByteArray := prog_19_method_13_code
def yX4_addLine : MethodName := ⟨RX4, "addLine", "(I)I"⟩
def dkwX4_addLine_3 : List UInt8 := [181, 0, 128, 42, 180, 0, 128, 4, 100, 172]
abbrev dktX4_addLine_3 : List UInt8 := dkwX4_addLine_3 ++ []
def dkwX4_addLine_2 : List UInt8 := [180, 0, 128, 2, 79, 42, 180, 0, 35, 42, 180, 0, 128, 27, 79, 42, 89, 180, 0, 128, 4, 96]
abbrev dktX4_addLine_2 : List UInt8 := dkwX4_addLine_2 ++ dktX4_addLine_3
def dkwX4_addLine_1 : List UInt8 := [46, 154, 0, 12, 42, 180, 0, 128, 16, 20, 160, 0, 9, 42, 5, 182, 0, 103, 172, 42, 180, 0, 32, 42]
abbrev dktX4_addLine_1 : List UInt8 := dkwX4_addLine_1 ++ dktX4_addLine_2
def dkwX4_addLine_0 : List UInt8 := [42, 3, 181, 0, 94, 42, 27, 182, 0, 110, 154, 0, 9, 42, 4, 182, 0, 103, 172, 42, 180, 0, 17, 27]
abbrev dktX4_addLine_0 : List UInt8 := dkwX4_addLine_0 ++ dktX4_addLine_1
theorem dksX4_addLine_0 : cX4_addLine.data.toList.drop 0 = dktX4_addLine_0 := by decide +kernel
theorem dksX4_addLine_1 : cX4_addLine.data.toList.drop 24 = dktX4_addLine_1 := dk_seg dksX4_addLine_0 24 rfl rfl
theorem dksX4_addLine_2 : cX4_addLine.data.toList.drop 48 = dktX4_addLine_2 := dk_seg dksX4_addLine_1 24 rfl rfl
theorem dksX4_addLine_3 : cX4_addLine.data.toList.drop 70 = dktX4_addLine_3 := dk_seg dksX4_addLine_2 22 rfl rfl
theorem dX4_addLine_0 : decode cX4_addLine 0 = .ok (.aload_n 0, 1) := dk_42 (dk_at dksX4_addLine_0 0 rfl rfl)
theorem dX4_addLine_1 : decode cX4_addLine 1 = .ok (.iconst 0, 1) := dk_3 (dk_at dksX4_addLine_0 1 rfl rfl)
theorem dX4_addLine_2 : decode cX4_addLine 2 = .ok (.putfield 94, 3) := dk_181 0 94 (dk_at dksX4_addLine_0 2 rfl rfl)
theorem dX4_addLine_5 : decode cX4_addLine 5 = .ok (.aload_n 0, 1) := dk_42 (dk_at dksX4_addLine_0 5 rfl rfl)
theorem dX4_addLine_6 : decode cX4_addLine 6 = .ok (.iload_n 1, 1) := dk_27 (dk_at dksX4_addLine_0 6 rfl rfl)
theorem dX4_addLine_7 : decode cX4_addLine 7 = .ok (.invokevirtual 110, 3) := dk_182 0 110 (dk_at dksX4_addLine_0 7 rfl rfl)
theorem dX4_addLine_10 : decode cX4_addLine 10 = .ok (.ifCond .ne 9, 3) := dk_154 0 9 (dk_at dksX4_addLine_0 10 rfl rfl)
theorem dX4_addLine_13 : decode cX4_addLine 13 = .ok (.aload_n 0, 1) := dk_42 (dk_at dksX4_addLine_0 13 rfl rfl)
theorem dX4_addLine_14 : decode cX4_addLine 14 = .ok (.iconst 1, 1) := dk_4 (dk_at dksX4_addLine_0 14 rfl rfl)
theorem dX4_addLine_15 : decode cX4_addLine 15 = .ok (.invokevirtual 103, 3) := dk_182 0 103 (dk_at dksX4_addLine_0 15 rfl rfl)
theorem dX4_addLine_18 : decode cX4_addLine 18 = .ok (.ireturn, 1) := dk_172 (dk_at dksX4_addLine_0 18 rfl rfl)
theorem dX4_addLine_19 : decode cX4_addLine 19 = .ok (.aload_n 0, 1) := dk_42 (dk_at dksX4_addLine_0 19 rfl rfl)
theorem dX4_addLine_20 : decode cX4_addLine 20 = .ok (.getfield 17, 3) := dk_180 0 17 (dk_at dksX4_addLine_0 20 rfl rfl)
theorem dX4_addLine_23 : decode cX4_addLine 23 = .ok (.iload_n 1, 1) := dk_27 (dk_at dksX4_addLine_0 23 rfl rfl)
theorem dX4_addLine_24 : decode cX4_addLine 24 = .ok (.iaload, 1) := dk_46 (dk_at dksX4_addLine_1 0 rfl rfl)
theorem dX4_addLine_25 : decode cX4_addLine 25 = .ok (.ifCond .ne 12, 3) := dk_154 0 12 (dk_at dksX4_addLine_1 1 rfl rfl)
theorem dX4_addLine_28 : decode cX4_addLine 28 = .ok (.aload_n 0, 1) := dk_42 (dk_at dksX4_addLine_1 4 rfl rfl)
theorem dX4_addLine_29 : decode cX4_addLine 29 = .ok (.getfield 128, 3) := dk_180 0 128 (dk_at dksX4_addLine_1 5 rfl rfl)
theorem dX4_addLine_32 : decode cX4_addLine 32 = .ok (.bipush 20, 2) := dk_16 20 (dk_at dksX4_addLine_1 8 rfl rfl)
theorem dX4_addLine_34 : decode cX4_addLine 34 = .ok (.if_icmp .ne 9, 3) := dk_160 0 9 (dk_at dksX4_addLine_1 10 rfl rfl)
theorem dX4_addLine_37 : decode cX4_addLine 37 = .ok (.aload_n 0, 1) := dk_42 (dk_at dksX4_addLine_1 13 rfl rfl)
theorem dX4_addLine_38 : decode cX4_addLine 38 = .ok (.iconst 2, 1) := dk_5 (dk_at dksX4_addLine_1 14 rfl rfl)
theorem dX4_addLine_39 : decode cX4_addLine 39 = .ok (.invokevirtual 103, 3) := dk_182 0 103 (dk_at dksX4_addLine_1 15 rfl rfl)
theorem dX4_addLine_42 : decode cX4_addLine 42 = .ok (.ireturn, 1) := dk_172 (dk_at dksX4_addLine_1 18 rfl rfl)
theorem dX4_addLine_43 : decode cX4_addLine 43 = .ok (.aload_n 0, 1) := dk_42 (dk_at dksX4_addLine_1 19 rfl rfl)
theorem dX4_addLine_44 : decode cX4_addLine 44 = .ok (.getfield 32, 3) := dk_180 0 32 (dk_at dksX4_addLine_1 20 rfl rfl)
theorem dX4_addLine_47 : decode cX4_addLine 47 = .ok (.aload_n 0, 1) := dk_42 (dk_at dksX4_addLine_1 23 rfl rfl)
theorem dX4_addLine_48 : decode cX4_addLine 48 = .ok (.getfield 128, 3) := dk_180 0 128 (dk_at dksX4_addLine_2 0 rfl rfl)
theorem dX4_addLine_51 : decode cX4_addLine 51 = .ok (.iconst (-1), 1) := dk_2 (dk_at dksX4_addLine_2 3 rfl rfl)
theorem dX4_addLine_52 : decode cX4_addLine 52 = .ok (.iastore, 1) := dk_79 (dk_at dksX4_addLine_2 4 rfl rfl)
theorem dX4_addLine_53 : decode cX4_addLine 53 = .ok (.aload_n 0, 1) := dk_42 (dk_at dksX4_addLine_2 5 rfl rfl)
theorem dX4_addLine_54 : decode cX4_addLine 54 = .ok (.getfield 35, 3) := dk_180 0 35 (dk_at dksX4_addLine_2 6 rfl rfl)
theorem dX4_addLine_57 : decode cX4_addLine 57 = .ok (.aload_n 0, 1) := dk_42 (dk_at dksX4_addLine_2 9 rfl rfl)
theorem dX4_addLine_58 : decode cX4_addLine 58 = .ok (.getfield 128, 3) := dk_180 0 128 (dk_at dksX4_addLine_2 10 rfl rfl)
theorem dX4_addLine_61 : decode cX4_addLine 61 = .ok (.iload_n 1, 1) := dk_27 (dk_at dksX4_addLine_2 13 rfl rfl)
theorem dX4_addLine_62 : decode cX4_addLine 62 = .ok (.iastore, 1) := dk_79 (dk_at dksX4_addLine_2 14 rfl rfl)
theorem dX4_addLine_63 : decode cX4_addLine 63 = .ok (.aload_n 0, 1) := dk_42 (dk_at dksX4_addLine_2 15 rfl rfl)
theorem dX4_addLine_64 : decode cX4_addLine 64 = .ok (.dup, 1) := dk_89 (dk_at dksX4_addLine_2 16 rfl rfl)
theorem dX4_addLine_65 : decode cX4_addLine 65 = .ok (.getfield 128, 3) := dk_180 0 128 (dk_at dksX4_addLine_2 17 rfl rfl)
theorem dX4_addLine_68 : decode cX4_addLine 68 = .ok (.iconst 1, 1) := dk_4 (dk_at dksX4_addLine_2 20 rfl rfl)
theorem dX4_addLine_69 : decode cX4_addLine 69 = .ok (.iadd, 1) := dk_96 (dk_at dksX4_addLine_2 21 rfl rfl)
theorem dX4_addLine_70 : decode cX4_addLine 70 = .ok (.putfield 128, 3) := dk_181 0 128 (dk_at dksX4_addLine_3 0 rfl rfl)
theorem dX4_addLine_73 : decode cX4_addLine 73 = .ok (.aload_n 0, 1) := dk_42 (dk_at dksX4_addLine_3 3 rfl rfl)
theorem dX4_addLine_74 : decode cX4_addLine 74 = .ok (.getfield 128, 3) := dk_180 0 128 (dk_at dksX4_addLine_3 4 rfl rfl)
theorem dX4_addLine_77 : decode cX4_addLine 77 = .ok (.iconst 1, 1) := dk_4 (dk_at dksX4_addLine_3 7 rfl rfl)
theorem dX4_addLine_78 : decode cX4_addLine 78 = .ok (.isub, 1) := dk_100 (dk_at dksX4_addLine_3 8 rfl rfl)
theorem dX4_addLine_79 : decode cX4_addLine 79 = .ok (.ireturn, 1) := dk_172 (dk_at dksX4_addLine_3 9 rfl rfl)
abbrev cX4_addChild : ByteArray := prog_19_method_17_code
def yX4_addChild : MethodName := ⟨RX4, "addChild", "(III)I"⟩
def dkwX4_addChild_8 : List UInt8 := [42, 180, 0, 38, 27, 92, 46, 4, 96, 79, 42, 180, 0, 38, 27, 46, 172]
abbrev dktX4_addChild_8 : List UInt8 := dkwX4_addChild_8 ++ []
def dkwX4_addChild_7 : List UInt8 := [180, 0, 38, 27, 46, 96, 28, 79, 42, 180, 0, 44, 8, 27, 104, 42, 180, 0, 38, 27, 46, 96, 29, 79]
abbrev dktX4_addChild_7 : List UInt8 := dkwX4_addChild_7 ++ dktX4_addChild_8
def dkwX4_addChild_6 : List UInt8 := [28, 182, 0, 137, 7, 164, 0, 9, 42, 6, 182, 0, 103, 172, 42, 180, 0, 41, 8, 27, 104, 42]
abbrev dktX4_addChild_6 : List UInt8 := dkwX4_addChild_6 ++ dktX4_addChild_7
def dkwX4_addChild_5 : List UInt8 := [3, 54, 4, 132, 5, 1, 167, 255, 215, 21, 4, 154, 0, 21, 42, 28, 182, 0, 134, 153, 0, 13, 42, 27]
abbrev dktX4_addChild_5 : List UInt8 := dkwX4_addChild_5 ++ dktX4_addChild_6
def dkwX4_addChild_4 : List UInt8 := [21, 4, 154, 0, 18, 42, 180, 0, 44, 8, 27, 104, 21, 5, 96, 46, 29, 160, 0, 7, 4, 167, 0, 4]
abbrev dktX4_addChild_4 : List UInt8 := dkwX4_addChild_4 ++ dktX4_addChild_5
def dkwX4_addChild_3 : List UInt8 := [160, 0, 7, 4, 167, 0, 4, 3, 54, 4, 3, 54, 5, 21, 5, 42, 180, 0, 38, 27, 46, 162, 0, 36]
abbrev dktX4_addChild_3 : List UInt8 := dkwX4_addChild_3 ++ dktX4_addChild_4
def dkwX4_addChild_2 : List UInt8 := [20, 0, 116, 184, 0, 99, 154, 0, 9, 42, 5, 182, 0, 103, 172, 42, 180, 0, 38, 27, 46, 8]
abbrev dktX4_addChild_2 : List UInt8 := dkwX4_addChild_2 ++ dktX4_addChild_3
def dkwX4_addChild_1 : List UInt8 := [182, 0, 103, 172, 42, 180, 0, 32, 27, 46, 2, 160, 0, 22, 28, 27, 162, 0, 17, 29, 133, 20, 0, 114]
abbrev dktX4_addChild_1 : List UInt8 := dkwX4_addChild_1 ++ dktX4_addChild_2
def dkwX4_addChild_0 : List UInt8 := [42, 3, 181, 0, 94, 42, 27, 182, 0, 131, 153, 0, 11, 42, 28, 182, 0, 131, 154, 0, 9, 42, 4]
abbrev dktX4_addChild_0 : List UInt8 := dkwX4_addChild_0 ++ dktX4_addChild_1
theorem dksX4_addChild_0 : cX4_addChild.data.toList.drop 0 = dktX4_addChild_0 := by decide +kernel
theorem dksX4_addChild_1 : cX4_addChild.data.toList.drop 23 = dktX4_addChild_1 := dk_seg dksX4_addChild_0 23 rfl rfl
theorem dksX4_addChild_2 : cX4_addChild.data.toList.drop 47 = dktX4_addChild_2 := dk_seg dksX4_addChild_1 24 rfl rfl
theorem dksX4_addChild_3 : cX4_addChild.data.toList.drop 69 = dktX4_addChild_3 := dk_seg dksX4_addChild_2 22 rfl rfl
theorem dksX4_addChild_4 : cX4_addChild.data.toList.drop 93 = dktX4_addChild_4 := dk_seg dksX4_addChild_3 24 rfl rfl
theorem dksX4_addChild_5 : cX4_addChild.data.toList.drop 117 = dktX4_addChild_5 := dk_seg dksX4_addChild_4 24 rfl rfl
theorem dksX4_addChild_6 : cX4_addChild.data.toList.drop 141 = dktX4_addChild_6 := dk_seg dksX4_addChild_5 24 rfl rfl
theorem dksX4_addChild_7 : cX4_addChild.data.toList.drop 163 = dktX4_addChild_7 := dk_seg dksX4_addChild_6 22 rfl rfl
theorem dksX4_addChild_8 : cX4_addChild.data.toList.drop 187 = dktX4_addChild_8 := dk_seg dksX4_addChild_7 24 rfl rfl
theorem dX4_addChild_0 : decode cX4_addChild 0 = .ok (.aload_n 0, 1) := dk_42 (dk_at dksX4_addChild_0 0 rfl rfl)
theorem dX4_addChild_1 : decode cX4_addChild 1 = .ok (.iconst 0, 1) := dk_3 (dk_at dksX4_addChild_0 1 rfl rfl)
theorem dX4_addChild_2 : decode cX4_addChild 2 = .ok (.putfield 94, 3) := dk_181 0 94 (dk_at dksX4_addChild_0 2 rfl rfl)
theorem dX4_addChild_5 : decode cX4_addChild 5 = .ok (.aload_n 0, 1) := dk_42 (dk_at dksX4_addChild_0 5 rfl rfl)
theorem dX4_addChild_6 : decode cX4_addChild 6 = .ok (.iload_n 1, 1) := dk_27 (dk_at dksX4_addChild_0 6 rfl rfl)
theorem dX4_addChild_7 : decode cX4_addChild 7 = .ok (.invokevirtual 131, 3) := dk_182 0 131 (dk_at dksX4_addChild_0 7 rfl rfl)
theorem dX4_addChild_10 : decode cX4_addChild 10 = .ok (.ifCond .eq 11, 3) := dk_153 0 11 (dk_at dksX4_addChild_0 10 rfl rfl)
theorem dX4_addChild_13 : decode cX4_addChild 13 = .ok (.aload_n 0, 1) := dk_42 (dk_at dksX4_addChild_0 13 rfl rfl)
theorem dX4_addChild_14 : decode cX4_addChild 14 = .ok (.iload_n 2, 1) := dk_28 (dk_at dksX4_addChild_0 14 rfl rfl)
theorem dX4_addChild_15 : decode cX4_addChild 15 = .ok (.invokevirtual 131, 3) := dk_182 0 131 (dk_at dksX4_addChild_0 15 rfl rfl)
theorem dX4_addChild_18 : decode cX4_addChild 18 = .ok (.ifCond .ne 9, 3) := dk_154 0 9 (dk_at dksX4_addChild_0 18 rfl rfl)
theorem dX4_addChild_21 : decode cX4_addChild 21 = .ok (.aload_n 0, 1) := dk_42 (dk_at dksX4_addChild_0 21 rfl rfl)
theorem dX4_addChild_22 : decode cX4_addChild 22 = .ok (.iconst 1, 1) := dk_4 (dk_at dksX4_addChild_0 22 rfl rfl)
theorem dX4_addChild_23 : decode cX4_addChild 23 = .ok (.invokevirtual 103, 3) := dk_182 0 103 (dk_at dksX4_addChild_1 0 rfl rfl)
theorem dX4_addChild_26 : decode cX4_addChild 26 = .ok (.ireturn, 1) := dk_172 (dk_at dksX4_addChild_1 3 rfl rfl)
theorem dX4_addChild_27 : decode cX4_addChild 27 = .ok (.aload_n 0, 1) := dk_42 (dk_at dksX4_addChild_1 4 rfl rfl)
theorem dX4_addChild_28 : decode cX4_addChild 28 = .ok (.getfield 32, 3) := dk_180 0 32 (dk_at dksX4_addChild_1 5 rfl rfl)
theorem dX4_addChild_31 : decode cX4_addChild 31 = .ok (.iload_n 1, 1) := dk_27 (dk_at dksX4_addChild_1 8 rfl rfl)
theorem dX4_addChild_32 : decode cX4_addChild 32 = .ok (.iaload, 1) := dk_46 (dk_at dksX4_addChild_1 9 rfl rfl)
theorem dX4_addChild_33 : decode cX4_addChild 33 = .ok (.iconst (-1), 1) := dk_2 (dk_at dksX4_addChild_1 10 rfl rfl)
theorem dX4_addChild_34 : decode cX4_addChild 34 = .ok (.if_icmp .ne 22, 3) := dk_160 0 22 (dk_at dksX4_addChild_1 11 rfl rfl)
theorem dX4_addChild_37 : decode cX4_addChild 37 = .ok (.iload_n 2, 1) := dk_28 (dk_at dksX4_addChild_1 14 rfl rfl)
theorem dX4_addChild_38 : decode cX4_addChild 38 = .ok (.iload_n 1, 1) := dk_27 (dk_at dksX4_addChild_1 15 rfl rfl)
theorem dX4_addChild_39 : decode cX4_addChild 39 = .ok (.if_icmp .ge 17, 3) := dk_162 0 17 (dk_at dksX4_addChild_1 16 rfl rfl)
theorem dX4_addChild_42 : decode cX4_addChild 42 = .ok (.iload_n 3, 1) := dk_29 (dk_at dksX4_addChild_1 19 rfl rfl)
theorem dX4_addChild_43 : decode cX4_addChild 43 = .ok (.i2l, 1) := dk_133 (dk_at dksX4_addChild_1 20 rfl rfl)
theorem dX4_addChild_44 : decode cX4_addChild 44 = .ok (.ldc2_w 114, 3) := dk_20 0 114 (dk_at dksX4_addChild_1 21 rfl rfl)
theorem dX4_addChild_47 : decode cX4_addChild 47 = .ok (.ldc2_w 116, 3) := dk_20 0 116 (dk_at dksX4_addChild_2 0 rfl rfl)
theorem dX4_addChild_50 : decode cX4_addChild 50 = .ok (.invokestatic 99, 3) := dk_184 0 99 (dk_at dksX4_addChild_2 3 rfl rfl)
theorem dX4_addChild_53 : decode cX4_addChild 53 = .ok (.ifCond .ne 9, 3) := dk_154 0 9 (dk_at dksX4_addChild_2 6 rfl rfl)
theorem dX4_addChild_56 : decode cX4_addChild 56 = .ok (.aload_n 0, 1) := dk_42 (dk_at dksX4_addChild_2 9 rfl rfl)
theorem dX4_addChild_57 : decode cX4_addChild 57 = .ok (.iconst 2, 1) := dk_5 (dk_at dksX4_addChild_2 10 rfl rfl)
theorem dX4_addChild_58 : decode cX4_addChild 58 = .ok (.invokevirtual 103, 3) := dk_182 0 103 (dk_at dksX4_addChild_2 11 rfl rfl)
theorem dX4_addChild_61 : decode cX4_addChild 61 = .ok (.ireturn, 1) := dk_172 (dk_at dksX4_addChild_2 14 rfl rfl)
theorem dX4_addChild_62 : decode cX4_addChild 62 = .ok (.aload_n 0, 1) := dk_42 (dk_at dksX4_addChild_2 15 rfl rfl)
theorem dX4_addChild_63 : decode cX4_addChild 63 = .ok (.getfield 38, 3) := dk_180 0 38 (dk_at dksX4_addChild_2 16 rfl rfl)
theorem dX4_addChild_66 : decode cX4_addChild 66 = .ok (.iload_n 1, 1) := dk_27 (dk_at dksX4_addChild_2 19 rfl rfl)
theorem dX4_addChild_67 : decode cX4_addChild 67 = .ok (.iaload, 1) := dk_46 (dk_at dksX4_addChild_2 20 rfl rfl)
theorem dX4_addChild_68 : decode cX4_addChild 68 = .ok (.iconst 5, 1) := dk_8 (dk_at dksX4_addChild_2 21 rfl rfl)
theorem dX4_addChild_69 : decode cX4_addChild 69 = .ok (.if_icmp .ne 7, 3) := dk_160 0 7 (dk_at dksX4_addChild_3 0 rfl rfl)
theorem dX4_addChild_72 : decode cX4_addChild 72 = .ok (.iconst 1, 1) := dk_4 (dk_at dksX4_addChild_3 3 rfl rfl)
theorem dX4_addChild_73 : decode cX4_addChild 73 = .ok (.goto 4, 3) := dk_167 0 4 (dk_at dksX4_addChild_3 4 rfl rfl)
theorem dX4_addChild_76 : decode cX4_addChild 76 = .ok (.iconst 0, 1) := dk_3 (dk_at dksX4_addChild_3 7 rfl rfl)
theorem dX4_addChild_77 : decode cX4_addChild 77 = .ok (.istore 4, 2) := dk_54 4 (dk_at dksX4_addChild_3 8 rfl rfl)
theorem dX4_addChild_79 : decode cX4_addChild 79 = .ok (.iconst 0, 1) := dk_3 (dk_at dksX4_addChild_3 10 rfl rfl)
theorem dX4_addChild_80 : decode cX4_addChild 80 = .ok (.istore 5, 2) := dk_54 5 (dk_at dksX4_addChild_3 11 rfl rfl)
theorem dX4_addChild_82 : decode cX4_addChild 82 = .ok (.iload 5, 2) := dk_21 5 (dk_at dksX4_addChild_3 13 rfl rfl)
theorem dX4_addChild_84 : decode cX4_addChild 84 = .ok (.aload_n 0, 1) := dk_42 (dk_at dksX4_addChild_3 15 rfl rfl)
theorem dX4_addChild_85 : decode cX4_addChild 85 = .ok (.getfield 38, 3) := dk_180 0 38 (dk_at dksX4_addChild_3 16 rfl rfl)
theorem dX4_addChild_88 : decode cX4_addChild 88 = .ok (.iload_n 1, 1) := dk_27 (dk_at dksX4_addChild_3 19 rfl rfl)
theorem dX4_addChild_89 : decode cX4_addChild 89 = .ok (.iaload, 1) := dk_46 (dk_at dksX4_addChild_3 20 rfl rfl)
theorem dX4_addChild_90 : decode cX4_addChild 90 = .ok (.if_icmp .ge 36, 3) := dk_162 0 36 (dk_at dksX4_addChild_3 21 rfl rfl)
theorem dX4_addChild_93 : decode cX4_addChild 93 = .ok (.iload 4, 2) := dk_21 4 (dk_at dksX4_addChild_4 0 rfl rfl)
theorem dX4_addChild_95 : decode cX4_addChild 95 = .ok (.ifCond .ne 18, 3) := dk_154 0 18 (dk_at dksX4_addChild_4 2 rfl rfl)
theorem dX4_addChild_98 : decode cX4_addChild 98 = .ok (.aload_n 0, 1) := dk_42 (dk_at dksX4_addChild_4 5 rfl rfl)
theorem dX4_addChild_99 : decode cX4_addChild 99 = .ok (.getfield 44, 3) := dk_180 0 44 (dk_at dksX4_addChild_4 6 rfl rfl)
theorem dX4_addChild_102 : decode cX4_addChild 102 = .ok (.iconst 5, 1) := dk_8 (dk_at dksX4_addChild_4 9 rfl rfl)
theorem dX4_addChild_103 : decode cX4_addChild 103 = .ok (.iload_n 1, 1) := dk_27 (dk_at dksX4_addChild_4 10 rfl rfl)
theorem dX4_addChild_104 : decode cX4_addChild 104 = .ok (.imul, 1) := dk_104 (dk_at dksX4_addChild_4 11 rfl rfl)
theorem dX4_addChild_105 : decode cX4_addChild 105 = .ok (.iload 5, 2) := dk_21 5 (dk_at dksX4_addChild_4 12 rfl rfl)
theorem dX4_addChild_107 : decode cX4_addChild 107 = .ok (.iadd, 1) := dk_96 (dk_at dksX4_addChild_4 14 rfl rfl)
theorem dX4_addChild_108 : decode cX4_addChild 108 = .ok (.iaload, 1) := dk_46 (dk_at dksX4_addChild_4 15 rfl rfl)
theorem dX4_addChild_109 : decode cX4_addChild 109 = .ok (.iload_n 3, 1) := dk_29 (dk_at dksX4_addChild_4 16 rfl rfl)
theorem dX4_addChild_110 : decode cX4_addChild 110 = .ok (.if_icmp .ne 7, 3) := dk_160 0 7 (dk_at dksX4_addChild_4 17 rfl rfl)
theorem dX4_addChild_113 : decode cX4_addChild 113 = .ok (.iconst 1, 1) := dk_4 (dk_at dksX4_addChild_4 20 rfl rfl)
theorem dX4_addChild_114 : decode cX4_addChild 114 = .ok (.goto 4, 3) := dk_167 0 4 (dk_at dksX4_addChild_4 21 rfl rfl)
theorem dX4_addChild_117 : decode cX4_addChild 117 = .ok (.iconst 0, 1) := dk_3 (dk_at dksX4_addChild_5 0 rfl rfl)
theorem dX4_addChild_118 : decode cX4_addChild 118 = .ok (.istore 4, 2) := dk_54 4 (dk_at dksX4_addChild_5 1 rfl rfl)
theorem dX4_addChild_120 : decode cX4_addChild 120 = .ok (.iinc 5 1, 3) := dk_132 5 1 (dk_at dksX4_addChild_5 3 rfl rfl)
theorem dX4_addChild_123 : decode cX4_addChild 123 = .ok (.goto (-41), 3) := dk_167 255 215 (dk_at dksX4_addChild_5 6 rfl rfl)
theorem dX4_addChild_126 : decode cX4_addChild 126 = .ok (.iload 4, 2) := dk_21 4 (dk_at dksX4_addChild_5 9 rfl rfl)
theorem dX4_addChild_128 : decode cX4_addChild 128 = .ok (.ifCond .ne 21, 3) := dk_154 0 21 (dk_at dksX4_addChild_5 11 rfl rfl)
theorem dX4_addChild_131 : decode cX4_addChild 131 = .ok (.aload_n 0, 1) := dk_42 (dk_at dksX4_addChild_5 14 rfl rfl)
theorem dX4_addChild_132 : decode cX4_addChild 132 = .ok (.iload_n 2, 1) := dk_28 (dk_at dksX4_addChild_5 15 rfl rfl)
theorem dX4_addChild_133 : decode cX4_addChild 133 = .ok (.invokevirtual 134, 3) := dk_182 0 134 (dk_at dksX4_addChild_5 16 rfl rfl)
theorem dX4_addChild_136 : decode cX4_addChild 136 = .ok (.ifCond .eq 13, 3) := dk_153 0 13 (dk_at dksX4_addChild_5 19 rfl rfl)
theorem dX4_addChild_139 : decode cX4_addChild 139 = .ok (.aload_n 0, 1) := dk_42 (dk_at dksX4_addChild_5 22 rfl rfl)
theorem dX4_addChild_140 : decode cX4_addChild 140 = .ok (.iload_n 1, 1) := dk_27 (dk_at dksX4_addChild_5 23 rfl rfl)
theorem dX4_addChild_141 : decode cX4_addChild 141 = .ok (.iload_n 2, 1) := dk_28 (dk_at dksX4_addChild_6 0 rfl rfl)
theorem dX4_addChild_142 : decode cX4_addChild 142 = .ok (.invokevirtual 137, 3) := dk_182 0 137 (dk_at dksX4_addChild_6 1 rfl rfl)
theorem dX4_addChild_145 : decode cX4_addChild 145 = .ok (.iconst 4, 1) := dk_7 (dk_at dksX4_addChild_6 4 rfl rfl)
theorem dX4_addChild_146 : decode cX4_addChild 146 = .ok (.if_icmp .le 9, 3) := dk_164 0 9 (dk_at dksX4_addChild_6 5 rfl rfl)
theorem dX4_addChild_149 : decode cX4_addChild 149 = .ok (.aload_n 0, 1) := dk_42 (dk_at dksX4_addChild_6 8 rfl rfl)
theorem dX4_addChild_150 : decode cX4_addChild 150 = .ok (.iconst 3, 1) := dk_6 (dk_at dksX4_addChild_6 9 rfl rfl)
theorem dX4_addChild_151 : decode cX4_addChild 151 = .ok (.invokevirtual 103, 3) := dk_182 0 103 (dk_at dksX4_addChild_6 10 rfl rfl)
theorem dX4_addChild_154 : decode cX4_addChild 154 = .ok (.ireturn, 1) := dk_172 (dk_at dksX4_addChild_6 13 rfl rfl)
theorem dX4_addChild_155 : decode cX4_addChild 155 = .ok (.aload_n 0, 1) := dk_42 (dk_at dksX4_addChild_6 14 rfl rfl)
theorem dX4_addChild_156 : decode cX4_addChild 156 = .ok (.getfield 41, 3) := dk_180 0 41 (dk_at dksX4_addChild_6 15 rfl rfl)
theorem dX4_addChild_159 : decode cX4_addChild 159 = .ok (.iconst 5, 1) := dk_8 (dk_at dksX4_addChild_6 18 rfl rfl)
theorem dX4_addChild_160 : decode cX4_addChild 160 = .ok (.iload_n 1, 1) := dk_27 (dk_at dksX4_addChild_6 19 rfl rfl)
theorem dX4_addChild_161 : decode cX4_addChild 161 = .ok (.imul, 1) := dk_104 (dk_at dksX4_addChild_6 20 rfl rfl)
theorem dX4_addChild_162 : decode cX4_addChild 162 = .ok (.aload_n 0, 1) := dk_42 (dk_at dksX4_addChild_6 21 rfl rfl)
theorem dX4_addChild_163 : decode cX4_addChild 163 = .ok (.getfield 38, 3) := dk_180 0 38 (dk_at dksX4_addChild_7 0 rfl rfl)
theorem dX4_addChild_166 : decode cX4_addChild 166 = .ok (.iload_n 1, 1) := dk_27 (dk_at dksX4_addChild_7 3 rfl rfl)
theorem dX4_addChild_167 : decode cX4_addChild 167 = .ok (.iaload, 1) := dk_46 (dk_at dksX4_addChild_7 4 rfl rfl)
theorem dX4_addChild_168 : decode cX4_addChild 168 = .ok (.iadd, 1) := dk_96 (dk_at dksX4_addChild_7 5 rfl rfl)
theorem dX4_addChild_169 : decode cX4_addChild 169 = .ok (.iload_n 2, 1) := dk_28 (dk_at dksX4_addChild_7 6 rfl rfl)
theorem dX4_addChild_170 : decode cX4_addChild 170 = .ok (.iastore, 1) := dk_79 (dk_at dksX4_addChild_7 7 rfl rfl)
theorem dX4_addChild_171 : decode cX4_addChild 171 = .ok (.aload_n 0, 1) := dk_42 (dk_at dksX4_addChild_7 8 rfl rfl)
theorem dX4_addChild_172 : decode cX4_addChild 172 = .ok (.getfield 44, 3) := dk_180 0 44 (dk_at dksX4_addChild_7 9 rfl rfl)
theorem dX4_addChild_175 : decode cX4_addChild 175 = .ok (.iconst 5, 1) := dk_8 (dk_at dksX4_addChild_7 12 rfl rfl)
theorem dX4_addChild_176 : decode cX4_addChild 176 = .ok (.iload_n 1, 1) := dk_27 (dk_at dksX4_addChild_7 13 rfl rfl)
theorem dX4_addChild_177 : decode cX4_addChild 177 = .ok (.imul, 1) := dk_104 (dk_at dksX4_addChild_7 14 rfl rfl)
theorem dX4_addChild_178 : decode cX4_addChild 178 = .ok (.aload_n 0, 1) := dk_42 (dk_at dksX4_addChild_7 15 rfl rfl)
theorem dX4_addChild_179 : decode cX4_addChild 179 = .ok (.getfield 38, 3) := dk_180 0 38 (dk_at dksX4_addChild_7 16 rfl rfl)
theorem dX4_addChild_182 : decode cX4_addChild 182 = .ok (.iload_n 1, 1) := dk_27 (dk_at dksX4_addChild_7 19 rfl rfl)
theorem dX4_addChild_183 : decode cX4_addChild 183 = .ok (.iaload, 1) := dk_46 (dk_at dksX4_addChild_7 20 rfl rfl)
theorem dX4_addChild_184 : decode cX4_addChild 184 = .ok (.iadd, 1) := dk_96 (dk_at dksX4_addChild_7 21 rfl rfl)
theorem dX4_addChild_185 : decode cX4_addChild 185 = .ok (.iload_n 3, 1) := dk_29 (dk_at dksX4_addChild_7 22 rfl rfl)
theorem dX4_addChild_186 : decode cX4_addChild 186 = .ok (.iastore, 1) := dk_79 (dk_at dksX4_addChild_7 23 rfl rfl)
theorem dX4_addChild_187 : decode cX4_addChild 187 = .ok (.aload_n 0, 1) := dk_42 (dk_at dksX4_addChild_8 0 rfl rfl)
theorem dX4_addChild_188 : decode cX4_addChild 188 = .ok (.getfield 38, 3) := dk_180 0 38 (dk_at dksX4_addChild_8 1 rfl rfl)
theorem dX4_addChild_191 : decode cX4_addChild 191 = .ok (.iload_n 1, 1) := dk_27 (dk_at dksX4_addChild_8 4 rfl rfl)
theorem dX4_addChild_192 : decode cX4_addChild 192 = .ok (.dup2, 1) := dk_92 (dk_at dksX4_addChild_8 5 rfl rfl)
theorem dX4_addChild_193 : decode cX4_addChild 193 = .ok (.iaload, 1) := dk_46 (dk_at dksX4_addChild_8 6 rfl rfl)
theorem dX4_addChild_194 : decode cX4_addChild 194 = .ok (.iconst 1, 1) := dk_4 (dk_at dksX4_addChild_8 7 rfl rfl)
theorem dX4_addChild_195 : decode cX4_addChild 195 = .ok (.iadd, 1) := dk_96 (dk_at dksX4_addChild_8 8 rfl rfl)
theorem dX4_addChild_196 : decode cX4_addChild 196 = .ok (.iastore, 1) := dk_79 (dk_at dksX4_addChild_8 9 rfl rfl)
theorem dX4_addChild_197 : decode cX4_addChild 197 = .ok (.aload_n 0, 1) := dk_42 (dk_at dksX4_addChild_8 10 rfl rfl)
theorem dX4_addChild_198 : decode cX4_addChild 198 = .ok (.getfield 38, 3) := dk_180 0 38 (dk_at dksX4_addChild_8 11 rfl rfl)
theorem dX4_addChild_201 : decode cX4_addChild 201 = .ok (.iload_n 1, 1) := dk_27 (dk_at dksX4_addChild_8 14 rfl rfl)
theorem dX4_addChild_202 : decode cX4_addChild 202 = .ok (.iaload, 1) := dk_46 (dk_at dksX4_addChild_8 15 rfl rfl)
theorem dX4_addChild_203 : decode cX4_addChild 203 = .ok (.ireturn, 1) := dk_172 (dk_at dksX4_addChild_8 16 rfl rfl)
abbrev cX4_isNode : ByteArray := prog_19_method_14_code
def yX4_isNode : MethodName := ⟨RX4, "isNode", "(I)Z"⟩
def dkwX4_isNode_0 : List UInt8 := [27, 133, 9, 42, 180, 0, 128, 4, 100, 133, 184, 0, 99, 172]
abbrev dktX4_isNode_0 : List UInt8 := dkwX4_isNode_0 ++ []
theorem dksX4_isNode_0 : cX4_isNode.data.toList.drop 0 = dktX4_isNode_0 := by decide +kernel
theorem dX4_isNode_0 : decode cX4_isNode 0 = .ok (.iload_n 1, 1) := dk_27 (dk_at dksX4_isNode_0 0 rfl rfl)
theorem dX4_isNode_1 : decode cX4_isNode 1 = .ok (.i2l, 1) := dk_133 (dk_at dksX4_isNode_0 1 rfl rfl)
theorem dX4_isNode_2 : decode cX4_isNode 2 = .ok (.lconst 0, 1) := dk_9 (dk_at dksX4_isNode_0 2 rfl rfl)
theorem dX4_isNode_3 : decode cX4_isNode 3 = .ok (.aload_n 0, 1) := dk_42 (dk_at dksX4_isNode_0 3 rfl rfl)
theorem dX4_isNode_4 : decode cX4_isNode 4 = .ok (.getfield 128, 3) := dk_180 0 128 (dk_at dksX4_isNode_0 4 rfl rfl)
theorem dX4_isNode_7 : decode cX4_isNode 7 = .ok (.iconst 1, 1) := dk_4 (dk_at dksX4_isNode_0 7 rfl rfl)
theorem dX4_isNode_8 : decode cX4_isNode 8 = .ok (.isub, 1) := dk_100 (dk_at dksX4_isNode_0 8 rfl rfl)
theorem dX4_isNode_9 : decode cX4_isNode 9 = .ok (.i2l, 1) := dk_133 (dk_at dksX4_isNode_0 9 rfl rfl)
theorem dX4_isNode_10 : decode cX4_isNode 10 = .ok (.invokestatic 99, 3) := dk_184 0 99 (dk_at dksX4_isNode_0 10 rfl rfl)
theorem dX4_isNode_13 : decode cX4_isNode 13 = .ok (.ireturn, 1) := dk_172 (dk_at dksX4_isNode_0 13 rfl rfl)
abbrev cX4_isComplete : ByteArray := prog_19_method_15_code
def yX4_isComplete : MethodName := ⟨RX4, "isComplete", "(I)Z"⟩
def dkwX4_isComplete_1 : List UInt8 := [172]
abbrev dktX4_isComplete_1 : List UInt8 := dkwX4_isComplete_1 ++ []
def dkwX4_isComplete_0 : List UInt8 := [42, 180, 0, 32, 27, 46, 2, 160, 0, 12, 42, 180, 0, 38, 27, 46, 158, 0, 7, 4, 167, 0, 4, 3]
abbrev dktX4_isComplete_0 : List UInt8 := dkwX4_isComplete_0 ++ dktX4_isComplete_1
theorem dksX4_isComplete_0 : cX4_isComplete.data.toList.drop 0 = dktX4_isComplete_0 := by decide +kernel
theorem dksX4_isComplete_1 : cX4_isComplete.data.toList.drop 24 = dktX4_isComplete_1 := dk_seg dksX4_isComplete_0 24 rfl rfl
theorem dX4_isComplete_0 : decode cX4_isComplete 0 = .ok (.aload_n 0, 1) := dk_42 (dk_at dksX4_isComplete_0 0 rfl rfl)
theorem dX4_isComplete_1 : decode cX4_isComplete 1 = .ok (.getfield 32, 3) := dk_180 0 32 (dk_at dksX4_isComplete_0 1 rfl rfl)
theorem dX4_isComplete_4 : decode cX4_isComplete 4 = .ok (.iload_n 1, 1) := dk_27 (dk_at dksX4_isComplete_0 4 rfl rfl)
theorem dX4_isComplete_5 : decode cX4_isComplete 5 = .ok (.iaload, 1) := dk_46 (dk_at dksX4_isComplete_0 5 rfl rfl)
theorem dX4_isComplete_6 : decode cX4_isComplete 6 = .ok (.iconst (-1), 1) := dk_2 (dk_at dksX4_isComplete_0 6 rfl rfl)
theorem dX4_isComplete_7 : decode cX4_isComplete 7 = .ok (.if_icmp .ne 12, 3) := dk_160 0 12 (dk_at dksX4_isComplete_0 7 rfl rfl)
theorem dX4_isComplete_10 : decode cX4_isComplete 10 = .ok (.aload_n 0, 1) := dk_42 (dk_at dksX4_isComplete_0 10 rfl rfl)
theorem dX4_isComplete_11 : decode cX4_isComplete 11 = .ok (.getfield 38, 3) := dk_180 0 38 (dk_at dksX4_isComplete_0 11 rfl rfl)
theorem dX4_isComplete_14 : decode cX4_isComplete 14 = .ok (.iload_n 1, 1) := dk_27 (dk_at dksX4_isComplete_0 14 rfl rfl)
theorem dX4_isComplete_15 : decode cX4_isComplete 15 = .ok (.iaload, 1) := dk_46 (dk_at dksX4_isComplete_0 15 rfl rfl)
theorem dX4_isComplete_16 : decode cX4_isComplete 16 = .ok (.ifCond .le 7, 3) := dk_158 0 7 (dk_at dksX4_isComplete_0 16 rfl rfl)
theorem dX4_isComplete_19 : decode cX4_isComplete 19 = .ok (.iconst 1, 1) := dk_4 (dk_at dksX4_isComplete_0 19 rfl rfl)
theorem dX4_isComplete_20 : decode cX4_isComplete 20 = .ok (.goto 4, 3) := dk_167 0 4 (dk_at dksX4_isComplete_0 20 rfl rfl)
theorem dX4_isComplete_23 : decode cX4_isComplete 23 = .ok (.iconst 0, 1) := dk_3 (dk_at dksX4_isComplete_0 23 rfl rfl)
theorem dX4_isComplete_24 : decode cX4_isComplete 24 = .ok (.ireturn, 1) := dk_172 (dk_at dksX4_isComplete_1 0 rfl rfl)
abbrev cX4_greatestDepth : ByteArray := prog_19_method_16_code
def yX4_greatestDepth : MethodName := ⟨RX4, "greatestDepth", "(II)I"⟩
def dkwX4_greatestDepth_7 : List UInt8 := [167, 0, 4, 29, 62, 132, 4, 1, 167, 255, 91, 29, 172]
abbrev dktX4_greatestDepth_7 : List UInt8 := dkwX4_greatestDepth_7 ++ []
def dkwX4_greatestDepth_6 : List UInt8 := [21, 4, 46, 79, 42, 180, 0, 69, 21, 4, 46, 29, 164, 0, 13, 42, 180, 0, 69, 21, 4, 46]
abbrev dktX4_greatestDepth_6 : List UInt8 := dkwX4_greatestDepth_6 ++ dktX4_greatestDepth_7
def dkwX4_greatestDepth_5 : List UInt8 := [180, 0, 69, 21, 4, 46, 164, 0, 14, 4, 42, 180, 0, 69, 28, 46, 96, 167, 0, 10, 42, 180, 0, 69]
abbrev dktX4_greatestDepth_5 : List UInt8 := dkwX4_greatestDepth_5 ++ dktX4_greatestDepth_6
def dkwX4_greatestDepth_4 : List UInt8 := [167, 255, 189, 42, 180, 0, 69, 21, 4, 21, 4, 27, 160, 0, 32, 4, 42, 180, 0, 69, 28, 46, 96, 42]
abbrev dktX4_greatestDepth_4 : List UInt8 := dkwX4_greatestDepth_4 ++ dktX4_greatestDepth_5
def dkwX4_greatestDepth_3 : List UInt8 := [21, 4, 46, 164, 0, 8, 21, 6, 167, 0, 10, 42, 180, 0, 69, 21, 4, 46, 79, 132, 5, 1]
abbrev dktX4_greatestDepth_3 : List UInt8 := dkwX4_greatestDepth_3 ++ dktX4_greatestDepth_4
def dkwX4_greatestDepth_2 : List UInt8 := [21, 4, 104, 21, 5, 96, 46, 46, 96, 54, 6, 42, 180, 0, 69, 21, 4, 21, 6, 42, 180, 0, 69]
abbrev dktX4_greatestDepth_2 : List UInt8 := dkwX4_greatestDepth_2 ++ dktX4_greatestDepth_3
def dkwX4_greatestDepth_1 : List UInt8 := [54, 5, 21, 5, 42, 180, 0, 38, 21, 4, 46, 162, 0, 61, 4, 42, 180, 0, 69, 42, 180, 0, 41, 8]
abbrev dktX4_greatestDepth_1 : List UInt8 := dkwX4_greatestDepth_1 ++ dktX4_greatestDepth_2
def dkwX4_greatestDepth_0 : List UInt8 := [3, 62, 3, 54, 4, 21, 4, 42, 180, 0, 128, 162, 0, 162, 42, 180, 0, 69, 21, 4, 4, 79, 3]
abbrev dktX4_greatestDepth_0 : List UInt8 := dkwX4_greatestDepth_0 ++ dktX4_greatestDepth_1
theorem dksX4_greatestDepth_0 : cX4_greatestDepth.data.toList.drop 0 = dktX4_greatestDepth_0 := by decide +kernel
theorem dksX4_greatestDepth_1 : cX4_greatestDepth.data.toList.drop 23 = dktX4_greatestDepth_1 := dk_seg dksX4_greatestDepth_0 23 rfl rfl
theorem dksX4_greatestDepth_2 : cX4_greatestDepth.data.toList.drop 47 = dktX4_greatestDepth_2 := dk_seg dksX4_greatestDepth_1 24 rfl rfl
theorem dksX4_greatestDepth_3 : cX4_greatestDepth.data.toList.drop 70 = dktX4_greatestDepth_3 := dk_seg dksX4_greatestDepth_2 23 rfl rfl
theorem dksX4_greatestDepth_4 : cX4_greatestDepth.data.toList.drop 92 = dktX4_greatestDepth_4 := dk_seg dksX4_greatestDepth_3 22 rfl rfl
theorem dksX4_greatestDepth_5 : cX4_greatestDepth.data.toList.drop 116 = dktX4_greatestDepth_5 := dk_seg dksX4_greatestDepth_4 24 rfl rfl
theorem dksX4_greatestDepth_6 : cX4_greatestDepth.data.toList.drop 140 = dktX4_greatestDepth_6 := dk_seg dksX4_greatestDepth_5 24 rfl rfl
theorem dksX4_greatestDepth_7 : cX4_greatestDepth.data.toList.drop 162 = dktX4_greatestDepth_7 := dk_seg dksX4_greatestDepth_6 22 rfl rfl
theorem dX4_greatestDepth_0 : decode cX4_greatestDepth 0 = .ok (.iconst 0, 1) := dk_3 (dk_at dksX4_greatestDepth_0 0 rfl rfl)
theorem dX4_greatestDepth_1 : decode cX4_greatestDepth 1 = .ok (.istore_n 3, 1) := dk_62 (dk_at dksX4_greatestDepth_0 1 rfl rfl)
theorem dX4_greatestDepth_2 : decode cX4_greatestDepth 2 = .ok (.iconst 0, 1) := dk_3 (dk_at dksX4_greatestDepth_0 2 rfl rfl)
theorem dX4_greatestDepth_3 : decode cX4_greatestDepth 3 = .ok (.istore 4, 2) := dk_54 4 (dk_at dksX4_greatestDepth_0 3 rfl rfl)
theorem dX4_greatestDepth_5 : decode cX4_greatestDepth 5 = .ok (.iload 4, 2) := dk_21 4 (dk_at dksX4_greatestDepth_0 5 rfl rfl)
theorem dX4_greatestDepth_7 : decode cX4_greatestDepth 7 = .ok (.aload_n 0, 1) := dk_42 (dk_at dksX4_greatestDepth_0 7 rfl rfl)
theorem dX4_greatestDepth_8 : decode cX4_greatestDepth 8 = .ok (.getfield 128, 3) := dk_180 0 128 (dk_at dksX4_greatestDepth_0 8 rfl rfl)
theorem dX4_greatestDepth_11 : decode cX4_greatestDepth 11 = .ok (.if_icmp .ge 162, 3) := dk_162 0 162 (dk_at dksX4_greatestDepth_0 11 rfl rfl)
theorem dX4_greatestDepth_14 : decode cX4_greatestDepth 14 = .ok (.aload_n 0, 1) := dk_42 (dk_at dksX4_greatestDepth_0 14 rfl rfl)
theorem dX4_greatestDepth_15 : decode cX4_greatestDepth 15 = .ok (.getfield 69, 3) := dk_180 0 69 (dk_at dksX4_greatestDepth_0 15 rfl rfl)
theorem dX4_greatestDepth_18 : decode cX4_greatestDepth 18 = .ok (.iload 4, 2) := dk_21 4 (dk_at dksX4_greatestDepth_0 18 rfl rfl)
theorem dX4_greatestDepth_20 : decode cX4_greatestDepth 20 = .ok (.iconst 1, 1) := dk_4 (dk_at dksX4_greatestDepth_0 20 rfl rfl)
theorem dX4_greatestDepth_21 : decode cX4_greatestDepth 21 = .ok (.iastore, 1) := dk_79 (dk_at dksX4_greatestDepth_0 21 rfl rfl)
theorem dX4_greatestDepth_22 : decode cX4_greatestDepth 22 = .ok (.iconst 0, 1) := dk_3 (dk_at dksX4_greatestDepth_0 22 rfl rfl)
theorem dX4_greatestDepth_23 : decode cX4_greatestDepth 23 = .ok (.istore 5, 2) := dk_54 5 (dk_at dksX4_greatestDepth_1 0 rfl rfl)
theorem dX4_greatestDepth_25 : decode cX4_greatestDepth 25 = .ok (.iload 5, 2) := dk_21 5 (dk_at dksX4_greatestDepth_1 2 rfl rfl)
theorem dX4_greatestDepth_27 : decode cX4_greatestDepth 27 = .ok (.aload_n 0, 1) := dk_42 (dk_at dksX4_greatestDepth_1 4 rfl rfl)
theorem dX4_greatestDepth_28 : decode cX4_greatestDepth 28 = .ok (.getfield 38, 3) := dk_180 0 38 (dk_at dksX4_greatestDepth_1 5 rfl rfl)
theorem dX4_greatestDepth_31 : decode cX4_greatestDepth 31 = .ok (.iload 4, 2) := dk_21 4 (dk_at dksX4_greatestDepth_1 8 rfl rfl)
theorem dX4_greatestDepth_33 : decode cX4_greatestDepth 33 = .ok (.iaload, 1) := dk_46 (dk_at dksX4_greatestDepth_1 10 rfl rfl)
theorem dX4_greatestDepth_34 : decode cX4_greatestDepth 34 = .ok (.if_icmp .ge 61, 3) := dk_162 0 61 (dk_at dksX4_greatestDepth_1 11 rfl rfl)
theorem dX4_greatestDepth_37 : decode cX4_greatestDepth 37 = .ok (.iconst 1, 1) := dk_4 (dk_at dksX4_greatestDepth_1 14 rfl rfl)
theorem dX4_greatestDepth_38 : decode cX4_greatestDepth 38 = .ok (.aload_n 0, 1) := dk_42 (dk_at dksX4_greatestDepth_1 15 rfl rfl)
theorem dX4_greatestDepth_39 : decode cX4_greatestDepth 39 = .ok (.getfield 69, 3) := dk_180 0 69 (dk_at dksX4_greatestDepth_1 16 rfl rfl)
theorem dX4_greatestDepth_42 : decode cX4_greatestDepth 42 = .ok (.aload_n 0, 1) := dk_42 (dk_at dksX4_greatestDepth_1 19 rfl rfl)
theorem dX4_greatestDepth_43 : decode cX4_greatestDepth 43 = .ok (.getfield 41, 3) := dk_180 0 41 (dk_at dksX4_greatestDepth_1 20 rfl rfl)
theorem dX4_greatestDepth_46 : decode cX4_greatestDepth 46 = .ok (.iconst 5, 1) := dk_8 (dk_at dksX4_greatestDepth_1 23 rfl rfl)
theorem dX4_greatestDepth_47 : decode cX4_greatestDepth 47 = .ok (.iload 4, 2) := dk_21 4 (dk_at dksX4_greatestDepth_2 0 rfl rfl)
theorem dX4_greatestDepth_49 : decode cX4_greatestDepth 49 = .ok (.imul, 1) := dk_104 (dk_at dksX4_greatestDepth_2 2 rfl rfl)
theorem dX4_greatestDepth_50 : decode cX4_greatestDepth 50 = .ok (.iload 5, 2) := dk_21 5 (dk_at dksX4_greatestDepth_2 3 rfl rfl)
theorem dX4_greatestDepth_52 : decode cX4_greatestDepth 52 = .ok (.iadd, 1) := dk_96 (dk_at dksX4_greatestDepth_2 5 rfl rfl)
theorem dX4_greatestDepth_53 : decode cX4_greatestDepth 53 = .ok (.iaload, 1) := dk_46 (dk_at dksX4_greatestDepth_2 6 rfl rfl)
theorem dX4_greatestDepth_54 : decode cX4_greatestDepth 54 = .ok (.iaload, 1) := dk_46 (dk_at dksX4_greatestDepth_2 7 rfl rfl)
theorem dX4_greatestDepth_55 : decode cX4_greatestDepth 55 = .ok (.iadd, 1) := dk_96 (dk_at dksX4_greatestDepth_2 8 rfl rfl)
theorem dX4_greatestDepth_56 : decode cX4_greatestDepth 56 = .ok (.istore 6, 2) := dk_54 6 (dk_at dksX4_greatestDepth_2 9 rfl rfl)
theorem dX4_greatestDepth_58 : decode cX4_greatestDepth 58 = .ok (.aload_n 0, 1) := dk_42 (dk_at dksX4_greatestDepth_2 11 rfl rfl)
theorem dX4_greatestDepth_59 : decode cX4_greatestDepth 59 = .ok (.getfield 69, 3) := dk_180 0 69 (dk_at dksX4_greatestDepth_2 12 rfl rfl)
theorem dX4_greatestDepth_62 : decode cX4_greatestDepth 62 = .ok (.iload 4, 2) := dk_21 4 (dk_at dksX4_greatestDepth_2 15 rfl rfl)
theorem dX4_greatestDepth_64 : decode cX4_greatestDepth 64 = .ok (.iload 6, 2) := dk_21 6 (dk_at dksX4_greatestDepth_2 17 rfl rfl)
theorem dX4_greatestDepth_66 : decode cX4_greatestDepth 66 = .ok (.aload_n 0, 1) := dk_42 (dk_at dksX4_greatestDepth_2 19 rfl rfl)
theorem dX4_greatestDepth_67 : decode cX4_greatestDepth 67 = .ok (.getfield 69, 3) := dk_180 0 69 (dk_at dksX4_greatestDepth_2 20 rfl rfl)
theorem dX4_greatestDepth_70 : decode cX4_greatestDepth 70 = .ok (.iload 4, 2) := dk_21 4 (dk_at dksX4_greatestDepth_3 0 rfl rfl)
theorem dX4_greatestDepth_72 : decode cX4_greatestDepth 72 = .ok (.iaload, 1) := dk_46 (dk_at dksX4_greatestDepth_3 2 rfl rfl)
theorem dX4_greatestDepth_73 : decode cX4_greatestDepth 73 = .ok (.if_icmp .le 8, 3) := dk_164 0 8 (dk_at dksX4_greatestDepth_3 3 rfl rfl)
theorem dX4_greatestDepth_76 : decode cX4_greatestDepth 76 = .ok (.iload 6, 2) := dk_21 6 (dk_at dksX4_greatestDepth_3 6 rfl rfl)
theorem dX4_greatestDepth_78 : decode cX4_greatestDepth 78 = .ok (.goto 10, 3) := dk_167 0 10 (dk_at dksX4_greatestDepth_3 8 rfl rfl)
theorem dX4_greatestDepth_81 : decode cX4_greatestDepth 81 = .ok (.aload_n 0, 1) := dk_42 (dk_at dksX4_greatestDepth_3 11 rfl rfl)
theorem dX4_greatestDepth_82 : decode cX4_greatestDepth 82 = .ok (.getfield 69, 3) := dk_180 0 69 (dk_at dksX4_greatestDepth_3 12 rfl rfl)
theorem dX4_greatestDepth_85 : decode cX4_greatestDepth 85 = .ok (.iload 4, 2) := dk_21 4 (dk_at dksX4_greatestDepth_3 15 rfl rfl)
theorem dX4_greatestDepth_87 : decode cX4_greatestDepth 87 = .ok (.iaload, 1) := dk_46 (dk_at dksX4_greatestDepth_3 17 rfl rfl)
theorem dX4_greatestDepth_88 : decode cX4_greatestDepth 88 = .ok (.iastore, 1) := dk_79 (dk_at dksX4_greatestDepth_3 18 rfl rfl)
theorem dX4_greatestDepth_89 : decode cX4_greatestDepth 89 = .ok (.iinc 5 1, 3) := dk_132 5 1 (dk_at dksX4_greatestDepth_3 19 rfl rfl)
theorem dX4_greatestDepth_92 : decode cX4_greatestDepth 92 = .ok (.goto (-67), 3) := dk_167 255 189 (dk_at dksX4_greatestDepth_4 0 rfl rfl)
theorem dX4_greatestDepth_95 : decode cX4_greatestDepth 95 = .ok (.aload_n 0, 1) := dk_42 (dk_at dksX4_greatestDepth_4 3 rfl rfl)
theorem dX4_greatestDepth_96 : decode cX4_greatestDepth 96 = .ok (.getfield 69, 3) := dk_180 0 69 (dk_at dksX4_greatestDepth_4 4 rfl rfl)
theorem dX4_greatestDepth_99 : decode cX4_greatestDepth 99 = .ok (.iload 4, 2) := dk_21 4 (dk_at dksX4_greatestDepth_4 7 rfl rfl)
theorem dX4_greatestDepth_101 : decode cX4_greatestDepth 101 = .ok (.iload 4, 2) := dk_21 4 (dk_at dksX4_greatestDepth_4 9 rfl rfl)
theorem dX4_greatestDepth_103 : decode cX4_greatestDepth 103 = .ok (.iload_n 1, 1) := dk_27 (dk_at dksX4_greatestDepth_4 11 rfl rfl)
theorem dX4_greatestDepth_104 : decode cX4_greatestDepth 104 = .ok (.if_icmp .ne 32, 3) := dk_160 0 32 (dk_at dksX4_greatestDepth_4 12 rfl rfl)
theorem dX4_greatestDepth_107 : decode cX4_greatestDepth 107 = .ok (.iconst 1, 1) := dk_4 (dk_at dksX4_greatestDepth_4 15 rfl rfl)
theorem dX4_greatestDepth_108 : decode cX4_greatestDepth 108 = .ok (.aload_n 0, 1) := dk_42 (dk_at dksX4_greatestDepth_4 16 rfl rfl)
theorem dX4_greatestDepth_109 : decode cX4_greatestDepth 109 = .ok (.getfield 69, 3) := dk_180 0 69 (dk_at dksX4_greatestDepth_4 17 rfl rfl)
theorem dX4_greatestDepth_112 : decode cX4_greatestDepth 112 = .ok (.iload_n 2, 1) := dk_28 (dk_at dksX4_greatestDepth_4 20 rfl rfl)
theorem dX4_greatestDepth_113 : decode cX4_greatestDepth 113 = .ok (.iaload, 1) := dk_46 (dk_at dksX4_greatestDepth_4 21 rfl rfl)
theorem dX4_greatestDepth_114 : decode cX4_greatestDepth 114 = .ok (.iadd, 1) := dk_96 (dk_at dksX4_greatestDepth_4 22 rfl rfl)
theorem dX4_greatestDepth_115 : decode cX4_greatestDepth 115 = .ok (.aload_n 0, 1) := dk_42 (dk_at dksX4_greatestDepth_4 23 rfl rfl)
theorem dX4_greatestDepth_116 : decode cX4_greatestDepth 116 = .ok (.getfield 69, 3) := dk_180 0 69 (dk_at dksX4_greatestDepth_5 0 rfl rfl)
theorem dX4_greatestDepth_119 : decode cX4_greatestDepth 119 = .ok (.iload 4, 2) := dk_21 4 (dk_at dksX4_greatestDepth_5 3 rfl rfl)
theorem dX4_greatestDepth_121 : decode cX4_greatestDepth 121 = .ok (.iaload, 1) := dk_46 (dk_at dksX4_greatestDepth_5 5 rfl rfl)
theorem dX4_greatestDepth_122 : decode cX4_greatestDepth 122 = .ok (.if_icmp .le 14, 3) := dk_164 0 14 (dk_at dksX4_greatestDepth_5 6 rfl rfl)
theorem dX4_greatestDepth_125 : decode cX4_greatestDepth 125 = .ok (.iconst 1, 1) := dk_4 (dk_at dksX4_greatestDepth_5 9 rfl rfl)
theorem dX4_greatestDepth_126 : decode cX4_greatestDepth 126 = .ok (.aload_n 0, 1) := dk_42 (dk_at dksX4_greatestDepth_5 10 rfl rfl)
theorem dX4_greatestDepth_127 : decode cX4_greatestDepth 127 = .ok (.getfield 69, 3) := dk_180 0 69 (dk_at dksX4_greatestDepth_5 11 rfl rfl)
theorem dX4_greatestDepth_130 : decode cX4_greatestDepth 130 = .ok (.iload_n 2, 1) := dk_28 (dk_at dksX4_greatestDepth_5 14 rfl rfl)
theorem dX4_greatestDepth_131 : decode cX4_greatestDepth 131 = .ok (.iaload, 1) := dk_46 (dk_at dksX4_greatestDepth_5 15 rfl rfl)
theorem dX4_greatestDepth_132 : decode cX4_greatestDepth 132 = .ok (.iadd, 1) := dk_96 (dk_at dksX4_greatestDepth_5 16 rfl rfl)
theorem dX4_greatestDepth_133 : decode cX4_greatestDepth 133 = .ok (.goto 10, 3) := dk_167 0 10 (dk_at dksX4_greatestDepth_5 17 rfl rfl)
theorem dX4_greatestDepth_136 : decode cX4_greatestDepth 136 = .ok (.aload_n 0, 1) := dk_42 (dk_at dksX4_greatestDepth_5 20 rfl rfl)
theorem dX4_greatestDepth_137 : decode cX4_greatestDepth 137 = .ok (.getfield 69, 3) := dk_180 0 69 (dk_at dksX4_greatestDepth_5 21 rfl rfl)
theorem dX4_greatestDepth_140 : decode cX4_greatestDepth 140 = .ok (.iload 4, 2) := dk_21 4 (dk_at dksX4_greatestDepth_6 0 rfl rfl)
theorem dX4_greatestDepth_142 : decode cX4_greatestDepth 142 = .ok (.iaload, 1) := dk_46 (dk_at dksX4_greatestDepth_6 2 rfl rfl)
theorem dX4_greatestDepth_143 : decode cX4_greatestDepth 143 = .ok (.iastore, 1) := dk_79 (dk_at dksX4_greatestDepth_6 3 rfl rfl)
theorem dX4_greatestDepth_144 : decode cX4_greatestDepth 144 = .ok (.aload_n 0, 1) := dk_42 (dk_at dksX4_greatestDepth_6 4 rfl rfl)
theorem dX4_greatestDepth_145 : decode cX4_greatestDepth 145 = .ok (.getfield 69, 3) := dk_180 0 69 (dk_at dksX4_greatestDepth_6 5 rfl rfl)
theorem dX4_greatestDepth_148 : decode cX4_greatestDepth 148 = .ok (.iload 4, 2) := dk_21 4 (dk_at dksX4_greatestDepth_6 8 rfl rfl)
theorem dX4_greatestDepth_150 : decode cX4_greatestDepth 150 = .ok (.iaload, 1) := dk_46 (dk_at dksX4_greatestDepth_6 10 rfl rfl)
theorem dX4_greatestDepth_151 : decode cX4_greatestDepth 151 = .ok (.iload_n 3, 1) := dk_29 (dk_at dksX4_greatestDepth_6 11 rfl rfl)
theorem dX4_greatestDepth_152 : decode cX4_greatestDepth 152 = .ok (.if_icmp .le 13, 3) := dk_164 0 13 (dk_at dksX4_greatestDepth_6 12 rfl rfl)
theorem dX4_greatestDepth_155 : decode cX4_greatestDepth 155 = .ok (.aload_n 0, 1) := dk_42 (dk_at dksX4_greatestDepth_6 15 rfl rfl)
theorem dX4_greatestDepth_156 : decode cX4_greatestDepth 156 = .ok (.getfield 69, 3) := dk_180 0 69 (dk_at dksX4_greatestDepth_6 16 rfl rfl)
theorem dX4_greatestDepth_159 : decode cX4_greatestDepth 159 = .ok (.iload 4, 2) := dk_21 4 (dk_at dksX4_greatestDepth_6 19 rfl rfl)
theorem dX4_greatestDepth_161 : decode cX4_greatestDepth 161 = .ok (.iaload, 1) := dk_46 (dk_at dksX4_greatestDepth_6 21 rfl rfl)
theorem dX4_greatestDepth_162 : decode cX4_greatestDepth 162 = .ok (.goto 4, 3) := dk_167 0 4 (dk_at dksX4_greatestDepth_7 0 rfl rfl)
theorem dX4_greatestDepth_165 : decode cX4_greatestDepth 165 = .ok (.iload_n 3, 1) := dk_29 (dk_at dksX4_greatestDepth_7 3 rfl rfl)
theorem dX4_greatestDepth_166 : decode cX4_greatestDepth 166 = .ok (.istore_n 3, 1) := dk_62 (dk_at dksX4_greatestDepth_7 4 rfl rfl)
theorem dX4_greatestDepth_167 : decode cX4_greatestDepth 167 = .ok (.iinc 4 1, 3) := dk_132 4 1 (dk_at dksX4_greatestDepth_7 5 rfl rfl)
theorem dX4_greatestDepth_170 : decode cX4_greatestDepth 170 = .ok (.goto (-165), 3) := dk_167 255 91 (dk_at dksX4_greatestDepth_7 8 rfl rfl)
theorem dX4_greatestDepth_173 : decode cX4_greatestDepth 173 = .ok (.iload_n 3, 1) := dk_29 (dk_at dksX4_greatestDepth_7 11 rfl rfl)
theorem dX4_greatestDepth_174 : decode cX4_greatestDepth 174 = .ok (.ireturn, 1) := dk_172 (dk_at dksX4_greatestDepth_7 12 rfl rfl)
abbrev cX4_addState : ByteArray := prog_19_method_21_code
def yX4_addState : MethodName := ⟨RX4, "addState", "(IIZI)I"⟩
def dkwX4_addState_6 : List UInt8 := [4, 100, 172]
abbrev dktX4_addState_6 : List UInt8 := dkwX4_addState_6 ++ []
def dkwX4_addState_5 : List UInt8 := [180, 0, 145, 4, 96, 181, 0, 145, 42, 180, 0, 145, 4, 160, 0, 7, 42, 182, 0, 152, 42, 180, 0, 145]
abbrev dktX4_addState_5 : List UInt8 := dkwX4_addState_5 ++ dktX4_addState_6
def dkwX4_addState_4 : List UInt8 := [42, 180, 0, 53, 42, 180, 0, 145, 29, 84, 42, 180, 0, 56, 42, 180, 0, 145, 21, 4, 79, 42, 89]
abbrev dktX4_addState_4 : List UInt8 := dkwX4_addState_4 ++ dktX4_addState_5
def dkwX4_addState_3 : List UInt8 := [182, 0, 103, 172, 42, 180, 0, 47, 42, 180, 0, 145, 27, 79, 42, 180, 0, 50, 42, 180, 0, 145, 28, 79]
abbrev dktX4_addState_3 : List UInt8 := dkwX4_addState_3 ++ dktX4_addState_4
def dkwX4_addState_2 : List UInt8 := [182, 0, 103, 172, 42, 27, 182, 0, 134, 153, 0, 12, 42, 180, 0, 145, 16, 10, 160, 0, 9, 42, 6]
abbrev dktX4_addState_2 : List UInt8 := dkwX4_addState_2 ++ dktX4_addState_3
def dkwX4_addState_1 : List UInt8 := [20, 0, 148, 184, 0, 99, 153, 0, 16, 21, 4, 133, 9, 20, 0, 150, 184, 0, 99, 154, 0, 9, 42, 5]
abbrev dktX4_addState_1 : List UInt8 := dkwX4_addState_1 ++ dktX4_addState_2
def dkwX4_addState_0 : List UInt8 := [42, 3, 181, 0, 94, 42, 27, 182, 0, 131, 154, 0, 9, 42, 4, 182, 0, 103, 172, 28, 133, 10]
abbrev dktX4_addState_0 : List UInt8 := dkwX4_addState_0 ++ dktX4_addState_1
theorem dksX4_addState_0 : cX4_addState.data.toList.drop 0 = dktX4_addState_0 := by decide +kernel
theorem dksX4_addState_1 : cX4_addState.data.toList.drop 22 = dktX4_addState_1 := dk_seg dksX4_addState_0 22 rfl rfl
theorem dksX4_addState_2 : cX4_addState.data.toList.drop 46 = dktX4_addState_2 := dk_seg dksX4_addState_1 24 rfl rfl
theorem dksX4_addState_3 : cX4_addState.data.toList.drop 69 = dktX4_addState_3 := dk_seg dksX4_addState_2 23 rfl rfl
theorem dksX4_addState_4 : cX4_addState.data.toList.drop 93 = dktX4_addState_4 := dk_seg dksX4_addState_3 24 rfl rfl
theorem dksX4_addState_5 : cX4_addState.data.toList.drop 116 = dktX4_addState_5 := dk_seg dksX4_addState_4 23 rfl rfl
theorem dksX4_addState_6 : cX4_addState.data.toList.drop 140 = dktX4_addState_6 := dk_seg dksX4_addState_5 24 rfl rfl
theorem dX4_addState_0 : decode cX4_addState 0 = .ok (.aload_n 0, 1) := dk_42 (dk_at dksX4_addState_0 0 rfl rfl)
theorem dX4_addState_1 : decode cX4_addState 1 = .ok (.iconst 0, 1) := dk_3 (dk_at dksX4_addState_0 1 rfl rfl)
theorem dX4_addState_2 : decode cX4_addState 2 = .ok (.putfield 94, 3) := dk_181 0 94 (dk_at dksX4_addState_0 2 rfl rfl)
theorem dX4_addState_5 : decode cX4_addState 5 = .ok (.aload_n 0, 1) := dk_42 (dk_at dksX4_addState_0 5 rfl rfl)
theorem dX4_addState_6 : decode cX4_addState 6 = .ok (.iload_n 1, 1) := dk_27 (dk_at dksX4_addState_0 6 rfl rfl)
theorem dX4_addState_7 : decode cX4_addState 7 = .ok (.invokevirtual 131, 3) := dk_182 0 131 (dk_at dksX4_addState_0 7 rfl rfl)
theorem dX4_addState_10 : decode cX4_addState 10 = .ok (.ifCond .ne 9, 3) := dk_154 0 9 (dk_at dksX4_addState_0 10 rfl rfl)
theorem dX4_addState_13 : decode cX4_addState 13 = .ok (.aload_n 0, 1) := dk_42 (dk_at dksX4_addState_0 13 rfl rfl)
theorem dX4_addState_14 : decode cX4_addState 14 = .ok (.iconst 1, 1) := dk_4 (dk_at dksX4_addState_0 14 rfl rfl)
theorem dX4_addState_15 : decode cX4_addState 15 = .ok (.invokevirtual 103, 3) := dk_182 0 103 (dk_at dksX4_addState_0 15 rfl rfl)
theorem dX4_addState_18 : decode cX4_addState 18 = .ok (.ireturn, 1) := dk_172 (dk_at dksX4_addState_0 18 rfl rfl)
theorem dX4_addState_19 : decode cX4_addState 19 = .ok (.iload_n 2, 1) := dk_28 (dk_at dksX4_addState_0 19 rfl rfl)
theorem dX4_addState_20 : decode cX4_addState 20 = .ok (.i2l, 1) := dk_133 (dk_at dksX4_addState_0 20 rfl rfl)
theorem dX4_addState_21 : decode cX4_addState 21 = .ok (.lconst 1, 1) := dk_10 (dk_at dksX4_addState_0 21 rfl rfl)
theorem dX4_addState_22 : decode cX4_addState 22 = .ok (.ldc2_w 148, 3) := dk_20 0 148 (dk_at dksX4_addState_1 0 rfl rfl)
theorem dX4_addState_25 : decode cX4_addState 25 = .ok (.invokestatic 99, 3) := dk_184 0 99 (dk_at dksX4_addState_1 3 rfl rfl)
theorem dX4_addState_28 : decode cX4_addState 28 = .ok (.ifCond .eq 16, 3) := dk_153 0 16 (dk_at dksX4_addState_1 6 rfl rfl)
theorem dX4_addState_31 : decode cX4_addState 31 = .ok (.iload 4, 2) := dk_21 4 (dk_at dksX4_addState_1 9 rfl rfl)
theorem dX4_addState_33 : decode cX4_addState 33 = .ok (.i2l, 1) := dk_133 (dk_at dksX4_addState_1 11 rfl rfl)
theorem dX4_addState_34 : decode cX4_addState 34 = .ok (.lconst 0, 1) := dk_9 (dk_at dksX4_addState_1 12 rfl rfl)
theorem dX4_addState_35 : decode cX4_addState 35 = .ok (.ldc2_w 150, 3) := dk_20 0 150 (dk_at dksX4_addState_1 13 rfl rfl)
theorem dX4_addState_38 : decode cX4_addState 38 = .ok (.invokestatic 99, 3) := dk_184 0 99 (dk_at dksX4_addState_1 16 rfl rfl)
theorem dX4_addState_41 : decode cX4_addState 41 = .ok (.ifCond .ne 9, 3) := dk_154 0 9 (dk_at dksX4_addState_1 19 rfl rfl)
theorem dX4_addState_44 : decode cX4_addState 44 = .ok (.aload_n 0, 1) := dk_42 (dk_at dksX4_addState_1 22 rfl rfl)
theorem dX4_addState_45 : decode cX4_addState 45 = .ok (.iconst 2, 1) := dk_5 (dk_at dksX4_addState_1 23 rfl rfl)
theorem dX4_addState_46 : decode cX4_addState 46 = .ok (.invokevirtual 103, 3) := dk_182 0 103 (dk_at dksX4_addState_2 0 rfl rfl)
theorem dX4_addState_49 : decode cX4_addState 49 = .ok (.ireturn, 1) := dk_172 (dk_at dksX4_addState_2 3 rfl rfl)
theorem dX4_addState_50 : decode cX4_addState 50 = .ok (.aload_n 0, 1) := dk_42 (dk_at dksX4_addState_2 4 rfl rfl)
theorem dX4_addState_51 : decode cX4_addState 51 = .ok (.iload_n 1, 1) := dk_27 (dk_at dksX4_addState_2 5 rfl rfl)
theorem dX4_addState_52 : decode cX4_addState 52 = .ok (.invokevirtual 134, 3) := dk_182 0 134 (dk_at dksX4_addState_2 6 rfl rfl)
theorem dX4_addState_55 : decode cX4_addState 55 = .ok (.ifCond .eq 12, 3) := dk_153 0 12 (dk_at dksX4_addState_2 9 rfl rfl)
theorem dX4_addState_58 : decode cX4_addState 58 = .ok (.aload_n 0, 1) := dk_42 (dk_at dksX4_addState_2 12 rfl rfl)
theorem dX4_addState_59 : decode cX4_addState 59 = .ok (.getfield 145, 3) := dk_180 0 145 (dk_at dksX4_addState_2 13 rfl rfl)
theorem dX4_addState_62 : decode cX4_addState 62 = .ok (.bipush 10, 2) := dk_16 10 (dk_at dksX4_addState_2 16 rfl rfl)
theorem dX4_addState_64 : decode cX4_addState 64 = .ok (.if_icmp .ne 9, 3) := dk_160 0 9 (dk_at dksX4_addState_2 18 rfl rfl)
theorem dX4_addState_67 : decode cX4_addState 67 = .ok (.aload_n 0, 1) := dk_42 (dk_at dksX4_addState_2 21 rfl rfl)
theorem dX4_addState_68 : decode cX4_addState 68 = .ok (.iconst 3, 1) := dk_6 (dk_at dksX4_addState_2 22 rfl rfl)
theorem dX4_addState_69 : decode cX4_addState 69 = .ok (.invokevirtual 103, 3) := dk_182 0 103 (dk_at dksX4_addState_3 0 rfl rfl)
theorem dX4_addState_72 : decode cX4_addState 72 = .ok (.ireturn, 1) := dk_172 (dk_at dksX4_addState_3 3 rfl rfl)
theorem dX4_addState_73 : decode cX4_addState 73 = .ok (.aload_n 0, 1) := dk_42 (dk_at dksX4_addState_3 4 rfl rfl)
theorem dX4_addState_74 : decode cX4_addState 74 = .ok (.getfield 47, 3) := dk_180 0 47 (dk_at dksX4_addState_3 5 rfl rfl)
theorem dX4_addState_77 : decode cX4_addState 77 = .ok (.aload_n 0, 1) := dk_42 (dk_at dksX4_addState_3 8 rfl rfl)
theorem dX4_addState_78 : decode cX4_addState 78 = .ok (.getfield 145, 3) := dk_180 0 145 (dk_at dksX4_addState_3 9 rfl rfl)
theorem dX4_addState_81 : decode cX4_addState 81 = .ok (.iload_n 1, 1) := dk_27 (dk_at dksX4_addState_3 12 rfl rfl)
theorem dX4_addState_82 : decode cX4_addState 82 = .ok (.iastore, 1) := dk_79 (dk_at dksX4_addState_3 13 rfl rfl)
theorem dX4_addState_83 : decode cX4_addState 83 = .ok (.aload_n 0, 1) := dk_42 (dk_at dksX4_addState_3 14 rfl rfl)
theorem dX4_addState_84 : decode cX4_addState 84 = .ok (.getfield 50, 3) := dk_180 0 50 (dk_at dksX4_addState_3 15 rfl rfl)
theorem dX4_addState_87 : decode cX4_addState 87 = .ok (.aload_n 0, 1) := dk_42 (dk_at dksX4_addState_3 18 rfl rfl)
theorem dX4_addState_88 : decode cX4_addState 88 = .ok (.getfield 145, 3) := dk_180 0 145 (dk_at dksX4_addState_3 19 rfl rfl)
theorem dX4_addState_91 : decode cX4_addState 91 = .ok (.iload_n 2, 1) := dk_28 (dk_at dksX4_addState_3 22 rfl rfl)
theorem dX4_addState_92 : decode cX4_addState 92 = .ok (.iastore, 1) := dk_79 (dk_at dksX4_addState_3 23 rfl rfl)
theorem dX4_addState_93 : decode cX4_addState 93 = .ok (.aload_n 0, 1) := dk_42 (dk_at dksX4_addState_4 0 rfl rfl)
theorem dX4_addState_94 : decode cX4_addState 94 = .ok (.getfield 53, 3) := dk_180 0 53 (dk_at dksX4_addState_4 1 rfl rfl)
theorem dX4_addState_97 : decode cX4_addState 97 = .ok (.aload_n 0, 1) := dk_42 (dk_at dksX4_addState_4 4 rfl rfl)
theorem dX4_addState_98 : decode cX4_addState 98 = .ok (.getfield 145, 3) := dk_180 0 145 (dk_at dksX4_addState_4 5 rfl rfl)
theorem dX4_addState_101 : decode cX4_addState 101 = .ok (.iload_n 3, 1) := dk_29 (dk_at dksX4_addState_4 8 rfl rfl)
theorem dX4_addState_102 : decode cX4_addState 102 = .ok (.bastore, 1) := dk_84 (dk_at dksX4_addState_4 9 rfl rfl)
theorem dX4_addState_103 : decode cX4_addState 103 = .ok (.aload_n 0, 1) := dk_42 (dk_at dksX4_addState_4 10 rfl rfl)
theorem dX4_addState_104 : decode cX4_addState 104 = .ok (.getfield 56, 3) := dk_180 0 56 (dk_at dksX4_addState_4 11 rfl rfl)
theorem dX4_addState_107 : decode cX4_addState 107 = .ok (.aload_n 0, 1) := dk_42 (dk_at dksX4_addState_4 14 rfl rfl)
theorem dX4_addState_108 : decode cX4_addState 108 = .ok (.getfield 145, 3) := dk_180 0 145 (dk_at dksX4_addState_4 15 rfl rfl)
theorem dX4_addState_111 : decode cX4_addState 111 = .ok (.iload 4, 2) := dk_21 4 (dk_at dksX4_addState_4 18 rfl rfl)
theorem dX4_addState_113 : decode cX4_addState 113 = .ok (.iastore, 1) := dk_79 (dk_at dksX4_addState_4 20 rfl rfl)
theorem dX4_addState_114 : decode cX4_addState 114 = .ok (.aload_n 0, 1) := dk_42 (dk_at dksX4_addState_4 21 rfl rfl)
theorem dX4_addState_115 : decode cX4_addState 115 = .ok (.dup, 1) := dk_89 (dk_at dksX4_addState_4 22 rfl rfl)
theorem dX4_addState_116 : decode cX4_addState 116 = .ok (.getfield 145, 3) := dk_180 0 145 (dk_at dksX4_addState_5 0 rfl rfl)
theorem dX4_addState_119 : decode cX4_addState 119 = .ok (.iconst 1, 1) := dk_4 (dk_at dksX4_addState_5 3 rfl rfl)
theorem dX4_addState_120 : decode cX4_addState 120 = .ok (.iadd, 1) := dk_96 (dk_at dksX4_addState_5 4 rfl rfl)
theorem dX4_addState_121 : decode cX4_addState 121 = .ok (.putfield 145, 3) := dk_181 0 145 (dk_at dksX4_addState_5 5 rfl rfl)
theorem dX4_addState_124 : decode cX4_addState 124 = .ok (.aload_n 0, 1) := dk_42 (dk_at dksX4_addState_5 8 rfl rfl)
theorem dX4_addState_125 : decode cX4_addState 125 = .ok (.getfield 145, 3) := dk_180 0 145 (dk_at dksX4_addState_5 9 rfl rfl)
theorem dX4_addState_128 : decode cX4_addState 128 = .ok (.iconst 1, 1) := dk_4 (dk_at dksX4_addState_5 12 rfl rfl)
theorem dX4_addState_129 : decode cX4_addState 129 = .ok (.if_icmp .ne 7, 3) := dk_160 0 7 (dk_at dksX4_addState_5 13 rfl rfl)
theorem dX4_addState_132 : decode cX4_addState 132 = .ok (.aload_n 0, 1) := dk_42 (dk_at dksX4_addState_5 16 rfl rfl)
theorem dX4_addState_133 : decode cX4_addState 133 = .ok (.invokevirtual 152, 3) := dk_182 0 152 (dk_at dksX4_addState_5 17 rfl rfl)
theorem dX4_addState_136 : decode cX4_addState 136 = .ok (.aload_n 0, 1) := dk_42 (dk_at dksX4_addState_5 20 rfl rfl)
theorem dX4_addState_137 : decode cX4_addState 137 = .ok (.getfield 145, 3) := dk_180 0 145 (dk_at dksX4_addState_5 21 rfl rfl)
theorem dX4_addState_140 : decode cX4_addState 140 = .ok (.iconst 1, 1) := dk_4 (dk_at dksX4_addState_6 0 rfl rfl)
theorem dX4_addState_141 : decode cX4_addState 141 = .ok (.isub, 1) := dk_100 (dk_at dksX4_addState_6 1 rfl rfl)
theorem dX4_addState_142 : decode cX4_addState 142 = .ok (.ireturn, 1) := dk_172 (dk_at dksX4_addState_6 2 rfl rfl)
abbrev cX4_begins : ByteArray := prog_19_method_22_code
def yX4_begins : MethodName := ⟨RX4, "begins", "()V"⟩
def dkwX4_begins_1 : List UInt8 := [42, 180, 0, 7, 16, 21, 3, 79, 42, 16, 12, 3, 3, 182, 0, 155, 177]
abbrev dktX4_begins_1 : List UInt8 := dkwX4_begins_1 ++ []
def dkwX4_begins_0 : List UInt8 := [42, 180, 0, 7, 16, 8, 3, 79, 42, 180, 0, 7, 16, 11, 3, 79, 42, 180, 0, 7, 16, 20, 3, 79]
abbrev dktX4_begins_0 : List UInt8 := dkwX4_begins_0 ++ dktX4_begins_1
theorem dksX4_begins_0 : cX4_begins.data.toList.drop 0 = dktX4_begins_0 := by decide +kernel
theorem dksX4_begins_1 : cX4_begins.data.toList.drop 24 = dktX4_begins_1 := dk_seg dksX4_begins_0 24 rfl rfl
theorem dX4_begins_0 : decode cX4_begins 0 = .ok (.aload_n 0, 1) := dk_42 (dk_at dksX4_begins_0 0 rfl rfl)
theorem dX4_begins_1 : decode cX4_begins 1 = .ok (.getfield 7, 3) := dk_180 0 7 (dk_at dksX4_begins_0 1 rfl rfl)
theorem dX4_begins_4 : decode cX4_begins 4 = .ok (.bipush 8, 2) := dk_16 8 (dk_at dksX4_begins_0 4 rfl rfl)
theorem dX4_begins_6 : decode cX4_begins 6 = .ok (.iconst 0, 1) := dk_3 (dk_at dksX4_begins_0 6 rfl rfl)
theorem dX4_begins_7 : decode cX4_begins 7 = .ok (.iastore, 1) := dk_79 (dk_at dksX4_begins_0 7 rfl rfl)
theorem dX4_begins_8 : decode cX4_begins 8 = .ok (.aload_n 0, 1) := dk_42 (dk_at dksX4_begins_0 8 rfl rfl)
theorem dX4_begins_9 : decode cX4_begins 9 = .ok (.getfield 7, 3) := dk_180 0 7 (dk_at dksX4_begins_0 9 rfl rfl)
theorem dX4_begins_12 : decode cX4_begins 12 = .ok (.bipush 11, 2) := dk_16 11 (dk_at dksX4_begins_0 12 rfl rfl)
theorem dX4_begins_14 : decode cX4_begins 14 = .ok (.iconst 0, 1) := dk_3 (dk_at dksX4_begins_0 14 rfl rfl)
theorem dX4_begins_15 : decode cX4_begins 15 = .ok (.iastore, 1) := dk_79 (dk_at dksX4_begins_0 15 rfl rfl)
theorem dX4_begins_16 : decode cX4_begins 16 = .ok (.aload_n 0, 1) := dk_42 (dk_at dksX4_begins_0 16 rfl rfl)
theorem dX4_begins_17 : decode cX4_begins 17 = .ok (.getfield 7, 3) := dk_180 0 7 (dk_at dksX4_begins_0 17 rfl rfl)
theorem dX4_begins_20 : decode cX4_begins 20 = .ok (.bipush 20, 2) := dk_16 20 (dk_at dksX4_begins_0 20 rfl rfl)
theorem dX4_begins_22 : decode cX4_begins 22 = .ok (.iconst 0, 1) := dk_3 (dk_at dksX4_begins_0 22 rfl rfl)
theorem dX4_begins_23 : decode cX4_begins 23 = .ok (.iastore, 1) := dk_79 (dk_at dksX4_begins_0 23 rfl rfl)
theorem dX4_begins_24 : decode cX4_begins 24 = .ok (.aload_n 0, 1) := dk_42 (dk_at dksX4_begins_1 0 rfl rfl)
theorem dX4_begins_25 : decode cX4_begins 25 = .ok (.getfield 7, 3) := dk_180 0 7 (dk_at dksX4_begins_1 1 rfl rfl)
theorem dX4_begins_28 : decode cX4_begins 28 = .ok (.bipush 21, 2) := dk_16 21 (dk_at dksX4_begins_1 4 rfl rfl)
theorem dX4_begins_30 : decode cX4_begins 30 = .ok (.iconst 0, 1) := dk_3 (dk_at dksX4_begins_1 6 rfl rfl)
theorem dX4_begins_31 : decode cX4_begins 31 = .ok (.iastore, 1) := dk_79 (dk_at dksX4_begins_1 7 rfl rfl)
theorem dX4_begins_32 : decode cX4_begins 32 = .ok (.aload_n 0, 1) := dk_42 (dk_at dksX4_begins_1 8 rfl rfl)
theorem dX4_begins_33 : decode cX4_begins 33 = .ok (.bipush 12, 2) := dk_16 12 (dk_at dksX4_begins_1 9 rfl rfl)
theorem dX4_begins_35 : decode cX4_begins 35 = .ok (.iconst 0, 1) := dk_3 (dk_at dksX4_begins_1 11 rfl rfl)
theorem dX4_begins_36 : decode cX4_begins 36 = .ok (.iconst 0, 1) := dk_3 (dk_at dksX4_begins_1 12 rfl rfl)
theorem dX4_begins_37 : decode cX4_begins 37 = .ok (.invokevirtual 155, 3) := dk_182 0 155 (dk_at dksX4_begins_1 13 rfl rfl)
theorem dX4_begins_40 : decode cX4_begins 40 = .ok (.return_, 1) := dk_177 (dk_at dksX4_begins_1 16 rfl rfl)
abbrev cX4_track : ByteArray := prog_19_method_23_code
def yX4_track : MethodName := ⟨RX4, "track", "(III)V"⟩
def dkwX4_track_1 : List UInt8 := [96, 29, 79, 42, 180, 0, 7, 27, 6, 96, 4, 79, 177]
abbrev dktX4_track_1 : List UInt8 := dkwX4_track_1 ++ []
def dkwX4_track_0 : List UInt8 := [42, 180, 0, 7, 27, 3, 96, 28, 79, 42, 180, 0, 7, 27, 4, 96, 3, 79, 42, 180, 0, 7, 27, 5]
abbrev dktX4_track_0 : List UInt8 := dkwX4_track_0 ++ dktX4_track_1
theorem dksX4_track_0 : cX4_track.data.toList.drop 0 = dktX4_track_0 := by decide +kernel
theorem dksX4_track_1 : cX4_track.data.toList.drop 24 = dktX4_track_1 := dk_seg dksX4_track_0 24 rfl rfl
theorem dX4_track_0 : decode cX4_track 0 = .ok (.aload_n 0, 1) := dk_42 (dk_at dksX4_track_0 0 rfl rfl)
theorem dX4_track_1 : decode cX4_track 1 = .ok (.getfield 7, 3) := dk_180 0 7 (dk_at dksX4_track_0 1 rfl rfl)
theorem dX4_track_4 : decode cX4_track 4 = .ok (.iload_n 1, 1) := dk_27 (dk_at dksX4_track_0 4 rfl rfl)
theorem dX4_track_5 : decode cX4_track 5 = .ok (.iconst 0, 1) := dk_3 (dk_at dksX4_track_0 5 rfl rfl)
theorem dX4_track_6 : decode cX4_track 6 = .ok (.iadd, 1) := dk_96 (dk_at dksX4_track_0 6 rfl rfl)
theorem dX4_track_7 : decode cX4_track 7 = .ok (.iload_n 2, 1) := dk_28 (dk_at dksX4_track_0 7 rfl rfl)
theorem dX4_track_8 : decode cX4_track 8 = .ok (.iastore, 1) := dk_79 (dk_at dksX4_track_0 8 rfl rfl)
theorem dX4_track_9 : decode cX4_track 9 = .ok (.aload_n 0, 1) := dk_42 (dk_at dksX4_track_0 9 rfl rfl)
theorem dX4_track_10 : decode cX4_track 10 = .ok (.getfield 7, 3) := dk_180 0 7 (dk_at dksX4_track_0 10 rfl rfl)
theorem dX4_track_13 : decode cX4_track 13 = .ok (.iload_n 1, 1) := dk_27 (dk_at dksX4_track_0 13 rfl rfl)
theorem dX4_track_14 : decode cX4_track 14 = .ok (.iconst 1, 1) := dk_4 (dk_at dksX4_track_0 14 rfl rfl)
theorem dX4_track_15 : decode cX4_track 15 = .ok (.iadd, 1) := dk_96 (dk_at dksX4_track_0 15 rfl rfl)
theorem dX4_track_16 : decode cX4_track 16 = .ok (.iconst 0, 1) := dk_3 (dk_at dksX4_track_0 16 rfl rfl)
theorem dX4_track_17 : decode cX4_track 17 = .ok (.iastore, 1) := dk_79 (dk_at dksX4_track_0 17 rfl rfl)
theorem dX4_track_18 : decode cX4_track 18 = .ok (.aload_n 0, 1) := dk_42 (dk_at dksX4_track_0 18 rfl rfl)
theorem dX4_track_19 : decode cX4_track 19 = .ok (.getfield 7, 3) := dk_180 0 7 (dk_at dksX4_track_0 19 rfl rfl)
theorem dX4_track_22 : decode cX4_track 22 = .ok (.iload_n 1, 1) := dk_27 (dk_at dksX4_track_0 22 rfl rfl)
theorem dX4_track_23 : decode cX4_track 23 = .ok (.iconst 2, 1) := dk_5 (dk_at dksX4_track_0 23 rfl rfl)
theorem dX4_track_24 : decode cX4_track 24 = .ok (.iadd, 1) := dk_96 (dk_at dksX4_track_1 0 rfl rfl)
theorem dX4_track_25 : decode cX4_track 25 = .ok (.iload_n 3, 1) := dk_29 (dk_at dksX4_track_1 1 rfl rfl)
theorem dX4_track_26 : decode cX4_track 26 = .ok (.iastore, 1) := dk_79 (dk_at dksX4_track_1 2 rfl rfl)
theorem dX4_track_27 : decode cX4_track 27 = .ok (.aload_n 0, 1) := dk_42 (dk_at dksX4_track_1 3 rfl rfl)
theorem dX4_track_28 : decode cX4_track 28 = .ok (.getfield 7, 3) := dk_180 0 7 (dk_at dksX4_track_1 4 rfl rfl)
theorem dX4_track_31 : decode cX4_track 31 = .ok (.iload_n 1, 1) := dk_27 (dk_at dksX4_track_1 7 rfl rfl)
theorem dX4_track_32 : decode cX4_track 32 = .ok (.iconst 3, 1) := dk_6 (dk_at dksX4_track_1 8 rfl rfl)
theorem dX4_track_33 : decode cX4_track 33 = .ok (.iadd, 1) := dk_96 (dk_at dksX4_track_1 9 rfl rfl)
theorem dX4_track_34 : decode cX4_track 34 = .ok (.iconst 1, 1) := dk_4 (dk_at dksX4_track_1 10 rfl rfl)
theorem dX4_track_35 : decode cX4_track 35 = .ok (.iastore, 1) := dk_79 (dk_at dksX4_track_1 11 rfl rfl)
theorem dX4_track_36 : decode cX4_track 36 = .ok (.return_, 1) := dk_177 (dk_at dksX4_track_1 12 rfl rfl)
abbrev cX4_addTransition : ByteArray := prog_19_method_26_code
def yX4_addTransition : MethodName := ⟨RX4, "addTransition", "(III)I"⟩
def dkwX4_addTransition_3 : List UInt8 := [182, 0, 167, 42, 180, 0, 159, 4, 100, 172]
abbrev dktX4_addTransition_3 : List UInt8 := dkwX4_addTransition_3 ++ []
def dkwX4_addTransition_2 : List UInt8 := [182, 0, 103, 172, 42, 180, 0, 159, 16, 24, 160, 0, 9, 42, 6, 182, 0, 103, 172, 42, 27, 28, 29]
abbrev dktX4_addTransition_2 : List UInt8 := dkwX4_addTransition_2 ++ dktX4_addTransition_3
def dkwX4_addTransition_1 : List UInt8 := [154, 0, 9, 42, 4, 182, 0, 103, 172, 29, 133, 9, 20, 0, 165, 184, 0, 99, 154, 0, 9, 42, 5]
abbrev dktX4_addTransition_1 : List UInt8 := dkwX4_addTransition_1 ++ dktX4_addTransition_2
def dkwX4_addTransition_0 : List UInt8 := [42, 3, 181, 0, 94, 27, 2, 159, 0, 11, 42, 27, 182, 0, 162, 153, 0, 11, 42, 28, 182, 0, 162]
abbrev dktX4_addTransition_0 : List UInt8 := dkwX4_addTransition_0 ++ dktX4_addTransition_1
theorem dksX4_addTransition_0 : cX4_addTransition.data.toList.drop 0 = dktX4_addTransition_0 := by decide +kernel
theorem dksX4_addTransition_1 : cX4_addTransition.data.toList.drop 23 = dktX4_addTransition_1 := dk_seg dksX4_addTransition_0 23 rfl rfl
theorem dksX4_addTransition_2 : cX4_addTransition.data.toList.drop 46 = dktX4_addTransition_2 := dk_seg dksX4_addTransition_1 23 rfl rfl
theorem dksX4_addTransition_3 : cX4_addTransition.data.toList.drop 69 = dktX4_addTransition_3 := dk_seg dksX4_addTransition_2 23 rfl rfl
theorem dX4_addTransition_0 : decode cX4_addTransition 0 = .ok (.aload_n 0, 1) := dk_42 (dk_at dksX4_addTransition_0 0 rfl rfl)
theorem dX4_addTransition_1 : decode cX4_addTransition 1 = .ok (.iconst 0, 1) := dk_3 (dk_at dksX4_addTransition_0 1 rfl rfl)
theorem dX4_addTransition_2 : decode cX4_addTransition 2 = .ok (.putfield 94, 3) := dk_181 0 94 (dk_at dksX4_addTransition_0 2 rfl rfl)
theorem dX4_addTransition_5 : decode cX4_addTransition 5 = .ok (.iload_n 1, 1) := dk_27 (dk_at dksX4_addTransition_0 5 rfl rfl)
theorem dX4_addTransition_6 : decode cX4_addTransition 6 = .ok (.iconst (-1), 1) := dk_2 (dk_at dksX4_addTransition_0 6 rfl rfl)
theorem dX4_addTransition_7 : decode cX4_addTransition 7 = .ok (.if_icmp .eq 11, 3) := dk_159 0 11 (dk_at dksX4_addTransition_0 7 rfl rfl)
theorem dX4_addTransition_10 : decode cX4_addTransition 10 = .ok (.aload_n 0, 1) := dk_42 (dk_at dksX4_addTransition_0 10 rfl rfl)
theorem dX4_addTransition_11 : decode cX4_addTransition 11 = .ok (.iload_n 1, 1) := dk_27 (dk_at dksX4_addTransition_0 11 rfl rfl)
theorem dX4_addTransition_12 : decode cX4_addTransition 12 = .ok (.invokevirtual 162, 3) := dk_182 0 162 (dk_at dksX4_addTransition_0 12 rfl rfl)
theorem dX4_addTransition_15 : decode cX4_addTransition 15 = .ok (.ifCond .eq 11, 3) := dk_153 0 11 (dk_at dksX4_addTransition_0 15 rfl rfl)
theorem dX4_addTransition_18 : decode cX4_addTransition 18 = .ok (.aload_n 0, 1) := dk_42 (dk_at dksX4_addTransition_0 18 rfl rfl)
theorem dX4_addTransition_19 : decode cX4_addTransition 19 = .ok (.iload_n 2, 1) := dk_28 (dk_at dksX4_addTransition_0 19 rfl rfl)
theorem dX4_addTransition_20 : decode cX4_addTransition 20 = .ok (.invokevirtual 162, 3) := dk_182 0 162 (dk_at dksX4_addTransition_0 20 rfl rfl)
theorem dX4_addTransition_23 : decode cX4_addTransition 23 = .ok (.ifCond .ne 9, 3) := dk_154 0 9 (dk_at dksX4_addTransition_1 0 rfl rfl)
theorem dX4_addTransition_26 : decode cX4_addTransition 26 = .ok (.aload_n 0, 1) := dk_42 (dk_at dksX4_addTransition_1 3 rfl rfl)
theorem dX4_addTransition_27 : decode cX4_addTransition 27 = .ok (.iconst 1, 1) := dk_4 (dk_at dksX4_addTransition_1 4 rfl rfl)
theorem dX4_addTransition_28 : decode cX4_addTransition 28 = .ok (.invokevirtual 103, 3) := dk_182 0 103 (dk_at dksX4_addTransition_1 5 rfl rfl)
theorem dX4_addTransition_31 : decode cX4_addTransition 31 = .ok (.ireturn, 1) := dk_172 (dk_at dksX4_addTransition_1 8 rfl rfl)
theorem dX4_addTransition_32 : decode cX4_addTransition 32 = .ok (.iload_n 3, 1) := dk_29 (dk_at dksX4_addTransition_1 9 rfl rfl)
theorem dX4_addTransition_33 : decode cX4_addTransition 33 = .ok (.i2l, 1) := dk_133 (dk_at dksX4_addTransition_1 10 rfl rfl)
theorem dX4_addTransition_34 : decode cX4_addTransition 34 = .ok (.lconst 0, 1) := dk_9 (dk_at dksX4_addTransition_1 11 rfl rfl)
theorem dX4_addTransition_35 : decode cX4_addTransition 35 = .ok (.ldc2_w 165, 3) := dk_20 0 165 (dk_at dksX4_addTransition_1 12 rfl rfl)
theorem dX4_addTransition_38 : decode cX4_addTransition 38 = .ok (.invokestatic 99, 3) := dk_184 0 99 (dk_at dksX4_addTransition_1 15 rfl rfl)
theorem dX4_addTransition_41 : decode cX4_addTransition 41 = .ok (.ifCond .ne 9, 3) := dk_154 0 9 (dk_at dksX4_addTransition_1 18 rfl rfl)
theorem dX4_addTransition_44 : decode cX4_addTransition 44 = .ok (.aload_n 0, 1) := dk_42 (dk_at dksX4_addTransition_1 21 rfl rfl)
theorem dX4_addTransition_45 : decode cX4_addTransition 45 = .ok (.iconst 2, 1) := dk_5 (dk_at dksX4_addTransition_1 22 rfl rfl)
theorem dX4_addTransition_46 : decode cX4_addTransition 46 = .ok (.invokevirtual 103, 3) := dk_182 0 103 (dk_at dksX4_addTransition_2 0 rfl rfl)
theorem dX4_addTransition_49 : decode cX4_addTransition 49 = .ok (.ireturn, 1) := dk_172 (dk_at dksX4_addTransition_2 3 rfl rfl)
theorem dX4_addTransition_50 : decode cX4_addTransition 50 = .ok (.aload_n 0, 1) := dk_42 (dk_at dksX4_addTransition_2 4 rfl rfl)
theorem dX4_addTransition_51 : decode cX4_addTransition 51 = .ok (.getfield 159, 3) := dk_180 0 159 (dk_at dksX4_addTransition_2 5 rfl rfl)
theorem dX4_addTransition_54 : decode cX4_addTransition 54 = .ok (.bipush 24, 2) := dk_16 24 (dk_at dksX4_addTransition_2 8 rfl rfl)
theorem dX4_addTransition_56 : decode cX4_addTransition 56 = .ok (.if_icmp .ne 9, 3) := dk_160 0 9 (dk_at dksX4_addTransition_2 10 rfl rfl)
theorem dX4_addTransition_59 : decode cX4_addTransition 59 = .ok (.aload_n 0, 1) := dk_42 (dk_at dksX4_addTransition_2 13 rfl rfl)
theorem dX4_addTransition_60 : decode cX4_addTransition 60 = .ok (.iconst 3, 1) := dk_6 (dk_at dksX4_addTransition_2 14 rfl rfl)
theorem dX4_addTransition_61 : decode cX4_addTransition 61 = .ok (.invokevirtual 103, 3) := dk_182 0 103 (dk_at dksX4_addTransition_2 15 rfl rfl)
theorem dX4_addTransition_64 : decode cX4_addTransition 64 = .ok (.ireturn, 1) := dk_172 (dk_at dksX4_addTransition_2 18 rfl rfl)
theorem dX4_addTransition_65 : decode cX4_addTransition 65 = .ok (.aload_n 0, 1) := dk_42 (dk_at dksX4_addTransition_2 19 rfl rfl)
theorem dX4_addTransition_66 : decode cX4_addTransition 66 = .ok (.iload_n 1, 1) := dk_27 (dk_at dksX4_addTransition_2 20 rfl rfl)
theorem dX4_addTransition_67 : decode cX4_addTransition 67 = .ok (.iload_n 2, 1) := dk_28 (dk_at dksX4_addTransition_2 21 rfl rfl)
theorem dX4_addTransition_68 : decode cX4_addTransition 68 = .ok (.iload_n 3, 1) := dk_29 (dk_at dksX4_addTransition_2 22 rfl rfl)
theorem dX4_addTransition_69 : decode cX4_addTransition 69 = .ok (.invokevirtual 167, 3) := dk_182 0 167 (dk_at dksX4_addTransition_3 0 rfl rfl)
theorem dX4_addTransition_72 : decode cX4_addTransition 72 = .ok (.aload_n 0, 1) := dk_42 (dk_at dksX4_addTransition_3 3 rfl rfl)
theorem dX4_addTransition_73 : decode cX4_addTransition 73 = .ok (.getfield 159, 3) := dk_180 0 159 (dk_at dksX4_addTransition_3 4 rfl rfl)
theorem dX4_addTransition_76 : decode cX4_addTransition 76 = .ok (.iconst 1, 1) := dk_4 (dk_at dksX4_addTransition_3 7 rfl rfl)
theorem dX4_addTransition_77 : decode cX4_addTransition 77 = .ok (.isub, 1) := dk_100 (dk_at dksX4_addTransition_3 8 rfl rfl)
theorem dX4_addTransition_78 : decode cX4_addTransition 78 = .ok (.ireturn, 1) := dk_172 (dk_at dksX4_addTransition_3 9 rfl rfl)
abbrev cX4_isState : ByteArray := prog_19_method_20_code
def yX4_isState : MethodName := ⟨RX4, "isState", "(I)Z"⟩
def dkwX4_isState_0 : List UInt8 := [27, 133, 9, 42, 180, 0, 145, 4, 100, 133, 184, 0, 99, 172]
abbrev dktX4_isState_0 : List UInt8 := dkwX4_isState_0 ++ []
theorem dksX4_isState_0 : cX4_isState.data.toList.drop 0 = dktX4_isState_0 := by decide +kernel
theorem dX4_isState_0 : decode cX4_isState 0 = .ok (.iload_n 1, 1) := dk_27 (dk_at dksX4_isState_0 0 rfl rfl)
theorem dX4_isState_1 : decode cX4_isState 1 = .ok (.i2l, 1) := dk_133 (dk_at dksX4_isState_0 1 rfl rfl)
theorem dX4_isState_2 : decode cX4_isState 2 = .ok (.lconst 0, 1) := dk_9 (dk_at dksX4_isState_0 2 rfl rfl)
theorem dX4_isState_3 : decode cX4_isState 3 = .ok (.aload_n 0, 1) := dk_42 (dk_at dksX4_isState_0 3 rfl rfl)
theorem dX4_isState_4 : decode cX4_isState 4 = .ok (.getfield 145, 3) := dk_180 0 145 (dk_at dksX4_isState_0 4 rfl rfl)
theorem dX4_isState_7 : decode cX4_isState 7 = .ok (.iconst 1, 1) := dk_4 (dk_at dksX4_isState_0 7 rfl rfl)
theorem dX4_isState_8 : decode cX4_isState 8 = .ok (.isub, 1) := dk_100 (dk_at dksX4_isState_0 8 rfl rfl)
theorem dX4_isState_9 : decode cX4_isState 9 = .ok (.i2l, 1) := dk_133 (dk_at dksX4_isState_0 9 rfl rfl)
theorem dX4_isState_10 : decode cX4_isState 10 = .ok (.invokestatic 99, 3) := dk_184 0 99 (dk_at dksX4_isState_0 10 rfl rfl)
theorem dX4_isState_13 : decode cX4_isState 13 = .ok (.ireturn, 1) := dk_172 (dk_at dksX4_isState_0 13 rfl rfl)
abbrev cX4_newTransition : ByteArray := prog_19_method_25_code
def yX4_newTransition : MethodName := ⟨RX4, "newTransition", "(III)V"⟩
def dkwX4_newTransition_3 : List UInt8 := [21, 4, 6, 96, 2, 79, 42, 89, 180, 0, 159, 4, 96, 181, 0, 159, 177]
abbrev dktX4_newTransition_3 : List UInt8 := dkwX4_newTransition_3 ++ []
def dkwX4_newTransition_2 : List UInt8 := [180, 0, 59, 21, 4, 4, 96, 28, 79, 42, 180, 0, 59, 21, 4, 5, 96, 29, 79, 42, 180, 0, 59]
abbrev dktX4_newTransition_2 : List UInt8 := dkwX4_newTransition_2 ++ dktX4_newTransition_3
def dkwX4_newTransition_1 : List UInt8 := [21, 4, 21, 5, 96, 3, 79, 132, 5, 1, 167, 255, 235, 42, 180, 0, 59, 21, 4, 3, 96, 27, 79, 42]
abbrev dktX4_newTransition_1 : List UInt8 := dkwX4_newTransition_1 ++ dktX4_newTransition_2
def dkwX4_newTransition_0 : List UInt8 := [16, 17, 42, 180, 0, 159, 104, 54, 4, 3, 54, 5, 21, 5, 16, 17, 162, 0, 20, 42, 180, 0, 59]
abbrev dktX4_newTransition_0 : List UInt8 := dkwX4_newTransition_0 ++ dktX4_newTransition_1
theorem dksX4_newTransition_0 : cX4_newTransition.data.toList.drop 0 = dktX4_newTransition_0 := by decide +kernel
theorem dksX4_newTransition_1 : cX4_newTransition.data.toList.drop 23 = dktX4_newTransition_1 := dk_seg dksX4_newTransition_0 23 rfl rfl
theorem dksX4_newTransition_2 : cX4_newTransition.data.toList.drop 47 = dktX4_newTransition_2 := dk_seg dksX4_newTransition_1 24 rfl rfl
theorem dksX4_newTransition_3 : cX4_newTransition.data.toList.drop 70 = dktX4_newTransition_3 := dk_seg dksX4_newTransition_2 23 rfl rfl
theorem dX4_newTransition_0 : decode cX4_newTransition 0 = .ok (.bipush 17, 2) := dk_16 17 (dk_at dksX4_newTransition_0 0 rfl rfl)
theorem dX4_newTransition_2 : decode cX4_newTransition 2 = .ok (.aload_n 0, 1) := dk_42 (dk_at dksX4_newTransition_0 2 rfl rfl)
theorem dX4_newTransition_3 : decode cX4_newTransition 3 = .ok (.getfield 159, 3) := dk_180 0 159 (dk_at dksX4_newTransition_0 3 rfl rfl)
theorem dX4_newTransition_6 : decode cX4_newTransition 6 = .ok (.imul, 1) := dk_104 (dk_at dksX4_newTransition_0 6 rfl rfl)
theorem dX4_newTransition_7 : decode cX4_newTransition 7 = .ok (.istore 4, 2) := dk_54 4 (dk_at dksX4_newTransition_0 7 rfl rfl)
theorem dX4_newTransition_9 : decode cX4_newTransition 9 = .ok (.iconst 0, 1) := dk_3 (dk_at dksX4_newTransition_0 9 rfl rfl)
theorem dX4_newTransition_10 : decode cX4_newTransition 10 = .ok (.istore 5, 2) := dk_54 5 (dk_at dksX4_newTransition_0 10 rfl rfl)
theorem dX4_newTransition_12 : decode cX4_newTransition 12 = .ok (.iload 5, 2) := dk_21 5 (dk_at dksX4_newTransition_0 12 rfl rfl)
theorem dX4_newTransition_14 : decode cX4_newTransition 14 = .ok (.bipush 17, 2) := dk_16 17 (dk_at dksX4_newTransition_0 14 rfl rfl)
theorem dX4_newTransition_16 : decode cX4_newTransition 16 = .ok (.if_icmp .ge 20, 3) := dk_162 0 20 (dk_at dksX4_newTransition_0 16 rfl rfl)
theorem dX4_newTransition_19 : decode cX4_newTransition 19 = .ok (.aload_n 0, 1) := dk_42 (dk_at dksX4_newTransition_0 19 rfl rfl)
theorem dX4_newTransition_20 : decode cX4_newTransition 20 = .ok (.getfield 59, 3) := dk_180 0 59 (dk_at dksX4_newTransition_0 20 rfl rfl)
theorem dX4_newTransition_23 : decode cX4_newTransition 23 = .ok (.iload 4, 2) := dk_21 4 (dk_at dksX4_newTransition_1 0 rfl rfl)
theorem dX4_newTransition_25 : decode cX4_newTransition 25 = .ok (.iload 5, 2) := dk_21 5 (dk_at dksX4_newTransition_1 2 rfl rfl)
theorem dX4_newTransition_27 : decode cX4_newTransition 27 = .ok (.iadd, 1) := dk_96 (dk_at dksX4_newTransition_1 4 rfl rfl)
theorem dX4_newTransition_28 : decode cX4_newTransition 28 = .ok (.iconst 0, 1) := dk_3 (dk_at dksX4_newTransition_1 5 rfl rfl)
theorem dX4_newTransition_29 : decode cX4_newTransition 29 = .ok (.iastore, 1) := dk_79 (dk_at dksX4_newTransition_1 6 rfl rfl)
theorem dX4_newTransition_30 : decode cX4_newTransition 30 = .ok (.iinc 5 1, 3) := dk_132 5 1 (dk_at dksX4_newTransition_1 7 rfl rfl)
theorem dX4_newTransition_33 : decode cX4_newTransition 33 = .ok (.goto (-21), 3) := dk_167 255 235 (dk_at dksX4_newTransition_1 10 rfl rfl)
theorem dX4_newTransition_36 : decode cX4_newTransition 36 = .ok (.aload_n 0, 1) := dk_42 (dk_at dksX4_newTransition_1 13 rfl rfl)
theorem dX4_newTransition_37 : decode cX4_newTransition 37 = .ok (.getfield 59, 3) := dk_180 0 59 (dk_at dksX4_newTransition_1 14 rfl rfl)
theorem dX4_newTransition_40 : decode cX4_newTransition 40 = .ok (.iload 4, 2) := dk_21 4 (dk_at dksX4_newTransition_1 17 rfl rfl)
theorem dX4_newTransition_42 : decode cX4_newTransition 42 = .ok (.iconst 0, 1) := dk_3 (dk_at dksX4_newTransition_1 19 rfl rfl)
theorem dX4_newTransition_43 : decode cX4_newTransition 43 = .ok (.iadd, 1) := dk_96 (dk_at dksX4_newTransition_1 20 rfl rfl)
theorem dX4_newTransition_44 : decode cX4_newTransition 44 = .ok (.iload_n 1, 1) := dk_27 (dk_at dksX4_newTransition_1 21 rfl rfl)
theorem dX4_newTransition_45 : decode cX4_newTransition 45 = .ok (.iastore, 1) := dk_79 (dk_at dksX4_newTransition_1 22 rfl rfl)
theorem dX4_newTransition_46 : decode cX4_newTransition 46 = .ok (.aload_n 0, 1) := dk_42 (dk_at dksX4_newTransition_1 23 rfl rfl)
theorem dX4_newTransition_47 : decode cX4_newTransition 47 = .ok (.getfield 59, 3) := dk_180 0 59 (dk_at dksX4_newTransition_2 0 rfl rfl)
theorem dX4_newTransition_50 : decode cX4_newTransition 50 = .ok (.iload 4, 2) := dk_21 4 (dk_at dksX4_newTransition_2 3 rfl rfl)
theorem dX4_newTransition_52 : decode cX4_newTransition 52 = .ok (.iconst 1, 1) := dk_4 (dk_at dksX4_newTransition_2 5 rfl rfl)
theorem dX4_newTransition_53 : decode cX4_newTransition 53 = .ok (.iadd, 1) := dk_96 (dk_at dksX4_newTransition_2 6 rfl rfl)
theorem dX4_newTransition_54 : decode cX4_newTransition 54 = .ok (.iload_n 2, 1) := dk_28 (dk_at dksX4_newTransition_2 7 rfl rfl)
theorem dX4_newTransition_55 : decode cX4_newTransition 55 = .ok (.iastore, 1) := dk_79 (dk_at dksX4_newTransition_2 8 rfl rfl)
theorem dX4_newTransition_56 : decode cX4_newTransition 56 = .ok (.aload_n 0, 1) := dk_42 (dk_at dksX4_newTransition_2 9 rfl rfl)
theorem dX4_newTransition_57 : decode cX4_newTransition 57 = .ok (.getfield 59, 3) := dk_180 0 59 (dk_at dksX4_newTransition_2 10 rfl rfl)
theorem dX4_newTransition_60 : decode cX4_newTransition 60 = .ok (.iload 4, 2) := dk_21 4 (dk_at dksX4_newTransition_2 13 rfl rfl)
theorem dX4_newTransition_62 : decode cX4_newTransition 62 = .ok (.iconst 2, 1) := dk_5 (dk_at dksX4_newTransition_2 15 rfl rfl)
theorem dX4_newTransition_63 : decode cX4_newTransition 63 = .ok (.iadd, 1) := dk_96 (dk_at dksX4_newTransition_2 16 rfl rfl)
theorem dX4_newTransition_64 : decode cX4_newTransition 64 = .ok (.iload_n 3, 1) := dk_29 (dk_at dksX4_newTransition_2 17 rfl rfl)
theorem dX4_newTransition_65 : decode cX4_newTransition 65 = .ok (.iastore, 1) := dk_79 (dk_at dksX4_newTransition_2 18 rfl rfl)
theorem dX4_newTransition_66 : decode cX4_newTransition 66 = .ok (.aload_n 0, 1) := dk_42 (dk_at dksX4_newTransition_2 19 rfl rfl)
theorem dX4_newTransition_67 : decode cX4_newTransition 67 = .ok (.getfield 59, 3) := dk_180 0 59 (dk_at dksX4_newTransition_2 20 rfl rfl)
theorem dX4_newTransition_70 : decode cX4_newTransition 70 = .ok (.iload 4, 2) := dk_21 4 (dk_at dksX4_newTransition_3 0 rfl rfl)
theorem dX4_newTransition_72 : decode cX4_newTransition 72 = .ok (.iconst 3, 1) := dk_6 (dk_at dksX4_newTransition_3 2 rfl rfl)
theorem dX4_newTransition_73 : decode cX4_newTransition 73 = .ok (.iadd, 1) := dk_96 (dk_at dksX4_newTransition_3 3 rfl rfl)
theorem dX4_newTransition_74 : decode cX4_newTransition 74 = .ok (.iconst (-1), 1) := dk_2 (dk_at dksX4_newTransition_3 4 rfl rfl)
theorem dX4_newTransition_75 : decode cX4_newTransition 75 = .ok (.iastore, 1) := dk_79 (dk_at dksX4_newTransition_3 5 rfl rfl)
theorem dX4_newTransition_76 : decode cX4_newTransition 76 = .ok (.aload_n 0, 1) := dk_42 (dk_at dksX4_newTransition_3 6 rfl rfl)
theorem dX4_newTransition_77 : decode cX4_newTransition 77 = .ok (.dup, 1) := dk_89 (dk_at dksX4_newTransition_3 7 rfl rfl)
theorem dX4_newTransition_78 : decode cX4_newTransition 78 = .ok (.getfield 159, 3) := dk_180 0 159 (dk_at dksX4_newTransition_3 8 rfl rfl)
theorem dX4_newTransition_81 : decode cX4_newTransition 81 = .ok (.iconst 1, 1) := dk_4 (dk_at dksX4_newTransition_3 11 rfl rfl)
theorem dX4_newTransition_82 : decode cX4_newTransition 82 = .ok (.iadd, 1) := dk_96 (dk_at dksX4_newTransition_3 12 rfl rfl)
theorem dX4_newTransition_83 : decode cX4_newTransition 83 = .ok (.putfield 159, 3) := dk_181 0 159 (dk_at dksX4_newTransition_3 13 rfl rfl)
theorem dX4_newTransition_86 : decode cX4_newTransition 86 = .ok (.return_, 1) := dk_177 (dk_at dksX4_newTransition_3 16 rfl rfl)
abbrev cX4_setTiming : ByteArray := prog_19_method_28_code
def yX4_setTiming : MethodName := ⟨RX4, "setTiming", "(III)I"⟩
def dkwX4_setTiming_4 : List UInt8 := [180, 0, 59, 16, 17, 27, 104, 7, 96, 29, 79, 21, 4, 172]
abbrev dktX4_setTiming_4 : List UInt8 := dkwX4_setTiming_4 ++ []
def dkwX4_setTiming_3 : List UInt8 := [172, 42, 27, 6, 182, 0, 177, 54, 4, 42, 180, 0, 59, 16, 17, 27, 104, 6, 96, 28, 79, 42]
abbrev dktX4_setTiming_3 : List UInt8 := dkwX4_setTiming_3 ++ dktX4_setTiming_4
def dkwX4_setTiming_2 : List UInt8 := [182, 0, 103, 172, 28, 2, 159, 0, 19, 42, 27, 3, 182, 0, 177, 2, 160, 0, 9, 42, 6, 182, 0, 103]
abbrev dktX4_setTiming_2 : List UInt8 := dkwX4_setTiming_2 ++ dktX4_setTiming_3
def dkwX4_setTiming_1 : List UInt8 := [20, 0, 175, 184, 0, 99, 153, 0, 15, 29, 133, 9, 20, 0, 126, 184, 0, 99, 154, 0, 9, 42, 5]
abbrev dktX4_setTiming_1 : List UInt8 := dkwX4_setTiming_1 ++ dktX4_setTiming_2
def dkwX4_setTiming_0 : List UInt8 := [42, 3, 181, 0, 94, 42, 27, 182, 0, 170, 154, 0, 9, 42, 4, 182, 0, 103, 172, 28, 133, 20, 0, 173]
abbrev dktX4_setTiming_0 : List UInt8 := dkwX4_setTiming_0 ++ dktX4_setTiming_1
theorem dksX4_setTiming_0 : cX4_setTiming.data.toList.drop 0 = dktX4_setTiming_0 := by decide +kernel
theorem dksX4_setTiming_1 : cX4_setTiming.data.toList.drop 24 = dktX4_setTiming_1 := dk_seg dksX4_setTiming_0 24 rfl rfl
theorem dksX4_setTiming_2 : cX4_setTiming.data.toList.drop 47 = dktX4_setTiming_2 := dk_seg dksX4_setTiming_1 23 rfl rfl
theorem dksX4_setTiming_3 : cX4_setTiming.data.toList.drop 71 = dktX4_setTiming_3 := dk_seg dksX4_setTiming_2 24 rfl rfl
theorem dksX4_setTiming_4 : cX4_setTiming.data.toList.drop 93 = dktX4_setTiming_4 := dk_seg dksX4_setTiming_3 22 rfl rfl
theorem dX4_setTiming_0 : decode cX4_setTiming 0 = .ok (.aload_n 0, 1) := dk_42 (dk_at dksX4_setTiming_0 0 rfl rfl)
theorem dX4_setTiming_1 : decode cX4_setTiming 1 = .ok (.iconst 0, 1) := dk_3 (dk_at dksX4_setTiming_0 1 rfl rfl)
theorem dX4_setTiming_2 : decode cX4_setTiming 2 = .ok (.putfield 94, 3) := dk_181 0 94 (dk_at dksX4_setTiming_0 2 rfl rfl)
theorem dX4_setTiming_5 : decode cX4_setTiming 5 = .ok (.aload_n 0, 1) := dk_42 (dk_at dksX4_setTiming_0 5 rfl rfl)
theorem dX4_setTiming_6 : decode cX4_setTiming 6 = .ok (.iload_n 1, 1) := dk_27 (dk_at dksX4_setTiming_0 6 rfl rfl)
theorem dX4_setTiming_7 : decode cX4_setTiming 7 = .ok (.invokevirtual 170, 3) := dk_182 0 170 (dk_at dksX4_setTiming_0 7 rfl rfl)
theorem dX4_setTiming_10 : decode cX4_setTiming 10 = .ok (.ifCond .ne 9, 3) := dk_154 0 9 (dk_at dksX4_setTiming_0 10 rfl rfl)
theorem dX4_setTiming_13 : decode cX4_setTiming 13 = .ok (.aload_n 0, 1) := dk_42 (dk_at dksX4_setTiming_0 13 rfl rfl)
theorem dX4_setTiming_14 : decode cX4_setTiming 14 = .ok (.iconst 1, 1) := dk_4 (dk_at dksX4_setTiming_0 14 rfl rfl)
theorem dX4_setTiming_15 : decode cX4_setTiming 15 = .ok (.invokevirtual 103, 3) := dk_182 0 103 (dk_at dksX4_setTiming_0 15 rfl rfl)
theorem dX4_setTiming_18 : decode cX4_setTiming 18 = .ok (.ireturn, 1) := dk_172 (dk_at dksX4_setTiming_0 18 rfl rfl)
theorem dX4_setTiming_19 : decode cX4_setTiming 19 = .ok (.iload_n 2, 1) := dk_28 (dk_at dksX4_setTiming_0 19 rfl rfl)
theorem dX4_setTiming_20 : decode cX4_setTiming 20 = .ok (.i2l, 1) := dk_133 (dk_at dksX4_setTiming_0 20 rfl rfl)
theorem dX4_setTiming_21 : decode cX4_setTiming 21 = .ok (.ldc2_w 173, 3) := dk_20 0 173 (dk_at dksX4_setTiming_0 21 rfl rfl)
theorem dX4_setTiming_24 : decode cX4_setTiming 24 = .ok (.ldc2_w 175, 3) := dk_20 0 175 (dk_at dksX4_setTiming_1 0 rfl rfl)
theorem dX4_setTiming_27 : decode cX4_setTiming 27 = .ok (.invokestatic 99, 3) := dk_184 0 99 (dk_at dksX4_setTiming_1 3 rfl rfl)
theorem dX4_setTiming_30 : decode cX4_setTiming 30 = .ok (.ifCond .eq 15, 3) := dk_153 0 15 (dk_at dksX4_setTiming_1 6 rfl rfl)
theorem dX4_setTiming_33 : decode cX4_setTiming 33 = .ok (.iload_n 3, 1) := dk_29 (dk_at dksX4_setTiming_1 9 rfl rfl)
theorem dX4_setTiming_34 : decode cX4_setTiming 34 = .ok (.i2l, 1) := dk_133 (dk_at dksX4_setTiming_1 10 rfl rfl)
theorem dX4_setTiming_35 : decode cX4_setTiming 35 = .ok (.lconst 0, 1) := dk_9 (dk_at dksX4_setTiming_1 11 rfl rfl)
theorem dX4_setTiming_36 : decode cX4_setTiming 36 = .ok (.ldc2_w 126, 3) := dk_20 0 126 (dk_at dksX4_setTiming_1 12 rfl rfl)
theorem dX4_setTiming_39 : decode cX4_setTiming 39 = .ok (.invokestatic 99, 3) := dk_184 0 99 (dk_at dksX4_setTiming_1 15 rfl rfl)
theorem dX4_setTiming_42 : decode cX4_setTiming 42 = .ok (.ifCond .ne 9, 3) := dk_154 0 9 (dk_at dksX4_setTiming_1 18 rfl rfl)
theorem dX4_setTiming_45 : decode cX4_setTiming 45 = .ok (.aload_n 0, 1) := dk_42 (dk_at dksX4_setTiming_1 21 rfl rfl)
theorem dX4_setTiming_46 : decode cX4_setTiming 46 = .ok (.iconst 2, 1) := dk_5 (dk_at dksX4_setTiming_1 22 rfl rfl)
theorem dX4_setTiming_47 : decode cX4_setTiming 47 = .ok (.invokevirtual 103, 3) := dk_182 0 103 (dk_at dksX4_setTiming_2 0 rfl rfl)
theorem dX4_setTiming_50 : decode cX4_setTiming 50 = .ok (.ireturn, 1) := dk_172 (dk_at dksX4_setTiming_2 3 rfl rfl)
theorem dX4_setTiming_51 : decode cX4_setTiming 51 = .ok (.iload_n 2, 1) := dk_28 (dk_at dksX4_setTiming_2 4 rfl rfl)
theorem dX4_setTiming_52 : decode cX4_setTiming 52 = .ok (.iconst (-1), 1) := dk_2 (dk_at dksX4_setTiming_2 5 rfl rfl)
theorem dX4_setTiming_53 : decode cX4_setTiming 53 = .ok (.if_icmp .eq 19, 3) := dk_159 0 19 (dk_at dksX4_setTiming_2 6 rfl rfl)
theorem dX4_setTiming_56 : decode cX4_setTiming 56 = .ok (.aload_n 0, 1) := dk_42 (dk_at dksX4_setTiming_2 9 rfl rfl)
theorem dX4_setTiming_57 : decode cX4_setTiming 57 = .ok (.iload_n 1, 1) := dk_27 (dk_at dksX4_setTiming_2 10 rfl rfl)
theorem dX4_setTiming_58 : decode cX4_setTiming 58 = .ok (.iconst 0, 1) := dk_3 (dk_at dksX4_setTiming_2 11 rfl rfl)
theorem dX4_setTiming_59 : decode cX4_setTiming 59 = .ok (.invokevirtual 177, 3) := dk_182 0 177 (dk_at dksX4_setTiming_2 12 rfl rfl)
theorem dX4_setTiming_62 : decode cX4_setTiming 62 = .ok (.iconst (-1), 1) := dk_2 (dk_at dksX4_setTiming_2 15 rfl rfl)
theorem dX4_setTiming_63 : decode cX4_setTiming 63 = .ok (.if_icmp .ne 9, 3) := dk_160 0 9 (dk_at dksX4_setTiming_2 16 rfl rfl)
theorem dX4_setTiming_66 : decode cX4_setTiming 66 = .ok (.aload_n 0, 1) := dk_42 (dk_at dksX4_setTiming_2 19 rfl rfl)
theorem dX4_setTiming_67 : decode cX4_setTiming 67 = .ok (.iconst 3, 1) := dk_6 (dk_at dksX4_setTiming_2 20 rfl rfl)
theorem dX4_setTiming_68 : decode cX4_setTiming 68 = .ok (.invokevirtual 103, 3) := dk_182 0 103 (dk_at dksX4_setTiming_2 21 rfl rfl)
theorem dX4_setTiming_71 : decode cX4_setTiming 71 = .ok (.ireturn, 1) := dk_172 (dk_at dksX4_setTiming_3 0 rfl rfl)
theorem dX4_setTiming_72 : decode cX4_setTiming 72 = .ok (.aload_n 0, 1) := dk_42 (dk_at dksX4_setTiming_3 1 rfl rfl)
theorem dX4_setTiming_73 : decode cX4_setTiming 73 = .ok (.iload_n 1, 1) := dk_27 (dk_at dksX4_setTiming_3 2 rfl rfl)
theorem dX4_setTiming_74 : decode cX4_setTiming 74 = .ok (.iconst 3, 1) := dk_6 (dk_at dksX4_setTiming_3 3 rfl rfl)
theorem dX4_setTiming_75 : decode cX4_setTiming 75 = .ok (.invokevirtual 177, 3) := dk_182 0 177 (dk_at dksX4_setTiming_3 4 rfl rfl)
theorem dX4_setTiming_78 : decode cX4_setTiming 78 = .ok (.istore 4, 2) := dk_54 4 (dk_at dksX4_setTiming_3 7 rfl rfl)
theorem dX4_setTiming_80 : decode cX4_setTiming 80 = .ok (.aload_n 0, 1) := dk_42 (dk_at dksX4_setTiming_3 9 rfl rfl)
theorem dX4_setTiming_81 : decode cX4_setTiming 81 = .ok (.getfield 59, 3) := dk_180 0 59 (dk_at dksX4_setTiming_3 10 rfl rfl)
theorem dX4_setTiming_84 : decode cX4_setTiming 84 = .ok (.bipush 17, 2) := dk_16 17 (dk_at dksX4_setTiming_3 13 rfl rfl)
theorem dX4_setTiming_86 : decode cX4_setTiming 86 = .ok (.iload_n 1, 1) := dk_27 (dk_at dksX4_setTiming_3 15 rfl rfl)
theorem dX4_setTiming_87 : decode cX4_setTiming 87 = .ok (.imul, 1) := dk_104 (dk_at dksX4_setTiming_3 16 rfl rfl)
theorem dX4_setTiming_88 : decode cX4_setTiming 88 = .ok (.iconst 3, 1) := dk_6 (dk_at dksX4_setTiming_3 17 rfl rfl)
theorem dX4_setTiming_89 : decode cX4_setTiming 89 = .ok (.iadd, 1) := dk_96 (dk_at dksX4_setTiming_3 18 rfl rfl)
theorem dX4_setTiming_90 : decode cX4_setTiming 90 = .ok (.iload_n 2, 1) := dk_28 (dk_at dksX4_setTiming_3 19 rfl rfl)
theorem dX4_setTiming_91 : decode cX4_setTiming 91 = .ok (.iastore, 1) := dk_79 (dk_at dksX4_setTiming_3 20 rfl rfl)
theorem dX4_setTiming_92 : decode cX4_setTiming 92 = .ok (.aload_n 0, 1) := dk_42 (dk_at dksX4_setTiming_3 21 rfl rfl)
theorem dX4_setTiming_93 : decode cX4_setTiming 93 = .ok (.getfield 59, 3) := dk_180 0 59 (dk_at dksX4_setTiming_4 0 rfl rfl)
theorem dX4_setTiming_96 : decode cX4_setTiming 96 = .ok (.bipush 17, 2) := dk_16 17 (dk_at dksX4_setTiming_4 3 rfl rfl)
theorem dX4_setTiming_98 : decode cX4_setTiming 98 = .ok (.iload_n 1, 1) := dk_27 (dk_at dksX4_setTiming_4 5 rfl rfl)
theorem dX4_setTiming_99 : decode cX4_setTiming 99 = .ok (.imul, 1) := dk_104 (dk_at dksX4_setTiming_4 6 rfl rfl)
theorem dX4_setTiming_100 : decode cX4_setTiming 100 = .ok (.iconst 4, 1) := dk_7 (dk_at dksX4_setTiming_4 7 rfl rfl)
theorem dX4_setTiming_101 : decode cX4_setTiming 101 = .ok (.iadd, 1) := dk_96 (dk_at dksX4_setTiming_4 8 rfl rfl)
theorem dX4_setTiming_102 : decode cX4_setTiming 102 = .ok (.iload_n 3, 1) := dk_29 (dk_at dksX4_setTiming_4 9 rfl rfl)
theorem dX4_setTiming_103 : decode cX4_setTiming 103 = .ok (.iastore, 1) := dk_79 (dk_at dksX4_setTiming_4 10 rfl rfl)
theorem dX4_setTiming_104 : decode cX4_setTiming 104 = .ok (.iload 4, 2) := dk_21 4 (dk_at dksX4_setTiming_4 11 rfl rfl)
theorem dX4_setTiming_106 : decode cX4_setTiming 106 = .ok (.ireturn, 1) := dk_172 (dk_at dksX4_setTiming_4 13 rfl rfl)
abbrev cX4_isTransition : ByteArray := prog_19_method_27_code
def yX4_isTransition : MethodName := ⟨RX4, "isTransition", "(I)Z"⟩
def dkwX4_isTransition_0 : List UInt8 := [27, 133, 9, 42, 180, 0, 159, 4, 100, 133, 184, 0, 99, 172]
abbrev dktX4_isTransition_0 : List UInt8 := dkwX4_isTransition_0 ++ []
theorem dksX4_isTransition_0 : cX4_isTransition.data.toList.drop 0 = dktX4_isTransition_0 := by decide +kernel
theorem dX4_isTransition_0 : decode cX4_isTransition 0 = .ok (.iload_n 1, 1) := dk_27 (dk_at dksX4_isTransition_0 0 rfl rfl)
theorem dX4_isTransition_1 : decode cX4_isTransition 1 = .ok (.i2l, 1) := dk_133 (dk_at dksX4_isTransition_0 1 rfl rfl)
theorem dX4_isTransition_2 : decode cX4_isTransition 2 = .ok (.lconst 0, 1) := dk_9 (dk_at dksX4_isTransition_0 2 rfl rfl)
theorem dX4_isTransition_3 : decode cX4_isTransition 3 = .ok (.aload_n 0, 1) := dk_42 (dk_at dksX4_isTransition_0 3 rfl rfl)
theorem dX4_isTransition_4 : decode cX4_isTransition 4 = .ok (.getfield 159, 3) := dk_180 0 159 (dk_at dksX4_isTransition_0 4 rfl rfl)
theorem dX4_isTransition_7 : decode cX4_isTransition 7 = .ok (.iconst 1, 1) := dk_4 (dk_at dksX4_isTransition_0 7 rfl rfl)
theorem dX4_isTransition_8 : decode cX4_isTransition 8 = .ok (.isub, 1) := dk_100 (dk_at dksX4_isTransition_0 8 rfl rfl)
theorem dX4_isTransition_9 : decode cX4_isTransition 9 = .ok (.i2l, 1) := dk_133 (dk_at dksX4_isTransition_0 9 rfl rfl)
theorem dX4_isTransition_10 : decode cX4_isTransition 10 = .ok (.invokestatic 99, 3) := dk_184 0 99 (dk_at dksX4_isTransition_0 10 rfl rfl)
theorem dX4_isTransition_13 : decode cX4_isTransition 13 = .ok (.ireturn, 1) := dk_172 (dk_at dksX4_isTransition_0 13 rfl rfl)
abbrev cX4_of : ByteArray := prog_19_method_24_code
def yX4_of : MethodName := ⟨RX4, "of", "(II)I"⟩
def dkwX4_of_0 : List UInt8 := [42, 180, 0, 59, 16, 17, 27, 104, 28, 96, 46, 172]
abbrev dktX4_of_0 : List UInt8 := dkwX4_of_0 ++ []
theorem dksX4_of_0 : cX4_of.data.toList.drop 0 = dktX4_of_0 := by decide +kernel
theorem dX4_of_0 : decode cX4_of 0 = .ok (.aload_n 0, 1) := dk_42 (dk_at dksX4_of_0 0 rfl rfl)
theorem dX4_of_1 : decode cX4_of 1 = .ok (.getfield 59, 3) := dk_180 0 59 (dk_at dksX4_of_0 1 rfl rfl)
theorem dX4_of_4 : decode cX4_of 4 = .ok (.bipush 17, 2) := dk_16 17 (dk_at dksX4_of_0 4 rfl rfl)
theorem dX4_of_6 : decode cX4_of 6 = .ok (.iload_n 1, 1) := dk_27 (dk_at dksX4_of_0 6 rfl rfl)
theorem dX4_of_7 : decode cX4_of 7 = .ok (.imul, 1) := dk_104 (dk_at dksX4_of_0 7 rfl rfl)
theorem dX4_of_8 : decode cX4_of 8 = .ok (.iload_n 2, 1) := dk_28 (dk_at dksX4_of_0 8 rfl rfl)
theorem dX4_of_9 : decode cX4_of 9 = .ok (.iadd, 1) := dk_96 (dk_at dksX4_of_0 9 rfl rfl)
theorem dX4_of_10 : decode cX4_of 10 = .ok (.iaload, 1) := dk_46 (dk_at dksX4_of_0 10 rfl rfl)
theorem dX4_of_11 : decode cX4_of 11 = .ok (.ireturn, 1) := dk_172 (dk_at dksX4_of_0 11 rfl rfl)
abbrev cX4_setInterruption : ByteArray := prog_19_method_29_code
def yX4_setInterruption : MethodName := ⟨RX4, "setInterruption", "(IIZ)I"⟩
def dkwX4_setInterruption_3 : List UInt8 := [153, 0, 7, 4, 167, 0, 4, 3, 79, 21, 4, 172]
abbrev dktX4_setInterruption_3 : List UInt8 := dkwX4_setInterruption_3 ++ []
def dkwX4_setInterruption_2 : List UInt8 := [180, 0, 59, 16, 17, 27, 104, 8, 96, 28, 79, 42, 180, 0, 59, 16, 17, 27, 104, 16, 6, 96, 29]
abbrev dktX4_setInterruption_2 : List UInt8 := dkwX4_setInterruption_2 ++ dktX4_setInterruption_3
def dkwX4_setInterruption_1 : List UInt8 := [20, 0, 180, 184, 0, 99, 154, 0, 9, 42, 5, 182, 0, 103, 172, 42, 27, 8, 182, 0, 177, 54, 4, 42]
abbrev dktX4_setInterruption_1 : List UInt8 := dkwX4_setInterruption_1 ++ dktX4_setInterruption_2
def dkwX4_setInterruption_0 : List UInt8 := [42, 3, 181, 0, 94, 42, 27, 182, 0, 170, 154, 0, 9, 42, 4, 182, 0, 103, 172, 28, 133, 9]
abbrev dktX4_setInterruption_0 : List UInt8 := dkwX4_setInterruption_0 ++ dktX4_setInterruption_1
theorem dksX4_setInterruption_0 : cX4_setInterruption.data.toList.drop 0 = dktX4_setInterruption_0 := by decide +kernel
theorem dksX4_setInterruption_1 : cX4_setInterruption.data.toList.drop 22 = dktX4_setInterruption_1 := dk_seg dksX4_setInterruption_0 22 rfl rfl
theorem dksX4_setInterruption_2 : cX4_setInterruption.data.toList.drop 46 = dktX4_setInterruption_2 := dk_seg dksX4_setInterruption_1 24 rfl rfl
theorem dksX4_setInterruption_3 : cX4_setInterruption.data.toList.drop 69 = dktX4_setInterruption_3 := dk_seg dksX4_setInterruption_2 23 rfl rfl
theorem dX4_setInterruption_0 : decode cX4_setInterruption 0 = .ok (.aload_n 0, 1) := dk_42 (dk_at dksX4_setInterruption_0 0 rfl rfl)
theorem dX4_setInterruption_1 : decode cX4_setInterruption 1 = .ok (.iconst 0, 1) := dk_3 (dk_at dksX4_setInterruption_0 1 rfl rfl)
theorem dX4_setInterruption_2 : decode cX4_setInterruption 2 = .ok (.putfield 94, 3) := dk_181 0 94 (dk_at dksX4_setInterruption_0 2 rfl rfl)
theorem dX4_setInterruption_5 : decode cX4_setInterruption 5 = .ok (.aload_n 0, 1) := dk_42 (dk_at dksX4_setInterruption_0 5 rfl rfl)
theorem dX4_setInterruption_6 : decode cX4_setInterruption 6 = .ok (.iload_n 1, 1) := dk_27 (dk_at dksX4_setInterruption_0 6 rfl rfl)
theorem dX4_setInterruption_7 : decode cX4_setInterruption 7 = .ok (.invokevirtual 170, 3) := dk_182 0 170 (dk_at dksX4_setInterruption_0 7 rfl rfl)
theorem dX4_setInterruption_10 : decode cX4_setInterruption 10 = .ok (.ifCond .ne 9, 3) := dk_154 0 9 (dk_at dksX4_setInterruption_0 10 rfl rfl)
theorem dX4_setInterruption_13 : decode cX4_setInterruption 13 = .ok (.aload_n 0, 1) := dk_42 (dk_at dksX4_setInterruption_0 13 rfl rfl)
theorem dX4_setInterruption_14 : decode cX4_setInterruption 14 = .ok (.iconst 1, 1) := dk_4 (dk_at dksX4_setInterruption_0 14 rfl rfl)
theorem dX4_setInterruption_15 : decode cX4_setInterruption 15 = .ok (.invokevirtual 103, 3) := dk_182 0 103 (dk_at dksX4_setInterruption_0 15 rfl rfl)
theorem dX4_setInterruption_18 : decode cX4_setInterruption 18 = .ok (.ireturn, 1) := dk_172 (dk_at dksX4_setInterruption_0 18 rfl rfl)
theorem dX4_setInterruption_19 : decode cX4_setInterruption 19 = .ok (.iload_n 2, 1) := dk_28 (dk_at dksX4_setInterruption_0 19 rfl rfl)
theorem dX4_setInterruption_20 : decode cX4_setInterruption 20 = .ok (.i2l, 1) := dk_133 (dk_at dksX4_setInterruption_0 20 rfl rfl)
theorem dX4_setInterruption_21 : decode cX4_setInterruption 21 = .ok (.lconst 0, 1) := dk_9 (dk_at dksX4_setInterruption_0 21 rfl rfl)
theorem dX4_setInterruption_22 : decode cX4_setInterruption 22 = .ok (.ldc2_w 180, 3) := dk_20 0 180 (dk_at dksX4_setInterruption_1 0 rfl rfl)
theorem dX4_setInterruption_25 : decode cX4_setInterruption 25 = .ok (.invokestatic 99, 3) := dk_184 0 99 (dk_at dksX4_setInterruption_1 3 rfl rfl)
theorem dX4_setInterruption_28 : decode cX4_setInterruption 28 = .ok (.ifCond .ne 9, 3) := dk_154 0 9 (dk_at dksX4_setInterruption_1 6 rfl rfl)
theorem dX4_setInterruption_31 : decode cX4_setInterruption 31 = .ok (.aload_n 0, 1) := dk_42 (dk_at dksX4_setInterruption_1 9 rfl rfl)
theorem dX4_setInterruption_32 : decode cX4_setInterruption 32 = .ok (.iconst 2, 1) := dk_5 (dk_at dksX4_setInterruption_1 10 rfl rfl)
theorem dX4_setInterruption_33 : decode cX4_setInterruption 33 = .ok (.invokevirtual 103, 3) := dk_182 0 103 (dk_at dksX4_setInterruption_1 11 rfl rfl)
theorem dX4_setInterruption_36 : decode cX4_setInterruption 36 = .ok (.ireturn, 1) := dk_172 (dk_at dksX4_setInterruption_1 14 rfl rfl)
theorem dX4_setInterruption_37 : decode cX4_setInterruption 37 = .ok (.aload_n 0, 1) := dk_42 (dk_at dksX4_setInterruption_1 15 rfl rfl)
theorem dX4_setInterruption_38 : decode cX4_setInterruption 38 = .ok (.iload_n 1, 1) := dk_27 (dk_at dksX4_setInterruption_1 16 rfl rfl)
theorem dX4_setInterruption_39 : decode cX4_setInterruption 39 = .ok (.iconst 5, 1) := dk_8 (dk_at dksX4_setInterruption_1 17 rfl rfl)
theorem dX4_setInterruption_40 : decode cX4_setInterruption 40 = .ok (.invokevirtual 177, 3) := dk_182 0 177 (dk_at dksX4_setInterruption_1 18 rfl rfl)
theorem dX4_setInterruption_43 : decode cX4_setInterruption 43 = .ok (.istore 4, 2) := dk_54 4 (dk_at dksX4_setInterruption_1 21 rfl rfl)
theorem dX4_setInterruption_45 : decode cX4_setInterruption 45 = .ok (.aload_n 0, 1) := dk_42 (dk_at dksX4_setInterruption_1 23 rfl rfl)
theorem dX4_setInterruption_46 : decode cX4_setInterruption 46 = .ok (.getfield 59, 3) := dk_180 0 59 (dk_at dksX4_setInterruption_2 0 rfl rfl)
theorem dX4_setInterruption_49 : decode cX4_setInterruption 49 = .ok (.bipush 17, 2) := dk_16 17 (dk_at dksX4_setInterruption_2 3 rfl rfl)
theorem dX4_setInterruption_51 : decode cX4_setInterruption 51 = .ok (.iload_n 1, 1) := dk_27 (dk_at dksX4_setInterruption_2 5 rfl rfl)
theorem dX4_setInterruption_52 : decode cX4_setInterruption 52 = .ok (.imul, 1) := dk_104 (dk_at dksX4_setInterruption_2 6 rfl rfl)
theorem dX4_setInterruption_53 : decode cX4_setInterruption 53 = .ok (.iconst 5, 1) := dk_8 (dk_at dksX4_setInterruption_2 7 rfl rfl)
theorem dX4_setInterruption_54 : decode cX4_setInterruption 54 = .ok (.iadd, 1) := dk_96 (dk_at dksX4_setInterruption_2 8 rfl rfl)
theorem dX4_setInterruption_55 : decode cX4_setInterruption 55 = .ok (.iload_n 2, 1) := dk_28 (dk_at dksX4_setInterruption_2 9 rfl rfl)
theorem dX4_setInterruption_56 : decode cX4_setInterruption 56 = .ok (.iastore, 1) := dk_79 (dk_at dksX4_setInterruption_2 10 rfl rfl)
theorem dX4_setInterruption_57 : decode cX4_setInterruption 57 = .ok (.aload_n 0, 1) := dk_42 (dk_at dksX4_setInterruption_2 11 rfl rfl)
theorem dX4_setInterruption_58 : decode cX4_setInterruption 58 = .ok (.getfield 59, 3) := dk_180 0 59 (dk_at dksX4_setInterruption_2 12 rfl rfl)
theorem dX4_setInterruption_61 : decode cX4_setInterruption 61 = .ok (.bipush 17, 2) := dk_16 17 (dk_at dksX4_setInterruption_2 15 rfl rfl)
theorem dX4_setInterruption_63 : decode cX4_setInterruption 63 = .ok (.iload_n 1, 1) := dk_27 (dk_at dksX4_setInterruption_2 17 rfl rfl)
theorem dX4_setInterruption_64 : decode cX4_setInterruption 64 = .ok (.imul, 1) := dk_104 (dk_at dksX4_setInterruption_2 18 rfl rfl)
theorem dX4_setInterruption_65 : decode cX4_setInterruption 65 = .ok (.bipush 6, 2) := dk_16 6 (dk_at dksX4_setInterruption_2 19 rfl rfl)
theorem dX4_setInterruption_67 : decode cX4_setInterruption 67 = .ok (.iadd, 1) := dk_96 (dk_at dksX4_setInterruption_2 21 rfl rfl)
theorem dX4_setInterruption_68 : decode cX4_setInterruption 68 = .ok (.iload_n 3, 1) := dk_29 (dk_at dksX4_setInterruption_2 22 rfl rfl)
theorem dX4_setInterruption_69 : decode cX4_setInterruption 69 = .ok (.ifCond .eq 7, 3) := dk_153 0 7 (dk_at dksX4_setInterruption_3 0 rfl rfl)
theorem dX4_setInterruption_72 : decode cX4_setInterruption 72 = .ok (.iconst 1, 1) := dk_4 (dk_at dksX4_setInterruption_3 3 rfl rfl)
theorem dX4_setInterruption_73 : decode cX4_setInterruption 73 = .ok (.goto 4, 3) := dk_167 0 4 (dk_at dksX4_setInterruption_3 4 rfl rfl)
theorem dX4_setInterruption_76 : decode cX4_setInterruption 76 = .ok (.iconst 0, 1) := dk_3 (dk_at dksX4_setInterruption_3 7 rfl rfl)
theorem dX4_setInterruption_77 : decode cX4_setInterruption 77 = .ok (.iastore, 1) := dk_79 (dk_at dksX4_setInterruption_3 8 rfl rfl)
theorem dX4_setInterruption_78 : decode cX4_setInterruption 78 = .ok (.iload 4, 2) := dk_21 4 (dk_at dksX4_setInterruption_3 9 rfl rfl)
theorem dX4_setInterruption_80 : decode cX4_setInterruption 80 = .ok (.ireturn, 1) := dk_172 (dk_at dksX4_setInterruption_3 11 rfl rfl)
abbrev cX4_addCondition : ByteArray := prog_19_method_31_code
def yX4_addCondition : MethodName := ⟨RX4, "addCondition", "(IIII)I"⟩
def dkwX4_addCondition_6 : List UInt8 := [28, 29, 21, 4, 182, 0, 182, 42, 27, 16, 7, 182, 0, 177, 172]
abbrev dktX4_addCondition_6 : List UInt8 := dkwX4_addCondition_6 ++ []
def dkwX4_addCondition_5 : List UInt8 := [5, 182, 0, 103, 172, 42, 27, 16, 7, 182, 0, 177, 6, 160, 0, 9, 42, 6, 182, 0, 103, 172, 42, 27]
abbrev dktX4_addCondition_5 : List UInt8 := dkwX4_addCondition_5 ++ dktX4_addCondition_6
def dkwX4_addCondition_4 : List UInt8 := [167, 0, 4, 10, 10, 184, 0, 99, 153, 0, 7, 4, 167, 0, 4, 3, 54, 6, 21, 6, 154, 0, 9, 42]
abbrev dktX4_addCondition_4 : List UInt8 := dkwX4_addCondition_4 ++ dktX4_addCondition_5
def dkwX4_addCondition_3 : List UInt8 := [167, 0, 38, 3, 167, 0, 34, 29, 5, 160, 0, 28, 21, 4, 133, 21, 5, 4, 160, 0, 7, 9]
abbrev dktX4_addCondition_3 : List UInt8 := dkwX4_addCondition_3 ++ dktX4_addCondition_4
def dkwX4_addCondition_2 : List UInt8 := [184, 0, 99, 153, 0, 22, 21, 4, 133, 20, 0, 114, 20, 0, 116, 184, 0, 99, 153, 0, 7, 4]
abbrev dktX4_addCondition_2 : List UInt8 := dkwX4_addCondition_2 ++ dktX4_addCondition_3
def dkwX4_addCondition_1 : List UInt8 := [182, 0, 103, 172, 42, 180, 0, 17, 28, 46, 54, 5, 21, 5, 154, 0, 38, 29, 133, 9, 20, 0, 150]
abbrev dktX4_addCondition_1 : List UInt8 := dkwX4_addCondition_1 ++ dktX4_addCondition_2
def dkwX4_addCondition_0 : List UInt8 := [42, 3, 181, 0, 94, 42, 27, 182, 0, 170, 153, 0, 11, 42, 28, 182, 0, 110, 154, 0, 9, 42, 4]
abbrev dktX4_addCondition_0 : List UInt8 := dkwX4_addCondition_0 ++ dktX4_addCondition_1
theorem dksX4_addCondition_0 : cX4_addCondition.data.toList.drop 0 = dktX4_addCondition_0 := by decide +kernel
theorem dksX4_addCondition_1 : cX4_addCondition.data.toList.drop 23 = dktX4_addCondition_1 := dk_seg dksX4_addCondition_0 23 rfl rfl
theorem dksX4_addCondition_2 : cX4_addCondition.data.toList.drop 46 = dktX4_addCondition_2 := dk_seg dksX4_addCondition_1 23 rfl rfl
theorem dksX4_addCondition_3 : cX4_addCondition.data.toList.drop 68 = dktX4_addCondition_3 := dk_seg dksX4_addCondition_2 22 rfl rfl
theorem dksX4_addCondition_4 : cX4_addCondition.data.toList.drop 90 = dktX4_addCondition_4 := dk_seg dksX4_addCondition_3 22 rfl rfl
theorem dksX4_addCondition_5 : cX4_addCondition.data.toList.drop 114 = dktX4_addCondition_5 := dk_seg dksX4_addCondition_4 24 rfl rfl
theorem dksX4_addCondition_6 : cX4_addCondition.data.toList.drop 138 = dktX4_addCondition_6 := dk_seg dksX4_addCondition_5 24 rfl rfl
theorem dX4_addCondition_0 : decode cX4_addCondition 0 = .ok (.aload_n 0, 1) := dk_42 (dk_at dksX4_addCondition_0 0 rfl rfl)
theorem dX4_addCondition_1 : decode cX4_addCondition 1 = .ok (.iconst 0, 1) := dk_3 (dk_at dksX4_addCondition_0 1 rfl rfl)
theorem dX4_addCondition_2 : decode cX4_addCondition 2 = .ok (.putfield 94, 3) := dk_181 0 94 (dk_at dksX4_addCondition_0 2 rfl rfl)
theorem dX4_addCondition_5 : decode cX4_addCondition 5 = .ok (.aload_n 0, 1) := dk_42 (dk_at dksX4_addCondition_0 5 rfl rfl)
theorem dX4_addCondition_6 : decode cX4_addCondition 6 = .ok (.iload_n 1, 1) := dk_27 (dk_at dksX4_addCondition_0 6 rfl rfl)
theorem dX4_addCondition_7 : decode cX4_addCondition 7 = .ok (.invokevirtual 170, 3) := dk_182 0 170 (dk_at dksX4_addCondition_0 7 rfl rfl)
theorem dX4_addCondition_10 : decode cX4_addCondition 10 = .ok (.ifCond .eq 11, 3) := dk_153 0 11 (dk_at dksX4_addCondition_0 10 rfl rfl)
theorem dX4_addCondition_13 : decode cX4_addCondition 13 = .ok (.aload_n 0, 1) := dk_42 (dk_at dksX4_addCondition_0 13 rfl rfl)
theorem dX4_addCondition_14 : decode cX4_addCondition 14 = .ok (.iload_n 2, 1) := dk_28 (dk_at dksX4_addCondition_0 14 rfl rfl)
theorem dX4_addCondition_15 : decode cX4_addCondition 15 = .ok (.invokevirtual 110, 3) := dk_182 0 110 (dk_at dksX4_addCondition_0 15 rfl rfl)
theorem dX4_addCondition_18 : decode cX4_addCondition 18 = .ok (.ifCond .ne 9, 3) := dk_154 0 9 (dk_at dksX4_addCondition_0 18 rfl rfl)
theorem dX4_addCondition_21 : decode cX4_addCondition 21 = .ok (.aload_n 0, 1) := dk_42 (dk_at dksX4_addCondition_0 21 rfl rfl)
theorem dX4_addCondition_22 : decode cX4_addCondition 22 = .ok (.iconst 1, 1) := dk_4 (dk_at dksX4_addCondition_0 22 rfl rfl)
theorem dX4_addCondition_23 : decode cX4_addCondition 23 = .ok (.invokevirtual 103, 3) := dk_182 0 103 (dk_at dksX4_addCondition_1 0 rfl rfl)
theorem dX4_addCondition_26 : decode cX4_addCondition 26 = .ok (.ireturn, 1) := dk_172 (dk_at dksX4_addCondition_1 3 rfl rfl)
theorem dX4_addCondition_27 : decode cX4_addCondition 27 = .ok (.aload_n 0, 1) := dk_42 (dk_at dksX4_addCondition_1 4 rfl rfl)
theorem dX4_addCondition_28 : decode cX4_addCondition 28 = .ok (.getfield 17, 3) := dk_180 0 17 (dk_at dksX4_addCondition_1 5 rfl rfl)
theorem dX4_addCondition_31 : decode cX4_addCondition 31 = .ok (.iload_n 2, 1) := dk_28 (dk_at dksX4_addCondition_1 8 rfl rfl)
theorem dX4_addCondition_32 : decode cX4_addCondition 32 = .ok (.iaload, 1) := dk_46 (dk_at dksX4_addCondition_1 9 rfl rfl)
theorem dX4_addCondition_33 : decode cX4_addCondition 33 = .ok (.istore 5, 2) := dk_54 5 (dk_at dksX4_addCondition_1 10 rfl rfl)
theorem dX4_addCondition_35 : decode cX4_addCondition 35 = .ok (.iload 5, 2) := dk_21 5 (dk_at dksX4_addCondition_1 12 rfl rfl)
theorem dX4_addCondition_37 : decode cX4_addCondition 37 = .ok (.ifCond .ne 38, 3) := dk_154 0 38 (dk_at dksX4_addCondition_1 14 rfl rfl)
theorem dX4_addCondition_40 : decode cX4_addCondition 40 = .ok (.iload_n 3, 1) := dk_29 (dk_at dksX4_addCondition_1 17 rfl rfl)
theorem dX4_addCondition_41 : decode cX4_addCondition 41 = .ok (.i2l, 1) := dk_133 (dk_at dksX4_addCondition_1 18 rfl rfl)
theorem dX4_addCondition_42 : decode cX4_addCondition 42 = .ok (.lconst 0, 1) := dk_9 (dk_at dksX4_addCondition_1 19 rfl rfl)
theorem dX4_addCondition_43 : decode cX4_addCondition 43 = .ok (.ldc2_w 150, 3) := dk_20 0 150 (dk_at dksX4_addCondition_1 20 rfl rfl)
theorem dX4_addCondition_46 : decode cX4_addCondition 46 = .ok (.invokestatic 99, 3) := dk_184 0 99 (dk_at dksX4_addCondition_2 0 rfl rfl)
theorem dX4_addCondition_49 : decode cX4_addCondition 49 = .ok (.ifCond .eq 22, 3) := dk_153 0 22 (dk_at dksX4_addCondition_2 3 rfl rfl)
theorem dX4_addCondition_52 : decode cX4_addCondition 52 = .ok (.iload 4, 2) := dk_21 4 (dk_at dksX4_addCondition_2 6 rfl rfl)
theorem dX4_addCondition_54 : decode cX4_addCondition 54 = .ok (.i2l, 1) := dk_133 (dk_at dksX4_addCondition_2 8 rfl rfl)
theorem dX4_addCondition_55 : decode cX4_addCondition 55 = .ok (.ldc2_w 114, 3) := dk_20 0 114 (dk_at dksX4_addCondition_2 9 rfl rfl)
theorem dX4_addCondition_58 : decode cX4_addCondition 58 = .ok (.ldc2_w 116, 3) := dk_20 0 116 (dk_at dksX4_addCondition_2 12 rfl rfl)
theorem dX4_addCondition_61 : decode cX4_addCondition 61 = .ok (.invokestatic 99, 3) := dk_184 0 99 (dk_at dksX4_addCondition_2 15 rfl rfl)
theorem dX4_addCondition_64 : decode cX4_addCondition 64 = .ok (.ifCond .eq 7, 3) := dk_153 0 7 (dk_at dksX4_addCondition_2 18 rfl rfl)
theorem dX4_addCondition_67 : decode cX4_addCondition 67 = .ok (.iconst 1, 1) := dk_4 (dk_at dksX4_addCondition_2 21 rfl rfl)
theorem dX4_addCondition_68 : decode cX4_addCondition 68 = .ok (.goto 38, 3) := dk_167 0 38 (dk_at dksX4_addCondition_3 0 rfl rfl)
theorem dX4_addCondition_71 : decode cX4_addCondition 71 = .ok (.iconst 0, 1) := dk_3 (dk_at dksX4_addCondition_3 3 rfl rfl)
theorem dX4_addCondition_72 : decode cX4_addCondition 72 = .ok (.goto 34, 3) := dk_167 0 34 (dk_at dksX4_addCondition_3 4 rfl rfl)
theorem dX4_addCondition_75 : decode cX4_addCondition 75 = .ok (.iload_n 3, 1) := dk_29 (dk_at dksX4_addCondition_3 7 rfl rfl)
theorem dX4_addCondition_76 : decode cX4_addCondition 76 = .ok (.iconst 2, 1) := dk_5 (dk_at dksX4_addCondition_3 8 rfl rfl)
theorem dX4_addCondition_77 : decode cX4_addCondition 77 = .ok (.if_icmp .ne 28, 3) := dk_160 0 28 (dk_at dksX4_addCondition_3 9 rfl rfl)
theorem dX4_addCondition_80 : decode cX4_addCondition 80 = .ok (.iload 4, 2) := dk_21 4 (dk_at dksX4_addCondition_3 12 rfl rfl)
theorem dX4_addCondition_82 : decode cX4_addCondition 82 = .ok (.i2l, 1) := dk_133 (dk_at dksX4_addCondition_3 14 rfl rfl)
theorem dX4_addCondition_83 : decode cX4_addCondition 83 = .ok (.iload 5, 2) := dk_21 5 (dk_at dksX4_addCondition_3 15 rfl rfl)
theorem dX4_addCondition_85 : decode cX4_addCondition 85 = .ok (.iconst 1, 1) := dk_4 (dk_at dksX4_addCondition_3 17 rfl rfl)
theorem dX4_addCondition_86 : decode cX4_addCondition 86 = .ok (.if_icmp .ne 7, 3) := dk_160 0 7 (dk_at dksX4_addCondition_3 18 rfl rfl)
theorem dX4_addCondition_89 : decode cX4_addCondition 89 = .ok (.lconst 0, 1) := dk_9 (dk_at dksX4_addCondition_3 21 rfl rfl)
theorem dX4_addCondition_90 : decode cX4_addCondition 90 = .ok (.goto 4, 3) := dk_167 0 4 (dk_at dksX4_addCondition_4 0 rfl rfl)
theorem dX4_addCondition_93 : decode cX4_addCondition 93 = .ok (.lconst 1, 1) := dk_10 (dk_at dksX4_addCondition_4 3 rfl rfl)
theorem dX4_addCondition_94 : decode cX4_addCondition 94 = .ok (.lconst 1, 1) := dk_10 (dk_at dksX4_addCondition_4 4 rfl rfl)
theorem dX4_addCondition_95 : decode cX4_addCondition 95 = .ok (.invokestatic 99, 3) := dk_184 0 99 (dk_at dksX4_addCondition_4 5 rfl rfl)
theorem dX4_addCondition_98 : decode cX4_addCondition 98 = .ok (.ifCond .eq 7, 3) := dk_153 0 7 (dk_at dksX4_addCondition_4 8 rfl rfl)
theorem dX4_addCondition_101 : decode cX4_addCondition 101 = .ok (.iconst 1, 1) := dk_4 (dk_at dksX4_addCondition_4 11 rfl rfl)
theorem dX4_addCondition_102 : decode cX4_addCondition 102 = .ok (.goto 4, 3) := dk_167 0 4 (dk_at dksX4_addCondition_4 12 rfl rfl)
theorem dX4_addCondition_105 : decode cX4_addCondition 105 = .ok (.iconst 0, 1) := dk_3 (dk_at dksX4_addCondition_4 15 rfl rfl)
theorem dX4_addCondition_106 : decode cX4_addCondition 106 = .ok (.istore 6, 2) := dk_54 6 (dk_at dksX4_addCondition_4 16 rfl rfl)
theorem dX4_addCondition_108 : decode cX4_addCondition 108 = .ok (.iload 6, 2) := dk_21 6 (dk_at dksX4_addCondition_4 18 rfl rfl)
theorem dX4_addCondition_110 : decode cX4_addCondition 110 = .ok (.ifCond .ne 9, 3) := dk_154 0 9 (dk_at dksX4_addCondition_4 20 rfl rfl)
theorem dX4_addCondition_113 : decode cX4_addCondition 113 = .ok (.aload_n 0, 1) := dk_42 (dk_at dksX4_addCondition_4 23 rfl rfl)
theorem dX4_addCondition_114 : decode cX4_addCondition 114 = .ok (.iconst 2, 1) := dk_5 (dk_at dksX4_addCondition_5 0 rfl rfl)
theorem dX4_addCondition_115 : decode cX4_addCondition 115 = .ok (.invokevirtual 103, 3) := dk_182 0 103 (dk_at dksX4_addCondition_5 1 rfl rfl)
theorem dX4_addCondition_118 : decode cX4_addCondition 118 = .ok (.ireturn, 1) := dk_172 (dk_at dksX4_addCondition_5 4 rfl rfl)
theorem dX4_addCondition_119 : decode cX4_addCondition 119 = .ok (.aload_n 0, 1) := dk_42 (dk_at dksX4_addCondition_5 5 rfl rfl)
theorem dX4_addCondition_120 : decode cX4_addCondition 120 = .ok (.iload_n 1, 1) := dk_27 (dk_at dksX4_addCondition_5 6 rfl rfl)
theorem dX4_addCondition_121 : decode cX4_addCondition 121 = .ok (.bipush 7, 2) := dk_16 7 (dk_at dksX4_addCondition_5 7 rfl rfl)
theorem dX4_addCondition_123 : decode cX4_addCondition 123 = .ok (.invokevirtual 177, 3) := dk_182 0 177 (dk_at dksX4_addCondition_5 9 rfl rfl)
theorem dX4_addCondition_126 : decode cX4_addCondition 126 = .ok (.iconst 3, 1) := dk_6 (dk_at dksX4_addCondition_5 12 rfl rfl)
theorem dX4_addCondition_127 : decode cX4_addCondition 127 = .ok (.if_icmp .ne 9, 3) := dk_160 0 9 (dk_at dksX4_addCondition_5 13 rfl rfl)
theorem dX4_addCondition_130 : decode cX4_addCondition 130 = .ok (.aload_n 0, 1) := dk_42 (dk_at dksX4_addCondition_5 16 rfl rfl)
theorem dX4_addCondition_131 : decode cX4_addCondition 131 = .ok (.iconst 3, 1) := dk_6 (dk_at dksX4_addCondition_5 17 rfl rfl)
theorem dX4_addCondition_132 : decode cX4_addCondition 132 = .ok (.invokevirtual 103, 3) := dk_182 0 103 (dk_at dksX4_addCondition_5 18 rfl rfl)
theorem dX4_addCondition_135 : decode cX4_addCondition 135 = .ok (.ireturn, 1) := dk_172 (dk_at dksX4_addCondition_5 21 rfl rfl)
theorem dX4_addCondition_136 : decode cX4_addCondition 136 = .ok (.aload_n 0, 1) := dk_42 (dk_at dksX4_addCondition_5 22 rfl rfl)
theorem dX4_addCondition_137 : decode cX4_addCondition 137 = .ok (.iload_n 1, 1) := dk_27 (dk_at dksX4_addCondition_5 23 rfl rfl)
theorem dX4_addCondition_138 : decode cX4_addCondition 138 = .ok (.iload_n 2, 1) := dk_28 (dk_at dksX4_addCondition_6 0 rfl rfl)
theorem dX4_addCondition_139 : decode cX4_addCondition 139 = .ok (.iload_n 3, 1) := dk_29 (dk_at dksX4_addCondition_6 1 rfl rfl)
theorem dX4_addCondition_140 : decode cX4_addCondition 140 = .ok (.iload 4, 2) := dk_21 4 (dk_at dksX4_addCondition_6 2 rfl rfl)
theorem dX4_addCondition_142 : decode cX4_addCondition 142 = .ok (.invokevirtual 182, 3) := dk_182 0 182 (dk_at dksX4_addCondition_6 4 rfl rfl)
theorem dX4_addCondition_145 : decode cX4_addCondition 145 = .ok (.aload_n 0, 1) := dk_42 (dk_at dksX4_addCondition_6 7 rfl rfl)
theorem dX4_addCondition_146 : decode cX4_addCondition 146 = .ok (.iload_n 1, 1) := dk_27 (dk_at dksX4_addCondition_6 8 rfl rfl)
theorem dX4_addCondition_147 : decode cX4_addCondition 147 = .ok (.bipush 7, 2) := dk_16 7 (dk_at dksX4_addCondition_6 9 rfl rfl)
theorem dX4_addCondition_149 : decode cX4_addCondition 149 = .ok (.invokevirtual 177, 3) := dk_182 0 177 (dk_at dksX4_addCondition_6 11 rfl rfl)
theorem dX4_addCondition_152 : decode cX4_addCondition 152 = .ok (.ireturn, 1) := dk_172 (dk_at dksX4_addCondition_6 14 rfl rfl)
abbrev cX4_condition : ByteArray := prog_19_method_30_code
def yX4_condition : MethodName := ⟨RX4, "condition", "(IIII)V"⟩
def dkwX4_condition_2 : List UInt8 := [79, 42, 180, 0, 59, 16, 17, 27, 104, 16, 7, 96, 92, 46, 4, 96, 79, 177]
abbrev dktX4_condition_2 : List UInt8 := dkwX4_condition_2 ++ []
def dkwX4_condition_1 : List UInt8 := [21, 5, 28, 79, 42, 180, 0, 59, 21, 5, 4, 96, 29, 79, 42, 180, 0, 59, 21, 5, 5, 96, 21, 4]
abbrev dktX4_condition_1 : List UInt8 := dkwX4_condition_1 ++ dktX4_condition_2
def dkwX4_condition_0 : List UInt8 := [16, 17, 27, 104, 16, 8, 96, 6, 42, 27, 16, 7, 182, 0, 177, 104, 96, 54, 5, 42, 180, 0, 59]
abbrev dktX4_condition_0 : List UInt8 := dkwX4_condition_0 ++ dktX4_condition_1
theorem dksX4_condition_0 : cX4_condition.data.toList.drop 0 = dktX4_condition_0 := by decide +kernel
theorem dksX4_condition_1 : cX4_condition.data.toList.drop 23 = dktX4_condition_1 := dk_seg dksX4_condition_0 23 rfl rfl
theorem dksX4_condition_2 : cX4_condition.data.toList.drop 47 = dktX4_condition_2 := dk_seg dksX4_condition_1 24 rfl rfl
theorem dX4_condition_0 : decode cX4_condition 0 = .ok (.bipush 17, 2) := dk_16 17 (dk_at dksX4_condition_0 0 rfl rfl)
theorem dX4_condition_2 : decode cX4_condition 2 = .ok (.iload_n 1, 1) := dk_27 (dk_at dksX4_condition_0 2 rfl rfl)
theorem dX4_condition_3 : decode cX4_condition 3 = .ok (.imul, 1) := dk_104 (dk_at dksX4_condition_0 3 rfl rfl)
theorem dX4_condition_4 : decode cX4_condition 4 = .ok (.bipush 8, 2) := dk_16 8 (dk_at dksX4_condition_0 4 rfl rfl)
theorem dX4_condition_6 : decode cX4_condition 6 = .ok (.iadd, 1) := dk_96 (dk_at dksX4_condition_0 6 rfl rfl)
theorem dX4_condition_7 : decode cX4_condition 7 = .ok (.iconst 3, 1) := dk_6 (dk_at dksX4_condition_0 7 rfl rfl)
theorem dX4_condition_8 : decode cX4_condition 8 = .ok (.aload_n 0, 1) := dk_42 (dk_at dksX4_condition_0 8 rfl rfl)
theorem dX4_condition_9 : decode cX4_condition 9 = .ok (.iload_n 1, 1) := dk_27 (dk_at dksX4_condition_0 9 rfl rfl)
theorem dX4_condition_10 : decode cX4_condition 10 = .ok (.bipush 7, 2) := dk_16 7 (dk_at dksX4_condition_0 10 rfl rfl)
theorem dX4_condition_12 : decode cX4_condition 12 = .ok (.invokevirtual 177, 3) := dk_182 0 177 (dk_at dksX4_condition_0 12 rfl rfl)
theorem dX4_condition_15 : decode cX4_condition 15 = .ok (.imul, 1) := dk_104 (dk_at dksX4_condition_0 15 rfl rfl)
theorem dX4_condition_16 : decode cX4_condition 16 = .ok (.iadd, 1) := dk_96 (dk_at dksX4_condition_0 16 rfl rfl)
theorem dX4_condition_17 : decode cX4_condition 17 = .ok (.istore 5, 2) := dk_54 5 (dk_at dksX4_condition_0 17 rfl rfl)
theorem dX4_condition_19 : decode cX4_condition 19 = .ok (.aload_n 0, 1) := dk_42 (dk_at dksX4_condition_0 19 rfl rfl)
theorem dX4_condition_20 : decode cX4_condition 20 = .ok (.getfield 59, 3) := dk_180 0 59 (dk_at dksX4_condition_0 20 rfl rfl)
theorem dX4_condition_23 : decode cX4_condition 23 = .ok (.iload 5, 2) := dk_21 5 (dk_at dksX4_condition_1 0 rfl rfl)
theorem dX4_condition_25 : decode cX4_condition 25 = .ok (.iload_n 2, 1) := dk_28 (dk_at dksX4_condition_1 2 rfl rfl)
theorem dX4_condition_26 : decode cX4_condition 26 = .ok (.iastore, 1) := dk_79 (dk_at dksX4_condition_1 3 rfl rfl)
theorem dX4_condition_27 : decode cX4_condition 27 = .ok (.aload_n 0, 1) := dk_42 (dk_at dksX4_condition_1 4 rfl rfl)
theorem dX4_condition_28 : decode cX4_condition 28 = .ok (.getfield 59, 3) := dk_180 0 59 (dk_at dksX4_condition_1 5 rfl rfl)
theorem dX4_condition_31 : decode cX4_condition 31 = .ok (.iload 5, 2) := dk_21 5 (dk_at dksX4_condition_1 8 rfl rfl)
theorem dX4_condition_33 : decode cX4_condition 33 = .ok (.iconst 1, 1) := dk_4 (dk_at dksX4_condition_1 10 rfl rfl)
theorem dX4_condition_34 : decode cX4_condition 34 = .ok (.iadd, 1) := dk_96 (dk_at dksX4_condition_1 11 rfl rfl)
theorem dX4_condition_35 : decode cX4_condition 35 = .ok (.iload_n 3, 1) := dk_29 (dk_at dksX4_condition_1 12 rfl rfl)
theorem dX4_condition_36 : decode cX4_condition 36 = .ok (.iastore, 1) := dk_79 (dk_at dksX4_condition_1 13 rfl rfl)
theorem dX4_condition_37 : decode cX4_condition 37 = .ok (.aload_n 0, 1) := dk_42 (dk_at dksX4_condition_1 14 rfl rfl)
theorem dX4_condition_38 : decode cX4_condition 38 = .ok (.getfield 59, 3) := dk_180 0 59 (dk_at dksX4_condition_1 15 rfl rfl)
theorem dX4_condition_41 : decode cX4_condition 41 = .ok (.iload 5, 2) := dk_21 5 (dk_at dksX4_condition_1 18 rfl rfl)
theorem dX4_condition_43 : decode cX4_condition 43 = .ok (.iconst 2, 1) := dk_5 (dk_at dksX4_condition_1 20 rfl rfl)
theorem dX4_condition_44 : decode cX4_condition 44 = .ok (.iadd, 1) := dk_96 (dk_at dksX4_condition_1 21 rfl rfl)
theorem dX4_condition_45 : decode cX4_condition 45 = .ok (.iload 4, 2) := dk_21 4 (dk_at dksX4_condition_1 22 rfl rfl)
theorem dX4_condition_47 : decode cX4_condition 47 = .ok (.iastore, 1) := dk_79 (dk_at dksX4_condition_2 0 rfl rfl)
theorem dX4_condition_48 : decode cX4_condition 48 = .ok (.aload_n 0, 1) := dk_42 (dk_at dksX4_condition_2 1 rfl rfl)
theorem dX4_condition_49 : decode cX4_condition 49 = .ok (.getfield 59, 3) := dk_180 0 59 (dk_at dksX4_condition_2 2 rfl rfl)
theorem dX4_condition_52 : decode cX4_condition 52 = .ok (.bipush 17, 2) := dk_16 17 (dk_at dksX4_condition_2 5 rfl rfl)
theorem dX4_condition_54 : decode cX4_condition 54 = .ok (.iload_n 1, 1) := dk_27 (dk_at dksX4_condition_2 7 rfl rfl)
theorem dX4_condition_55 : decode cX4_condition 55 = .ok (.imul, 1) := dk_104 (dk_at dksX4_condition_2 8 rfl rfl)
theorem dX4_condition_56 : decode cX4_condition 56 = .ok (.bipush 7, 2) := dk_16 7 (dk_at dksX4_condition_2 9 rfl rfl)
theorem dX4_condition_58 : decode cX4_condition 58 = .ok (.iadd, 1) := dk_96 (dk_at dksX4_condition_2 11 rfl rfl)
theorem dX4_condition_59 : decode cX4_condition 59 = .ok (.dup2, 1) := dk_92 (dk_at dksX4_condition_2 12 rfl rfl)
theorem dX4_condition_60 : decode cX4_condition 60 = .ok (.iaload, 1) := dk_46 (dk_at dksX4_condition_2 13 rfl rfl)
theorem dX4_condition_61 : decode cX4_condition 61 = .ok (.iconst 1, 1) := dk_4 (dk_at dksX4_condition_2 14 rfl rfl)
theorem dX4_condition_62 : decode cX4_condition 62 = .ok (.iadd, 1) := dk_96 (dk_at dksX4_condition_2 15 rfl rfl)
theorem dX4_condition_63 : decode cX4_condition 63 = .ok (.iastore, 1) := dk_79 (dk_at dksX4_condition_2 16 rfl rfl)
theorem dX4_condition_64 : decode cX4_condition 64 = .ok (.return_, 1) := dk_177 (dk_at dksX4_condition_2 17 rfl rfl)
abbrev cX4_setThreshold : ByteArray := prog_19_method_32_code
def yX4_setThreshold : MethodName := ⟨RX4, "setThreshold", "(I)I"⟩
def dkwX4_setThreshold_1 : List UInt8 := [180, 0, 62, 61, 42, 27, 181, 0, 62, 28, 172]
abbrev dktX4_setThreshold_1 : List UInt8 := dkwX4_setThreshold_1 ++ []
def dkwX4_setThreshold_0 : List UInt8 := [42, 3, 181, 0, 94, 27, 133, 9, 20, 0, 116, 184, 0, 99, 154, 0, 9, 42, 4, 182, 0, 103, 172, 42]
abbrev dktX4_setThreshold_0 : List UInt8 := dkwX4_setThreshold_0 ++ dktX4_setThreshold_1
theorem dksX4_setThreshold_0 : cX4_setThreshold.data.toList.drop 0 = dktX4_setThreshold_0 := by decide +kernel
theorem dksX4_setThreshold_1 : cX4_setThreshold.data.toList.drop 24 = dktX4_setThreshold_1 := dk_seg dksX4_setThreshold_0 24 rfl rfl
theorem dX4_setThreshold_0 : decode cX4_setThreshold 0 = .ok (.aload_n 0, 1) := dk_42 (dk_at dksX4_setThreshold_0 0 rfl rfl)
theorem dX4_setThreshold_1 : decode cX4_setThreshold 1 = .ok (.iconst 0, 1) := dk_3 (dk_at dksX4_setThreshold_0 1 rfl rfl)
theorem dX4_setThreshold_2 : decode cX4_setThreshold 2 = .ok (.putfield 94, 3) := dk_181 0 94 (dk_at dksX4_setThreshold_0 2 rfl rfl)
theorem dX4_setThreshold_5 : decode cX4_setThreshold 5 = .ok (.iload_n 1, 1) := dk_27 (dk_at dksX4_setThreshold_0 5 rfl rfl)
theorem dX4_setThreshold_6 : decode cX4_setThreshold 6 = .ok (.i2l, 1) := dk_133 (dk_at dksX4_setThreshold_0 6 rfl rfl)
theorem dX4_setThreshold_7 : decode cX4_setThreshold 7 = .ok (.lconst 0, 1) := dk_9 (dk_at dksX4_setThreshold_0 7 rfl rfl)
theorem dX4_setThreshold_8 : decode cX4_setThreshold 8 = .ok (.ldc2_w 116, 3) := dk_20 0 116 (dk_at dksX4_setThreshold_0 8 rfl rfl)
theorem dX4_setThreshold_11 : decode cX4_setThreshold 11 = .ok (.invokestatic 99, 3) := dk_184 0 99 (dk_at dksX4_setThreshold_0 11 rfl rfl)
theorem dX4_setThreshold_14 : decode cX4_setThreshold 14 = .ok (.ifCond .ne 9, 3) := dk_154 0 9 (dk_at dksX4_setThreshold_0 14 rfl rfl)
theorem dX4_setThreshold_17 : decode cX4_setThreshold 17 = .ok (.aload_n 0, 1) := dk_42 (dk_at dksX4_setThreshold_0 17 rfl rfl)
theorem dX4_setThreshold_18 : decode cX4_setThreshold 18 = .ok (.iconst 1, 1) := dk_4 (dk_at dksX4_setThreshold_0 18 rfl rfl)
theorem dX4_setThreshold_19 : decode cX4_setThreshold 19 = .ok (.invokevirtual 103, 3) := dk_182 0 103 (dk_at dksX4_setThreshold_0 19 rfl rfl)
theorem dX4_setThreshold_22 : decode cX4_setThreshold 22 = .ok (.ireturn, 1) := dk_172 (dk_at dksX4_setThreshold_0 22 rfl rfl)
theorem dX4_setThreshold_23 : decode cX4_setThreshold 23 = .ok (.aload_n 0, 1) := dk_42 (dk_at dksX4_setThreshold_0 23 rfl rfl)
theorem dX4_setThreshold_24 : decode cX4_setThreshold 24 = .ok (.getfield 62, 3) := dk_180 0 62 (dk_at dksX4_setThreshold_1 0 rfl rfl)
theorem dX4_setThreshold_27 : decode cX4_setThreshold 27 = .ok (.istore_n 2, 1) := dk_61 (dk_at dksX4_setThreshold_1 3 rfl rfl)
theorem dX4_setThreshold_28 : decode cX4_setThreshold 28 = .ok (.aload_n 0, 1) := dk_42 (dk_at dksX4_setThreshold_1 4 rfl rfl)
theorem dX4_setThreshold_29 : decode cX4_setThreshold 29 = .ok (.iload_n 1, 1) := dk_27 (dk_at dksX4_setThreshold_1 5 rfl rfl)
theorem dX4_setThreshold_30 : decode cX4_setThreshold 30 = .ok (.putfield 62, 3) := dk_181 0 62 (dk_at dksX4_setThreshold_1 6 rfl rfl)
theorem dX4_setThreshold_33 : decode cX4_setThreshold 33 = .ok (.iload_n 2, 1) := dk_28 (dk_at dksX4_setThreshold_1 9 rfl rfl)
theorem dX4_setThreshold_34 : decode cX4_setThreshold 34 = .ok (.ireturn, 1) := dk_172 (dk_at dksX4_setThreshold_1 10 rfl rfl)
abbrev cX4_type : ByteArray := prog_19_method_33_code
def yX4_type : MethodName := ⟨RX4, "type", "(I)I"⟩
def dkwX4_type_2 : List UInt8 := [79, 42, 89, 180, 0, 188, 4, 96, 181, 0, 188, 42, 180, 0, 188, 172]
abbrev dktX4_type_2 : List UInt8 := dkwX4_type_2 ++ []
def dkwX4_type_1 : List UInt8 := [180, 0, 188, 17, 0, 150, 160, 0, 9, 42, 5, 182, 0, 103, 172, 42, 180, 0, 66, 42, 180, 0, 188, 27]
abbrev dktX4_type_1 : List UInt8 := dkwX4_type_1 ++ dktX4_type_2
def dkwX4_type_0 : List UInt8 := [42, 3, 181, 0, 94, 27, 133, 9, 20, 0, 186, 184, 0, 99, 154, 0, 9, 42, 4, 182, 0, 103, 172, 42]
abbrev dktX4_type_0 : List UInt8 := dkwX4_type_0 ++ dktX4_type_1
theorem dksX4_type_0 : cX4_type.data.toList.drop 0 = dktX4_type_0 := by decide +kernel
theorem dksX4_type_1 : cX4_type.data.toList.drop 24 = dktX4_type_1 := dk_seg dksX4_type_0 24 rfl rfl
theorem dksX4_type_2 : cX4_type.data.toList.drop 48 = dktX4_type_2 := dk_seg dksX4_type_1 24 rfl rfl
theorem dX4_type_0 : decode cX4_type 0 = .ok (.aload_n 0, 1) := dk_42 (dk_at dksX4_type_0 0 rfl rfl)
theorem dX4_type_1 : decode cX4_type 1 = .ok (.iconst 0, 1) := dk_3 (dk_at dksX4_type_0 1 rfl rfl)
theorem dX4_type_2 : decode cX4_type 2 = .ok (.putfield 94, 3) := dk_181 0 94 (dk_at dksX4_type_0 2 rfl rfl)
theorem dX4_type_5 : decode cX4_type 5 = .ok (.iload_n 1, 1) := dk_27 (dk_at dksX4_type_0 5 rfl rfl)
theorem dX4_type_6 : decode cX4_type 6 = .ok (.i2l, 1) := dk_133 (dk_at dksX4_type_0 6 rfl rfl)
theorem dX4_type_7 : decode cX4_type 7 = .ok (.lconst 0, 1) := dk_9 (dk_at dksX4_type_0 7 rfl rfl)
theorem dX4_type_8 : decode cX4_type 8 = .ok (.ldc2_w 186, 3) := dk_20 0 186 (dk_at dksX4_type_0 8 rfl rfl)
theorem dX4_type_11 : decode cX4_type 11 = .ok (.invokestatic 99, 3) := dk_184 0 99 (dk_at dksX4_type_0 11 rfl rfl)
theorem dX4_type_14 : decode cX4_type 14 = .ok (.ifCond .ne 9, 3) := dk_154 0 9 (dk_at dksX4_type_0 14 rfl rfl)
theorem dX4_type_17 : decode cX4_type 17 = .ok (.aload_n 0, 1) := dk_42 (dk_at dksX4_type_0 17 rfl rfl)
theorem dX4_type_18 : decode cX4_type 18 = .ok (.iconst 1, 1) := dk_4 (dk_at dksX4_type_0 18 rfl rfl)
theorem dX4_type_19 : decode cX4_type 19 = .ok (.invokevirtual 103, 3) := dk_182 0 103 (dk_at dksX4_type_0 19 rfl rfl)
theorem dX4_type_22 : decode cX4_type 22 = .ok (.ireturn, 1) := dk_172 (dk_at dksX4_type_0 22 rfl rfl)
theorem dX4_type_23 : decode cX4_type 23 = .ok (.aload_n 0, 1) := dk_42 (dk_at dksX4_type_0 23 rfl rfl)
theorem dX4_type_24 : decode cX4_type 24 = .ok (.getfield 188, 3) := dk_180 0 188 (dk_at dksX4_type_1 0 rfl rfl)
theorem dX4_type_27 : decode cX4_type 27 = .ok (.sipush 150, 3) := dk_17 0 150 (dk_at dksX4_type_1 3 rfl rfl)
theorem dX4_type_30 : decode cX4_type 30 = .ok (.if_icmp .ne 9, 3) := dk_160 0 9 (dk_at dksX4_type_1 6 rfl rfl)
theorem dX4_type_33 : decode cX4_type 33 = .ok (.aload_n 0, 1) := dk_42 (dk_at dksX4_type_1 9 rfl rfl)
theorem dX4_type_34 : decode cX4_type 34 = .ok (.iconst 2, 1) := dk_5 (dk_at dksX4_type_1 10 rfl rfl)
theorem dX4_type_35 : decode cX4_type 35 = .ok (.invokevirtual 103, 3) := dk_182 0 103 (dk_at dksX4_type_1 11 rfl rfl)
theorem dX4_type_38 : decode cX4_type 38 = .ok (.ireturn, 1) := dk_172 (dk_at dksX4_type_1 14 rfl rfl)
theorem dX4_type_39 : decode cX4_type 39 = .ok (.aload_n 0, 1) := dk_42 (dk_at dksX4_type_1 15 rfl rfl)
theorem dX4_type_40 : decode cX4_type 40 = .ok (.getfield 66, 3) := dk_180 0 66 (dk_at dksX4_type_1 16 rfl rfl)
theorem dX4_type_43 : decode cX4_type 43 = .ok (.aload_n 0, 1) := dk_42 (dk_at dksX4_type_1 19 rfl rfl)
theorem dX4_type_44 : decode cX4_type 44 = .ok (.getfield 188, 3) := dk_180 0 188 (dk_at dksX4_type_1 20 rfl rfl)
theorem dX4_type_47 : decode cX4_type 47 = .ok (.iload_n 1, 1) := dk_27 (dk_at dksX4_type_1 23 rfl rfl)
theorem dX4_type_48 : decode cX4_type 48 = .ok (.iastore, 1) := dk_79 (dk_at dksX4_type_2 0 rfl rfl)
theorem dX4_type_49 : decode cX4_type 49 = .ok (.aload_n 0, 1) := dk_42 (dk_at dksX4_type_2 1 rfl rfl)
theorem dX4_type_50 : decode cX4_type 50 = .ok (.dup, 1) := dk_89 (dk_at dksX4_type_2 2 rfl rfl)
theorem dX4_type_51 : decode cX4_type 51 = .ok (.getfield 188, 3) := dk_180 0 188 (dk_at dksX4_type_2 3 rfl rfl)
theorem dX4_type_54 : decode cX4_type 54 = .ok (.iconst 1, 1) := dk_4 (dk_at dksX4_type_2 6 rfl rfl)
theorem dX4_type_55 : decode cX4_type 55 = .ok (.iadd, 1) := dk_96 (dk_at dksX4_type_2 7 rfl rfl)
theorem dX4_type_56 : decode cX4_type 56 = .ok (.putfield 188, 3) := dk_181 0 188 (dk_at dksX4_type_2 8 rfl rfl)
theorem dX4_type_59 : decode cX4_type 59 = .ok (.aload_n 0, 1) := dk_42 (dk_at dksX4_type_2 11 rfl rfl)
theorem dX4_type_60 : decode cX4_type 60 = .ok (.getfield 188, 3) := dk_180 0 188 (dk_at dksX4_type_2 12 rfl rfl)
theorem dX4_type_63 : decode cX4_type 63 = .ok (.ireturn, 1) := dk_172 (dk_at dksX4_type_2 15 rfl rfl)
abbrev cX4_clearText : ByteArray := prog_19_method_34_code
def yX4_clearText : MethodName := ⟨RX4, "clearText", "()I"⟩
def dkwX4_clearText_0 : List UInt8 := [42, 3, 181, 0, 94, 42, 180, 0, 188, 60, 42, 3, 181, 0, 188, 27, 172]
abbrev dktX4_clearText_0 : List UInt8 := dkwX4_clearText_0 ++ []
theorem dksX4_clearText_0 : cX4_clearText.data.toList.drop 0 = dktX4_clearText_0 := by decide +kernel
theorem dX4_clearText_0 : decode cX4_clearText 0 = .ok (.aload_n 0, 1) := dk_42 (dk_at dksX4_clearText_0 0 rfl rfl)
theorem dX4_clearText_1 : decode cX4_clearText 1 = .ok (.iconst 0, 1) := dk_3 (dk_at dksX4_clearText_0 1 rfl rfl)
theorem dX4_clearText_2 : decode cX4_clearText 2 = .ok (.putfield 94, 3) := dk_181 0 94 (dk_at dksX4_clearText_0 2 rfl rfl)
theorem dX4_clearText_5 : decode cX4_clearText 5 = .ok (.aload_n 0, 1) := dk_42 (dk_at dksX4_clearText_0 5 rfl rfl)
theorem dX4_clearText_6 : decode cX4_clearText 6 = .ok (.getfield 188, 3) := dk_180 0 188 (dk_at dksX4_clearText_0 6 rfl rfl)
theorem dX4_clearText_9 : decode cX4_clearText 9 = .ok (.istore_n 1, 1) := dk_60 (dk_at dksX4_clearText_0 9 rfl rfl)
theorem dX4_clearText_10 : decode cX4_clearText 10 = .ok (.aload_n 0, 1) := dk_42 (dk_at dksX4_clearText_0 10 rfl rfl)
theorem dX4_clearText_11 : decode cX4_clearText 11 = .ok (.iconst 0, 1) := dk_3 (dk_at dksX4_clearText_0 11 rfl rfl)
theorem dX4_clearText_12 : decode cX4_clearText 12 = .ok (.putfield 188, 3) := dk_181 0 188 (dk_at dksX4_clearText_0 12 rfl rfl)
theorem dX4_clearText_15 : decode cX4_clearText 15 = .ok (.iload_n 1, 1) := dk_27 (dk_at dksX4_clearText_0 15 rfl rfl)
theorem dX4_clearText_16 : decode cX4_clearText 16 = .ok (.ireturn, 1) := dk_172 (dk_at dksX4_clearText_0 16 rfl rfl)
abbrev cX4_fault : ByteArray := prog_19_method_45_code
def yX4_fault : MethodName := ⟨RX4, "fault", "()I"⟩
def dkwX4_fault_0 : List UInt8 := [42, 3, 181, 0, 94, 42, 3, 182, 0, 247, 153, 0, 7, 2, 167, 0, 7, 42, 180, 0, 191, 172]
abbrev dktX4_fault_0 : List UInt8 := dkwX4_fault_0 ++ []
theorem dksX4_fault_0 : cX4_fault.data.toList.drop 0 = dktX4_fault_0 := by decide +kernel
theorem dX4_fault_0 : decode cX4_fault 0 = .ok (.aload_n 0, 1) := dk_42 (dk_at dksX4_fault_0 0 rfl rfl)
theorem dX4_fault_1 : decode cX4_fault 1 = .ok (.iconst 0, 1) := dk_3 (dk_at dksX4_fault_0 1 rfl rfl)
theorem dX4_fault_2 : decode cX4_fault 2 = .ok (.putfield 94, 3) := dk_181 0 94 (dk_at dksX4_fault_0 2 rfl rfl)
theorem dX4_fault_5 : decode cX4_fault 5 = .ok (.aload_n 0, 1) := dk_42 (dk_at dksX4_fault_0 5 rfl rfl)
theorem dX4_fault_6 : decode cX4_fault 6 = .ok (.iconst 0, 1) := dk_3 (dk_at dksX4_fault_0 6 rfl rfl)
theorem dX4_fault_7 : decode cX4_fault 7 = .ok (.invokevirtual 247, 3) := dk_182 0 247 (dk_at dksX4_fault_0 7 rfl rfl)
theorem dX4_fault_10 : decode cX4_fault 10 = .ok (.ifCond .eq 7, 3) := dk_153 0 7 (dk_at dksX4_fault_0 10 rfl rfl)
theorem dX4_fault_13 : decode cX4_fault 13 = .ok (.iconst (-1), 1) := dk_2 (dk_at dksX4_fault_0 13 rfl rfl)
theorem dX4_fault_14 : decode cX4_fault 14 = .ok (.goto 7, 3) := dk_167 0 7 (dk_at dksX4_fault_0 14 rfl rfl)
theorem dX4_fault_17 : decode cX4_fault 17 = .ok (.aload_n 0, 1) := dk_42 (dk_at dksX4_fault_0 17 rfl rfl)
theorem dX4_fault_18 : decode cX4_fault 18 = .ok (.getfield 191, 3) := dk_180 0 191 (dk_at dksX4_fault_0 18 rfl rfl)
theorem dX4_fault_21 : decode cX4_fault 21 = .ok (.ireturn, 1) := dk_172 (dk_at dksX4_fault_0 21 rfl rfl)
abbrev cX4_readsAll : ByteArray := prog_19_method_44_code
def yX4_readsAll : MethodName := ⟨RX4, "readsAll", "(Z)Z"⟩
def dkwX4_readsAll_3 : List UInt8 := [181, 0, 214, 42, 182, 0, 194, 167, 255, 210, 42, 180, 0, 197, 172]
abbrev dktX4_readsAll_3 : List UInt8 := dkwX4_readsAll_3 ++ []
def dkwX4_readsAll_2 : List UInt8 := [162, 0, 34, 42, 89, 180, 0, 191, 4, 96, 181, 0, 191, 42, 182, 0, 244, 42, 89, 180, 0, 214, 4, 96]
abbrev dktX4_readsAll_2 : List UInt8 := dkwX4_readsAll_2 ++ dktX4_readsAll_3
def dkwX4_readsAll_1 : List UInt8 := [4, 96, 181, 0, 214, 42, 182, 0, 194, 42, 180, 0, 197, 153, 0, 45, 42, 180, 0, 191, 42, 180, 0, 188]
abbrev dktX4_readsAll_1 : List UInt8 := dkwX4_readsAll_1 ++ dktX4_readsAll_2
def dkwX4_readsAll_0 : List UInt8 := [42, 27, 181, 0, 211, 42, 3, 181, 0, 191, 42, 3, 181, 0, 214, 42, 182, 0, 244, 42, 89, 180, 0, 214]
abbrev dktX4_readsAll_0 : List UInt8 := dkwX4_readsAll_0 ++ dktX4_readsAll_1
theorem dksX4_readsAll_0 : cX4_readsAll.data.toList.drop 0 = dktX4_readsAll_0 := by decide +kernel
theorem dksX4_readsAll_1 : cX4_readsAll.data.toList.drop 24 = dktX4_readsAll_1 := dk_seg dksX4_readsAll_0 24 rfl rfl
theorem dksX4_readsAll_2 : cX4_readsAll.data.toList.drop 48 = dktX4_readsAll_2 := dk_seg dksX4_readsAll_1 24 rfl rfl
theorem dksX4_readsAll_3 : cX4_readsAll.data.toList.drop 72 = dktX4_readsAll_3 := dk_seg dksX4_readsAll_2 24 rfl rfl
theorem dX4_readsAll_0 : decode cX4_readsAll 0 = .ok (.aload_n 0, 1) := dk_42 (dk_at dksX4_readsAll_0 0 rfl rfl)
theorem dX4_readsAll_1 : decode cX4_readsAll 1 = .ok (.iload_n 1, 1) := dk_27 (dk_at dksX4_readsAll_0 1 rfl rfl)
theorem dX4_readsAll_2 : decode cX4_readsAll 2 = .ok (.putfield 211, 3) := dk_181 0 211 (dk_at dksX4_readsAll_0 2 rfl rfl)
theorem dX4_readsAll_5 : decode cX4_readsAll 5 = .ok (.aload_n 0, 1) := dk_42 (dk_at dksX4_readsAll_0 5 rfl rfl)
theorem dX4_readsAll_6 : decode cX4_readsAll 6 = .ok (.iconst 0, 1) := dk_3 (dk_at dksX4_readsAll_0 6 rfl rfl)
theorem dX4_readsAll_7 : decode cX4_readsAll 7 = .ok (.putfield 191, 3) := dk_181 0 191 (dk_at dksX4_readsAll_0 7 rfl rfl)
theorem dX4_readsAll_10 : decode cX4_readsAll 10 = .ok (.aload_n 0, 1) := dk_42 (dk_at dksX4_readsAll_0 10 rfl rfl)
theorem dX4_readsAll_11 : decode cX4_readsAll 11 = .ok (.iconst 0, 1) := dk_3 (dk_at dksX4_readsAll_0 11 rfl rfl)
theorem dX4_readsAll_12 : decode cX4_readsAll 12 = .ok (.putfield 214, 3) := dk_181 0 214 (dk_at dksX4_readsAll_0 12 rfl rfl)
theorem dX4_readsAll_15 : decode cX4_readsAll 15 = .ok (.aload_n 0, 1) := dk_42 (dk_at dksX4_readsAll_0 15 rfl rfl)
theorem dX4_readsAll_16 : decode cX4_readsAll 16 = .ok (.invokevirtual 244, 3) := dk_182 0 244 (dk_at dksX4_readsAll_0 16 rfl rfl)
theorem dX4_readsAll_19 : decode cX4_readsAll 19 = .ok (.aload_n 0, 1) := dk_42 (dk_at dksX4_readsAll_0 19 rfl rfl)
theorem dX4_readsAll_20 : decode cX4_readsAll 20 = .ok (.dup, 1) := dk_89 (dk_at dksX4_readsAll_0 20 rfl rfl)
theorem dX4_readsAll_21 : decode cX4_readsAll 21 = .ok (.getfield 214, 3) := dk_180 0 214 (dk_at dksX4_readsAll_0 21 rfl rfl)
theorem dX4_readsAll_24 : decode cX4_readsAll 24 = .ok (.iconst 1, 1) := dk_4 (dk_at dksX4_readsAll_1 0 rfl rfl)
theorem dX4_readsAll_25 : decode cX4_readsAll 25 = .ok (.iadd, 1) := dk_96 (dk_at dksX4_readsAll_1 1 rfl rfl)
theorem dX4_readsAll_26 : decode cX4_readsAll 26 = .ok (.putfield 214, 3) := dk_181 0 214 (dk_at dksX4_readsAll_1 2 rfl rfl)
theorem dX4_readsAll_29 : decode cX4_readsAll 29 = .ok (.aload_n 0, 1) := dk_42 (dk_at dksX4_readsAll_1 5 rfl rfl)
theorem dX4_readsAll_30 : decode cX4_readsAll 30 = .ok (.invokevirtual 194, 3) := dk_182 0 194 (dk_at dksX4_readsAll_1 6 rfl rfl)
theorem dX4_readsAll_33 : decode cX4_readsAll 33 = .ok (.aload_n 0, 1) := dk_42 (dk_at dksX4_readsAll_1 9 rfl rfl)
theorem dX4_readsAll_34 : decode cX4_readsAll 34 = .ok (.getfield 197, 3) := dk_180 0 197 (dk_at dksX4_readsAll_1 10 rfl rfl)
theorem dX4_readsAll_37 : decode cX4_readsAll 37 = .ok (.ifCond .eq 45, 3) := dk_153 0 45 (dk_at dksX4_readsAll_1 13 rfl rfl)
theorem dX4_readsAll_40 : decode cX4_readsAll 40 = .ok (.aload_n 0, 1) := dk_42 (dk_at dksX4_readsAll_1 16 rfl rfl)
theorem dX4_readsAll_41 : decode cX4_readsAll 41 = .ok (.getfield 191, 3) := dk_180 0 191 (dk_at dksX4_readsAll_1 17 rfl rfl)
theorem dX4_readsAll_44 : decode cX4_readsAll 44 = .ok (.aload_n 0, 1) := dk_42 (dk_at dksX4_readsAll_1 20 rfl rfl)
theorem dX4_readsAll_45 : decode cX4_readsAll 45 = .ok (.getfield 188, 3) := dk_180 0 188 (dk_at dksX4_readsAll_1 21 rfl rfl)
theorem dX4_readsAll_48 : decode cX4_readsAll 48 = .ok (.if_icmp .ge 34, 3) := dk_162 0 34 (dk_at dksX4_readsAll_2 0 rfl rfl)
theorem dX4_readsAll_51 : decode cX4_readsAll 51 = .ok (.aload_n 0, 1) := dk_42 (dk_at dksX4_readsAll_2 3 rfl rfl)
theorem dX4_readsAll_52 : decode cX4_readsAll 52 = .ok (.dup, 1) := dk_89 (dk_at dksX4_readsAll_2 4 rfl rfl)
theorem dX4_readsAll_53 : decode cX4_readsAll 53 = .ok (.getfield 191, 3) := dk_180 0 191 (dk_at dksX4_readsAll_2 5 rfl rfl)
theorem dX4_readsAll_56 : decode cX4_readsAll 56 = .ok (.iconst 1, 1) := dk_4 (dk_at dksX4_readsAll_2 8 rfl rfl)
theorem dX4_readsAll_57 : decode cX4_readsAll 57 = .ok (.iadd, 1) := dk_96 (dk_at dksX4_readsAll_2 9 rfl rfl)
theorem dX4_readsAll_58 : decode cX4_readsAll 58 = .ok (.putfield 191, 3) := dk_181 0 191 (dk_at dksX4_readsAll_2 10 rfl rfl)
theorem dX4_readsAll_61 : decode cX4_readsAll 61 = .ok (.aload_n 0, 1) := dk_42 (dk_at dksX4_readsAll_2 13 rfl rfl)
theorem dX4_readsAll_62 : decode cX4_readsAll 62 = .ok (.invokevirtual 244, 3) := dk_182 0 244 (dk_at dksX4_readsAll_2 14 rfl rfl)
theorem dX4_readsAll_65 : decode cX4_readsAll 65 = .ok (.aload_n 0, 1) := dk_42 (dk_at dksX4_readsAll_2 17 rfl rfl)
theorem dX4_readsAll_66 : decode cX4_readsAll 66 = .ok (.dup, 1) := dk_89 (dk_at dksX4_readsAll_2 18 rfl rfl)
theorem dX4_readsAll_67 : decode cX4_readsAll 67 = .ok (.getfield 214, 3) := dk_180 0 214 (dk_at dksX4_readsAll_2 19 rfl rfl)
theorem dX4_readsAll_70 : decode cX4_readsAll 70 = .ok (.iconst 1, 1) := dk_4 (dk_at dksX4_readsAll_2 22 rfl rfl)
theorem dX4_readsAll_71 : decode cX4_readsAll 71 = .ok (.iadd, 1) := dk_96 (dk_at dksX4_readsAll_2 23 rfl rfl)
theorem dX4_readsAll_72 : decode cX4_readsAll 72 = .ok (.putfield 214, 3) := dk_181 0 214 (dk_at dksX4_readsAll_3 0 rfl rfl)
theorem dX4_readsAll_75 : decode cX4_readsAll 75 = .ok (.aload_n 0, 1) := dk_42 (dk_at dksX4_readsAll_3 3 rfl rfl)
theorem dX4_readsAll_76 : decode cX4_readsAll 76 = .ok (.invokevirtual 194, 3) := dk_182 0 194 (dk_at dksX4_readsAll_3 4 rfl rfl)
theorem dX4_readsAll_79 : decode cX4_readsAll 79 = .ok (.goto (-46), 3) := dk_167 255 210 (dk_at dksX4_readsAll_3 7 rfl rfl)
theorem dX4_readsAll_82 : decode cX4_readsAll 82 = .ok (.aload_n 0, 1) := dk_42 (dk_at dksX4_readsAll_3 10 rfl rfl)
theorem dX4_readsAll_83 : decode cX4_readsAll 83 = .ok (.getfield 197, 3) := dk_180 0 197 (dk_at dksX4_readsAll_3 11 rfl rfl)
theorem dX4_readsAll_86 : decode cX4_readsAll 86 = .ok (.ireturn, 1) := dk_172 (dk_at dksX4_readsAll_3 14 rfl rfl)
abbrev cX4_readsTransition : ByteArray := prog_19_method_40_code
def yX4_readsTransition : MethodName := ⟨RX4, "readsTransition", "()V"⟩
def dkwX4_readsTransition_6 : List UInt8 := [162, 0, 23, 42, 16, 59, 182, 0, 201, 154, 0, 14, 42, 182, 0, 234, 42, 182, 0, 194, 167, 255, 221, 177]
abbrev dktX4_readsTransition_6 : List UInt8 := dkwX4_readsTransition_6 ++ []
def dkwX4_readsTransition_5 : List UInt8 := [3, 181, 0, 231, 42, 182, 0, 194, 42, 180, 0, 197, 153, 0, 34, 42, 180, 0, 191, 42, 180, 0, 188]
abbrev dktX4_readsTransition_5 : List UInt8 := dkwX4_readsTransition_5 ++ dktX4_readsTransition_6
def dkwX4_readsTransition_4 : List UInt8 := [27, 28, 42, 180, 0, 208, 182, 0, 167, 42, 27, 2, 160, 0, 7, 4, 167, 0, 4, 3, 181, 0, 228, 42]
abbrev dktX4_readsTransition_4 : List UInt8 := dkwX4_readsTransition_4 ++ dktX4_readsTransition_5
def dkwX4_readsTransition_3 : List UInt8 := [182, 0, 221, 42, 16, 60, 182, 0, 225, 42, 180, 0, 197, 153, 0, 20, 42, 180, 0, 211, 153, 0, 13, 42]
abbrev dktX4_readsTransition_3 : List UInt8 := dkwX4_readsTransition_3 ++ dktX4_readsTransition_4
def dkwX4_readsTransition_2 : List UInt8 := [181, 0, 197, 42, 4, 182, 0, 217, 60, 42, 16, 62, 182, 0, 221, 42, 3, 182, 0, 217, 61, 42, 16, 47]
abbrev dktX4_readsTransition_2 : List UInt8 := dkwX4_readsTransition_2 ++ dktX4_readsTransition_3
def dkwX4_readsTransition_1 : List UInt8 := [153, 0, 7, 3, 167, 0, 7, 42, 180, 0, 214, 96, 16, 24, 162, 0, 7, 4, 167, 0, 4, 3]
abbrev dktX4_readsTransition_1 : List UInt8 := dkwX4_readsTransition_1 ++ dktX4_readsTransition_2
def dkwX4_readsTransition_0 : List UInt8 := [42, 182, 0, 194, 42, 42, 180, 0, 191, 42, 180, 0, 188, 162, 0, 32, 42, 180, 0, 159, 42, 180, 0, 211]
abbrev dktX4_readsTransition_0 : List UInt8 := dkwX4_readsTransition_0 ++ dktX4_readsTransition_1
theorem dksX4_readsTransition_0 : cX4_readsTransition.data.toList.drop 0 = dktX4_readsTransition_0 := by decide +kernel
theorem dksX4_readsTransition_1 : cX4_readsTransition.data.toList.drop 24 = dktX4_readsTransition_1 := dk_seg dksX4_readsTransition_0 24 rfl rfl
theorem dksX4_readsTransition_2 : cX4_readsTransition.data.toList.drop 46 = dktX4_readsTransition_2 := dk_seg dksX4_readsTransition_1 22 rfl rfl
theorem dksX4_readsTransition_3 : cX4_readsTransition.data.toList.drop 70 = dktX4_readsTransition_3 := dk_seg dksX4_readsTransition_2 24 rfl rfl
theorem dksX4_readsTransition_4 : cX4_readsTransition.data.toList.drop 94 = dktX4_readsTransition_4 := dk_seg dksX4_readsTransition_3 24 rfl rfl
theorem dksX4_readsTransition_5 : cX4_readsTransition.data.toList.drop 118 = dktX4_readsTransition_5 := dk_seg dksX4_readsTransition_4 24 rfl rfl
theorem dksX4_readsTransition_6 : cX4_readsTransition.data.toList.drop 141 = dktX4_readsTransition_6 := dk_seg dksX4_readsTransition_5 23 rfl rfl
theorem dX4_readsTransition_0 : decode cX4_readsTransition 0 = .ok (.aload_n 0, 1) := dk_42 (dk_at dksX4_readsTransition_0 0 rfl rfl)
theorem dX4_readsTransition_1 : decode cX4_readsTransition 1 = .ok (.invokevirtual 194, 3) := dk_182 0 194 (dk_at dksX4_readsTransition_0 1 rfl rfl)
theorem dX4_readsTransition_4 : decode cX4_readsTransition 4 = .ok (.aload_n 0, 1) := dk_42 (dk_at dksX4_readsTransition_0 4 rfl rfl)
theorem dX4_readsTransition_5 : decode cX4_readsTransition 5 = .ok (.aload_n 0, 1) := dk_42 (dk_at dksX4_readsTransition_0 5 rfl rfl)
theorem dX4_readsTransition_6 : decode cX4_readsTransition 6 = .ok (.getfield 191, 3) := dk_180 0 191 (dk_at dksX4_readsTransition_0 6 rfl rfl)
theorem dX4_readsTransition_9 : decode cX4_readsTransition 9 = .ok (.aload_n 0, 1) := dk_42 (dk_at dksX4_readsTransition_0 9 rfl rfl)
theorem dX4_readsTransition_10 : decode cX4_readsTransition 10 = .ok (.getfield 188, 3) := dk_180 0 188 (dk_at dksX4_readsTransition_0 10 rfl rfl)
theorem dX4_readsTransition_13 : decode cX4_readsTransition 13 = .ok (.if_icmp .ge 32, 3) := dk_162 0 32 (dk_at dksX4_readsTransition_0 13 rfl rfl)
theorem dX4_readsTransition_16 : decode cX4_readsTransition 16 = .ok (.aload_n 0, 1) := dk_42 (dk_at dksX4_readsTransition_0 16 rfl rfl)
theorem dX4_readsTransition_17 : decode cX4_readsTransition 17 = .ok (.getfield 159, 3) := dk_180 0 159 (dk_at dksX4_readsTransition_0 17 rfl rfl)
theorem dX4_readsTransition_20 : decode cX4_readsTransition 20 = .ok (.aload_n 0, 1) := dk_42 (dk_at dksX4_readsTransition_0 20 rfl rfl)
theorem dX4_readsTransition_21 : decode cX4_readsTransition 21 = .ok (.getfield 211, 3) := dk_180 0 211 (dk_at dksX4_readsTransition_0 21 rfl rfl)
theorem dX4_readsTransition_24 : decode cX4_readsTransition 24 = .ok (.ifCond .eq 7, 3) := dk_153 0 7 (dk_at dksX4_readsTransition_1 0 rfl rfl)
theorem dX4_readsTransition_27 : decode cX4_readsTransition 27 = .ok (.iconst 0, 1) := dk_3 (dk_at dksX4_readsTransition_1 3 rfl rfl)
theorem dX4_readsTransition_28 : decode cX4_readsTransition 28 = .ok (.goto 7, 3) := dk_167 0 7 (dk_at dksX4_readsTransition_1 4 rfl rfl)
theorem dX4_readsTransition_31 : decode cX4_readsTransition 31 = .ok (.aload_n 0, 1) := dk_42 (dk_at dksX4_readsTransition_1 7 rfl rfl)
theorem dX4_readsTransition_32 : decode cX4_readsTransition 32 = .ok (.getfield 214, 3) := dk_180 0 214 (dk_at dksX4_readsTransition_1 8 rfl rfl)
theorem dX4_readsTransition_35 : decode cX4_readsTransition 35 = .ok (.iadd, 1) := dk_96 (dk_at dksX4_readsTransition_1 11 rfl rfl)
theorem dX4_readsTransition_36 : decode cX4_readsTransition 36 = .ok (.bipush 24, 2) := dk_16 24 (dk_at dksX4_readsTransition_1 12 rfl rfl)
theorem dX4_readsTransition_38 : decode cX4_readsTransition 38 = .ok (.if_icmp .ge 7, 3) := dk_162 0 7 (dk_at dksX4_readsTransition_1 14 rfl rfl)
theorem dX4_readsTransition_41 : decode cX4_readsTransition 41 = .ok (.iconst 1, 1) := dk_4 (dk_at dksX4_readsTransition_1 17 rfl rfl)
theorem dX4_readsTransition_42 : decode cX4_readsTransition 42 = .ok (.goto 4, 3) := dk_167 0 4 (dk_at dksX4_readsTransition_1 18 rfl rfl)
theorem dX4_readsTransition_45 : decode cX4_readsTransition 45 = .ok (.iconst 0, 1) := dk_3 (dk_at dksX4_readsTransition_1 21 rfl rfl)
theorem dX4_readsTransition_46 : decode cX4_readsTransition 46 = .ok (.putfield 197, 3) := dk_181 0 197 (dk_at dksX4_readsTransition_2 0 rfl rfl)
theorem dX4_readsTransition_49 : decode cX4_readsTransition 49 = .ok (.aload_n 0, 1) := dk_42 (dk_at dksX4_readsTransition_2 3 rfl rfl)
theorem dX4_readsTransition_50 : decode cX4_readsTransition 50 = .ok (.iconst 1, 1) := dk_4 (dk_at dksX4_readsTransition_2 4 rfl rfl)
theorem dX4_readsTransition_51 : decode cX4_readsTransition 51 = .ok (.invokevirtual 217, 3) := dk_182 0 217 (dk_at dksX4_readsTransition_2 5 rfl rfl)
theorem dX4_readsTransition_54 : decode cX4_readsTransition 54 = .ok (.istore_n 1, 1) := dk_60 (dk_at dksX4_readsTransition_2 8 rfl rfl)
theorem dX4_readsTransition_55 : decode cX4_readsTransition 55 = .ok (.aload_n 0, 1) := dk_42 (dk_at dksX4_readsTransition_2 9 rfl rfl)
theorem dX4_readsTransition_56 : decode cX4_readsTransition 56 = .ok (.bipush 62, 2) := dk_16 62 (dk_at dksX4_readsTransition_2 10 rfl rfl)
theorem dX4_readsTransition_58 : decode cX4_readsTransition 58 = .ok (.invokevirtual 221, 3) := dk_182 0 221 (dk_at dksX4_readsTransition_2 12 rfl rfl)
theorem dX4_readsTransition_61 : decode cX4_readsTransition 61 = .ok (.aload_n 0, 1) := dk_42 (dk_at dksX4_readsTransition_2 15 rfl rfl)
theorem dX4_readsTransition_62 : decode cX4_readsTransition 62 = .ok (.iconst 0, 1) := dk_3 (dk_at dksX4_readsTransition_2 16 rfl rfl)
theorem dX4_readsTransition_63 : decode cX4_readsTransition 63 = .ok (.invokevirtual 217, 3) := dk_182 0 217 (dk_at dksX4_readsTransition_2 17 rfl rfl)
theorem dX4_readsTransition_66 : decode cX4_readsTransition 66 = .ok (.istore_n 2, 1) := dk_61 (dk_at dksX4_readsTransition_2 20 rfl rfl)
theorem dX4_readsTransition_67 : decode cX4_readsTransition 67 = .ok (.aload_n 0, 1) := dk_42 (dk_at dksX4_readsTransition_2 21 rfl rfl)
theorem dX4_readsTransition_68 : decode cX4_readsTransition 68 = .ok (.bipush 47, 2) := dk_16 47 (dk_at dksX4_readsTransition_2 22 rfl rfl)
theorem dX4_readsTransition_70 : decode cX4_readsTransition 70 = .ok (.invokevirtual 221, 3) := dk_182 0 221 (dk_at dksX4_readsTransition_3 0 rfl rfl)
theorem dX4_readsTransition_73 : decode cX4_readsTransition 73 = .ok (.aload_n 0, 1) := dk_42 (dk_at dksX4_readsTransition_3 3 rfl rfl)
theorem dX4_readsTransition_74 : decode cX4_readsTransition 74 = .ok (.bipush 60, 2) := dk_16 60 (dk_at dksX4_readsTransition_3 4 rfl rfl)
theorem dX4_readsTransition_76 : decode cX4_readsTransition 76 = .ok (.invokevirtual 225, 3) := dk_182 0 225 (dk_at dksX4_readsTransition_3 6 rfl rfl)
theorem dX4_readsTransition_79 : decode cX4_readsTransition 79 = .ok (.aload_n 0, 1) := dk_42 (dk_at dksX4_readsTransition_3 9 rfl rfl)
theorem dX4_readsTransition_80 : decode cX4_readsTransition 80 = .ok (.getfield 197, 3) := dk_180 0 197 (dk_at dksX4_readsTransition_3 10 rfl rfl)
theorem dX4_readsTransition_83 : decode cX4_readsTransition 83 = .ok (.ifCond .eq 20, 3) := dk_153 0 20 (dk_at dksX4_readsTransition_3 13 rfl rfl)
theorem dX4_readsTransition_86 : decode cX4_readsTransition 86 = .ok (.aload_n 0, 1) := dk_42 (dk_at dksX4_readsTransition_3 16 rfl rfl)
theorem dX4_readsTransition_87 : decode cX4_readsTransition 87 = .ok (.getfield 211, 3) := dk_180 0 211 (dk_at dksX4_readsTransition_3 17 rfl rfl)
theorem dX4_readsTransition_90 : decode cX4_readsTransition 90 = .ok (.ifCond .eq 13, 3) := dk_153 0 13 (dk_at dksX4_readsTransition_3 20 rfl rfl)
theorem dX4_readsTransition_93 : decode cX4_readsTransition 93 = .ok (.aload_n 0, 1) := dk_42 (dk_at dksX4_readsTransition_3 23 rfl rfl)
theorem dX4_readsTransition_94 : decode cX4_readsTransition 94 = .ok (.iload_n 1, 1) := dk_27 (dk_at dksX4_readsTransition_4 0 rfl rfl)
theorem dX4_readsTransition_95 : decode cX4_readsTransition 95 = .ok (.iload_n 2, 1) := dk_28 (dk_at dksX4_readsTransition_4 1 rfl rfl)
theorem dX4_readsTransition_96 : decode cX4_readsTransition 96 = .ok (.aload_n 0, 1) := dk_42 (dk_at dksX4_readsTransition_4 2 rfl rfl)
theorem dX4_readsTransition_97 : decode cX4_readsTransition 97 = .ok (.getfield 208, 3) := dk_180 0 208 (dk_at dksX4_readsTransition_4 3 rfl rfl)
theorem dX4_readsTransition_100 : decode cX4_readsTransition 100 = .ok (.invokevirtual 167, 3) := dk_182 0 167 (dk_at dksX4_readsTransition_4 6 rfl rfl)
theorem dX4_readsTransition_103 : decode cX4_readsTransition 103 = .ok (.aload_n 0, 1) := dk_42 (dk_at dksX4_readsTransition_4 9 rfl rfl)
theorem dX4_readsTransition_104 : decode cX4_readsTransition 104 = .ok (.iload_n 1, 1) := dk_27 (dk_at dksX4_readsTransition_4 10 rfl rfl)
theorem dX4_readsTransition_105 : decode cX4_readsTransition 105 = .ok (.iconst (-1), 1) := dk_2 (dk_at dksX4_readsTransition_4 11 rfl rfl)
theorem dX4_readsTransition_106 : decode cX4_readsTransition 106 = .ok (.if_icmp .ne 7, 3) := dk_160 0 7 (dk_at dksX4_readsTransition_4 12 rfl rfl)
theorem dX4_readsTransition_109 : decode cX4_readsTransition 109 = .ok (.iconst 1, 1) := dk_4 (dk_at dksX4_readsTransition_4 15 rfl rfl)
theorem dX4_readsTransition_110 : decode cX4_readsTransition 110 = .ok (.goto 4, 3) := dk_167 0 4 (dk_at dksX4_readsTransition_4 16 rfl rfl)
theorem dX4_readsTransition_113 : decode cX4_readsTransition 113 = .ok (.iconst 0, 1) := dk_3 (dk_at dksX4_readsTransition_4 19 rfl rfl)
theorem dX4_readsTransition_114 : decode cX4_readsTransition 114 = .ok (.putfield 228, 3) := dk_181 0 228 (dk_at dksX4_readsTransition_4 20 rfl rfl)
theorem dX4_readsTransition_117 : decode cX4_readsTransition 117 = .ok (.aload_n 0, 1) := dk_42 (dk_at dksX4_readsTransition_4 23 rfl rfl)
theorem dX4_readsTransition_118 : decode cX4_readsTransition 118 = .ok (.iconst 0, 1) := dk_3 (dk_at dksX4_readsTransition_5 0 rfl rfl)
theorem dX4_readsTransition_119 : decode cX4_readsTransition 119 = .ok (.putfield 231, 3) := dk_181 0 231 (dk_at dksX4_readsTransition_5 1 rfl rfl)
theorem dX4_readsTransition_122 : decode cX4_readsTransition 122 = .ok (.aload_n 0, 1) := dk_42 (dk_at dksX4_readsTransition_5 4 rfl rfl)
theorem dX4_readsTransition_123 : decode cX4_readsTransition 123 = .ok (.invokevirtual 194, 3) := dk_182 0 194 (dk_at dksX4_readsTransition_5 5 rfl rfl)
theorem dX4_readsTransition_126 : decode cX4_readsTransition 126 = .ok (.aload_n 0, 1) := dk_42 (dk_at dksX4_readsTransition_5 8 rfl rfl)
theorem dX4_readsTransition_127 : decode cX4_readsTransition 127 = .ok (.getfield 197, 3) := dk_180 0 197 (dk_at dksX4_readsTransition_5 9 rfl rfl)
theorem dX4_readsTransition_130 : decode cX4_readsTransition 130 = .ok (.ifCond .eq 34, 3) := dk_153 0 34 (dk_at dksX4_readsTransition_5 12 rfl rfl)
theorem dX4_readsTransition_133 : decode cX4_readsTransition 133 = .ok (.aload_n 0, 1) := dk_42 (dk_at dksX4_readsTransition_5 15 rfl rfl)
theorem dX4_readsTransition_134 : decode cX4_readsTransition 134 = .ok (.getfield 191, 3) := dk_180 0 191 (dk_at dksX4_readsTransition_5 16 rfl rfl)
theorem dX4_readsTransition_137 : decode cX4_readsTransition 137 = .ok (.aload_n 0, 1) := dk_42 (dk_at dksX4_readsTransition_5 19 rfl rfl)
theorem dX4_readsTransition_138 : decode cX4_readsTransition 138 = .ok (.getfield 188, 3) := dk_180 0 188 (dk_at dksX4_readsTransition_5 20 rfl rfl)
theorem dX4_readsTransition_141 : decode cX4_readsTransition 141 = .ok (.if_icmp .ge 23, 3) := dk_162 0 23 (dk_at dksX4_readsTransition_6 0 rfl rfl)
theorem dX4_readsTransition_144 : decode cX4_readsTransition 144 = .ok (.aload_n 0, 1) := dk_42 (dk_at dksX4_readsTransition_6 3 rfl rfl)
theorem dX4_readsTransition_145 : decode cX4_readsTransition 145 = .ok (.bipush 59, 2) := dk_16 59 (dk_at dksX4_readsTransition_6 4 rfl rfl)
theorem dX4_readsTransition_147 : decode cX4_readsTransition 147 = .ok (.invokevirtual 201, 3) := dk_182 0 201 (dk_at dksX4_readsTransition_6 6 rfl rfl)
theorem dX4_readsTransition_150 : decode cX4_readsTransition 150 = .ok (.ifCond .ne 14, 3) := dk_154 0 14 (dk_at dksX4_readsTransition_6 9 rfl rfl)
theorem dX4_readsTransition_153 : decode cX4_readsTransition 153 = .ok (.aload_n 0, 1) := dk_42 (dk_at dksX4_readsTransition_6 12 rfl rfl)
theorem dX4_readsTransition_154 : decode cX4_readsTransition 154 = .ok (.invokevirtual 234, 3) := dk_182 0 234 (dk_at dksX4_readsTransition_6 13 rfl rfl)
theorem dX4_readsTransition_157 : decode cX4_readsTransition 157 = .ok (.aload_n 0, 1) := dk_42 (dk_at dksX4_readsTransition_6 16 rfl rfl)
theorem dX4_readsTransition_158 : decode cX4_readsTransition 158 = .ok (.invokevirtual 194, 3) := dk_182 0 194 (dk_at dksX4_readsTransition_6 17 rfl rfl)
theorem dX4_readsTransition_161 : decode cX4_readsTransition 161 = .ok (.goto (-35), 3) := dk_167 255 221 (dk_at dksX4_readsTransition_6 20 rfl rfl)
theorem dX4_readsTransition_164 : decode cX4_readsTransition 164 = .ok (.return_, 1) := dk_177 (dk_at dksX4_readsTransition_6 23 rfl rfl)
abbrev cX4_skips : ByteArray := prog_19_method_35_code
def yX4_skips : MethodName := ⟨RX4, "skips", "()V"⟩
def dkwX4_skips_1 : List UInt8 := [160, 0, 16, 42, 89, 180, 0, 191, 4, 96, 181, 0, 191, 167, 255, 221, 177]
abbrev dktX4_skips_1 : List UInt8 := dkwX4_skips_1 ++ []
def dkwX4_skips_0 : List UInt8 := [42, 180, 0, 191, 42, 180, 0, 188, 162, 0, 30, 42, 180, 0, 66, 42, 180, 0, 191, 46, 16, 32]
abbrev dktX4_skips_0 : List UInt8 := dkwX4_skips_0 ++ dktX4_skips_1
theorem dksX4_skips_0 : cX4_skips.data.toList.drop 0 = dktX4_skips_0 := by decide +kernel
theorem dksX4_skips_1 : cX4_skips.data.toList.drop 22 = dktX4_skips_1 := dk_seg dksX4_skips_0 22 rfl rfl
theorem dX4_skips_0 : decode cX4_skips 0 = .ok (.aload_n 0, 1) := dk_42 (dk_at dksX4_skips_0 0 rfl rfl)
theorem dX4_skips_1 : decode cX4_skips 1 = .ok (.getfield 191, 3) := dk_180 0 191 (dk_at dksX4_skips_0 1 rfl rfl)
theorem dX4_skips_4 : decode cX4_skips 4 = .ok (.aload_n 0, 1) := dk_42 (dk_at dksX4_skips_0 4 rfl rfl)
theorem dX4_skips_5 : decode cX4_skips 5 = .ok (.getfield 188, 3) := dk_180 0 188 (dk_at dksX4_skips_0 5 rfl rfl)
theorem dX4_skips_8 : decode cX4_skips 8 = .ok (.if_icmp .ge 30, 3) := dk_162 0 30 (dk_at dksX4_skips_0 8 rfl rfl)
theorem dX4_skips_11 : decode cX4_skips 11 = .ok (.aload_n 0, 1) := dk_42 (dk_at dksX4_skips_0 11 rfl rfl)
theorem dX4_skips_12 : decode cX4_skips 12 = .ok (.getfield 66, 3) := dk_180 0 66 (dk_at dksX4_skips_0 12 rfl rfl)
theorem dX4_skips_15 : decode cX4_skips 15 = .ok (.aload_n 0, 1) := dk_42 (dk_at dksX4_skips_0 15 rfl rfl)
theorem dX4_skips_16 : decode cX4_skips 16 = .ok (.getfield 191, 3) := dk_180 0 191 (dk_at dksX4_skips_0 16 rfl rfl)
theorem dX4_skips_19 : decode cX4_skips 19 = .ok (.iaload, 1) := dk_46 (dk_at dksX4_skips_0 19 rfl rfl)
theorem dX4_skips_20 : decode cX4_skips 20 = .ok (.bipush 32, 2) := dk_16 32 (dk_at dksX4_skips_0 20 rfl rfl)
theorem dX4_skips_22 : decode cX4_skips 22 = .ok (.if_icmp .ne 16, 3) := dk_160 0 16 (dk_at dksX4_skips_1 0 rfl rfl)
theorem dX4_skips_25 : decode cX4_skips 25 = .ok (.aload_n 0, 1) := dk_42 (dk_at dksX4_skips_1 3 rfl rfl)
theorem dX4_skips_26 : decode cX4_skips 26 = .ok (.dup, 1) := dk_89 (dk_at dksX4_skips_1 4 rfl rfl)
theorem dX4_skips_27 : decode cX4_skips 27 = .ok (.getfield 191, 3) := dk_180 0 191 (dk_at dksX4_skips_1 5 rfl rfl)
theorem dX4_skips_30 : decode cX4_skips 30 = .ok (.iconst 1, 1) := dk_4 (dk_at dksX4_skips_1 8 rfl rfl)
theorem dX4_skips_31 : decode cX4_skips 31 = .ok (.iadd, 1) := dk_96 (dk_at dksX4_skips_1 9 rfl rfl)
theorem dX4_skips_32 : decode cX4_skips 32 = .ok (.putfield 191, 3) := dk_181 0 191 (dk_at dksX4_skips_1 10 rfl rfl)
theorem dX4_skips_35 : decode cX4_skips 35 = .ok (.goto (-35), 3) := dk_167 255 221 (dk_at dksX4_skips_1 13 rfl rfl)
theorem dX4_skips_38 : decode cX4_skips 38 = .ok (.return_, 1) := dk_177 (dk_at dksX4_skips_1 16 rfl rfl)
abbrev cX4_readsState : ByteArray := prog_19_method_39_code
def yX4_readsState : MethodName := ⟨RX4, "readsState", "(Z)I"⟩
def dkwX4_readsState_5 : List UInt8 := [3, 96, 181, 0, 191, 28, 172]
abbrev dktX4_readsState_5 : List UInt8 := dkwX4_readsState_5 ++ []
def dkwX4_readsState_4 : List UInt8 := [4, 167, 0, 4, 3, 181, 0, 197, 42, 89, 180, 0, 191, 42, 180, 0, 197, 153, 0, 7, 4, 167, 0, 4]
abbrev dktX4_readsState_4 : List UInt8 := dkwX4_readsState_4 ++ dktX4_readsState_5
def dkwX4_readsState_3 : List UInt8 := [162, 0, 28, 27, 153, 0, 12, 42, 16, 42, 182, 0, 201, 154, 0, 11, 42, 28, 182, 0, 162, 153, 0, 7]
abbrev dktX4_readsState_3 : List UInt8 := dkwX4_readsState_3 ++ dktX4_readsState_4
def dkwX4_readsState_2 : List UInt8 := [167, 0, 5, 16, 99, 61, 42, 42, 180, 0, 197, 153, 0, 39, 42, 180, 0, 191, 42, 180, 0, 188]
abbrev dktX4_readsState_2 : List UInt8 := dkwX4_readsState_2 ++ dktX4_readsState_3
def dkwX4_readsState_1 : List UInt8 := [180, 0, 191, 42, 180, 0, 188, 162, 0, 18, 42, 180, 0, 66, 42, 180, 0, 191, 46, 16, 65, 100]
abbrev dktX4_readsState_1 : List UInt8 := dkwX4_readsState_1 ++ dktX4_readsState_2
def dkwX4_readsState_0 : List UInt8 := [42, 182, 0, 194, 27, 153, 0, 16, 42, 16, 42, 182, 0, 201, 153, 0, 7, 2, 167, 0, 31, 42]
abbrev dktX4_readsState_0 : List UInt8 := dkwX4_readsState_0 ++ dktX4_readsState_1
theorem dksX4_readsState_0 : cX4_readsState.data.toList.drop 0 = dktX4_readsState_0 := by decide +kernel
theorem dksX4_readsState_1 : cX4_readsState.data.toList.drop 22 = dktX4_readsState_1 := dk_seg dksX4_readsState_0 22 rfl rfl
theorem dksX4_readsState_2 : cX4_readsState.data.toList.drop 44 = dktX4_readsState_2 := dk_seg dksX4_readsState_1 22 rfl rfl
theorem dksX4_readsState_3 : cX4_readsState.data.toList.drop 66 = dktX4_readsState_3 := dk_seg dksX4_readsState_2 22 rfl rfl
theorem dksX4_readsState_4 : cX4_readsState.data.toList.drop 90 = dktX4_readsState_4 := dk_seg dksX4_readsState_3 24 rfl rfl
theorem dksX4_readsState_5 : cX4_readsState.data.toList.drop 114 = dktX4_readsState_5 := dk_seg dksX4_readsState_4 24 rfl rfl
theorem dX4_readsState_0 : decode cX4_readsState 0 = .ok (.aload_n 0, 1) := dk_42 (dk_at dksX4_readsState_0 0 rfl rfl)
theorem dX4_readsState_1 : decode cX4_readsState 1 = .ok (.invokevirtual 194, 3) := dk_182 0 194 (dk_at dksX4_readsState_0 1 rfl rfl)
theorem dX4_readsState_4 : decode cX4_readsState 4 = .ok (.iload_n 1, 1) := dk_27 (dk_at dksX4_readsState_0 4 rfl rfl)
theorem dX4_readsState_5 : decode cX4_readsState 5 = .ok (.ifCond .eq 16, 3) := dk_153 0 16 (dk_at dksX4_readsState_0 5 rfl rfl)
theorem dX4_readsState_8 : decode cX4_readsState 8 = .ok (.aload_n 0, 1) := dk_42 (dk_at dksX4_readsState_0 8 rfl rfl)
theorem dX4_readsState_9 : decode cX4_readsState 9 = .ok (.bipush 42, 2) := dk_16 42 (dk_at dksX4_readsState_0 9 rfl rfl)
theorem dX4_readsState_11 : decode cX4_readsState 11 = .ok (.invokevirtual 201, 3) := dk_182 0 201 (dk_at dksX4_readsState_0 11 rfl rfl)
theorem dX4_readsState_14 : decode cX4_readsState 14 = .ok (.ifCond .eq 7, 3) := dk_153 0 7 (dk_at dksX4_readsState_0 14 rfl rfl)
theorem dX4_readsState_17 : decode cX4_readsState 17 = .ok (.iconst (-1), 1) := dk_2 (dk_at dksX4_readsState_0 17 rfl rfl)
theorem dX4_readsState_18 : decode cX4_readsState 18 = .ok (.goto 31, 3) := dk_167 0 31 (dk_at dksX4_readsState_0 18 rfl rfl)
theorem dX4_readsState_21 : decode cX4_readsState 21 = .ok (.aload_n 0, 1) := dk_42 (dk_at dksX4_readsState_0 21 rfl rfl)
theorem dX4_readsState_22 : decode cX4_readsState 22 = .ok (.getfield 191, 3) := dk_180 0 191 (dk_at dksX4_readsState_1 0 rfl rfl)
theorem dX4_readsState_25 : decode cX4_readsState 25 = .ok (.aload_n 0, 1) := dk_42 (dk_at dksX4_readsState_1 3 rfl rfl)
theorem dX4_readsState_26 : decode cX4_readsState 26 = .ok (.getfield 188, 3) := dk_180 0 188 (dk_at dksX4_readsState_1 4 rfl rfl)
theorem dX4_readsState_29 : decode cX4_readsState 29 = .ok (.if_icmp .ge 18, 3) := dk_162 0 18 (dk_at dksX4_readsState_1 7 rfl rfl)
theorem dX4_readsState_32 : decode cX4_readsState 32 = .ok (.aload_n 0, 1) := dk_42 (dk_at dksX4_readsState_1 10 rfl rfl)
theorem dX4_readsState_33 : decode cX4_readsState 33 = .ok (.getfield 66, 3) := dk_180 0 66 (dk_at dksX4_readsState_1 11 rfl rfl)
theorem dX4_readsState_36 : decode cX4_readsState 36 = .ok (.aload_n 0, 1) := dk_42 (dk_at dksX4_readsState_1 14 rfl rfl)
theorem dX4_readsState_37 : decode cX4_readsState 37 = .ok (.getfield 191, 3) := dk_180 0 191 (dk_at dksX4_readsState_1 15 rfl rfl)
theorem dX4_readsState_40 : decode cX4_readsState 40 = .ok (.iaload, 1) := dk_46 (dk_at dksX4_readsState_1 18 rfl rfl)
theorem dX4_readsState_41 : decode cX4_readsState 41 = .ok (.bipush 65, 2) := dk_16 65 (dk_at dksX4_readsState_1 19 rfl rfl)
theorem dX4_readsState_43 : decode cX4_readsState 43 = .ok (.isub, 1) := dk_100 (dk_at dksX4_readsState_1 21 rfl rfl)
theorem dX4_readsState_44 : decode cX4_readsState 44 = .ok (.goto 5, 3) := dk_167 0 5 (dk_at dksX4_readsState_2 0 rfl rfl)
theorem dX4_readsState_47 : decode cX4_readsState 47 = .ok (.bipush 99, 2) := dk_16 99 (dk_at dksX4_readsState_2 3 rfl rfl)
theorem dX4_readsState_49 : decode cX4_readsState 49 = .ok (.istore_n 2, 1) := dk_61 (dk_at dksX4_readsState_2 5 rfl rfl)
theorem dX4_readsState_50 : decode cX4_readsState 50 = .ok (.aload_n 0, 1) := dk_42 (dk_at dksX4_readsState_2 6 rfl rfl)
theorem dX4_readsState_51 : decode cX4_readsState 51 = .ok (.aload_n 0, 1) := dk_42 (dk_at dksX4_readsState_2 7 rfl rfl)
theorem dX4_readsState_52 : decode cX4_readsState 52 = .ok (.getfield 197, 3) := dk_180 0 197 (dk_at dksX4_readsState_2 8 rfl rfl)
theorem dX4_readsState_55 : decode cX4_readsState 55 = .ok (.ifCond .eq 39, 3) := dk_153 0 39 (dk_at dksX4_readsState_2 11 rfl rfl)
theorem dX4_readsState_58 : decode cX4_readsState 58 = .ok (.aload_n 0, 1) := dk_42 (dk_at dksX4_readsState_2 14 rfl rfl)
theorem dX4_readsState_59 : decode cX4_readsState 59 = .ok (.getfield 191, 3) := dk_180 0 191 (dk_at dksX4_readsState_2 15 rfl rfl)
theorem dX4_readsState_62 : decode cX4_readsState 62 = .ok (.aload_n 0, 1) := dk_42 (dk_at dksX4_readsState_2 18 rfl rfl)
theorem dX4_readsState_63 : decode cX4_readsState 63 = .ok (.getfield 188, 3) := dk_180 0 188 (dk_at dksX4_readsState_2 19 rfl rfl)
theorem dX4_readsState_66 : decode cX4_readsState 66 = .ok (.if_icmp .ge 28, 3) := dk_162 0 28 (dk_at dksX4_readsState_3 0 rfl rfl)
theorem dX4_readsState_69 : decode cX4_readsState 69 = .ok (.iload_n 1, 1) := dk_27 (dk_at dksX4_readsState_3 3 rfl rfl)
theorem dX4_readsState_70 : decode cX4_readsState 70 = .ok (.ifCond .eq 12, 3) := dk_153 0 12 (dk_at dksX4_readsState_3 4 rfl rfl)
theorem dX4_readsState_73 : decode cX4_readsState 73 = .ok (.aload_n 0, 1) := dk_42 (dk_at dksX4_readsState_3 7 rfl rfl)
theorem dX4_readsState_74 : decode cX4_readsState 74 = .ok (.bipush 42, 2) := dk_16 42 (dk_at dksX4_readsState_3 8 rfl rfl)
theorem dX4_readsState_76 : decode cX4_readsState 76 = .ok (.invokevirtual 201, 3) := dk_182 0 201 (dk_at dksX4_readsState_3 10 rfl rfl)
theorem dX4_readsState_79 : decode cX4_readsState 79 = .ok (.ifCond .ne 11, 3) := dk_154 0 11 (dk_at dksX4_readsState_3 13 rfl rfl)
theorem dX4_readsState_82 : decode cX4_readsState 82 = .ok (.aload_n 0, 1) := dk_42 (dk_at dksX4_readsState_3 16 rfl rfl)
theorem dX4_readsState_83 : decode cX4_readsState 83 = .ok (.iload_n 2, 1) := dk_28 (dk_at dksX4_readsState_3 17 rfl rfl)
theorem dX4_readsState_84 : decode cX4_readsState 84 = .ok (.invokevirtual 162, 3) := dk_182 0 162 (dk_at dksX4_readsState_3 18 rfl rfl)
theorem dX4_readsState_87 : decode cX4_readsState 87 = .ok (.ifCond .eq 7, 3) := dk_153 0 7 (dk_at dksX4_readsState_3 21 rfl rfl)
theorem dX4_readsState_90 : decode cX4_readsState 90 = .ok (.iconst 1, 1) := dk_4 (dk_at dksX4_readsState_4 0 rfl rfl)
theorem dX4_readsState_91 : decode cX4_readsState 91 = .ok (.goto 4, 3) := dk_167 0 4 (dk_at dksX4_readsState_4 1 rfl rfl)
theorem dX4_readsState_94 : decode cX4_readsState 94 = .ok (.iconst 0, 1) := dk_3 (dk_at dksX4_readsState_4 4 rfl rfl)
theorem dX4_readsState_95 : decode cX4_readsState 95 = .ok (.putfield 197, 3) := dk_181 0 197 (dk_at dksX4_readsState_4 5 rfl rfl)
theorem dX4_readsState_98 : decode cX4_readsState 98 = .ok (.aload_n 0, 1) := dk_42 (dk_at dksX4_readsState_4 8 rfl rfl)
theorem dX4_readsState_99 : decode cX4_readsState 99 = .ok (.dup, 1) := dk_89 (dk_at dksX4_readsState_4 9 rfl rfl)
theorem dX4_readsState_100 : decode cX4_readsState 100 = .ok (.getfield 191, 3) := dk_180 0 191 (dk_at dksX4_readsState_4 10 rfl rfl)
theorem dX4_readsState_103 : decode cX4_readsState 103 = .ok (.aload_n 0, 1) := dk_42 (dk_at dksX4_readsState_4 13 rfl rfl)
theorem dX4_readsState_104 : decode cX4_readsState 104 = .ok (.getfield 197, 3) := dk_180 0 197 (dk_at dksX4_readsState_4 14 rfl rfl)
theorem dX4_readsState_107 : decode cX4_readsState 107 = .ok (.ifCond .eq 7, 3) := dk_153 0 7 (dk_at dksX4_readsState_4 17 rfl rfl)
theorem dX4_readsState_110 : decode cX4_readsState 110 = .ok (.iconst 1, 1) := dk_4 (dk_at dksX4_readsState_4 20 rfl rfl)
theorem dX4_readsState_111 : decode cX4_readsState 111 = .ok (.goto 4, 3) := dk_167 0 4 (dk_at dksX4_readsState_4 21 rfl rfl)
theorem dX4_readsState_114 : decode cX4_readsState 114 = .ok (.iconst 0, 1) := dk_3 (dk_at dksX4_readsState_5 0 rfl rfl)
theorem dX4_readsState_115 : decode cX4_readsState 115 = .ok (.iadd, 1) := dk_96 (dk_at dksX4_readsState_5 1 rfl rfl)
theorem dX4_readsState_116 : decode cX4_readsState 116 = .ok (.putfield 191, 3) := dk_181 0 191 (dk_at dksX4_readsState_5 2 rfl rfl)
theorem dX4_readsState_119 : decode cX4_readsState 119 = .ok (.iload_n 2, 1) := dk_28 (dk_at dksX4_readsState_5 5 rfl rfl)
theorem dX4_readsState_120 : decode cX4_readsState 120 = .ok (.ireturn, 1) := dk_172 (dk_at dksX4_readsState_5 6 rfl rfl)
abbrev cX4_here : ByteArray := prog_19_method_36_code
def yX4_here : MethodName := ⟨RX4, "here", "(I)Z"⟩
def dkwX4_here_1 : List UInt8 := [4, 167, 0, 4, 3, 172]
abbrev dktX4_here_1 : List UInt8 := dkwX4_here_1 ++ []
def dkwX4_here_0 : List UInt8 := [42, 180, 0, 191, 42, 180, 0, 188, 162, 0, 20, 42, 180, 0, 66, 42, 180, 0, 191, 46, 27, 160, 0, 7]
abbrev dktX4_here_0 : List UInt8 := dkwX4_here_0 ++ dktX4_here_1
theorem dksX4_here_0 : cX4_here.data.toList.drop 0 = dktX4_here_0 := by decide +kernel
theorem dksX4_here_1 : cX4_here.data.toList.drop 24 = dktX4_here_1 := dk_seg dksX4_here_0 24 rfl rfl
theorem dX4_here_0 : decode cX4_here 0 = .ok (.aload_n 0, 1) := dk_42 (dk_at dksX4_here_0 0 rfl rfl)
theorem dX4_here_1 : decode cX4_here 1 = .ok (.getfield 191, 3) := dk_180 0 191 (dk_at dksX4_here_0 1 rfl rfl)
theorem dX4_here_4 : decode cX4_here 4 = .ok (.aload_n 0, 1) := dk_42 (dk_at dksX4_here_0 4 rfl rfl)
theorem dX4_here_5 : decode cX4_here 5 = .ok (.getfield 188, 3) := dk_180 0 188 (dk_at dksX4_here_0 5 rfl rfl)
theorem dX4_here_8 : decode cX4_here 8 = .ok (.if_icmp .ge 20, 3) := dk_162 0 20 (dk_at dksX4_here_0 8 rfl rfl)
theorem dX4_here_11 : decode cX4_here 11 = .ok (.aload_n 0, 1) := dk_42 (dk_at dksX4_here_0 11 rfl rfl)
theorem dX4_here_12 : decode cX4_here 12 = .ok (.getfield 66, 3) := dk_180 0 66 (dk_at dksX4_here_0 12 rfl rfl)
theorem dX4_here_15 : decode cX4_here 15 = .ok (.aload_n 0, 1) := dk_42 (dk_at dksX4_here_0 15 rfl rfl)
theorem dX4_here_16 : decode cX4_here 16 = .ok (.getfield 191, 3) := dk_180 0 191 (dk_at dksX4_here_0 16 rfl rfl)
theorem dX4_here_19 : decode cX4_here 19 = .ok (.iaload, 1) := dk_46 (dk_at dksX4_here_0 19 rfl rfl)
theorem dX4_here_20 : decode cX4_here 20 = .ok (.iload_n 1, 1) := dk_27 (dk_at dksX4_here_0 20 rfl rfl)
theorem dX4_here_21 : decode cX4_here 21 = .ok (.if_icmp .ne 7, 3) := dk_160 0 7 (dk_at dksX4_here_0 21 rfl rfl)
theorem dX4_here_24 : decode cX4_here 24 = .ok (.iconst 1, 1) := dk_4 (dk_at dksX4_here_1 0 rfl rfl)
theorem dX4_here_25 : decode cX4_here 25 = .ok (.goto 4, 3) := dk_167 0 4 (dk_at dksX4_here_1 1 rfl rfl)
theorem dX4_here_28 : decode cX4_here 28 = .ok (.iconst 0, 1) := dk_3 (dk_at dksX4_here_1 4 rfl rfl)
theorem dX4_here_29 : decode cX4_here 29 = .ok (.ireturn, 1) := dk_172 (dk_at dksX4_here_1 5 rfl rfl)
abbrev cX4_reads : ByteArray := prog_19_method_37_code
def yX4_reads : MethodName := ⟨RX4, "reads", "(I)V"⟩
def dkwX4_reads_2 : List UInt8 := [181, 0, 191, 177]
abbrev dktX4_reads_2 : List UInt8 := dkwX4_reads_2 ++ []
def dkwX4_reads_1 : List UInt8 := [3, 181, 0, 197, 42, 89, 180, 0, 191, 42, 180, 0, 197, 153, 0, 7, 4, 167, 0, 4, 3, 96]
abbrev dktX4_reads_1 : List UInt8 := dkwX4_reads_1 ++ dktX4_reads_2
def dkwX4_reads_0 : List UInt8 := [42, 182, 0, 194, 42, 42, 180, 0, 197, 153, 0, 15, 42, 27, 182, 0, 201, 153, 0, 7, 4, 167, 0, 4]
abbrev dktX4_reads_0 : List UInt8 := dkwX4_reads_0 ++ dktX4_reads_1
theorem dksX4_reads_0 : cX4_reads.data.toList.drop 0 = dktX4_reads_0 := by decide +kernel
theorem dksX4_reads_1 : cX4_reads.data.toList.drop 24 = dktX4_reads_1 := dk_seg dksX4_reads_0 24 rfl rfl
theorem dksX4_reads_2 : cX4_reads.data.toList.drop 46 = dktX4_reads_2 := dk_seg dksX4_reads_1 22 rfl rfl
theorem dX4_reads_0 : decode cX4_reads 0 = .ok (.aload_n 0, 1) := dk_42 (dk_at dksX4_reads_0 0 rfl rfl)
theorem dX4_reads_1 : decode cX4_reads 1 = .ok (.invokevirtual 194, 3) := dk_182 0 194 (dk_at dksX4_reads_0 1 rfl rfl)
theorem dX4_reads_4 : decode cX4_reads 4 = .ok (.aload_n 0, 1) := dk_42 (dk_at dksX4_reads_0 4 rfl rfl)
theorem dX4_reads_5 : decode cX4_reads 5 = .ok (.aload_n 0, 1) := dk_42 (dk_at dksX4_reads_0 5 rfl rfl)
theorem dX4_reads_6 : decode cX4_reads 6 = .ok (.getfield 197, 3) := dk_180 0 197 (dk_at dksX4_reads_0 6 rfl rfl)
theorem dX4_reads_9 : decode cX4_reads 9 = .ok (.ifCond .eq 15, 3) := dk_153 0 15 (dk_at dksX4_reads_0 9 rfl rfl)
theorem dX4_reads_12 : decode cX4_reads 12 = .ok (.aload_n 0, 1) := dk_42 (dk_at dksX4_reads_0 12 rfl rfl)
theorem dX4_reads_13 : decode cX4_reads 13 = .ok (.iload_n 1, 1) := dk_27 (dk_at dksX4_reads_0 13 rfl rfl)
theorem dX4_reads_14 : decode cX4_reads 14 = .ok (.invokevirtual 201, 3) := dk_182 0 201 (dk_at dksX4_reads_0 14 rfl rfl)
theorem dX4_reads_17 : decode cX4_reads 17 = .ok (.ifCond .eq 7, 3) := dk_153 0 7 (dk_at dksX4_reads_0 17 rfl rfl)
theorem dX4_reads_20 : decode cX4_reads 20 = .ok (.iconst 1, 1) := dk_4 (dk_at dksX4_reads_0 20 rfl rfl)
theorem dX4_reads_21 : decode cX4_reads 21 = .ok (.goto 4, 3) := dk_167 0 4 (dk_at dksX4_reads_0 21 rfl rfl)
theorem dX4_reads_24 : decode cX4_reads 24 = .ok (.iconst 0, 1) := dk_3 (dk_at dksX4_reads_1 0 rfl rfl)
theorem dX4_reads_25 : decode cX4_reads 25 = .ok (.putfield 197, 3) := dk_181 0 197 (dk_at dksX4_reads_1 1 rfl rfl)
theorem dX4_reads_28 : decode cX4_reads 28 = .ok (.aload_n 0, 1) := dk_42 (dk_at dksX4_reads_1 4 rfl rfl)
theorem dX4_reads_29 : decode cX4_reads 29 = .ok (.dup, 1) := dk_89 (dk_at dksX4_reads_1 5 rfl rfl)
theorem dX4_reads_30 : decode cX4_reads 30 = .ok (.getfield 191, 3) := dk_180 0 191 (dk_at dksX4_reads_1 6 rfl rfl)
theorem dX4_reads_33 : decode cX4_reads 33 = .ok (.aload_n 0, 1) := dk_42 (dk_at dksX4_reads_1 9 rfl rfl)
theorem dX4_reads_34 : decode cX4_reads 34 = .ok (.getfield 197, 3) := dk_180 0 197 (dk_at dksX4_reads_1 10 rfl rfl)
theorem dX4_reads_37 : decode cX4_reads 37 = .ok (.ifCond .eq 7, 3) := dk_153 0 7 (dk_at dksX4_reads_1 13 rfl rfl)
theorem dX4_reads_40 : decode cX4_reads 40 = .ok (.iconst 1, 1) := dk_4 (dk_at dksX4_reads_1 16 rfl rfl)
theorem dX4_reads_41 : decode cX4_reads 41 = .ok (.goto 4, 3) := dk_167 0 4 (dk_at dksX4_reads_1 17 rfl rfl)
theorem dX4_reads_44 : decode cX4_reads 44 = .ok (.iconst 0, 1) := dk_3 (dk_at dksX4_reads_1 20 rfl rfl)
theorem dX4_reads_45 : decode cX4_reads 45 = .ok (.iadd, 1) := dk_96 (dk_at dksX4_reads_1 21 rfl rfl)
theorem dX4_reads_46 : decode cX4_reads 46 = .ok (.putfield 191, 3) := dk_181 0 191 (dk_at dksX4_reads_2 0 rfl rfl)
theorem dX4_reads_49 : decode cX4_reads 49 = .ok (.return_, 1) := dk_177 (dk_at dksX4_reads_2 3 rfl rfl)
abbrev cX4_readsNumber : ByteArray := prog_19_method_38_code
def yX4_readsNumber : MethodName := ⟨RX4, "readsNumber", "(I)V"⟩
def dkwX4_readsNumber_6 : List UInt8 := [167, 0, 4, 28, 181, 0, 191, 42, 29, 181, 0, 208, 177]
abbrev dktX4_readsNumber_6 : List UInt8 := dkwX4_readsNumber_6 ++ []
def dkwX4_readsNumber_5 : List UInt8 := [163, 0, 7, 4, 167, 0, 4, 3, 181, 0, 197, 42, 42, 180, 0, 197, 153, 0, 10, 28, 21, 4, 96]
abbrev dktX4_readsNumber_5 : List UInt8 := dkwX4_readsNumber_5 ++ dktX4_readsNumber_6
def dkwX4_readsNumber_4 : List UInt8 := [167, 255, 176, 42, 42, 180, 0, 197, 153, 0, 23, 21, 4, 158, 0, 18, 21, 4, 6, 163, 0, 12, 29, 27]
abbrev dktX4_readsNumber_4 : List UInt8 := dkwX4_readsNumber_4 ++ dktX4_readsNumber_5
def dkwX4_readsNumber_3 : List UInt8 := [42, 180, 0, 66, 42, 180, 0, 191, 21, 4, 96, 46, 96, 16, 48, 100, 167, 0, 4, 29, 62, 132, 4, 1]
abbrev dktX4_readsNumber_3 : List UInt8 := dkwX4_readsNumber_3 ++ dktX4_readsNumber_4
def dkwX4_readsNumber_2 : List UInt8 := [46, 133, 20, 0, 204, 20, 0, 206, 184, 0, 99, 153, 0, 40, 21, 4, 7, 162, 0, 26, 16, 10, 29, 104]
abbrev dktX4_readsNumber_2 : List UInt8 := dkwX4_readsNumber_2 ++ dktX4_readsNumber_3
def dkwX4_readsNumber_1 : List UInt8 := [180, 0, 191, 21, 4, 96, 42, 180, 0, 188, 162, 0, 65, 42, 180, 0, 66, 42, 180, 0, 191, 21, 4, 96]
abbrev dktX4_readsNumber_1 : List UInt8 := dkwX4_readsNumber_1 ++ dktX4_readsNumber_2
def dkwX4_readsNumber_0 : List UInt8 := [42, 182, 0, 194, 42, 180, 0, 191, 61, 3, 62, 3, 54, 4, 42, 180, 0, 197, 153, 0, 79, 42]
abbrev dktX4_readsNumber_0 : List UInt8 := dkwX4_readsNumber_0 ++ dktX4_readsNumber_1
theorem dksX4_readsNumber_0 : cX4_readsNumber.data.toList.drop 0 = dktX4_readsNumber_0 := by decide +kernel
theorem dksX4_readsNumber_1 : cX4_readsNumber.data.toList.drop 22 = dktX4_readsNumber_1 := dk_seg dksX4_readsNumber_0 22 rfl rfl
theorem dksX4_readsNumber_2 : cX4_readsNumber.data.toList.drop 46 = dktX4_readsNumber_2 := dk_seg dksX4_readsNumber_1 24 rfl rfl
theorem dksX4_readsNumber_3 : cX4_readsNumber.data.toList.drop 70 = dktX4_readsNumber_3 := dk_seg dksX4_readsNumber_2 24 rfl rfl
theorem dksX4_readsNumber_4 : cX4_readsNumber.data.toList.drop 94 = dktX4_readsNumber_4 := dk_seg dksX4_readsNumber_3 24 rfl rfl
theorem dksX4_readsNumber_5 : cX4_readsNumber.data.toList.drop 118 = dktX4_readsNumber_5 := dk_seg dksX4_readsNumber_4 24 rfl rfl
theorem dksX4_readsNumber_6 : cX4_readsNumber.data.toList.drop 141 = dktX4_readsNumber_6 := dk_seg dksX4_readsNumber_5 23 rfl rfl
theorem dX4_readsNumber_0 : decode cX4_readsNumber 0 = .ok (.aload_n 0, 1) := dk_42 (dk_at dksX4_readsNumber_0 0 rfl rfl)
theorem dX4_readsNumber_1 : decode cX4_readsNumber 1 = .ok (.invokevirtual 194, 3) := dk_182 0 194 (dk_at dksX4_readsNumber_0 1 rfl rfl)
theorem dX4_readsNumber_4 : decode cX4_readsNumber 4 = .ok (.aload_n 0, 1) := dk_42 (dk_at dksX4_readsNumber_0 4 rfl rfl)
theorem dX4_readsNumber_5 : decode cX4_readsNumber 5 = .ok (.getfield 191, 3) := dk_180 0 191 (dk_at dksX4_readsNumber_0 5 rfl rfl)
theorem dX4_readsNumber_8 : decode cX4_readsNumber 8 = .ok (.istore_n 2, 1) := dk_61 (dk_at dksX4_readsNumber_0 8 rfl rfl)
theorem dX4_readsNumber_9 : decode cX4_readsNumber 9 = .ok (.iconst 0, 1) := dk_3 (dk_at dksX4_readsNumber_0 9 rfl rfl)
theorem dX4_readsNumber_10 : decode cX4_readsNumber 10 = .ok (.istore_n 3, 1) := dk_62 (dk_at dksX4_readsNumber_0 10 rfl rfl)
theorem dX4_readsNumber_11 : decode cX4_readsNumber 11 = .ok (.iconst 0, 1) := dk_3 (dk_at dksX4_readsNumber_0 11 rfl rfl)
theorem dX4_readsNumber_12 : decode cX4_readsNumber 12 = .ok (.istore 4, 2) := dk_54 4 (dk_at dksX4_readsNumber_0 12 rfl rfl)
theorem dX4_readsNumber_14 : decode cX4_readsNumber 14 = .ok (.aload_n 0, 1) := dk_42 (dk_at dksX4_readsNumber_0 14 rfl rfl)
theorem dX4_readsNumber_15 : decode cX4_readsNumber 15 = .ok (.getfield 197, 3) := dk_180 0 197 (dk_at dksX4_readsNumber_0 15 rfl rfl)
theorem dX4_readsNumber_18 : decode cX4_readsNumber 18 = .ok (.ifCond .eq 79, 3) := dk_153 0 79 (dk_at dksX4_readsNumber_0 18 rfl rfl)
theorem dX4_readsNumber_21 : decode cX4_readsNumber 21 = .ok (.aload_n 0, 1) := dk_42 (dk_at dksX4_readsNumber_0 21 rfl rfl)
theorem dX4_readsNumber_22 : decode cX4_readsNumber 22 = .ok (.getfield 191, 3) := dk_180 0 191 (dk_at dksX4_readsNumber_1 0 rfl rfl)
theorem dX4_readsNumber_25 : decode cX4_readsNumber 25 = .ok (.iload 4, 2) := dk_21 4 (dk_at dksX4_readsNumber_1 3 rfl rfl)
theorem dX4_readsNumber_27 : decode cX4_readsNumber 27 = .ok (.iadd, 1) := dk_96 (dk_at dksX4_readsNumber_1 5 rfl rfl)
theorem dX4_readsNumber_28 : decode cX4_readsNumber 28 = .ok (.aload_n 0, 1) := dk_42 (dk_at dksX4_readsNumber_1 6 rfl rfl)
theorem dX4_readsNumber_29 : decode cX4_readsNumber 29 = .ok (.getfield 188, 3) := dk_180 0 188 (dk_at dksX4_readsNumber_1 7 rfl rfl)
theorem dX4_readsNumber_32 : decode cX4_readsNumber 32 = .ok (.if_icmp .ge 65, 3) := dk_162 0 65 (dk_at dksX4_readsNumber_1 10 rfl rfl)
theorem dX4_readsNumber_35 : decode cX4_readsNumber 35 = .ok (.aload_n 0, 1) := dk_42 (dk_at dksX4_readsNumber_1 13 rfl rfl)
theorem dX4_readsNumber_36 : decode cX4_readsNumber 36 = .ok (.getfield 66, 3) := dk_180 0 66 (dk_at dksX4_readsNumber_1 14 rfl rfl)
theorem dX4_readsNumber_39 : decode cX4_readsNumber 39 = .ok (.aload_n 0, 1) := dk_42 (dk_at dksX4_readsNumber_1 17 rfl rfl)
theorem dX4_readsNumber_40 : decode cX4_readsNumber 40 = .ok (.getfield 191, 3) := dk_180 0 191 (dk_at dksX4_readsNumber_1 18 rfl rfl)
theorem dX4_readsNumber_43 : decode cX4_readsNumber 43 = .ok (.iload 4, 2) := dk_21 4 (dk_at dksX4_readsNumber_1 21 rfl rfl)
theorem dX4_readsNumber_45 : decode cX4_readsNumber 45 = .ok (.iadd, 1) := dk_96 (dk_at dksX4_readsNumber_1 23 rfl rfl)
theorem dX4_readsNumber_46 : decode cX4_readsNumber 46 = .ok (.iaload, 1) := dk_46 (dk_at dksX4_readsNumber_2 0 rfl rfl)
theorem dX4_readsNumber_47 : decode cX4_readsNumber 47 = .ok (.i2l, 1) := dk_133 (dk_at dksX4_readsNumber_2 1 rfl rfl)
theorem dX4_readsNumber_48 : decode cX4_readsNumber 48 = .ok (.ldc2_w 204, 3) := dk_20 0 204 (dk_at dksX4_readsNumber_2 2 rfl rfl)
theorem dX4_readsNumber_51 : decode cX4_readsNumber 51 = .ok (.ldc2_w 206, 3) := dk_20 0 206 (dk_at dksX4_readsNumber_2 5 rfl rfl)
theorem dX4_readsNumber_54 : decode cX4_readsNumber 54 = .ok (.invokestatic 99, 3) := dk_184 0 99 (dk_at dksX4_readsNumber_2 8 rfl rfl)
theorem dX4_readsNumber_57 : decode cX4_readsNumber 57 = .ok (.ifCond .eq 40, 3) := dk_153 0 40 (dk_at dksX4_readsNumber_2 11 rfl rfl)
theorem dX4_readsNumber_60 : decode cX4_readsNumber 60 = .ok (.iload 4, 2) := dk_21 4 (dk_at dksX4_readsNumber_2 14 rfl rfl)
theorem dX4_readsNumber_62 : decode cX4_readsNumber 62 = .ok (.iconst 4, 1) := dk_7 (dk_at dksX4_readsNumber_2 16 rfl rfl)
theorem dX4_readsNumber_63 : decode cX4_readsNumber 63 = .ok (.if_icmp .ge 26, 3) := dk_162 0 26 (dk_at dksX4_readsNumber_2 17 rfl rfl)
theorem dX4_readsNumber_66 : decode cX4_readsNumber 66 = .ok (.bipush 10, 2) := dk_16 10 (dk_at dksX4_readsNumber_2 20 rfl rfl)
theorem dX4_readsNumber_68 : decode cX4_readsNumber 68 = .ok (.iload_n 3, 1) := dk_29 (dk_at dksX4_readsNumber_2 22 rfl rfl)
theorem dX4_readsNumber_69 : decode cX4_readsNumber 69 = .ok (.imul, 1) := dk_104 (dk_at dksX4_readsNumber_2 23 rfl rfl)
theorem dX4_readsNumber_70 : decode cX4_readsNumber 70 = .ok (.aload_n 0, 1) := dk_42 (dk_at dksX4_readsNumber_3 0 rfl rfl)
theorem dX4_readsNumber_71 : decode cX4_readsNumber 71 = .ok (.getfield 66, 3) := dk_180 0 66 (dk_at dksX4_readsNumber_3 1 rfl rfl)
theorem dX4_readsNumber_74 : decode cX4_readsNumber 74 = .ok (.aload_n 0, 1) := dk_42 (dk_at dksX4_readsNumber_3 4 rfl rfl)
theorem dX4_readsNumber_75 : decode cX4_readsNumber 75 = .ok (.getfield 191, 3) := dk_180 0 191 (dk_at dksX4_readsNumber_3 5 rfl rfl)
theorem dX4_readsNumber_78 : decode cX4_readsNumber 78 = .ok (.iload 4, 2) := dk_21 4 (dk_at dksX4_readsNumber_3 8 rfl rfl)
theorem dX4_readsNumber_80 : decode cX4_readsNumber 80 = .ok (.iadd, 1) := dk_96 (dk_at dksX4_readsNumber_3 10 rfl rfl)
theorem dX4_readsNumber_81 : decode cX4_readsNumber 81 = .ok (.iaload, 1) := dk_46 (dk_at dksX4_readsNumber_3 11 rfl rfl)
theorem dX4_readsNumber_82 : decode cX4_readsNumber 82 = .ok (.iadd, 1) := dk_96 (dk_at dksX4_readsNumber_3 12 rfl rfl)
theorem dX4_readsNumber_83 : decode cX4_readsNumber 83 = .ok (.bipush 48, 2) := dk_16 48 (dk_at dksX4_readsNumber_3 13 rfl rfl)
theorem dX4_readsNumber_85 : decode cX4_readsNumber 85 = .ok (.isub, 1) := dk_100 (dk_at dksX4_readsNumber_3 15 rfl rfl)
theorem dX4_readsNumber_86 : decode cX4_readsNumber 86 = .ok (.goto 4, 3) := dk_167 0 4 (dk_at dksX4_readsNumber_3 16 rfl rfl)
theorem dX4_readsNumber_89 : decode cX4_readsNumber 89 = .ok (.iload_n 3, 1) := dk_29 (dk_at dksX4_readsNumber_3 19 rfl rfl)
theorem dX4_readsNumber_90 : decode cX4_readsNumber 90 = .ok (.istore_n 3, 1) := dk_62 (dk_at dksX4_readsNumber_3 20 rfl rfl)
theorem dX4_readsNumber_91 : decode cX4_readsNumber 91 = .ok (.iinc 4 1, 3) := dk_132 4 1 (dk_at dksX4_readsNumber_3 21 rfl rfl)
theorem dX4_readsNumber_94 : decode cX4_readsNumber 94 = .ok (.goto (-80), 3) := dk_167 255 176 (dk_at dksX4_readsNumber_4 0 rfl rfl)
theorem dX4_readsNumber_97 : decode cX4_readsNumber 97 = .ok (.aload_n 0, 1) := dk_42 (dk_at dksX4_readsNumber_4 3 rfl rfl)
theorem dX4_readsNumber_98 : decode cX4_readsNumber 98 = .ok (.aload_n 0, 1) := dk_42 (dk_at dksX4_readsNumber_4 4 rfl rfl)
theorem dX4_readsNumber_99 : decode cX4_readsNumber 99 = .ok (.getfield 197, 3) := dk_180 0 197 (dk_at dksX4_readsNumber_4 5 rfl rfl)
theorem dX4_readsNumber_102 : decode cX4_readsNumber 102 = .ok (.ifCond .eq 23, 3) := dk_153 0 23 (dk_at dksX4_readsNumber_4 8 rfl rfl)
theorem dX4_readsNumber_105 : decode cX4_readsNumber 105 = .ok (.iload 4, 2) := dk_21 4 (dk_at dksX4_readsNumber_4 11 rfl rfl)
theorem dX4_readsNumber_107 : decode cX4_readsNumber 107 = .ok (.ifCond .le 18, 3) := dk_158 0 18 (dk_at dksX4_readsNumber_4 13 rfl rfl)
theorem dX4_readsNumber_110 : decode cX4_readsNumber 110 = .ok (.iload 4, 2) := dk_21 4 (dk_at dksX4_readsNumber_4 16 rfl rfl)
theorem dX4_readsNumber_112 : decode cX4_readsNumber 112 = .ok (.iconst 3, 1) := dk_6 (dk_at dksX4_readsNumber_4 18 rfl rfl)
theorem dX4_readsNumber_113 : decode cX4_readsNumber 113 = .ok (.if_icmp .gt 12, 3) := dk_163 0 12 (dk_at dksX4_readsNumber_4 19 rfl rfl)
theorem dX4_readsNumber_116 : decode cX4_readsNumber 116 = .ok (.iload_n 3, 1) := dk_29 (dk_at dksX4_readsNumber_4 22 rfl rfl)
theorem dX4_readsNumber_117 : decode cX4_readsNumber 117 = .ok (.iload_n 1, 1) := dk_27 (dk_at dksX4_readsNumber_4 23 rfl rfl)
theorem dX4_readsNumber_118 : decode cX4_readsNumber 118 = .ok (.if_icmp .gt 7, 3) := dk_163 0 7 (dk_at dksX4_readsNumber_5 0 rfl rfl)
theorem dX4_readsNumber_121 : decode cX4_readsNumber 121 = .ok (.iconst 1, 1) := dk_4 (dk_at dksX4_readsNumber_5 3 rfl rfl)
theorem dX4_readsNumber_122 : decode cX4_readsNumber 122 = .ok (.goto 4, 3) := dk_167 0 4 (dk_at dksX4_readsNumber_5 4 rfl rfl)
theorem dX4_readsNumber_125 : decode cX4_readsNumber 125 = .ok (.iconst 0, 1) := dk_3 (dk_at dksX4_readsNumber_5 7 rfl rfl)
theorem dX4_readsNumber_126 : decode cX4_readsNumber 126 = .ok (.putfield 197, 3) := dk_181 0 197 (dk_at dksX4_readsNumber_5 8 rfl rfl)
theorem dX4_readsNumber_129 : decode cX4_readsNumber 129 = .ok (.aload_n 0, 1) := dk_42 (dk_at dksX4_readsNumber_5 11 rfl rfl)
theorem dX4_readsNumber_130 : decode cX4_readsNumber 130 = .ok (.aload_n 0, 1) := dk_42 (dk_at dksX4_readsNumber_5 12 rfl rfl)
theorem dX4_readsNumber_131 : decode cX4_readsNumber 131 = .ok (.getfield 197, 3) := dk_180 0 197 (dk_at dksX4_readsNumber_5 13 rfl rfl)
theorem dX4_readsNumber_134 : decode cX4_readsNumber 134 = .ok (.ifCond .eq 10, 3) := dk_153 0 10 (dk_at dksX4_readsNumber_5 16 rfl rfl)
theorem dX4_readsNumber_137 : decode cX4_readsNumber 137 = .ok (.iload_n 2, 1) := dk_28 (dk_at dksX4_readsNumber_5 19 rfl rfl)
theorem dX4_readsNumber_138 : decode cX4_readsNumber 138 = .ok (.iload 4, 2) := dk_21 4 (dk_at dksX4_readsNumber_5 20 rfl rfl)
theorem dX4_readsNumber_140 : decode cX4_readsNumber 140 = .ok (.iadd, 1) := dk_96 (dk_at dksX4_readsNumber_5 22 rfl rfl)
theorem dX4_readsNumber_141 : decode cX4_readsNumber 141 = .ok (.goto 4, 3) := dk_167 0 4 (dk_at dksX4_readsNumber_6 0 rfl rfl)
theorem dX4_readsNumber_144 : decode cX4_readsNumber 144 = .ok (.iload_n 2, 1) := dk_28 (dk_at dksX4_readsNumber_6 3 rfl rfl)
theorem dX4_readsNumber_145 : decode cX4_readsNumber 145 = .ok (.putfield 191, 3) := dk_181 0 191 (dk_at dksX4_readsNumber_6 4 rfl rfl)
theorem dX4_readsNumber_148 : decode cX4_readsNumber 148 = .ok (.aload_n 0, 1) := dk_42 (dk_at dksX4_readsNumber_6 7 rfl rfl)
theorem dX4_readsNumber_149 : decode cX4_readsNumber 149 = .ok (.iload_n 3, 1) := dk_29 (dk_at dksX4_readsNumber_6 8 rfl rfl)
theorem dX4_readsNumber_150 : decode cX4_readsNumber 150 = .ok (.putfield 208, 3) := dk_181 0 208 (dk_at dksX4_readsNumber_6 9 rfl rfl)
theorem dX4_readsNumber_153 : decode cX4_readsNumber 153 = .ok (.return_, 1) := dk_177 (dk_at dksX4_readsNumber_6 12 rfl rfl)
abbrev cX4_readsAttribute : ByteArray := prog_19_method_42_code
def yX4_readsAttribute : MethodName := ⟨RX4, "readsAttribute", "()V"⟩
def dkwX4_readsAttribute_10 : List UInt8 := [180, 0, 208, 182, 0, 240, 177]
abbrev dktX4_readsAttribute_10 : List UInt8 := dkwX4_readsAttribute_10 ++ []
def dkwX4_readsAttribute_9 : List UInt8 := [7, 182, 0, 225, 42, 27, 154, 0, 7, 6, 167, 0, 13, 27, 4, 160, 0, 7, 7, 167, 0, 4, 8, 42]
abbrev dktX4_readsAttribute_9 : List UInt8 := dkwX4_readsAttribute_9 ++ dktX4_readsAttribute_10
def dkwX4_readsAttribute_8 : List UInt8 := [167, 0, 54, 42, 27, 154, 0, 9, 17, 1, 44, 167, 0, 14, 27, 4, 160, 0, 8, 16, 99, 167, 0, 4]
abbrev dktX4_readsAttribute_8 : List UInt8 := dkwX4_readsAttribute_8 ++ dktX4_readsAttribute_9
def dkwX4_readsAttribute_7 : List UInt8 := [181, 0, 231, 42, 182, 0, 237, 167, 0, 69, 27, 6, 160, 0, 13, 42, 16, 6, 4, 182, 0, 240]
abbrev dktX4_readsAttribute_7 : List UInt8 := dkwX4_readsAttribute_7 ++ dktX4_readsAttribute_8
def dkwX4_readsAttribute_6 : List UInt8 := [4, 27, 120, 167, 0, 4, 3, 128, 181, 0, 228, 27, 7, 160, 0, 20, 42, 89, 180, 0, 231, 4, 96]
abbrev dktX4_readsAttribute_6 : List UInt8 := dkwX4_readsAttribute_6 ++ dktX4_readsAttribute_7
def dkwX4_readsAttribute_5 : List UInt8 := [154, 0, 4, 177, 42, 89, 180, 0, 191, 4, 96, 181, 0, 191, 42, 89, 180, 0, 228, 27, 7, 162, 0, 9]
abbrev dktX4_readsAttribute_5 : List UInt8 := dkwX4_readsAttribute_5 ++ dktX4_readsAttribute_6
def dkwX4_readsAttribute_4 : List UInt8 := [7, 160, 0, 15, 42, 180, 0, 231, 6, 162, 0, 7, 4, 167, 0, 4, 3, 181, 0, 197, 42, 180, 0, 197]
abbrev dktX4_readsAttribute_4 : List UInt8 := dkwX4_readsAttribute_4 ++ dktX4_readsAttribute_5
def dkwX4_readsAttribute_3 : List UInt8 := [7, 162, 0, 22, 42, 180, 0, 228, 27, 122, 4, 126, 154, 0, 7, 4, 167, 0, 25, 3, 167, 0, 21, 27]
abbrev dktX4_readsAttribute_3 : List UInt8 := dkwX4_readsAttribute_3 ++ dktX4_readsAttribute_4
def dkwX4_readsAttribute_2 : List UInt8 := [153, 0, 7, 6, 167, 0, 17, 42, 16, 63, 182, 0, 201, 153, 0, 7, 7, 167, 0, 4, 8, 60, 42, 27]
abbrev dktX4_readsAttribute_2 : List UInt8 := dkwX4_readsAttribute_2 ++ dktX4_readsAttribute_3
def dkwX4_readsAttribute_1 : List UInt8 := [167, 0, 43, 42, 16, 33, 182, 0, 201, 153, 0, 7, 5, 167, 0, 30, 42, 16, 111, 182, 0, 201]
abbrev dktX4_readsAttribute_1 : List UInt8 := dkwX4_readsAttribute_1 ++ dktX4_readsAttribute_2
def dkwX4_readsAttribute_0 : List UInt8 := [42, 16, 64, 182, 0, 201, 153, 0, 7, 3, 167, 0, 56, 42, 16, 43, 182, 0, 201, 153, 0, 7, 4]
abbrev dktX4_readsAttribute_0 : List UInt8 := dkwX4_readsAttribute_0 ++ dktX4_readsAttribute_1
theorem dksX4_readsAttribute_0 : cX4_readsAttribute.data.toList.drop 0 = dktX4_readsAttribute_0 := by decide +kernel
theorem dksX4_readsAttribute_1 : cX4_readsAttribute.data.toList.drop 23 = dktX4_readsAttribute_1 := dk_seg dksX4_readsAttribute_0 23 rfl rfl
theorem dksX4_readsAttribute_2 : cX4_readsAttribute.data.toList.drop 45 = dktX4_readsAttribute_2 := dk_seg dksX4_readsAttribute_1 22 rfl rfl
theorem dksX4_readsAttribute_3 : cX4_readsAttribute.data.toList.drop 69 = dktX4_readsAttribute_3 := dk_seg dksX4_readsAttribute_2 24 rfl rfl
theorem dksX4_readsAttribute_4 : cX4_readsAttribute.data.toList.drop 93 = dktX4_readsAttribute_4 := dk_seg dksX4_readsAttribute_3 24 rfl rfl
theorem dksX4_readsAttribute_5 : cX4_readsAttribute.data.toList.drop 117 = dktX4_readsAttribute_5 := dk_seg dksX4_readsAttribute_4 24 rfl rfl
theorem dksX4_readsAttribute_6 : cX4_readsAttribute.data.toList.drop 141 = dktX4_readsAttribute_6 := dk_seg dksX4_readsAttribute_5 24 rfl rfl
theorem dksX4_readsAttribute_7 : cX4_readsAttribute.data.toList.drop 164 = dktX4_readsAttribute_7 := dk_seg dksX4_readsAttribute_6 23 rfl rfl
theorem dksX4_readsAttribute_8 : cX4_readsAttribute.data.toList.drop 186 = dktX4_readsAttribute_8 := dk_seg dksX4_readsAttribute_7 22 rfl rfl
theorem dksX4_readsAttribute_9 : cX4_readsAttribute.data.toList.drop 210 = dktX4_readsAttribute_9 := dk_seg dksX4_readsAttribute_8 24 rfl rfl
theorem dksX4_readsAttribute_10 : cX4_readsAttribute.data.toList.drop 234 = dktX4_readsAttribute_10 := dk_seg dksX4_readsAttribute_9 24 rfl rfl
theorem dX4_readsAttribute_0 : decode cX4_readsAttribute 0 = .ok (.aload_n 0, 1) := dk_42 (dk_at dksX4_readsAttribute_0 0 rfl rfl)
theorem dX4_readsAttribute_1 : decode cX4_readsAttribute 1 = .ok (.bipush 64, 2) := dk_16 64 (dk_at dksX4_readsAttribute_0 1 rfl rfl)
theorem dX4_readsAttribute_3 : decode cX4_readsAttribute 3 = .ok (.invokevirtual 201, 3) := dk_182 0 201 (dk_at dksX4_readsAttribute_0 3 rfl rfl)
theorem dX4_readsAttribute_6 : decode cX4_readsAttribute 6 = .ok (.ifCond .eq 7, 3) := dk_153 0 7 (dk_at dksX4_readsAttribute_0 6 rfl rfl)
theorem dX4_readsAttribute_9 : decode cX4_readsAttribute 9 = .ok (.iconst 0, 1) := dk_3 (dk_at dksX4_readsAttribute_0 9 rfl rfl)
theorem dX4_readsAttribute_10 : decode cX4_readsAttribute 10 = .ok (.goto 56, 3) := dk_167 0 56 (dk_at dksX4_readsAttribute_0 10 rfl rfl)
theorem dX4_readsAttribute_13 : decode cX4_readsAttribute 13 = .ok (.aload_n 0, 1) := dk_42 (dk_at dksX4_readsAttribute_0 13 rfl rfl)
theorem dX4_readsAttribute_14 : decode cX4_readsAttribute 14 = .ok (.bipush 43, 2) := dk_16 43 (dk_at dksX4_readsAttribute_0 14 rfl rfl)
theorem dX4_readsAttribute_16 : decode cX4_readsAttribute 16 = .ok (.invokevirtual 201, 3) := dk_182 0 201 (dk_at dksX4_readsAttribute_0 16 rfl rfl)
theorem dX4_readsAttribute_19 : decode cX4_readsAttribute 19 = .ok (.ifCond .eq 7, 3) := dk_153 0 7 (dk_at dksX4_readsAttribute_0 19 rfl rfl)
theorem dX4_readsAttribute_22 : decode cX4_readsAttribute 22 = .ok (.iconst 1, 1) := dk_4 (dk_at dksX4_readsAttribute_0 22 rfl rfl)
theorem dX4_readsAttribute_23 : decode cX4_readsAttribute 23 = .ok (.goto 43, 3) := dk_167 0 43 (dk_at dksX4_readsAttribute_1 0 rfl rfl)
theorem dX4_readsAttribute_26 : decode cX4_readsAttribute 26 = .ok (.aload_n 0, 1) := dk_42 (dk_at dksX4_readsAttribute_1 3 rfl rfl)
theorem dX4_readsAttribute_27 : decode cX4_readsAttribute 27 = .ok (.bipush 33, 2) := dk_16 33 (dk_at dksX4_readsAttribute_1 4 rfl rfl)
theorem dX4_readsAttribute_29 : decode cX4_readsAttribute 29 = .ok (.invokevirtual 201, 3) := dk_182 0 201 (dk_at dksX4_readsAttribute_1 6 rfl rfl)
theorem dX4_readsAttribute_32 : decode cX4_readsAttribute 32 = .ok (.ifCond .eq 7, 3) := dk_153 0 7 (dk_at dksX4_readsAttribute_1 9 rfl rfl)
theorem dX4_readsAttribute_35 : decode cX4_readsAttribute 35 = .ok (.iconst 2, 1) := dk_5 (dk_at dksX4_readsAttribute_1 12 rfl rfl)
theorem dX4_readsAttribute_36 : decode cX4_readsAttribute 36 = .ok (.goto 30, 3) := dk_167 0 30 (dk_at dksX4_readsAttribute_1 13 rfl rfl)
theorem dX4_readsAttribute_39 : decode cX4_readsAttribute 39 = .ok (.aload_n 0, 1) := dk_42 (dk_at dksX4_readsAttribute_1 16 rfl rfl)
theorem dX4_readsAttribute_40 : decode cX4_readsAttribute 40 = .ok (.bipush 111, 2) := dk_16 111 (dk_at dksX4_readsAttribute_1 17 rfl rfl)
theorem dX4_readsAttribute_42 : decode cX4_readsAttribute 42 = .ok (.invokevirtual 201, 3) := dk_182 0 201 (dk_at dksX4_readsAttribute_1 19 rfl rfl)
theorem dX4_readsAttribute_45 : decode cX4_readsAttribute 45 = .ok (.ifCond .eq 7, 3) := dk_153 0 7 (dk_at dksX4_readsAttribute_2 0 rfl rfl)
theorem dX4_readsAttribute_48 : decode cX4_readsAttribute 48 = .ok (.iconst 3, 1) := dk_6 (dk_at dksX4_readsAttribute_2 3 rfl rfl)
theorem dX4_readsAttribute_49 : decode cX4_readsAttribute 49 = .ok (.goto 17, 3) := dk_167 0 17 (dk_at dksX4_readsAttribute_2 4 rfl rfl)
theorem dX4_readsAttribute_52 : decode cX4_readsAttribute 52 = .ok (.aload_n 0, 1) := dk_42 (dk_at dksX4_readsAttribute_2 7 rfl rfl)
theorem dX4_readsAttribute_53 : decode cX4_readsAttribute 53 = .ok (.bipush 63, 2) := dk_16 63 (dk_at dksX4_readsAttribute_2 8 rfl rfl)
theorem dX4_readsAttribute_55 : decode cX4_readsAttribute 55 = .ok (.invokevirtual 201, 3) := dk_182 0 201 (dk_at dksX4_readsAttribute_2 10 rfl rfl)
theorem dX4_readsAttribute_58 : decode cX4_readsAttribute 58 = .ok (.ifCond .eq 7, 3) := dk_153 0 7 (dk_at dksX4_readsAttribute_2 13 rfl rfl)
theorem dX4_readsAttribute_61 : decode cX4_readsAttribute 61 = .ok (.iconst 4, 1) := dk_7 (dk_at dksX4_readsAttribute_2 16 rfl rfl)
theorem dX4_readsAttribute_62 : decode cX4_readsAttribute 62 = .ok (.goto 4, 3) := dk_167 0 4 (dk_at dksX4_readsAttribute_2 17 rfl rfl)
theorem dX4_readsAttribute_65 : decode cX4_readsAttribute 65 = .ok (.iconst 5, 1) := dk_8 (dk_at dksX4_readsAttribute_2 20 rfl rfl)
theorem dX4_readsAttribute_66 : decode cX4_readsAttribute 66 = .ok (.istore_n 1, 1) := dk_60 (dk_at dksX4_readsAttribute_2 21 rfl rfl)
theorem dX4_readsAttribute_67 : decode cX4_readsAttribute 67 = .ok (.aload_n 0, 1) := dk_42 (dk_at dksX4_readsAttribute_2 22 rfl rfl)
theorem dX4_readsAttribute_68 : decode cX4_readsAttribute 68 = .ok (.iload_n 1, 1) := dk_27 (dk_at dksX4_readsAttribute_2 23 rfl rfl)
theorem dX4_readsAttribute_69 : decode cX4_readsAttribute 69 = .ok (.iconst 4, 1) := dk_7 (dk_at dksX4_readsAttribute_3 0 rfl rfl)
theorem dX4_readsAttribute_70 : decode cX4_readsAttribute 70 = .ok (.if_icmp .ge 22, 3) := dk_162 0 22 (dk_at dksX4_readsAttribute_3 1 rfl rfl)
theorem dX4_readsAttribute_73 : decode cX4_readsAttribute 73 = .ok (.aload_n 0, 1) := dk_42 (dk_at dksX4_readsAttribute_3 4 rfl rfl)
theorem dX4_readsAttribute_74 : decode cX4_readsAttribute 74 = .ok (.getfield 228, 3) := dk_180 0 228 (dk_at dksX4_readsAttribute_3 5 rfl rfl)
theorem dX4_readsAttribute_77 : decode cX4_readsAttribute 77 = .ok (.iload_n 1, 1) := dk_27 (dk_at dksX4_readsAttribute_3 8 rfl rfl)
theorem dX4_readsAttribute_78 : decode cX4_readsAttribute 78 = .ok (.ishr, 1) := dk_122 (dk_at dksX4_readsAttribute_3 9 rfl rfl)
theorem dX4_readsAttribute_79 : decode cX4_readsAttribute 79 = .ok (.iconst 1, 1) := dk_4 (dk_at dksX4_readsAttribute_3 10 rfl rfl)
theorem dX4_readsAttribute_80 : decode cX4_readsAttribute 80 = .ok (.iand, 1) := dk_126 (dk_at dksX4_readsAttribute_3 11 rfl rfl)
theorem dX4_readsAttribute_81 : decode cX4_readsAttribute 81 = .ok (.ifCond .ne 7, 3) := dk_154 0 7 (dk_at dksX4_readsAttribute_3 12 rfl rfl)
theorem dX4_readsAttribute_84 : decode cX4_readsAttribute 84 = .ok (.iconst 1, 1) := dk_4 (dk_at dksX4_readsAttribute_3 15 rfl rfl)
theorem dX4_readsAttribute_85 : decode cX4_readsAttribute 85 = .ok (.goto 25, 3) := dk_167 0 25 (dk_at dksX4_readsAttribute_3 16 rfl rfl)
theorem dX4_readsAttribute_88 : decode cX4_readsAttribute 88 = .ok (.iconst 0, 1) := dk_3 (dk_at dksX4_readsAttribute_3 19 rfl rfl)
theorem dX4_readsAttribute_89 : decode cX4_readsAttribute 89 = .ok (.goto 21, 3) := dk_167 0 21 (dk_at dksX4_readsAttribute_3 20 rfl rfl)
theorem dX4_readsAttribute_92 : decode cX4_readsAttribute 92 = .ok (.iload_n 1, 1) := dk_27 (dk_at dksX4_readsAttribute_3 23 rfl rfl)
theorem dX4_readsAttribute_93 : decode cX4_readsAttribute 93 = .ok (.iconst 4, 1) := dk_7 (dk_at dksX4_readsAttribute_4 0 rfl rfl)
theorem dX4_readsAttribute_94 : decode cX4_readsAttribute 94 = .ok (.if_icmp .ne 15, 3) := dk_160 0 15 (dk_at dksX4_readsAttribute_4 1 rfl rfl)
theorem dX4_readsAttribute_97 : decode cX4_readsAttribute 97 = .ok (.aload_n 0, 1) := dk_42 (dk_at dksX4_readsAttribute_4 4 rfl rfl)
theorem dX4_readsAttribute_98 : decode cX4_readsAttribute 98 = .ok (.getfield 231, 3) := dk_180 0 231 (dk_at dksX4_readsAttribute_4 5 rfl rfl)
theorem dX4_readsAttribute_101 : decode cX4_readsAttribute 101 = .ok (.iconst 3, 1) := dk_6 (dk_at dksX4_readsAttribute_4 8 rfl rfl)
theorem dX4_readsAttribute_102 : decode cX4_readsAttribute 102 = .ok (.if_icmp .ge 7, 3) := dk_162 0 7 (dk_at dksX4_readsAttribute_4 9 rfl rfl)
theorem dX4_readsAttribute_105 : decode cX4_readsAttribute 105 = .ok (.iconst 1, 1) := dk_4 (dk_at dksX4_readsAttribute_4 12 rfl rfl)
theorem dX4_readsAttribute_106 : decode cX4_readsAttribute 106 = .ok (.goto 4, 3) := dk_167 0 4 (dk_at dksX4_readsAttribute_4 13 rfl rfl)
theorem dX4_readsAttribute_109 : decode cX4_readsAttribute 109 = .ok (.iconst 0, 1) := dk_3 (dk_at dksX4_readsAttribute_4 16 rfl rfl)
theorem dX4_readsAttribute_110 : decode cX4_readsAttribute 110 = .ok (.putfield 197, 3) := dk_181 0 197 (dk_at dksX4_readsAttribute_4 17 rfl rfl)
theorem dX4_readsAttribute_113 : decode cX4_readsAttribute 113 = .ok (.aload_n 0, 1) := dk_42 (dk_at dksX4_readsAttribute_4 20 rfl rfl)
theorem dX4_readsAttribute_114 : decode cX4_readsAttribute 114 = .ok (.getfield 197, 3) := dk_180 0 197 (dk_at dksX4_readsAttribute_4 21 rfl rfl)
theorem dX4_readsAttribute_117 : decode cX4_readsAttribute 117 = .ok (.ifCond .ne 4, 3) := dk_154 0 4 (dk_at dksX4_readsAttribute_5 0 rfl rfl)
theorem dX4_readsAttribute_120 : decode cX4_readsAttribute 120 = .ok (.return_, 1) := dk_177 (dk_at dksX4_readsAttribute_5 3 rfl rfl)
theorem dX4_readsAttribute_121 : decode cX4_readsAttribute 121 = .ok (.aload_n 0, 1) := dk_42 (dk_at dksX4_readsAttribute_5 4 rfl rfl)
theorem dX4_readsAttribute_122 : decode cX4_readsAttribute 122 = .ok (.dup, 1) := dk_89 (dk_at dksX4_readsAttribute_5 5 rfl rfl)
theorem dX4_readsAttribute_123 : decode cX4_readsAttribute 123 = .ok (.getfield 191, 3) := dk_180 0 191 (dk_at dksX4_readsAttribute_5 6 rfl rfl)
theorem dX4_readsAttribute_126 : decode cX4_readsAttribute 126 = .ok (.iconst 1, 1) := dk_4 (dk_at dksX4_readsAttribute_5 9 rfl rfl)
theorem dX4_readsAttribute_127 : decode cX4_readsAttribute 127 = .ok (.iadd, 1) := dk_96 (dk_at dksX4_readsAttribute_5 10 rfl rfl)
theorem dX4_readsAttribute_128 : decode cX4_readsAttribute 128 = .ok (.putfield 191, 3) := dk_181 0 191 (dk_at dksX4_readsAttribute_5 11 rfl rfl)
theorem dX4_readsAttribute_131 : decode cX4_readsAttribute 131 = .ok (.aload_n 0, 1) := dk_42 (dk_at dksX4_readsAttribute_5 14 rfl rfl)
theorem dX4_readsAttribute_132 : decode cX4_readsAttribute 132 = .ok (.dup, 1) := dk_89 (dk_at dksX4_readsAttribute_5 15 rfl rfl)
theorem dX4_readsAttribute_133 : decode cX4_readsAttribute 133 = .ok (.getfield 228, 3) := dk_180 0 228 (dk_at dksX4_readsAttribute_5 16 rfl rfl)
theorem dX4_readsAttribute_136 : decode cX4_readsAttribute 136 = .ok (.iload_n 1, 1) := dk_27 (dk_at dksX4_readsAttribute_5 19 rfl rfl)
theorem dX4_readsAttribute_137 : decode cX4_readsAttribute 137 = .ok (.iconst 4, 1) := dk_7 (dk_at dksX4_readsAttribute_5 20 rfl rfl)
theorem dX4_readsAttribute_138 : decode cX4_readsAttribute 138 = .ok (.if_icmp .ge 9, 3) := dk_162 0 9 (dk_at dksX4_readsAttribute_5 21 rfl rfl)
theorem dX4_readsAttribute_141 : decode cX4_readsAttribute 141 = .ok (.iconst 1, 1) := dk_4 (dk_at dksX4_readsAttribute_6 0 rfl rfl)
theorem dX4_readsAttribute_142 : decode cX4_readsAttribute 142 = .ok (.iload_n 1, 1) := dk_27 (dk_at dksX4_readsAttribute_6 1 rfl rfl)
theorem dX4_readsAttribute_143 : decode cX4_readsAttribute 143 = .ok (.ishl, 1) := dk_120 (dk_at dksX4_readsAttribute_6 2 rfl rfl)
theorem dX4_readsAttribute_144 : decode cX4_readsAttribute 144 = .ok (.goto 4, 3) := dk_167 0 4 (dk_at dksX4_readsAttribute_6 3 rfl rfl)
theorem dX4_readsAttribute_147 : decode cX4_readsAttribute 147 = .ok (.iconst 0, 1) := dk_3 (dk_at dksX4_readsAttribute_6 6 rfl rfl)
theorem dX4_readsAttribute_148 : decode cX4_readsAttribute 148 = .ok (.ior, 1) := dk_128 (dk_at dksX4_readsAttribute_6 7 rfl rfl)
theorem dX4_readsAttribute_149 : decode cX4_readsAttribute 149 = .ok (.putfield 228, 3) := dk_181 0 228 (dk_at dksX4_readsAttribute_6 8 rfl rfl)
theorem dX4_readsAttribute_152 : decode cX4_readsAttribute 152 = .ok (.iload_n 1, 1) := dk_27 (dk_at dksX4_readsAttribute_6 11 rfl rfl)
theorem dX4_readsAttribute_153 : decode cX4_readsAttribute 153 = .ok (.iconst 4, 1) := dk_7 (dk_at dksX4_readsAttribute_6 12 rfl rfl)
theorem dX4_readsAttribute_154 : decode cX4_readsAttribute 154 = .ok (.if_icmp .ne 20, 3) := dk_160 0 20 (dk_at dksX4_readsAttribute_6 13 rfl rfl)
theorem dX4_readsAttribute_157 : decode cX4_readsAttribute 157 = .ok (.aload_n 0, 1) := dk_42 (dk_at dksX4_readsAttribute_6 16 rfl rfl)
theorem dX4_readsAttribute_158 : decode cX4_readsAttribute 158 = .ok (.dup, 1) := dk_89 (dk_at dksX4_readsAttribute_6 17 rfl rfl)
theorem dX4_readsAttribute_159 : decode cX4_readsAttribute 159 = .ok (.getfield 231, 3) := dk_180 0 231 (dk_at dksX4_readsAttribute_6 18 rfl rfl)
theorem dX4_readsAttribute_162 : decode cX4_readsAttribute 162 = .ok (.iconst 1, 1) := dk_4 (dk_at dksX4_readsAttribute_6 21 rfl rfl)
theorem dX4_readsAttribute_163 : decode cX4_readsAttribute 163 = .ok (.iadd, 1) := dk_96 (dk_at dksX4_readsAttribute_6 22 rfl rfl)
theorem dX4_readsAttribute_164 : decode cX4_readsAttribute 164 = .ok (.putfield 231, 3) := dk_181 0 231 (dk_at dksX4_readsAttribute_7 0 rfl rfl)
theorem dX4_readsAttribute_167 : decode cX4_readsAttribute 167 = .ok (.aload_n 0, 1) := dk_42 (dk_at dksX4_readsAttribute_7 3 rfl rfl)
theorem dX4_readsAttribute_168 : decode cX4_readsAttribute 168 = .ok (.invokevirtual 237, 3) := dk_182 0 237 (dk_at dksX4_readsAttribute_7 4 rfl rfl)
theorem dX4_readsAttribute_171 : decode cX4_readsAttribute 171 = .ok (.goto 69, 3) := dk_167 0 69 (dk_at dksX4_readsAttribute_7 7 rfl rfl)
theorem dX4_readsAttribute_174 : decode cX4_readsAttribute 174 = .ok (.iload_n 1, 1) := dk_27 (dk_at dksX4_readsAttribute_7 10 rfl rfl)
theorem dX4_readsAttribute_175 : decode cX4_readsAttribute 175 = .ok (.iconst 3, 1) := dk_6 (dk_at dksX4_readsAttribute_7 11 rfl rfl)
theorem dX4_readsAttribute_176 : decode cX4_readsAttribute 176 = .ok (.if_icmp .ne 13, 3) := dk_160 0 13 (dk_at dksX4_readsAttribute_7 12 rfl rfl)
theorem dX4_readsAttribute_179 : decode cX4_readsAttribute 179 = .ok (.aload_n 0, 1) := dk_42 (dk_at dksX4_readsAttribute_7 15 rfl rfl)
theorem dX4_readsAttribute_180 : decode cX4_readsAttribute 180 = .ok (.bipush 6, 2) := dk_16 6 (dk_at dksX4_readsAttribute_7 16 rfl rfl)
theorem dX4_readsAttribute_182 : decode cX4_readsAttribute 182 = .ok (.iconst 1, 1) := dk_4 (dk_at dksX4_readsAttribute_7 18 rfl rfl)
theorem dX4_readsAttribute_183 : decode cX4_readsAttribute 183 = .ok (.invokevirtual 240, 3) := dk_182 0 240 (dk_at dksX4_readsAttribute_7 19 rfl rfl)
theorem dX4_readsAttribute_186 : decode cX4_readsAttribute 186 = .ok (.goto 54, 3) := dk_167 0 54 (dk_at dksX4_readsAttribute_8 0 rfl rfl)
theorem dX4_readsAttribute_189 : decode cX4_readsAttribute 189 = .ok (.aload_n 0, 1) := dk_42 (dk_at dksX4_readsAttribute_8 3 rfl rfl)
theorem dX4_readsAttribute_190 : decode cX4_readsAttribute 190 = .ok (.iload_n 1, 1) := dk_27 (dk_at dksX4_readsAttribute_8 4 rfl rfl)
theorem dX4_readsAttribute_191 : decode cX4_readsAttribute 191 = .ok (.ifCond .ne 9, 3) := dk_154 0 9 (dk_at dksX4_readsAttribute_8 5 rfl rfl)
theorem dX4_readsAttribute_194 : decode cX4_readsAttribute 194 = .ok (.sipush 300, 3) := dk_17 1 44 (dk_at dksX4_readsAttribute_8 8 rfl rfl)
theorem dX4_readsAttribute_197 : decode cX4_readsAttribute 197 = .ok (.goto 14, 3) := dk_167 0 14 (dk_at dksX4_readsAttribute_8 11 rfl rfl)
theorem dX4_readsAttribute_200 : decode cX4_readsAttribute 200 = .ok (.iload_n 1, 1) := dk_27 (dk_at dksX4_readsAttribute_8 14 rfl rfl)
theorem dX4_readsAttribute_201 : decode cX4_readsAttribute 201 = .ok (.iconst 1, 1) := dk_4 (dk_at dksX4_readsAttribute_8 15 rfl rfl)
theorem dX4_readsAttribute_202 : decode cX4_readsAttribute 202 = .ok (.if_icmp .ne 8, 3) := dk_160 0 8 (dk_at dksX4_readsAttribute_8 16 rfl rfl)
theorem dX4_readsAttribute_205 : decode cX4_readsAttribute 205 = .ok (.bipush 99, 2) := dk_16 99 (dk_at dksX4_readsAttribute_8 19 rfl rfl)
theorem dX4_readsAttribute_207 : decode cX4_readsAttribute 207 = .ok (.goto 4, 3) := dk_167 0 4 (dk_at dksX4_readsAttribute_8 21 rfl rfl)
theorem dX4_readsAttribute_210 : decode cX4_readsAttribute 210 = .ok (.iconst 4, 1) := dk_7 (dk_at dksX4_readsAttribute_9 0 rfl rfl)
theorem dX4_readsAttribute_211 : decode cX4_readsAttribute 211 = .ok (.invokevirtual 225, 3) := dk_182 0 225 (dk_at dksX4_readsAttribute_9 1 rfl rfl)
theorem dX4_readsAttribute_214 : decode cX4_readsAttribute 214 = .ok (.aload_n 0, 1) := dk_42 (dk_at dksX4_readsAttribute_9 4 rfl rfl)
theorem dX4_readsAttribute_215 : decode cX4_readsAttribute 215 = .ok (.iload_n 1, 1) := dk_27 (dk_at dksX4_readsAttribute_9 5 rfl rfl)
theorem dX4_readsAttribute_216 : decode cX4_readsAttribute 216 = .ok (.ifCond .ne 7, 3) := dk_154 0 7 (dk_at dksX4_readsAttribute_9 6 rfl rfl)
theorem dX4_readsAttribute_219 : decode cX4_readsAttribute 219 = .ok (.iconst 3, 1) := dk_6 (dk_at dksX4_readsAttribute_9 9 rfl rfl)
theorem dX4_readsAttribute_220 : decode cX4_readsAttribute 220 = .ok (.goto 13, 3) := dk_167 0 13 (dk_at dksX4_readsAttribute_9 10 rfl rfl)
theorem dX4_readsAttribute_223 : decode cX4_readsAttribute 223 = .ok (.iload_n 1, 1) := dk_27 (dk_at dksX4_readsAttribute_9 13 rfl rfl)
theorem dX4_readsAttribute_224 : decode cX4_readsAttribute 224 = .ok (.iconst 1, 1) := dk_4 (dk_at dksX4_readsAttribute_9 14 rfl rfl)
theorem dX4_readsAttribute_225 : decode cX4_readsAttribute 225 = .ok (.if_icmp .ne 7, 3) := dk_160 0 7 (dk_at dksX4_readsAttribute_9 15 rfl rfl)
theorem dX4_readsAttribute_228 : decode cX4_readsAttribute 228 = .ok (.iconst 4, 1) := dk_7 (dk_at dksX4_readsAttribute_9 18 rfl rfl)
theorem dX4_readsAttribute_229 : decode cX4_readsAttribute 229 = .ok (.goto 4, 3) := dk_167 0 4 (dk_at dksX4_readsAttribute_9 19 rfl rfl)
theorem dX4_readsAttribute_232 : decode cX4_readsAttribute 232 = .ok (.iconst 5, 1) := dk_8 (dk_at dksX4_readsAttribute_9 22 rfl rfl)
theorem dX4_readsAttribute_233 : decode cX4_readsAttribute 233 = .ok (.aload_n 0, 1) := dk_42 (dk_at dksX4_readsAttribute_9 23 rfl rfl)
theorem dX4_readsAttribute_234 : decode cX4_readsAttribute 234 = .ok (.getfield 208, 3) := dk_180 0 208 (dk_at dksX4_readsAttribute_10 0 rfl rfl)
theorem dX4_readsAttribute_237 : decode cX4_readsAttribute 237 = .ok (.invokevirtual 240, 3) := dk_182 0 240 (dk_at dksX4_readsAttribute_10 3 rfl rfl)
theorem dX4_readsAttribute_240 : decode cX4_readsAttribute 240 = .ok (.return_, 1) := dk_177 (dk_at dksX4_readsAttribute_10 6 rfl rfl)
abbrev cX4_readsCondition : ByteArray := prog_19_method_43_code
def yX4_readsCondition : MethodName := ⟨RX4, "readsCondition", "()V"⟩
def dkwX4_readsCondition_13 : List UInt8 := [42, 180, 0, 211, 153, 0, 17, 42, 42, 180, 0, 159, 4, 100, 28, 29, 21, 4, 182, 0, 182, 177]
abbrev dktX4_readsCondition_13 : List UInt8 := dkwX4_readsCondition_13 ++ []
def dkwX4_readsCondition_12 : List UInt8 := [153, 0, 11, 42, 180, 0, 208, 116, 167, 0, 7, 42, 180, 0, 208, 54, 4, 42, 180, 0, 197, 153, 0, 24]
abbrev dktX4_readsCondition_12 : List UInt8 := dkwX4_readsCondition_12 ++ dktX4_readsCondition_13
def dkwX4_readsCondition_11 : List UInt8 := [21, 5, 153, 0, 7, 4, 167, 0, 4, 3, 96, 181, 0, 191, 42, 16, 100, 182, 0, 225, 21, 5]
abbrev dktX4_readsCondition_11 : List UInt8 := dkwX4_readsCondition_11 ++ dktX4_readsCondition_12
def dkwX4_readsCondition_10 : List UInt8 := [153, 0, 16, 42, 16, 45, 182, 0, 201, 153, 0, 7, 4, 167, 0, 4, 3, 54, 5, 42, 89, 180, 0, 191]
abbrev dktX4_readsCondition_10 : List UInt8 := dkwX4_readsCondition_10 ++ dktX4_readsCondition_11
def dkwX4_readsCondition_9 : List UInt8 := [42, 180, 0, 197, 153, 0, 7, 4, 167, 0, 4, 3, 96, 181, 0, 191, 42, 182, 0, 194, 42, 180, 0, 197]
abbrev dktX4_readsCondition_9 : List UInt8 := dkwX4_readsCondition_9 ++ dktX4_readsCondition_10
def dkwX4_readsCondition_8 : List UInt8 := [167, 0, 4, 7, 62, 42, 29, 7, 162, 0, 7, 4, 167, 0, 4, 3, 181, 0, 197, 42, 89, 180, 0, 191]
abbrev dktX4_readsCondition_8 : List UInt8 := dkwX4_readsCondition_8 ++ dktX4_readsCondition_9
def dkwX4_readsCondition_7 : List UInt8 := [16, 61, 182, 0, 201, 153, 0, 7, 5, 167, 0, 17, 42, 16, 35, 182, 0, 201, 153, 0, 7, 6]
abbrev dktX4_readsCondition_7 : List UInt8 := dkwX4_readsCondition_7 ++ dktX4_readsCondition_8
def dkwX4_readsCondition_6 : List UInt8 := [182, 0, 201, 153, 0, 7, 3, 167, 0, 43, 42, 16, 60, 182, 0, 201, 153, 0, 7, 4, 167, 0, 30, 42]
abbrev dktX4_readsCondition_6 : List UInt8 := dkwX4_readsCondition_6 ++ dktX4_readsCondition_7
def dkwX4_readsCondition_5 : List UInt8 := [167, 0, 4, 4, 54, 4, 42, 180, 0, 17, 28, 46, 154, 0, 167, 42, 182, 0, 194, 42, 16, 62]
abbrev dktX4_readsCondition_5 : List UInt8 := dkwX4_readsCondition_5 ++ dktX4_readsCondition_6
def dkwX4_readsCondition_4 : List UInt8 := [180, 0, 197, 154, 0, 4, 177, 42, 89, 180, 0, 191, 4, 96, 181, 0, 191, 5, 62, 27, 153, 0, 7, 3]
abbrev dktX4_readsCondition_4 : List UInt8 := dkwX4_readsCondition_4 ++ dktX4_readsCondition_5
def dkwX4_readsCondition_3 : List UInt8 := [153, 0, 13, 42, 180, 0, 17, 28, 46, 4, 160, 0, 7, 4, 167, 0, 4, 3, 181, 0, 197, 42]
abbrev dktX4_readsCondition_3 : List UInt8 := dkwX4_readsCondition_3 ++ dktX4_readsCondition_4
def dkwX4_readsCondition_2 : List UInt8 := [42, 180, 0, 191, 46, 16, 97, 100, 167, 0, 5, 16, 99, 61, 42, 42, 28, 182, 0, 110, 153, 0, 21, 27]
abbrev dktX4_readsCondition_2 : List UInt8 := dkwX4_readsCondition_2 ++ dktX4_readsCondition_3
def dkwX4_readsCondition_1 : List UInt8 := [3, 96, 181, 0, 191, 42, 182, 0, 194, 42, 180, 0, 191, 42, 180, 0, 188, 162, 0, 18, 42, 180, 0, 66]
abbrev dktX4_readsCondition_1 : List UInt8 := dkwX4_readsCondition_1 ++ dktX4_readsCondition_2
def dkwX4_readsCondition_0 : List UInt8 := [42, 182, 0, 194, 42, 16, 126, 182, 0, 201, 60, 42, 89, 180, 0, 191, 27, 153, 0, 7, 4, 167, 0, 4]
abbrev dktX4_readsCondition_0 : List UInt8 := dkwX4_readsCondition_0 ++ dktX4_readsCondition_1
theorem dksX4_readsCondition_0 : cX4_readsCondition.data.toList.drop 0 = dktX4_readsCondition_0 := by decide +kernel
theorem dksX4_readsCondition_1 : cX4_readsCondition.data.toList.drop 24 = dktX4_readsCondition_1 := dk_seg dksX4_readsCondition_0 24 rfl rfl
theorem dksX4_readsCondition_2 : cX4_readsCondition.data.toList.drop 48 = dktX4_readsCondition_2 := dk_seg dksX4_readsCondition_1 24 rfl rfl
theorem dksX4_readsCondition_3 : cX4_readsCondition.data.toList.drop 72 = dktX4_readsCondition_3 := dk_seg dksX4_readsCondition_2 24 rfl rfl
theorem dksX4_readsCondition_4 : cX4_readsCondition.data.toList.drop 94 = dktX4_readsCondition_4 := dk_seg dksX4_readsCondition_3 22 rfl rfl
theorem dksX4_readsCondition_5 : cX4_readsCondition.data.toList.drop 118 = dktX4_readsCondition_5 := dk_seg dksX4_readsCondition_4 24 rfl rfl
theorem dksX4_readsCondition_6 : cX4_readsCondition.data.toList.drop 140 = dktX4_readsCondition_6 := dk_seg dksX4_readsCondition_5 22 rfl rfl
theorem dksX4_readsCondition_7 : cX4_readsCondition.data.toList.drop 164 = dktX4_readsCondition_7 := dk_seg dksX4_readsCondition_6 24 rfl rfl
theorem dksX4_readsCondition_8 : cX4_readsCondition.data.toList.drop 186 = dktX4_readsCondition_8 := dk_seg dksX4_readsCondition_7 22 rfl rfl
theorem dksX4_readsCondition_9 : cX4_readsCondition.data.toList.drop 210 = dktX4_readsCondition_9 := dk_seg dksX4_readsCondition_8 24 rfl rfl
theorem dksX4_readsCondition_10 : cX4_readsCondition.data.toList.drop 234 = dktX4_readsCondition_10 := dk_seg dksX4_readsCondition_9 24 rfl rfl
theorem dksX4_readsCondition_11 : cX4_readsCondition.data.toList.drop 258 = dktX4_readsCondition_11 := dk_seg dksX4_readsCondition_10 24 rfl rfl
theorem dksX4_readsCondition_12 : cX4_readsCondition.data.toList.drop 280 = dktX4_readsCondition_12 := dk_seg dksX4_readsCondition_11 22 rfl rfl
theorem dksX4_readsCondition_13 : cX4_readsCondition.data.toList.drop 304 = dktX4_readsCondition_13 := dk_seg dksX4_readsCondition_12 24 rfl rfl
theorem dX4_readsCondition_0 : decode cX4_readsCondition 0 = .ok (.aload_n 0, 1) := dk_42 (dk_at dksX4_readsCondition_0 0 rfl rfl)
theorem dX4_readsCondition_1 : decode cX4_readsCondition 1 = .ok (.invokevirtual 194, 3) := dk_182 0 194 (dk_at dksX4_readsCondition_0 1 rfl rfl)
theorem dX4_readsCondition_4 : decode cX4_readsCondition 4 = .ok (.aload_n 0, 1) := dk_42 (dk_at dksX4_readsCondition_0 4 rfl rfl)
theorem dX4_readsCondition_5 : decode cX4_readsCondition 5 = .ok (.bipush 126, 2) := dk_16 126 (dk_at dksX4_readsCondition_0 5 rfl rfl)
theorem dX4_readsCondition_7 : decode cX4_readsCondition 7 = .ok (.invokevirtual 201, 3) := dk_182 0 201 (dk_at dksX4_readsCondition_0 7 rfl rfl)
theorem dX4_readsCondition_10 : decode cX4_readsCondition 10 = .ok (.istore_n 1, 1) := dk_60 (dk_at dksX4_readsCondition_0 10 rfl rfl)
theorem dX4_readsCondition_11 : decode cX4_readsCondition 11 = .ok (.aload_n 0, 1) := dk_42 (dk_at dksX4_readsCondition_0 11 rfl rfl)
theorem dX4_readsCondition_12 : decode cX4_readsCondition 12 = .ok (.dup, 1) := dk_89 (dk_at dksX4_readsCondition_0 12 rfl rfl)
theorem dX4_readsCondition_13 : decode cX4_readsCondition 13 = .ok (.getfield 191, 3) := dk_180 0 191 (dk_at dksX4_readsCondition_0 13 rfl rfl)
theorem dX4_readsCondition_16 : decode cX4_readsCondition 16 = .ok (.iload_n 1, 1) := dk_27 (dk_at dksX4_readsCondition_0 16 rfl rfl)
theorem dX4_readsCondition_17 : decode cX4_readsCondition 17 = .ok (.ifCond .eq 7, 3) := dk_153 0 7 (dk_at dksX4_readsCondition_0 17 rfl rfl)
theorem dX4_readsCondition_20 : decode cX4_readsCondition 20 = .ok (.iconst 1, 1) := dk_4 (dk_at dksX4_readsCondition_0 20 rfl rfl)
theorem dX4_readsCondition_21 : decode cX4_readsCondition 21 = .ok (.goto 4, 3) := dk_167 0 4 (dk_at dksX4_readsCondition_0 21 rfl rfl)
theorem dX4_readsCondition_24 : decode cX4_readsCondition 24 = .ok (.iconst 0, 1) := dk_3 (dk_at dksX4_readsCondition_1 0 rfl rfl)
theorem dX4_readsCondition_25 : decode cX4_readsCondition 25 = .ok (.iadd, 1) := dk_96 (dk_at dksX4_readsCondition_1 1 rfl rfl)
theorem dX4_readsCondition_26 : decode cX4_readsCondition 26 = .ok (.putfield 191, 3) := dk_181 0 191 (dk_at dksX4_readsCondition_1 2 rfl rfl)
theorem dX4_readsCondition_29 : decode cX4_readsCondition 29 = .ok (.aload_n 0, 1) := dk_42 (dk_at dksX4_readsCondition_1 5 rfl rfl)
theorem dX4_readsCondition_30 : decode cX4_readsCondition 30 = .ok (.invokevirtual 194, 3) := dk_182 0 194 (dk_at dksX4_readsCondition_1 6 rfl rfl)
theorem dX4_readsCondition_33 : decode cX4_readsCondition 33 = .ok (.aload_n 0, 1) := dk_42 (dk_at dksX4_readsCondition_1 9 rfl rfl)
theorem dX4_readsCondition_34 : decode cX4_readsCondition 34 = .ok (.getfield 191, 3) := dk_180 0 191 (dk_at dksX4_readsCondition_1 10 rfl rfl)
theorem dX4_readsCondition_37 : decode cX4_readsCondition 37 = .ok (.aload_n 0, 1) := dk_42 (dk_at dksX4_readsCondition_1 13 rfl rfl)
theorem dX4_readsCondition_38 : decode cX4_readsCondition 38 = .ok (.getfield 188, 3) := dk_180 0 188 (dk_at dksX4_readsCondition_1 14 rfl rfl)
theorem dX4_readsCondition_41 : decode cX4_readsCondition 41 = .ok (.if_icmp .ge 18, 3) := dk_162 0 18 (dk_at dksX4_readsCondition_1 17 rfl rfl)
theorem dX4_readsCondition_44 : decode cX4_readsCondition 44 = .ok (.aload_n 0, 1) := dk_42 (dk_at dksX4_readsCondition_1 20 rfl rfl)
theorem dX4_readsCondition_45 : decode cX4_readsCondition 45 = .ok (.getfield 66, 3) := dk_180 0 66 (dk_at dksX4_readsCondition_1 21 rfl rfl)
theorem dX4_readsCondition_48 : decode cX4_readsCondition 48 = .ok (.aload_n 0, 1) := dk_42 (dk_at dksX4_readsCondition_2 0 rfl rfl)
theorem dX4_readsCondition_49 : decode cX4_readsCondition 49 = .ok (.getfield 191, 3) := dk_180 0 191 (dk_at dksX4_readsCondition_2 1 rfl rfl)
theorem dX4_readsCondition_52 : decode cX4_readsCondition 52 = .ok (.iaload, 1) := dk_46 (dk_at dksX4_readsCondition_2 4 rfl rfl)
theorem dX4_readsCondition_53 : decode cX4_readsCondition 53 = .ok (.bipush 97, 2) := dk_16 97 (dk_at dksX4_readsCondition_2 5 rfl rfl)
theorem dX4_readsCondition_55 : decode cX4_readsCondition 55 = .ok (.isub, 1) := dk_100 (dk_at dksX4_readsCondition_2 7 rfl rfl)
theorem dX4_readsCondition_56 : decode cX4_readsCondition 56 = .ok (.goto 5, 3) := dk_167 0 5 (dk_at dksX4_readsCondition_2 8 rfl rfl)
theorem dX4_readsCondition_59 : decode cX4_readsCondition 59 = .ok (.bipush 99, 2) := dk_16 99 (dk_at dksX4_readsCondition_2 11 rfl rfl)
theorem dX4_readsCondition_61 : decode cX4_readsCondition 61 = .ok (.istore_n 2, 1) := dk_61 (dk_at dksX4_readsCondition_2 13 rfl rfl)
theorem dX4_readsCondition_62 : decode cX4_readsCondition 62 = .ok (.aload_n 0, 1) := dk_42 (dk_at dksX4_readsCondition_2 14 rfl rfl)
theorem dX4_readsCondition_63 : decode cX4_readsCondition 63 = .ok (.aload_n 0, 1) := dk_42 (dk_at dksX4_readsCondition_2 15 rfl rfl)
theorem dX4_readsCondition_64 : decode cX4_readsCondition 64 = .ok (.iload_n 2, 1) := dk_28 (dk_at dksX4_readsCondition_2 16 rfl rfl)
theorem dX4_readsCondition_65 : decode cX4_readsCondition 65 = .ok (.invokevirtual 110, 3) := dk_182 0 110 (dk_at dksX4_readsCondition_2 17 rfl rfl)
theorem dX4_readsCondition_68 : decode cX4_readsCondition 68 = .ok (.ifCond .eq 21, 3) := dk_153 0 21 (dk_at dksX4_readsCondition_2 20 rfl rfl)
theorem dX4_readsCondition_71 : decode cX4_readsCondition 71 = .ok (.iload_n 1, 1) := dk_27 (dk_at dksX4_readsCondition_2 23 rfl rfl)
theorem dX4_readsCondition_72 : decode cX4_readsCondition 72 = .ok (.ifCond .eq 13, 3) := dk_153 0 13 (dk_at dksX4_readsCondition_3 0 rfl rfl)
theorem dX4_readsCondition_75 : decode cX4_readsCondition 75 = .ok (.aload_n 0, 1) := dk_42 (dk_at dksX4_readsCondition_3 3 rfl rfl)
theorem dX4_readsCondition_76 : decode cX4_readsCondition 76 = .ok (.getfield 17, 3) := dk_180 0 17 (dk_at dksX4_readsCondition_3 4 rfl rfl)
theorem dX4_readsCondition_79 : decode cX4_readsCondition 79 = .ok (.iload_n 2, 1) := dk_28 (dk_at dksX4_readsCondition_3 7 rfl rfl)
theorem dX4_readsCondition_80 : decode cX4_readsCondition 80 = .ok (.iaload, 1) := dk_46 (dk_at dksX4_readsCondition_3 8 rfl rfl)
theorem dX4_readsCondition_81 : decode cX4_readsCondition 81 = .ok (.iconst 1, 1) := dk_4 (dk_at dksX4_readsCondition_3 9 rfl rfl)
theorem dX4_readsCondition_82 : decode cX4_readsCondition 82 = .ok (.if_icmp .ne 7, 3) := dk_160 0 7 (dk_at dksX4_readsCondition_3 10 rfl rfl)
theorem dX4_readsCondition_85 : decode cX4_readsCondition 85 = .ok (.iconst 1, 1) := dk_4 (dk_at dksX4_readsCondition_3 13 rfl rfl)
theorem dX4_readsCondition_86 : decode cX4_readsCondition 86 = .ok (.goto 4, 3) := dk_167 0 4 (dk_at dksX4_readsCondition_3 14 rfl rfl)
theorem dX4_readsCondition_89 : decode cX4_readsCondition 89 = .ok (.iconst 0, 1) := dk_3 (dk_at dksX4_readsCondition_3 17 rfl rfl)
theorem dX4_readsCondition_90 : decode cX4_readsCondition 90 = .ok (.putfield 197, 3) := dk_181 0 197 (dk_at dksX4_readsCondition_3 18 rfl rfl)
theorem dX4_readsCondition_93 : decode cX4_readsCondition 93 = .ok (.aload_n 0, 1) := dk_42 (dk_at dksX4_readsCondition_3 21 rfl rfl)
theorem dX4_readsCondition_94 : decode cX4_readsCondition 94 = .ok (.getfield 197, 3) := dk_180 0 197 (dk_at dksX4_readsCondition_4 0 rfl rfl)
theorem dX4_readsCondition_97 : decode cX4_readsCondition 97 = .ok (.ifCond .ne 4, 3) := dk_154 0 4 (dk_at dksX4_readsCondition_4 3 rfl rfl)
theorem dX4_readsCondition_100 : decode cX4_readsCondition 100 = .ok (.return_, 1) := dk_177 (dk_at dksX4_readsCondition_4 6 rfl rfl)
theorem dX4_readsCondition_101 : decode cX4_readsCondition 101 = .ok (.aload_n 0, 1) := dk_42 (dk_at dksX4_readsCondition_4 7 rfl rfl)
theorem dX4_readsCondition_102 : decode cX4_readsCondition 102 = .ok (.dup, 1) := dk_89 (dk_at dksX4_readsCondition_4 8 rfl rfl)
theorem dX4_readsCondition_103 : decode cX4_readsCondition 103 = .ok (.getfield 191, 3) := dk_180 0 191 (dk_at dksX4_readsCondition_4 9 rfl rfl)
theorem dX4_readsCondition_106 : decode cX4_readsCondition 106 = .ok (.iconst 1, 1) := dk_4 (dk_at dksX4_readsCondition_4 12 rfl rfl)
theorem dX4_readsCondition_107 : decode cX4_readsCondition 107 = .ok (.iadd, 1) := dk_96 (dk_at dksX4_readsCondition_4 13 rfl rfl)
theorem dX4_readsCondition_108 : decode cX4_readsCondition 108 = .ok (.putfield 191, 3) := dk_181 0 191 (dk_at dksX4_readsCondition_4 14 rfl rfl)
theorem dX4_readsCondition_111 : decode cX4_readsCondition 111 = .ok (.iconst 2, 1) := dk_5 (dk_at dksX4_readsCondition_4 17 rfl rfl)
theorem dX4_readsCondition_112 : decode cX4_readsCondition 112 = .ok (.istore_n 3, 1) := dk_62 (dk_at dksX4_readsCondition_4 18 rfl rfl)
theorem dX4_readsCondition_113 : decode cX4_readsCondition 113 = .ok (.iload_n 1, 1) := dk_27 (dk_at dksX4_readsCondition_4 19 rfl rfl)
theorem dX4_readsCondition_114 : decode cX4_readsCondition 114 = .ok (.ifCond .eq 7, 3) := dk_153 0 7 (dk_at dksX4_readsCondition_4 20 rfl rfl)
theorem dX4_readsCondition_117 : decode cX4_readsCondition 117 = .ok (.iconst 0, 1) := dk_3 (dk_at dksX4_readsCondition_4 23 rfl rfl)
theorem dX4_readsCondition_118 : decode cX4_readsCondition 118 = .ok (.goto 4, 3) := dk_167 0 4 (dk_at dksX4_readsCondition_5 0 rfl rfl)
theorem dX4_readsCondition_121 : decode cX4_readsCondition 121 = .ok (.iconst 1, 1) := dk_4 (dk_at dksX4_readsCondition_5 3 rfl rfl)
theorem dX4_readsCondition_122 : decode cX4_readsCondition 122 = .ok (.istore 4, 2) := dk_54 4 (dk_at dksX4_readsCondition_5 4 rfl rfl)
theorem dX4_readsCondition_124 : decode cX4_readsCondition 124 = .ok (.aload_n 0, 1) := dk_42 (dk_at dksX4_readsCondition_5 6 rfl rfl)
theorem dX4_readsCondition_125 : decode cX4_readsCondition 125 = .ok (.getfield 17, 3) := dk_180 0 17 (dk_at dksX4_readsCondition_5 7 rfl rfl)
theorem dX4_readsCondition_128 : decode cX4_readsCondition 128 = .ok (.iload_n 2, 1) := dk_28 (dk_at dksX4_readsCondition_5 10 rfl rfl)
theorem dX4_readsCondition_129 : decode cX4_readsCondition 129 = .ok (.iaload, 1) := dk_46 (dk_at dksX4_readsCondition_5 11 rfl rfl)
theorem dX4_readsCondition_130 : decode cX4_readsCondition 130 = .ok (.ifCond .ne 167, 3) := dk_154 0 167 (dk_at dksX4_readsCondition_5 12 rfl rfl)
theorem dX4_readsCondition_133 : decode cX4_readsCondition 133 = .ok (.aload_n 0, 1) := dk_42 (dk_at dksX4_readsCondition_5 15 rfl rfl)
theorem dX4_readsCondition_134 : decode cX4_readsCondition 134 = .ok (.invokevirtual 194, 3) := dk_182 0 194 (dk_at dksX4_readsCondition_5 16 rfl rfl)
theorem dX4_readsCondition_137 : decode cX4_readsCondition 137 = .ok (.aload_n 0, 1) := dk_42 (dk_at dksX4_readsCondition_5 19 rfl rfl)
theorem dX4_readsCondition_138 : decode cX4_readsCondition 138 = .ok (.bipush 62, 2) := dk_16 62 (dk_at dksX4_readsCondition_5 20 rfl rfl)
theorem dX4_readsCondition_140 : decode cX4_readsCondition 140 = .ok (.invokevirtual 201, 3) := dk_182 0 201 (dk_at dksX4_readsCondition_6 0 rfl rfl)
theorem dX4_readsCondition_143 : decode cX4_readsCondition 143 = .ok (.ifCond .eq 7, 3) := dk_153 0 7 (dk_at dksX4_readsCondition_6 3 rfl rfl)
theorem dX4_readsCondition_146 : decode cX4_readsCondition 146 = .ok (.iconst 0, 1) := dk_3 (dk_at dksX4_readsCondition_6 6 rfl rfl)
theorem dX4_readsCondition_147 : decode cX4_readsCondition 147 = .ok (.goto 43, 3) := dk_167 0 43 (dk_at dksX4_readsCondition_6 7 rfl rfl)
theorem dX4_readsCondition_150 : decode cX4_readsCondition 150 = .ok (.aload_n 0, 1) := dk_42 (dk_at dksX4_readsCondition_6 10 rfl rfl)
theorem dX4_readsCondition_151 : decode cX4_readsCondition 151 = .ok (.bipush 60, 2) := dk_16 60 (dk_at dksX4_readsCondition_6 11 rfl rfl)
theorem dX4_readsCondition_153 : decode cX4_readsCondition 153 = .ok (.invokevirtual 201, 3) := dk_182 0 201 (dk_at dksX4_readsCondition_6 13 rfl rfl)
theorem dX4_readsCondition_156 : decode cX4_readsCondition 156 = .ok (.ifCond .eq 7, 3) := dk_153 0 7 (dk_at dksX4_readsCondition_6 16 rfl rfl)
theorem dX4_readsCondition_159 : decode cX4_readsCondition 159 = .ok (.iconst 1, 1) := dk_4 (dk_at dksX4_readsCondition_6 19 rfl rfl)
theorem dX4_readsCondition_160 : decode cX4_readsCondition 160 = .ok (.goto 30, 3) := dk_167 0 30 (dk_at dksX4_readsCondition_6 20 rfl rfl)
theorem dX4_readsCondition_163 : decode cX4_readsCondition 163 = .ok (.aload_n 0, 1) := dk_42 (dk_at dksX4_readsCondition_6 23 rfl rfl)
theorem dX4_readsCondition_164 : decode cX4_readsCondition 164 = .ok (.bipush 61, 2) := dk_16 61 (dk_at dksX4_readsCondition_7 0 rfl rfl)
theorem dX4_readsCondition_166 : decode cX4_readsCondition 166 = .ok (.invokevirtual 201, 3) := dk_182 0 201 (dk_at dksX4_readsCondition_7 2 rfl rfl)
theorem dX4_readsCondition_169 : decode cX4_readsCondition 169 = .ok (.ifCond .eq 7, 3) := dk_153 0 7 (dk_at dksX4_readsCondition_7 5 rfl rfl)
theorem dX4_readsCondition_172 : decode cX4_readsCondition 172 = .ok (.iconst 2, 1) := dk_5 (dk_at dksX4_readsCondition_7 8 rfl rfl)
theorem dX4_readsCondition_173 : decode cX4_readsCondition 173 = .ok (.goto 17, 3) := dk_167 0 17 (dk_at dksX4_readsCondition_7 9 rfl rfl)
theorem dX4_readsCondition_176 : decode cX4_readsCondition 176 = .ok (.aload_n 0, 1) := dk_42 (dk_at dksX4_readsCondition_7 12 rfl rfl)
theorem dX4_readsCondition_177 : decode cX4_readsCondition 177 = .ok (.bipush 35, 2) := dk_16 35 (dk_at dksX4_readsCondition_7 13 rfl rfl)
theorem dX4_readsCondition_179 : decode cX4_readsCondition 179 = .ok (.invokevirtual 201, 3) := dk_182 0 201 (dk_at dksX4_readsCondition_7 15 rfl rfl)
theorem dX4_readsCondition_182 : decode cX4_readsCondition 182 = .ok (.ifCond .eq 7, 3) := dk_153 0 7 (dk_at dksX4_readsCondition_7 18 rfl rfl)
theorem dX4_readsCondition_185 : decode cX4_readsCondition 185 = .ok (.iconst 3, 1) := dk_6 (dk_at dksX4_readsCondition_7 21 rfl rfl)
theorem dX4_readsCondition_186 : decode cX4_readsCondition 186 = .ok (.goto 4, 3) := dk_167 0 4 (dk_at dksX4_readsCondition_8 0 rfl rfl)
theorem dX4_readsCondition_189 : decode cX4_readsCondition 189 = .ok (.iconst 4, 1) := dk_7 (dk_at dksX4_readsCondition_8 3 rfl rfl)
theorem dX4_readsCondition_190 : decode cX4_readsCondition 190 = .ok (.istore_n 3, 1) := dk_62 (dk_at dksX4_readsCondition_8 4 rfl rfl)
theorem dX4_readsCondition_191 : decode cX4_readsCondition 191 = .ok (.aload_n 0, 1) := dk_42 (dk_at dksX4_readsCondition_8 5 rfl rfl)
theorem dX4_readsCondition_192 : decode cX4_readsCondition 192 = .ok (.iload_n 3, 1) := dk_29 (dk_at dksX4_readsCondition_8 6 rfl rfl)
theorem dX4_readsCondition_193 : decode cX4_readsCondition 193 = .ok (.iconst 4, 1) := dk_7 (dk_at dksX4_readsCondition_8 7 rfl rfl)
theorem dX4_readsCondition_194 : decode cX4_readsCondition 194 = .ok (.if_icmp .ge 7, 3) := dk_162 0 7 (dk_at dksX4_readsCondition_8 8 rfl rfl)
theorem dX4_readsCondition_197 : decode cX4_readsCondition 197 = .ok (.iconst 1, 1) := dk_4 (dk_at dksX4_readsCondition_8 11 rfl rfl)
theorem dX4_readsCondition_198 : decode cX4_readsCondition 198 = .ok (.goto 4, 3) := dk_167 0 4 (dk_at dksX4_readsCondition_8 12 rfl rfl)
theorem dX4_readsCondition_201 : decode cX4_readsCondition 201 = .ok (.iconst 0, 1) := dk_3 (dk_at dksX4_readsCondition_8 15 rfl rfl)
theorem dX4_readsCondition_202 : decode cX4_readsCondition 202 = .ok (.putfield 197, 3) := dk_181 0 197 (dk_at dksX4_readsCondition_8 16 rfl rfl)
theorem dX4_readsCondition_205 : decode cX4_readsCondition 205 = .ok (.aload_n 0, 1) := dk_42 (dk_at dksX4_readsCondition_8 19 rfl rfl)
theorem dX4_readsCondition_206 : decode cX4_readsCondition 206 = .ok (.dup, 1) := dk_89 (dk_at dksX4_readsCondition_8 20 rfl rfl)
theorem dX4_readsCondition_207 : decode cX4_readsCondition 207 = .ok (.getfield 191, 3) := dk_180 0 191 (dk_at dksX4_readsCondition_8 21 rfl rfl)
theorem dX4_readsCondition_210 : decode cX4_readsCondition 210 = .ok (.aload_n 0, 1) := dk_42 (dk_at dksX4_readsCondition_9 0 rfl rfl)
theorem dX4_readsCondition_211 : decode cX4_readsCondition 211 = .ok (.getfield 197, 3) := dk_180 0 197 (dk_at dksX4_readsCondition_9 1 rfl rfl)
theorem dX4_readsCondition_214 : decode cX4_readsCondition 214 = .ok (.ifCond .eq 7, 3) := dk_153 0 7 (dk_at dksX4_readsCondition_9 4 rfl rfl)
theorem dX4_readsCondition_217 : decode cX4_readsCondition 217 = .ok (.iconst 1, 1) := dk_4 (dk_at dksX4_readsCondition_9 7 rfl rfl)
theorem dX4_readsCondition_218 : decode cX4_readsCondition 218 = .ok (.goto 4, 3) := dk_167 0 4 (dk_at dksX4_readsCondition_9 8 rfl rfl)
theorem dX4_readsCondition_221 : decode cX4_readsCondition 221 = .ok (.iconst 0, 1) := dk_3 (dk_at dksX4_readsCondition_9 11 rfl rfl)
theorem dX4_readsCondition_222 : decode cX4_readsCondition 222 = .ok (.iadd, 1) := dk_96 (dk_at dksX4_readsCondition_9 12 rfl rfl)
theorem dX4_readsCondition_223 : decode cX4_readsCondition 223 = .ok (.putfield 191, 3) := dk_181 0 191 (dk_at dksX4_readsCondition_9 13 rfl rfl)
theorem dX4_readsCondition_226 : decode cX4_readsCondition 226 = .ok (.aload_n 0, 1) := dk_42 (dk_at dksX4_readsCondition_9 16 rfl rfl)
theorem dX4_readsCondition_227 : decode cX4_readsCondition 227 = .ok (.invokevirtual 194, 3) := dk_182 0 194 (dk_at dksX4_readsCondition_9 17 rfl rfl)
theorem dX4_readsCondition_230 : decode cX4_readsCondition 230 = .ok (.aload_n 0, 1) := dk_42 (dk_at dksX4_readsCondition_9 20 rfl rfl)
theorem dX4_readsCondition_231 : decode cX4_readsCondition 231 = .ok (.getfield 197, 3) := dk_180 0 197 (dk_at dksX4_readsCondition_9 21 rfl rfl)
theorem dX4_readsCondition_234 : decode cX4_readsCondition 234 = .ok (.ifCond .eq 16, 3) := dk_153 0 16 (dk_at dksX4_readsCondition_10 0 rfl rfl)
theorem dX4_readsCondition_237 : decode cX4_readsCondition 237 = .ok (.aload_n 0, 1) := dk_42 (dk_at dksX4_readsCondition_10 3 rfl rfl)
theorem dX4_readsCondition_238 : decode cX4_readsCondition 238 = .ok (.bipush 45, 2) := dk_16 45 (dk_at dksX4_readsCondition_10 4 rfl rfl)
theorem dX4_readsCondition_240 : decode cX4_readsCondition 240 = .ok (.invokevirtual 201, 3) := dk_182 0 201 (dk_at dksX4_readsCondition_10 6 rfl rfl)
theorem dX4_readsCondition_243 : decode cX4_readsCondition 243 = .ok (.ifCond .eq 7, 3) := dk_153 0 7 (dk_at dksX4_readsCondition_10 9 rfl rfl)
theorem dX4_readsCondition_246 : decode cX4_readsCondition 246 = .ok (.iconst 1, 1) := dk_4 (dk_at dksX4_readsCondition_10 12 rfl rfl)
theorem dX4_readsCondition_247 : decode cX4_readsCondition 247 = .ok (.goto 4, 3) := dk_167 0 4 (dk_at dksX4_readsCondition_10 13 rfl rfl)
theorem dX4_readsCondition_250 : decode cX4_readsCondition 250 = .ok (.iconst 0, 1) := dk_3 (dk_at dksX4_readsCondition_10 16 rfl rfl)
theorem dX4_readsCondition_251 : decode cX4_readsCondition 251 = .ok (.istore 5, 2) := dk_54 5 (dk_at dksX4_readsCondition_10 17 rfl rfl)
theorem dX4_readsCondition_253 : decode cX4_readsCondition 253 = .ok (.aload_n 0, 1) := dk_42 (dk_at dksX4_readsCondition_10 19 rfl rfl)
theorem dX4_readsCondition_254 : decode cX4_readsCondition 254 = .ok (.dup, 1) := dk_89 (dk_at dksX4_readsCondition_10 20 rfl rfl)
theorem dX4_readsCondition_255 : decode cX4_readsCondition 255 = .ok (.getfield 191, 3) := dk_180 0 191 (dk_at dksX4_readsCondition_10 21 rfl rfl)
theorem dX4_readsCondition_258 : decode cX4_readsCondition 258 = .ok (.iload 5, 2) := dk_21 5 (dk_at dksX4_readsCondition_11 0 rfl rfl)
theorem dX4_readsCondition_260 : decode cX4_readsCondition 260 = .ok (.ifCond .eq 7, 3) := dk_153 0 7 (dk_at dksX4_readsCondition_11 2 rfl rfl)
theorem dX4_readsCondition_263 : decode cX4_readsCondition 263 = .ok (.iconst 1, 1) := dk_4 (dk_at dksX4_readsCondition_11 5 rfl rfl)
theorem dX4_readsCondition_264 : decode cX4_readsCondition 264 = .ok (.goto 4, 3) := dk_167 0 4 (dk_at dksX4_readsCondition_11 6 rfl rfl)
theorem dX4_readsCondition_267 : decode cX4_readsCondition 267 = .ok (.iconst 0, 1) := dk_3 (dk_at dksX4_readsCondition_11 9 rfl rfl)
theorem dX4_readsCondition_268 : decode cX4_readsCondition 268 = .ok (.iadd, 1) := dk_96 (dk_at dksX4_readsCondition_11 10 rfl rfl)
theorem dX4_readsCondition_269 : decode cX4_readsCondition 269 = .ok (.putfield 191, 3) := dk_181 0 191 (dk_at dksX4_readsCondition_11 11 rfl rfl)
theorem dX4_readsCondition_272 : decode cX4_readsCondition 272 = .ok (.aload_n 0, 1) := dk_42 (dk_at dksX4_readsCondition_11 14 rfl rfl)
theorem dX4_readsCondition_273 : decode cX4_readsCondition 273 = .ok (.bipush 100, 2) := dk_16 100 (dk_at dksX4_readsCondition_11 15 rfl rfl)
theorem dX4_readsCondition_275 : decode cX4_readsCondition 275 = .ok (.invokevirtual 225, 3) := dk_182 0 225 (dk_at dksX4_readsCondition_11 17 rfl rfl)
theorem dX4_readsCondition_278 : decode cX4_readsCondition 278 = .ok (.iload 5, 2) := dk_21 5 (dk_at dksX4_readsCondition_11 20 rfl rfl)
theorem dX4_readsCondition_280 : decode cX4_readsCondition 280 = .ok (.ifCond .eq 11, 3) := dk_153 0 11 (dk_at dksX4_readsCondition_12 0 rfl rfl)
theorem dX4_readsCondition_283 : decode cX4_readsCondition 283 = .ok (.aload_n 0, 1) := dk_42 (dk_at dksX4_readsCondition_12 3 rfl rfl)
theorem dX4_readsCondition_284 : decode cX4_readsCondition 284 = .ok (.getfield 208, 3) := dk_180 0 208 (dk_at dksX4_readsCondition_12 4 rfl rfl)
theorem dX4_readsCondition_287 : decode cX4_readsCondition 287 = .ok (.ineg, 1) := dk_116 (dk_at dksX4_readsCondition_12 7 rfl rfl)
theorem dX4_readsCondition_288 : decode cX4_readsCondition 288 = .ok (.goto 7, 3) := dk_167 0 7 (dk_at dksX4_readsCondition_12 8 rfl rfl)
theorem dX4_readsCondition_291 : decode cX4_readsCondition 291 = .ok (.aload_n 0, 1) := dk_42 (dk_at dksX4_readsCondition_12 11 rfl rfl)
theorem dX4_readsCondition_292 : decode cX4_readsCondition 292 = .ok (.getfield 208, 3) := dk_180 0 208 (dk_at dksX4_readsCondition_12 12 rfl rfl)
theorem dX4_readsCondition_295 : decode cX4_readsCondition 295 = .ok (.istore 4, 2) := dk_54 4 (dk_at dksX4_readsCondition_12 15 rfl rfl)
theorem dX4_readsCondition_297 : decode cX4_readsCondition 297 = .ok (.aload_n 0, 1) := dk_42 (dk_at dksX4_readsCondition_12 17 rfl rfl)
theorem dX4_readsCondition_298 : decode cX4_readsCondition 298 = .ok (.getfield 197, 3) := dk_180 0 197 (dk_at dksX4_readsCondition_12 18 rfl rfl)
theorem dX4_readsCondition_301 : decode cX4_readsCondition 301 = .ok (.ifCond .eq 24, 3) := dk_153 0 24 (dk_at dksX4_readsCondition_12 21 rfl rfl)
theorem dX4_readsCondition_304 : decode cX4_readsCondition 304 = .ok (.aload_n 0, 1) := dk_42 (dk_at dksX4_readsCondition_13 0 rfl rfl)
theorem dX4_readsCondition_305 : decode cX4_readsCondition 305 = .ok (.getfield 211, 3) := dk_180 0 211 (dk_at dksX4_readsCondition_13 1 rfl rfl)
theorem dX4_readsCondition_308 : decode cX4_readsCondition 308 = .ok (.ifCond .eq 17, 3) := dk_153 0 17 (dk_at dksX4_readsCondition_13 4 rfl rfl)
theorem dX4_readsCondition_311 : decode cX4_readsCondition 311 = .ok (.aload_n 0, 1) := dk_42 (dk_at dksX4_readsCondition_13 7 rfl rfl)
theorem dX4_readsCondition_312 : decode cX4_readsCondition 312 = .ok (.aload_n 0, 1) := dk_42 (dk_at dksX4_readsCondition_13 8 rfl rfl)
theorem dX4_readsCondition_313 : decode cX4_readsCondition 313 = .ok (.getfield 159, 3) := dk_180 0 159 (dk_at dksX4_readsCondition_13 9 rfl rfl)
theorem dX4_readsCondition_316 : decode cX4_readsCondition 316 = .ok (.iconst 1, 1) := dk_4 (dk_at dksX4_readsCondition_13 12 rfl rfl)
theorem dX4_readsCondition_317 : decode cX4_readsCondition 317 = .ok (.isub, 1) := dk_100 (dk_at dksX4_readsCondition_13 13 rfl rfl)
theorem dX4_readsCondition_318 : decode cX4_readsCondition 318 = .ok (.iload_n 2, 1) := dk_28 (dk_at dksX4_readsCondition_13 14 rfl rfl)
theorem dX4_readsCondition_319 : decode cX4_readsCondition 319 = .ok (.iload_n 3, 1) := dk_29 (dk_at dksX4_readsCondition_13 15 rfl rfl)
theorem dX4_readsCondition_320 : decode cX4_readsCondition 320 = .ok (.iload 4, 2) := dk_21 4 (dk_at dksX4_readsCondition_13 16 rfl rfl)
theorem dX4_readsCondition_322 : decode cX4_readsCondition 322 = .ok (.invokevirtual 182, 3) := dk_182 0 182 (dk_at dksX4_readsCondition_13 18 rfl rfl)
theorem dX4_readsCondition_325 : decode cX4_readsCondition 325 = .ok (.return_, 1) := dk_177 (dk_at dksX4_readsCondition_13 21 rfl rfl)
abbrev cX4_sets : ByteArray := prog_19_method_41_code
def yX4_sets : MethodName := ⟨RX4, "sets", "(II)V"⟩
def dkwX4_sets_1 : List UInt8 := [4, 100, 104, 27, 96, 28, 79, 177]
abbrev dktX4_sets_1 : List UInt8 := dkwX4_sets_1 ++ []
def dkwX4_sets_0 : List UInt8 := [42, 180, 0, 197, 153, 0, 27, 42, 180, 0, 211, 153, 0, 20, 42, 180, 0, 59, 16, 17, 42, 180, 0, 159]
abbrev dktX4_sets_0 : List UInt8 := dkwX4_sets_0 ++ dktX4_sets_1
theorem dksX4_sets_0 : cX4_sets.data.toList.drop 0 = dktX4_sets_0 := by decide +kernel
theorem dksX4_sets_1 : cX4_sets.data.toList.drop 24 = dktX4_sets_1 := dk_seg dksX4_sets_0 24 rfl rfl
theorem dX4_sets_0 : decode cX4_sets 0 = .ok (.aload_n 0, 1) := dk_42 (dk_at dksX4_sets_0 0 rfl rfl)
theorem dX4_sets_1 : decode cX4_sets 1 = .ok (.getfield 197, 3) := dk_180 0 197 (dk_at dksX4_sets_0 1 rfl rfl)
theorem dX4_sets_4 : decode cX4_sets 4 = .ok (.ifCond .eq 27, 3) := dk_153 0 27 (dk_at dksX4_sets_0 4 rfl rfl)
theorem dX4_sets_7 : decode cX4_sets 7 = .ok (.aload_n 0, 1) := dk_42 (dk_at dksX4_sets_0 7 rfl rfl)
theorem dX4_sets_8 : decode cX4_sets 8 = .ok (.getfield 211, 3) := dk_180 0 211 (dk_at dksX4_sets_0 8 rfl rfl)
theorem dX4_sets_11 : decode cX4_sets 11 = .ok (.ifCond .eq 20, 3) := dk_153 0 20 (dk_at dksX4_sets_0 11 rfl rfl)
theorem dX4_sets_14 : decode cX4_sets 14 = .ok (.aload_n 0, 1) := dk_42 (dk_at dksX4_sets_0 14 rfl rfl)
theorem dX4_sets_15 : decode cX4_sets 15 = .ok (.getfield 59, 3) := dk_180 0 59 (dk_at dksX4_sets_0 15 rfl rfl)
theorem dX4_sets_18 : decode cX4_sets 18 = .ok (.bipush 17, 2) := dk_16 17 (dk_at dksX4_sets_0 18 rfl rfl)
theorem dX4_sets_20 : decode cX4_sets 20 = .ok (.aload_n 0, 1) := dk_42 (dk_at dksX4_sets_0 20 rfl rfl)
theorem dX4_sets_21 : decode cX4_sets 21 = .ok (.getfield 159, 3) := dk_180 0 159 (dk_at dksX4_sets_0 21 rfl rfl)
theorem dX4_sets_24 : decode cX4_sets 24 = .ok (.iconst 1, 1) := dk_4 (dk_at dksX4_sets_1 0 rfl rfl)
theorem dX4_sets_25 : decode cX4_sets 25 = .ok (.isub, 1) := dk_100 (dk_at dksX4_sets_1 1 rfl rfl)
theorem dX4_sets_26 : decode cX4_sets 26 = .ok (.imul, 1) := dk_104 (dk_at dksX4_sets_1 2 rfl rfl)
theorem dX4_sets_27 : decode cX4_sets 27 = .ok (.iload_n 1, 1) := dk_27 (dk_at dksX4_sets_1 3 rfl rfl)
theorem dX4_sets_28 : decode cX4_sets 28 = .ok (.iadd, 1) := dk_96 (dk_at dksX4_sets_1 4 rfl rfl)
theorem dX4_sets_29 : decode cX4_sets 29 = .ok (.iload_n 2, 1) := dk_28 (dk_at dksX4_sets_1 5 rfl rfl)
theorem dX4_sets_30 : decode cX4_sets 30 = .ok (.iastore, 1) := dk_79 (dk_at dksX4_sets_1 6 rfl rfl)
theorem dX4_sets_31 : decode cX4_sets 31 = .ok (.return_, 1) := dk_177 (dk_at dksX4_sets_1 7 rfl rfl)
abbrev cX4_load : ByteArray := prog_19_method_46_code
def yX4_load : MethodName := ⟨RX4, "load", "()I"⟩
def dkwX4_load_1 : List UInt8 := [87, 42, 3, 181, 0, 188, 42, 180, 0, 214, 172]
abbrev dktX4_load_1 : List UInt8 := dkwX4_load_1 ++ []
def dkwX4_load_0 : List UInt8 := [42, 3, 181, 0, 94, 42, 3, 182, 0, 247, 154, 0, 9, 42, 4, 182, 0, 103, 172, 42, 4, 182, 0, 247]
abbrev dktX4_load_0 : List UInt8 := dkwX4_load_0 ++ dktX4_load_1
theorem dksX4_load_0 : cX4_load.data.toList.drop 0 = dktX4_load_0 := by decide +kernel
theorem dksX4_load_1 : cX4_load.data.toList.drop 24 = dktX4_load_1 := dk_seg dksX4_load_0 24 rfl rfl
theorem dX4_load_0 : decode cX4_load 0 = .ok (.aload_n 0, 1) := dk_42 (dk_at dksX4_load_0 0 rfl rfl)
theorem dX4_load_1 : decode cX4_load 1 = .ok (.iconst 0, 1) := dk_3 (dk_at dksX4_load_0 1 rfl rfl)
theorem dX4_load_2 : decode cX4_load 2 = .ok (.putfield 94, 3) := dk_181 0 94 (dk_at dksX4_load_0 2 rfl rfl)
theorem dX4_load_5 : decode cX4_load 5 = .ok (.aload_n 0, 1) := dk_42 (dk_at dksX4_load_0 5 rfl rfl)
theorem dX4_load_6 : decode cX4_load 6 = .ok (.iconst 0, 1) := dk_3 (dk_at dksX4_load_0 6 rfl rfl)
theorem dX4_load_7 : decode cX4_load 7 = .ok (.invokevirtual 247, 3) := dk_182 0 247 (dk_at dksX4_load_0 7 rfl rfl)
theorem dX4_load_10 : decode cX4_load 10 = .ok (.ifCond .ne 9, 3) := dk_154 0 9 (dk_at dksX4_load_0 10 rfl rfl)
theorem dX4_load_13 : decode cX4_load 13 = .ok (.aload_n 0, 1) := dk_42 (dk_at dksX4_load_0 13 rfl rfl)
theorem dX4_load_14 : decode cX4_load 14 = .ok (.iconst 1, 1) := dk_4 (dk_at dksX4_load_0 14 rfl rfl)
theorem dX4_load_15 : decode cX4_load 15 = .ok (.invokevirtual 103, 3) := dk_182 0 103 (dk_at dksX4_load_0 15 rfl rfl)
theorem dX4_load_18 : decode cX4_load 18 = .ok (.ireturn, 1) := dk_172 (dk_at dksX4_load_0 18 rfl rfl)
theorem dX4_load_19 : decode cX4_load 19 = .ok (.aload_n 0, 1) := dk_42 (dk_at dksX4_load_0 19 rfl rfl)
theorem dX4_load_20 : decode cX4_load 20 = .ok (.iconst 1, 1) := dk_4 (dk_at dksX4_load_0 20 rfl rfl)
theorem dX4_load_21 : decode cX4_load 21 = .ok (.invokevirtual 247, 3) := dk_182 0 247 (dk_at dksX4_load_0 21 rfl rfl)
theorem dX4_load_24 : decode cX4_load 24 = .ok (.pop, 1) := dk_87 (dk_at dksX4_load_1 0 rfl rfl)
theorem dX4_load_25 : decode cX4_load 25 = .ok (.aload_n 0, 1) := dk_42 (dk_at dksX4_load_1 1 rfl rfl)
theorem dX4_load_26 : decode cX4_load 26 = .ok (.iconst 0, 1) := dk_3 (dk_at dksX4_load_1 2 rfl rfl)
theorem dX4_load_27 : decode cX4_load 27 = .ok (.putfield 188, 3) := dk_181 0 188 (dk_at dksX4_load_1 3 rfl rfl)
theorem dX4_load_30 : decode cX4_load 30 = .ok (.aload_n 0, 1) := dk_42 (dk_at dksX4_load_1 6 rfl rfl)
theorem dX4_load_31 : decode cX4_load 31 = .ok (.getfield 214, 3) := dk_180 0 214 (dk_at dksX4_load_1 7 rfl rfl)
theorem dX4_load_34 : decode cX4_load 34 = .ok (.ireturn, 1) := dk_172 (dk_at dksX4_load_1 10 rfl rfl)
abbrev cX4_poseSize : ByteArray := prog_19_method_57_code
def yX4_poseSize : MethodName := ⟨RX4, "poseSize", "()I"⟩
def dkwX4_poseSize_0 : List UInt8 := [42, 3, 181, 0, 94, 42, 182, 1, 27, 42, 180, 1, 9, 172]
abbrev dktX4_poseSize_0 : List UInt8 := dkwX4_poseSize_0 ++ []
theorem dksX4_poseSize_0 : cX4_poseSize.data.toList.drop 0 = dktX4_poseSize_0 := by decide +kernel
theorem dX4_poseSize_0 : decode cX4_poseSize 0 = .ok (.aload_n 0, 1) := dk_42 (dk_at dksX4_poseSize_0 0 rfl rfl)
theorem dX4_poseSize_1 : decode cX4_poseSize 1 = .ok (.iconst 0, 1) := dk_3 (dk_at dksX4_poseSize_0 1 rfl rfl)
theorem dX4_poseSize_2 : decode cX4_poseSize 2 = .ok (.putfield 94, 3) := dk_181 0 94 (dk_at dksX4_poseSize_0 2 rfl rfl)
theorem dX4_poseSize_5 : decode cX4_poseSize 5 = .ok (.aload_n 0, 1) := dk_42 (dk_at dksX4_poseSize_0 5 rfl rfl)
theorem dX4_poseSize_6 : decode cX4_poseSize 6 = .ok (.invokevirtual 283, 3) := dk_182 1 27 (dk_at dksX4_poseSize_0 6 rfl rfl)
theorem dX4_poseSize_9 : decode cX4_poseSize 9 = .ok (.aload_n 0, 1) := dk_42 (dk_at dksX4_poseSize_0 9 rfl rfl)
theorem dX4_poseSize_10 : decode cX4_poseSize 10 = .ok (.getfield 265, 3) := dk_180 1 9 (dk_at dksX4_poseSize_0 10 rfl rfl)
theorem dX4_poseSize_13 : decode cX4_poseSize 13 = .ok (.ireturn, 1) := dk_172 (dk_at dksX4_poseSize_0 13 rfl rfl)
abbrev cX4_poses : ByteArray := prog_19_method_56_code
def yX4_poses : MethodName := ⟨RX4, "poses", "()V"⟩
def dkwX4_poses_3 : List UInt8 := [182, 1, 16, 42, 16, 16, 31, 182, 1, 16, 177]
abbrev dktX4_poses_3 : List UInt8 := dkwX4_poses_3 ++ []
def dkwX4_poses_2 : List UInt8 := [160, 0, 15, 42, 20, 0, 251, 31, 101, 182, 1, 23, 167, 0, 14, 42, 16, 12, 20, 0, 251, 31, 101]
abbrev dktX4_poses_2 : List UInt8 := dkwX4_poses_2 ++ dktX4_poses_3
def dkwX4_poses_1 : List UInt8 := [16, 12, 20, 0, 251, 182, 1, 16, 177, 42, 182, 1, 19, 64, 42, 180, 0, 7, 16, 20, 46, 4]
abbrev dktX4_poses_1 : List UInt8 := dkwX4_poses_1 ++ dktX4_poses_2
def dkwX4_poses_0 : List UInt8 := [42, 3, 181, 1, 9, 42, 180, 0, 145, 154, 0, 4, 177, 42, 180, 0, 7, 16, 8, 46, 154, 0, 13, 42]
abbrev dktX4_poses_0 : List UInt8 := dkwX4_poses_0 ++ dktX4_poses_1
theorem dksX4_poses_0 : cX4_poses.data.toList.drop 0 = dktX4_poses_0 := by decide +kernel
theorem dksX4_poses_1 : cX4_poses.data.toList.drop 24 = dktX4_poses_1 := dk_seg dksX4_poses_0 24 rfl rfl
theorem dksX4_poses_2 : cX4_poses.data.toList.drop 46 = dktX4_poses_2 := dk_seg dksX4_poses_1 22 rfl rfl
theorem dksX4_poses_3 : cX4_poses.data.toList.drop 69 = dktX4_poses_3 := dk_seg dksX4_poses_2 23 rfl rfl
theorem dX4_poses_0 : decode cX4_poses 0 = .ok (.aload_n 0, 1) := dk_42 (dk_at dksX4_poses_0 0 rfl rfl)
theorem dX4_poses_1 : decode cX4_poses 1 = .ok (.iconst 0, 1) := dk_3 (dk_at dksX4_poses_0 1 rfl rfl)
theorem dX4_poses_2 : decode cX4_poses 2 = .ok (.putfield 265, 3) := dk_181 1 9 (dk_at dksX4_poses_0 2 rfl rfl)
theorem dX4_poses_5 : decode cX4_poses 5 = .ok (.aload_n 0, 1) := dk_42 (dk_at dksX4_poses_0 5 rfl rfl)
theorem dX4_poses_6 : decode cX4_poses 6 = .ok (.getfield 145, 3) := dk_180 0 145 (dk_at dksX4_poses_0 6 rfl rfl)
theorem dX4_poses_9 : decode cX4_poses 9 = .ok (.ifCond .ne 4, 3) := dk_154 0 4 (dk_at dksX4_poses_0 9 rfl rfl)
theorem dX4_poses_12 : decode cX4_poses 12 = .ok (.return_, 1) := dk_177 (dk_at dksX4_poses_0 12 rfl rfl)
theorem dX4_poses_13 : decode cX4_poses 13 = .ok (.aload_n 0, 1) := dk_42 (dk_at dksX4_poses_0 13 rfl rfl)
theorem dX4_poses_14 : decode cX4_poses 14 = .ok (.getfield 7, 3) := dk_180 0 7 (dk_at dksX4_poses_0 14 rfl rfl)
theorem dX4_poses_17 : decode cX4_poses 17 = .ok (.bipush 8, 2) := dk_16 8 (dk_at dksX4_poses_0 17 rfl rfl)
theorem dX4_poses_19 : decode cX4_poses 19 = .ok (.iaload, 1) := dk_46 (dk_at dksX4_poses_0 19 rfl rfl)
theorem dX4_poses_20 : decode cX4_poses 20 = .ok (.ifCond .ne 13, 3) := dk_154 0 13 (dk_at dksX4_poses_0 20 rfl rfl)
theorem dX4_poses_23 : decode cX4_poses 23 = .ok (.aload_n 0, 1) := dk_42 (dk_at dksX4_poses_0 23 rfl rfl)
theorem dX4_poses_24 : decode cX4_poses 24 = .ok (.bipush 12, 2) := dk_16 12 (dk_at dksX4_poses_1 0 rfl rfl)
theorem dX4_poses_26 : decode cX4_poses 26 = .ok (.ldc2_w 251, 3) := dk_20 0 251 (dk_at dksX4_poses_1 2 rfl rfl)
theorem dX4_poses_29 : decode cX4_poses 29 = .ok (.invokevirtual 272, 3) := dk_182 1 16 (dk_at dksX4_poses_1 5 rfl rfl)
theorem dX4_poses_32 : decode cX4_poses 32 = .ok (.return_, 1) := dk_177 (dk_at dksX4_poses_1 8 rfl rfl)
theorem dX4_poses_33 : decode cX4_poses 33 = .ok (.aload_n 0, 1) := dk_42 (dk_at dksX4_poses_1 9 rfl rfl)
theorem dX4_poses_34 : decode cX4_poses 34 = .ok (.invokevirtual 275, 3) := dk_182 1 19 (dk_at dksX4_poses_1 10 rfl rfl)
theorem dX4_poses_37 : decode cX4_poses 37 = .ok (.lstore_n 1, 1) := dk_64 (dk_at dksX4_poses_1 13 rfl rfl)
theorem dX4_poses_38 : decode cX4_poses 38 = .ok (.aload_n 0, 1) := dk_42 (dk_at dksX4_poses_1 14 rfl rfl)
theorem dX4_poses_39 : decode cX4_poses 39 = .ok (.getfield 7, 3) := dk_180 0 7 (dk_at dksX4_poses_1 15 rfl rfl)
theorem dX4_poses_42 : decode cX4_poses 42 = .ok (.bipush 20, 2) := dk_16 20 (dk_at dksX4_poses_1 18 rfl rfl)
theorem dX4_poses_44 : decode cX4_poses 44 = .ok (.iaload, 1) := dk_46 (dk_at dksX4_poses_1 20 rfl rfl)
theorem dX4_poses_45 : decode cX4_poses 45 = .ok (.iconst 1, 1) := dk_4 (dk_at dksX4_poses_1 21 rfl rfl)
theorem dX4_poses_46 : decode cX4_poses 46 = .ok (.if_icmp .ne 15, 3) := dk_160 0 15 (dk_at dksX4_poses_2 0 rfl rfl)
theorem dX4_poses_49 : decode cX4_poses 49 = .ok (.aload_n 0, 1) := dk_42 (dk_at dksX4_poses_2 3 rfl rfl)
theorem dX4_poses_50 : decode cX4_poses 50 = .ok (.ldc2_w 251, 3) := dk_20 0 251 (dk_at dksX4_poses_2 4 rfl rfl)
theorem dX4_poses_53 : decode cX4_poses 53 = .ok (.lload_n 1, 1) := dk_31 (dk_at dksX4_poses_2 7 rfl rfl)
theorem dX4_poses_54 : decode cX4_poses 54 = .ok (.lsub, 1) := dk_101 (dk_at dksX4_poses_2 8 rfl rfl)
theorem dX4_poses_55 : decode cX4_poses 55 = .ok (.invokevirtual 279, 3) := dk_182 1 23 (dk_at dksX4_poses_2 9 rfl rfl)
theorem dX4_poses_58 : decode cX4_poses 58 = .ok (.goto 14, 3) := dk_167 0 14 (dk_at dksX4_poses_2 12 rfl rfl)
theorem dX4_poses_61 : decode cX4_poses 61 = .ok (.aload_n 0, 1) := dk_42 (dk_at dksX4_poses_2 15 rfl rfl)
theorem dX4_poses_62 : decode cX4_poses 62 = .ok (.bipush 12, 2) := dk_16 12 (dk_at dksX4_poses_2 16 rfl rfl)
theorem dX4_poses_64 : decode cX4_poses 64 = .ok (.ldc2_w 251, 3) := dk_20 0 251 (dk_at dksX4_poses_2 18 rfl rfl)
theorem dX4_poses_67 : decode cX4_poses 67 = .ok (.lload_n 1, 1) := dk_31 (dk_at dksX4_poses_2 21 rfl rfl)
theorem dX4_poses_68 : decode cX4_poses 68 = .ok (.lsub, 1) := dk_101 (dk_at dksX4_poses_2 22 rfl rfl)
theorem dX4_poses_69 : decode cX4_poses 69 = .ok (.invokevirtual 272, 3) := dk_182 1 16 (dk_at dksX4_poses_3 0 rfl rfl)
theorem dX4_poses_72 : decode cX4_poses 72 = .ok (.aload_n 0, 1) := dk_42 (dk_at dksX4_poses_3 3 rfl rfl)
theorem dX4_poses_73 : decode cX4_poses 73 = .ok (.bipush 16, 2) := dk_16 16 (dk_at dksX4_poses_3 4 rfl rfl)
theorem dX4_poses_75 : decode cX4_poses 75 = .ok (.lload_n 1, 1) := dk_31 (dk_at dksX4_poses_3 6 rfl rfl)
theorem dX4_poses_76 : decode cX4_poses 76 = .ok (.invokevirtual 272, 3) := dk_182 1 16 (dk_at dksX4_poses_3 7 rfl rfl)
theorem dX4_poses_79 : decode cX4_poses 79 = .ok (.return_, 1) := dk_177 (dk_at dksX4_poses_3 10 rfl rfl)
abbrev cX4_addsTrack : ByteArray := prog_19_method_54_code
def yX4_addsTrack : MethodName := ⟨RX4, "addsTrack", "(IJ)V"⟩
def dkwX4_addsTrack_4 : List UInt8 := [167, 0, 6, 22, 5, 136, 42, 180, 0, 72, 21, 4, 47, 182, 1, 12, 132, 4, 1, 167, 255, 164, 177]
abbrev dktX4_addsTrack_4 : List UInt8 := dkwX4_addsTrack_4 ++ []
def dkwX4_addsTrack_3 : List UInt8 := [180, 0, 20, 21, 4, 46, 4, 100, 133, 148, 158, 0, 15, 42, 180, 0, 20, 21, 4, 46, 4, 100]
abbrev dktX4_addsTrack_3 : List UInt8 := dkwX4_addsTrack_3 ++ dktX4_addsTrack_4
def dkwX4_addsTrack_2 : List UInt8 := [96, 46, 133, 42, 180, 0, 20, 21, 4, 46, 133, 105, 20, 0, 251, 109, 55, 5, 42, 21, 4, 22, 5, 42]
abbrev dktX4_addsTrack_2 : List UInt8 := dkwX4_addsTrack_2 ++ dktX4_addsTrack_3
def dkwX4_addsTrack_1 : List UInt8 := [180, 0, 120, 162, 0, 89, 42, 180, 0, 72, 21, 4, 47, 9, 148, 158, 0, 71, 42, 180, 0, 7, 27, 5]
abbrev dktX4_addsTrack_1 : List UInt8 := dkwX4_addsTrack_1 ++ dktX4_addsTrack_2
def dkwX4_addsTrack_0 : List UInt8 := [42, 42, 180, 0, 47, 42, 180, 0, 7, 27, 3, 96, 46, 46, 32, 182, 0, 253, 3, 54, 4, 21, 4, 42]
abbrev dktX4_addsTrack_0 : List UInt8 := dkwX4_addsTrack_0 ++ dktX4_addsTrack_1
theorem dksX4_addsTrack_0 : cX4_addsTrack.data.toList.drop 0 = dktX4_addsTrack_0 := by decide +kernel
theorem dksX4_addsTrack_1 : cX4_addsTrack.data.toList.drop 24 = dktX4_addsTrack_1 := dk_seg dksX4_addsTrack_0 24 rfl rfl
theorem dksX4_addsTrack_2 : cX4_addsTrack.data.toList.drop 48 = dktX4_addsTrack_2 := dk_seg dksX4_addsTrack_1 24 rfl rfl
theorem dksX4_addsTrack_3 : cX4_addsTrack.data.toList.drop 72 = dktX4_addsTrack_3 := dk_seg dksX4_addsTrack_2 24 rfl rfl
theorem dksX4_addsTrack_4 : cX4_addsTrack.data.toList.drop 94 = dktX4_addsTrack_4 := dk_seg dksX4_addsTrack_3 22 rfl rfl
theorem dX4_addsTrack_0 : decode cX4_addsTrack 0 = .ok (.aload_n 0, 1) := dk_42 (dk_at dksX4_addsTrack_0 0 rfl rfl)
theorem dX4_addsTrack_1 : decode cX4_addsTrack 1 = .ok (.aload_n 0, 1) := dk_42 (dk_at dksX4_addsTrack_0 1 rfl rfl)
theorem dX4_addsTrack_2 : decode cX4_addsTrack 2 = .ok (.getfield 47, 3) := dk_180 0 47 (dk_at dksX4_addsTrack_0 2 rfl rfl)
theorem dX4_addsTrack_5 : decode cX4_addsTrack 5 = .ok (.aload_n 0, 1) := dk_42 (dk_at dksX4_addsTrack_0 5 rfl rfl)
theorem dX4_addsTrack_6 : decode cX4_addsTrack 6 = .ok (.getfield 7, 3) := dk_180 0 7 (dk_at dksX4_addsTrack_0 6 rfl rfl)
theorem dX4_addsTrack_9 : decode cX4_addsTrack 9 = .ok (.iload_n 1, 1) := dk_27 (dk_at dksX4_addsTrack_0 9 rfl rfl)
theorem dX4_addsTrack_10 : decode cX4_addsTrack 10 = .ok (.iconst 0, 1) := dk_3 (dk_at dksX4_addsTrack_0 10 rfl rfl)
theorem dX4_addsTrack_11 : decode cX4_addsTrack 11 = .ok (.iadd, 1) := dk_96 (dk_at dksX4_addsTrack_0 11 rfl rfl)
theorem dX4_addsTrack_12 : decode cX4_addsTrack 12 = .ok (.iaload, 1) := dk_46 (dk_at dksX4_addsTrack_0 12 rfl rfl)
theorem dX4_addsTrack_13 : decode cX4_addsTrack 13 = .ok (.iaload, 1) := dk_46 (dk_at dksX4_addsTrack_0 13 rfl rfl)
theorem dX4_addsTrack_14 : decode cX4_addsTrack 14 = .ok (.lload_n 2, 1) := dk_32 (dk_at dksX4_addsTrack_0 14 rfl rfl)
theorem dX4_addsTrack_15 : decode cX4_addsTrack 15 = .ok (.invokevirtual 253, 3) := dk_182 0 253 (dk_at dksX4_addsTrack_0 15 rfl rfl)
theorem dX4_addsTrack_18 : decode cX4_addsTrack 18 = .ok (.iconst 0, 1) := dk_3 (dk_at dksX4_addsTrack_0 18 rfl rfl)
theorem dX4_addsTrack_19 : decode cX4_addsTrack 19 = .ok (.istore 4, 2) := dk_54 4 (dk_at dksX4_addsTrack_0 19 rfl rfl)
theorem dX4_addsTrack_21 : decode cX4_addsTrack 21 = .ok (.iload 4, 2) := dk_21 4 (dk_at dksX4_addsTrack_0 21 rfl rfl)
theorem dX4_addsTrack_23 : decode cX4_addsTrack 23 = .ok (.aload_n 0, 1) := dk_42 (dk_at dksX4_addsTrack_0 23 rfl rfl)
theorem dX4_addsTrack_24 : decode cX4_addsTrack 24 = .ok (.getfield 120, 3) := dk_180 0 120 (dk_at dksX4_addsTrack_1 0 rfl rfl)
theorem dX4_addsTrack_27 : decode cX4_addsTrack 27 = .ok (.if_icmp .ge 89, 3) := dk_162 0 89 (dk_at dksX4_addsTrack_1 3 rfl rfl)
theorem dX4_addsTrack_30 : decode cX4_addsTrack 30 = .ok (.aload_n 0, 1) := dk_42 (dk_at dksX4_addsTrack_1 6 rfl rfl)
theorem dX4_addsTrack_31 : decode cX4_addsTrack 31 = .ok (.getfield 72, 3) := dk_180 0 72 (dk_at dksX4_addsTrack_1 7 rfl rfl)
theorem dX4_addsTrack_34 : decode cX4_addsTrack 34 = .ok (.iload 4, 2) := dk_21 4 (dk_at dksX4_addsTrack_1 10 rfl rfl)
theorem dX4_addsTrack_36 : decode cX4_addsTrack 36 = .ok (.laload, 1) := dk_47 (dk_at dksX4_addsTrack_1 12 rfl rfl)
theorem dX4_addsTrack_37 : decode cX4_addsTrack 37 = .ok (.lconst 0, 1) := dk_9 (dk_at dksX4_addsTrack_1 13 rfl rfl)
theorem dX4_addsTrack_38 : decode cX4_addsTrack 38 = .ok (.lcmp, 1) := dk_148 (dk_at dksX4_addsTrack_1 14 rfl rfl)
theorem dX4_addsTrack_39 : decode cX4_addsTrack 39 = .ok (.ifCond .le 71, 3) := dk_158 0 71 (dk_at dksX4_addsTrack_1 15 rfl rfl)
theorem dX4_addsTrack_42 : decode cX4_addsTrack 42 = .ok (.aload_n 0, 1) := dk_42 (dk_at dksX4_addsTrack_1 18 rfl rfl)
theorem dX4_addsTrack_43 : decode cX4_addsTrack 43 = .ok (.getfield 7, 3) := dk_180 0 7 (dk_at dksX4_addsTrack_1 19 rfl rfl)
theorem dX4_addsTrack_46 : decode cX4_addsTrack 46 = .ok (.iload_n 1, 1) := dk_27 (dk_at dksX4_addsTrack_1 22 rfl rfl)
theorem dX4_addsTrack_47 : decode cX4_addsTrack 47 = .ok (.iconst 2, 1) := dk_5 (dk_at dksX4_addsTrack_1 23 rfl rfl)
theorem dX4_addsTrack_48 : decode cX4_addsTrack 48 = .ok (.iadd, 1) := dk_96 (dk_at dksX4_addsTrack_2 0 rfl rfl)
theorem dX4_addsTrack_49 : decode cX4_addsTrack 49 = .ok (.iaload, 1) := dk_46 (dk_at dksX4_addsTrack_2 1 rfl rfl)
theorem dX4_addsTrack_50 : decode cX4_addsTrack 50 = .ok (.i2l, 1) := dk_133 (dk_at dksX4_addsTrack_2 2 rfl rfl)
theorem dX4_addsTrack_51 : decode cX4_addsTrack 51 = .ok (.aload_n 0, 1) := dk_42 (dk_at dksX4_addsTrack_2 3 rfl rfl)
theorem dX4_addsTrack_52 : decode cX4_addsTrack 52 = .ok (.getfield 20, 3) := dk_180 0 20 (dk_at dksX4_addsTrack_2 4 rfl rfl)
theorem dX4_addsTrack_55 : decode cX4_addsTrack 55 = .ok (.iload 4, 2) := dk_21 4 (dk_at dksX4_addsTrack_2 7 rfl rfl)
theorem dX4_addsTrack_57 : decode cX4_addsTrack 57 = .ok (.iaload, 1) := dk_46 (dk_at dksX4_addsTrack_2 9 rfl rfl)
theorem dX4_addsTrack_58 : decode cX4_addsTrack 58 = .ok (.i2l, 1) := dk_133 (dk_at dksX4_addsTrack_2 10 rfl rfl)
theorem dX4_addsTrack_59 : decode cX4_addsTrack 59 = .ok (.lmul, 1) := dk_105 (dk_at dksX4_addsTrack_2 11 rfl rfl)
theorem dX4_addsTrack_60 : decode cX4_addsTrack 60 = .ok (.ldc2_w 251, 3) := dk_20 0 251 (dk_at dksX4_addsTrack_2 12 rfl rfl)
theorem dX4_addsTrack_63 : decode cX4_addsTrack 63 = .ok (.ldiv, 1) := dk_109 (dk_at dksX4_addsTrack_2 15 rfl rfl)
theorem dX4_addsTrack_64 : decode cX4_addsTrack 64 = .ok (.lstore 5, 2) := dk_55 5 (dk_at dksX4_addsTrack_2 16 rfl rfl)
theorem dX4_addsTrack_66 : decode cX4_addsTrack 66 = .ok (.aload_n 0, 1) := dk_42 (dk_at dksX4_addsTrack_2 18 rfl rfl)
theorem dX4_addsTrack_67 : decode cX4_addsTrack 67 = .ok (.iload 4, 2) := dk_21 4 (dk_at dksX4_addsTrack_2 19 rfl rfl)
theorem dX4_addsTrack_69 : decode cX4_addsTrack 69 = .ok (.lload 5, 2) := dk_22 5 (dk_at dksX4_addsTrack_2 21 rfl rfl)
theorem dX4_addsTrack_71 : decode cX4_addsTrack 71 = .ok (.aload_n 0, 1) := dk_42 (dk_at dksX4_addsTrack_2 23 rfl rfl)
theorem dX4_addsTrack_72 : decode cX4_addsTrack 72 = .ok (.getfield 20, 3) := dk_180 0 20 (dk_at dksX4_addsTrack_3 0 rfl rfl)
theorem dX4_addsTrack_75 : decode cX4_addsTrack 75 = .ok (.iload 4, 2) := dk_21 4 (dk_at dksX4_addsTrack_3 3 rfl rfl)
theorem dX4_addsTrack_77 : decode cX4_addsTrack 77 = .ok (.iaload, 1) := dk_46 (dk_at dksX4_addsTrack_3 5 rfl rfl)
theorem dX4_addsTrack_78 : decode cX4_addsTrack 78 = .ok (.iconst 1, 1) := dk_4 (dk_at dksX4_addsTrack_3 6 rfl rfl)
theorem dX4_addsTrack_79 : decode cX4_addsTrack 79 = .ok (.isub, 1) := dk_100 (dk_at dksX4_addsTrack_3 7 rfl rfl)
theorem dX4_addsTrack_80 : decode cX4_addsTrack 80 = .ok (.i2l, 1) := dk_133 (dk_at dksX4_addsTrack_3 8 rfl rfl)
theorem dX4_addsTrack_81 : decode cX4_addsTrack 81 = .ok (.lcmp, 1) := dk_148 (dk_at dksX4_addsTrack_3 9 rfl rfl)
theorem dX4_addsTrack_82 : decode cX4_addsTrack 82 = .ok (.ifCond .le 15, 3) := dk_158 0 15 (dk_at dksX4_addsTrack_3 10 rfl rfl)
theorem dX4_addsTrack_85 : decode cX4_addsTrack 85 = .ok (.aload_n 0, 1) := dk_42 (dk_at dksX4_addsTrack_3 13 rfl rfl)
theorem dX4_addsTrack_86 : decode cX4_addsTrack 86 = .ok (.getfield 20, 3) := dk_180 0 20 (dk_at dksX4_addsTrack_3 14 rfl rfl)
theorem dX4_addsTrack_89 : decode cX4_addsTrack 89 = .ok (.iload 4, 2) := dk_21 4 (dk_at dksX4_addsTrack_3 17 rfl rfl)
theorem dX4_addsTrack_91 : decode cX4_addsTrack 91 = .ok (.iaload, 1) := dk_46 (dk_at dksX4_addsTrack_3 19 rfl rfl)
theorem dX4_addsTrack_92 : decode cX4_addsTrack 92 = .ok (.iconst 1, 1) := dk_4 (dk_at dksX4_addsTrack_3 20 rfl rfl)
theorem dX4_addsTrack_93 : decode cX4_addsTrack 93 = .ok (.isub, 1) := dk_100 (dk_at dksX4_addsTrack_3 21 rfl rfl)
theorem dX4_addsTrack_94 : decode cX4_addsTrack 94 = .ok (.goto 6, 3) := dk_167 0 6 (dk_at dksX4_addsTrack_4 0 rfl rfl)
theorem dX4_addsTrack_97 : decode cX4_addsTrack 97 = .ok (.lload 5, 2) := dk_22 5 (dk_at dksX4_addsTrack_4 3 rfl rfl)
theorem dX4_addsTrack_99 : decode cX4_addsTrack 99 = .ok (.l2i, 1) := dk_136 (dk_at dksX4_addsTrack_4 5 rfl rfl)
theorem dX4_addsTrack_100 : decode cX4_addsTrack 100 = .ok (.aload_n 0, 1) := dk_42 (dk_at dksX4_addsTrack_4 6 rfl rfl)
theorem dX4_addsTrack_101 : decode cX4_addsTrack 101 = .ok (.getfield 72, 3) := dk_180 0 72 (dk_at dksX4_addsTrack_4 7 rfl rfl)
theorem dX4_addsTrack_104 : decode cX4_addsTrack 104 = .ok (.iload 4, 2) := dk_21 4 (dk_at dksX4_addsTrack_4 10 rfl rfl)
theorem dX4_addsTrack_106 : decode cX4_addsTrack 106 = .ok (.laload, 1) := dk_47 (dk_at dksX4_addsTrack_4 12 rfl rfl)
theorem dX4_addsTrack_107 : decode cX4_addsTrack 107 = .ok (.invokevirtual 268, 3) := dk_182 1 12 (dk_at dksX4_addsTrack_4 13 rfl rfl)
theorem dX4_addsTrack_110 : decode cX4_addsTrack 110 = .ok (.iinc 4 1, 3) := dk_132 4 1 (dk_at dksX4_addsTrack_4 16 rfl rfl)
theorem dX4_addsTrack_113 : decode cX4_addsTrack 113 = .ok (.goto (-92), 3) := dk_167 255 164 (dk_at dksX4_addsTrack_4 19 rfl rfl)
theorem dX4_addsTrack_116 : decode cX4_addsTrack 116 = .ok (.return_, 1) := dk_177 (dk_at dksX4_addsTrack_4 22 rfl rfl)
abbrev cX4_blends : ByteArray := prog_19_method_18_code
def yX4_blends : MethodName := ⟨RX4, "blends", "(IJ)V"⟩
def dkwX4_blends_5 : List UInt8 := [21, 4, 182, 0, 141, 54, 4, 167, 255, 173, 177]
abbrev dktX4_blends_5 : List UInt8 := dkwX4_blends_5 ++ []
def dkwX4_blends_4 : List UInt8 := [21, 5, 46, 92, 47, 22, 6, 97, 80, 167, 0, 22, 22, 6, 9, 148, 158, 0, 15, 42, 21, 5, 22, 6]
abbrev dktX4_blends_4 : List UInt8 := dkwX4_blends_4 ++ dktX4_blends_5
def dkwX4_blends_3 : List UInt8 := [148, 158, 0, 34, 42, 180, 0, 32, 21, 5, 46, 2, 159, 0, 23, 42, 180, 0, 72, 42, 180, 0, 32]
abbrev dktX4_blends_3 : List UInt8 := dkwX4_blends_3 ++ dktX4_blends_4
def dkwX4_blends_2 : List UInt8 := [132, 4, 255, 42, 180, 0, 76, 21, 4, 46, 54, 5, 42, 180, 0, 79, 21, 4, 47, 55, 6, 22, 6, 9]
abbrev dktX4_blends_2 : List UInt8 := dkwX4_blends_2 ++ dktX4_blends_3
def dkwX4_blends_1 : List UInt8 := [4, 54, 4, 42, 180, 0, 76, 3, 27, 79, 42, 180, 0, 79, 3, 32, 80, 21, 4, 158, 0, 84]
abbrev dktX4_blends_1 : List UInt8 := dkwX4_blends_1 ++ dktX4_blends_2
def dkwX4_blends_0 : List UInt8 := [3, 54, 4, 21, 4, 16, 12, 162, 0, 17, 42, 180, 0, 72, 21, 4, 9, 80, 132, 4, 1, 167, 255, 238]
abbrev dktX4_blends_0 : List UInt8 := dkwX4_blends_0 ++ dktX4_blends_1
theorem dksX4_blends_0 : cX4_blends.data.toList.drop 0 = dktX4_blends_0 := by decide +kernel
theorem dksX4_blends_1 : cX4_blends.data.toList.drop 24 = dktX4_blends_1 := dk_seg dksX4_blends_0 24 rfl rfl
theorem dksX4_blends_2 : cX4_blends.data.toList.drop 46 = dktX4_blends_2 := dk_seg dksX4_blends_1 22 rfl rfl
theorem dksX4_blends_3 : cX4_blends.data.toList.drop 70 = dktX4_blends_3 := dk_seg dksX4_blends_2 24 rfl rfl
theorem dksX4_blends_4 : cX4_blends.data.toList.drop 93 = dktX4_blends_4 := dk_seg dksX4_blends_3 23 rfl rfl
theorem dksX4_blends_5 : cX4_blends.data.toList.drop 117 = dktX4_blends_5 := dk_seg dksX4_blends_4 24 rfl rfl
theorem dX4_blends_0 : decode cX4_blends 0 = .ok (.iconst 0, 1) := dk_3 (dk_at dksX4_blends_0 0 rfl rfl)
theorem dX4_blends_1 : decode cX4_blends 1 = .ok (.istore 4, 2) := dk_54 4 (dk_at dksX4_blends_0 1 rfl rfl)
theorem dX4_blends_3 : decode cX4_blends 3 = .ok (.iload 4, 2) := dk_21 4 (dk_at dksX4_blends_0 3 rfl rfl)
theorem dX4_blends_5 : decode cX4_blends 5 = .ok (.bipush 12, 2) := dk_16 12 (dk_at dksX4_blends_0 5 rfl rfl)
theorem dX4_blends_7 : decode cX4_blends 7 = .ok (.if_icmp .ge 17, 3) := dk_162 0 17 (dk_at dksX4_blends_0 7 rfl rfl)
theorem dX4_blends_10 : decode cX4_blends 10 = .ok (.aload_n 0, 1) := dk_42 (dk_at dksX4_blends_0 10 rfl rfl)
theorem dX4_blends_11 : decode cX4_blends 11 = .ok (.getfield 72, 3) := dk_180 0 72 (dk_at dksX4_blends_0 11 rfl rfl)
theorem dX4_blends_14 : decode cX4_blends 14 = .ok (.iload 4, 2) := dk_21 4 (dk_at dksX4_blends_0 14 rfl rfl)
theorem dX4_blends_16 : decode cX4_blends 16 = .ok (.lconst 0, 1) := dk_9 (dk_at dksX4_blends_0 16 rfl rfl)
theorem dX4_blends_17 : decode cX4_blends 17 = .ok (.lastore, 1) := dk_80 (dk_at dksX4_blends_0 17 rfl rfl)
theorem dX4_blends_18 : decode cX4_blends 18 = .ok (.iinc 4 1, 3) := dk_132 4 1 (dk_at dksX4_blends_0 18 rfl rfl)
theorem dX4_blends_21 : decode cX4_blends 21 = .ok (.goto (-18), 3) := dk_167 255 238 (dk_at dksX4_blends_0 21 rfl rfl)
theorem dX4_blends_24 : decode cX4_blends 24 = .ok (.iconst 1, 1) := dk_4 (dk_at dksX4_blends_1 0 rfl rfl)
theorem dX4_blends_25 : decode cX4_blends 25 = .ok (.istore 4, 2) := dk_54 4 (dk_at dksX4_blends_1 1 rfl rfl)
theorem dX4_blends_27 : decode cX4_blends 27 = .ok (.aload_n 0, 1) := dk_42 (dk_at dksX4_blends_1 3 rfl rfl)
theorem dX4_blends_28 : decode cX4_blends 28 = .ok (.getfield 76, 3) := dk_180 0 76 (dk_at dksX4_blends_1 4 rfl rfl)
theorem dX4_blends_31 : decode cX4_blends 31 = .ok (.iconst 0, 1) := dk_3 (dk_at dksX4_blends_1 7 rfl rfl)
theorem dX4_blends_32 : decode cX4_blends 32 = .ok (.iload_n 1, 1) := dk_27 (dk_at dksX4_blends_1 8 rfl rfl)
theorem dX4_blends_33 : decode cX4_blends 33 = .ok (.iastore, 1) := dk_79 (dk_at dksX4_blends_1 9 rfl rfl)
theorem dX4_blends_34 : decode cX4_blends 34 = .ok (.aload_n 0, 1) := dk_42 (dk_at dksX4_blends_1 10 rfl rfl)
theorem dX4_blends_35 : decode cX4_blends 35 = .ok (.getfield 79, 3) := dk_180 0 79 (dk_at dksX4_blends_1 11 rfl rfl)
theorem dX4_blends_38 : decode cX4_blends 38 = .ok (.iconst 0, 1) := dk_3 (dk_at dksX4_blends_1 14 rfl rfl)
theorem dX4_blends_39 : decode cX4_blends 39 = .ok (.lload_n 2, 1) := dk_32 (dk_at dksX4_blends_1 15 rfl rfl)
theorem dX4_blends_40 : decode cX4_blends 40 = .ok (.lastore, 1) := dk_80 (dk_at dksX4_blends_1 16 rfl rfl)
theorem dX4_blends_41 : decode cX4_blends 41 = .ok (.iload 4, 2) := dk_21 4 (dk_at dksX4_blends_1 17 rfl rfl)
theorem dX4_blends_43 : decode cX4_blends 43 = .ok (.ifCond .le 84, 3) := dk_158 0 84 (dk_at dksX4_blends_1 19 rfl rfl)
theorem dX4_blends_46 : decode cX4_blends 46 = .ok (.iinc 4 (-1), 3) := dk_132 4 255 (dk_at dksX4_blends_2 0 rfl rfl)
theorem dX4_blends_49 : decode cX4_blends 49 = .ok (.aload_n 0, 1) := dk_42 (dk_at dksX4_blends_2 3 rfl rfl)
theorem dX4_blends_50 : decode cX4_blends 50 = .ok (.getfield 76, 3) := dk_180 0 76 (dk_at dksX4_blends_2 4 rfl rfl)
theorem dX4_blends_53 : decode cX4_blends 53 = .ok (.iload 4, 2) := dk_21 4 (dk_at dksX4_blends_2 7 rfl rfl)
theorem dX4_blends_55 : decode cX4_blends 55 = .ok (.iaload, 1) := dk_46 (dk_at dksX4_blends_2 9 rfl rfl)
theorem dX4_blends_56 : decode cX4_blends 56 = .ok (.istore 5, 2) := dk_54 5 (dk_at dksX4_blends_2 10 rfl rfl)
theorem dX4_blends_58 : decode cX4_blends 58 = .ok (.aload_n 0, 1) := dk_42 (dk_at dksX4_blends_2 12 rfl rfl)
theorem dX4_blends_59 : decode cX4_blends 59 = .ok (.getfield 79, 3) := dk_180 0 79 (dk_at dksX4_blends_2 13 rfl rfl)
theorem dX4_blends_62 : decode cX4_blends 62 = .ok (.iload 4, 2) := dk_21 4 (dk_at dksX4_blends_2 16 rfl rfl)
theorem dX4_blends_64 : decode cX4_blends 64 = .ok (.laload, 1) := dk_47 (dk_at dksX4_blends_2 18 rfl rfl)
theorem dX4_blends_65 : decode cX4_blends 65 = .ok (.lstore 6, 2) := dk_55 6 (dk_at dksX4_blends_2 19 rfl rfl)
theorem dX4_blends_67 : decode cX4_blends 67 = .ok (.lload 6, 2) := dk_22 6 (dk_at dksX4_blends_2 21 rfl rfl)
theorem dX4_blends_69 : decode cX4_blends 69 = .ok (.lconst 0, 1) := dk_9 (dk_at dksX4_blends_2 23 rfl rfl)
theorem dX4_blends_70 : decode cX4_blends 70 = .ok (.lcmp, 1) := dk_148 (dk_at dksX4_blends_3 0 rfl rfl)
theorem dX4_blends_71 : decode cX4_blends 71 = .ok (.ifCond .le 34, 3) := dk_158 0 34 (dk_at dksX4_blends_3 1 rfl rfl)
theorem dX4_blends_74 : decode cX4_blends 74 = .ok (.aload_n 0, 1) := dk_42 (dk_at dksX4_blends_3 4 rfl rfl)
theorem dX4_blends_75 : decode cX4_blends 75 = .ok (.getfield 32, 3) := dk_180 0 32 (dk_at dksX4_blends_3 5 rfl rfl)
theorem dX4_blends_78 : decode cX4_blends 78 = .ok (.iload 5, 2) := dk_21 5 (dk_at dksX4_blends_3 8 rfl rfl)
theorem dX4_blends_80 : decode cX4_blends 80 = .ok (.iaload, 1) := dk_46 (dk_at dksX4_blends_3 10 rfl rfl)
theorem dX4_blends_81 : decode cX4_blends 81 = .ok (.iconst (-1), 1) := dk_2 (dk_at dksX4_blends_3 11 rfl rfl)
theorem dX4_blends_82 : decode cX4_blends 82 = .ok (.if_icmp .eq 23, 3) := dk_159 0 23 (dk_at dksX4_blends_3 12 rfl rfl)
theorem dX4_blends_85 : decode cX4_blends 85 = .ok (.aload_n 0, 1) := dk_42 (dk_at dksX4_blends_3 15 rfl rfl)
theorem dX4_blends_86 : decode cX4_blends 86 = .ok (.getfield 72, 3) := dk_180 0 72 (dk_at dksX4_blends_3 16 rfl rfl)
theorem dX4_blends_89 : decode cX4_blends 89 = .ok (.aload_n 0, 1) := dk_42 (dk_at dksX4_blends_3 19 rfl rfl)
theorem dX4_blends_90 : decode cX4_blends 90 = .ok (.getfield 32, 3) := dk_180 0 32 (dk_at dksX4_blends_3 20 rfl rfl)
theorem dX4_blends_93 : decode cX4_blends 93 = .ok (.iload 5, 2) := dk_21 5 (dk_at dksX4_blends_4 0 rfl rfl)
theorem dX4_blends_95 : decode cX4_blends 95 = .ok (.iaload, 1) := dk_46 (dk_at dksX4_blends_4 2 rfl rfl)
theorem dX4_blends_96 : decode cX4_blends 96 = .ok (.dup2, 1) := dk_92 (dk_at dksX4_blends_4 3 rfl rfl)
theorem dX4_blends_97 : decode cX4_blends 97 = .ok (.laload, 1) := dk_47 (dk_at dksX4_blends_4 4 rfl rfl)
theorem dX4_blends_98 : decode cX4_blends 98 = .ok (.lload 6, 2) := dk_22 6 (dk_at dksX4_blends_4 5 rfl rfl)
theorem dX4_blends_100 : decode cX4_blends 100 = .ok (.ladd, 1) := dk_97 (dk_at dksX4_blends_4 7 rfl rfl)
theorem dX4_blends_101 : decode cX4_blends 101 = .ok (.lastore, 1) := dk_80 (dk_at dksX4_blends_4 8 rfl rfl)
theorem dX4_blends_102 : decode cX4_blends 102 = .ok (.goto 22, 3) := dk_167 0 22 (dk_at dksX4_blends_4 9 rfl rfl)
theorem dX4_blends_105 : decode cX4_blends 105 = .ok (.lload 6, 2) := dk_22 6 (dk_at dksX4_blends_4 12 rfl rfl)
theorem dX4_blends_107 : decode cX4_blends 107 = .ok (.lconst 0, 1) := dk_9 (dk_at dksX4_blends_4 14 rfl rfl)
theorem dX4_blends_108 : decode cX4_blends 108 = .ok (.lcmp, 1) := dk_148 (dk_at dksX4_blends_4 15 rfl rfl)
theorem dX4_blends_109 : decode cX4_blends 109 = .ok (.ifCond .le 15, 3) := dk_158 0 15 (dk_at dksX4_blends_4 16 rfl rfl)
theorem dX4_blends_112 : decode cX4_blends 112 = .ok (.aload_n 0, 1) := dk_42 (dk_at dksX4_blends_4 19 rfl rfl)
theorem dX4_blends_113 : decode cX4_blends 113 = .ok (.iload 5, 2) := dk_21 5 (dk_at dksX4_blends_4 20 rfl rfl)
theorem dX4_blends_115 : decode cX4_blends 115 = .ok (.lload 6, 2) := dk_22 6 (dk_at dksX4_blends_4 22 rfl rfl)
theorem dX4_blends_117 : decode cX4_blends 117 = .ok (.iload 4, 2) := dk_21 4 (dk_at dksX4_blends_5 0 rfl rfl)
theorem dX4_blends_119 : decode cX4_blends 119 = .ok (.invokevirtual 141, 3) := dk_182 0 141 (dk_at dksX4_blends_5 2 rfl rfl)
theorem dX4_blends_122 : decode cX4_blends 122 = .ok (.istore 4, 2) := dk_54 4 (dk_at dksX4_blends_5 5 rfl rfl)
theorem dX4_blends_124 : decode cX4_blends 124 = .ok (.goto (-83), 3) := dk_167 255 173 (dk_at dksX4_blends_5 7 rfl rfl)
theorem dX4_blends_127 : decode cX4_blends 127 = .ok (.return_, 1) := dk_177 (dk_at dksX4_blends_5 10 rfl rfl)
abbrev cX4_opens : ByteArray := prog_19_method_19_code
def yX4_opens : MethodName := ⟨RX4, "opens", "(IJI)I"⟩
def dkwX4_opens_11 : List UInt8 := [21, 4, 4, 96, 32, 22, 8, 101, 80, 21, 4, 5, 96, 172]
abbrev dktX4_opens_11 : List UInt8 := dkwX4_opens_11 ++ []
def dkwX4_opens_10 : List UInt8 := [22, 8, 80, 42, 180, 0, 76, 21, 4, 4, 96, 42, 180, 0, 41, 21, 6, 46, 79, 42, 180, 0, 79]
abbrev dktX4_opens_10 : List UInt8 := dkwX4_opens_10 ++ dktX4_opens_11
def dkwX4_opens_9 : List UInt8 := [133, 109, 55, 8, 42, 180, 0, 76, 21, 4, 42, 180, 0, 41, 21, 7, 46, 79, 42, 180, 0, 79, 21, 4]
abbrev dktX4_opens_9 : List UInt8 := dkwX4_opens_9 ++ dktX4_opens_10
def dkwX4_opens_8 : List UInt8 := [180, 0, 44, 21, 6, 46, 100, 133, 105, 42, 180, 0, 44, 21, 7, 46, 42, 180, 0, 44, 21, 6, 46, 100]
abbrev dktX4_opens_8 : List UInt8 := dkwX4_opens_8 ++ dktX4_opens_9
def dkwX4_opens_7 : List UInt8 := [167, 0, 5, 21, 6, 46, 79, 42, 180, 0, 79, 21, 4, 32, 80, 21, 4, 4, 96, 172, 32, 21, 5, 42]
abbrev dktX4_opens_7 : List UInt8 := dkwX4_opens_7 ++ dktX4_opens_8
def dkwX4_opens_6 : List UInt8 := [21, 6, 21, 7, 160, 0, 40, 42, 180, 0, 76, 21, 4, 42, 180, 0, 41, 21, 6, 156, 0, 8, 21, 7]
abbrev dktX4_opens_6 : List UInt8 := dkwX4_opens_6 ++ dktX4_opens_7
def dkwX4_opens_5 : List UInt8 := [167, 0, 5, 21, 7, 54, 7, 132, 8, 1, 167, 255, 152, 21, 6, 155, 0, 15, 21, 7, 155, 0, 10]
abbrev dktX4_opens_5 : List UInt8 := dkwX4_opens_5 ++ dktX4_opens_6
def dkwX4_opens_4 : List UInt8 := [21, 7, 155, 0, 20, 42, 180, 0, 44, 21, 8, 46, 42, 180, 0, 44, 21, 7, 46, 162, 0, 8, 21, 8]
abbrev dktX4_opens_4 : List UInt8 := dkwX4_opens_4 ++ dktX4_opens_5
def dkwX4_opens_3 : List UInt8 := [164, 0, 8, 21, 8, 167, 0, 5, 21, 6, 54, 6, 42, 180, 0, 44, 21, 8, 46, 21, 5, 161, 0, 30]
abbrev dktX4_opens_3 : List UInt8 := dkwX4_opens_3 ++ dktX4_opens_4
def dkwX4_opens_2 : List UInt8 := [21, 5, 163, 0, 30, 21, 6, 155, 0, 20, 42, 180, 0, 44, 21, 8, 46, 42, 180, 0, 44, 21, 6, 46]
abbrev dktX4_opens_2 : List UInt8 := dkwX4_opens_2 ++ dktX4_opens_3
def dkwX4_opens_1 : List UInt8 := [54, 8, 21, 8, 8, 27, 104, 42, 180, 0, 38, 27, 46, 96, 162, 0, 95, 42, 180, 0, 44, 21, 8, 46]
abbrev dktX4_opens_1 : List UInt8 := dkwX4_opens_1 ++ dktX4_opens_2
def dkwX4_opens_0 : List UInt8 := [42, 180, 0, 7, 3, 42, 180, 0, 35, 27, 46, 96, 46, 54, 5, 2, 54, 6, 2, 54, 7, 8, 27, 104]
abbrev dktX4_opens_0 : List UInt8 := dkwX4_opens_0 ++ dktX4_opens_1
theorem dksX4_opens_0 : cX4_opens.data.toList.drop 0 = dktX4_opens_0 := by decide +kernel
theorem dksX4_opens_1 : cX4_opens.data.toList.drop 24 = dktX4_opens_1 := dk_seg dksX4_opens_0 24 rfl rfl
theorem dksX4_opens_2 : cX4_opens.data.toList.drop 48 = dktX4_opens_2 := dk_seg dksX4_opens_1 24 rfl rfl
theorem dksX4_opens_3 : cX4_opens.data.toList.drop 72 = dktX4_opens_3 := dk_seg dksX4_opens_2 24 rfl rfl
theorem dksX4_opens_4 : cX4_opens.data.toList.drop 96 = dktX4_opens_4 := dk_seg dksX4_opens_3 24 rfl rfl
theorem dksX4_opens_5 : cX4_opens.data.toList.drop 120 = dktX4_opens_5 := dk_seg dksX4_opens_4 24 rfl rfl
theorem dksX4_opens_6 : cX4_opens.data.toList.drop 143 = dktX4_opens_6 := dk_seg dksX4_opens_5 23 rfl rfl
theorem dksX4_opens_7 : cX4_opens.data.toList.drop 167 = dktX4_opens_7 := dk_seg dksX4_opens_6 24 rfl rfl
theorem dksX4_opens_8 : cX4_opens.data.toList.drop 191 = dktX4_opens_8 := dk_seg dksX4_opens_7 24 rfl rfl
theorem dksX4_opens_9 : cX4_opens.data.toList.drop 215 = dktX4_opens_9 := dk_seg dksX4_opens_8 24 rfl rfl
theorem dksX4_opens_10 : cX4_opens.data.toList.drop 239 = dktX4_opens_10 := dk_seg dksX4_opens_9 24 rfl rfl
theorem dksX4_opens_11 : cX4_opens.data.toList.drop 262 = dktX4_opens_11 := dk_seg dksX4_opens_10 23 rfl rfl
theorem dX4_opens_0 : decode cX4_opens 0 = .ok (.aload_n 0, 1) := dk_42 (dk_at dksX4_opens_0 0 rfl rfl)
theorem dX4_opens_1 : decode cX4_opens 1 = .ok (.getfield 7, 3) := dk_180 0 7 (dk_at dksX4_opens_0 1 rfl rfl)
theorem dX4_opens_4 : decode cX4_opens 4 = .ok (.iconst 0, 1) := dk_3 (dk_at dksX4_opens_0 4 rfl rfl)
theorem dX4_opens_5 : decode cX4_opens 5 = .ok (.aload_n 0, 1) := dk_42 (dk_at dksX4_opens_0 5 rfl rfl)
theorem dX4_opens_6 : decode cX4_opens 6 = .ok (.getfield 35, 3) := dk_180 0 35 (dk_at dksX4_opens_0 6 rfl rfl)
theorem dX4_opens_9 : decode cX4_opens 9 = .ok (.iload_n 1, 1) := dk_27 (dk_at dksX4_opens_0 9 rfl rfl)
theorem dX4_opens_10 : decode cX4_opens 10 = .ok (.iaload, 1) := dk_46 (dk_at dksX4_opens_0 10 rfl rfl)
theorem dX4_opens_11 : decode cX4_opens 11 = .ok (.iadd, 1) := dk_96 (dk_at dksX4_opens_0 11 rfl rfl)
theorem dX4_opens_12 : decode cX4_opens 12 = .ok (.iaload, 1) := dk_46 (dk_at dksX4_opens_0 12 rfl rfl)
theorem dX4_opens_13 : decode cX4_opens 13 = .ok (.istore 5, 2) := dk_54 5 (dk_at dksX4_opens_0 13 rfl rfl)
theorem dX4_opens_15 : decode cX4_opens 15 = .ok (.iconst (-1), 1) := dk_2 (dk_at dksX4_opens_0 15 rfl rfl)
theorem dX4_opens_16 : decode cX4_opens 16 = .ok (.istore 6, 2) := dk_54 6 (dk_at dksX4_opens_0 16 rfl rfl)
theorem dX4_opens_18 : decode cX4_opens 18 = .ok (.iconst (-1), 1) := dk_2 (dk_at dksX4_opens_0 18 rfl rfl)
theorem dX4_opens_19 : decode cX4_opens 19 = .ok (.istore 7, 2) := dk_54 7 (dk_at dksX4_opens_0 19 rfl rfl)
theorem dX4_opens_21 : decode cX4_opens 21 = .ok (.iconst 5, 1) := dk_8 (dk_at dksX4_opens_0 21 rfl rfl)
theorem dX4_opens_22 : decode cX4_opens 22 = .ok (.iload_n 1, 1) := dk_27 (dk_at dksX4_opens_0 22 rfl rfl)
theorem dX4_opens_23 : decode cX4_opens 23 = .ok (.imul, 1) := dk_104 (dk_at dksX4_opens_0 23 rfl rfl)
theorem dX4_opens_24 : decode cX4_opens 24 = .ok (.istore 8, 2) := dk_54 8 (dk_at dksX4_opens_1 0 rfl rfl)
theorem dX4_opens_26 : decode cX4_opens 26 = .ok (.iload 8, 2) := dk_21 8 (dk_at dksX4_opens_1 2 rfl rfl)
theorem dX4_opens_28 : decode cX4_opens 28 = .ok (.iconst 5, 1) := dk_8 (dk_at dksX4_opens_1 4 rfl rfl)
theorem dX4_opens_29 : decode cX4_opens 29 = .ok (.iload_n 1, 1) := dk_27 (dk_at dksX4_opens_1 5 rfl rfl)
theorem dX4_opens_30 : decode cX4_opens 30 = .ok (.imul, 1) := dk_104 (dk_at dksX4_opens_1 6 rfl rfl)
theorem dX4_opens_31 : decode cX4_opens 31 = .ok (.aload_n 0, 1) := dk_42 (dk_at dksX4_opens_1 7 rfl rfl)
theorem dX4_opens_32 : decode cX4_opens 32 = .ok (.getfield 38, 3) := dk_180 0 38 (dk_at dksX4_opens_1 8 rfl rfl)
theorem dX4_opens_35 : decode cX4_opens 35 = .ok (.iload_n 1, 1) := dk_27 (dk_at dksX4_opens_1 11 rfl rfl)
theorem dX4_opens_36 : decode cX4_opens 36 = .ok (.iaload, 1) := dk_46 (dk_at dksX4_opens_1 12 rfl rfl)
theorem dX4_opens_37 : decode cX4_opens 37 = .ok (.iadd, 1) := dk_96 (dk_at dksX4_opens_1 13 rfl rfl)
theorem dX4_opens_38 : decode cX4_opens 38 = .ok (.if_icmp .ge 95, 3) := dk_162 0 95 (dk_at dksX4_opens_1 14 rfl rfl)
theorem dX4_opens_41 : decode cX4_opens 41 = .ok (.aload_n 0, 1) := dk_42 (dk_at dksX4_opens_1 17 rfl rfl)
theorem dX4_opens_42 : decode cX4_opens 42 = .ok (.getfield 44, 3) := dk_180 0 44 (dk_at dksX4_opens_1 18 rfl rfl)
theorem dX4_opens_45 : decode cX4_opens 45 = .ok (.iload 8, 2) := dk_21 8 (dk_at dksX4_opens_1 21 rfl rfl)
theorem dX4_opens_47 : decode cX4_opens 47 = .ok (.iaload, 1) := dk_46 (dk_at dksX4_opens_1 23 rfl rfl)
theorem dX4_opens_48 : decode cX4_opens 48 = .ok (.iload 5, 2) := dk_21 5 (dk_at dksX4_opens_2 0 rfl rfl)
theorem dX4_opens_50 : decode cX4_opens 50 = .ok (.if_icmp .gt 30, 3) := dk_163 0 30 (dk_at dksX4_opens_2 2 rfl rfl)
theorem dX4_opens_53 : decode cX4_opens 53 = .ok (.iload 6, 2) := dk_21 6 (dk_at dksX4_opens_2 5 rfl rfl)
theorem dX4_opens_55 : decode cX4_opens 55 = .ok (.ifCond .lt 20, 3) := dk_155 0 20 (dk_at dksX4_opens_2 7 rfl rfl)
theorem dX4_opens_58 : decode cX4_opens 58 = .ok (.aload_n 0, 1) := dk_42 (dk_at dksX4_opens_2 10 rfl rfl)
theorem dX4_opens_59 : decode cX4_opens 59 = .ok (.getfield 44, 3) := dk_180 0 44 (dk_at dksX4_opens_2 11 rfl rfl)
theorem dX4_opens_62 : decode cX4_opens 62 = .ok (.iload 8, 2) := dk_21 8 (dk_at dksX4_opens_2 14 rfl rfl)
theorem dX4_opens_64 : decode cX4_opens 64 = .ok (.iaload, 1) := dk_46 (dk_at dksX4_opens_2 16 rfl rfl)
theorem dX4_opens_65 : decode cX4_opens 65 = .ok (.aload_n 0, 1) := dk_42 (dk_at dksX4_opens_2 17 rfl rfl)
theorem dX4_opens_66 : decode cX4_opens 66 = .ok (.getfield 44, 3) := dk_180 0 44 (dk_at dksX4_opens_2 18 rfl rfl)
theorem dX4_opens_69 : decode cX4_opens 69 = .ok (.iload 6, 2) := dk_21 6 (dk_at dksX4_opens_2 21 rfl rfl)
theorem dX4_opens_71 : decode cX4_opens 71 = .ok (.iaload, 1) := dk_46 (dk_at dksX4_opens_2 23 rfl rfl)
theorem dX4_opens_72 : decode cX4_opens 72 = .ok (.if_icmp .le 8, 3) := dk_164 0 8 (dk_at dksX4_opens_3 0 rfl rfl)
theorem dX4_opens_75 : decode cX4_opens 75 = .ok (.iload 8, 2) := dk_21 8 (dk_at dksX4_opens_3 3 rfl rfl)
theorem dX4_opens_77 : decode cX4_opens 77 = .ok (.goto 5, 3) := dk_167 0 5 (dk_at dksX4_opens_3 5 rfl rfl)
theorem dX4_opens_80 : decode cX4_opens 80 = .ok (.iload 6, 2) := dk_21 6 (dk_at dksX4_opens_3 8 rfl rfl)
theorem dX4_opens_82 : decode cX4_opens 82 = .ok (.istore 6, 2) := dk_54 6 (dk_at dksX4_opens_3 10 rfl rfl)
theorem dX4_opens_84 : decode cX4_opens 84 = .ok (.aload_n 0, 1) := dk_42 (dk_at dksX4_opens_3 12 rfl rfl)
theorem dX4_opens_85 : decode cX4_opens 85 = .ok (.getfield 44, 3) := dk_180 0 44 (dk_at dksX4_opens_3 13 rfl rfl)
theorem dX4_opens_88 : decode cX4_opens 88 = .ok (.iload 8, 2) := dk_21 8 (dk_at dksX4_opens_3 16 rfl rfl)
theorem dX4_opens_90 : decode cX4_opens 90 = .ok (.iaload, 1) := dk_46 (dk_at dksX4_opens_3 18 rfl rfl)
theorem dX4_opens_91 : decode cX4_opens 91 = .ok (.iload 5, 2) := dk_21 5 (dk_at dksX4_opens_3 19 rfl rfl)
theorem dX4_opens_93 : decode cX4_opens 93 = .ok (.if_icmp .lt 30, 3) := dk_161 0 30 (dk_at dksX4_opens_3 21 rfl rfl)
theorem dX4_opens_96 : decode cX4_opens 96 = .ok (.iload 7, 2) := dk_21 7 (dk_at dksX4_opens_4 0 rfl rfl)
theorem dX4_opens_98 : decode cX4_opens 98 = .ok (.ifCond .lt 20, 3) := dk_155 0 20 (dk_at dksX4_opens_4 2 rfl rfl)
theorem dX4_opens_101 : decode cX4_opens 101 = .ok (.aload_n 0, 1) := dk_42 (dk_at dksX4_opens_4 5 rfl rfl)
theorem dX4_opens_102 : decode cX4_opens 102 = .ok (.getfield 44, 3) := dk_180 0 44 (dk_at dksX4_opens_4 6 rfl rfl)
theorem dX4_opens_105 : decode cX4_opens 105 = .ok (.iload 8, 2) := dk_21 8 (dk_at dksX4_opens_4 9 rfl rfl)
theorem dX4_opens_107 : decode cX4_opens 107 = .ok (.iaload, 1) := dk_46 (dk_at dksX4_opens_4 11 rfl rfl)
theorem dX4_opens_108 : decode cX4_opens 108 = .ok (.aload_n 0, 1) := dk_42 (dk_at dksX4_opens_4 12 rfl rfl)
theorem dX4_opens_109 : decode cX4_opens 109 = .ok (.getfield 44, 3) := dk_180 0 44 (dk_at dksX4_opens_4 13 rfl rfl)
theorem dX4_opens_112 : decode cX4_opens 112 = .ok (.iload 7, 2) := dk_21 7 (dk_at dksX4_opens_4 16 rfl rfl)
theorem dX4_opens_114 : decode cX4_opens 114 = .ok (.iaload, 1) := dk_46 (dk_at dksX4_opens_4 18 rfl rfl)
theorem dX4_opens_115 : decode cX4_opens 115 = .ok (.if_icmp .ge 8, 3) := dk_162 0 8 (dk_at dksX4_opens_4 19 rfl rfl)
theorem dX4_opens_118 : decode cX4_opens 118 = .ok (.iload 8, 2) := dk_21 8 (dk_at dksX4_opens_4 22 rfl rfl)
theorem dX4_opens_120 : decode cX4_opens 120 = .ok (.goto 5, 3) := dk_167 0 5 (dk_at dksX4_opens_5 0 rfl rfl)
theorem dX4_opens_123 : decode cX4_opens 123 = .ok (.iload 7, 2) := dk_21 7 (dk_at dksX4_opens_5 3 rfl rfl)
theorem dX4_opens_125 : decode cX4_opens 125 = .ok (.istore 7, 2) := dk_54 7 (dk_at dksX4_opens_5 5 rfl rfl)
theorem dX4_opens_127 : decode cX4_opens 127 = .ok (.iinc 8 1, 3) := dk_132 8 1 (dk_at dksX4_opens_5 7 rfl rfl)
theorem dX4_opens_130 : decode cX4_opens 130 = .ok (.goto (-104), 3) := dk_167 255 152 (dk_at dksX4_opens_5 10 rfl rfl)
theorem dX4_opens_133 : decode cX4_opens 133 = .ok (.iload 6, 2) := dk_21 6 (dk_at dksX4_opens_5 13 rfl rfl)
theorem dX4_opens_135 : decode cX4_opens 135 = .ok (.ifCond .lt 15, 3) := dk_155 0 15 (dk_at dksX4_opens_5 15 rfl rfl)
theorem dX4_opens_138 : decode cX4_opens 138 = .ok (.iload 7, 2) := dk_21 7 (dk_at dksX4_opens_5 18 rfl rfl)
theorem dX4_opens_140 : decode cX4_opens 140 = .ok (.ifCond .lt 10, 3) := dk_155 0 10 (dk_at dksX4_opens_5 20 rfl rfl)
theorem dX4_opens_143 : decode cX4_opens 143 = .ok (.iload 6, 2) := dk_21 6 (dk_at dksX4_opens_6 0 rfl rfl)
theorem dX4_opens_145 : decode cX4_opens 145 = .ok (.iload 7, 2) := dk_21 7 (dk_at dksX4_opens_6 2 rfl rfl)
theorem dX4_opens_147 : decode cX4_opens 147 = .ok (.if_icmp .ne 40, 3) := dk_160 0 40 (dk_at dksX4_opens_6 4 rfl rfl)
theorem dX4_opens_150 : decode cX4_opens 150 = .ok (.aload_n 0, 1) := dk_42 (dk_at dksX4_opens_6 7 rfl rfl)
theorem dX4_opens_151 : decode cX4_opens 151 = .ok (.getfield 76, 3) := dk_180 0 76 (dk_at dksX4_opens_6 8 rfl rfl)
theorem dX4_opens_154 : decode cX4_opens 154 = .ok (.iload 4, 2) := dk_21 4 (dk_at dksX4_opens_6 11 rfl rfl)
theorem dX4_opens_156 : decode cX4_opens 156 = .ok (.aload_n 0, 1) := dk_42 (dk_at dksX4_opens_6 13 rfl rfl)
theorem dX4_opens_157 : decode cX4_opens 157 = .ok (.getfield 41, 3) := dk_180 0 41 (dk_at dksX4_opens_6 14 rfl rfl)
theorem dX4_opens_160 : decode cX4_opens 160 = .ok (.iload 6, 2) := dk_21 6 (dk_at dksX4_opens_6 17 rfl rfl)
theorem dX4_opens_162 : decode cX4_opens 162 = .ok (.ifCond .ge 8, 3) := dk_156 0 8 (dk_at dksX4_opens_6 19 rfl rfl)
theorem dX4_opens_165 : decode cX4_opens 165 = .ok (.iload 7, 2) := dk_21 7 (dk_at dksX4_opens_6 22 rfl rfl)
theorem dX4_opens_167 : decode cX4_opens 167 = .ok (.goto 5, 3) := dk_167 0 5 (dk_at dksX4_opens_7 0 rfl rfl)
theorem dX4_opens_170 : decode cX4_opens 170 = .ok (.iload 6, 2) := dk_21 6 (dk_at dksX4_opens_7 3 rfl rfl)
theorem dX4_opens_172 : decode cX4_opens 172 = .ok (.iaload, 1) := dk_46 (dk_at dksX4_opens_7 5 rfl rfl)
theorem dX4_opens_173 : decode cX4_opens 173 = .ok (.iastore, 1) := dk_79 (dk_at dksX4_opens_7 6 rfl rfl)
theorem dX4_opens_174 : decode cX4_opens 174 = .ok (.aload_n 0, 1) := dk_42 (dk_at dksX4_opens_7 7 rfl rfl)
theorem dX4_opens_175 : decode cX4_opens 175 = .ok (.getfield 79, 3) := dk_180 0 79 (dk_at dksX4_opens_7 8 rfl rfl)
theorem dX4_opens_178 : decode cX4_opens 178 = .ok (.iload 4, 2) := dk_21 4 (dk_at dksX4_opens_7 11 rfl rfl)
theorem dX4_opens_180 : decode cX4_opens 180 = .ok (.lload_n 2, 1) := dk_32 (dk_at dksX4_opens_7 13 rfl rfl)
theorem dX4_opens_181 : decode cX4_opens 181 = .ok (.lastore, 1) := dk_80 (dk_at dksX4_opens_7 14 rfl rfl)
theorem dX4_opens_182 : decode cX4_opens 182 = .ok (.iload 4, 2) := dk_21 4 (dk_at dksX4_opens_7 15 rfl rfl)
theorem dX4_opens_184 : decode cX4_opens 184 = .ok (.iconst 1, 1) := dk_4 (dk_at dksX4_opens_7 17 rfl rfl)
theorem dX4_opens_185 : decode cX4_opens 185 = .ok (.iadd, 1) := dk_96 (dk_at dksX4_opens_7 18 rfl rfl)
theorem dX4_opens_186 : decode cX4_opens 186 = .ok (.ireturn, 1) := dk_172 (dk_at dksX4_opens_7 19 rfl rfl)
theorem dX4_opens_187 : decode cX4_opens 187 = .ok (.lload_n 2, 1) := dk_32 (dk_at dksX4_opens_7 20 rfl rfl)
theorem dX4_opens_188 : decode cX4_opens 188 = .ok (.iload 5, 2) := dk_21 5 (dk_at dksX4_opens_7 21 rfl rfl)
theorem dX4_opens_190 : decode cX4_opens 190 = .ok (.aload_n 0, 1) := dk_42 (dk_at dksX4_opens_7 23 rfl rfl)
theorem dX4_opens_191 : decode cX4_opens 191 = .ok (.getfield 44, 3) := dk_180 0 44 (dk_at dksX4_opens_8 0 rfl rfl)
theorem dX4_opens_194 : decode cX4_opens 194 = .ok (.iload 6, 2) := dk_21 6 (dk_at dksX4_opens_8 3 rfl rfl)
theorem dX4_opens_196 : decode cX4_opens 196 = .ok (.iaload, 1) := dk_46 (dk_at dksX4_opens_8 5 rfl rfl)
theorem dX4_opens_197 : decode cX4_opens 197 = .ok (.isub, 1) := dk_100 (dk_at dksX4_opens_8 6 rfl rfl)
theorem dX4_opens_198 : decode cX4_opens 198 = .ok (.i2l, 1) := dk_133 (dk_at dksX4_opens_8 7 rfl rfl)
theorem dX4_opens_199 : decode cX4_opens 199 = .ok (.lmul, 1) := dk_105 (dk_at dksX4_opens_8 8 rfl rfl)
theorem dX4_opens_200 : decode cX4_opens 200 = .ok (.aload_n 0, 1) := dk_42 (dk_at dksX4_opens_8 9 rfl rfl)
theorem dX4_opens_201 : decode cX4_opens 201 = .ok (.getfield 44, 3) := dk_180 0 44 (dk_at dksX4_opens_8 10 rfl rfl)
theorem dX4_opens_204 : decode cX4_opens 204 = .ok (.iload 7, 2) := dk_21 7 (dk_at dksX4_opens_8 13 rfl rfl)
theorem dX4_opens_206 : decode cX4_opens 206 = .ok (.iaload, 1) := dk_46 (dk_at dksX4_opens_8 15 rfl rfl)
theorem dX4_opens_207 : decode cX4_opens 207 = .ok (.aload_n 0, 1) := dk_42 (dk_at dksX4_opens_8 16 rfl rfl)
theorem dX4_opens_208 : decode cX4_opens 208 = .ok (.getfield 44, 3) := dk_180 0 44 (dk_at dksX4_opens_8 17 rfl rfl)
theorem dX4_opens_211 : decode cX4_opens 211 = .ok (.iload 6, 2) := dk_21 6 (dk_at dksX4_opens_8 20 rfl rfl)
theorem dX4_opens_213 : decode cX4_opens 213 = .ok (.iaload, 1) := dk_46 (dk_at dksX4_opens_8 22 rfl rfl)
theorem dX4_opens_214 : decode cX4_opens 214 = .ok (.isub, 1) := dk_100 (dk_at dksX4_opens_8 23 rfl rfl)
theorem dX4_opens_215 : decode cX4_opens 215 = .ok (.i2l, 1) := dk_133 (dk_at dksX4_opens_9 0 rfl rfl)
theorem dX4_opens_216 : decode cX4_opens 216 = .ok (.ldiv, 1) := dk_109 (dk_at dksX4_opens_9 1 rfl rfl)
theorem dX4_opens_217 : decode cX4_opens 217 = .ok (.lstore 8, 2) := dk_55 8 (dk_at dksX4_opens_9 2 rfl rfl)
theorem dX4_opens_219 : decode cX4_opens 219 = .ok (.aload_n 0, 1) := dk_42 (dk_at dksX4_opens_9 4 rfl rfl)
theorem dX4_opens_220 : decode cX4_opens 220 = .ok (.getfield 76, 3) := dk_180 0 76 (dk_at dksX4_opens_9 5 rfl rfl)
theorem dX4_opens_223 : decode cX4_opens 223 = .ok (.iload 4, 2) := dk_21 4 (dk_at dksX4_opens_9 8 rfl rfl)
theorem dX4_opens_225 : decode cX4_opens 225 = .ok (.aload_n 0, 1) := dk_42 (dk_at dksX4_opens_9 10 rfl rfl)
theorem dX4_opens_226 : decode cX4_opens 226 = .ok (.getfield 41, 3) := dk_180 0 41 (dk_at dksX4_opens_9 11 rfl rfl)
theorem dX4_opens_229 : decode cX4_opens 229 = .ok (.iload 7, 2) := dk_21 7 (dk_at dksX4_opens_9 14 rfl rfl)
theorem dX4_opens_231 : decode cX4_opens 231 = .ok (.iaload, 1) := dk_46 (dk_at dksX4_opens_9 16 rfl rfl)
theorem dX4_opens_232 : decode cX4_opens 232 = .ok (.iastore, 1) := dk_79 (dk_at dksX4_opens_9 17 rfl rfl)
theorem dX4_opens_233 : decode cX4_opens 233 = .ok (.aload_n 0, 1) := dk_42 (dk_at dksX4_opens_9 18 rfl rfl)
theorem dX4_opens_234 : decode cX4_opens 234 = .ok (.getfield 79, 3) := dk_180 0 79 (dk_at dksX4_opens_9 19 rfl rfl)
theorem dX4_opens_237 : decode cX4_opens 237 = .ok (.iload 4, 2) := dk_21 4 (dk_at dksX4_opens_9 22 rfl rfl)
theorem dX4_opens_239 : decode cX4_opens 239 = .ok (.lload 8, 2) := dk_22 8 (dk_at dksX4_opens_10 0 rfl rfl)
theorem dX4_opens_241 : decode cX4_opens 241 = .ok (.lastore, 1) := dk_80 (dk_at dksX4_opens_10 2 rfl rfl)
theorem dX4_opens_242 : decode cX4_opens 242 = .ok (.aload_n 0, 1) := dk_42 (dk_at dksX4_opens_10 3 rfl rfl)
theorem dX4_opens_243 : decode cX4_opens 243 = .ok (.getfield 76, 3) := dk_180 0 76 (dk_at dksX4_opens_10 4 rfl rfl)
theorem dX4_opens_246 : decode cX4_opens 246 = .ok (.iload 4, 2) := dk_21 4 (dk_at dksX4_opens_10 7 rfl rfl)
theorem dX4_opens_248 : decode cX4_opens 248 = .ok (.iconst 1, 1) := dk_4 (dk_at dksX4_opens_10 9 rfl rfl)
theorem dX4_opens_249 : decode cX4_opens 249 = .ok (.iadd, 1) := dk_96 (dk_at dksX4_opens_10 10 rfl rfl)
theorem dX4_opens_250 : decode cX4_opens 250 = .ok (.aload_n 0, 1) := dk_42 (dk_at dksX4_opens_10 11 rfl rfl)
theorem dX4_opens_251 : decode cX4_opens 251 = .ok (.getfield 41, 3) := dk_180 0 41 (dk_at dksX4_opens_10 12 rfl rfl)
theorem dX4_opens_254 : decode cX4_opens 254 = .ok (.iload 6, 2) := dk_21 6 (dk_at dksX4_opens_10 15 rfl rfl)
theorem dX4_opens_256 : decode cX4_opens 256 = .ok (.iaload, 1) := dk_46 (dk_at dksX4_opens_10 17 rfl rfl)
theorem dX4_opens_257 : decode cX4_opens 257 = .ok (.iastore, 1) := dk_79 (dk_at dksX4_opens_10 18 rfl rfl)
theorem dX4_opens_258 : decode cX4_opens 258 = .ok (.aload_n 0, 1) := dk_42 (dk_at dksX4_opens_10 19 rfl rfl)
theorem dX4_opens_259 : decode cX4_opens 259 = .ok (.getfield 79, 3) := dk_180 0 79 (dk_at dksX4_opens_10 20 rfl rfl)
theorem dX4_opens_262 : decode cX4_opens 262 = .ok (.iload 4, 2) := dk_21 4 (dk_at dksX4_opens_11 0 rfl rfl)
theorem dX4_opens_264 : decode cX4_opens 264 = .ok (.iconst 1, 1) := dk_4 (dk_at dksX4_opens_11 2 rfl rfl)
theorem dX4_opens_265 : decode cX4_opens 265 = .ok (.iadd, 1) := dk_96 (dk_at dksX4_opens_11 3 rfl rfl)
theorem dX4_opens_266 : decode cX4_opens 266 = .ok (.lload_n 2, 1) := dk_32 (dk_at dksX4_opens_11 4 rfl rfl)
theorem dX4_opens_267 : decode cX4_opens 267 = .ok (.lload 8, 2) := dk_22 8 (dk_at dksX4_opens_11 5 rfl rfl)
theorem dX4_opens_269 : decode cX4_opens 269 = .ok (.lsub, 1) := dk_101 (dk_at dksX4_opens_11 7 rfl rfl)
theorem dX4_opens_270 : decode cX4_opens 270 = .ok (.lastore, 1) := dk_80 (dk_at dksX4_opens_11 8 rfl rfl)
theorem dX4_opens_271 : decode cX4_opens 271 = .ok (.iload 4, 2) := dk_21 4 (dk_at dksX4_opens_11 9 rfl rfl)
theorem dX4_opens_273 : decode cX4_opens 273 = .ok (.iconst 2, 1) := dk_5 (dk_at dksX4_opens_11 11 rfl rfl)
theorem dX4_opens_274 : decode cX4_opens 274 = .ok (.iadd, 1) := dk_96 (dk_at dksX4_opens_11 12 rfl rfl)
theorem dX4_opens_275 : decode cX4_opens 275 = .ok (.ireturn, 1) := dk_172 (dk_at dksX4_opens_11 13 rfl rfl)
abbrev cX4_addsEntry : ByteArray := prog_19_method_53_code
def yX4_addsEntry : MethodName := ⟨RX4, "addsEntry", "(IIJ)V"⟩
def dkwX4_addsEntry_8 : List UInt8 := [96, 181, 1, 9, 177]
abbrev dktX4_addsEntry_8 : List UInt8 := dkwX4_addsEntry_8 ++ []
def dkwX4_addsEntry_7 : List UInt8 := [27, 79, 42, 180, 0, 85, 21, 5, 28, 79, 42, 180, 0, 88, 21, 5, 33, 80, 42, 89, 180, 1, 9, 4]
abbrev dktX4_addsEntry_7 : List UInt8 := dkwX4_addsEntry_7 ++ dktX4_addsEntry_8
def dkwX4_addsEntry_6 : List UInt8 := [21, 6, 42, 180, 0, 88, 21, 6, 4, 100, 47, 80, 132, 6, 255, 167, 255, 198, 42, 180, 0, 82, 21, 5]
abbrev dktX4_addsEntry_6 : List UInt8 := dkwX4_addsEntry_6 ++ dktX4_addsEntry_7
def dkwX4_addsEntry_5 : List UInt8 := [4, 100, 46, 79, 42, 180, 0, 85, 21, 6, 42, 180, 0, 85, 21, 6, 4, 100, 46, 79, 42, 180, 0, 88]
abbrev dktX4_addsEntry_5 : List UInt8 := dkwX4_addsEntry_5 ++ dktX4_addsEntry_6
def dkwX4_addsEntry_4 : List UInt8 := [180, 1, 9, 54, 6, 21, 6, 21, 5, 164, 0, 57, 42, 180, 0, 82, 21, 6, 42, 180, 0, 82, 21, 6]
abbrev dktX4_addsEntry_4 : List UInt8 := dkwX4_addsEntry_4 ++ dktX4_addsEntry_5
def dkwX4_addsEntry_3 : List UInt8 := [180, 0, 85, 21, 5, 46, 28, 160, 0, 15, 42, 180, 0, 88, 21, 5, 92, 47, 33, 97, 80, 177, 42]
abbrev dktX4_addsEntry_3 : List UInt8 := dkwX4_addsEntry_3 ++ dktX4_addsEntry_4
def dkwX4_addsEntry_2 : List UInt8 := [167, 255, 211, 21, 5, 42, 180, 1, 9, 162, 0, 37, 42, 180, 0, 82, 21, 5, 46, 27, 160, 0, 26, 42]
abbrev dktX4_addsEntry_2 : List UInt8 := dkwX4_addsEntry_2 ++ dktX4_addsEntry_3
def dkwX4_addsEntry_1 : List UInt8 := [180, 0, 82, 21, 5, 46, 27, 160, 0, 20, 42, 180, 0, 85, 21, 5, 46, 28, 162, 0, 9, 132, 5, 1]
abbrev dktX4_addsEntry_1 : List UInt8 := dkwX4_addsEntry_1 ++ dktX4_addsEntry_2
def dkwX4_addsEntry_0 : List UInt8 := [3, 54, 5, 21, 5, 42, 180, 1, 9, 162, 0, 42, 42, 180, 0, 82, 21, 5, 46, 27, 161, 0, 25, 42]
abbrev dktX4_addsEntry_0 : List UInt8 := dkwX4_addsEntry_0 ++ dktX4_addsEntry_1
theorem dksX4_addsEntry_0 : cX4_addsEntry.data.toList.drop 0 = dktX4_addsEntry_0 := by decide +kernel
theorem dksX4_addsEntry_1 : cX4_addsEntry.data.toList.drop 24 = dktX4_addsEntry_1 := dk_seg dksX4_addsEntry_0 24 rfl rfl
theorem dksX4_addsEntry_2 : cX4_addsEntry.data.toList.drop 48 = dktX4_addsEntry_2 := dk_seg dksX4_addsEntry_1 24 rfl rfl
theorem dksX4_addsEntry_3 : cX4_addsEntry.data.toList.drop 72 = dktX4_addsEntry_3 := dk_seg dksX4_addsEntry_2 24 rfl rfl
theorem dksX4_addsEntry_4 : cX4_addsEntry.data.toList.drop 95 = dktX4_addsEntry_4 := dk_seg dksX4_addsEntry_3 23 rfl rfl
theorem dksX4_addsEntry_5 : cX4_addsEntry.data.toList.drop 119 = dktX4_addsEntry_5 := dk_seg dksX4_addsEntry_4 24 rfl rfl
theorem dksX4_addsEntry_6 : cX4_addsEntry.data.toList.drop 143 = dktX4_addsEntry_6 := dk_seg dksX4_addsEntry_5 24 rfl rfl
theorem dksX4_addsEntry_7 : cX4_addsEntry.data.toList.drop 167 = dktX4_addsEntry_7 := dk_seg dksX4_addsEntry_6 24 rfl rfl
theorem dksX4_addsEntry_8 : cX4_addsEntry.data.toList.drop 191 = dktX4_addsEntry_8 := dk_seg dksX4_addsEntry_7 24 rfl rfl
theorem dX4_addsEntry_0 : decode cX4_addsEntry 0 = .ok (.iconst 0, 1) := dk_3 (dk_at dksX4_addsEntry_0 0 rfl rfl)
theorem dX4_addsEntry_1 : decode cX4_addsEntry 1 = .ok (.istore 5, 2) := dk_54 5 (dk_at dksX4_addsEntry_0 1 rfl rfl)
theorem dX4_addsEntry_3 : decode cX4_addsEntry 3 = .ok (.iload 5, 2) := dk_21 5 (dk_at dksX4_addsEntry_0 3 rfl rfl)
theorem dX4_addsEntry_5 : decode cX4_addsEntry 5 = .ok (.aload_n 0, 1) := dk_42 (dk_at dksX4_addsEntry_0 5 rfl rfl)
theorem dX4_addsEntry_6 : decode cX4_addsEntry 6 = .ok (.getfield 265, 3) := dk_180 1 9 (dk_at dksX4_addsEntry_0 6 rfl rfl)
theorem dX4_addsEntry_9 : decode cX4_addsEntry 9 = .ok (.if_icmp .ge 42, 3) := dk_162 0 42 (dk_at dksX4_addsEntry_0 9 rfl rfl)
theorem dX4_addsEntry_12 : decode cX4_addsEntry 12 = .ok (.aload_n 0, 1) := dk_42 (dk_at dksX4_addsEntry_0 12 rfl rfl)
theorem dX4_addsEntry_13 : decode cX4_addsEntry 13 = .ok (.getfield 82, 3) := dk_180 0 82 (dk_at dksX4_addsEntry_0 13 rfl rfl)
theorem dX4_addsEntry_16 : decode cX4_addsEntry 16 = .ok (.iload 5, 2) := dk_21 5 (dk_at dksX4_addsEntry_0 16 rfl rfl)
theorem dX4_addsEntry_18 : decode cX4_addsEntry 18 = .ok (.iaload, 1) := dk_46 (dk_at dksX4_addsEntry_0 18 rfl rfl)
theorem dX4_addsEntry_19 : decode cX4_addsEntry 19 = .ok (.iload_n 1, 1) := dk_27 (dk_at dksX4_addsEntry_0 19 rfl rfl)
theorem dX4_addsEntry_20 : decode cX4_addsEntry 20 = .ok (.if_icmp .lt 25, 3) := dk_161 0 25 (dk_at dksX4_addsEntry_0 20 rfl rfl)
theorem dX4_addsEntry_23 : decode cX4_addsEntry 23 = .ok (.aload_n 0, 1) := dk_42 (dk_at dksX4_addsEntry_0 23 rfl rfl)
theorem dX4_addsEntry_24 : decode cX4_addsEntry 24 = .ok (.getfield 82, 3) := dk_180 0 82 (dk_at dksX4_addsEntry_1 0 rfl rfl)
theorem dX4_addsEntry_27 : decode cX4_addsEntry 27 = .ok (.iload 5, 2) := dk_21 5 (dk_at dksX4_addsEntry_1 3 rfl rfl)
theorem dX4_addsEntry_29 : decode cX4_addsEntry 29 = .ok (.iaload, 1) := dk_46 (dk_at dksX4_addsEntry_1 5 rfl rfl)
theorem dX4_addsEntry_30 : decode cX4_addsEntry 30 = .ok (.iload_n 1, 1) := dk_27 (dk_at dksX4_addsEntry_1 6 rfl rfl)
theorem dX4_addsEntry_31 : decode cX4_addsEntry 31 = .ok (.if_icmp .ne 20, 3) := dk_160 0 20 (dk_at dksX4_addsEntry_1 7 rfl rfl)
theorem dX4_addsEntry_34 : decode cX4_addsEntry 34 = .ok (.aload_n 0, 1) := dk_42 (dk_at dksX4_addsEntry_1 10 rfl rfl)
theorem dX4_addsEntry_35 : decode cX4_addsEntry 35 = .ok (.getfield 85, 3) := dk_180 0 85 (dk_at dksX4_addsEntry_1 11 rfl rfl)
theorem dX4_addsEntry_38 : decode cX4_addsEntry 38 = .ok (.iload 5, 2) := dk_21 5 (dk_at dksX4_addsEntry_1 14 rfl rfl)
theorem dX4_addsEntry_40 : decode cX4_addsEntry 40 = .ok (.iaload, 1) := dk_46 (dk_at dksX4_addsEntry_1 16 rfl rfl)
theorem dX4_addsEntry_41 : decode cX4_addsEntry 41 = .ok (.iload_n 2, 1) := dk_28 (dk_at dksX4_addsEntry_1 17 rfl rfl)
theorem dX4_addsEntry_42 : decode cX4_addsEntry 42 = .ok (.if_icmp .ge 9, 3) := dk_162 0 9 (dk_at dksX4_addsEntry_1 18 rfl rfl)
theorem dX4_addsEntry_45 : decode cX4_addsEntry 45 = .ok (.iinc 5 1, 3) := dk_132 5 1 (dk_at dksX4_addsEntry_1 21 rfl rfl)
theorem dX4_addsEntry_48 : decode cX4_addsEntry 48 = .ok (.goto (-45), 3) := dk_167 255 211 (dk_at dksX4_addsEntry_2 0 rfl rfl)
theorem dX4_addsEntry_51 : decode cX4_addsEntry 51 = .ok (.iload 5, 2) := dk_21 5 (dk_at dksX4_addsEntry_2 3 rfl rfl)
theorem dX4_addsEntry_53 : decode cX4_addsEntry 53 = .ok (.aload_n 0, 1) := dk_42 (dk_at dksX4_addsEntry_2 5 rfl rfl)
theorem dX4_addsEntry_54 : decode cX4_addsEntry 54 = .ok (.getfield 265, 3) := dk_180 1 9 (dk_at dksX4_addsEntry_2 6 rfl rfl)
theorem dX4_addsEntry_57 : decode cX4_addsEntry 57 = .ok (.if_icmp .ge 37, 3) := dk_162 0 37 (dk_at dksX4_addsEntry_2 9 rfl rfl)
theorem dX4_addsEntry_60 : decode cX4_addsEntry 60 = .ok (.aload_n 0, 1) := dk_42 (dk_at dksX4_addsEntry_2 12 rfl rfl)
theorem dX4_addsEntry_61 : decode cX4_addsEntry 61 = .ok (.getfield 82, 3) := dk_180 0 82 (dk_at dksX4_addsEntry_2 13 rfl rfl)
theorem dX4_addsEntry_64 : decode cX4_addsEntry 64 = .ok (.iload 5, 2) := dk_21 5 (dk_at dksX4_addsEntry_2 16 rfl rfl)
theorem dX4_addsEntry_66 : decode cX4_addsEntry 66 = .ok (.iaload, 1) := dk_46 (dk_at dksX4_addsEntry_2 18 rfl rfl)
theorem dX4_addsEntry_67 : decode cX4_addsEntry 67 = .ok (.iload_n 1, 1) := dk_27 (dk_at dksX4_addsEntry_2 19 rfl rfl)
theorem dX4_addsEntry_68 : decode cX4_addsEntry 68 = .ok (.if_icmp .ne 26, 3) := dk_160 0 26 (dk_at dksX4_addsEntry_2 20 rfl rfl)
theorem dX4_addsEntry_71 : decode cX4_addsEntry 71 = .ok (.aload_n 0, 1) := dk_42 (dk_at dksX4_addsEntry_2 23 rfl rfl)
theorem dX4_addsEntry_72 : decode cX4_addsEntry 72 = .ok (.getfield 85, 3) := dk_180 0 85 (dk_at dksX4_addsEntry_3 0 rfl rfl)
theorem dX4_addsEntry_75 : decode cX4_addsEntry 75 = .ok (.iload 5, 2) := dk_21 5 (dk_at dksX4_addsEntry_3 3 rfl rfl)
theorem dX4_addsEntry_77 : decode cX4_addsEntry 77 = .ok (.iaload, 1) := dk_46 (dk_at dksX4_addsEntry_3 5 rfl rfl)
theorem dX4_addsEntry_78 : decode cX4_addsEntry 78 = .ok (.iload_n 2, 1) := dk_28 (dk_at dksX4_addsEntry_3 6 rfl rfl)
theorem dX4_addsEntry_79 : decode cX4_addsEntry 79 = .ok (.if_icmp .ne 15, 3) := dk_160 0 15 (dk_at dksX4_addsEntry_3 7 rfl rfl)
theorem dX4_addsEntry_82 : decode cX4_addsEntry 82 = .ok (.aload_n 0, 1) := dk_42 (dk_at dksX4_addsEntry_3 10 rfl rfl)
theorem dX4_addsEntry_83 : decode cX4_addsEntry 83 = .ok (.getfield 88, 3) := dk_180 0 88 (dk_at dksX4_addsEntry_3 11 rfl rfl)
theorem dX4_addsEntry_86 : decode cX4_addsEntry 86 = .ok (.iload 5, 2) := dk_21 5 (dk_at dksX4_addsEntry_3 14 rfl rfl)
theorem dX4_addsEntry_88 : decode cX4_addsEntry 88 = .ok (.dup2, 1) := dk_92 (dk_at dksX4_addsEntry_3 16 rfl rfl)
theorem dX4_addsEntry_89 : decode cX4_addsEntry 89 = .ok (.laload, 1) := dk_47 (dk_at dksX4_addsEntry_3 17 rfl rfl)
theorem dX4_addsEntry_90 : decode cX4_addsEntry 90 = .ok (.lload_n 3, 1) := dk_33 (dk_at dksX4_addsEntry_3 18 rfl rfl)
theorem dX4_addsEntry_91 : decode cX4_addsEntry 91 = .ok (.ladd, 1) := dk_97 (dk_at dksX4_addsEntry_3 19 rfl rfl)
theorem dX4_addsEntry_92 : decode cX4_addsEntry 92 = .ok (.lastore, 1) := dk_80 (dk_at dksX4_addsEntry_3 20 rfl rfl)
theorem dX4_addsEntry_93 : decode cX4_addsEntry 93 = .ok (.return_, 1) := dk_177 (dk_at dksX4_addsEntry_3 21 rfl rfl)
theorem dX4_addsEntry_94 : decode cX4_addsEntry 94 = .ok (.aload_n 0, 1) := dk_42 (dk_at dksX4_addsEntry_3 22 rfl rfl)
theorem dX4_addsEntry_95 : decode cX4_addsEntry 95 = .ok (.getfield 265, 3) := dk_180 1 9 (dk_at dksX4_addsEntry_4 0 rfl rfl)
theorem dX4_addsEntry_98 : decode cX4_addsEntry 98 = .ok (.istore 6, 2) := dk_54 6 (dk_at dksX4_addsEntry_4 3 rfl rfl)
theorem dX4_addsEntry_100 : decode cX4_addsEntry 100 = .ok (.iload 6, 2) := dk_21 6 (dk_at dksX4_addsEntry_4 5 rfl rfl)
theorem dX4_addsEntry_102 : decode cX4_addsEntry 102 = .ok (.iload 5, 2) := dk_21 5 (dk_at dksX4_addsEntry_4 7 rfl rfl)
theorem dX4_addsEntry_104 : decode cX4_addsEntry 104 = .ok (.if_icmp .le 57, 3) := dk_164 0 57 (dk_at dksX4_addsEntry_4 9 rfl rfl)
theorem dX4_addsEntry_107 : decode cX4_addsEntry 107 = .ok (.aload_n 0, 1) := dk_42 (dk_at dksX4_addsEntry_4 12 rfl rfl)
theorem dX4_addsEntry_108 : decode cX4_addsEntry 108 = .ok (.getfield 82, 3) := dk_180 0 82 (dk_at dksX4_addsEntry_4 13 rfl rfl)
theorem dX4_addsEntry_111 : decode cX4_addsEntry 111 = .ok (.iload 6, 2) := dk_21 6 (dk_at dksX4_addsEntry_4 16 rfl rfl)
theorem dX4_addsEntry_113 : decode cX4_addsEntry 113 = .ok (.aload_n 0, 1) := dk_42 (dk_at dksX4_addsEntry_4 18 rfl rfl)
theorem dX4_addsEntry_114 : decode cX4_addsEntry 114 = .ok (.getfield 82, 3) := dk_180 0 82 (dk_at dksX4_addsEntry_4 19 rfl rfl)
theorem dX4_addsEntry_117 : decode cX4_addsEntry 117 = .ok (.iload 6, 2) := dk_21 6 (dk_at dksX4_addsEntry_4 22 rfl rfl)
theorem dX4_addsEntry_119 : decode cX4_addsEntry 119 = .ok (.iconst 1, 1) := dk_4 (dk_at dksX4_addsEntry_5 0 rfl rfl)
theorem dX4_addsEntry_120 : decode cX4_addsEntry 120 = .ok (.isub, 1) := dk_100 (dk_at dksX4_addsEntry_5 1 rfl rfl)
theorem dX4_addsEntry_121 : decode cX4_addsEntry 121 = .ok (.iaload, 1) := dk_46 (dk_at dksX4_addsEntry_5 2 rfl rfl)
theorem dX4_addsEntry_122 : decode cX4_addsEntry 122 = .ok (.iastore, 1) := dk_79 (dk_at dksX4_addsEntry_5 3 rfl rfl)
theorem dX4_addsEntry_123 : decode cX4_addsEntry 123 = .ok (.aload_n 0, 1) := dk_42 (dk_at dksX4_addsEntry_5 4 rfl rfl)
theorem dX4_addsEntry_124 : decode cX4_addsEntry 124 = .ok (.getfield 85, 3) := dk_180 0 85 (dk_at dksX4_addsEntry_5 5 rfl rfl)
theorem dX4_addsEntry_127 : decode cX4_addsEntry 127 = .ok (.iload 6, 2) := dk_21 6 (dk_at dksX4_addsEntry_5 8 rfl rfl)
theorem dX4_addsEntry_129 : decode cX4_addsEntry 129 = .ok (.aload_n 0, 1) := dk_42 (dk_at dksX4_addsEntry_5 10 rfl rfl)
theorem dX4_addsEntry_130 : decode cX4_addsEntry 130 = .ok (.getfield 85, 3) := dk_180 0 85 (dk_at dksX4_addsEntry_5 11 rfl rfl)
theorem dX4_addsEntry_133 : decode cX4_addsEntry 133 = .ok (.iload 6, 2) := dk_21 6 (dk_at dksX4_addsEntry_5 14 rfl rfl)
theorem dX4_addsEntry_135 : decode cX4_addsEntry 135 = .ok (.iconst 1, 1) := dk_4 (dk_at dksX4_addsEntry_5 16 rfl rfl)
theorem dX4_addsEntry_136 : decode cX4_addsEntry 136 = .ok (.isub, 1) := dk_100 (dk_at dksX4_addsEntry_5 17 rfl rfl)
theorem dX4_addsEntry_137 : decode cX4_addsEntry 137 = .ok (.iaload, 1) := dk_46 (dk_at dksX4_addsEntry_5 18 rfl rfl)
theorem dX4_addsEntry_138 : decode cX4_addsEntry 138 = .ok (.iastore, 1) := dk_79 (dk_at dksX4_addsEntry_5 19 rfl rfl)
theorem dX4_addsEntry_139 : decode cX4_addsEntry 139 = .ok (.aload_n 0, 1) := dk_42 (dk_at dksX4_addsEntry_5 20 rfl rfl)
theorem dX4_addsEntry_140 : decode cX4_addsEntry 140 = .ok (.getfield 88, 3) := dk_180 0 88 (dk_at dksX4_addsEntry_5 21 rfl rfl)
theorem dX4_addsEntry_143 : decode cX4_addsEntry 143 = .ok (.iload 6, 2) := dk_21 6 (dk_at dksX4_addsEntry_6 0 rfl rfl)
theorem dX4_addsEntry_145 : decode cX4_addsEntry 145 = .ok (.aload_n 0, 1) := dk_42 (dk_at dksX4_addsEntry_6 2 rfl rfl)
theorem dX4_addsEntry_146 : decode cX4_addsEntry 146 = .ok (.getfield 88, 3) := dk_180 0 88 (dk_at dksX4_addsEntry_6 3 rfl rfl)
theorem dX4_addsEntry_149 : decode cX4_addsEntry 149 = .ok (.iload 6, 2) := dk_21 6 (dk_at dksX4_addsEntry_6 6 rfl rfl)
theorem dX4_addsEntry_151 : decode cX4_addsEntry 151 = .ok (.iconst 1, 1) := dk_4 (dk_at dksX4_addsEntry_6 8 rfl rfl)
theorem dX4_addsEntry_152 : decode cX4_addsEntry 152 = .ok (.isub, 1) := dk_100 (dk_at dksX4_addsEntry_6 9 rfl rfl)
theorem dX4_addsEntry_153 : decode cX4_addsEntry 153 = .ok (.laload, 1) := dk_47 (dk_at dksX4_addsEntry_6 10 rfl rfl)
theorem dX4_addsEntry_154 : decode cX4_addsEntry 154 = .ok (.lastore, 1) := dk_80 (dk_at dksX4_addsEntry_6 11 rfl rfl)
theorem dX4_addsEntry_155 : decode cX4_addsEntry 155 = .ok (.iinc 6 (-1), 3) := dk_132 6 255 (dk_at dksX4_addsEntry_6 12 rfl rfl)
theorem dX4_addsEntry_158 : decode cX4_addsEntry 158 = .ok (.goto (-58), 3) := dk_167 255 198 (dk_at dksX4_addsEntry_6 15 rfl rfl)
theorem dX4_addsEntry_161 : decode cX4_addsEntry 161 = .ok (.aload_n 0, 1) := dk_42 (dk_at dksX4_addsEntry_6 18 rfl rfl)
theorem dX4_addsEntry_162 : decode cX4_addsEntry 162 = .ok (.getfield 82, 3) := dk_180 0 82 (dk_at dksX4_addsEntry_6 19 rfl rfl)
theorem dX4_addsEntry_165 : decode cX4_addsEntry 165 = .ok (.iload 5, 2) := dk_21 5 (dk_at dksX4_addsEntry_6 22 rfl rfl)
theorem dX4_addsEntry_167 : decode cX4_addsEntry 167 = .ok (.iload_n 1, 1) := dk_27 (dk_at dksX4_addsEntry_7 0 rfl rfl)
theorem dX4_addsEntry_168 : decode cX4_addsEntry 168 = .ok (.iastore, 1) := dk_79 (dk_at dksX4_addsEntry_7 1 rfl rfl)
theorem dX4_addsEntry_169 : decode cX4_addsEntry 169 = .ok (.aload_n 0, 1) := dk_42 (dk_at dksX4_addsEntry_7 2 rfl rfl)
theorem dX4_addsEntry_170 : decode cX4_addsEntry 170 = .ok (.getfield 85, 3) := dk_180 0 85 (dk_at dksX4_addsEntry_7 3 rfl rfl)
theorem dX4_addsEntry_173 : decode cX4_addsEntry 173 = .ok (.iload 5, 2) := dk_21 5 (dk_at dksX4_addsEntry_7 6 rfl rfl)
theorem dX4_addsEntry_175 : decode cX4_addsEntry 175 = .ok (.iload_n 2, 1) := dk_28 (dk_at dksX4_addsEntry_7 8 rfl rfl)
theorem dX4_addsEntry_176 : decode cX4_addsEntry 176 = .ok (.iastore, 1) := dk_79 (dk_at dksX4_addsEntry_7 9 rfl rfl)
theorem dX4_addsEntry_177 : decode cX4_addsEntry 177 = .ok (.aload_n 0, 1) := dk_42 (dk_at dksX4_addsEntry_7 10 rfl rfl)
theorem dX4_addsEntry_178 : decode cX4_addsEntry 178 = .ok (.getfield 88, 3) := dk_180 0 88 (dk_at dksX4_addsEntry_7 11 rfl rfl)
theorem dX4_addsEntry_181 : decode cX4_addsEntry 181 = .ok (.iload 5, 2) := dk_21 5 (dk_at dksX4_addsEntry_7 14 rfl rfl)
theorem dX4_addsEntry_183 : decode cX4_addsEntry 183 = .ok (.lload_n 3, 1) := dk_33 (dk_at dksX4_addsEntry_7 16 rfl rfl)
theorem dX4_addsEntry_184 : decode cX4_addsEntry 184 = .ok (.lastore, 1) := dk_80 (dk_at dksX4_addsEntry_7 17 rfl rfl)
theorem dX4_addsEntry_185 : decode cX4_addsEntry 185 = .ok (.aload_n 0, 1) := dk_42 (dk_at dksX4_addsEntry_7 18 rfl rfl)
theorem dX4_addsEntry_186 : decode cX4_addsEntry 186 = .ok (.dup, 1) := dk_89 (dk_at dksX4_addsEntry_7 19 rfl rfl)
theorem dX4_addsEntry_187 : decode cX4_addsEntry 187 = .ok (.getfield 265, 3) := dk_180 1 9 (dk_at dksX4_addsEntry_7 20 rfl rfl)
theorem dX4_addsEntry_190 : decode cX4_addsEntry 190 = .ok (.iconst 1, 1) := dk_4 (dk_at dksX4_addsEntry_7 23 rfl rfl)
theorem dX4_addsEntry_191 : decode cX4_addsEntry 191 = .ok (.iadd, 1) := dk_96 (dk_at dksX4_addsEntry_8 0 rfl rfl)
theorem dX4_addsEntry_192 : decode cX4_addsEntry 192 = .ok (.putfield 265, 3) := dk_181 1 9 (dk_at dksX4_addsEntry_8 1 rfl rfl)
theorem dX4_addsEntry_195 : decode cX4_addsEntry 195 = .ok (.return_, 1) := dk_177 (dk_at dksX4_addsEntry_8 4 rfl rfl)
abbrev cX4_shareOfTarget : ByteArray := prog_19_method_51_code
def yX4_shareOfTarget : MethodName := ⟨RX4, "shareOfTarget", "()J"⟩
def dkwX4_shareOfTarget_1 : List UInt8 := [133, 109, 173]
abbrev dktX4_shareOfTarget_1 : List UInt8 := dkwX4_shareOfTarget_1 ++ []
def dkwX4_shareOfTarget_0 : List UInt8 := [20, 0, 251, 42, 180, 0, 7, 16, 10, 46, 133, 105, 42, 42, 180, 0, 7, 16, 9, 46, 5, 182, 0, 177]
abbrev dktX4_shareOfTarget_0 : List UInt8 := dkwX4_shareOfTarget_0 ++ dktX4_shareOfTarget_1
theorem dksX4_shareOfTarget_0 : cX4_shareOfTarget.data.toList.drop 0 = dktX4_shareOfTarget_0 := by decide +kernel
theorem dksX4_shareOfTarget_1 : cX4_shareOfTarget.data.toList.drop 24 = dktX4_shareOfTarget_1 := dk_seg dksX4_shareOfTarget_0 24 rfl rfl
theorem dX4_shareOfTarget_0 : decode cX4_shareOfTarget 0 = .ok (.ldc2_w 251, 3) := dk_20 0 251 (dk_at dksX4_shareOfTarget_0 0 rfl rfl)
theorem dX4_shareOfTarget_3 : decode cX4_shareOfTarget 3 = .ok (.aload_n 0, 1) := dk_42 (dk_at dksX4_shareOfTarget_0 3 rfl rfl)
theorem dX4_shareOfTarget_4 : decode cX4_shareOfTarget 4 = .ok (.getfield 7, 3) := dk_180 0 7 (dk_at dksX4_shareOfTarget_0 4 rfl rfl)
theorem dX4_shareOfTarget_7 : decode cX4_shareOfTarget 7 = .ok (.bipush 10, 2) := dk_16 10 (dk_at dksX4_shareOfTarget_0 7 rfl rfl)
theorem dX4_shareOfTarget_9 : decode cX4_shareOfTarget 9 = .ok (.iaload, 1) := dk_46 (dk_at dksX4_shareOfTarget_0 9 rfl rfl)
theorem dX4_shareOfTarget_10 : decode cX4_shareOfTarget 10 = .ok (.i2l, 1) := dk_133 (dk_at dksX4_shareOfTarget_0 10 rfl rfl)
theorem dX4_shareOfTarget_11 : decode cX4_shareOfTarget 11 = .ok (.lmul, 1) := dk_105 (dk_at dksX4_shareOfTarget_0 11 rfl rfl)
theorem dX4_shareOfTarget_12 : decode cX4_shareOfTarget 12 = .ok (.aload_n 0, 1) := dk_42 (dk_at dksX4_shareOfTarget_0 12 rfl rfl)
theorem dX4_shareOfTarget_13 : decode cX4_shareOfTarget 13 = .ok (.aload_n 0, 1) := dk_42 (dk_at dksX4_shareOfTarget_0 13 rfl rfl)
theorem dX4_shareOfTarget_14 : decode cX4_shareOfTarget 14 = .ok (.getfield 7, 3) := dk_180 0 7 (dk_at dksX4_shareOfTarget_0 14 rfl rfl)
theorem dX4_shareOfTarget_17 : decode cX4_shareOfTarget 17 = .ok (.bipush 9, 2) := dk_16 9 (dk_at dksX4_shareOfTarget_0 17 rfl rfl)
theorem dX4_shareOfTarget_19 : decode cX4_shareOfTarget 19 = .ok (.iaload, 1) := dk_46 (dk_at dksX4_shareOfTarget_0 19 rfl rfl)
theorem dX4_shareOfTarget_20 : decode cX4_shareOfTarget 20 = .ok (.iconst 2, 1) := dk_5 (dk_at dksX4_shareOfTarget_0 20 rfl rfl)
theorem dX4_shareOfTarget_21 : decode cX4_shareOfTarget 21 = .ok (.invokevirtual 177, 3) := dk_182 0 177 (dk_at dksX4_shareOfTarget_0 21 rfl rfl)
theorem dX4_shareOfTarget_24 : decode cX4_shareOfTarget 24 = .ok (.i2l, 1) := dk_133 (dk_at dksX4_shareOfTarget_1 0 rfl rfl)
theorem dX4_shareOfTarget_25 : decode cX4_shareOfTarget 25 = .ok (.ldiv, 1) := dk_109 (dk_at dksX4_shareOfTarget_1 1 rfl rfl)
theorem dX4_shareOfTarget_26 : decode cX4_shareOfTarget 26 = .ok (.lreturn, 1) := dk_173 (dk_at dksX4_shareOfTarget_1 2 rfl rfl)
abbrev cX4_addsFrozen : ByteArray := prog_19_method_55_code
def yX4_addsFrozen : MethodName := ⟨RX4, "addsFrozen", "(J)V"⟩
def dkwX4_addsFrozen_5 : List UInt8 := [16, 22, 6, 21, 5, 104, 96, 4, 96, 46, 22, 6, 182, 1, 12, 132, 5, 1, 167, 255, 168, 177]
abbrev dktX4_addsFrozen_5 : List UInt8 := dkwX4_addsFrozen_5 ++ []
def dkwX4_addsFrozen_4 : List UInt8 := [22, 6, 9, 148, 158, 0, 35, 42, 42, 180, 0, 7, 16, 22, 6, 21, 5, 104, 96, 46, 42, 180, 0, 7]
abbrev dktX4_addsFrozen_4 : List UInt8 := dkwX4_addsFrozen_4 ++ dktX4_addsFrozen_5
def dkwX4_addsFrozen_3 : List UInt8 := [96, 5, 96, 46, 133, 31, 105, 20, 0, 251, 109, 21, 5, 154, 0, 7, 33, 167, 0, 4, 9, 97, 55, 6]
abbrev dktX4_addsFrozen_3 : List UInt8 := dkwX4_addsFrozen_3 ++ dktX4_addsFrozen_4
def dkwX4_addsFrozen_2 : List UInt8 := [54, 5, 21, 5, 42, 180, 0, 7, 16, 21, 46, 162, 0, 82, 42, 180, 0, 7, 16, 22, 6, 21, 5, 104]
abbrev dktX4_addsFrozen_2 : List UInt8 := dkwX4_addsFrozen_2 ++ dktX4_addsFrozen_3
def dkwX4_addsFrozen_1 : List UInt8 := [6, 21, 5, 104, 96, 5, 96, 46, 133, 31, 105, 20, 0, 251, 109, 101, 66, 132, 5, 1, 167, 255, 217, 3]
abbrev dktX4_addsFrozen_1 : List UInt8 := dkwX4_addsFrozen_1 ++ dktX4_addsFrozen_2
def dkwX4_addsFrozen_0 : List UInt8 := [31, 66, 3, 54, 5, 21, 5, 42, 180, 0, 7, 16, 21, 46, 162, 0, 33, 33, 42, 180, 0, 7, 16, 22]
abbrev dktX4_addsFrozen_0 : List UInt8 := dkwX4_addsFrozen_0 ++ dktX4_addsFrozen_1
theorem dksX4_addsFrozen_0 : cX4_addsFrozen.data.toList.drop 0 = dktX4_addsFrozen_0 := by decide +kernel
theorem dksX4_addsFrozen_1 : cX4_addsFrozen.data.toList.drop 24 = dktX4_addsFrozen_1 := dk_seg dksX4_addsFrozen_0 24 rfl rfl
theorem dksX4_addsFrozen_2 : cX4_addsFrozen.data.toList.drop 48 = dktX4_addsFrozen_2 := dk_seg dksX4_addsFrozen_1 24 rfl rfl
theorem dksX4_addsFrozen_3 : cX4_addsFrozen.data.toList.drop 72 = dktX4_addsFrozen_3 := dk_seg dksX4_addsFrozen_2 24 rfl rfl
theorem dksX4_addsFrozen_4 : cX4_addsFrozen.data.toList.drop 96 = dktX4_addsFrozen_4 := dk_seg dksX4_addsFrozen_3 24 rfl rfl
theorem dksX4_addsFrozen_5 : cX4_addsFrozen.data.toList.drop 120 = dktX4_addsFrozen_5 := dk_seg dksX4_addsFrozen_4 24 rfl rfl
theorem dX4_addsFrozen_0 : decode cX4_addsFrozen 0 = .ok (.lload_n 1, 1) := dk_31 (dk_at dksX4_addsFrozen_0 0 rfl rfl)
theorem dX4_addsFrozen_1 : decode cX4_addsFrozen 1 = .ok (.lstore_n 3, 1) := dk_66 (dk_at dksX4_addsFrozen_0 1 rfl rfl)
theorem dX4_addsFrozen_2 : decode cX4_addsFrozen 2 = .ok (.iconst 0, 1) := dk_3 (dk_at dksX4_addsFrozen_0 2 rfl rfl)
theorem dX4_addsFrozen_3 : decode cX4_addsFrozen 3 = .ok (.istore 5, 2) := dk_54 5 (dk_at dksX4_addsFrozen_0 3 rfl rfl)
theorem dX4_addsFrozen_5 : decode cX4_addsFrozen 5 = .ok (.iload 5, 2) := dk_21 5 (dk_at dksX4_addsFrozen_0 5 rfl rfl)
theorem dX4_addsFrozen_7 : decode cX4_addsFrozen 7 = .ok (.aload_n 0, 1) := dk_42 (dk_at dksX4_addsFrozen_0 7 rfl rfl)
theorem dX4_addsFrozen_8 : decode cX4_addsFrozen 8 = .ok (.getfield 7, 3) := dk_180 0 7 (dk_at dksX4_addsFrozen_0 8 rfl rfl)
theorem dX4_addsFrozen_11 : decode cX4_addsFrozen 11 = .ok (.bipush 21, 2) := dk_16 21 (dk_at dksX4_addsFrozen_0 11 rfl rfl)
theorem dX4_addsFrozen_13 : decode cX4_addsFrozen 13 = .ok (.iaload, 1) := dk_46 (dk_at dksX4_addsFrozen_0 13 rfl rfl)
theorem dX4_addsFrozen_14 : decode cX4_addsFrozen 14 = .ok (.if_icmp .ge 33, 3) := dk_162 0 33 (dk_at dksX4_addsFrozen_0 14 rfl rfl)
theorem dX4_addsFrozen_17 : decode cX4_addsFrozen 17 = .ok (.lload_n 3, 1) := dk_33 (dk_at dksX4_addsFrozen_0 17 rfl rfl)
theorem dX4_addsFrozen_18 : decode cX4_addsFrozen 18 = .ok (.aload_n 0, 1) := dk_42 (dk_at dksX4_addsFrozen_0 18 rfl rfl)
theorem dX4_addsFrozen_19 : decode cX4_addsFrozen 19 = .ok (.getfield 7, 3) := dk_180 0 7 (dk_at dksX4_addsFrozen_0 19 rfl rfl)
theorem dX4_addsFrozen_22 : decode cX4_addsFrozen 22 = .ok (.bipush 22, 2) := dk_16 22 (dk_at dksX4_addsFrozen_0 22 rfl rfl)
theorem dX4_addsFrozen_24 : decode cX4_addsFrozen 24 = .ok (.iconst 3, 1) := dk_6 (dk_at dksX4_addsFrozen_1 0 rfl rfl)
theorem dX4_addsFrozen_25 : decode cX4_addsFrozen 25 = .ok (.iload 5, 2) := dk_21 5 (dk_at dksX4_addsFrozen_1 1 rfl rfl)
theorem dX4_addsFrozen_27 : decode cX4_addsFrozen 27 = .ok (.imul, 1) := dk_104 (dk_at dksX4_addsFrozen_1 3 rfl rfl)
theorem dX4_addsFrozen_28 : decode cX4_addsFrozen 28 = .ok (.iadd, 1) := dk_96 (dk_at dksX4_addsFrozen_1 4 rfl rfl)
theorem dX4_addsFrozen_29 : decode cX4_addsFrozen 29 = .ok (.iconst 2, 1) := dk_5 (dk_at dksX4_addsFrozen_1 5 rfl rfl)
theorem dX4_addsFrozen_30 : decode cX4_addsFrozen 30 = .ok (.iadd, 1) := dk_96 (dk_at dksX4_addsFrozen_1 6 rfl rfl)
theorem dX4_addsFrozen_31 : decode cX4_addsFrozen 31 = .ok (.iaload, 1) := dk_46 (dk_at dksX4_addsFrozen_1 7 rfl rfl)
theorem dX4_addsFrozen_32 : decode cX4_addsFrozen 32 = .ok (.i2l, 1) := dk_133 (dk_at dksX4_addsFrozen_1 8 rfl rfl)
theorem dX4_addsFrozen_33 : decode cX4_addsFrozen 33 = .ok (.lload_n 1, 1) := dk_31 (dk_at dksX4_addsFrozen_1 9 rfl rfl)
theorem dX4_addsFrozen_34 : decode cX4_addsFrozen 34 = .ok (.lmul, 1) := dk_105 (dk_at dksX4_addsFrozen_1 10 rfl rfl)
theorem dX4_addsFrozen_35 : decode cX4_addsFrozen 35 = .ok (.ldc2_w 251, 3) := dk_20 0 251 (dk_at dksX4_addsFrozen_1 11 rfl rfl)
theorem dX4_addsFrozen_38 : decode cX4_addsFrozen 38 = .ok (.ldiv, 1) := dk_109 (dk_at dksX4_addsFrozen_1 14 rfl rfl)
theorem dX4_addsFrozen_39 : decode cX4_addsFrozen 39 = .ok (.lsub, 1) := dk_101 (dk_at dksX4_addsFrozen_1 15 rfl rfl)
theorem dX4_addsFrozen_40 : decode cX4_addsFrozen 40 = .ok (.lstore_n 3, 1) := dk_66 (dk_at dksX4_addsFrozen_1 16 rfl rfl)
theorem dX4_addsFrozen_41 : decode cX4_addsFrozen 41 = .ok (.iinc 5 1, 3) := dk_132 5 1 (dk_at dksX4_addsFrozen_1 17 rfl rfl)
theorem dX4_addsFrozen_44 : decode cX4_addsFrozen 44 = .ok (.goto (-39), 3) := dk_167 255 217 (dk_at dksX4_addsFrozen_1 20 rfl rfl)
theorem dX4_addsFrozen_47 : decode cX4_addsFrozen 47 = .ok (.iconst 0, 1) := dk_3 (dk_at dksX4_addsFrozen_1 23 rfl rfl)
theorem dX4_addsFrozen_48 : decode cX4_addsFrozen 48 = .ok (.istore 5, 2) := dk_54 5 (dk_at dksX4_addsFrozen_2 0 rfl rfl)
theorem dX4_addsFrozen_50 : decode cX4_addsFrozen 50 = .ok (.iload 5, 2) := dk_21 5 (dk_at dksX4_addsFrozen_2 2 rfl rfl)
theorem dX4_addsFrozen_52 : decode cX4_addsFrozen 52 = .ok (.aload_n 0, 1) := dk_42 (dk_at dksX4_addsFrozen_2 4 rfl rfl)
theorem dX4_addsFrozen_53 : decode cX4_addsFrozen 53 = .ok (.getfield 7, 3) := dk_180 0 7 (dk_at dksX4_addsFrozen_2 5 rfl rfl)
theorem dX4_addsFrozen_56 : decode cX4_addsFrozen 56 = .ok (.bipush 21, 2) := dk_16 21 (dk_at dksX4_addsFrozen_2 8 rfl rfl)
theorem dX4_addsFrozen_58 : decode cX4_addsFrozen 58 = .ok (.iaload, 1) := dk_46 (dk_at dksX4_addsFrozen_2 10 rfl rfl)
theorem dX4_addsFrozen_59 : decode cX4_addsFrozen 59 = .ok (.if_icmp .ge 82, 3) := dk_162 0 82 (dk_at dksX4_addsFrozen_2 11 rfl rfl)
theorem dX4_addsFrozen_62 : decode cX4_addsFrozen 62 = .ok (.aload_n 0, 1) := dk_42 (dk_at dksX4_addsFrozen_2 14 rfl rfl)
theorem dX4_addsFrozen_63 : decode cX4_addsFrozen 63 = .ok (.getfield 7, 3) := dk_180 0 7 (dk_at dksX4_addsFrozen_2 15 rfl rfl)
theorem dX4_addsFrozen_66 : decode cX4_addsFrozen 66 = .ok (.bipush 22, 2) := dk_16 22 (dk_at dksX4_addsFrozen_2 18 rfl rfl)
theorem dX4_addsFrozen_68 : decode cX4_addsFrozen 68 = .ok (.iconst 3, 1) := dk_6 (dk_at dksX4_addsFrozen_2 20 rfl rfl)
theorem dX4_addsFrozen_69 : decode cX4_addsFrozen 69 = .ok (.iload 5, 2) := dk_21 5 (dk_at dksX4_addsFrozen_2 21 rfl rfl)
theorem dX4_addsFrozen_71 : decode cX4_addsFrozen 71 = .ok (.imul, 1) := dk_104 (dk_at dksX4_addsFrozen_2 23 rfl rfl)
theorem dX4_addsFrozen_72 : decode cX4_addsFrozen 72 = .ok (.iadd, 1) := dk_96 (dk_at dksX4_addsFrozen_3 0 rfl rfl)
theorem dX4_addsFrozen_73 : decode cX4_addsFrozen 73 = .ok (.iconst 2, 1) := dk_5 (dk_at dksX4_addsFrozen_3 1 rfl rfl)
theorem dX4_addsFrozen_74 : decode cX4_addsFrozen 74 = .ok (.iadd, 1) := dk_96 (dk_at dksX4_addsFrozen_3 2 rfl rfl)
theorem dX4_addsFrozen_75 : decode cX4_addsFrozen 75 = .ok (.iaload, 1) := dk_46 (dk_at dksX4_addsFrozen_3 3 rfl rfl)
theorem dX4_addsFrozen_76 : decode cX4_addsFrozen 76 = .ok (.i2l, 1) := dk_133 (dk_at dksX4_addsFrozen_3 4 rfl rfl)
theorem dX4_addsFrozen_77 : decode cX4_addsFrozen 77 = .ok (.lload_n 1, 1) := dk_31 (dk_at dksX4_addsFrozen_3 5 rfl rfl)
theorem dX4_addsFrozen_78 : decode cX4_addsFrozen 78 = .ok (.lmul, 1) := dk_105 (dk_at dksX4_addsFrozen_3 6 rfl rfl)
theorem dX4_addsFrozen_79 : decode cX4_addsFrozen 79 = .ok (.ldc2_w 251, 3) := dk_20 0 251 (dk_at dksX4_addsFrozen_3 7 rfl rfl)
theorem dX4_addsFrozen_82 : decode cX4_addsFrozen 82 = .ok (.ldiv, 1) := dk_109 (dk_at dksX4_addsFrozen_3 10 rfl rfl)
theorem dX4_addsFrozen_83 : decode cX4_addsFrozen 83 = .ok (.iload 5, 2) := dk_21 5 (dk_at dksX4_addsFrozen_3 11 rfl rfl)
theorem dX4_addsFrozen_85 : decode cX4_addsFrozen 85 = .ok (.ifCond .ne 7, 3) := dk_154 0 7 (dk_at dksX4_addsFrozen_3 13 rfl rfl)
theorem dX4_addsFrozen_88 : decode cX4_addsFrozen 88 = .ok (.lload_n 3, 1) := dk_33 (dk_at dksX4_addsFrozen_3 16 rfl rfl)
theorem dX4_addsFrozen_89 : decode cX4_addsFrozen 89 = .ok (.goto 4, 3) := dk_167 0 4 (dk_at dksX4_addsFrozen_3 17 rfl rfl)
theorem dX4_addsFrozen_92 : decode cX4_addsFrozen 92 = .ok (.lconst 0, 1) := dk_9 (dk_at dksX4_addsFrozen_3 20 rfl rfl)
theorem dX4_addsFrozen_93 : decode cX4_addsFrozen 93 = .ok (.ladd, 1) := dk_97 (dk_at dksX4_addsFrozen_3 21 rfl rfl)
theorem dX4_addsFrozen_94 : decode cX4_addsFrozen 94 = .ok (.lstore 6, 2) := dk_55 6 (dk_at dksX4_addsFrozen_3 22 rfl rfl)
theorem dX4_addsFrozen_96 : decode cX4_addsFrozen 96 = .ok (.lload 6, 2) := dk_22 6 (dk_at dksX4_addsFrozen_4 0 rfl rfl)
theorem dX4_addsFrozen_98 : decode cX4_addsFrozen 98 = .ok (.lconst 0, 1) := dk_9 (dk_at dksX4_addsFrozen_4 2 rfl rfl)
theorem dX4_addsFrozen_99 : decode cX4_addsFrozen 99 = .ok (.lcmp, 1) := dk_148 (dk_at dksX4_addsFrozen_4 3 rfl rfl)
theorem dX4_addsFrozen_100 : decode cX4_addsFrozen 100 = .ok (.ifCond .le 35, 3) := dk_158 0 35 (dk_at dksX4_addsFrozen_4 4 rfl rfl)
theorem dX4_addsFrozen_103 : decode cX4_addsFrozen 103 = .ok (.aload_n 0, 1) := dk_42 (dk_at dksX4_addsFrozen_4 7 rfl rfl)
theorem dX4_addsFrozen_104 : decode cX4_addsFrozen 104 = .ok (.aload_n 0, 1) := dk_42 (dk_at dksX4_addsFrozen_4 8 rfl rfl)
theorem dX4_addsFrozen_105 : decode cX4_addsFrozen 105 = .ok (.getfield 7, 3) := dk_180 0 7 (dk_at dksX4_addsFrozen_4 9 rfl rfl)
theorem dX4_addsFrozen_108 : decode cX4_addsFrozen 108 = .ok (.bipush 22, 2) := dk_16 22 (dk_at dksX4_addsFrozen_4 12 rfl rfl)
theorem dX4_addsFrozen_110 : decode cX4_addsFrozen 110 = .ok (.iconst 3, 1) := dk_6 (dk_at dksX4_addsFrozen_4 14 rfl rfl)
theorem dX4_addsFrozen_111 : decode cX4_addsFrozen 111 = .ok (.iload 5, 2) := dk_21 5 (dk_at dksX4_addsFrozen_4 15 rfl rfl)
theorem dX4_addsFrozen_113 : decode cX4_addsFrozen 113 = .ok (.imul, 1) := dk_104 (dk_at dksX4_addsFrozen_4 17 rfl rfl)
theorem dX4_addsFrozen_114 : decode cX4_addsFrozen 114 = .ok (.iadd, 1) := dk_96 (dk_at dksX4_addsFrozen_4 18 rfl rfl)
theorem dX4_addsFrozen_115 : decode cX4_addsFrozen 115 = .ok (.iaload, 1) := dk_46 (dk_at dksX4_addsFrozen_4 19 rfl rfl)
theorem dX4_addsFrozen_116 : decode cX4_addsFrozen 116 = .ok (.aload_n 0, 1) := dk_42 (dk_at dksX4_addsFrozen_4 20 rfl rfl)
theorem dX4_addsFrozen_117 : decode cX4_addsFrozen 117 = .ok (.getfield 7, 3) := dk_180 0 7 (dk_at dksX4_addsFrozen_4 21 rfl rfl)
theorem dX4_addsFrozen_120 : decode cX4_addsFrozen 120 = .ok (.bipush 22, 2) := dk_16 22 (dk_at dksX4_addsFrozen_5 0 rfl rfl)
theorem dX4_addsFrozen_122 : decode cX4_addsFrozen 122 = .ok (.iconst 3, 1) := dk_6 (dk_at dksX4_addsFrozen_5 2 rfl rfl)
theorem dX4_addsFrozen_123 : decode cX4_addsFrozen 123 = .ok (.iload 5, 2) := dk_21 5 (dk_at dksX4_addsFrozen_5 3 rfl rfl)
theorem dX4_addsFrozen_125 : decode cX4_addsFrozen 125 = .ok (.imul, 1) := dk_104 (dk_at dksX4_addsFrozen_5 5 rfl rfl)
theorem dX4_addsFrozen_126 : decode cX4_addsFrozen 126 = .ok (.iadd, 1) := dk_96 (dk_at dksX4_addsFrozen_5 6 rfl rfl)
theorem dX4_addsFrozen_127 : decode cX4_addsFrozen 127 = .ok (.iconst 1, 1) := dk_4 (dk_at dksX4_addsFrozen_5 7 rfl rfl)
theorem dX4_addsFrozen_128 : decode cX4_addsFrozen 128 = .ok (.iadd, 1) := dk_96 (dk_at dksX4_addsFrozen_5 8 rfl rfl)
theorem dX4_addsFrozen_129 : decode cX4_addsFrozen 129 = .ok (.iaload, 1) := dk_46 (dk_at dksX4_addsFrozen_5 9 rfl rfl)
theorem dX4_addsFrozen_130 : decode cX4_addsFrozen 130 = .ok (.lload 6, 2) := dk_22 6 (dk_at dksX4_addsFrozen_5 10 rfl rfl)
theorem dX4_addsFrozen_132 : decode cX4_addsFrozen 132 = .ok (.invokevirtual 268, 3) := dk_182 1 12 (dk_at dksX4_addsFrozen_5 12 rfl rfl)
theorem dX4_addsFrozen_135 : decode cX4_addsFrozen 135 = .ok (.iinc 5 1, 3) := dk_132 5 1 (dk_at dksX4_addsFrozen_5 15 rfl rfl)
theorem dX4_addsFrozen_138 : decode cX4_addsFrozen 138 = .ok (.goto (-88), 3) := dk_167 255 168 (dk_at dksX4_addsFrozen_5 18 rfl rfl)
theorem dX4_addsFrozen_141 : decode cX4_addsFrozen 141 = .ok (.return_, 1) := dk_177 (dk_at dksX4_addsFrozen_5 21 rfl rfl)
abbrev cX4_poseClip : ByteArray := prog_19_method_59_code
def yX4_poseClip : MethodName := ⟨RX4, "poseClip", "(I)I"⟩
def dkwX4_poseClip_0 : List UInt8 := [42, 27, 182, 1, 30, 153, 0, 12, 42, 180, 0, 82, 27, 46, 167, 0, 8, 42, 4, 182, 0, 103, 172]
abbrev dktX4_poseClip_0 : List UInt8 := dkwX4_poseClip_0 ++ []
theorem dksX4_poseClip_0 : cX4_poseClip.data.toList.drop 0 = dktX4_poseClip_0 := by decide +kernel
theorem dX4_poseClip_0 : decode cX4_poseClip 0 = .ok (.aload_n 0, 1) := dk_42 (dk_at dksX4_poseClip_0 0 rfl rfl)
theorem dX4_poseClip_1 : decode cX4_poseClip 1 = .ok (.iload_n 1, 1) := dk_27 (dk_at dksX4_poseClip_0 1 rfl rfl)
theorem dX4_poseClip_2 : decode cX4_poseClip 2 = .ok (.invokevirtual 286, 3) := dk_182 1 30 (dk_at dksX4_poseClip_0 2 rfl rfl)
theorem dX4_poseClip_5 : decode cX4_poseClip 5 = .ok (.ifCond .eq 12, 3) := dk_153 0 12 (dk_at dksX4_poseClip_0 5 rfl rfl)
theorem dX4_poseClip_8 : decode cX4_poseClip 8 = .ok (.aload_n 0, 1) := dk_42 (dk_at dksX4_poseClip_0 8 rfl rfl)
theorem dX4_poseClip_9 : decode cX4_poseClip 9 = .ok (.getfield 82, 3) := dk_180 0 82 (dk_at dksX4_poseClip_0 9 rfl rfl)
theorem dX4_poseClip_12 : decode cX4_poseClip 12 = .ok (.iload_n 1, 1) := dk_27 (dk_at dksX4_poseClip_0 12 rfl rfl)
theorem dX4_poseClip_13 : decode cX4_poseClip 13 = .ok (.iaload, 1) := dk_46 (dk_at dksX4_poseClip_0 13 rfl rfl)
theorem dX4_poseClip_14 : decode cX4_poseClip 14 = .ok (.goto 8, 3) := dk_167 0 8 (dk_at dksX4_poseClip_0 14 rfl rfl)
theorem dX4_poseClip_17 : decode cX4_poseClip 17 = .ok (.aload_n 0, 1) := dk_42 (dk_at dksX4_poseClip_0 17 rfl rfl)
theorem dX4_poseClip_18 : decode cX4_poseClip 18 = .ok (.iconst 1, 1) := dk_4 (dk_at dksX4_poseClip_0 18 rfl rfl)
theorem dX4_poseClip_19 : decode cX4_poseClip 19 = .ok (.invokevirtual 103, 3) := dk_182 0 103 (dk_at dksX4_poseClip_0 19 rfl rfl)
theorem dX4_poseClip_22 : decode cX4_poseClip 22 = .ok (.ireturn, 1) := dk_172 (dk_at dksX4_poseClip_0 22 rfl rfl)
abbrev cX4_hasEntry : ByteArray := prog_19_method_58_code
def yX4_hasEntry : MethodName := ⟨RX4, "hasEntry", "(I)Z"⟩
def dkwX4_hasEntry_0 : List UInt8 := [42, 3, 181, 0, 94, 42, 182, 1, 27, 27, 133, 9, 42, 180, 1, 9, 4, 100, 133, 184, 0, 99, 172]
abbrev dktX4_hasEntry_0 : List UInt8 := dkwX4_hasEntry_0 ++ []
theorem dksX4_hasEntry_0 : cX4_hasEntry.data.toList.drop 0 = dktX4_hasEntry_0 := by decide +kernel
theorem dX4_hasEntry_0 : decode cX4_hasEntry 0 = .ok (.aload_n 0, 1) := dk_42 (dk_at dksX4_hasEntry_0 0 rfl rfl)
theorem dX4_hasEntry_1 : decode cX4_hasEntry 1 = .ok (.iconst 0, 1) := dk_3 (dk_at dksX4_hasEntry_0 1 rfl rfl)
theorem dX4_hasEntry_2 : decode cX4_hasEntry 2 = .ok (.putfield 94, 3) := dk_181 0 94 (dk_at dksX4_hasEntry_0 2 rfl rfl)
theorem dX4_hasEntry_5 : decode cX4_hasEntry 5 = .ok (.aload_n 0, 1) := dk_42 (dk_at dksX4_hasEntry_0 5 rfl rfl)
theorem dX4_hasEntry_6 : decode cX4_hasEntry 6 = .ok (.invokevirtual 283, 3) := dk_182 1 27 (dk_at dksX4_hasEntry_0 6 rfl rfl)
theorem dX4_hasEntry_9 : decode cX4_hasEntry 9 = .ok (.iload_n 1, 1) := dk_27 (dk_at dksX4_hasEntry_0 9 rfl rfl)
theorem dX4_hasEntry_10 : decode cX4_hasEntry 10 = .ok (.i2l, 1) := dk_133 (dk_at dksX4_hasEntry_0 10 rfl rfl)
theorem dX4_hasEntry_11 : decode cX4_hasEntry 11 = .ok (.lconst 0, 1) := dk_9 (dk_at dksX4_hasEntry_0 11 rfl rfl)
theorem dX4_hasEntry_12 : decode cX4_hasEntry 12 = .ok (.aload_n 0, 1) := dk_42 (dk_at dksX4_hasEntry_0 12 rfl rfl)
theorem dX4_hasEntry_13 : decode cX4_hasEntry 13 = .ok (.getfield 265, 3) := dk_180 1 9 (dk_at dksX4_hasEntry_0 13 rfl rfl)
theorem dX4_hasEntry_16 : decode cX4_hasEntry 16 = .ok (.iconst 1, 1) := dk_4 (dk_at dksX4_hasEntry_0 16 rfl rfl)
theorem dX4_hasEntry_17 : decode cX4_hasEntry 17 = .ok (.isub, 1) := dk_100 (dk_at dksX4_hasEntry_0 17 rfl rfl)
theorem dX4_hasEntry_18 : decode cX4_hasEntry 18 = .ok (.i2l, 1) := dk_133 (dk_at dksX4_hasEntry_0 18 rfl rfl)
theorem dX4_hasEntry_19 : decode cX4_hasEntry 19 = .ok (.invokestatic 99, 3) := dk_184 0 99 (dk_at dksX4_hasEntry_0 19 rfl rfl)
theorem dX4_hasEntry_22 : decode cX4_hasEntry 22 = .ok (.ireturn, 1) := dk_172 (dk_at dksX4_hasEntry_0 22 rfl rfl)
abbrev cX4_poseTime : ByteArray := prog_19_method_60_code
def yX4_poseTime : MethodName := ⟨RX4, "poseTime", "(I)I"⟩
def dkwX4_poseTime_0 : List UInt8 := [42, 27, 182, 1, 30, 153, 0, 12, 42, 180, 0, 85, 27, 46, 167, 0, 8, 42, 4, 182, 0, 103, 172]
abbrev dktX4_poseTime_0 : List UInt8 := dkwX4_poseTime_0 ++ []
theorem dksX4_poseTime_0 : cX4_poseTime.data.toList.drop 0 = dktX4_poseTime_0 := by decide +kernel
theorem dX4_poseTime_0 : decode cX4_poseTime 0 = .ok (.aload_n 0, 1) := dk_42 (dk_at dksX4_poseTime_0 0 rfl rfl)
theorem dX4_poseTime_1 : decode cX4_poseTime 1 = .ok (.iload_n 1, 1) := dk_27 (dk_at dksX4_poseTime_0 1 rfl rfl)
theorem dX4_poseTime_2 : decode cX4_poseTime 2 = .ok (.invokevirtual 286, 3) := dk_182 1 30 (dk_at dksX4_poseTime_0 2 rfl rfl)
theorem dX4_poseTime_5 : decode cX4_poseTime 5 = .ok (.ifCond .eq 12, 3) := dk_153 0 12 (dk_at dksX4_poseTime_0 5 rfl rfl)
theorem dX4_poseTime_8 : decode cX4_poseTime 8 = .ok (.aload_n 0, 1) := dk_42 (dk_at dksX4_poseTime_0 8 rfl rfl)
theorem dX4_poseTime_9 : decode cX4_poseTime 9 = .ok (.getfield 85, 3) := dk_180 0 85 (dk_at dksX4_poseTime_0 9 rfl rfl)
theorem dX4_poseTime_12 : decode cX4_poseTime 12 = .ok (.iload_n 1, 1) := dk_27 (dk_at dksX4_poseTime_0 12 rfl rfl)
theorem dX4_poseTime_13 : decode cX4_poseTime 13 = .ok (.iaload, 1) := dk_46 (dk_at dksX4_poseTime_0 13 rfl rfl)
theorem dX4_poseTime_14 : decode cX4_poseTime 14 = .ok (.goto 8, 3) := dk_167 0 8 (dk_at dksX4_poseTime_0 14 rfl rfl)
theorem dX4_poseTime_17 : decode cX4_poseTime 17 = .ok (.aload_n 0, 1) := dk_42 (dk_at dksX4_poseTime_0 17 rfl rfl)
theorem dX4_poseTime_18 : decode cX4_poseTime 18 = .ok (.iconst 1, 1) := dk_4 (dk_at dksX4_poseTime_0 18 rfl rfl)
theorem dX4_poseTime_19 : decode cX4_poseTime 19 = .ok (.invokevirtual 103, 3) := dk_182 0 103 (dk_at dksX4_poseTime_0 19 rfl rfl)
theorem dX4_poseTime_22 : decode cX4_poseTime 22 = .ok (.ireturn, 1) := dk_172 (dk_at dksX4_poseTime_0 22 rfl rfl)
abbrev cX4_poseWeight : ByteArray := prog_19_method_61_code
def yX4_poseWeight : MethodName := ⟨RX4, "poseWeight", "(I)I"⟩
def dkwX4_poseWeight_0 : List UInt8 := [42, 27, 182, 1, 30, 153, 0, 13, 42, 180, 0, 88, 27, 47, 136, 167, 0, 8, 42, 4, 182, 0, 103, 172]
abbrev dktX4_poseWeight_0 : List UInt8 := dkwX4_poseWeight_0 ++ []
theorem dksX4_poseWeight_0 : cX4_poseWeight.data.toList.drop 0 = dktX4_poseWeight_0 := by decide +kernel
theorem dX4_poseWeight_0 : decode cX4_poseWeight 0 = .ok (.aload_n 0, 1) := dk_42 (dk_at dksX4_poseWeight_0 0 rfl rfl)
theorem dX4_poseWeight_1 : decode cX4_poseWeight 1 = .ok (.iload_n 1, 1) := dk_27 (dk_at dksX4_poseWeight_0 1 rfl rfl)
theorem dX4_poseWeight_2 : decode cX4_poseWeight 2 = .ok (.invokevirtual 286, 3) := dk_182 1 30 (dk_at dksX4_poseWeight_0 2 rfl rfl)
theorem dX4_poseWeight_5 : decode cX4_poseWeight 5 = .ok (.ifCond .eq 13, 3) := dk_153 0 13 (dk_at dksX4_poseWeight_0 5 rfl rfl)
theorem dX4_poseWeight_8 : decode cX4_poseWeight 8 = .ok (.aload_n 0, 1) := dk_42 (dk_at dksX4_poseWeight_0 8 rfl rfl)
theorem dX4_poseWeight_9 : decode cX4_poseWeight 9 = .ok (.getfield 88, 3) := dk_180 0 88 (dk_at dksX4_poseWeight_0 9 rfl rfl)
theorem dX4_poseWeight_12 : decode cX4_poseWeight 12 = .ok (.iload_n 1, 1) := dk_27 (dk_at dksX4_poseWeight_0 12 rfl rfl)
theorem dX4_poseWeight_13 : decode cX4_poseWeight 13 = .ok (.laload, 1) := dk_47 (dk_at dksX4_poseWeight_0 13 rfl rfl)
theorem dX4_poseWeight_14 : decode cX4_poseWeight 14 = .ok (.l2i, 1) := dk_136 (dk_at dksX4_poseWeight_0 14 rfl rfl)
theorem dX4_poseWeight_15 : decode cX4_poseWeight 15 = .ok (.goto 8, 3) := dk_167 0 8 (dk_at dksX4_poseWeight_0 15 rfl rfl)
theorem dX4_poseWeight_18 : decode cX4_poseWeight 18 = .ok (.aload_n 0, 1) := dk_42 (dk_at dksX4_poseWeight_0 18 rfl rfl)
theorem dX4_poseWeight_19 : decode cX4_poseWeight 19 = .ok (.iconst 1, 1) := dk_4 (dk_at dksX4_poseWeight_0 19 rfl rfl)
theorem dX4_poseWeight_20 : decode cX4_poseWeight 20 = .ok (.invokevirtual 103, 3) := dk_182 0 103 (dk_at dksX4_poseWeight_0 20 rfl rfl)
theorem dX4_poseWeight_23 : decode cX4_poseWeight 23 = .ok (.ireturn, 1) := dk_172 (dk_at dksX4_poseWeight_0 23 rfl rfl)
abbrev cX4_blocked : ByteArray := prog_19_method_70_code
def yX4_blocked : MethodName := ⟨RX4, "blocked", "(I)I"⟩
def dkwX4_blocked_2 : List UInt8 := [182, 1, 54, 172]
abbrev dktX4_blocked_2 : List UInt8 := dkwX4_blocked_2 ++ []
def dkwX4_blocked_1 : List UInt8 := [154, 0, 7, 3, 167, 0, 8, 42, 27, 182, 1, 51, 61, 28, 154, 0, 7, 4, 167, 0, 9, 42, 27, 28]
abbrev dktX4_blocked_1 : List UInt8 := dkwX4_blocked_1 ++ dktX4_blocked_2
def dkwX4_blocked_0 : List UInt8 := [42, 3, 181, 0, 94, 42, 27, 182, 0, 170, 154, 0, 9, 42, 4, 182, 0, 103, 172, 42, 180, 0, 145]
abbrev dktX4_blocked_0 : List UInt8 := dkwX4_blocked_0 ++ dktX4_blocked_1
theorem dksX4_blocked_0 : cX4_blocked.data.toList.drop 0 = dktX4_blocked_0 := by decide +kernel
theorem dksX4_blocked_1 : cX4_blocked.data.toList.drop 23 = dktX4_blocked_1 := dk_seg dksX4_blocked_0 23 rfl rfl
theorem dksX4_blocked_2 : cX4_blocked.data.toList.drop 47 = dktX4_blocked_2 := dk_seg dksX4_blocked_1 24 rfl rfl
theorem dX4_blocked_0 : decode cX4_blocked 0 = .ok (.aload_n 0, 1) := dk_42 (dk_at dksX4_blocked_0 0 rfl rfl)
theorem dX4_blocked_1 : decode cX4_blocked 1 = .ok (.iconst 0, 1) := dk_3 (dk_at dksX4_blocked_0 1 rfl rfl)
theorem dX4_blocked_2 : decode cX4_blocked 2 = .ok (.putfield 94, 3) := dk_181 0 94 (dk_at dksX4_blocked_0 2 rfl rfl)
theorem dX4_blocked_5 : decode cX4_blocked 5 = .ok (.aload_n 0, 1) := dk_42 (dk_at dksX4_blocked_0 5 rfl rfl)
theorem dX4_blocked_6 : decode cX4_blocked 6 = .ok (.iload_n 1, 1) := dk_27 (dk_at dksX4_blocked_0 6 rfl rfl)
theorem dX4_blocked_7 : decode cX4_blocked 7 = .ok (.invokevirtual 170, 3) := dk_182 0 170 (dk_at dksX4_blocked_0 7 rfl rfl)
theorem dX4_blocked_10 : decode cX4_blocked 10 = .ok (.ifCond .ne 9, 3) := dk_154 0 9 (dk_at dksX4_blocked_0 10 rfl rfl)
theorem dX4_blocked_13 : decode cX4_blocked 13 = .ok (.aload_n 0, 1) := dk_42 (dk_at dksX4_blocked_0 13 rfl rfl)
theorem dX4_blocked_14 : decode cX4_blocked 14 = .ok (.iconst 1, 1) := dk_4 (dk_at dksX4_blocked_0 14 rfl rfl)
theorem dX4_blocked_15 : decode cX4_blocked 15 = .ok (.invokevirtual 103, 3) := dk_182 0 103 (dk_at dksX4_blocked_0 15 rfl rfl)
theorem dX4_blocked_18 : decode cX4_blocked 18 = .ok (.ireturn, 1) := dk_172 (dk_at dksX4_blocked_0 18 rfl rfl)
theorem dX4_blocked_19 : decode cX4_blocked 19 = .ok (.aload_n 0, 1) := dk_42 (dk_at dksX4_blocked_0 19 rfl rfl)
theorem dX4_blocked_20 : decode cX4_blocked 20 = .ok (.getfield 145, 3) := dk_180 0 145 (dk_at dksX4_blocked_0 20 rfl rfl)
theorem dX4_blocked_23 : decode cX4_blocked 23 = .ok (.ifCond .ne 7, 3) := dk_154 0 7 (dk_at dksX4_blocked_1 0 rfl rfl)
theorem dX4_blocked_26 : decode cX4_blocked 26 = .ok (.iconst 0, 1) := dk_3 (dk_at dksX4_blocked_1 3 rfl rfl)
theorem dX4_blocked_27 : decode cX4_blocked 27 = .ok (.goto 8, 3) := dk_167 0 8 (dk_at dksX4_blocked_1 4 rfl rfl)
theorem dX4_blocked_30 : decode cX4_blocked 30 = .ok (.aload_n 0, 1) := dk_42 (dk_at dksX4_blocked_1 7 rfl rfl)
theorem dX4_blocked_31 : decode cX4_blocked 31 = .ok (.iload_n 1, 1) := dk_27 (dk_at dksX4_blocked_1 8 rfl rfl)
theorem dX4_blocked_32 : decode cX4_blocked 32 = .ok (.invokevirtual 307, 3) := dk_182 1 51 (dk_at dksX4_blocked_1 9 rfl rfl)
theorem dX4_blocked_35 : decode cX4_blocked 35 = .ok (.istore_n 2, 1) := dk_61 (dk_at dksX4_blocked_1 12 rfl rfl)
theorem dX4_blocked_36 : decode cX4_blocked 36 = .ok (.iload_n 2, 1) := dk_28 (dk_at dksX4_blocked_1 13 rfl rfl)
theorem dX4_blocked_37 : decode cX4_blocked 37 = .ok (.ifCond .ne 7, 3) := dk_154 0 7 (dk_at dksX4_blocked_1 14 rfl rfl)
theorem dX4_blocked_40 : decode cX4_blocked 40 = .ok (.iconst 1, 1) := dk_4 (dk_at dksX4_blocked_1 17 rfl rfl)
theorem dX4_blocked_41 : decode cX4_blocked 41 = .ok (.goto 9, 3) := dk_167 0 9 (dk_at dksX4_blocked_1 18 rfl rfl)
theorem dX4_blocked_44 : decode cX4_blocked 44 = .ok (.aload_n 0, 1) := dk_42 (dk_at dksX4_blocked_1 21 rfl rfl)
theorem dX4_blocked_45 : decode cX4_blocked 45 = .ok (.iload_n 1, 1) := dk_27 (dk_at dksX4_blocked_1 22 rfl rfl)
theorem dX4_blocked_46 : decode cX4_blocked 46 = .ok (.iload_n 2, 1) := dk_28 (dk_at dksX4_blocked_1 23 rfl rfl)
theorem dX4_blocked_47 : decode cX4_blocked 47 = .ok (.invokevirtual 310, 3) := dk_182 1 54 (dk_at dksX4_blocked_2 0 rfl rfl)
theorem dX4_blocked_50 : decode cX4_blocked 50 = .ok (.ireturn, 1) := dk_172 (dk_at dksX4_blocked_2 3 rfl rfl)
abbrev cX4_listOf : ByteArray := prog_19_method_66_code
def yX4_listOf : MethodName := ⟨RX4, "listOf", "(I)I"⟩
def dkwX4_listOf_6 : List UInt8 := [3, 172, 29, 153, 0, 7, 4, 167, 0, 13, 21, 4, 153, 0, 7, 5, 167, 0, 4, 3, 172]
abbrev dktX4_listOf_6 : List UInt8 := dkwX4_listOf_6 ++ []
def dkwX4_listOf_5 : List UInt8 := [54, 4, 28, 7, 160, 0, 22, 21, 4, 153, 0, 7, 5, 167, 0, 12, 29, 153, 0, 7, 4, 167, 0, 4]
abbrev dktX4_listOf_5 : List UInt8 := dkwX4_listOf_5 ++ dktX4_listOf_6
def dkwX4_listOf_4 : List UInt8 := [167, 0, 4, 3, 62, 28, 4, 164, 0, 15, 42, 27, 182, 1, 43, 153, 0, 7, 4, 167, 0, 4, 3]
abbrev dktX4_listOf_4 : List UInt8 := dkwX4_listOf_4 ++ dktX4_listOf_5
def dkwX4_listOf_3 : List UInt8 := [182, 0, 177, 61, 28, 5, 159, 0, 19, 28, 158, 0, 15, 42, 27, 182, 1, 40, 153, 0, 7, 4]
abbrev dktX4_listOf_3 : List UInt8 := dkwX4_listOf_3 ++ dktX4_listOf_4
def dkwX4_listOf_2 : List UInt8 := [42, 180, 0, 7, 16, 11, 46, 5, 161, 0, 7, 3, 167, 0, 15, 42, 42, 180, 0, 7, 16, 9, 46, 8]
abbrev dktX4_listOf_2 : List UInt8 := dkwX4_listOf_2 ++ dktX4_listOf_3
def dkwX4_listOf_1 : List UInt8 := [153, 0, 22, 42, 27, 42, 180, 0, 7, 16, 12, 46, 182, 1, 37, 154, 0, 7, 4, 167, 0, 4, 3, 172]
abbrev dktX4_listOf_1 : List UInt8 := dkwX4_listOf_1 ++ dktX4_listOf_2
def dkwX4_listOf_0 : List UInt8 := [42, 180, 0, 7, 16, 8, 46, 154, 0, 39, 42, 27, 42, 180, 0, 7, 16, 12, 46, 182, 1, 33]
abbrev dktX4_listOf_0 : List UInt8 := dkwX4_listOf_0 ++ dktX4_listOf_1
theorem dksX4_listOf_0 : cX4_listOf.data.toList.drop 0 = dktX4_listOf_0 := by decide +kernel
theorem dksX4_listOf_1 : cX4_listOf.data.toList.drop 22 = dktX4_listOf_1 := dk_seg dksX4_listOf_0 22 rfl rfl
theorem dksX4_listOf_2 : cX4_listOf.data.toList.drop 46 = dktX4_listOf_2 := dk_seg dksX4_listOf_1 24 rfl rfl
theorem dksX4_listOf_3 : cX4_listOf.data.toList.drop 70 = dktX4_listOf_3 := dk_seg dksX4_listOf_2 24 rfl rfl
theorem dksX4_listOf_4 : cX4_listOf.data.toList.drop 92 = dktX4_listOf_4 := dk_seg dksX4_listOf_3 22 rfl rfl
theorem dksX4_listOf_5 : cX4_listOf.data.toList.drop 115 = dktX4_listOf_5 := dk_seg dksX4_listOf_4 23 rfl rfl
theorem dksX4_listOf_6 : cX4_listOf.data.toList.drop 139 = dktX4_listOf_6 := dk_seg dksX4_listOf_5 24 rfl rfl
theorem dX4_listOf_0 : decode cX4_listOf 0 = .ok (.aload_n 0, 1) := dk_42 (dk_at dksX4_listOf_0 0 rfl rfl)
theorem dX4_listOf_1 : decode cX4_listOf 1 = .ok (.getfield 7, 3) := dk_180 0 7 (dk_at dksX4_listOf_0 1 rfl rfl)
theorem dX4_listOf_4 : decode cX4_listOf 4 = .ok (.bipush 8, 2) := dk_16 8 (dk_at dksX4_listOf_0 4 rfl rfl)
theorem dX4_listOf_6 : decode cX4_listOf 6 = .ok (.iaload, 1) := dk_46 (dk_at dksX4_listOf_0 6 rfl rfl)
theorem dX4_listOf_7 : decode cX4_listOf 7 = .ok (.ifCond .ne 39, 3) := dk_154 0 39 (dk_at dksX4_listOf_0 7 rfl rfl)
theorem dX4_listOf_10 : decode cX4_listOf 10 = .ok (.aload_n 0, 1) := dk_42 (dk_at dksX4_listOf_0 10 rfl rfl)
theorem dX4_listOf_11 : decode cX4_listOf 11 = .ok (.iload_n 1, 1) := dk_27 (dk_at dksX4_listOf_0 11 rfl rfl)
theorem dX4_listOf_12 : decode cX4_listOf 12 = .ok (.aload_n 0, 1) := dk_42 (dk_at dksX4_listOf_0 12 rfl rfl)
theorem dX4_listOf_13 : decode cX4_listOf 13 = .ok (.getfield 7, 3) := dk_180 0 7 (dk_at dksX4_listOf_0 13 rfl rfl)
theorem dX4_listOf_16 : decode cX4_listOf 16 = .ok (.bipush 12, 2) := dk_16 12 (dk_at dksX4_listOf_0 16 rfl rfl)
theorem dX4_listOf_18 : decode cX4_listOf 18 = .ok (.iaload, 1) := dk_46 (dk_at dksX4_listOf_0 18 rfl rfl)
theorem dX4_listOf_19 : decode cX4_listOf 19 = .ok (.invokevirtual 289, 3) := dk_182 1 33 (dk_at dksX4_listOf_0 19 rfl rfl)
theorem dX4_listOf_22 : decode cX4_listOf 22 = .ok (.ifCond .eq 22, 3) := dk_153 0 22 (dk_at dksX4_listOf_1 0 rfl rfl)
theorem dX4_listOf_25 : decode cX4_listOf 25 = .ok (.aload_n 0, 1) := dk_42 (dk_at dksX4_listOf_1 3 rfl rfl)
theorem dX4_listOf_26 : decode cX4_listOf 26 = .ok (.iload_n 1, 1) := dk_27 (dk_at dksX4_listOf_1 4 rfl rfl)
theorem dX4_listOf_27 : decode cX4_listOf 27 = .ok (.aload_n 0, 1) := dk_42 (dk_at dksX4_listOf_1 5 rfl rfl)
theorem dX4_listOf_28 : decode cX4_listOf 28 = .ok (.getfield 7, 3) := dk_180 0 7 (dk_at dksX4_listOf_1 6 rfl rfl)
theorem dX4_listOf_31 : decode cX4_listOf 31 = .ok (.bipush 12, 2) := dk_16 12 (dk_at dksX4_listOf_1 9 rfl rfl)
theorem dX4_listOf_33 : decode cX4_listOf 33 = .ok (.iaload, 1) := dk_46 (dk_at dksX4_listOf_1 11 rfl rfl)
theorem dX4_listOf_34 : decode cX4_listOf 34 = .ok (.invokevirtual 293, 3) := dk_182 1 37 (dk_at dksX4_listOf_1 12 rfl rfl)
theorem dX4_listOf_37 : decode cX4_listOf 37 = .ok (.ifCond .ne 7, 3) := dk_154 0 7 (dk_at dksX4_listOf_1 15 rfl rfl)
theorem dX4_listOf_40 : decode cX4_listOf 40 = .ok (.iconst 1, 1) := dk_4 (dk_at dksX4_listOf_1 18 rfl rfl)
theorem dX4_listOf_41 : decode cX4_listOf 41 = .ok (.goto 4, 3) := dk_167 0 4 (dk_at dksX4_listOf_1 19 rfl rfl)
theorem dX4_listOf_44 : decode cX4_listOf 44 = .ok (.iconst 0, 1) := dk_3 (dk_at dksX4_listOf_1 22 rfl rfl)
theorem dX4_listOf_45 : decode cX4_listOf 45 = .ok (.ireturn, 1) := dk_172 (dk_at dksX4_listOf_1 23 rfl rfl)
theorem dX4_listOf_46 : decode cX4_listOf 46 = .ok (.aload_n 0, 1) := dk_42 (dk_at dksX4_listOf_2 0 rfl rfl)
theorem dX4_listOf_47 : decode cX4_listOf 47 = .ok (.getfield 7, 3) := dk_180 0 7 (dk_at dksX4_listOf_2 1 rfl rfl)
theorem dX4_listOf_50 : decode cX4_listOf 50 = .ok (.bipush 11, 2) := dk_16 11 (dk_at dksX4_listOf_2 4 rfl rfl)
theorem dX4_listOf_52 : decode cX4_listOf 52 = .ok (.iaload, 1) := dk_46 (dk_at dksX4_listOf_2 6 rfl rfl)
theorem dX4_listOf_53 : decode cX4_listOf 53 = .ok (.iconst 2, 1) := dk_5 (dk_at dksX4_listOf_2 7 rfl rfl)
theorem dX4_listOf_54 : decode cX4_listOf 54 = .ok (.if_icmp .lt 7, 3) := dk_161 0 7 (dk_at dksX4_listOf_2 8 rfl rfl)
theorem dX4_listOf_57 : decode cX4_listOf 57 = .ok (.iconst 0, 1) := dk_3 (dk_at dksX4_listOf_2 11 rfl rfl)
theorem dX4_listOf_58 : decode cX4_listOf 58 = .ok (.goto 15, 3) := dk_167 0 15 (dk_at dksX4_listOf_2 12 rfl rfl)
theorem dX4_listOf_61 : decode cX4_listOf 61 = .ok (.aload_n 0, 1) := dk_42 (dk_at dksX4_listOf_2 15 rfl rfl)
theorem dX4_listOf_62 : decode cX4_listOf 62 = .ok (.aload_n 0, 1) := dk_42 (dk_at dksX4_listOf_2 16 rfl rfl)
theorem dX4_listOf_63 : decode cX4_listOf 63 = .ok (.getfield 7, 3) := dk_180 0 7 (dk_at dksX4_listOf_2 17 rfl rfl)
theorem dX4_listOf_66 : decode cX4_listOf 66 = .ok (.bipush 9, 2) := dk_16 9 (dk_at dksX4_listOf_2 20 rfl rfl)
theorem dX4_listOf_68 : decode cX4_listOf 68 = .ok (.iaload, 1) := dk_46 (dk_at dksX4_listOf_2 22 rfl rfl)
theorem dX4_listOf_69 : decode cX4_listOf 69 = .ok (.iconst 5, 1) := dk_8 (dk_at dksX4_listOf_2 23 rfl rfl)
theorem dX4_listOf_70 : decode cX4_listOf 70 = .ok (.invokevirtual 177, 3) := dk_182 0 177 (dk_at dksX4_listOf_3 0 rfl rfl)
theorem dX4_listOf_73 : decode cX4_listOf 73 = .ok (.istore_n 2, 1) := dk_61 (dk_at dksX4_listOf_3 3 rfl rfl)
theorem dX4_listOf_74 : decode cX4_listOf 74 = .ok (.iload_n 2, 1) := dk_28 (dk_at dksX4_listOf_3 4 rfl rfl)
theorem dX4_listOf_75 : decode cX4_listOf 75 = .ok (.iconst 2, 1) := dk_5 (dk_at dksX4_listOf_3 5 rfl rfl)
theorem dX4_listOf_76 : decode cX4_listOf 76 = .ok (.if_icmp .eq 19, 3) := dk_159 0 19 (dk_at dksX4_listOf_3 6 rfl rfl)
theorem dX4_listOf_79 : decode cX4_listOf 79 = .ok (.iload_n 2, 1) := dk_28 (dk_at dksX4_listOf_3 9 rfl rfl)
theorem dX4_listOf_80 : decode cX4_listOf 80 = .ok (.ifCond .le 15, 3) := dk_158 0 15 (dk_at dksX4_listOf_3 10 rfl rfl)
theorem dX4_listOf_83 : decode cX4_listOf 83 = .ok (.aload_n 0, 1) := dk_42 (dk_at dksX4_listOf_3 13 rfl rfl)
theorem dX4_listOf_84 : decode cX4_listOf 84 = .ok (.iload_n 1, 1) := dk_27 (dk_at dksX4_listOf_3 14 rfl rfl)
theorem dX4_listOf_85 : decode cX4_listOf 85 = .ok (.invokevirtual 296, 3) := dk_182 1 40 (dk_at dksX4_listOf_3 15 rfl rfl)
theorem dX4_listOf_88 : decode cX4_listOf 88 = .ok (.ifCond .eq 7, 3) := dk_153 0 7 (dk_at dksX4_listOf_3 18 rfl rfl)
theorem dX4_listOf_91 : decode cX4_listOf 91 = .ok (.iconst 1, 1) := dk_4 (dk_at dksX4_listOf_3 21 rfl rfl)
theorem dX4_listOf_92 : decode cX4_listOf 92 = .ok (.goto 4, 3) := dk_167 0 4 (dk_at dksX4_listOf_4 0 rfl rfl)
theorem dX4_listOf_95 : decode cX4_listOf 95 = .ok (.iconst 0, 1) := dk_3 (dk_at dksX4_listOf_4 3 rfl rfl)
theorem dX4_listOf_96 : decode cX4_listOf 96 = .ok (.istore_n 3, 1) := dk_62 (dk_at dksX4_listOf_4 4 rfl rfl)
theorem dX4_listOf_97 : decode cX4_listOf 97 = .ok (.iload_n 2, 1) := dk_28 (dk_at dksX4_listOf_4 5 rfl rfl)
theorem dX4_listOf_98 : decode cX4_listOf 98 = .ok (.iconst 1, 1) := dk_4 (dk_at dksX4_listOf_4 6 rfl rfl)
theorem dX4_listOf_99 : decode cX4_listOf 99 = .ok (.if_icmp .le 15, 3) := dk_164 0 15 (dk_at dksX4_listOf_4 7 rfl rfl)
theorem dX4_listOf_102 : decode cX4_listOf 102 = .ok (.aload_n 0, 1) := dk_42 (dk_at dksX4_listOf_4 10 rfl rfl)
theorem dX4_listOf_103 : decode cX4_listOf 103 = .ok (.iload_n 1, 1) := dk_27 (dk_at dksX4_listOf_4 11 rfl rfl)
theorem dX4_listOf_104 : decode cX4_listOf 104 = .ok (.invokevirtual 299, 3) := dk_182 1 43 (dk_at dksX4_listOf_4 12 rfl rfl)
theorem dX4_listOf_107 : decode cX4_listOf 107 = .ok (.ifCond .eq 7, 3) := dk_153 0 7 (dk_at dksX4_listOf_4 15 rfl rfl)
theorem dX4_listOf_110 : decode cX4_listOf 110 = .ok (.iconst 1, 1) := dk_4 (dk_at dksX4_listOf_4 18 rfl rfl)
theorem dX4_listOf_111 : decode cX4_listOf 111 = .ok (.goto 4, 3) := dk_167 0 4 (dk_at dksX4_listOf_4 19 rfl rfl)
theorem dX4_listOf_114 : decode cX4_listOf 114 = .ok (.iconst 0, 1) := dk_3 (dk_at dksX4_listOf_4 22 rfl rfl)
theorem dX4_listOf_115 : decode cX4_listOf 115 = .ok (.istore 4, 2) := dk_54 4 (dk_at dksX4_listOf_5 0 rfl rfl)
theorem dX4_listOf_117 : decode cX4_listOf 117 = .ok (.iload_n 2, 1) := dk_28 (dk_at dksX4_listOf_5 2 rfl rfl)
theorem dX4_listOf_118 : decode cX4_listOf 118 = .ok (.iconst 4, 1) := dk_7 (dk_at dksX4_listOf_5 3 rfl rfl)
theorem dX4_listOf_119 : decode cX4_listOf 119 = .ok (.if_icmp .ne 22, 3) := dk_160 0 22 (dk_at dksX4_listOf_5 4 rfl rfl)
theorem dX4_listOf_122 : decode cX4_listOf 122 = .ok (.iload 4, 2) := dk_21 4 (dk_at dksX4_listOf_5 7 rfl rfl)
theorem dX4_listOf_124 : decode cX4_listOf 124 = .ok (.ifCond .eq 7, 3) := dk_153 0 7 (dk_at dksX4_listOf_5 9 rfl rfl)
theorem dX4_listOf_127 : decode cX4_listOf 127 = .ok (.iconst 2, 1) := dk_5 (dk_at dksX4_listOf_5 12 rfl rfl)
theorem dX4_listOf_128 : decode cX4_listOf 128 = .ok (.goto 12, 3) := dk_167 0 12 (dk_at dksX4_listOf_5 13 rfl rfl)
theorem dX4_listOf_131 : decode cX4_listOf 131 = .ok (.iload_n 3, 1) := dk_29 (dk_at dksX4_listOf_5 16 rfl rfl)
theorem dX4_listOf_132 : decode cX4_listOf 132 = .ok (.ifCond .eq 7, 3) := dk_153 0 7 (dk_at dksX4_listOf_5 17 rfl rfl)
theorem dX4_listOf_135 : decode cX4_listOf 135 = .ok (.iconst 1, 1) := dk_4 (dk_at dksX4_listOf_5 20 rfl rfl)
theorem dX4_listOf_136 : decode cX4_listOf 136 = .ok (.goto 4, 3) := dk_167 0 4 (dk_at dksX4_listOf_5 21 rfl rfl)
theorem dX4_listOf_139 : decode cX4_listOf 139 = .ok (.iconst 0, 1) := dk_3 (dk_at dksX4_listOf_6 0 rfl rfl)
theorem dX4_listOf_140 : decode cX4_listOf 140 = .ok (.ireturn, 1) := dk_172 (dk_at dksX4_listOf_6 1 rfl rfl)
theorem dX4_listOf_141 : decode cX4_listOf 141 = .ok (.iload_n 3, 1) := dk_29 (dk_at dksX4_listOf_6 2 rfl rfl)
theorem dX4_listOf_142 : decode cX4_listOf 142 = .ok (.ifCond .eq 7, 3) := dk_153 0 7 (dk_at dksX4_listOf_6 3 rfl rfl)
theorem dX4_listOf_145 : decode cX4_listOf 145 = .ok (.iconst 1, 1) := dk_4 (dk_at dksX4_listOf_6 6 rfl rfl)
theorem dX4_listOf_146 : decode cX4_listOf 146 = .ok (.goto 13, 3) := dk_167 0 13 (dk_at dksX4_listOf_6 7 rfl rfl)
theorem dX4_listOf_149 : decode cX4_listOf 149 = .ok (.iload 4, 2) := dk_21 4 (dk_at dksX4_listOf_6 10 rfl rfl)
theorem dX4_listOf_151 : decode cX4_listOf 151 = .ok (.ifCond .eq 7, 3) := dk_153 0 7 (dk_at dksX4_listOf_6 12 rfl rfl)
theorem dX4_listOf_154 : decode cX4_listOf 154 = .ok (.iconst 2, 1) := dk_5 (dk_at dksX4_listOf_6 15 rfl rfl)
theorem dX4_listOf_155 : decode cX4_listOf 155 = .ok (.goto 4, 3) := dk_167 0 4 (dk_at dksX4_listOf_6 16 rfl rfl)
theorem dX4_listOf_158 : decode cX4_listOf 158 = .ok (.iconst 0, 1) := dk_3 (dk_at dksX4_listOf_6 19 rfl rfl)
theorem dX4_listOf_159 : decode cX4_listOf 159 = .ok (.ireturn, 1) := dk_172 (dk_at dksX4_listOf_6 20 rfl rfl)
abbrev cX4_inList : ByteArray := prog_19_method_62_code
def yX4_inList : MethodName := ⟨RX4, "inList", "(II)Z"⟩
def dkwX4_inList_1 : List UInt8 := [3, 172]
abbrev dktX4_inList_1 : List UInt8 := dkwX4_inList_1 ++ []
def dkwX4_inList_0 : List UInt8 := [42, 27, 3, 182, 0, 177, 2, 159, 0, 13, 42, 27, 3, 182, 0, 177, 28, 160, 0, 7, 4, 167, 0, 4]
abbrev dktX4_inList_0 : List UInt8 := dkwX4_inList_0 ++ dktX4_inList_1
theorem dksX4_inList_0 : cX4_inList.data.toList.drop 0 = dktX4_inList_0 := by decide +kernel
theorem dksX4_inList_1 : cX4_inList.data.toList.drop 24 = dktX4_inList_1 := dk_seg dksX4_inList_0 24 rfl rfl
theorem dX4_inList_0 : decode cX4_inList 0 = .ok (.aload_n 0, 1) := dk_42 (dk_at dksX4_inList_0 0 rfl rfl)
theorem dX4_inList_1 : decode cX4_inList 1 = .ok (.iload_n 1, 1) := dk_27 (dk_at dksX4_inList_0 1 rfl rfl)
theorem dX4_inList_2 : decode cX4_inList 2 = .ok (.iconst 0, 1) := dk_3 (dk_at dksX4_inList_0 2 rfl rfl)
theorem dX4_inList_3 : decode cX4_inList 3 = .ok (.invokevirtual 177, 3) := dk_182 0 177 (dk_at dksX4_inList_0 3 rfl rfl)
theorem dX4_inList_6 : decode cX4_inList 6 = .ok (.iconst (-1), 1) := dk_2 (dk_at dksX4_inList_0 6 rfl rfl)
theorem dX4_inList_7 : decode cX4_inList 7 = .ok (.if_icmp .eq 13, 3) := dk_159 0 13 (dk_at dksX4_inList_0 7 rfl rfl)
theorem dX4_inList_10 : decode cX4_inList 10 = .ok (.aload_n 0, 1) := dk_42 (dk_at dksX4_inList_0 10 rfl rfl)
theorem dX4_inList_11 : decode cX4_inList 11 = .ok (.iload_n 1, 1) := dk_27 (dk_at dksX4_inList_0 11 rfl rfl)
theorem dX4_inList_12 : decode cX4_inList 12 = .ok (.iconst 0, 1) := dk_3 (dk_at dksX4_inList_0 12 rfl rfl)
theorem dX4_inList_13 : decode cX4_inList 13 = .ok (.invokevirtual 177, 3) := dk_182 0 177 (dk_at dksX4_inList_0 13 rfl rfl)
theorem dX4_inList_16 : decode cX4_inList 16 = .ok (.iload_n 2, 1) := dk_28 (dk_at dksX4_inList_0 16 rfl rfl)
theorem dX4_inList_17 : decode cX4_inList 17 = .ok (.if_icmp .ne 7, 3) := dk_160 0 7 (dk_at dksX4_inList_0 17 rfl rfl)
theorem dX4_inList_20 : decode cX4_inList 20 = .ok (.iconst 1, 1) := dk_4 (dk_at dksX4_inList_0 20 rfl rfl)
theorem dX4_inList_21 : decode cX4_inList 21 = .ok (.goto 4, 3) := dk_167 0 4 (dk_at dksX4_inList_0 21 rfl rfl)
theorem dX4_inList_24 : decode cX4_inList 24 = .ok (.iconst 0, 1) := dk_3 (dk_at dksX4_inList_1 0 rfl rfl)
theorem dX4_inList_25 : decode cX4_inList 25 = .ok (.ireturn, 1) := dk_172 (dk_at dksX4_inList_1 1 rfl rfl)
abbrev cX4_isBack : ByteArray := prog_19_method_63_code
def yX4_isBack : MethodName := ⟨RX4, "isBack", "(II)Z"⟩
def dkwX4_isBack_1 : List UInt8 := [3, 172]
abbrev dktX4_isBack_1 : List UInt8 := dkwX4_isBack_1 ++ []
def dkwX4_isBack_0 : List UInt8 := [42, 27, 3, 182, 0, 177, 2, 160, 0, 17, 42, 27, 4, 182, 0, 177, 28, 160, 0, 7, 4, 167, 0, 4]
abbrev dktX4_isBack_0 : List UInt8 := dkwX4_isBack_0 ++ dktX4_isBack_1
theorem dksX4_isBack_0 : cX4_isBack.data.toList.drop 0 = dktX4_isBack_0 := by decide +kernel
theorem dksX4_isBack_1 : cX4_isBack.data.toList.drop 24 = dktX4_isBack_1 := dk_seg dksX4_isBack_0 24 rfl rfl
theorem dX4_isBack_0 : decode cX4_isBack 0 = .ok (.aload_n 0, 1) := dk_42 (dk_at dksX4_isBack_0 0 rfl rfl)
theorem dX4_isBack_1 : decode cX4_isBack 1 = .ok (.iload_n 1, 1) := dk_27 (dk_at dksX4_isBack_0 1 rfl rfl)
theorem dX4_isBack_2 : decode cX4_isBack 2 = .ok (.iconst 0, 1) := dk_3 (dk_at dksX4_isBack_0 2 rfl rfl)
theorem dX4_isBack_3 : decode cX4_isBack 3 = .ok (.invokevirtual 177, 3) := dk_182 0 177 (dk_at dksX4_isBack_0 3 rfl rfl)
theorem dX4_isBack_6 : decode cX4_isBack 6 = .ok (.iconst (-1), 1) := dk_2 (dk_at dksX4_isBack_0 6 rfl rfl)
theorem dX4_isBack_7 : decode cX4_isBack 7 = .ok (.if_icmp .ne 17, 3) := dk_160 0 17 (dk_at dksX4_isBack_0 7 rfl rfl)
theorem dX4_isBack_10 : decode cX4_isBack 10 = .ok (.aload_n 0, 1) := dk_42 (dk_at dksX4_isBack_0 10 rfl rfl)
theorem dX4_isBack_11 : decode cX4_isBack 11 = .ok (.iload_n 1, 1) := dk_27 (dk_at dksX4_isBack_0 11 rfl rfl)
theorem dX4_isBack_12 : decode cX4_isBack 12 = .ok (.iconst 1, 1) := dk_4 (dk_at dksX4_isBack_0 12 rfl rfl)
theorem dX4_isBack_13 : decode cX4_isBack 13 = .ok (.invokevirtual 177, 3) := dk_182 0 177 (dk_at dksX4_isBack_0 13 rfl rfl)
theorem dX4_isBack_16 : decode cX4_isBack 16 = .ok (.iload_n 2, 1) := dk_28 (dk_at dksX4_isBack_0 16 rfl rfl)
theorem dX4_isBack_17 : decode cX4_isBack 17 = .ok (.if_icmp .ne 7, 3) := dk_160 0 7 (dk_at dksX4_isBack_0 17 rfl rfl)
theorem dX4_isBack_20 : decode cX4_isBack 20 = .ok (.iconst 1, 1) := dk_4 (dk_at dksX4_isBack_0 20 rfl rfl)
theorem dX4_isBack_21 : decode cX4_isBack 21 = .ok (.goto 4, 3) := dk_167 0 4 (dk_at dksX4_isBack_0 21 rfl rfl)
theorem dX4_isBack_24 : decode cX4_isBack 24 = .ok (.iconst 0, 1) := dk_3 (dk_at dksX4_isBack_1 0 rfl rfl)
theorem dX4_isBack_25 : decode cX4_isBack 25 = .ok (.ireturn, 1) := dk_172 (dk_at dksX4_isBack_1 1 rfl rfl)
abbrev cX4_inSource : ByteArray := prog_19_method_64_code
def yX4_inSource : MethodName := ⟨RX4, "inSource", "(I)Z"⟩
def dkwX4_inSource_2 : List UInt8 := [182, 0, 177, 153, 0, 8, 27, 28, 162, 0, 7, 4, 167, 0, 4, 3, 172]
abbrev dktX4_inSource_2 : List UInt8 := dkwX4_inSource_2 ++ []
def dkwX4_inSource_1 : List UInt8 := [28, 159, 0, 37, 42, 27, 42, 180, 0, 7, 16, 16, 46, 182, 1, 37, 154, 0, 22, 42, 28, 16, 6]
abbrev dktX4_inSource_1 : List UInt8 := dkwX4_inSource_1 ++ dktX4_inSource_2
def dkwX4_inSource_0 : List UInt8 := [42, 180, 0, 7, 16, 9, 46, 61, 42, 27, 42, 180, 0, 7, 16, 12, 46, 182, 1, 33, 153, 0, 42, 27]
abbrev dktX4_inSource_0 : List UInt8 := dkwX4_inSource_0 ++ dktX4_inSource_1
theorem dksX4_inSource_0 : cX4_inSource.data.toList.drop 0 = dktX4_inSource_0 := by decide +kernel
theorem dksX4_inSource_1 : cX4_inSource.data.toList.drop 24 = dktX4_inSource_1 := dk_seg dksX4_inSource_0 24 rfl rfl
theorem dksX4_inSource_2 : cX4_inSource.data.toList.drop 47 = dktX4_inSource_2 := dk_seg dksX4_inSource_1 23 rfl rfl
theorem dX4_inSource_0 : decode cX4_inSource 0 = .ok (.aload_n 0, 1) := dk_42 (dk_at dksX4_inSource_0 0 rfl rfl)
theorem dX4_inSource_1 : decode cX4_inSource 1 = .ok (.getfield 7, 3) := dk_180 0 7 (dk_at dksX4_inSource_0 1 rfl rfl)
theorem dX4_inSource_4 : decode cX4_inSource 4 = .ok (.bipush 9, 2) := dk_16 9 (dk_at dksX4_inSource_0 4 rfl rfl)
theorem dX4_inSource_6 : decode cX4_inSource 6 = .ok (.iaload, 1) := dk_46 (dk_at dksX4_inSource_0 6 rfl rfl)
theorem dX4_inSource_7 : decode cX4_inSource 7 = .ok (.istore_n 2, 1) := dk_61 (dk_at dksX4_inSource_0 7 rfl rfl)
theorem dX4_inSource_8 : decode cX4_inSource 8 = .ok (.aload_n 0, 1) := dk_42 (dk_at dksX4_inSource_0 8 rfl rfl)
theorem dX4_inSource_9 : decode cX4_inSource 9 = .ok (.iload_n 1, 1) := dk_27 (dk_at dksX4_inSource_0 9 rfl rfl)
theorem dX4_inSource_10 : decode cX4_inSource 10 = .ok (.aload_n 0, 1) := dk_42 (dk_at dksX4_inSource_0 10 rfl rfl)
theorem dX4_inSource_11 : decode cX4_inSource 11 = .ok (.getfield 7, 3) := dk_180 0 7 (dk_at dksX4_inSource_0 11 rfl rfl)
theorem dX4_inSource_14 : decode cX4_inSource 14 = .ok (.bipush 12, 2) := dk_16 12 (dk_at dksX4_inSource_0 14 rfl rfl)
theorem dX4_inSource_16 : decode cX4_inSource 16 = .ok (.iaload, 1) := dk_46 (dk_at dksX4_inSource_0 16 rfl rfl)
theorem dX4_inSource_17 : decode cX4_inSource 17 = .ok (.invokevirtual 289, 3) := dk_182 1 33 (dk_at dksX4_inSource_0 17 rfl rfl)
theorem dX4_inSource_20 : decode cX4_inSource 20 = .ok (.ifCond .eq 42, 3) := dk_153 0 42 (dk_at dksX4_inSource_0 20 rfl rfl)
theorem dX4_inSource_23 : decode cX4_inSource 23 = .ok (.iload_n 1, 1) := dk_27 (dk_at dksX4_inSource_0 23 rfl rfl)
theorem dX4_inSource_24 : decode cX4_inSource 24 = .ok (.iload_n 2, 1) := dk_28 (dk_at dksX4_inSource_1 0 rfl rfl)
theorem dX4_inSource_25 : decode cX4_inSource 25 = .ok (.if_icmp .eq 37, 3) := dk_159 0 37 (dk_at dksX4_inSource_1 1 rfl rfl)
theorem dX4_inSource_28 : decode cX4_inSource 28 = .ok (.aload_n 0, 1) := dk_42 (dk_at dksX4_inSource_1 4 rfl rfl)
theorem dX4_inSource_29 : decode cX4_inSource 29 = .ok (.iload_n 1, 1) := dk_27 (dk_at dksX4_inSource_1 5 rfl rfl)
theorem dX4_inSource_30 : decode cX4_inSource 30 = .ok (.aload_n 0, 1) := dk_42 (dk_at dksX4_inSource_1 6 rfl rfl)
theorem dX4_inSource_31 : decode cX4_inSource 31 = .ok (.getfield 7, 3) := dk_180 0 7 (dk_at dksX4_inSource_1 7 rfl rfl)
theorem dX4_inSource_34 : decode cX4_inSource 34 = .ok (.bipush 16, 2) := dk_16 16 (dk_at dksX4_inSource_1 10 rfl rfl)
theorem dX4_inSource_36 : decode cX4_inSource 36 = .ok (.iaload, 1) := dk_46 (dk_at dksX4_inSource_1 12 rfl rfl)
theorem dX4_inSource_37 : decode cX4_inSource 37 = .ok (.invokevirtual 293, 3) := dk_182 1 37 (dk_at dksX4_inSource_1 13 rfl rfl)
theorem dX4_inSource_40 : decode cX4_inSource 40 = .ok (.ifCond .ne 22, 3) := dk_154 0 22 (dk_at dksX4_inSource_1 16 rfl rfl)
theorem dX4_inSource_43 : decode cX4_inSource 43 = .ok (.aload_n 0, 1) := dk_42 (dk_at dksX4_inSource_1 19 rfl rfl)
theorem dX4_inSource_44 : decode cX4_inSource 44 = .ok (.iload_n 2, 1) := dk_28 (dk_at dksX4_inSource_1 20 rfl rfl)
theorem dX4_inSource_45 : decode cX4_inSource 45 = .ok (.bipush 6, 2) := dk_16 6 (dk_at dksX4_inSource_1 21 rfl rfl)
theorem dX4_inSource_47 : decode cX4_inSource 47 = .ok (.invokevirtual 177, 3) := dk_182 0 177 (dk_at dksX4_inSource_2 0 rfl rfl)
theorem dX4_inSource_50 : decode cX4_inSource 50 = .ok (.ifCond .eq 8, 3) := dk_153 0 8 (dk_at dksX4_inSource_2 3 rfl rfl)
theorem dX4_inSource_53 : decode cX4_inSource 53 = .ok (.iload_n 1, 1) := dk_27 (dk_at dksX4_inSource_2 6 rfl rfl)
theorem dX4_inSource_54 : decode cX4_inSource 54 = .ok (.iload_n 2, 1) := dk_28 (dk_at dksX4_inSource_2 7 rfl rfl)
theorem dX4_inSource_55 : decode cX4_inSource 55 = .ok (.if_icmp .ge 7, 3) := dk_162 0 7 (dk_at dksX4_inSource_2 8 rfl rfl)
theorem dX4_inSource_58 : decode cX4_inSource 58 = .ok (.iconst 1, 1) := dk_4 (dk_at dksX4_inSource_2 11 rfl rfl)
theorem dX4_inSource_59 : decode cX4_inSource 59 = .ok (.goto 4, 3) := dk_167 0 4 (dk_at dksX4_inSource_2 12 rfl rfl)
theorem dX4_inSource_62 : decode cX4_inSource 62 = .ok (.iconst 0, 1) := dk_3 (dk_at dksX4_inSource_2 15 rfl rfl)
theorem dX4_inSource_63 : decode cX4_inSource 63 = .ok (.ireturn, 1) := dk_172 (dk_at dksX4_inSource_2 16 rfl rfl)
abbrev cX4_inTarget : ByteArray := prog_19_method_65_code
def yX4_inTarget : MethodName := ⟨RX4, "inTarget", "(I)Z"⟩
def dkwX4_inTarget_1 : List UInt8 := [159, 0, 22, 42, 27, 42, 180, 0, 7, 16, 16, 46, 182, 1, 37, 154, 0, 7, 4, 167, 0, 4, 3, 172]
abbrev dktX4_inTarget_1 : List UInt8 := dkwX4_inTarget_1 ++ []
def dkwX4_inTarget_0 : List UInt8 := [42, 27, 42, 180, 0, 7, 16, 16, 46, 182, 1, 33, 153, 0, 33, 27, 42, 180, 0, 7, 16, 9, 46]
abbrev dktX4_inTarget_0 : List UInt8 := dkwX4_inTarget_0 ++ dktX4_inTarget_1
theorem dksX4_inTarget_0 : cX4_inTarget.data.toList.drop 0 = dktX4_inTarget_0 := by decide +kernel
theorem dksX4_inTarget_1 : cX4_inTarget.data.toList.drop 23 = dktX4_inTarget_1 := dk_seg dksX4_inTarget_0 23 rfl rfl
theorem dX4_inTarget_0 : decode cX4_inTarget 0 = .ok (.aload_n 0, 1) := dk_42 (dk_at dksX4_inTarget_0 0 rfl rfl)
theorem dX4_inTarget_1 : decode cX4_inTarget 1 = .ok (.iload_n 1, 1) := dk_27 (dk_at dksX4_inTarget_0 1 rfl rfl)
theorem dX4_inTarget_2 : decode cX4_inTarget 2 = .ok (.aload_n 0, 1) := dk_42 (dk_at dksX4_inTarget_0 2 rfl rfl)
theorem dX4_inTarget_3 : decode cX4_inTarget 3 = .ok (.getfield 7, 3) := dk_180 0 7 (dk_at dksX4_inTarget_0 3 rfl rfl)
theorem dX4_inTarget_6 : decode cX4_inTarget 6 = .ok (.bipush 16, 2) := dk_16 16 (dk_at dksX4_inTarget_0 6 rfl rfl)
theorem dX4_inTarget_8 : decode cX4_inTarget 8 = .ok (.iaload, 1) := dk_46 (dk_at dksX4_inTarget_0 8 rfl rfl)
theorem dX4_inTarget_9 : decode cX4_inTarget 9 = .ok (.invokevirtual 289, 3) := dk_182 1 33 (dk_at dksX4_inTarget_0 9 rfl rfl)
theorem dX4_inTarget_12 : decode cX4_inTarget 12 = .ok (.ifCond .eq 33, 3) := dk_153 0 33 (dk_at dksX4_inTarget_0 12 rfl rfl)
theorem dX4_inTarget_15 : decode cX4_inTarget 15 = .ok (.iload_n 1, 1) := dk_27 (dk_at dksX4_inTarget_0 15 rfl rfl)
theorem dX4_inTarget_16 : decode cX4_inTarget 16 = .ok (.aload_n 0, 1) := dk_42 (dk_at dksX4_inTarget_0 16 rfl rfl)
theorem dX4_inTarget_17 : decode cX4_inTarget 17 = .ok (.getfield 7, 3) := dk_180 0 7 (dk_at dksX4_inTarget_0 17 rfl rfl)
theorem dX4_inTarget_20 : decode cX4_inTarget 20 = .ok (.bipush 9, 2) := dk_16 9 (dk_at dksX4_inTarget_0 20 rfl rfl)
theorem dX4_inTarget_22 : decode cX4_inTarget 22 = .ok (.iaload, 1) := dk_46 (dk_at dksX4_inTarget_0 22 rfl rfl)
theorem dX4_inTarget_23 : decode cX4_inTarget 23 = .ok (.if_icmp .eq 22, 3) := dk_159 0 22 (dk_at dksX4_inTarget_1 0 rfl rfl)
theorem dX4_inTarget_26 : decode cX4_inTarget 26 = .ok (.aload_n 0, 1) := dk_42 (dk_at dksX4_inTarget_1 3 rfl rfl)
theorem dX4_inTarget_27 : decode cX4_inTarget 27 = .ok (.iload_n 1, 1) := dk_27 (dk_at dksX4_inTarget_1 4 rfl rfl)
theorem dX4_inTarget_28 : decode cX4_inTarget 28 = .ok (.aload_n 0, 1) := dk_42 (dk_at dksX4_inTarget_1 5 rfl rfl)
theorem dX4_inTarget_29 : decode cX4_inTarget 29 = .ok (.getfield 7, 3) := dk_180 0 7 (dk_at dksX4_inTarget_1 6 rfl rfl)
theorem dX4_inTarget_32 : decode cX4_inTarget 32 = .ok (.bipush 16, 2) := dk_16 16 (dk_at dksX4_inTarget_1 9 rfl rfl)
theorem dX4_inTarget_34 : decode cX4_inTarget 34 = .ok (.iaload, 1) := dk_46 (dk_at dksX4_inTarget_1 11 rfl rfl)
theorem dX4_inTarget_35 : decode cX4_inTarget 35 = .ok (.invokevirtual 293, 3) := dk_182 1 37 (dk_at dksX4_inTarget_1 12 rfl rfl)
theorem dX4_inTarget_38 : decode cX4_inTarget 38 = .ok (.ifCond .ne 7, 3) := dk_154 0 7 (dk_at dksX4_inTarget_1 15 rfl rfl)
theorem dX4_inTarget_41 : decode cX4_inTarget 41 = .ok (.iconst 1, 1) := dk_4 (dk_at dksX4_inTarget_1 18 rfl rfl)
theorem dX4_inTarget_42 : decode cX4_inTarget 42 = .ok (.goto 4, 3) := dk_167 0 4 (dk_at dksX4_inTarget_1 19 rfl rfl)
theorem dX4_inTarget_45 : decode cX4_inTarget 45 = .ok (.iconst 0, 1) := dk_3 (dk_at dksX4_inTarget_1 22 rfl rfl)
theorem dX4_inTarget_46 : decode cX4_inTarget 46 = .ok (.ireturn, 1) := dk_172 (dk_at dksX4_inTarget_1 23 rfl rfl)
abbrev cX4_against : ByteArray := prog_19_method_68_code
def yX4_against : MethodName := ⟨RX4, "against", "(II)I"⟩
def dkwX4_against_3 : List UInt8 := [21, 4, 96, 172, 132, 4, 1, 167, 255, 226, 3, 172]
abbrev dktX4_against_3 : List UInt8 := dkwX4_against_3 ++ []
def dkwX4_against_2 : List UInt8 := [21, 4, 42, 27, 16, 7, 182, 0, 177, 162, 0, 24, 42, 27, 21, 4, 182, 1, 48, 154, 0, 8, 6]
abbrev dktX4_against_2 : List UInt8 := dkwX4_against_2 ++ dktX4_against_3
def dkwX4_against_1 : List UInt8 := [29, 182, 1, 1, 42, 27, 6, 182, 0, 177, 133, 20, 1, 46, 105, 148, 156, 0, 5, 5, 172, 3, 54, 4]
abbrev dktX4_against_1 : List UInt8 := dkwX4_against_1 ++ dktX4_against_2
def dkwX4_against_0 : List UInt8 := [28, 5, 160, 0, 8, 16, 16, 167, 0, 5, 16, 12, 62, 42, 27, 6, 182, 0, 177, 2, 159, 0, 25, 42]
abbrev dktX4_against_0 : List UInt8 := dkwX4_against_0 ++ dktX4_against_1
theorem dksX4_against_0 : cX4_against.data.toList.drop 0 = dktX4_against_0 := by decide +kernel
theorem dksX4_against_1 : cX4_against.data.toList.drop 24 = dktX4_against_1 := dk_seg dksX4_against_0 24 rfl rfl
theorem dksX4_against_2 : cX4_against.data.toList.drop 48 = dktX4_against_2 := dk_seg dksX4_against_1 24 rfl rfl
theorem dksX4_against_3 : cX4_against.data.toList.drop 71 = dktX4_against_3 := dk_seg dksX4_against_2 23 rfl rfl
theorem dX4_against_0 : decode cX4_against 0 = .ok (.iload_n 2, 1) := dk_28 (dk_at dksX4_against_0 0 rfl rfl)
theorem dX4_against_1 : decode cX4_against 1 = .ok (.iconst 2, 1) := dk_5 (dk_at dksX4_against_0 1 rfl rfl)
theorem dX4_against_2 : decode cX4_against 2 = .ok (.if_icmp .ne 8, 3) := dk_160 0 8 (dk_at dksX4_against_0 2 rfl rfl)
theorem dX4_against_5 : decode cX4_against 5 = .ok (.bipush 16, 2) := dk_16 16 (dk_at dksX4_against_0 5 rfl rfl)
theorem dX4_against_7 : decode cX4_against 7 = .ok (.goto 5, 3) := dk_167 0 5 (dk_at dksX4_against_0 7 rfl rfl)
theorem dX4_against_10 : decode cX4_against 10 = .ok (.bipush 12, 2) := dk_16 12 (dk_at dksX4_against_0 10 rfl rfl)
theorem dX4_against_12 : decode cX4_against 12 = .ok (.istore_n 3, 1) := dk_62 (dk_at dksX4_against_0 12 rfl rfl)
theorem dX4_against_13 : decode cX4_against 13 = .ok (.aload_n 0, 1) := dk_42 (dk_at dksX4_against_0 13 rfl rfl)
theorem dX4_against_14 : decode cX4_against 14 = .ok (.iload_n 1, 1) := dk_27 (dk_at dksX4_against_0 14 rfl rfl)
theorem dX4_against_15 : decode cX4_against 15 = .ok (.iconst 3, 1) := dk_6 (dk_at dksX4_against_0 15 rfl rfl)
theorem dX4_against_16 : decode cX4_against 16 = .ok (.invokevirtual 177, 3) := dk_182 0 177 (dk_at dksX4_against_0 16 rfl rfl)
theorem dX4_against_19 : decode cX4_against 19 = .ok (.iconst (-1), 1) := dk_2 (dk_at dksX4_against_0 19 rfl rfl)
theorem dX4_against_20 : decode cX4_against 20 = .ok (.if_icmp .eq 25, 3) := dk_159 0 25 (dk_at dksX4_against_0 20 rfl rfl)
theorem dX4_against_23 : decode cX4_against 23 = .ok (.aload_n 0, 1) := dk_42 (dk_at dksX4_against_0 23 rfl rfl)
theorem dX4_against_24 : decode cX4_against 24 = .ok (.iload_n 3, 1) := dk_29 (dk_at dksX4_against_1 0 rfl rfl)
theorem dX4_against_25 : decode cX4_against 25 = .ok (.invokevirtual 257, 3) := dk_182 1 1 (dk_at dksX4_against_1 1 rfl rfl)
theorem dX4_against_28 : decode cX4_against 28 = .ok (.aload_n 0, 1) := dk_42 (dk_at dksX4_against_1 4 rfl rfl)
theorem dX4_against_29 : decode cX4_against 29 = .ok (.iload_n 1, 1) := dk_27 (dk_at dksX4_against_1 5 rfl rfl)
theorem dX4_against_30 : decode cX4_against 30 = .ok (.iconst 3, 1) := dk_6 (dk_at dksX4_against_1 6 rfl rfl)
theorem dX4_against_31 : decode cX4_against 31 = .ok (.invokevirtual 177, 3) := dk_182 0 177 (dk_at dksX4_against_1 7 rfl rfl)
theorem dX4_against_34 : decode cX4_against 34 = .ok (.i2l, 1) := dk_133 (dk_at dksX4_against_1 10 rfl rfl)
theorem dX4_against_35 : decode cX4_against 35 = .ok (.ldc2_w 302, 3) := dk_20 1 46 (dk_at dksX4_against_1 11 rfl rfl)
theorem dX4_against_38 : decode cX4_against 38 = .ok (.lmul, 1) := dk_105 (dk_at dksX4_against_1 14 rfl rfl)
theorem dX4_against_39 : decode cX4_against 39 = .ok (.lcmp, 1) := dk_148 (dk_at dksX4_against_1 15 rfl rfl)
theorem dX4_against_40 : decode cX4_against 40 = .ok (.ifCond .ge 5, 3) := dk_156 0 5 (dk_at dksX4_against_1 16 rfl rfl)
theorem dX4_against_43 : decode cX4_against 43 = .ok (.iconst 2, 1) := dk_5 (dk_at dksX4_against_1 19 rfl rfl)
theorem dX4_against_44 : decode cX4_against 44 = .ok (.ireturn, 1) := dk_172 (dk_at dksX4_against_1 20 rfl rfl)
theorem dX4_against_45 : decode cX4_against 45 = .ok (.iconst 0, 1) := dk_3 (dk_at dksX4_against_1 21 rfl rfl)
theorem dX4_against_46 : decode cX4_against 46 = .ok (.istore 4, 2) := dk_54 4 (dk_at dksX4_against_1 22 rfl rfl)
theorem dX4_against_48 : decode cX4_against 48 = .ok (.iload 4, 2) := dk_21 4 (dk_at dksX4_against_2 0 rfl rfl)
theorem dX4_against_50 : decode cX4_against 50 = .ok (.aload_n 0, 1) := dk_42 (dk_at dksX4_against_2 2 rfl rfl)
theorem dX4_against_51 : decode cX4_against 51 = .ok (.iload_n 1, 1) := dk_27 (dk_at dksX4_against_2 3 rfl rfl)
theorem dX4_against_52 : decode cX4_against 52 = .ok (.bipush 7, 2) := dk_16 7 (dk_at dksX4_against_2 4 rfl rfl)
theorem dX4_against_54 : decode cX4_against 54 = .ok (.invokevirtual 177, 3) := dk_182 0 177 (dk_at dksX4_against_2 6 rfl rfl)
theorem dX4_against_57 : decode cX4_against 57 = .ok (.if_icmp .ge 24, 3) := dk_162 0 24 (dk_at dksX4_against_2 9 rfl rfl)
theorem dX4_against_60 : decode cX4_against 60 = .ok (.aload_n 0, 1) := dk_42 (dk_at dksX4_against_2 12 rfl rfl)
theorem dX4_against_61 : decode cX4_against 61 = .ok (.iload_n 1, 1) := dk_27 (dk_at dksX4_against_2 13 rfl rfl)
theorem dX4_against_62 : decode cX4_against 62 = .ok (.iload 4, 2) := dk_21 4 (dk_at dksX4_against_2 14 rfl rfl)
theorem dX4_against_64 : decode cX4_against 64 = .ok (.invokevirtual 304, 3) := dk_182 1 48 (dk_at dksX4_against_2 16 rfl rfl)
theorem dX4_against_67 : decode cX4_against 67 = .ok (.ifCond .ne 8, 3) := dk_154 0 8 (dk_at dksX4_against_2 19 rfl rfl)
theorem dX4_against_70 : decode cX4_against 70 = .ok (.iconst 3, 1) := dk_6 (dk_at dksX4_against_2 22 rfl rfl)
theorem dX4_against_71 : decode cX4_against 71 = .ok (.iload 4, 2) := dk_21 4 (dk_at dksX4_against_3 0 rfl rfl)
theorem dX4_against_73 : decode cX4_against 73 = .ok (.iadd, 1) := dk_96 (dk_at dksX4_against_3 2 rfl rfl)
theorem dX4_against_74 : decode cX4_against 74 = .ok (.ireturn, 1) := dk_172 (dk_at dksX4_against_3 3 rfl rfl)
theorem dX4_against_75 : decode cX4_against 75 = .ok (.iinc 4 1, 3) := dk_132 4 1 (dk_at dksX4_against_3 4 rfl rfl)
theorem dX4_against_78 : decode cX4_against 78 = .ok (.goto (-30), 3) := dk_167 255 226 (dk_at dksX4_against_3 7 rfl rfl)
theorem dX4_against_81 : decode cX4_against 81 = .ok (.iconst 0, 1) := dk_3 (dk_at dksX4_against_3 10 rfl rfl)
theorem dX4_against_82 : decode cX4_against 82 = .ok (.ireturn, 1) := dk_172 (dk_at dksX4_against_3 11 rfl rfl)
abbrev cX4_progressOf : ByteArray := prog_19_method_48_code
def yX4_progressOf : MethodName := ⟨RX4, "progressOf", "(I)J"⟩
def dkwX4_progressOf_0 : List UInt8 := [42, 180, 0, 7, 27, 4, 96, 46, 133, 20, 0, 251, 105, 42, 180, 0, 7, 27, 5, 96, 46, 133, 97, 173]
abbrev dktX4_progressOf_0 : List UInt8 := dkwX4_progressOf_0 ++ []
theorem dksX4_progressOf_0 : cX4_progressOf.data.toList.drop 0 = dktX4_progressOf_0 := by decide +kernel
theorem dX4_progressOf_0 : decode cX4_progressOf 0 = .ok (.aload_n 0, 1) := dk_42 (dk_at dksX4_progressOf_0 0 rfl rfl)
theorem dX4_progressOf_1 : decode cX4_progressOf 1 = .ok (.getfield 7, 3) := dk_180 0 7 (dk_at dksX4_progressOf_0 1 rfl rfl)
theorem dX4_progressOf_4 : decode cX4_progressOf 4 = .ok (.iload_n 1, 1) := dk_27 (dk_at dksX4_progressOf_0 4 rfl rfl)
theorem dX4_progressOf_5 : decode cX4_progressOf 5 = .ok (.iconst 1, 1) := dk_4 (dk_at dksX4_progressOf_0 5 rfl rfl)
theorem dX4_progressOf_6 : decode cX4_progressOf 6 = .ok (.iadd, 1) := dk_96 (dk_at dksX4_progressOf_0 6 rfl rfl)
theorem dX4_progressOf_7 : decode cX4_progressOf 7 = .ok (.iaload, 1) := dk_46 (dk_at dksX4_progressOf_0 7 rfl rfl)
theorem dX4_progressOf_8 : decode cX4_progressOf 8 = .ok (.i2l, 1) := dk_133 (dk_at dksX4_progressOf_0 8 rfl rfl)
theorem dX4_progressOf_9 : decode cX4_progressOf 9 = .ok (.ldc2_w 251, 3) := dk_20 0 251 (dk_at dksX4_progressOf_0 9 rfl rfl)
theorem dX4_progressOf_12 : decode cX4_progressOf 12 = .ok (.lmul, 1) := dk_105 (dk_at dksX4_progressOf_0 12 rfl rfl)
theorem dX4_progressOf_13 : decode cX4_progressOf 13 = .ok (.aload_n 0, 1) := dk_42 (dk_at dksX4_progressOf_0 13 rfl rfl)
theorem dX4_progressOf_14 : decode cX4_progressOf 14 = .ok (.getfield 7, 3) := dk_180 0 7 (dk_at dksX4_progressOf_0 14 rfl rfl)
theorem dX4_progressOf_17 : decode cX4_progressOf 17 = .ok (.iload_n 1, 1) := dk_27 (dk_at dksX4_progressOf_0 17 rfl rfl)
theorem dX4_progressOf_18 : decode cX4_progressOf 18 = .ok (.iconst 2, 1) := dk_5 (dk_at dksX4_progressOf_0 18 rfl rfl)
theorem dX4_progressOf_19 : decode cX4_progressOf 19 = .ok (.iadd, 1) := dk_96 (dk_at dksX4_progressOf_0 19 rfl rfl)
theorem dX4_progressOf_20 : decode cX4_progressOf 20 = .ok (.iaload, 1) := dk_46 (dk_at dksX4_progressOf_0 20 rfl rfl)
theorem dX4_progressOf_21 : decode cX4_progressOf 21 = .ok (.i2l, 1) := dk_133 (dk_at dksX4_progressOf_0 21 rfl rfl)
theorem dX4_progressOf_22 : decode cX4_progressOf 22 = .ok (.ladd, 1) := dk_97 (dk_at dksX4_progressOf_0 22 rfl rfl)
theorem dX4_progressOf_23 : decode cX4_progressOf 23 = .ok (.lreturn, 1) := dk_173 (dk_at dksX4_progressOf_0 23 rfl rfl)
abbrev cX4_holds : ByteArray := prog_19_method_67_code
def yX4_holds : MethodName := ⟨RX4, "holds", "(II)Z"⟩
def dkwX4_holds_5 : List UInt8 := [167, 0, 4, 3, 172]
abbrev dktX4_holds_5 : List UInt8 := dkwX4_holds_5 ++ []
def dkwX4_holds_4 : List UInt8 := [21, 4, 21, 5, 160, 0, 7, 4, 167, 0, 19, 3, 167, 0, 15, 21, 4, 21, 5, 159, 0, 7, 4]
abbrev dktX4_holds_4 : List UInt8 := dkwX4_holds_4 ++ dktX4_holds_5
def dkwX4_holds_3 : List UInt8 := [160, 0, 18, 21, 4, 21, 5, 162, 0, 7, 4, 167, 0, 40, 3, 167, 0, 36, 21, 6, 5, 160, 0, 18]
abbrev dktX4_holds_3 : List UInt8 := dkwX4_holds_3 ++ dktX4_holds_4
def dkwX4_holds_2 : List UInt8 := [21, 6, 154, 0, 18, 21, 4, 21, 5, 164, 0, 7, 4, 167, 0, 61, 3, 167, 0, 57, 21, 6, 4]
abbrev dktX4_holds_2 : List UInt8 := dkwX4_holds_2 ++ dktX4_holds_3
def dkwX4_holds_1 : List UInt8 := [46, 54, 4, 42, 180, 0, 59, 29, 5, 96, 46, 54, 5, 42, 180, 0, 59, 29, 4, 96, 46, 54, 6]
abbrev dktX4_holds_1 : List UInt8 := dkwX4_holds_1 ++ dktX4_holds_2
def dkwX4_holds_0 : List UInt8 := [16, 17, 27, 104, 16, 8, 96, 6, 28, 104, 96, 62, 42, 180, 0, 7, 3, 42, 180, 0, 59, 29, 46, 96]
abbrev dktX4_holds_0 : List UInt8 := dkwX4_holds_0 ++ dktX4_holds_1
theorem dksX4_holds_0 : cX4_holds.data.toList.drop 0 = dktX4_holds_0 := by decide +kernel
theorem dksX4_holds_1 : cX4_holds.data.toList.drop 24 = dktX4_holds_1 := dk_seg dksX4_holds_0 24 rfl rfl
theorem dksX4_holds_2 : cX4_holds.data.toList.drop 47 = dktX4_holds_2 := dk_seg dksX4_holds_1 23 rfl rfl
theorem dksX4_holds_3 : cX4_holds.data.toList.drop 70 = dktX4_holds_3 := dk_seg dksX4_holds_2 23 rfl rfl
theorem dksX4_holds_4 : cX4_holds.data.toList.drop 94 = dktX4_holds_4 := dk_seg dksX4_holds_3 24 rfl rfl
theorem dksX4_holds_5 : cX4_holds.data.toList.drop 117 = dktX4_holds_5 := dk_seg dksX4_holds_4 23 rfl rfl
theorem dX4_holds_0 : decode cX4_holds 0 = .ok (.bipush 17, 2) := dk_16 17 (dk_at dksX4_holds_0 0 rfl rfl)
theorem dX4_holds_2 : decode cX4_holds 2 = .ok (.iload_n 1, 1) := dk_27 (dk_at dksX4_holds_0 2 rfl rfl)
theorem dX4_holds_3 : decode cX4_holds 3 = .ok (.imul, 1) := dk_104 (dk_at dksX4_holds_0 3 rfl rfl)
theorem dX4_holds_4 : decode cX4_holds 4 = .ok (.bipush 8, 2) := dk_16 8 (dk_at dksX4_holds_0 4 rfl rfl)
theorem dX4_holds_6 : decode cX4_holds 6 = .ok (.iadd, 1) := dk_96 (dk_at dksX4_holds_0 6 rfl rfl)
theorem dX4_holds_7 : decode cX4_holds 7 = .ok (.iconst 3, 1) := dk_6 (dk_at dksX4_holds_0 7 rfl rfl)
theorem dX4_holds_8 : decode cX4_holds 8 = .ok (.iload_n 2, 1) := dk_28 (dk_at dksX4_holds_0 8 rfl rfl)
theorem dX4_holds_9 : decode cX4_holds 9 = .ok (.imul, 1) := dk_104 (dk_at dksX4_holds_0 9 rfl rfl)
theorem dX4_holds_10 : decode cX4_holds 10 = .ok (.iadd, 1) := dk_96 (dk_at dksX4_holds_0 10 rfl rfl)
theorem dX4_holds_11 : decode cX4_holds 11 = .ok (.istore_n 3, 1) := dk_62 (dk_at dksX4_holds_0 11 rfl rfl)
theorem dX4_holds_12 : decode cX4_holds 12 = .ok (.aload_n 0, 1) := dk_42 (dk_at dksX4_holds_0 12 rfl rfl)
theorem dX4_holds_13 : decode cX4_holds 13 = .ok (.getfield 7, 3) := dk_180 0 7 (dk_at dksX4_holds_0 13 rfl rfl)
theorem dX4_holds_16 : decode cX4_holds 16 = .ok (.iconst 0, 1) := dk_3 (dk_at dksX4_holds_0 16 rfl rfl)
theorem dX4_holds_17 : decode cX4_holds 17 = .ok (.aload_n 0, 1) := dk_42 (dk_at dksX4_holds_0 17 rfl rfl)
theorem dX4_holds_18 : decode cX4_holds 18 = .ok (.getfield 59, 3) := dk_180 0 59 (dk_at dksX4_holds_0 18 rfl rfl)
theorem dX4_holds_21 : decode cX4_holds 21 = .ok (.iload_n 3, 1) := dk_29 (dk_at dksX4_holds_0 21 rfl rfl)
theorem dX4_holds_22 : decode cX4_holds 22 = .ok (.iaload, 1) := dk_46 (dk_at dksX4_holds_0 22 rfl rfl)
theorem dX4_holds_23 : decode cX4_holds 23 = .ok (.iadd, 1) := dk_96 (dk_at dksX4_holds_0 23 rfl rfl)
theorem dX4_holds_24 : decode cX4_holds 24 = .ok (.iaload, 1) := dk_46 (dk_at dksX4_holds_1 0 rfl rfl)
theorem dX4_holds_25 : decode cX4_holds 25 = .ok (.istore 4, 2) := dk_54 4 (dk_at dksX4_holds_1 1 rfl rfl)
theorem dX4_holds_27 : decode cX4_holds 27 = .ok (.aload_n 0, 1) := dk_42 (dk_at dksX4_holds_1 3 rfl rfl)
theorem dX4_holds_28 : decode cX4_holds 28 = .ok (.getfield 59, 3) := dk_180 0 59 (dk_at dksX4_holds_1 4 rfl rfl)
theorem dX4_holds_31 : decode cX4_holds 31 = .ok (.iload_n 3, 1) := dk_29 (dk_at dksX4_holds_1 7 rfl rfl)
theorem dX4_holds_32 : decode cX4_holds 32 = .ok (.iconst 2, 1) := dk_5 (dk_at dksX4_holds_1 8 rfl rfl)
theorem dX4_holds_33 : decode cX4_holds 33 = .ok (.iadd, 1) := dk_96 (dk_at dksX4_holds_1 9 rfl rfl)
theorem dX4_holds_34 : decode cX4_holds 34 = .ok (.iaload, 1) := dk_46 (dk_at dksX4_holds_1 10 rfl rfl)
theorem dX4_holds_35 : decode cX4_holds 35 = .ok (.istore 5, 2) := dk_54 5 (dk_at dksX4_holds_1 11 rfl rfl)
theorem dX4_holds_37 : decode cX4_holds 37 = .ok (.aload_n 0, 1) := dk_42 (dk_at dksX4_holds_1 13 rfl rfl)
theorem dX4_holds_38 : decode cX4_holds 38 = .ok (.getfield 59, 3) := dk_180 0 59 (dk_at dksX4_holds_1 14 rfl rfl)
theorem dX4_holds_41 : decode cX4_holds 41 = .ok (.iload_n 3, 1) := dk_29 (dk_at dksX4_holds_1 17 rfl rfl)
theorem dX4_holds_42 : decode cX4_holds 42 = .ok (.iconst 1, 1) := dk_4 (dk_at dksX4_holds_1 18 rfl rfl)
theorem dX4_holds_43 : decode cX4_holds 43 = .ok (.iadd, 1) := dk_96 (dk_at dksX4_holds_1 19 rfl rfl)
theorem dX4_holds_44 : decode cX4_holds 44 = .ok (.iaload, 1) := dk_46 (dk_at dksX4_holds_1 20 rfl rfl)
theorem dX4_holds_45 : decode cX4_holds 45 = .ok (.istore 6, 2) := dk_54 6 (dk_at dksX4_holds_1 21 rfl rfl)
theorem dX4_holds_47 : decode cX4_holds 47 = .ok (.iload 6, 2) := dk_21 6 (dk_at dksX4_holds_2 0 rfl rfl)
theorem dX4_holds_49 : decode cX4_holds 49 = .ok (.ifCond .ne 18, 3) := dk_154 0 18 (dk_at dksX4_holds_2 2 rfl rfl)
theorem dX4_holds_52 : decode cX4_holds 52 = .ok (.iload 4, 2) := dk_21 4 (dk_at dksX4_holds_2 5 rfl rfl)
theorem dX4_holds_54 : decode cX4_holds 54 = .ok (.iload 5, 2) := dk_21 5 (dk_at dksX4_holds_2 7 rfl rfl)
theorem dX4_holds_56 : decode cX4_holds 56 = .ok (.if_icmp .le 7, 3) := dk_164 0 7 (dk_at dksX4_holds_2 9 rfl rfl)
theorem dX4_holds_59 : decode cX4_holds 59 = .ok (.iconst 1, 1) := dk_4 (dk_at dksX4_holds_2 12 rfl rfl)
theorem dX4_holds_60 : decode cX4_holds 60 = .ok (.goto 61, 3) := dk_167 0 61 (dk_at dksX4_holds_2 13 rfl rfl)
theorem dX4_holds_63 : decode cX4_holds 63 = .ok (.iconst 0, 1) := dk_3 (dk_at dksX4_holds_2 16 rfl rfl)
theorem dX4_holds_64 : decode cX4_holds 64 = .ok (.goto 57, 3) := dk_167 0 57 (dk_at dksX4_holds_2 17 rfl rfl)
theorem dX4_holds_67 : decode cX4_holds 67 = .ok (.iload 6, 2) := dk_21 6 (dk_at dksX4_holds_2 20 rfl rfl)
theorem dX4_holds_69 : decode cX4_holds 69 = .ok (.iconst 1, 1) := dk_4 (dk_at dksX4_holds_2 22 rfl rfl)
theorem dX4_holds_70 : decode cX4_holds 70 = .ok (.if_icmp .ne 18, 3) := dk_160 0 18 (dk_at dksX4_holds_3 0 rfl rfl)
theorem dX4_holds_73 : decode cX4_holds 73 = .ok (.iload 4, 2) := dk_21 4 (dk_at dksX4_holds_3 3 rfl rfl)
theorem dX4_holds_75 : decode cX4_holds 75 = .ok (.iload 5, 2) := dk_21 5 (dk_at dksX4_holds_3 5 rfl rfl)
theorem dX4_holds_77 : decode cX4_holds 77 = .ok (.if_icmp .ge 7, 3) := dk_162 0 7 (dk_at dksX4_holds_3 7 rfl rfl)
theorem dX4_holds_80 : decode cX4_holds 80 = .ok (.iconst 1, 1) := dk_4 (dk_at dksX4_holds_3 10 rfl rfl)
theorem dX4_holds_81 : decode cX4_holds 81 = .ok (.goto 40, 3) := dk_167 0 40 (dk_at dksX4_holds_3 11 rfl rfl)
theorem dX4_holds_84 : decode cX4_holds 84 = .ok (.iconst 0, 1) := dk_3 (dk_at dksX4_holds_3 14 rfl rfl)
theorem dX4_holds_85 : decode cX4_holds 85 = .ok (.goto 36, 3) := dk_167 0 36 (dk_at dksX4_holds_3 15 rfl rfl)
theorem dX4_holds_88 : decode cX4_holds 88 = .ok (.iload 6, 2) := dk_21 6 (dk_at dksX4_holds_3 18 rfl rfl)
theorem dX4_holds_90 : decode cX4_holds 90 = .ok (.iconst 2, 1) := dk_5 (dk_at dksX4_holds_3 20 rfl rfl)
theorem dX4_holds_91 : decode cX4_holds 91 = .ok (.if_icmp .ne 18, 3) := dk_160 0 18 (dk_at dksX4_holds_3 21 rfl rfl)
theorem dX4_holds_94 : decode cX4_holds 94 = .ok (.iload 4, 2) := dk_21 4 (dk_at dksX4_holds_4 0 rfl rfl)
theorem dX4_holds_96 : decode cX4_holds 96 = .ok (.iload 5, 2) := dk_21 5 (dk_at dksX4_holds_4 2 rfl rfl)
theorem dX4_holds_98 : decode cX4_holds 98 = .ok (.if_icmp .ne 7, 3) := dk_160 0 7 (dk_at dksX4_holds_4 4 rfl rfl)
theorem dX4_holds_101 : decode cX4_holds 101 = .ok (.iconst 1, 1) := dk_4 (dk_at dksX4_holds_4 7 rfl rfl)
theorem dX4_holds_102 : decode cX4_holds 102 = .ok (.goto 19, 3) := dk_167 0 19 (dk_at dksX4_holds_4 8 rfl rfl)
theorem dX4_holds_105 : decode cX4_holds 105 = .ok (.iconst 0, 1) := dk_3 (dk_at dksX4_holds_4 11 rfl rfl)
theorem dX4_holds_106 : decode cX4_holds 106 = .ok (.goto 15, 3) := dk_167 0 15 (dk_at dksX4_holds_4 12 rfl rfl)
theorem dX4_holds_109 : decode cX4_holds 109 = .ok (.iload 4, 2) := dk_21 4 (dk_at dksX4_holds_4 15 rfl rfl)
theorem dX4_holds_111 : decode cX4_holds 111 = .ok (.iload 5, 2) := dk_21 5 (dk_at dksX4_holds_4 17 rfl rfl)
theorem dX4_holds_113 : decode cX4_holds 113 = .ok (.if_icmp .eq 7, 3) := dk_159 0 7 (dk_at dksX4_holds_4 19 rfl rfl)
theorem dX4_holds_116 : decode cX4_holds 116 = .ok (.iconst 1, 1) := dk_4 (dk_at dksX4_holds_4 22 rfl rfl)
theorem dX4_holds_117 : decode cX4_holds 117 = .ok (.goto 4, 3) := dk_167 0 4 (dk_at dksX4_holds_5 0 rfl rfl)
theorem dX4_holds_120 : decode cX4_holds 120 = .ok (.iconst 0, 1) := dk_3 (dk_at dksX4_holds_5 3 rfl rfl)
theorem dX4_holds_121 : decode cX4_holds 121 = .ok (.ireturn, 1) := dk_172 (dk_at dksX4_holds_5 4 rfl rfl)
abbrev cX4_tick : ByteArray := prog_19_method_81_code
def yX4_tick : MethodName := ⟨RX4, "tick", "(I)I"⟩
def dkwX4_tick_3 : List UInt8 := [172]
abbrev dktX4_tick_3 : List UInt8 := dkwX4_tick_3 ++ []
def dkwX4_tick_2 : List UInt8 := [27, 162, 0, 13, 42, 182, 1, 100, 132, 3, 1, 167, 255, 244, 42, 180, 0, 7, 17, 1, 32, 46, 28, 100]
abbrev dktX4_tick_2 : List UInt8 := dkwX4_tick_2 ++ dktX4_tick_3
def dkwX4_tick_1 : List UInt8 := [180, 0, 145, 154, 0, 9, 42, 5, 182, 0, 103, 172, 42, 180, 0, 7, 17, 1, 32, 46, 61, 3, 62, 29]
abbrev dktX4_tick_1 : List UInt8 := dkwX4_tick_1 ++ dktX4_tick_2
def dkwX4_tick_0 : List UInt8 := [42, 3, 181, 0, 94, 27, 133, 10, 20, 0, 116, 184, 0, 99, 154, 0, 9, 42, 4, 182, 0, 103, 172, 42]
abbrev dktX4_tick_0 : List UInt8 := dkwX4_tick_0 ++ dktX4_tick_1
theorem dksX4_tick_0 : cX4_tick.data.toList.drop 0 = dktX4_tick_0 := by decide +kernel
theorem dksX4_tick_1 : cX4_tick.data.toList.drop 24 = dktX4_tick_1 := dk_seg dksX4_tick_0 24 rfl rfl
theorem dksX4_tick_2 : cX4_tick.data.toList.drop 48 = dktX4_tick_2 := dk_seg dksX4_tick_1 24 rfl rfl
theorem dksX4_tick_3 : cX4_tick.data.toList.drop 72 = dktX4_tick_3 := dk_seg dksX4_tick_2 24 rfl rfl
theorem dX4_tick_0 : decode cX4_tick 0 = .ok (.aload_n 0, 1) := dk_42 (dk_at dksX4_tick_0 0 rfl rfl)
theorem dX4_tick_1 : decode cX4_tick 1 = .ok (.iconst 0, 1) := dk_3 (dk_at dksX4_tick_0 1 rfl rfl)
theorem dX4_tick_2 : decode cX4_tick 2 = .ok (.putfield 94, 3) := dk_181 0 94 (dk_at dksX4_tick_0 2 rfl rfl)
theorem dX4_tick_5 : decode cX4_tick 5 = .ok (.iload_n 1, 1) := dk_27 (dk_at dksX4_tick_0 5 rfl rfl)
theorem dX4_tick_6 : decode cX4_tick 6 = .ok (.i2l, 1) := dk_133 (dk_at dksX4_tick_0 6 rfl rfl)
theorem dX4_tick_7 : decode cX4_tick 7 = .ok (.lconst 1, 1) := dk_10 (dk_at dksX4_tick_0 7 rfl rfl)
theorem dX4_tick_8 : decode cX4_tick 8 = .ok (.ldc2_w 116, 3) := dk_20 0 116 (dk_at dksX4_tick_0 8 rfl rfl)
theorem dX4_tick_11 : decode cX4_tick 11 = .ok (.invokestatic 99, 3) := dk_184 0 99 (dk_at dksX4_tick_0 11 rfl rfl)
theorem dX4_tick_14 : decode cX4_tick 14 = .ok (.ifCond .ne 9, 3) := dk_154 0 9 (dk_at dksX4_tick_0 14 rfl rfl)
theorem dX4_tick_17 : decode cX4_tick 17 = .ok (.aload_n 0, 1) := dk_42 (dk_at dksX4_tick_0 17 rfl rfl)
theorem dX4_tick_18 : decode cX4_tick 18 = .ok (.iconst 1, 1) := dk_4 (dk_at dksX4_tick_0 18 rfl rfl)
theorem dX4_tick_19 : decode cX4_tick 19 = .ok (.invokevirtual 103, 3) := dk_182 0 103 (dk_at dksX4_tick_0 19 rfl rfl)
theorem dX4_tick_22 : decode cX4_tick 22 = .ok (.ireturn, 1) := dk_172 (dk_at dksX4_tick_0 22 rfl rfl)
theorem dX4_tick_23 : decode cX4_tick 23 = .ok (.aload_n 0, 1) := dk_42 (dk_at dksX4_tick_0 23 rfl rfl)
theorem dX4_tick_24 : decode cX4_tick 24 = .ok (.getfield 145, 3) := dk_180 0 145 (dk_at dksX4_tick_1 0 rfl rfl)
theorem dX4_tick_27 : decode cX4_tick 27 = .ok (.ifCond .ne 9, 3) := dk_154 0 9 (dk_at dksX4_tick_1 3 rfl rfl)
theorem dX4_tick_30 : decode cX4_tick 30 = .ok (.aload_n 0, 1) := dk_42 (dk_at dksX4_tick_1 6 rfl rfl)
theorem dX4_tick_31 : decode cX4_tick 31 = .ok (.iconst 2, 1) := dk_5 (dk_at dksX4_tick_1 7 rfl rfl)
theorem dX4_tick_32 : decode cX4_tick 32 = .ok (.invokevirtual 103, 3) := dk_182 0 103 (dk_at dksX4_tick_1 8 rfl rfl)
theorem dX4_tick_35 : decode cX4_tick 35 = .ok (.ireturn, 1) := dk_172 (dk_at dksX4_tick_1 11 rfl rfl)
theorem dX4_tick_36 : decode cX4_tick 36 = .ok (.aload_n 0, 1) := dk_42 (dk_at dksX4_tick_1 12 rfl rfl)
theorem dX4_tick_37 : decode cX4_tick 37 = .ok (.getfield 7, 3) := dk_180 0 7 (dk_at dksX4_tick_1 13 rfl rfl)
theorem dX4_tick_40 : decode cX4_tick 40 = .ok (.sipush 288, 3) := dk_17 1 32 (dk_at dksX4_tick_1 16 rfl rfl)
theorem dX4_tick_43 : decode cX4_tick 43 = .ok (.iaload, 1) := dk_46 (dk_at dksX4_tick_1 19 rfl rfl)
theorem dX4_tick_44 : decode cX4_tick 44 = .ok (.istore_n 2, 1) := dk_61 (dk_at dksX4_tick_1 20 rfl rfl)
theorem dX4_tick_45 : decode cX4_tick 45 = .ok (.iconst 0, 1) := dk_3 (dk_at dksX4_tick_1 21 rfl rfl)
theorem dX4_tick_46 : decode cX4_tick 46 = .ok (.istore_n 3, 1) := dk_62 (dk_at dksX4_tick_1 22 rfl rfl)
theorem dX4_tick_47 : decode cX4_tick 47 = .ok (.iload_n 3, 1) := dk_29 (dk_at dksX4_tick_1 23 rfl rfl)
theorem dX4_tick_48 : decode cX4_tick 48 = .ok (.iload_n 1, 1) := dk_27 (dk_at dksX4_tick_2 0 rfl rfl)
theorem dX4_tick_49 : decode cX4_tick 49 = .ok (.if_icmp .ge 13, 3) := dk_162 0 13 (dk_at dksX4_tick_2 1 rfl rfl)
theorem dX4_tick_52 : decode cX4_tick 52 = .ok (.aload_n 0, 1) := dk_42 (dk_at dksX4_tick_2 4 rfl rfl)
theorem dX4_tick_53 : decode cX4_tick 53 = .ok (.invokevirtual 356, 3) := dk_182 1 100 (dk_at dksX4_tick_2 5 rfl rfl)
theorem dX4_tick_56 : decode cX4_tick 56 = .ok (.iinc 3 1, 3) := dk_132 3 1 (dk_at dksX4_tick_2 8 rfl rfl)
theorem dX4_tick_59 : decode cX4_tick 59 = .ok (.goto (-12), 3) := dk_167 255 244 (dk_at dksX4_tick_2 11 rfl rfl)
theorem dX4_tick_62 : decode cX4_tick 62 = .ok (.aload_n 0, 1) := dk_42 (dk_at dksX4_tick_2 14 rfl rfl)
theorem dX4_tick_63 : decode cX4_tick 63 = .ok (.getfield 7, 3) := dk_180 0 7 (dk_at dksX4_tick_2 15 rfl rfl)
theorem dX4_tick_66 : decode cX4_tick 66 = .ok (.sipush 288, 3) := dk_17 1 32 (dk_at dksX4_tick_2 18 rfl rfl)
theorem dX4_tick_69 : decode cX4_tick 69 = .ok (.iaload, 1) := dk_46 (dk_at dksX4_tick_2 21 rfl rfl)
theorem dX4_tick_70 : decode cX4_tick 70 = .ok (.iload_n 2, 1) := dk_28 (dk_at dksX4_tick_2 22 rfl rfl)
theorem dX4_tick_71 : decode cX4_tick 71 = .ok (.isub, 1) := dk_100 (dk_at dksX4_tick_2 23 rfl rfl)
theorem dX4_tick_72 : decode cX4_tick 72 = .ok (.ireturn, 1) := dk_172 (dk_at dksX4_tick_3 0 rfl rfl)
abbrev cX4_ticks : ByteArray := prog_19_method_79_code
def yX4_ticks : MethodName := ⟨RX4, "ticks", "()V"⟩
def dkwX4_ticks_11 : List UInt8 := [28, 22, 5, 21, 8, 22, 12, 22, 14, 42, 180, 0, 7, 17, 1, 31, 46, 182, 1, 93, 177]
abbrev dktX4_ticks_11 : List UInt8 := dkwX4_ticks_11 ++ []
def dkwX4_ticks_10 : List UInt8 := [27, 33, 21, 7, 22, 10, 20, 0, 251, 22, 14, 101, 42, 180, 0, 7, 17, 1, 31, 46, 182, 1, 93, 42]
abbrev dktX4_ticks_10 : List UInt8 := dkwX4_ticks_10 ++ dktX4_ticks_11
def dkwX4_ticks_9 : List UInt8 := [42, 180, 0, 7, 16, 9, 46, 5, 182, 0, 177, 160, 0, 7, 42, 182, 1, 74, 21, 9, 153, 0, 27, 42]
abbrev dktX4_ticks_9 : List UInt8 := dkwX4_ticks_9 ++ dktX4_ticks_10
def dkwX4_ticks_8 : List UInt8 := [180, 0, 7, 16, 10, 92, 46, 4, 96, 79, 42, 182, 1, 19, 55, 14, 42, 180, 0, 7, 16, 10, 46, 42]
abbrev dktX4_ticks_8 : List UInt8 := dkwX4_ticks_8 ++ dktX4_ticks_9
def dkwX4_ticks_7 : List UInt8 := [54, 9, 42, 182, 1, 97, 42, 16, 12, 182, 1, 1, 55, 10, 42, 16, 16, 182, 1, 1, 55, 12, 42]
abbrev dktX4_ticks_7 : List UInt8 := dkwX4_ticks_7 ++ dktX4_ticks_8
def dkwX4_ticks_6 : List UInt8 := [17, 1, 31, 46, 182, 1, 93, 177, 42, 180, 0, 7, 16, 20, 46, 154, 0, 7, 4, 167, 0, 4, 3]
abbrev dktX4_ticks_6 : List UInt8 := dkwX4_ticks_6 ++ dktX4_ticks_7
def dkwX4_ticks_5 : List UInt8 := [182, 1, 87, 182, 1, 90, 42, 27, 33, 21, 7, 42, 16, 12, 182, 1, 1, 20, 0, 251, 42, 180, 0, 7]
abbrev dktX4_ticks_5 : List UInt8 := dkwX4_ticks_5 ++ dktX4_ticks_6
def dkwX4_ticks_4 : List UInt8 := [167, 0, 4, 3, 54, 8, 42, 180, 0, 7, 16, 8, 46, 154, 0, 41, 42, 16, 12, 42, 16, 12]
abbrev dktX4_ticks_4 : List UInt8 := dkwX4_ticks_4 ++ dktX4_ticks_5
def dkwX4_ticks_3 : List UInt8 := [160, 0, 7, 4, 167, 0, 4, 3, 54, 7, 42, 180, 0, 7, 16, 19, 46, 4, 160, 0, 7, 4]
abbrev dktX4_ticks_3 : List UInt8 := dkwX4_ticks_3 ++ dktX4_ticks_4
def dkwX4_ticks_2 : List UInt8 := [16, 12, 182, 1, 1, 66, 42, 16, 16, 182, 1, 1, 55, 5, 42, 180, 0, 7, 16, 15, 46, 4]
abbrev dktX4_ticks_2 : List UInt8 := dkwX4_ticks_2 ++ dktX4_ticks_3
def dkwX4_ticks_1 : List UInt8 := [132, 1, 1, 167, 255, 243, 42, 180, 0, 7, 16, 12, 46, 60, 42, 180, 0, 7, 16, 16, 46, 61, 42]
abbrev dktX4_ticks_1 : List UInt8 := dkwX4_ticks_1 ++ dktX4_ticks_2
def dkwX4_ticks_0 : List UInt8 := [42, 180, 0, 7, 17, 1, 31, 92, 46, 4, 96, 79, 3, 60, 27, 7, 162, 0, 14, 42, 182, 1, 84, 61]
abbrev dktX4_ticks_0 : List UInt8 := dkwX4_ticks_0 ++ dktX4_ticks_1
theorem dksX4_ticks_0 : cX4_ticks.data.toList.drop 0 = dktX4_ticks_0 := by decide +kernel
theorem dksX4_ticks_1 : cX4_ticks.data.toList.drop 24 = dktX4_ticks_1 := dk_seg dksX4_ticks_0 24 rfl rfl
theorem dksX4_ticks_2 : cX4_ticks.data.toList.drop 47 = dktX4_ticks_2 := dk_seg dksX4_ticks_1 23 rfl rfl
theorem dksX4_ticks_3 : cX4_ticks.data.toList.drop 69 = dktX4_ticks_3 := dk_seg dksX4_ticks_2 22 rfl rfl
theorem dksX4_ticks_4 : cX4_ticks.data.toList.drop 91 = dktX4_ticks_4 := dk_seg dksX4_ticks_3 22 rfl rfl
theorem dksX4_ticks_5 : cX4_ticks.data.toList.drop 113 = dktX4_ticks_5 := dk_seg dksX4_ticks_4 22 rfl rfl
theorem dksX4_ticks_6 : cX4_ticks.data.toList.drop 137 = dktX4_ticks_6 := dk_seg dksX4_ticks_5 24 rfl rfl
theorem dksX4_ticks_7 : cX4_ticks.data.toList.drop 160 = dktX4_ticks_7 := dk_seg dksX4_ticks_6 23 rfl rfl
theorem dksX4_ticks_8 : cX4_ticks.data.toList.drop 183 = dktX4_ticks_8 := dk_seg dksX4_ticks_7 23 rfl rfl
theorem dksX4_ticks_9 : cX4_ticks.data.toList.drop 207 = dktX4_ticks_9 := dk_seg dksX4_ticks_8 24 rfl rfl
theorem dksX4_ticks_10 : cX4_ticks.data.toList.drop 231 = dktX4_ticks_10 := dk_seg dksX4_ticks_9 24 rfl rfl
theorem dksX4_ticks_11 : cX4_ticks.data.toList.drop 255 = dktX4_ticks_11 := dk_seg dksX4_ticks_10 24 rfl rfl
theorem dX4_ticks_0 : decode cX4_ticks 0 = .ok (.aload_n 0, 1) := dk_42 (dk_at dksX4_ticks_0 0 rfl rfl)
theorem dX4_ticks_1 : decode cX4_ticks 1 = .ok (.getfield 7, 3) := dk_180 0 7 (dk_at dksX4_ticks_0 1 rfl rfl)
theorem dX4_ticks_4 : decode cX4_ticks 4 = .ok (.sipush 287, 3) := dk_17 1 31 (dk_at dksX4_ticks_0 4 rfl rfl)
theorem dX4_ticks_7 : decode cX4_ticks 7 = .ok (.dup2, 1) := dk_92 (dk_at dksX4_ticks_0 7 rfl rfl)
theorem dX4_ticks_8 : decode cX4_ticks 8 = .ok (.iaload, 1) := dk_46 (dk_at dksX4_ticks_0 8 rfl rfl)
theorem dX4_ticks_9 : decode cX4_ticks 9 = .ok (.iconst 1, 1) := dk_4 (dk_at dksX4_ticks_0 9 rfl rfl)
theorem dX4_ticks_10 : decode cX4_ticks 10 = .ok (.iadd, 1) := dk_96 (dk_at dksX4_ticks_0 10 rfl rfl)
theorem dX4_ticks_11 : decode cX4_ticks 11 = .ok (.iastore, 1) := dk_79 (dk_at dksX4_ticks_0 11 rfl rfl)
theorem dX4_ticks_12 : decode cX4_ticks 12 = .ok (.iconst 0, 1) := dk_3 (dk_at dksX4_ticks_0 12 rfl rfl)
theorem dX4_ticks_13 : decode cX4_ticks 13 = .ok (.istore_n 1, 1) := dk_60 (dk_at dksX4_ticks_0 13 rfl rfl)
theorem dX4_ticks_14 : decode cX4_ticks 14 = .ok (.iload_n 1, 1) := dk_27 (dk_at dksX4_ticks_0 14 rfl rfl)
theorem dX4_ticks_15 : decode cX4_ticks 15 = .ok (.iconst 4, 1) := dk_7 (dk_at dksX4_ticks_0 15 rfl rfl)
theorem dX4_ticks_16 : decode cX4_ticks 16 = .ok (.if_icmp .ge 14, 3) := dk_162 0 14 (dk_at dksX4_ticks_0 16 rfl rfl)
theorem dX4_ticks_19 : decode cX4_ticks 19 = .ok (.aload_n 0, 1) := dk_42 (dk_at dksX4_ticks_0 19 rfl rfl)
theorem dX4_ticks_20 : decode cX4_ticks 20 = .ok (.invokevirtual 340, 3) := dk_182 1 84 (dk_at dksX4_ticks_0 20 rfl rfl)
theorem dX4_ticks_23 : decode cX4_ticks 23 = .ok (.istore_n 2, 1) := dk_61 (dk_at dksX4_ticks_0 23 rfl rfl)
theorem dX4_ticks_24 : decode cX4_ticks 24 = .ok (.iinc 1 1, 3) := dk_132 1 1 (dk_at dksX4_ticks_1 0 rfl rfl)
theorem dX4_ticks_27 : decode cX4_ticks 27 = .ok (.goto (-13), 3) := dk_167 255 243 (dk_at dksX4_ticks_1 3 rfl rfl)
theorem dX4_ticks_30 : decode cX4_ticks 30 = .ok (.aload_n 0, 1) := dk_42 (dk_at dksX4_ticks_1 6 rfl rfl)
theorem dX4_ticks_31 : decode cX4_ticks 31 = .ok (.getfield 7, 3) := dk_180 0 7 (dk_at dksX4_ticks_1 7 rfl rfl)
theorem dX4_ticks_34 : decode cX4_ticks 34 = .ok (.bipush 12, 2) := dk_16 12 (dk_at dksX4_ticks_1 10 rfl rfl)
theorem dX4_ticks_36 : decode cX4_ticks 36 = .ok (.iaload, 1) := dk_46 (dk_at dksX4_ticks_1 12 rfl rfl)
theorem dX4_ticks_37 : decode cX4_ticks 37 = .ok (.istore_n 1, 1) := dk_60 (dk_at dksX4_ticks_1 13 rfl rfl)
theorem dX4_ticks_38 : decode cX4_ticks 38 = .ok (.aload_n 0, 1) := dk_42 (dk_at dksX4_ticks_1 14 rfl rfl)
theorem dX4_ticks_39 : decode cX4_ticks 39 = .ok (.getfield 7, 3) := dk_180 0 7 (dk_at dksX4_ticks_1 15 rfl rfl)
theorem dX4_ticks_42 : decode cX4_ticks 42 = .ok (.bipush 16, 2) := dk_16 16 (dk_at dksX4_ticks_1 18 rfl rfl)
theorem dX4_ticks_44 : decode cX4_ticks 44 = .ok (.iaload, 1) := dk_46 (dk_at dksX4_ticks_1 20 rfl rfl)
theorem dX4_ticks_45 : decode cX4_ticks 45 = .ok (.istore_n 2, 1) := dk_61 (dk_at dksX4_ticks_1 21 rfl rfl)
theorem dX4_ticks_46 : decode cX4_ticks 46 = .ok (.aload_n 0, 1) := dk_42 (dk_at dksX4_ticks_1 22 rfl rfl)
theorem dX4_ticks_47 : decode cX4_ticks 47 = .ok (.bipush 12, 2) := dk_16 12 (dk_at dksX4_ticks_2 0 rfl rfl)
theorem dX4_ticks_49 : decode cX4_ticks 49 = .ok (.invokevirtual 257, 3) := dk_182 1 1 (dk_at dksX4_ticks_2 2 rfl rfl)
theorem dX4_ticks_52 : decode cX4_ticks 52 = .ok (.lstore_n 3, 1) := dk_66 (dk_at dksX4_ticks_2 5 rfl rfl)
theorem dX4_ticks_53 : decode cX4_ticks 53 = .ok (.aload_n 0, 1) := dk_42 (dk_at dksX4_ticks_2 6 rfl rfl)
theorem dX4_ticks_54 : decode cX4_ticks 54 = .ok (.bipush 16, 2) := dk_16 16 (dk_at dksX4_ticks_2 7 rfl rfl)
theorem dX4_ticks_56 : decode cX4_ticks 56 = .ok (.invokevirtual 257, 3) := dk_182 1 1 (dk_at dksX4_ticks_2 9 rfl rfl)
theorem dX4_ticks_59 : decode cX4_ticks 59 = .ok (.lstore 5, 2) := dk_55 5 (dk_at dksX4_ticks_2 12 rfl rfl)
theorem dX4_ticks_61 : decode cX4_ticks 61 = .ok (.aload_n 0, 1) := dk_42 (dk_at dksX4_ticks_2 14 rfl rfl)
theorem dX4_ticks_62 : decode cX4_ticks 62 = .ok (.getfield 7, 3) := dk_180 0 7 (dk_at dksX4_ticks_2 15 rfl rfl)
theorem dX4_ticks_65 : decode cX4_ticks 65 = .ok (.bipush 15, 2) := dk_16 15 (dk_at dksX4_ticks_2 18 rfl rfl)
theorem dX4_ticks_67 : decode cX4_ticks 67 = .ok (.iaload, 1) := dk_46 (dk_at dksX4_ticks_2 20 rfl rfl)
theorem dX4_ticks_68 : decode cX4_ticks 68 = .ok (.iconst 1, 1) := dk_4 (dk_at dksX4_ticks_2 21 rfl rfl)
theorem dX4_ticks_69 : decode cX4_ticks 69 = .ok (.if_icmp .ne 7, 3) := dk_160 0 7 (dk_at dksX4_ticks_3 0 rfl rfl)
theorem dX4_ticks_72 : decode cX4_ticks 72 = .ok (.iconst 1, 1) := dk_4 (dk_at dksX4_ticks_3 3 rfl rfl)
theorem dX4_ticks_73 : decode cX4_ticks 73 = .ok (.goto 4, 3) := dk_167 0 4 (dk_at dksX4_ticks_3 4 rfl rfl)
theorem dX4_ticks_76 : decode cX4_ticks 76 = .ok (.iconst 0, 1) := dk_3 (dk_at dksX4_ticks_3 7 rfl rfl)
theorem dX4_ticks_77 : decode cX4_ticks 77 = .ok (.istore 7, 2) := dk_54 7 (dk_at dksX4_ticks_3 8 rfl rfl)
theorem dX4_ticks_79 : decode cX4_ticks 79 = .ok (.aload_n 0, 1) := dk_42 (dk_at dksX4_ticks_3 10 rfl rfl)
theorem dX4_ticks_80 : decode cX4_ticks 80 = .ok (.getfield 7, 3) := dk_180 0 7 (dk_at dksX4_ticks_3 11 rfl rfl)
theorem dX4_ticks_83 : decode cX4_ticks 83 = .ok (.bipush 19, 2) := dk_16 19 (dk_at dksX4_ticks_3 14 rfl rfl)
theorem dX4_ticks_85 : decode cX4_ticks 85 = .ok (.iaload, 1) := dk_46 (dk_at dksX4_ticks_3 16 rfl rfl)
theorem dX4_ticks_86 : decode cX4_ticks 86 = .ok (.iconst 1, 1) := dk_4 (dk_at dksX4_ticks_3 17 rfl rfl)
theorem dX4_ticks_87 : decode cX4_ticks 87 = .ok (.if_icmp .ne 7, 3) := dk_160 0 7 (dk_at dksX4_ticks_3 18 rfl rfl)
theorem dX4_ticks_90 : decode cX4_ticks 90 = .ok (.iconst 1, 1) := dk_4 (dk_at dksX4_ticks_3 21 rfl rfl)
theorem dX4_ticks_91 : decode cX4_ticks 91 = .ok (.goto 4, 3) := dk_167 0 4 (dk_at dksX4_ticks_4 0 rfl rfl)
theorem dX4_ticks_94 : decode cX4_ticks 94 = .ok (.iconst 0, 1) := dk_3 (dk_at dksX4_ticks_4 3 rfl rfl)
theorem dX4_ticks_95 : decode cX4_ticks 95 = .ok (.istore 8, 2) := dk_54 8 (dk_at dksX4_ticks_4 4 rfl rfl)
theorem dX4_ticks_97 : decode cX4_ticks 97 = .ok (.aload_n 0, 1) := dk_42 (dk_at dksX4_ticks_4 6 rfl rfl)
theorem dX4_ticks_98 : decode cX4_ticks 98 = .ok (.getfield 7, 3) := dk_180 0 7 (dk_at dksX4_ticks_4 7 rfl rfl)
theorem dX4_ticks_101 : decode cX4_ticks 101 = .ok (.bipush 8, 2) := dk_16 8 (dk_at dksX4_ticks_4 10 rfl rfl)
theorem dX4_ticks_103 : decode cX4_ticks 103 = .ok (.iaload, 1) := dk_46 (dk_at dksX4_ticks_4 12 rfl rfl)
theorem dX4_ticks_104 : decode cX4_ticks 104 = .ok (.ifCond .ne 41, 3) := dk_154 0 41 (dk_at dksX4_ticks_4 13 rfl rfl)
theorem dX4_ticks_107 : decode cX4_ticks 107 = .ok (.aload_n 0, 1) := dk_42 (dk_at dksX4_ticks_4 16 rfl rfl)
theorem dX4_ticks_108 : decode cX4_ticks 108 = .ok (.bipush 12, 2) := dk_16 12 (dk_at dksX4_ticks_4 17 rfl rfl)
theorem dX4_ticks_110 : decode cX4_ticks 110 = .ok (.aload_n 0, 1) := dk_42 (dk_at dksX4_ticks_4 19 rfl rfl)
theorem dX4_ticks_111 : decode cX4_ticks 111 = .ok (.bipush 12, 2) := dk_16 12 (dk_at dksX4_ticks_4 20 rfl rfl)
theorem dX4_ticks_113 : decode cX4_ticks 113 = .ok (.invokevirtual 343, 3) := dk_182 1 87 (dk_at dksX4_ticks_5 0 rfl rfl)
theorem dX4_ticks_116 : decode cX4_ticks 116 = .ok (.invokevirtual 346, 3) := dk_182 1 90 (dk_at dksX4_ticks_5 3 rfl rfl)
theorem dX4_ticks_119 : decode cX4_ticks 119 = .ok (.aload_n 0, 1) := dk_42 (dk_at dksX4_ticks_5 6 rfl rfl)
theorem dX4_ticks_120 : decode cX4_ticks 120 = .ok (.iload_n 1, 1) := dk_27 (dk_at dksX4_ticks_5 7 rfl rfl)
theorem dX4_ticks_121 : decode cX4_ticks 121 = .ok (.lload_n 3, 1) := dk_33 (dk_at dksX4_ticks_5 8 rfl rfl)
theorem dX4_ticks_122 : decode cX4_ticks 122 = .ok (.iload 7, 2) := dk_21 7 (dk_at dksX4_ticks_5 9 rfl rfl)
theorem dX4_ticks_124 : decode cX4_ticks 124 = .ok (.aload_n 0, 1) := dk_42 (dk_at dksX4_ticks_5 11 rfl rfl)
theorem dX4_ticks_125 : decode cX4_ticks 125 = .ok (.bipush 12, 2) := dk_16 12 (dk_at dksX4_ticks_5 12 rfl rfl)
theorem dX4_ticks_127 : decode cX4_ticks 127 = .ok (.invokevirtual 257, 3) := dk_182 1 1 (dk_at dksX4_ticks_5 14 rfl rfl)
theorem dX4_ticks_130 : decode cX4_ticks 130 = .ok (.ldc2_w 251, 3) := dk_20 0 251 (dk_at dksX4_ticks_5 17 rfl rfl)
theorem dX4_ticks_133 : decode cX4_ticks 133 = .ok (.aload_n 0, 1) := dk_42 (dk_at dksX4_ticks_5 20 rfl rfl)
theorem dX4_ticks_134 : decode cX4_ticks 134 = .ok (.getfield 7, 3) := dk_180 0 7 (dk_at dksX4_ticks_5 21 rfl rfl)
theorem dX4_ticks_137 : decode cX4_ticks 137 = .ok (.sipush 287, 3) := dk_17 1 31 (dk_at dksX4_ticks_6 0 rfl rfl)
theorem dX4_ticks_140 : decode cX4_ticks 140 = .ok (.iaload, 1) := dk_46 (dk_at dksX4_ticks_6 3 rfl rfl)
theorem dX4_ticks_141 : decode cX4_ticks 141 = .ok (.invokevirtual 349, 3) := dk_182 1 93 (dk_at dksX4_ticks_6 4 rfl rfl)
theorem dX4_ticks_144 : decode cX4_ticks 144 = .ok (.return_, 1) := dk_177 (dk_at dksX4_ticks_6 7 rfl rfl)
theorem dX4_ticks_145 : decode cX4_ticks 145 = .ok (.aload_n 0, 1) := dk_42 (dk_at dksX4_ticks_6 8 rfl rfl)
theorem dX4_ticks_146 : decode cX4_ticks 146 = .ok (.getfield 7, 3) := dk_180 0 7 (dk_at dksX4_ticks_6 9 rfl rfl)
theorem dX4_ticks_149 : decode cX4_ticks 149 = .ok (.bipush 20, 2) := dk_16 20 (dk_at dksX4_ticks_6 12 rfl rfl)
theorem dX4_ticks_151 : decode cX4_ticks 151 = .ok (.iaload, 1) := dk_46 (dk_at dksX4_ticks_6 14 rfl rfl)
theorem dX4_ticks_152 : decode cX4_ticks 152 = .ok (.ifCond .ne 7, 3) := dk_154 0 7 (dk_at dksX4_ticks_6 15 rfl rfl)
theorem dX4_ticks_155 : decode cX4_ticks 155 = .ok (.iconst 1, 1) := dk_4 (dk_at dksX4_ticks_6 18 rfl rfl)
theorem dX4_ticks_156 : decode cX4_ticks 156 = .ok (.goto 4, 3) := dk_167 0 4 (dk_at dksX4_ticks_6 19 rfl rfl)
theorem dX4_ticks_159 : decode cX4_ticks 159 = .ok (.iconst 0, 1) := dk_3 (dk_at dksX4_ticks_6 22 rfl rfl)
theorem dX4_ticks_160 : decode cX4_ticks 160 = .ok (.istore 9, 2) := dk_54 9 (dk_at dksX4_ticks_7 0 rfl rfl)
theorem dX4_ticks_162 : decode cX4_ticks 162 = .ok (.aload_n 0, 1) := dk_42 (dk_at dksX4_ticks_7 2 rfl rfl)
theorem dX4_ticks_163 : decode cX4_ticks 163 = .ok (.invokevirtual 353, 3) := dk_182 1 97 (dk_at dksX4_ticks_7 3 rfl rfl)
theorem dX4_ticks_166 : decode cX4_ticks 166 = .ok (.aload_n 0, 1) := dk_42 (dk_at dksX4_ticks_7 6 rfl rfl)
theorem dX4_ticks_167 : decode cX4_ticks 167 = .ok (.bipush 12, 2) := dk_16 12 (dk_at dksX4_ticks_7 7 rfl rfl)
theorem dX4_ticks_169 : decode cX4_ticks 169 = .ok (.invokevirtual 257, 3) := dk_182 1 1 (dk_at dksX4_ticks_7 9 rfl rfl)
theorem dX4_ticks_172 : decode cX4_ticks 172 = .ok (.lstore 10, 2) := dk_55 10 (dk_at dksX4_ticks_7 12 rfl rfl)
theorem dX4_ticks_174 : decode cX4_ticks 174 = .ok (.aload_n 0, 1) := dk_42 (dk_at dksX4_ticks_7 14 rfl rfl)
theorem dX4_ticks_175 : decode cX4_ticks 175 = .ok (.bipush 16, 2) := dk_16 16 (dk_at dksX4_ticks_7 15 rfl rfl)
theorem dX4_ticks_177 : decode cX4_ticks 177 = .ok (.invokevirtual 257, 3) := dk_182 1 1 (dk_at dksX4_ticks_7 17 rfl rfl)
theorem dX4_ticks_180 : decode cX4_ticks 180 = .ok (.lstore 12, 2) := dk_55 12 (dk_at dksX4_ticks_7 20 rfl rfl)
theorem dX4_ticks_182 : decode cX4_ticks 182 = .ok (.aload_n 0, 1) := dk_42 (dk_at dksX4_ticks_7 22 rfl rfl)
theorem dX4_ticks_183 : decode cX4_ticks 183 = .ok (.getfield 7, 3) := dk_180 0 7 (dk_at dksX4_ticks_8 0 rfl rfl)
theorem dX4_ticks_186 : decode cX4_ticks 186 = .ok (.bipush 10, 2) := dk_16 10 (dk_at dksX4_ticks_8 3 rfl rfl)
theorem dX4_ticks_188 : decode cX4_ticks 188 = .ok (.dup2, 1) := dk_92 (dk_at dksX4_ticks_8 5 rfl rfl)
theorem dX4_ticks_189 : decode cX4_ticks 189 = .ok (.iaload, 1) := dk_46 (dk_at dksX4_ticks_8 6 rfl rfl)
theorem dX4_ticks_190 : decode cX4_ticks 190 = .ok (.iconst 1, 1) := dk_4 (dk_at dksX4_ticks_8 7 rfl rfl)
theorem dX4_ticks_191 : decode cX4_ticks 191 = .ok (.iadd, 1) := dk_96 (dk_at dksX4_ticks_8 8 rfl rfl)
theorem dX4_ticks_192 : decode cX4_ticks 192 = .ok (.iastore, 1) := dk_79 (dk_at dksX4_ticks_8 9 rfl rfl)
theorem dX4_ticks_193 : decode cX4_ticks 193 = .ok (.aload_n 0, 1) := dk_42 (dk_at dksX4_ticks_8 10 rfl rfl)
theorem dX4_ticks_194 : decode cX4_ticks 194 = .ok (.invokevirtual 275, 3) := dk_182 1 19 (dk_at dksX4_ticks_8 11 rfl rfl)
theorem dX4_ticks_197 : decode cX4_ticks 197 = .ok (.lstore 14, 2) := dk_55 14 (dk_at dksX4_ticks_8 14 rfl rfl)
theorem dX4_ticks_199 : decode cX4_ticks 199 = .ok (.aload_n 0, 1) := dk_42 (dk_at dksX4_ticks_8 16 rfl rfl)
theorem dX4_ticks_200 : decode cX4_ticks 200 = .ok (.getfield 7, 3) := dk_180 0 7 (dk_at dksX4_ticks_8 17 rfl rfl)
theorem dX4_ticks_203 : decode cX4_ticks 203 = .ok (.bipush 10, 2) := dk_16 10 (dk_at dksX4_ticks_8 20 rfl rfl)
theorem dX4_ticks_205 : decode cX4_ticks 205 = .ok (.iaload, 1) := dk_46 (dk_at dksX4_ticks_8 22 rfl rfl)
theorem dX4_ticks_206 : decode cX4_ticks 206 = .ok (.aload_n 0, 1) := dk_42 (dk_at dksX4_ticks_8 23 rfl rfl)
theorem dX4_ticks_207 : decode cX4_ticks 207 = .ok (.aload_n 0, 1) := dk_42 (dk_at dksX4_ticks_9 0 rfl rfl)
theorem dX4_ticks_208 : decode cX4_ticks 208 = .ok (.getfield 7, 3) := dk_180 0 7 (dk_at dksX4_ticks_9 1 rfl rfl)
theorem dX4_ticks_211 : decode cX4_ticks 211 = .ok (.bipush 9, 2) := dk_16 9 (dk_at dksX4_ticks_9 4 rfl rfl)
theorem dX4_ticks_213 : decode cX4_ticks 213 = .ok (.iaload, 1) := dk_46 (dk_at dksX4_ticks_9 6 rfl rfl)
theorem dX4_ticks_214 : decode cX4_ticks 214 = .ok (.iconst 2, 1) := dk_5 (dk_at dksX4_ticks_9 7 rfl rfl)
theorem dX4_ticks_215 : decode cX4_ticks 215 = .ok (.invokevirtual 177, 3) := dk_182 0 177 (dk_at dksX4_ticks_9 8 rfl rfl)
theorem dX4_ticks_218 : decode cX4_ticks 218 = .ok (.if_icmp .ne 7, 3) := dk_160 0 7 (dk_at dksX4_ticks_9 11 rfl rfl)
theorem dX4_ticks_221 : decode cX4_ticks 221 = .ok (.aload_n 0, 1) := dk_42 (dk_at dksX4_ticks_9 14 rfl rfl)
theorem dX4_ticks_222 : decode cX4_ticks 222 = .ok (.invokevirtual 330, 3) := dk_182 1 74 (dk_at dksX4_ticks_9 15 rfl rfl)
theorem dX4_ticks_225 : decode cX4_ticks 225 = .ok (.iload 9, 2) := dk_21 9 (dk_at dksX4_ticks_9 18 rfl rfl)
theorem dX4_ticks_227 : decode cX4_ticks 227 = .ok (.ifCond .eq 27, 3) := dk_153 0 27 (dk_at dksX4_ticks_9 20 rfl rfl)
theorem dX4_ticks_230 : decode cX4_ticks 230 = .ok (.aload_n 0, 1) := dk_42 (dk_at dksX4_ticks_9 23 rfl rfl)
theorem dX4_ticks_231 : decode cX4_ticks 231 = .ok (.iload_n 1, 1) := dk_27 (dk_at dksX4_ticks_10 0 rfl rfl)
theorem dX4_ticks_232 : decode cX4_ticks 232 = .ok (.lload_n 3, 1) := dk_33 (dk_at dksX4_ticks_10 1 rfl rfl)
theorem dX4_ticks_233 : decode cX4_ticks 233 = .ok (.iload 7, 2) := dk_21 7 (dk_at dksX4_ticks_10 2 rfl rfl)
theorem dX4_ticks_235 : decode cX4_ticks 235 = .ok (.lload 10, 2) := dk_22 10 (dk_at dksX4_ticks_10 4 rfl rfl)
theorem dX4_ticks_237 : decode cX4_ticks 237 = .ok (.ldc2_w 251, 3) := dk_20 0 251 (dk_at dksX4_ticks_10 6 rfl rfl)
theorem dX4_ticks_240 : decode cX4_ticks 240 = .ok (.lload 14, 2) := dk_22 14 (dk_at dksX4_ticks_10 9 rfl rfl)
theorem dX4_ticks_242 : decode cX4_ticks 242 = .ok (.lsub, 1) := dk_101 (dk_at dksX4_ticks_10 11 rfl rfl)
theorem dX4_ticks_243 : decode cX4_ticks 243 = .ok (.aload_n 0, 1) := dk_42 (dk_at dksX4_ticks_10 12 rfl rfl)
theorem dX4_ticks_244 : decode cX4_ticks 244 = .ok (.getfield 7, 3) := dk_180 0 7 (dk_at dksX4_ticks_10 13 rfl rfl)
theorem dX4_ticks_247 : decode cX4_ticks 247 = .ok (.sipush 287, 3) := dk_17 1 31 (dk_at dksX4_ticks_10 16 rfl rfl)
theorem dX4_ticks_250 : decode cX4_ticks 250 = .ok (.iaload, 1) := dk_46 (dk_at dksX4_ticks_10 19 rfl rfl)
theorem dX4_ticks_251 : decode cX4_ticks 251 = .ok (.invokevirtual 349, 3) := dk_182 1 93 (dk_at dksX4_ticks_10 20 rfl rfl)
theorem dX4_ticks_254 : decode cX4_ticks 254 = .ok (.aload_n 0, 1) := dk_42 (dk_at dksX4_ticks_10 23 rfl rfl)
theorem dX4_ticks_255 : decode cX4_ticks 255 = .ok (.iload_n 2, 1) := dk_28 (dk_at dksX4_ticks_11 0 rfl rfl)
theorem dX4_ticks_256 : decode cX4_ticks 256 = .ok (.lload 5, 2) := dk_22 5 (dk_at dksX4_ticks_11 1 rfl rfl)
theorem dX4_ticks_258 : decode cX4_ticks 258 = .ok (.iload 8, 2) := dk_21 8 (dk_at dksX4_ticks_11 3 rfl rfl)
theorem dX4_ticks_260 : decode cX4_ticks 260 = .ok (.lload 12, 2) := dk_22 12 (dk_at dksX4_ticks_11 5 rfl rfl)
theorem dX4_ticks_262 : decode cX4_ticks 262 = .ok (.lload 14, 2) := dk_22 14 (dk_at dksX4_ticks_11 7 rfl rfl)
theorem dX4_ticks_264 : decode cX4_ticks 264 = .ok (.aload_n 0, 1) := dk_42 (dk_at dksX4_ticks_11 9 rfl rfl)
theorem dX4_ticks_265 : decode cX4_ticks 265 = .ok (.getfield 7, 3) := dk_180 0 7 (dk_at dksX4_ticks_11 10 rfl rfl)
theorem dX4_ticks_268 : decode cX4_ticks 268 = .ok (.sipush 287, 3) := dk_17 1 31 (dk_at dksX4_ticks_11 13 rfl rfl)
theorem dX4_ticks_271 : decode cX4_ticks 271 = .ok (.iaload, 1) := dk_46 (dk_at dksX4_ticks_11 16 rfl rfl)
theorem dX4_ticks_272 : decode cX4_ticks 272 = .ok (.invokevirtual 349, 3) := dk_182 1 93 (dk_at dksX4_ticks_11 17 rfl rfl)
theorem dX4_ticks_275 : decode cX4_ticks 275 = .ok (.return_, 1) := dk_177 (dk_at dksX4_ticks_11 20 rfl rfl)
abbrev cX4_takes : ByteArray := prog_19_method_71_code
def yX4_takes : MethodName := ⟨RX4, "takes", "()Z"⟩
def dkwX4_takes_8 : List UInt8 := [182, 1, 63, 4, 172]
abbrev dktX4_takes_8 : List UInt8 := dkwX4_takes_8 ++ []
def dkwX4_takes_7 : List UInt8 := [16, 11, 3, 79, 42, 180, 0, 7, 16, 20, 3, 79, 42, 180, 0, 7, 16, 21, 3, 79, 42, 29]
abbrev dktX4_takes_7 : List UInt8 := dkwX4_takes_7 ++ dktX4_takes_8
def dkwX4_takes_6 : List UInt8 := [42, 180, 0, 7, 16, 8, 46, 4, 160, 0, 11, 42, 28, 182, 1, 60, 167, 0, 27, 42, 180, 0, 7]
abbrev dktX4_takes_6 : List UInt8 := dkwX4_takes_6 ++ dktX4_takes_7
def dkwX4_takes_5 : List UInt8 := [5, 160, 0, 7, 3, 167, 0, 12, 42, 180, 0, 7, 3, 21, 5, 96, 46, 79, 132, 4, 1, 167, 255, 189]
abbrev dktX4_takes_5 : List UInt8 := dkwX4_takes_5 ++ dktX4_takes_6
def dkwX4_takes_4 : List UInt8 := [96, 6, 21, 4, 104, 96, 46, 54, 5, 42, 180, 0, 7, 3, 21, 5, 96, 42, 180, 0, 17, 21, 5, 46]
abbrev dktX4_takes_4 : List UInt8 := dkwX4_takes_4 ++ dktX4_takes_5
def dkwX4_takes_3 : List UInt8 := [54, 4, 21, 4, 42, 29, 16, 7, 182, 0, 177, 162, 0, 61, 42, 180, 0, 59, 16, 17, 29, 104, 16, 8]
abbrev dktX4_takes_3 : List UInt8 := dkwX4_takes_3 ++ dktX4_takes_4
def dkwX4_takes_2 : List UInt8 := [62, 29, 2, 160, 0, 13, 6, 28, 100, 61, 42, 28, 182, 1, 57, 62, 29, 2, 160, 0, 5, 3, 172, 3]
abbrev dktX4_takes_2 : List UInt8 := dkwX4_takes_2 ++ dktX4_takes_3
def dkwX4_takes_1 : List UInt8 := [160, 0, 7, 4, 167, 0, 4, 3, 60, 27, 153, 0, 7, 5, 167, 0, 4, 4, 61, 42, 28, 182, 1, 57]
abbrev dktX4_takes_1 : List UInt8 := dkwX4_takes_1 ++ dktX4_takes_2
def dkwX4_takes_0 : List UInt8 := [42, 180, 0, 7, 16, 8, 46, 4, 160, 0, 23, 42, 42, 180, 0, 7, 16, 9, 46, 8, 182, 0, 177, 7]
abbrev dktX4_takes_0 : List UInt8 := dkwX4_takes_0 ++ dktX4_takes_1
theorem dksX4_takes_0 : cX4_takes.data.toList.drop 0 = dktX4_takes_0 := by decide +kernel
theorem dksX4_takes_1 : cX4_takes.data.toList.drop 24 = dktX4_takes_1 := dk_seg dksX4_takes_0 24 rfl rfl
theorem dksX4_takes_2 : cX4_takes.data.toList.drop 48 = dktX4_takes_2 := dk_seg dksX4_takes_1 24 rfl rfl
theorem dksX4_takes_3 : cX4_takes.data.toList.drop 72 = dktX4_takes_3 := dk_seg dksX4_takes_2 24 rfl rfl
theorem dksX4_takes_4 : cX4_takes.data.toList.drop 96 = dktX4_takes_4 := dk_seg dksX4_takes_3 24 rfl rfl
theorem dksX4_takes_5 : cX4_takes.data.toList.drop 120 = dktX4_takes_5 := dk_seg dksX4_takes_4 24 rfl rfl
theorem dksX4_takes_6 : cX4_takes.data.toList.drop 144 = dktX4_takes_6 := dk_seg dksX4_takes_5 24 rfl rfl
theorem dksX4_takes_7 : cX4_takes.data.toList.drop 167 = dktX4_takes_7 := dk_seg dksX4_takes_6 23 rfl rfl
theorem dksX4_takes_8 : cX4_takes.data.toList.drop 189 = dktX4_takes_8 := dk_seg dksX4_takes_7 22 rfl rfl
theorem dX4_takes_0 : decode cX4_takes 0 = .ok (.aload_n 0, 1) := dk_42 (dk_at dksX4_takes_0 0 rfl rfl)
theorem dX4_takes_1 : decode cX4_takes 1 = .ok (.getfield 7, 3) := dk_180 0 7 (dk_at dksX4_takes_0 1 rfl rfl)
theorem dX4_takes_4 : decode cX4_takes 4 = .ok (.bipush 8, 2) := dk_16 8 (dk_at dksX4_takes_0 4 rfl rfl)
theorem dX4_takes_6 : decode cX4_takes 6 = .ok (.iaload, 1) := dk_46 (dk_at dksX4_takes_0 6 rfl rfl)
theorem dX4_takes_7 : decode cX4_takes 7 = .ok (.iconst 1, 1) := dk_4 (dk_at dksX4_takes_0 7 rfl rfl)
theorem dX4_takes_8 : decode cX4_takes 8 = .ok (.if_icmp .ne 23, 3) := dk_160 0 23 (dk_at dksX4_takes_0 8 rfl rfl)
theorem dX4_takes_11 : decode cX4_takes 11 = .ok (.aload_n 0, 1) := dk_42 (dk_at dksX4_takes_0 11 rfl rfl)
theorem dX4_takes_12 : decode cX4_takes 12 = .ok (.aload_n 0, 1) := dk_42 (dk_at dksX4_takes_0 12 rfl rfl)
theorem dX4_takes_13 : decode cX4_takes 13 = .ok (.getfield 7, 3) := dk_180 0 7 (dk_at dksX4_takes_0 13 rfl rfl)
theorem dX4_takes_16 : decode cX4_takes 16 = .ok (.bipush 9, 2) := dk_16 9 (dk_at dksX4_takes_0 16 rfl rfl)
theorem dX4_takes_18 : decode cX4_takes 18 = .ok (.iaload, 1) := dk_46 (dk_at dksX4_takes_0 18 rfl rfl)
theorem dX4_takes_19 : decode cX4_takes 19 = .ok (.iconst 5, 1) := dk_8 (dk_at dksX4_takes_0 19 rfl rfl)
theorem dX4_takes_20 : decode cX4_takes 20 = .ok (.invokevirtual 177, 3) := dk_182 0 177 (dk_at dksX4_takes_0 20 rfl rfl)
theorem dX4_takes_23 : decode cX4_takes 23 = .ok (.iconst 4, 1) := dk_7 (dk_at dksX4_takes_0 23 rfl rfl)
theorem dX4_takes_24 : decode cX4_takes 24 = .ok (.if_icmp .ne 7, 3) := dk_160 0 7 (dk_at dksX4_takes_1 0 rfl rfl)
theorem dX4_takes_27 : decode cX4_takes 27 = .ok (.iconst 1, 1) := dk_4 (dk_at dksX4_takes_1 3 rfl rfl)
theorem dX4_takes_28 : decode cX4_takes 28 = .ok (.goto 4, 3) := dk_167 0 4 (dk_at dksX4_takes_1 4 rfl rfl)
theorem dX4_takes_31 : decode cX4_takes 31 = .ok (.iconst 0, 1) := dk_3 (dk_at dksX4_takes_1 7 rfl rfl)
theorem dX4_takes_32 : decode cX4_takes 32 = .ok (.istore_n 1, 1) := dk_60 (dk_at dksX4_takes_1 8 rfl rfl)
theorem dX4_takes_33 : decode cX4_takes 33 = .ok (.iload_n 1, 1) := dk_27 (dk_at dksX4_takes_1 9 rfl rfl)
theorem dX4_takes_34 : decode cX4_takes 34 = .ok (.ifCond .eq 7, 3) := dk_153 0 7 (dk_at dksX4_takes_1 10 rfl rfl)
theorem dX4_takes_37 : decode cX4_takes 37 = .ok (.iconst 2, 1) := dk_5 (dk_at dksX4_takes_1 13 rfl rfl)
theorem dX4_takes_38 : decode cX4_takes 38 = .ok (.goto 4, 3) := dk_167 0 4 (dk_at dksX4_takes_1 14 rfl rfl)
theorem dX4_takes_41 : decode cX4_takes 41 = .ok (.iconst 1, 1) := dk_4 (dk_at dksX4_takes_1 17 rfl rfl)
theorem dX4_takes_42 : decode cX4_takes 42 = .ok (.istore_n 2, 1) := dk_61 (dk_at dksX4_takes_1 18 rfl rfl)
theorem dX4_takes_43 : decode cX4_takes 43 = .ok (.aload_n 0, 1) := dk_42 (dk_at dksX4_takes_1 19 rfl rfl)
theorem dX4_takes_44 : decode cX4_takes 44 = .ok (.iload_n 2, 1) := dk_28 (dk_at dksX4_takes_1 20 rfl rfl)
theorem dX4_takes_45 : decode cX4_takes 45 = .ok (.invokevirtual 313, 3) := dk_182 1 57 (dk_at dksX4_takes_1 21 rfl rfl)
theorem dX4_takes_48 : decode cX4_takes 48 = .ok (.istore_n 3, 1) := dk_62 (dk_at dksX4_takes_2 0 rfl rfl)
theorem dX4_takes_49 : decode cX4_takes 49 = .ok (.iload_n 3, 1) := dk_29 (dk_at dksX4_takes_2 1 rfl rfl)
theorem dX4_takes_50 : decode cX4_takes 50 = .ok (.iconst (-1), 1) := dk_2 (dk_at dksX4_takes_2 2 rfl rfl)
theorem dX4_takes_51 : decode cX4_takes 51 = .ok (.if_icmp .ne 13, 3) := dk_160 0 13 (dk_at dksX4_takes_2 3 rfl rfl)
theorem dX4_takes_54 : decode cX4_takes 54 = .ok (.iconst 3, 1) := dk_6 (dk_at dksX4_takes_2 6 rfl rfl)
theorem dX4_takes_55 : decode cX4_takes 55 = .ok (.iload_n 2, 1) := dk_28 (dk_at dksX4_takes_2 7 rfl rfl)
theorem dX4_takes_56 : decode cX4_takes 56 = .ok (.isub, 1) := dk_100 (dk_at dksX4_takes_2 8 rfl rfl)
theorem dX4_takes_57 : decode cX4_takes 57 = .ok (.istore_n 2, 1) := dk_61 (dk_at dksX4_takes_2 9 rfl rfl)
theorem dX4_takes_58 : decode cX4_takes 58 = .ok (.aload_n 0, 1) := dk_42 (dk_at dksX4_takes_2 10 rfl rfl)
theorem dX4_takes_59 : decode cX4_takes 59 = .ok (.iload_n 2, 1) := dk_28 (dk_at dksX4_takes_2 11 rfl rfl)
theorem dX4_takes_60 : decode cX4_takes 60 = .ok (.invokevirtual 313, 3) := dk_182 1 57 (dk_at dksX4_takes_2 12 rfl rfl)
theorem dX4_takes_63 : decode cX4_takes 63 = .ok (.istore_n 3, 1) := dk_62 (dk_at dksX4_takes_2 15 rfl rfl)
theorem dX4_takes_64 : decode cX4_takes 64 = .ok (.iload_n 3, 1) := dk_29 (dk_at dksX4_takes_2 16 rfl rfl)
theorem dX4_takes_65 : decode cX4_takes 65 = .ok (.iconst (-1), 1) := dk_2 (dk_at dksX4_takes_2 17 rfl rfl)
theorem dX4_takes_66 : decode cX4_takes 66 = .ok (.if_icmp .ne 5, 3) := dk_160 0 5 (dk_at dksX4_takes_2 18 rfl rfl)
theorem dX4_takes_69 : decode cX4_takes 69 = .ok (.iconst 0, 1) := dk_3 (dk_at dksX4_takes_2 21 rfl rfl)
theorem dX4_takes_70 : decode cX4_takes 70 = .ok (.ireturn, 1) := dk_172 (dk_at dksX4_takes_2 22 rfl rfl)
theorem dX4_takes_71 : decode cX4_takes 71 = .ok (.iconst 0, 1) := dk_3 (dk_at dksX4_takes_2 23 rfl rfl)
theorem dX4_takes_72 : decode cX4_takes 72 = .ok (.istore 4, 2) := dk_54 4 (dk_at dksX4_takes_3 0 rfl rfl)
theorem dX4_takes_74 : decode cX4_takes 74 = .ok (.iload 4, 2) := dk_21 4 (dk_at dksX4_takes_3 2 rfl rfl)
theorem dX4_takes_76 : decode cX4_takes 76 = .ok (.aload_n 0, 1) := dk_42 (dk_at dksX4_takes_3 4 rfl rfl)
theorem dX4_takes_77 : decode cX4_takes 77 = .ok (.iload_n 3, 1) := dk_29 (dk_at dksX4_takes_3 5 rfl rfl)
theorem dX4_takes_78 : decode cX4_takes 78 = .ok (.bipush 7, 2) := dk_16 7 (dk_at dksX4_takes_3 6 rfl rfl)
theorem dX4_takes_80 : decode cX4_takes 80 = .ok (.invokevirtual 177, 3) := dk_182 0 177 (dk_at dksX4_takes_3 8 rfl rfl)
theorem dX4_takes_83 : decode cX4_takes 83 = .ok (.if_icmp .ge 61, 3) := dk_162 0 61 (dk_at dksX4_takes_3 11 rfl rfl)
theorem dX4_takes_86 : decode cX4_takes 86 = .ok (.aload_n 0, 1) := dk_42 (dk_at dksX4_takes_3 14 rfl rfl)
theorem dX4_takes_87 : decode cX4_takes 87 = .ok (.getfield 59, 3) := dk_180 0 59 (dk_at dksX4_takes_3 15 rfl rfl)
theorem dX4_takes_90 : decode cX4_takes 90 = .ok (.bipush 17, 2) := dk_16 17 (dk_at dksX4_takes_3 18 rfl rfl)
theorem dX4_takes_92 : decode cX4_takes 92 = .ok (.iload_n 3, 1) := dk_29 (dk_at dksX4_takes_3 20 rfl rfl)
theorem dX4_takes_93 : decode cX4_takes 93 = .ok (.imul, 1) := dk_104 (dk_at dksX4_takes_3 21 rfl rfl)
theorem dX4_takes_94 : decode cX4_takes 94 = .ok (.bipush 8, 2) := dk_16 8 (dk_at dksX4_takes_3 22 rfl rfl)
theorem dX4_takes_96 : decode cX4_takes 96 = .ok (.iadd, 1) := dk_96 (dk_at dksX4_takes_4 0 rfl rfl)
theorem dX4_takes_97 : decode cX4_takes 97 = .ok (.iconst 3, 1) := dk_6 (dk_at dksX4_takes_4 1 rfl rfl)
theorem dX4_takes_98 : decode cX4_takes 98 = .ok (.iload 4, 2) := dk_21 4 (dk_at dksX4_takes_4 2 rfl rfl)
theorem dX4_takes_100 : decode cX4_takes 100 = .ok (.imul, 1) := dk_104 (dk_at dksX4_takes_4 4 rfl rfl)
theorem dX4_takes_101 : decode cX4_takes 101 = .ok (.iadd, 1) := dk_96 (dk_at dksX4_takes_4 5 rfl rfl)
theorem dX4_takes_102 : decode cX4_takes 102 = .ok (.iaload, 1) := dk_46 (dk_at dksX4_takes_4 6 rfl rfl)
theorem dX4_takes_103 : decode cX4_takes 103 = .ok (.istore 5, 2) := dk_54 5 (dk_at dksX4_takes_4 7 rfl rfl)
theorem dX4_takes_105 : decode cX4_takes 105 = .ok (.aload_n 0, 1) := dk_42 (dk_at dksX4_takes_4 9 rfl rfl)
theorem dX4_takes_106 : decode cX4_takes 106 = .ok (.getfield 7, 3) := dk_180 0 7 (dk_at dksX4_takes_4 10 rfl rfl)
theorem dX4_takes_109 : decode cX4_takes 109 = .ok (.iconst 0, 1) := dk_3 (dk_at dksX4_takes_4 13 rfl rfl)
theorem dX4_takes_110 : decode cX4_takes 110 = .ok (.iload 5, 2) := dk_21 5 (dk_at dksX4_takes_4 14 rfl rfl)
theorem dX4_takes_112 : decode cX4_takes 112 = .ok (.iadd, 1) := dk_96 (dk_at dksX4_takes_4 16 rfl rfl)
theorem dX4_takes_113 : decode cX4_takes 113 = .ok (.aload_n 0, 1) := dk_42 (dk_at dksX4_takes_4 17 rfl rfl)
theorem dX4_takes_114 : decode cX4_takes 114 = .ok (.getfield 17, 3) := dk_180 0 17 (dk_at dksX4_takes_4 18 rfl rfl)
theorem dX4_takes_117 : decode cX4_takes 117 = .ok (.iload 5, 2) := dk_21 5 (dk_at dksX4_takes_4 21 rfl rfl)
theorem dX4_takes_119 : decode cX4_takes 119 = .ok (.iaload, 1) := dk_46 (dk_at dksX4_takes_4 23 rfl rfl)
theorem dX4_takes_120 : decode cX4_takes 120 = .ok (.iconst 2, 1) := dk_5 (dk_at dksX4_takes_5 0 rfl rfl)
theorem dX4_takes_121 : decode cX4_takes 121 = .ok (.if_icmp .ne 7, 3) := dk_160 0 7 (dk_at dksX4_takes_5 1 rfl rfl)
theorem dX4_takes_124 : decode cX4_takes 124 = .ok (.iconst 0, 1) := dk_3 (dk_at dksX4_takes_5 4 rfl rfl)
theorem dX4_takes_125 : decode cX4_takes 125 = .ok (.goto 12, 3) := dk_167 0 12 (dk_at dksX4_takes_5 5 rfl rfl)
theorem dX4_takes_128 : decode cX4_takes 128 = .ok (.aload_n 0, 1) := dk_42 (dk_at dksX4_takes_5 8 rfl rfl)
theorem dX4_takes_129 : decode cX4_takes 129 = .ok (.getfield 7, 3) := dk_180 0 7 (dk_at dksX4_takes_5 9 rfl rfl)
theorem dX4_takes_132 : decode cX4_takes 132 = .ok (.iconst 0, 1) := dk_3 (dk_at dksX4_takes_5 12 rfl rfl)
theorem dX4_takes_133 : decode cX4_takes 133 = .ok (.iload 5, 2) := dk_21 5 (dk_at dksX4_takes_5 13 rfl rfl)
theorem dX4_takes_135 : decode cX4_takes 135 = .ok (.iadd, 1) := dk_96 (dk_at dksX4_takes_5 15 rfl rfl)
theorem dX4_takes_136 : decode cX4_takes 136 = .ok (.iaload, 1) := dk_46 (dk_at dksX4_takes_5 16 rfl rfl)
theorem dX4_takes_137 : decode cX4_takes 137 = .ok (.iastore, 1) := dk_79 (dk_at dksX4_takes_5 17 rfl rfl)
theorem dX4_takes_138 : decode cX4_takes 138 = .ok (.iinc 4 1, 3) := dk_132 4 1 (dk_at dksX4_takes_5 18 rfl rfl)
theorem dX4_takes_141 : decode cX4_takes 141 = .ok (.goto (-67), 3) := dk_167 255 189 (dk_at dksX4_takes_5 21 rfl rfl)
theorem dX4_takes_144 : decode cX4_takes 144 = .ok (.aload_n 0, 1) := dk_42 (dk_at dksX4_takes_6 0 rfl rfl)
theorem dX4_takes_145 : decode cX4_takes 145 = .ok (.getfield 7, 3) := dk_180 0 7 (dk_at dksX4_takes_6 1 rfl rfl)
theorem dX4_takes_148 : decode cX4_takes 148 = .ok (.bipush 8, 2) := dk_16 8 (dk_at dksX4_takes_6 4 rfl rfl)
theorem dX4_takes_150 : decode cX4_takes 150 = .ok (.iaload, 1) := dk_46 (dk_at dksX4_takes_6 6 rfl rfl)
theorem dX4_takes_151 : decode cX4_takes 151 = .ok (.iconst 1, 1) := dk_4 (dk_at dksX4_takes_6 7 rfl rfl)
theorem dX4_takes_152 : decode cX4_takes 152 = .ok (.if_icmp .ne 11, 3) := dk_160 0 11 (dk_at dksX4_takes_6 8 rfl rfl)
theorem dX4_takes_155 : decode cX4_takes 155 = .ok (.aload_n 0, 1) := dk_42 (dk_at dksX4_takes_6 11 rfl rfl)
theorem dX4_takes_156 : decode cX4_takes 156 = .ok (.iload_n 2, 1) := dk_28 (dk_at dksX4_takes_6 12 rfl rfl)
theorem dX4_takes_157 : decode cX4_takes 157 = .ok (.invokevirtual 316, 3) := dk_182 1 60 (dk_at dksX4_takes_6 13 rfl rfl)
theorem dX4_takes_160 : decode cX4_takes 160 = .ok (.goto 27, 3) := dk_167 0 27 (dk_at dksX4_takes_6 16 rfl rfl)
theorem dX4_takes_163 : decode cX4_takes 163 = .ok (.aload_n 0, 1) := dk_42 (dk_at dksX4_takes_6 19 rfl rfl)
theorem dX4_takes_164 : decode cX4_takes 164 = .ok (.getfield 7, 3) := dk_180 0 7 (dk_at dksX4_takes_6 20 rfl rfl)
theorem dX4_takes_167 : decode cX4_takes 167 = .ok (.bipush 11, 2) := dk_16 11 (dk_at dksX4_takes_7 0 rfl rfl)
theorem dX4_takes_169 : decode cX4_takes 169 = .ok (.iconst 0, 1) := dk_3 (dk_at dksX4_takes_7 2 rfl rfl)
theorem dX4_takes_170 : decode cX4_takes 170 = .ok (.iastore, 1) := dk_79 (dk_at dksX4_takes_7 3 rfl rfl)
theorem dX4_takes_171 : decode cX4_takes 171 = .ok (.aload_n 0, 1) := dk_42 (dk_at dksX4_takes_7 4 rfl rfl)
theorem dX4_takes_172 : decode cX4_takes 172 = .ok (.getfield 7, 3) := dk_180 0 7 (dk_at dksX4_takes_7 5 rfl rfl)
theorem dX4_takes_175 : decode cX4_takes 175 = .ok (.bipush 20, 2) := dk_16 20 (dk_at dksX4_takes_7 8 rfl rfl)
theorem dX4_takes_177 : decode cX4_takes 177 = .ok (.iconst 0, 1) := dk_3 (dk_at dksX4_takes_7 10 rfl rfl)
theorem dX4_takes_178 : decode cX4_takes 178 = .ok (.iastore, 1) := dk_79 (dk_at dksX4_takes_7 11 rfl rfl)
theorem dX4_takes_179 : decode cX4_takes 179 = .ok (.aload_n 0, 1) := dk_42 (dk_at dksX4_takes_7 12 rfl rfl)
theorem dX4_takes_180 : decode cX4_takes 180 = .ok (.getfield 7, 3) := dk_180 0 7 (dk_at dksX4_takes_7 13 rfl rfl)
theorem dX4_takes_183 : decode cX4_takes 183 = .ok (.bipush 21, 2) := dk_16 21 (dk_at dksX4_takes_7 16 rfl rfl)
theorem dX4_takes_185 : decode cX4_takes 185 = .ok (.iconst 0, 1) := dk_3 (dk_at dksX4_takes_7 18 rfl rfl)
theorem dX4_takes_186 : decode cX4_takes 186 = .ok (.iastore, 1) := dk_79 (dk_at dksX4_takes_7 19 rfl rfl)
theorem dX4_takes_187 : decode cX4_takes 187 = .ok (.aload_n 0, 1) := dk_42 (dk_at dksX4_takes_7 20 rfl rfl)
theorem dX4_takes_188 : decode cX4_takes 188 = .ok (.iload_n 3, 1) := dk_29 (dk_at dksX4_takes_7 21 rfl rfl)
theorem dX4_takes_189 : decode cX4_takes 189 = .ok (.invokevirtual 319, 3) := dk_182 1 63 (dk_at dksX4_takes_8 0 rfl rfl)
theorem dX4_takes_192 : decode cX4_takes 192 = .ok (.iconst 1, 1) := dk_4 (dk_at dksX4_takes_8 3 rfl rfl)
theorem dX4_takes_193 : decode cX4_takes 193 = .ok (.ireturn, 1) := dk_172 (dk_at dksX4_takes_8 4 rfl rfl)
abbrev cX4_firstOf : ByteArray := prog_19_method_69_code
def yX4_firstOf : MethodName := ⟨RX4, "firstOf", "(I)I"⟩
def dkwX4_firstOf_3 : List UInt8 := [132, 2, 1, 167, 255, 185, 2, 172]
abbrev dktX4_firstOf_3 : List UInt8 := dkwX4_firstOf_3 ++ []
def dkwX4_firstOf_2 : List UInt8 := [182, 1, 51, 27, 160, 0, 14, 42, 29, 27, 182, 1, 54, 154, 0, 5, 29, 172, 132, 3, 1, 167, 255, 198]
abbrev dktX4_firstOf_2 : List UInt8 := dkwX4_firstOf_2 ++ dktX4_firstOf_3
def dkwX4_firstOf_1 : List UInt8 := [160, 0, 7, 4, 167, 0, 4, 3, 28, 154, 0, 7, 4, 167, 0, 4, 3, 160, 0, 23, 42, 29]
abbrev dktX4_firstOf_1 : List UInt8 := dkwX4_firstOf_1 ++ dktX4_firstOf_2
def dkwX4_firstOf_0 : List UInt8 := [3, 61, 28, 5, 162, 0, 72, 3, 62, 29, 42, 180, 0, 159, 162, 0, 56, 42, 29, 3, 182, 0, 177, 2]
abbrev dktX4_firstOf_0 : List UInt8 := dkwX4_firstOf_0 ++ dktX4_firstOf_1
theorem dksX4_firstOf_0 : cX4_firstOf.data.toList.drop 0 = dktX4_firstOf_0 := by decide +kernel
theorem dksX4_firstOf_1 : cX4_firstOf.data.toList.drop 24 = dktX4_firstOf_1 := dk_seg dksX4_firstOf_0 24 rfl rfl
theorem dksX4_firstOf_2 : cX4_firstOf.data.toList.drop 46 = dktX4_firstOf_2 := dk_seg dksX4_firstOf_1 22 rfl rfl
theorem dksX4_firstOf_3 : cX4_firstOf.data.toList.drop 70 = dktX4_firstOf_3 := dk_seg dksX4_firstOf_2 24 rfl rfl
theorem dX4_firstOf_0 : decode cX4_firstOf 0 = .ok (.iconst 0, 1) := dk_3 (dk_at dksX4_firstOf_0 0 rfl rfl)
theorem dX4_firstOf_1 : decode cX4_firstOf 1 = .ok (.istore_n 2, 1) := dk_61 (dk_at dksX4_firstOf_0 1 rfl rfl)
theorem dX4_firstOf_2 : decode cX4_firstOf 2 = .ok (.iload_n 2, 1) := dk_28 (dk_at dksX4_firstOf_0 2 rfl rfl)
theorem dX4_firstOf_3 : decode cX4_firstOf 3 = .ok (.iconst 2, 1) := dk_5 (dk_at dksX4_firstOf_0 3 rfl rfl)
theorem dX4_firstOf_4 : decode cX4_firstOf 4 = .ok (.if_icmp .ge 72, 3) := dk_162 0 72 (dk_at dksX4_firstOf_0 4 rfl rfl)
theorem dX4_firstOf_7 : decode cX4_firstOf 7 = .ok (.iconst 0, 1) := dk_3 (dk_at dksX4_firstOf_0 7 rfl rfl)
theorem dX4_firstOf_8 : decode cX4_firstOf 8 = .ok (.istore_n 3, 1) := dk_62 (dk_at dksX4_firstOf_0 8 rfl rfl)
theorem dX4_firstOf_9 : decode cX4_firstOf 9 = .ok (.iload_n 3, 1) := dk_29 (dk_at dksX4_firstOf_0 9 rfl rfl)
theorem dX4_firstOf_10 : decode cX4_firstOf 10 = .ok (.aload_n 0, 1) := dk_42 (dk_at dksX4_firstOf_0 10 rfl rfl)
theorem dX4_firstOf_11 : decode cX4_firstOf 11 = .ok (.getfield 159, 3) := dk_180 0 159 (dk_at dksX4_firstOf_0 11 rfl rfl)
theorem dX4_firstOf_14 : decode cX4_firstOf 14 = .ok (.if_icmp .ge 56, 3) := dk_162 0 56 (dk_at dksX4_firstOf_0 14 rfl rfl)
theorem dX4_firstOf_17 : decode cX4_firstOf 17 = .ok (.aload_n 0, 1) := dk_42 (dk_at dksX4_firstOf_0 17 rfl rfl)
theorem dX4_firstOf_18 : decode cX4_firstOf 18 = .ok (.iload_n 3, 1) := dk_29 (dk_at dksX4_firstOf_0 18 rfl rfl)
theorem dX4_firstOf_19 : decode cX4_firstOf 19 = .ok (.iconst 0, 1) := dk_3 (dk_at dksX4_firstOf_0 19 rfl rfl)
theorem dX4_firstOf_20 : decode cX4_firstOf 20 = .ok (.invokevirtual 177, 3) := dk_182 0 177 (dk_at dksX4_firstOf_0 20 rfl rfl)
theorem dX4_firstOf_23 : decode cX4_firstOf 23 = .ok (.iconst (-1), 1) := dk_2 (dk_at dksX4_firstOf_0 23 rfl rfl)
theorem dX4_firstOf_24 : decode cX4_firstOf 24 = .ok (.if_icmp .ne 7, 3) := dk_160 0 7 (dk_at dksX4_firstOf_1 0 rfl rfl)
theorem dX4_firstOf_27 : decode cX4_firstOf 27 = .ok (.iconst 1, 1) := dk_4 (dk_at dksX4_firstOf_1 3 rfl rfl)
theorem dX4_firstOf_28 : decode cX4_firstOf 28 = .ok (.goto 4, 3) := dk_167 0 4 (dk_at dksX4_firstOf_1 4 rfl rfl)
theorem dX4_firstOf_31 : decode cX4_firstOf 31 = .ok (.iconst 0, 1) := dk_3 (dk_at dksX4_firstOf_1 7 rfl rfl)
theorem dX4_firstOf_32 : decode cX4_firstOf 32 = .ok (.iload_n 2, 1) := dk_28 (dk_at dksX4_firstOf_1 8 rfl rfl)
theorem dX4_firstOf_33 : decode cX4_firstOf 33 = .ok (.ifCond .ne 7, 3) := dk_154 0 7 (dk_at dksX4_firstOf_1 9 rfl rfl)
theorem dX4_firstOf_36 : decode cX4_firstOf 36 = .ok (.iconst 1, 1) := dk_4 (dk_at dksX4_firstOf_1 12 rfl rfl)
theorem dX4_firstOf_37 : decode cX4_firstOf 37 = .ok (.goto 4, 3) := dk_167 0 4 (dk_at dksX4_firstOf_1 13 rfl rfl)
theorem dX4_firstOf_40 : decode cX4_firstOf 40 = .ok (.iconst 0, 1) := dk_3 (dk_at dksX4_firstOf_1 16 rfl rfl)
theorem dX4_firstOf_41 : decode cX4_firstOf 41 = .ok (.if_icmp .ne 23, 3) := dk_160 0 23 (dk_at dksX4_firstOf_1 17 rfl rfl)
theorem dX4_firstOf_44 : decode cX4_firstOf 44 = .ok (.aload_n 0, 1) := dk_42 (dk_at dksX4_firstOf_1 20 rfl rfl)
theorem dX4_firstOf_45 : decode cX4_firstOf 45 = .ok (.iload_n 3, 1) := dk_29 (dk_at dksX4_firstOf_1 21 rfl rfl)
theorem dX4_firstOf_46 : decode cX4_firstOf 46 = .ok (.invokevirtual 307, 3) := dk_182 1 51 (dk_at dksX4_firstOf_2 0 rfl rfl)
theorem dX4_firstOf_49 : decode cX4_firstOf 49 = .ok (.iload_n 1, 1) := dk_27 (dk_at dksX4_firstOf_2 3 rfl rfl)
theorem dX4_firstOf_50 : decode cX4_firstOf 50 = .ok (.if_icmp .ne 14, 3) := dk_160 0 14 (dk_at dksX4_firstOf_2 4 rfl rfl)
theorem dX4_firstOf_53 : decode cX4_firstOf 53 = .ok (.aload_n 0, 1) := dk_42 (dk_at dksX4_firstOf_2 7 rfl rfl)
theorem dX4_firstOf_54 : decode cX4_firstOf 54 = .ok (.iload_n 3, 1) := dk_29 (dk_at dksX4_firstOf_2 8 rfl rfl)
theorem dX4_firstOf_55 : decode cX4_firstOf 55 = .ok (.iload_n 1, 1) := dk_27 (dk_at dksX4_firstOf_2 9 rfl rfl)
theorem dX4_firstOf_56 : decode cX4_firstOf 56 = .ok (.invokevirtual 310, 3) := dk_182 1 54 (dk_at dksX4_firstOf_2 10 rfl rfl)
theorem dX4_firstOf_59 : decode cX4_firstOf 59 = .ok (.ifCond .ne 5, 3) := dk_154 0 5 (dk_at dksX4_firstOf_2 13 rfl rfl)
theorem dX4_firstOf_62 : decode cX4_firstOf 62 = .ok (.iload_n 3, 1) := dk_29 (dk_at dksX4_firstOf_2 16 rfl rfl)
theorem dX4_firstOf_63 : decode cX4_firstOf 63 = .ok (.ireturn, 1) := dk_172 (dk_at dksX4_firstOf_2 17 rfl rfl)
theorem dX4_firstOf_64 : decode cX4_firstOf 64 = .ok (.iinc 3 1, 3) := dk_132 3 1 (dk_at dksX4_firstOf_2 18 rfl rfl)
theorem dX4_firstOf_67 : decode cX4_firstOf 67 = .ok (.goto (-58), 3) := dk_167 255 198 (dk_at dksX4_firstOf_2 21 rfl rfl)
theorem dX4_firstOf_70 : decode cX4_firstOf 70 = .ok (.iinc 2 1, 3) := dk_132 2 1 (dk_at dksX4_firstOf_3 0 rfl rfl)
theorem dX4_firstOf_73 : decode cX4_firstOf 73 = .ok (.goto (-71), 3) := dk_167 255 185 (dk_at dksX4_firstOf_3 3 rfl rfl)
theorem dX4_firstOf_76 : decode cX4_firstOf 76 = .ok (.iconst (-1), 1) := dk_2 (dk_at dksX4_firstOf_3 6 rfl rfl)
theorem dX4_firstOf_77 : decode cX4_firstOf 77 = .ok (.ireturn, 1) := dk_172 (dk_at dksX4_firstOf_3 7 rfl rfl)
abbrev cX4_freezes : ByteArray := prog_19_method_73_code
def yX4_freezes : MethodName := ⟨RX4, "freezes", "(I)V"⟩
def dkwX4_freezes_5 : List UInt8 := [182, 1, 66, 177]
abbrev dktX4_freezes_5 : List UInt8 := dkwX4_freezes_5 ++ []
def dkwX4_freezes_4 : List UInt8 := [79, 42, 180, 0, 7, 16, 11, 92, 46, 4, 96, 79, 27, 5, 160, 0, 11, 42, 16, 16, 16, 12]
abbrev dktX4_freezes_4 : List UInt8 := dkwX4_freezes_4 ++ dktX4_freezes_5
def dkwX4_freezes_3 : List UInt8 := [132, 2, 1, 167, 255, 189, 42, 180, 0, 7, 16, 21, 42, 180, 1, 9, 79, 42, 180, 0, 7, 16, 20, 4]
abbrev dktX4_freezes_3 : List UInt8 := dkwX4_freezes_3 ++ dktX4_freezes_4
def dkwX4_freezes_2 : List UInt8 := [46, 79, 42, 180, 0, 7, 16, 22, 6, 28, 104, 96, 5, 96, 42, 180, 0, 88, 28, 47, 136, 79]
abbrev dktX4_freezes_2 : List UInt8 := dkwX4_freezes_2 ++ dktX4_freezes_3
def dkwX4_freezes_1 : List UInt8 := [42, 180, 0, 82, 28, 46, 79, 42, 180, 0, 7, 16, 22, 6, 28, 104, 96, 4, 96, 42, 180, 0, 85, 28]
abbrev dktX4_freezes_1 : List UInt8 := dkwX4_freezes_1 ++ dktX4_freezes_2
def dkwX4_freezes_0 : List UInt8 := [42, 182, 1, 27, 3, 61, 28, 42, 180, 1, 9, 162, 0, 65, 42, 180, 0, 7, 16, 22, 6, 28, 104, 96]
abbrev dktX4_freezes_0 : List UInt8 := dkwX4_freezes_0 ++ dktX4_freezes_1
theorem dksX4_freezes_0 : cX4_freezes.data.toList.drop 0 = dktX4_freezes_0 := by decide +kernel
theorem dksX4_freezes_1 : cX4_freezes.data.toList.drop 24 = dktX4_freezes_1 := dk_seg dksX4_freezes_0 24 rfl rfl
theorem dksX4_freezes_2 : cX4_freezes.data.toList.drop 48 = dktX4_freezes_2 := dk_seg dksX4_freezes_1 24 rfl rfl
theorem dksX4_freezes_3 : cX4_freezes.data.toList.drop 70 = dktX4_freezes_3 := dk_seg dksX4_freezes_2 22 rfl rfl
theorem dksX4_freezes_4 : cX4_freezes.data.toList.drop 94 = dktX4_freezes_4 := dk_seg dksX4_freezes_3 24 rfl rfl
theorem dksX4_freezes_5 : cX4_freezes.data.toList.drop 116 = dktX4_freezes_5 := dk_seg dksX4_freezes_4 22 rfl rfl
theorem dX4_freezes_0 : decode cX4_freezes 0 = .ok (.aload_n 0, 1) := dk_42 (dk_at dksX4_freezes_0 0 rfl rfl)
theorem dX4_freezes_1 : decode cX4_freezes 1 = .ok (.invokevirtual 283, 3) := dk_182 1 27 (dk_at dksX4_freezes_0 1 rfl rfl)
theorem dX4_freezes_4 : decode cX4_freezes 4 = .ok (.iconst 0, 1) := dk_3 (dk_at dksX4_freezes_0 4 rfl rfl)
theorem dX4_freezes_5 : decode cX4_freezes 5 = .ok (.istore_n 2, 1) := dk_61 (dk_at dksX4_freezes_0 5 rfl rfl)
theorem dX4_freezes_6 : decode cX4_freezes 6 = .ok (.iload_n 2, 1) := dk_28 (dk_at dksX4_freezes_0 6 rfl rfl)
theorem dX4_freezes_7 : decode cX4_freezes 7 = .ok (.aload_n 0, 1) := dk_42 (dk_at dksX4_freezes_0 7 rfl rfl)
theorem dX4_freezes_8 : decode cX4_freezes 8 = .ok (.getfield 265, 3) := dk_180 1 9 (dk_at dksX4_freezes_0 8 rfl rfl)
theorem dX4_freezes_11 : decode cX4_freezes 11 = .ok (.if_icmp .ge 65, 3) := dk_162 0 65 (dk_at dksX4_freezes_0 11 rfl rfl)
theorem dX4_freezes_14 : decode cX4_freezes 14 = .ok (.aload_n 0, 1) := dk_42 (dk_at dksX4_freezes_0 14 rfl rfl)
theorem dX4_freezes_15 : decode cX4_freezes 15 = .ok (.getfield 7, 3) := dk_180 0 7 (dk_at dksX4_freezes_0 15 rfl rfl)
theorem dX4_freezes_18 : decode cX4_freezes 18 = .ok (.bipush 22, 2) := dk_16 22 (dk_at dksX4_freezes_0 18 rfl rfl)
theorem dX4_freezes_20 : decode cX4_freezes 20 = .ok (.iconst 3, 1) := dk_6 (dk_at dksX4_freezes_0 20 rfl rfl)
theorem dX4_freezes_21 : decode cX4_freezes 21 = .ok (.iload_n 2, 1) := dk_28 (dk_at dksX4_freezes_0 21 rfl rfl)
theorem dX4_freezes_22 : decode cX4_freezes 22 = .ok (.imul, 1) := dk_104 (dk_at dksX4_freezes_0 22 rfl rfl)
theorem dX4_freezes_23 : decode cX4_freezes 23 = .ok (.iadd, 1) := dk_96 (dk_at dksX4_freezes_0 23 rfl rfl)
theorem dX4_freezes_24 : decode cX4_freezes 24 = .ok (.aload_n 0, 1) := dk_42 (dk_at dksX4_freezes_1 0 rfl rfl)
theorem dX4_freezes_25 : decode cX4_freezes 25 = .ok (.getfield 82, 3) := dk_180 0 82 (dk_at dksX4_freezes_1 1 rfl rfl)
theorem dX4_freezes_28 : decode cX4_freezes 28 = .ok (.iload_n 2, 1) := dk_28 (dk_at dksX4_freezes_1 4 rfl rfl)
theorem dX4_freezes_29 : decode cX4_freezes 29 = .ok (.iaload, 1) := dk_46 (dk_at dksX4_freezes_1 5 rfl rfl)
theorem dX4_freezes_30 : decode cX4_freezes 30 = .ok (.iastore, 1) := dk_79 (dk_at dksX4_freezes_1 6 rfl rfl)
theorem dX4_freezes_31 : decode cX4_freezes 31 = .ok (.aload_n 0, 1) := dk_42 (dk_at dksX4_freezes_1 7 rfl rfl)
theorem dX4_freezes_32 : decode cX4_freezes 32 = .ok (.getfield 7, 3) := dk_180 0 7 (dk_at dksX4_freezes_1 8 rfl rfl)
theorem dX4_freezes_35 : decode cX4_freezes 35 = .ok (.bipush 22, 2) := dk_16 22 (dk_at dksX4_freezes_1 11 rfl rfl)
theorem dX4_freezes_37 : decode cX4_freezes 37 = .ok (.iconst 3, 1) := dk_6 (dk_at dksX4_freezes_1 13 rfl rfl)
theorem dX4_freezes_38 : decode cX4_freezes 38 = .ok (.iload_n 2, 1) := dk_28 (dk_at dksX4_freezes_1 14 rfl rfl)
theorem dX4_freezes_39 : decode cX4_freezes 39 = .ok (.imul, 1) := dk_104 (dk_at dksX4_freezes_1 15 rfl rfl)
theorem dX4_freezes_40 : decode cX4_freezes 40 = .ok (.iadd, 1) := dk_96 (dk_at dksX4_freezes_1 16 rfl rfl)
theorem dX4_freezes_41 : decode cX4_freezes 41 = .ok (.iconst 1, 1) := dk_4 (dk_at dksX4_freezes_1 17 rfl rfl)
theorem dX4_freezes_42 : decode cX4_freezes 42 = .ok (.iadd, 1) := dk_96 (dk_at dksX4_freezes_1 18 rfl rfl)
theorem dX4_freezes_43 : decode cX4_freezes 43 = .ok (.aload_n 0, 1) := dk_42 (dk_at dksX4_freezes_1 19 rfl rfl)
theorem dX4_freezes_44 : decode cX4_freezes 44 = .ok (.getfield 85, 3) := dk_180 0 85 (dk_at dksX4_freezes_1 20 rfl rfl)
theorem dX4_freezes_47 : decode cX4_freezes 47 = .ok (.iload_n 2, 1) := dk_28 (dk_at dksX4_freezes_1 23 rfl rfl)
theorem dX4_freezes_48 : decode cX4_freezes 48 = .ok (.iaload, 1) := dk_46 (dk_at dksX4_freezes_2 0 rfl rfl)
theorem dX4_freezes_49 : decode cX4_freezes 49 = .ok (.iastore, 1) := dk_79 (dk_at dksX4_freezes_2 1 rfl rfl)
theorem dX4_freezes_50 : decode cX4_freezes 50 = .ok (.aload_n 0, 1) := dk_42 (dk_at dksX4_freezes_2 2 rfl rfl)
theorem dX4_freezes_51 : decode cX4_freezes 51 = .ok (.getfield 7, 3) := dk_180 0 7 (dk_at dksX4_freezes_2 3 rfl rfl)
theorem dX4_freezes_54 : decode cX4_freezes 54 = .ok (.bipush 22, 2) := dk_16 22 (dk_at dksX4_freezes_2 6 rfl rfl)
theorem dX4_freezes_56 : decode cX4_freezes 56 = .ok (.iconst 3, 1) := dk_6 (dk_at dksX4_freezes_2 8 rfl rfl)
theorem dX4_freezes_57 : decode cX4_freezes 57 = .ok (.iload_n 2, 1) := dk_28 (dk_at dksX4_freezes_2 9 rfl rfl)
theorem dX4_freezes_58 : decode cX4_freezes 58 = .ok (.imul, 1) := dk_104 (dk_at dksX4_freezes_2 10 rfl rfl)
theorem dX4_freezes_59 : decode cX4_freezes 59 = .ok (.iadd, 1) := dk_96 (dk_at dksX4_freezes_2 11 rfl rfl)
theorem dX4_freezes_60 : decode cX4_freezes 60 = .ok (.iconst 2, 1) := dk_5 (dk_at dksX4_freezes_2 12 rfl rfl)
theorem dX4_freezes_61 : decode cX4_freezes 61 = .ok (.iadd, 1) := dk_96 (dk_at dksX4_freezes_2 13 rfl rfl)
theorem dX4_freezes_62 : decode cX4_freezes 62 = .ok (.aload_n 0, 1) := dk_42 (dk_at dksX4_freezes_2 14 rfl rfl)
theorem dX4_freezes_63 : decode cX4_freezes 63 = .ok (.getfield 88, 3) := dk_180 0 88 (dk_at dksX4_freezes_2 15 rfl rfl)
theorem dX4_freezes_66 : decode cX4_freezes 66 = .ok (.iload_n 2, 1) := dk_28 (dk_at dksX4_freezes_2 18 rfl rfl)
theorem dX4_freezes_67 : decode cX4_freezes 67 = .ok (.laload, 1) := dk_47 (dk_at dksX4_freezes_2 19 rfl rfl)
theorem dX4_freezes_68 : decode cX4_freezes 68 = .ok (.l2i, 1) := dk_136 (dk_at dksX4_freezes_2 20 rfl rfl)
theorem dX4_freezes_69 : decode cX4_freezes 69 = .ok (.iastore, 1) := dk_79 (dk_at dksX4_freezes_2 21 rfl rfl)
theorem dX4_freezes_70 : decode cX4_freezes 70 = .ok (.iinc 2 1, 3) := dk_132 2 1 (dk_at dksX4_freezes_3 0 rfl rfl)
theorem dX4_freezes_73 : decode cX4_freezes 73 = .ok (.goto (-67), 3) := dk_167 255 189 (dk_at dksX4_freezes_3 3 rfl rfl)
theorem dX4_freezes_76 : decode cX4_freezes 76 = .ok (.aload_n 0, 1) := dk_42 (dk_at dksX4_freezes_3 6 rfl rfl)
theorem dX4_freezes_77 : decode cX4_freezes 77 = .ok (.getfield 7, 3) := dk_180 0 7 (dk_at dksX4_freezes_3 7 rfl rfl)
theorem dX4_freezes_80 : decode cX4_freezes 80 = .ok (.bipush 21, 2) := dk_16 21 (dk_at dksX4_freezes_3 10 rfl rfl)
theorem dX4_freezes_82 : decode cX4_freezes 82 = .ok (.aload_n 0, 1) := dk_42 (dk_at dksX4_freezes_3 12 rfl rfl)
theorem dX4_freezes_83 : decode cX4_freezes 83 = .ok (.getfield 265, 3) := dk_180 1 9 (dk_at dksX4_freezes_3 13 rfl rfl)
theorem dX4_freezes_86 : decode cX4_freezes 86 = .ok (.iastore, 1) := dk_79 (dk_at dksX4_freezes_3 16 rfl rfl)
theorem dX4_freezes_87 : decode cX4_freezes 87 = .ok (.aload_n 0, 1) := dk_42 (dk_at dksX4_freezes_3 17 rfl rfl)
theorem dX4_freezes_88 : decode cX4_freezes 88 = .ok (.getfield 7, 3) := dk_180 0 7 (dk_at dksX4_freezes_3 18 rfl rfl)
theorem dX4_freezes_91 : decode cX4_freezes 91 = .ok (.bipush 20, 2) := dk_16 20 (dk_at dksX4_freezes_3 21 rfl rfl)
theorem dX4_freezes_93 : decode cX4_freezes 93 = .ok (.iconst 1, 1) := dk_4 (dk_at dksX4_freezes_3 23 rfl rfl)
theorem dX4_freezes_94 : decode cX4_freezes 94 = .ok (.iastore, 1) := dk_79 (dk_at dksX4_freezes_4 0 rfl rfl)
theorem dX4_freezes_95 : decode cX4_freezes 95 = .ok (.aload_n 0, 1) := dk_42 (dk_at dksX4_freezes_4 1 rfl rfl)
theorem dX4_freezes_96 : decode cX4_freezes 96 = .ok (.getfield 7, 3) := dk_180 0 7 (dk_at dksX4_freezes_4 2 rfl rfl)
theorem dX4_freezes_99 : decode cX4_freezes 99 = .ok (.bipush 11, 2) := dk_16 11 (dk_at dksX4_freezes_4 5 rfl rfl)
theorem dX4_freezes_101 : decode cX4_freezes 101 = .ok (.dup2, 1) := dk_92 (dk_at dksX4_freezes_4 7 rfl rfl)
theorem dX4_freezes_102 : decode cX4_freezes 102 = .ok (.iaload, 1) := dk_46 (dk_at dksX4_freezes_4 8 rfl rfl)
theorem dX4_freezes_103 : decode cX4_freezes 103 = .ok (.iconst 1, 1) := dk_4 (dk_at dksX4_freezes_4 9 rfl rfl)
theorem dX4_freezes_104 : decode cX4_freezes 104 = .ok (.iadd, 1) := dk_96 (dk_at dksX4_freezes_4 10 rfl rfl)
theorem dX4_freezes_105 : decode cX4_freezes 105 = .ok (.iastore, 1) := dk_79 (dk_at dksX4_freezes_4 11 rfl rfl)
theorem dX4_freezes_106 : decode cX4_freezes 106 = .ok (.iload_n 1, 1) := dk_27 (dk_at dksX4_freezes_4 12 rfl rfl)
theorem dX4_freezes_107 : decode cX4_freezes 107 = .ok (.iconst 2, 1) := dk_5 (dk_at dksX4_freezes_4 13 rfl rfl)
theorem dX4_freezes_108 : decode cX4_freezes 108 = .ok (.if_icmp .ne 11, 3) := dk_160 0 11 (dk_at dksX4_freezes_4 14 rfl rfl)
theorem dX4_freezes_111 : decode cX4_freezes 111 = .ok (.aload_n 0, 1) := dk_42 (dk_at dksX4_freezes_4 17 rfl rfl)
theorem dX4_freezes_112 : decode cX4_freezes 112 = .ok (.bipush 16, 2) := dk_16 16 (dk_at dksX4_freezes_4 18 rfl rfl)
theorem dX4_freezes_114 : decode cX4_freezes 114 = .ok (.bipush 12, 2) := dk_16 12 (dk_at dksX4_freezes_4 20 rfl rfl)
theorem dX4_freezes_116 : decode cX4_freezes 116 = .ok (.invokevirtual 322, 3) := dk_182 1 66 (dk_at dksX4_freezes_5 0 rfl rfl)
theorem dX4_freezes_119 : decode cX4_freezes 119 = .ok (.return_, 1) := dk_177 (dk_at dksX4_freezes_5 3 rfl rfl)
abbrev cX4_copiesTrack : ByteArray := prog_19_method_72_code
def yX4_copiesTrack : MethodName := ⟨RX4, "copiesTrack", "(II)V"⟩
def dkwX4_copiesTrack_1 : List UInt8 := [132, 3, 1, 167, 255, 232, 177]
abbrev dktX4_copiesTrack_1 : List UInt8 := dkwX4_copiesTrack_1 ++ []
def dkwX4_copiesTrack_0 : List UInt8 := [3, 62, 29, 7, 162, 0, 25, 42, 180, 0, 7, 28, 29, 96, 42, 180, 0, 7, 27, 29, 96, 46, 79]
abbrev dktX4_copiesTrack_0 : List UInt8 := dkwX4_copiesTrack_0 ++ dktX4_copiesTrack_1
theorem dksX4_copiesTrack_0 : cX4_copiesTrack.data.toList.drop 0 = dktX4_copiesTrack_0 := by decide +kernel
theorem dksX4_copiesTrack_1 : cX4_copiesTrack.data.toList.drop 23 = dktX4_copiesTrack_1 := dk_seg dksX4_copiesTrack_0 23 rfl rfl
theorem dX4_copiesTrack_0 : decode cX4_copiesTrack 0 = .ok (.iconst 0, 1) := dk_3 (dk_at dksX4_copiesTrack_0 0 rfl rfl)
theorem dX4_copiesTrack_1 : decode cX4_copiesTrack 1 = .ok (.istore_n 3, 1) := dk_62 (dk_at dksX4_copiesTrack_0 1 rfl rfl)
theorem dX4_copiesTrack_2 : decode cX4_copiesTrack 2 = .ok (.iload_n 3, 1) := dk_29 (dk_at dksX4_copiesTrack_0 2 rfl rfl)
theorem dX4_copiesTrack_3 : decode cX4_copiesTrack 3 = .ok (.iconst 4, 1) := dk_7 (dk_at dksX4_copiesTrack_0 3 rfl rfl)
theorem dX4_copiesTrack_4 : decode cX4_copiesTrack 4 = .ok (.if_icmp .ge 25, 3) := dk_162 0 25 (dk_at dksX4_copiesTrack_0 4 rfl rfl)
theorem dX4_copiesTrack_7 : decode cX4_copiesTrack 7 = .ok (.aload_n 0, 1) := dk_42 (dk_at dksX4_copiesTrack_0 7 rfl rfl)
theorem dX4_copiesTrack_8 : decode cX4_copiesTrack 8 = .ok (.getfield 7, 3) := dk_180 0 7 (dk_at dksX4_copiesTrack_0 8 rfl rfl)
theorem dX4_copiesTrack_11 : decode cX4_copiesTrack 11 = .ok (.iload_n 2, 1) := dk_28 (dk_at dksX4_copiesTrack_0 11 rfl rfl)
theorem dX4_copiesTrack_12 : decode cX4_copiesTrack 12 = .ok (.iload_n 3, 1) := dk_29 (dk_at dksX4_copiesTrack_0 12 rfl rfl)
theorem dX4_copiesTrack_13 : decode cX4_copiesTrack 13 = .ok (.iadd, 1) := dk_96 (dk_at dksX4_copiesTrack_0 13 rfl rfl)
theorem dX4_copiesTrack_14 : decode cX4_copiesTrack 14 = .ok (.aload_n 0, 1) := dk_42 (dk_at dksX4_copiesTrack_0 14 rfl rfl)
theorem dX4_copiesTrack_15 : decode cX4_copiesTrack 15 = .ok (.getfield 7, 3) := dk_180 0 7 (dk_at dksX4_copiesTrack_0 15 rfl rfl)
theorem dX4_copiesTrack_18 : decode cX4_copiesTrack 18 = .ok (.iload_n 1, 1) := dk_27 (dk_at dksX4_copiesTrack_0 18 rfl rfl)
theorem dX4_copiesTrack_19 : decode cX4_copiesTrack 19 = .ok (.iload_n 3, 1) := dk_29 (dk_at dksX4_copiesTrack_0 19 rfl rfl)
theorem dX4_copiesTrack_20 : decode cX4_copiesTrack 20 = .ok (.iadd, 1) := dk_96 (dk_at dksX4_copiesTrack_0 20 rfl rfl)
theorem dX4_copiesTrack_21 : decode cX4_copiesTrack 21 = .ok (.iaload, 1) := dk_46 (dk_at dksX4_copiesTrack_0 21 rfl rfl)
theorem dX4_copiesTrack_22 : decode cX4_copiesTrack 22 = .ok (.iastore, 1) := dk_79 (dk_at dksX4_copiesTrack_0 22 rfl rfl)
theorem dX4_copiesTrack_23 : decode cX4_copiesTrack 23 = .ok (.iinc 3 1, 3) := dk_132 3 1 (dk_at dksX4_copiesTrack_1 0 rfl rfl)
theorem dX4_copiesTrack_26 : decode cX4_copiesTrack 26 = .ok (.goto (-24), 3) := dk_167 255 232 (dk_at dksX4_copiesTrack_1 3 rfl rfl)
theorem dX4_copiesTrack_29 : decode cX4_copiesTrack 29 = .ok (.return_, 1) := dk_177 (dk_at dksX4_copiesTrack_1 6 rfl rfl)
abbrev cX4_goesTo : ByteArray := prog_19_method_74_code
def yX4_goesTo : MethodName := ⟨RX4, "goesTo", "(I)V"⟩
def dkwX4_goesTo_4 : List UInt8 := [180, 0, 7, 16, 9, 27, 79, 42, 180, 0, 7, 16, 10, 3, 79, 177]
abbrev dktX4_goesTo_4 : List UInt8 := dkwX4_goesTo_4 ++ []
def dkwX4_goesTo_3 : List UInt8 := [27, 5, 182, 0, 177, 154, 0, 8, 42, 182, 1, 74, 177, 42, 180, 0, 7, 16, 8, 4, 79, 42]
abbrev dktX4_goesTo_3 : List UInt8 := dkwX4_goesTo_3 ++ dktX4_goesTo_4
def dkwX4_goesTo_2 : List UInt8 := [19, 1, 5, 160, 0, 18, 42, 180, 0, 53, 28, 51, 153, 0, 9, 19, 1, 73, 167, 0, 4, 29, 79, 42]
abbrev dktX4_goesTo_2 : List UInt8 := dkwX4_goesTo_2 ++ dktX4_goesTo_3
def dkwX4_goesTo_1 : List UInt8 := [42, 182, 1, 69, 153, 0, 41, 42, 180, 0, 7, 16, 14, 46, 62, 42, 180, 0, 7, 16, 18, 29]
abbrev dktX4_goesTo_1 : List UInt8 := dkwX4_goesTo_1 ++ dktX4_goesTo_2
def dkwX4_goesTo_0 : List UInt8 := [42, 27, 4, 182, 0, 177, 61, 42, 16, 16, 28, 42, 27, 7, 182, 0, 177, 17, 39, 16, 104, 182, 0, 155]
abbrev dktX4_goesTo_0 : List UInt8 := dkwX4_goesTo_0 ++ dktX4_goesTo_1
theorem dksX4_goesTo_0 : cX4_goesTo.data.toList.drop 0 = dktX4_goesTo_0 := by decide +kernel
theorem dksX4_goesTo_1 : cX4_goesTo.data.toList.drop 24 = dktX4_goesTo_1 := dk_seg dksX4_goesTo_0 24 rfl rfl
theorem dksX4_goesTo_2 : cX4_goesTo.data.toList.drop 46 = dktX4_goesTo_2 := dk_seg dksX4_goesTo_1 22 rfl rfl
theorem dksX4_goesTo_3 : cX4_goesTo.data.toList.drop 70 = dktX4_goesTo_3 := dk_seg dksX4_goesTo_2 24 rfl rfl
theorem dksX4_goesTo_4 : cX4_goesTo.data.toList.drop 92 = dktX4_goesTo_4 := dk_seg dksX4_goesTo_3 22 rfl rfl
theorem dX4_goesTo_0 : decode cX4_goesTo 0 = .ok (.aload_n 0, 1) := dk_42 (dk_at dksX4_goesTo_0 0 rfl rfl)
theorem dX4_goesTo_1 : decode cX4_goesTo 1 = .ok (.iload_n 1, 1) := dk_27 (dk_at dksX4_goesTo_0 1 rfl rfl)
theorem dX4_goesTo_2 : decode cX4_goesTo 2 = .ok (.iconst 1, 1) := dk_4 (dk_at dksX4_goesTo_0 2 rfl rfl)
theorem dX4_goesTo_3 : decode cX4_goesTo 3 = .ok (.invokevirtual 177, 3) := dk_182 0 177 (dk_at dksX4_goesTo_0 3 rfl rfl)
theorem dX4_goesTo_6 : decode cX4_goesTo 6 = .ok (.istore_n 2, 1) := dk_61 (dk_at dksX4_goesTo_0 6 rfl rfl)
theorem dX4_goesTo_7 : decode cX4_goesTo 7 = .ok (.aload_n 0, 1) := dk_42 (dk_at dksX4_goesTo_0 7 rfl rfl)
theorem dX4_goesTo_8 : decode cX4_goesTo 8 = .ok (.bipush 16, 2) := dk_16 16 (dk_at dksX4_goesTo_0 8 rfl rfl)
theorem dX4_goesTo_10 : decode cX4_goesTo 10 = .ok (.iload_n 2, 1) := dk_28 (dk_at dksX4_goesTo_0 10 rfl rfl)
theorem dX4_goesTo_11 : decode cX4_goesTo 11 = .ok (.aload_n 0, 1) := dk_42 (dk_at dksX4_goesTo_0 11 rfl rfl)
theorem dX4_goesTo_12 : decode cX4_goesTo 12 = .ok (.iload_n 1, 1) := dk_27 (dk_at dksX4_goesTo_0 12 rfl rfl)
theorem dX4_goesTo_13 : decode cX4_goesTo 13 = .ok (.iconst 4, 1) := dk_7 (dk_at dksX4_goesTo_0 13 rfl rfl)
theorem dX4_goesTo_14 : decode cX4_goesTo 14 = .ok (.invokevirtual 177, 3) := dk_182 0 177 (dk_at dksX4_goesTo_0 14 rfl rfl)
theorem dX4_goesTo_17 : decode cX4_goesTo 17 = .ok (.sipush 10000, 3) := dk_17 39 16 (dk_at dksX4_goesTo_0 17 rfl rfl)
theorem dX4_goesTo_20 : decode cX4_goesTo 20 = .ok (.imul, 1) := dk_104 (dk_at dksX4_goesTo_0 20 rfl rfl)
theorem dX4_goesTo_21 : decode cX4_goesTo 21 = .ok (.invokevirtual 155, 3) := dk_182 0 155 (dk_at dksX4_goesTo_0 21 rfl rfl)
theorem dX4_goesTo_24 : decode cX4_goesTo 24 = .ok (.aload_n 0, 1) := dk_42 (dk_at dksX4_goesTo_1 0 rfl rfl)
theorem dX4_goesTo_25 : decode cX4_goesTo 25 = .ok (.invokevirtual 325, 3) := dk_182 1 69 (dk_at dksX4_goesTo_1 1 rfl rfl)
theorem dX4_goesTo_28 : decode cX4_goesTo 28 = .ok (.ifCond .eq 41, 3) := dk_153 0 41 (dk_at dksX4_goesTo_1 4 rfl rfl)
theorem dX4_goesTo_31 : decode cX4_goesTo 31 = .ok (.aload_n 0, 1) := dk_42 (dk_at dksX4_goesTo_1 7 rfl rfl)
theorem dX4_goesTo_32 : decode cX4_goesTo 32 = .ok (.getfield 7, 3) := dk_180 0 7 (dk_at dksX4_goesTo_1 8 rfl rfl)
theorem dX4_goesTo_35 : decode cX4_goesTo 35 = .ok (.bipush 14, 2) := dk_16 14 (dk_at dksX4_goesTo_1 11 rfl rfl)
theorem dX4_goesTo_37 : decode cX4_goesTo 37 = .ok (.iaload, 1) := dk_46 (dk_at dksX4_goesTo_1 13 rfl rfl)
theorem dX4_goesTo_38 : decode cX4_goesTo 38 = .ok (.istore_n 3, 1) := dk_62 (dk_at dksX4_goesTo_1 14 rfl rfl)
theorem dX4_goesTo_39 : decode cX4_goesTo 39 = .ok (.aload_n 0, 1) := dk_42 (dk_at dksX4_goesTo_1 15 rfl rfl)
theorem dX4_goesTo_40 : decode cX4_goesTo 40 = .ok (.getfield 7, 3) := dk_180 0 7 (dk_at dksX4_goesTo_1 16 rfl rfl)
theorem dX4_goesTo_43 : decode cX4_goesTo 43 = .ok (.bipush 18, 2) := dk_16 18 (dk_at dksX4_goesTo_1 19 rfl rfl)
theorem dX4_goesTo_45 : decode cX4_goesTo 45 = .ok (.iload_n 3, 1) := dk_29 (dk_at dksX4_goesTo_1 21 rfl rfl)
theorem dX4_goesTo_46 : decode cX4_goesTo 46 = .ok (.ldc_w 261, 3) := dk_19 1 5 (dk_at dksX4_goesTo_2 0 rfl rfl)
theorem dX4_goesTo_49 : decode cX4_goesTo 49 = .ok (.if_icmp .ne 18, 3) := dk_160 0 18 (dk_at dksX4_goesTo_2 3 rfl rfl)
theorem dX4_goesTo_52 : decode cX4_goesTo 52 = .ok (.aload_n 0, 1) := dk_42 (dk_at dksX4_goesTo_2 6 rfl rfl)
theorem dX4_goesTo_53 : decode cX4_goesTo 53 = .ok (.getfield 53, 3) := dk_180 0 53 (dk_at dksX4_goesTo_2 7 rfl rfl)
theorem dX4_goesTo_56 : decode cX4_goesTo 56 = .ok (.iload_n 2, 1) := dk_28 (dk_at dksX4_goesTo_2 10 rfl rfl)
theorem dX4_goesTo_57 : decode cX4_goesTo 57 = .ok (.baload, 1) := dk_51 (dk_at dksX4_goesTo_2 11 rfl rfl)
theorem dX4_goesTo_58 : decode cX4_goesTo 58 = .ok (.ifCond .eq 9, 3) := dk_153 0 9 (dk_at dksX4_goesTo_2 12 rfl rfl)
theorem dX4_goesTo_61 : decode cX4_goesTo 61 = .ok (.ldc_w 329, 3) := dk_19 1 73 (dk_at dksX4_goesTo_2 15 rfl rfl)
theorem dX4_goesTo_64 : decode cX4_goesTo 64 = .ok (.goto 4, 3) := dk_167 0 4 (dk_at dksX4_goesTo_2 18 rfl rfl)
theorem dX4_goesTo_67 : decode cX4_goesTo 67 = .ok (.iload_n 3, 1) := dk_29 (dk_at dksX4_goesTo_2 21 rfl rfl)
theorem dX4_goesTo_68 : decode cX4_goesTo 68 = .ok (.iastore, 1) := dk_79 (dk_at dksX4_goesTo_2 22 rfl rfl)
theorem dX4_goesTo_69 : decode cX4_goesTo 69 = .ok (.aload_n 0, 1) := dk_42 (dk_at dksX4_goesTo_2 23 rfl rfl)
theorem dX4_goesTo_70 : decode cX4_goesTo 70 = .ok (.iload_n 1, 1) := dk_27 (dk_at dksX4_goesTo_3 0 rfl rfl)
theorem dX4_goesTo_71 : decode cX4_goesTo 71 = .ok (.iconst 2, 1) := dk_5 (dk_at dksX4_goesTo_3 1 rfl rfl)
theorem dX4_goesTo_72 : decode cX4_goesTo 72 = .ok (.invokevirtual 177, 3) := dk_182 0 177 (dk_at dksX4_goesTo_3 2 rfl rfl)
theorem dX4_goesTo_75 : decode cX4_goesTo 75 = .ok (.ifCond .ne 8, 3) := dk_154 0 8 (dk_at dksX4_goesTo_3 5 rfl rfl)
theorem dX4_goesTo_78 : decode cX4_goesTo 78 = .ok (.aload_n 0, 1) := dk_42 (dk_at dksX4_goesTo_3 8 rfl rfl)
theorem dX4_goesTo_79 : decode cX4_goesTo 79 = .ok (.invokevirtual 330, 3) := dk_182 1 74 (dk_at dksX4_goesTo_3 9 rfl rfl)
theorem dX4_goesTo_82 : decode cX4_goesTo 82 = .ok (.return_, 1) := dk_177 (dk_at dksX4_goesTo_3 12 rfl rfl)
theorem dX4_goesTo_83 : decode cX4_goesTo 83 = .ok (.aload_n 0, 1) := dk_42 (dk_at dksX4_goesTo_3 13 rfl rfl)
theorem dX4_goesTo_84 : decode cX4_goesTo 84 = .ok (.getfield 7, 3) := dk_180 0 7 (dk_at dksX4_goesTo_3 14 rfl rfl)
theorem dX4_goesTo_87 : decode cX4_goesTo 87 = .ok (.bipush 8, 2) := dk_16 8 (dk_at dksX4_goesTo_3 17 rfl rfl)
theorem dX4_goesTo_89 : decode cX4_goesTo 89 = .ok (.iconst 1, 1) := dk_4 (dk_at dksX4_goesTo_3 19 rfl rfl)
theorem dX4_goesTo_90 : decode cX4_goesTo 90 = .ok (.iastore, 1) := dk_79 (dk_at dksX4_goesTo_3 20 rfl rfl)
theorem dX4_goesTo_91 : decode cX4_goesTo 91 = .ok (.aload_n 0, 1) := dk_42 (dk_at dksX4_goesTo_3 21 rfl rfl)
theorem dX4_goesTo_92 : decode cX4_goesTo 92 = .ok (.getfield 7, 3) := dk_180 0 7 (dk_at dksX4_goesTo_4 0 rfl rfl)
theorem dX4_goesTo_95 : decode cX4_goesTo 95 = .ok (.bipush 9, 2) := dk_16 9 (dk_at dksX4_goesTo_4 3 rfl rfl)
theorem dX4_goesTo_97 : decode cX4_goesTo 97 = .ok (.iload_n 1, 1) := dk_27 (dk_at dksX4_goesTo_4 5 rfl rfl)
theorem dX4_goesTo_98 : decode cX4_goesTo 98 = .ok (.iastore, 1) := dk_79 (dk_at dksX4_goesTo_4 6 rfl rfl)
theorem dX4_goesTo_99 : decode cX4_goesTo 99 = .ok (.aload_n 0, 1) := dk_42 (dk_at dksX4_goesTo_4 7 rfl rfl)
theorem dX4_goesTo_100 : decode cX4_goesTo 100 = .ok (.getfield 7, 3) := dk_180 0 7 (dk_at dksX4_goesTo_4 8 rfl rfl)
theorem dX4_goesTo_103 : decode cX4_goesTo 103 = .ok (.bipush 10, 2) := dk_16 10 (dk_at dksX4_goesTo_4 11 rfl rfl)
theorem dX4_goesTo_105 : decode cX4_goesTo 105 = .ok (.iconst 0, 1) := dk_3 (dk_at dksX4_goesTo_4 13 rfl rfl)
theorem dX4_goesTo_106 : decode cX4_goesTo 106 = .ok (.iastore, 1) := dk_79 (dk_at dksX4_goesTo_4 14 rfl rfl)
theorem dX4_goesTo_107 : decode cX4_goesTo 107 = .ok (.return_, 1) := dk_177 (dk_at dksX4_goesTo_4 15 rfl rfl)
abbrev cX4_isSynced : ByteArray := prog_19_method_52_code
def yX4_isSynced : MethodName := ⟨RX4, "isSynced", "()Z"⟩
def dkwX4_isSynced_2 : List UInt8 := [172]
abbrev dktX4_isSynced_2 : List UInt8 := dkwX4_isSynced_2 ++ []
def dkwX4_isSynced_1 : List UInt8 := [153, 0, 23, 27, 42, 180, 0, 56, 42, 180, 0, 7, 16, 16, 46, 46, 160, 0, 7, 4, 167, 0, 4, 3]
abbrev dktX4_isSynced_1 : List UInt8 := dkwX4_isSynced_1 ++ dktX4_isSynced_2
def dkwX4_isSynced_0 : List UInt8 := [42, 180, 0, 56, 42, 180, 0, 7, 16, 12, 46, 46, 60, 42, 180, 0, 7, 16, 20, 46, 154, 0, 27, 27]
abbrev dktX4_isSynced_0 : List UInt8 := dkwX4_isSynced_0 ++ dktX4_isSynced_1
theorem dksX4_isSynced_0 : cX4_isSynced.data.toList.drop 0 = dktX4_isSynced_0 := by decide +kernel
theorem dksX4_isSynced_1 : cX4_isSynced.data.toList.drop 24 = dktX4_isSynced_1 := dk_seg dksX4_isSynced_0 24 rfl rfl
theorem dksX4_isSynced_2 : cX4_isSynced.data.toList.drop 48 = dktX4_isSynced_2 := dk_seg dksX4_isSynced_1 24 rfl rfl
theorem dX4_isSynced_0 : decode cX4_isSynced 0 = .ok (.aload_n 0, 1) := dk_42 (dk_at dksX4_isSynced_0 0 rfl rfl)
theorem dX4_isSynced_1 : decode cX4_isSynced 1 = .ok (.getfield 56, 3) := dk_180 0 56 (dk_at dksX4_isSynced_0 1 rfl rfl)
theorem dX4_isSynced_4 : decode cX4_isSynced 4 = .ok (.aload_n 0, 1) := dk_42 (dk_at dksX4_isSynced_0 4 rfl rfl)
theorem dX4_isSynced_5 : decode cX4_isSynced 5 = .ok (.getfield 7, 3) := dk_180 0 7 (dk_at dksX4_isSynced_0 5 rfl rfl)
theorem dX4_isSynced_8 : decode cX4_isSynced 8 = .ok (.bipush 12, 2) := dk_16 12 (dk_at dksX4_isSynced_0 8 rfl rfl)
theorem dX4_isSynced_10 : decode cX4_isSynced 10 = .ok (.iaload, 1) := dk_46 (dk_at dksX4_isSynced_0 10 rfl rfl)
theorem dX4_isSynced_11 : decode cX4_isSynced 11 = .ok (.iaload, 1) := dk_46 (dk_at dksX4_isSynced_0 11 rfl rfl)
theorem dX4_isSynced_12 : decode cX4_isSynced 12 = .ok (.istore_n 1, 1) := dk_60 (dk_at dksX4_isSynced_0 12 rfl rfl)
theorem dX4_isSynced_13 : decode cX4_isSynced 13 = .ok (.aload_n 0, 1) := dk_42 (dk_at dksX4_isSynced_0 13 rfl rfl)
theorem dX4_isSynced_14 : decode cX4_isSynced 14 = .ok (.getfield 7, 3) := dk_180 0 7 (dk_at dksX4_isSynced_0 14 rfl rfl)
theorem dX4_isSynced_17 : decode cX4_isSynced 17 = .ok (.bipush 20, 2) := dk_16 20 (dk_at dksX4_isSynced_0 17 rfl rfl)
theorem dX4_isSynced_19 : decode cX4_isSynced 19 = .ok (.iaload, 1) := dk_46 (dk_at dksX4_isSynced_0 19 rfl rfl)
theorem dX4_isSynced_20 : decode cX4_isSynced 20 = .ok (.ifCond .ne 27, 3) := dk_154 0 27 (dk_at dksX4_isSynced_0 20 rfl rfl)
theorem dX4_isSynced_23 : decode cX4_isSynced 23 = .ok (.iload_n 1, 1) := dk_27 (dk_at dksX4_isSynced_0 23 rfl rfl)
theorem dX4_isSynced_24 : decode cX4_isSynced 24 = .ok (.ifCond .eq 23, 3) := dk_153 0 23 (dk_at dksX4_isSynced_1 0 rfl rfl)
theorem dX4_isSynced_27 : decode cX4_isSynced 27 = .ok (.iload_n 1, 1) := dk_27 (dk_at dksX4_isSynced_1 3 rfl rfl)
theorem dX4_isSynced_28 : decode cX4_isSynced 28 = .ok (.aload_n 0, 1) := dk_42 (dk_at dksX4_isSynced_1 4 rfl rfl)
theorem dX4_isSynced_29 : decode cX4_isSynced 29 = .ok (.getfield 56, 3) := dk_180 0 56 (dk_at dksX4_isSynced_1 5 rfl rfl)
theorem dX4_isSynced_32 : decode cX4_isSynced 32 = .ok (.aload_n 0, 1) := dk_42 (dk_at dksX4_isSynced_1 8 rfl rfl)
theorem dX4_isSynced_33 : decode cX4_isSynced 33 = .ok (.getfield 7, 3) := dk_180 0 7 (dk_at dksX4_isSynced_1 9 rfl rfl)
theorem dX4_isSynced_36 : decode cX4_isSynced 36 = .ok (.bipush 16, 2) := dk_16 16 (dk_at dksX4_isSynced_1 12 rfl rfl)
theorem dX4_isSynced_38 : decode cX4_isSynced 38 = .ok (.iaload, 1) := dk_46 (dk_at dksX4_isSynced_1 14 rfl rfl)
theorem dX4_isSynced_39 : decode cX4_isSynced 39 = .ok (.iaload, 1) := dk_46 (dk_at dksX4_isSynced_1 15 rfl rfl)
theorem dX4_isSynced_40 : decode cX4_isSynced 40 = .ok (.if_icmp .ne 7, 3) := dk_160 0 7 (dk_at dksX4_isSynced_1 16 rfl rfl)
theorem dX4_isSynced_43 : decode cX4_isSynced 43 = .ok (.iconst 1, 1) := dk_4 (dk_at dksX4_isSynced_1 19 rfl rfl)
theorem dX4_isSynced_44 : decode cX4_isSynced 44 = .ok (.goto 4, 3) := dk_167 0 4 (dk_at dksX4_isSynced_1 20 rfl rfl)
theorem dX4_isSynced_47 : decode cX4_isSynced 47 = .ok (.iconst 0, 1) := dk_3 (dk_at dksX4_isSynced_1 23 rfl rfl)
theorem dX4_isSynced_48 : decode cX4_isSynced 48 = .ok (.ireturn, 1) := dk_172 (dk_at dksX4_isSynced_2 0 rfl rfl)
abbrev cX4_ends : ByteArray := prog_19_method_75_code
def yX4_ends : MethodName := ⟨RX4, "ends", "()V"⟩
def dkwX4_ends_1 : List UInt8 := [42, 180, 0, 7, 16, 20, 3, 79, 42, 180, 0, 7, 16, 21, 3, 79, 177]
abbrev dktX4_ends_1 : List UInt8 := dkwX4_ends_1 ++ []
def dkwX4_ends_0 : List UInt8 := [42, 16, 16, 16, 12, 182, 1, 66, 42, 180, 0, 7, 16, 8, 3, 79, 42, 180, 0, 7, 16, 11, 3, 79]
abbrev dktX4_ends_0 : List UInt8 := dkwX4_ends_0 ++ dktX4_ends_1
theorem dksX4_ends_0 : cX4_ends.data.toList.drop 0 = dktX4_ends_0 := by decide +kernel
theorem dksX4_ends_1 : cX4_ends.data.toList.drop 24 = dktX4_ends_1 := dk_seg dksX4_ends_0 24 rfl rfl
theorem dX4_ends_0 : decode cX4_ends 0 = .ok (.aload_n 0, 1) := dk_42 (dk_at dksX4_ends_0 0 rfl rfl)
theorem dX4_ends_1 : decode cX4_ends 1 = .ok (.bipush 16, 2) := dk_16 16 (dk_at dksX4_ends_0 1 rfl rfl)
theorem dX4_ends_3 : decode cX4_ends 3 = .ok (.bipush 12, 2) := dk_16 12 (dk_at dksX4_ends_0 3 rfl rfl)
theorem dX4_ends_5 : decode cX4_ends 5 = .ok (.invokevirtual 322, 3) := dk_182 1 66 (dk_at dksX4_ends_0 5 rfl rfl)
theorem dX4_ends_8 : decode cX4_ends 8 = .ok (.aload_n 0, 1) := dk_42 (dk_at dksX4_ends_0 8 rfl rfl)
theorem dX4_ends_9 : decode cX4_ends 9 = .ok (.getfield 7, 3) := dk_180 0 7 (dk_at dksX4_ends_0 9 rfl rfl)
theorem dX4_ends_12 : decode cX4_ends 12 = .ok (.bipush 8, 2) := dk_16 8 (dk_at dksX4_ends_0 12 rfl rfl)
theorem dX4_ends_14 : decode cX4_ends 14 = .ok (.iconst 0, 1) := dk_3 (dk_at dksX4_ends_0 14 rfl rfl)
theorem dX4_ends_15 : decode cX4_ends 15 = .ok (.iastore, 1) := dk_79 (dk_at dksX4_ends_0 15 rfl rfl)
theorem dX4_ends_16 : decode cX4_ends 16 = .ok (.aload_n 0, 1) := dk_42 (dk_at dksX4_ends_0 16 rfl rfl)
theorem dX4_ends_17 : decode cX4_ends 17 = .ok (.getfield 7, 3) := dk_180 0 7 (dk_at dksX4_ends_0 17 rfl rfl)
theorem dX4_ends_20 : decode cX4_ends 20 = .ok (.bipush 11, 2) := dk_16 11 (dk_at dksX4_ends_0 20 rfl rfl)
theorem dX4_ends_22 : decode cX4_ends 22 = .ok (.iconst 0, 1) := dk_3 (dk_at dksX4_ends_0 22 rfl rfl)
theorem dX4_ends_23 : decode cX4_ends 23 = .ok (.iastore, 1) := dk_79 (dk_at dksX4_ends_0 23 rfl rfl)
theorem dX4_ends_24 : decode cX4_ends 24 = .ok (.aload_n 0, 1) := dk_42 (dk_at dksX4_ends_1 0 rfl rfl)
theorem dX4_ends_25 : decode cX4_ends 25 = .ok (.getfield 7, 3) := dk_180 0 7 (dk_at dksX4_ends_1 1 rfl rfl)
theorem dX4_ends_28 : decode cX4_ends 28 = .ok (.bipush 20, 2) := dk_16 20 (dk_at dksX4_ends_1 4 rfl rfl)
theorem dX4_ends_30 : decode cX4_ends 30 = .ok (.iconst 0, 1) := dk_3 (dk_at dksX4_ends_1 6 rfl rfl)
theorem dX4_ends_31 : decode cX4_ends 31 = .ok (.iastore, 1) := dk_79 (dk_at dksX4_ends_1 7 rfl rfl)
theorem dX4_ends_32 : decode cX4_ends 32 = .ok (.aload_n 0, 1) := dk_42 (dk_at dksX4_ends_1 8 rfl rfl)
theorem dX4_ends_33 : decode cX4_ends 33 = .ok (.getfield 7, 3) := dk_180 0 7 (dk_at dksX4_ends_1 9 rfl rfl)
theorem dX4_ends_36 : decode cX4_ends 36 = .ok (.bipush 21, 2) := dk_16 21 (dk_at dksX4_ends_1 12 rfl rfl)
theorem dX4_ends_38 : decode cX4_ends 38 = .ok (.iconst 0, 1) := dk_3 (dk_at dksX4_ends_1 14 rfl rfl)
theorem dX4_ends_39 : decode cX4_ends 39 = .ok (.iastore, 1) := dk_79 (dk_at dksX4_ends_1 15 rfl rfl)
theorem dX4_ends_40 : decode cX4_ends 40 = .ok (.return_, 1) := dk_177 (dk_at dksX4_ends_1 16 rfl rfl)
abbrev cX4_stepOf : ByteArray := prog_19_method_50_code
def yX4_stepOf : MethodName := ⟨RX4, "stepOf", "(I)J"⟩
def dkwX4_stepOf_1 : List UInt8 := [28, 182, 1, 6, 105, 109, 173]
abbrev dktX4_stepOf_1 : List UInt8 := dkwX4_stepOf_1 ++ []
def dkwX4_stepOf_0 : List UInt8 := [42, 180, 0, 7, 27, 3, 96, 46, 61, 20, 0, 251, 42, 180, 0, 50, 28, 46, 133, 105, 20, 0, 116, 42]
abbrev dktX4_stepOf_0 : List UInt8 := dkwX4_stepOf_0 ++ dktX4_stepOf_1
theorem dksX4_stepOf_0 : cX4_stepOf.data.toList.drop 0 = dktX4_stepOf_0 := by decide +kernel
theorem dksX4_stepOf_1 : cX4_stepOf.data.toList.drop 24 = dktX4_stepOf_1 := dk_seg dksX4_stepOf_0 24 rfl rfl
theorem dX4_stepOf_0 : decode cX4_stepOf 0 = .ok (.aload_n 0, 1) := dk_42 (dk_at dksX4_stepOf_0 0 rfl rfl)
theorem dX4_stepOf_1 : decode cX4_stepOf 1 = .ok (.getfield 7, 3) := dk_180 0 7 (dk_at dksX4_stepOf_0 1 rfl rfl)
theorem dX4_stepOf_4 : decode cX4_stepOf 4 = .ok (.iload_n 1, 1) := dk_27 (dk_at dksX4_stepOf_0 4 rfl rfl)
theorem dX4_stepOf_5 : decode cX4_stepOf 5 = .ok (.iconst 0, 1) := dk_3 (dk_at dksX4_stepOf_0 5 rfl rfl)
theorem dX4_stepOf_6 : decode cX4_stepOf 6 = .ok (.iadd, 1) := dk_96 (dk_at dksX4_stepOf_0 6 rfl rfl)
theorem dX4_stepOf_7 : decode cX4_stepOf 7 = .ok (.iaload, 1) := dk_46 (dk_at dksX4_stepOf_0 7 rfl rfl)
theorem dX4_stepOf_8 : decode cX4_stepOf 8 = .ok (.istore_n 2, 1) := dk_61 (dk_at dksX4_stepOf_0 8 rfl rfl)
theorem dX4_stepOf_9 : decode cX4_stepOf 9 = .ok (.ldc2_w 251, 3) := dk_20 0 251 (dk_at dksX4_stepOf_0 9 rfl rfl)
theorem dX4_stepOf_12 : decode cX4_stepOf 12 = .ok (.aload_n 0, 1) := dk_42 (dk_at dksX4_stepOf_0 12 rfl rfl)
theorem dX4_stepOf_13 : decode cX4_stepOf 13 = .ok (.getfield 50, 3) := dk_180 0 50 (dk_at dksX4_stepOf_0 13 rfl rfl)
theorem dX4_stepOf_16 : decode cX4_stepOf 16 = .ok (.iload_n 2, 1) := dk_28 (dk_at dksX4_stepOf_0 16 rfl rfl)
theorem dX4_stepOf_17 : decode cX4_stepOf 17 = .ok (.iaload, 1) := dk_46 (dk_at dksX4_stepOf_0 17 rfl rfl)
theorem dX4_stepOf_18 : decode cX4_stepOf 18 = .ok (.i2l, 1) := dk_133 (dk_at dksX4_stepOf_0 18 rfl rfl)
theorem dX4_stepOf_19 : decode cX4_stepOf 19 = .ok (.lmul, 1) := dk_105 (dk_at dksX4_stepOf_0 19 rfl rfl)
theorem dX4_stepOf_20 : decode cX4_stepOf 20 = .ok (.ldc2_w 116, 3) := dk_20 0 116 (dk_at dksX4_stepOf_0 20 rfl rfl)
theorem dX4_stepOf_23 : decode cX4_stepOf 23 = .ok (.aload_n 0, 1) := dk_42 (dk_at dksX4_stepOf_0 23 rfl rfl)
theorem dX4_stepOf_24 : decode cX4_stepOf 24 = .ok (.iload_n 2, 1) := dk_28 (dk_at dksX4_stepOf_1 0 rfl rfl)
theorem dX4_stepOf_25 : decode cX4_stepOf 25 = .ok (.invokevirtual 262, 3) := dk_182 1 6 (dk_at dksX4_stepOf_1 1 rfl rfl)
theorem dX4_stepOf_28 : decode cX4_stepOf 28 = .ok (.lmul, 1) := dk_105 (dk_at dksX4_stepOf_1 4 rfl rfl)
theorem dX4_stepOf_29 : decode cX4_stepOf 29 = .ok (.ldiv, 1) := dk_109 (dk_at dksX4_stepOf_1 5 rfl rfl)
theorem dX4_stepOf_30 : decode cX4_stepOf 30 = .ok (.lreturn, 1) := dk_173 (dk_at dksX4_stepOf_1 6 rfl rfl)
abbrev cX4_lengthOf : ByteArray := prog_19_method_47_code
def yX4_lengthOf : MethodName := ⟨RX4, "lengthOf", "(I)J"⟩
def dkwX4_lengthOf_3 : List UInt8 := [109, 173]
abbrev dktX4_lengthOf_3 : List UInt8 := dkwX4_lengthOf_3 ++ []
def dkwX4_lengthOf_2 : List UInt8 := [132, 4, 1, 167, 255, 225, 32, 20, 0, 251, 109, 10, 148, 156, 0, 7, 10, 167, 0, 8, 32, 20, 0, 251]
abbrev dktX4_lengthOf_2 : List UInt8 := dkwX4_lengthOf_2 ++ dktX4_lengthOf_3
def dkwX4_lengthOf_1 : List UInt8 := [162, 0, 28, 32, 42, 180, 0, 72, 21, 4, 47, 42, 180, 0, 20, 21, 4, 46, 133, 105, 97, 65]
abbrev dktX4_lengthOf_1 : List UInt8 := dkwX4_lengthOf_1 ++ dktX4_lengthOf_2
def dkwX4_lengthOf_0 : List UInt8 := [42, 42, 180, 0, 47, 27, 46, 20, 0, 251, 182, 0, 253, 9, 65, 3, 54, 4, 21, 4, 42, 180, 0, 120]
abbrev dktX4_lengthOf_0 : List UInt8 := dkwX4_lengthOf_0 ++ dktX4_lengthOf_1
theorem dksX4_lengthOf_0 : cX4_lengthOf.data.toList.drop 0 = dktX4_lengthOf_0 := by decide +kernel
theorem dksX4_lengthOf_1 : cX4_lengthOf.data.toList.drop 24 = dktX4_lengthOf_1 := dk_seg dksX4_lengthOf_0 24 rfl rfl
theorem dksX4_lengthOf_2 : cX4_lengthOf.data.toList.drop 46 = dktX4_lengthOf_2 := dk_seg dksX4_lengthOf_1 22 rfl rfl
theorem dksX4_lengthOf_3 : cX4_lengthOf.data.toList.drop 70 = dktX4_lengthOf_3 := dk_seg dksX4_lengthOf_2 24 rfl rfl
theorem dX4_lengthOf_0 : decode cX4_lengthOf 0 = .ok (.aload_n 0, 1) := dk_42 (dk_at dksX4_lengthOf_0 0 rfl rfl)
theorem dX4_lengthOf_1 : decode cX4_lengthOf 1 = .ok (.aload_n 0, 1) := dk_42 (dk_at dksX4_lengthOf_0 1 rfl rfl)
theorem dX4_lengthOf_2 : decode cX4_lengthOf 2 = .ok (.getfield 47, 3) := dk_180 0 47 (dk_at dksX4_lengthOf_0 2 rfl rfl)
theorem dX4_lengthOf_5 : decode cX4_lengthOf 5 = .ok (.iload_n 1, 1) := dk_27 (dk_at dksX4_lengthOf_0 5 rfl rfl)
theorem dX4_lengthOf_6 : decode cX4_lengthOf 6 = .ok (.iaload, 1) := dk_46 (dk_at dksX4_lengthOf_0 6 rfl rfl)
theorem dX4_lengthOf_7 : decode cX4_lengthOf 7 = .ok (.ldc2_w 251, 3) := dk_20 0 251 (dk_at dksX4_lengthOf_0 7 rfl rfl)
theorem dX4_lengthOf_10 : decode cX4_lengthOf 10 = .ok (.invokevirtual 253, 3) := dk_182 0 253 (dk_at dksX4_lengthOf_0 10 rfl rfl)
theorem dX4_lengthOf_13 : decode cX4_lengthOf 13 = .ok (.lconst 0, 1) := dk_9 (dk_at dksX4_lengthOf_0 13 rfl rfl)
theorem dX4_lengthOf_14 : decode cX4_lengthOf 14 = .ok (.lstore_n 2, 1) := dk_65 (dk_at dksX4_lengthOf_0 14 rfl rfl)
theorem dX4_lengthOf_15 : decode cX4_lengthOf 15 = .ok (.iconst 0, 1) := dk_3 (dk_at dksX4_lengthOf_0 15 rfl rfl)
theorem dX4_lengthOf_16 : decode cX4_lengthOf 16 = .ok (.istore 4, 2) := dk_54 4 (dk_at dksX4_lengthOf_0 16 rfl rfl)
theorem dX4_lengthOf_18 : decode cX4_lengthOf 18 = .ok (.iload 4, 2) := dk_21 4 (dk_at dksX4_lengthOf_0 18 rfl rfl)
theorem dX4_lengthOf_20 : decode cX4_lengthOf 20 = .ok (.aload_n 0, 1) := dk_42 (dk_at dksX4_lengthOf_0 20 rfl rfl)
theorem dX4_lengthOf_21 : decode cX4_lengthOf 21 = .ok (.getfield 120, 3) := dk_180 0 120 (dk_at dksX4_lengthOf_0 21 rfl rfl)
theorem dX4_lengthOf_24 : decode cX4_lengthOf 24 = .ok (.if_icmp .ge 28, 3) := dk_162 0 28 (dk_at dksX4_lengthOf_1 0 rfl rfl)
theorem dX4_lengthOf_27 : decode cX4_lengthOf 27 = .ok (.lload_n 2, 1) := dk_32 (dk_at dksX4_lengthOf_1 3 rfl rfl)
theorem dX4_lengthOf_28 : decode cX4_lengthOf 28 = .ok (.aload_n 0, 1) := dk_42 (dk_at dksX4_lengthOf_1 4 rfl rfl)
theorem dX4_lengthOf_29 : decode cX4_lengthOf 29 = .ok (.getfield 72, 3) := dk_180 0 72 (dk_at dksX4_lengthOf_1 5 rfl rfl)
theorem dX4_lengthOf_32 : decode cX4_lengthOf 32 = .ok (.iload 4, 2) := dk_21 4 (dk_at dksX4_lengthOf_1 8 rfl rfl)
theorem dX4_lengthOf_34 : decode cX4_lengthOf 34 = .ok (.laload, 1) := dk_47 (dk_at dksX4_lengthOf_1 10 rfl rfl)
theorem dX4_lengthOf_35 : decode cX4_lengthOf 35 = .ok (.aload_n 0, 1) := dk_42 (dk_at dksX4_lengthOf_1 11 rfl rfl)
theorem dX4_lengthOf_36 : decode cX4_lengthOf 36 = .ok (.getfield 20, 3) := dk_180 0 20 (dk_at dksX4_lengthOf_1 12 rfl rfl)
theorem dX4_lengthOf_39 : decode cX4_lengthOf 39 = .ok (.iload 4, 2) := dk_21 4 (dk_at dksX4_lengthOf_1 15 rfl rfl)
theorem dX4_lengthOf_41 : decode cX4_lengthOf 41 = .ok (.iaload, 1) := dk_46 (dk_at dksX4_lengthOf_1 17 rfl rfl)
theorem dX4_lengthOf_42 : decode cX4_lengthOf 42 = .ok (.i2l, 1) := dk_133 (dk_at dksX4_lengthOf_1 18 rfl rfl)
theorem dX4_lengthOf_43 : decode cX4_lengthOf 43 = .ok (.lmul, 1) := dk_105 (dk_at dksX4_lengthOf_1 19 rfl rfl)
theorem dX4_lengthOf_44 : decode cX4_lengthOf 44 = .ok (.ladd, 1) := dk_97 (dk_at dksX4_lengthOf_1 20 rfl rfl)
theorem dX4_lengthOf_45 : decode cX4_lengthOf 45 = .ok (.lstore_n 2, 1) := dk_65 (dk_at dksX4_lengthOf_1 21 rfl rfl)
theorem dX4_lengthOf_46 : decode cX4_lengthOf 46 = .ok (.iinc 4 1, 3) := dk_132 4 1 (dk_at dksX4_lengthOf_2 0 rfl rfl)
theorem dX4_lengthOf_49 : decode cX4_lengthOf 49 = .ok (.goto (-31), 3) := dk_167 255 225 (dk_at dksX4_lengthOf_2 3 rfl rfl)
theorem dX4_lengthOf_52 : decode cX4_lengthOf 52 = .ok (.lload_n 2, 1) := dk_32 (dk_at dksX4_lengthOf_2 6 rfl rfl)
theorem dX4_lengthOf_53 : decode cX4_lengthOf 53 = .ok (.ldc2_w 251, 3) := dk_20 0 251 (dk_at dksX4_lengthOf_2 7 rfl rfl)
theorem dX4_lengthOf_56 : decode cX4_lengthOf 56 = .ok (.ldiv, 1) := dk_109 (dk_at dksX4_lengthOf_2 10 rfl rfl)
theorem dX4_lengthOf_57 : decode cX4_lengthOf 57 = .ok (.lconst 1, 1) := dk_10 (dk_at dksX4_lengthOf_2 11 rfl rfl)
theorem dX4_lengthOf_58 : decode cX4_lengthOf 58 = .ok (.lcmp, 1) := dk_148 (dk_at dksX4_lengthOf_2 12 rfl rfl)
theorem dX4_lengthOf_59 : decode cX4_lengthOf 59 = .ok (.ifCond .ge 7, 3) := dk_156 0 7 (dk_at dksX4_lengthOf_2 13 rfl rfl)
theorem dX4_lengthOf_62 : decode cX4_lengthOf 62 = .ok (.lconst 1, 1) := dk_10 (dk_at dksX4_lengthOf_2 16 rfl rfl)
theorem dX4_lengthOf_63 : decode cX4_lengthOf 63 = .ok (.goto 8, 3) := dk_167 0 8 (dk_at dksX4_lengthOf_2 17 rfl rfl)
theorem dX4_lengthOf_66 : decode cX4_lengthOf 66 = .ok (.lload_n 2, 1) := dk_32 (dk_at dksX4_lengthOf_2 20 rfl rfl)
theorem dX4_lengthOf_67 : decode cX4_lengthOf 67 = .ok (.ldc2_w 251, 3) := dk_20 0 251 (dk_at dksX4_lengthOf_2 21 rfl rfl)
theorem dX4_lengthOf_70 : decode cX4_lengthOf 70 = .ok (.ldiv, 1) := dk_109 (dk_at dksX4_lengthOf_3 0 rfl rfl)
theorem dX4_lengthOf_71 : decode cX4_lengthOf 71 = .ok (.lreturn, 1) := dk_173 (dk_at dksX4_lengthOf_3 1 rfl rfl)
abbrev cX4_advances : ByteArray := prog_19_method_49_code
def yX4_advances : MethodName := ⟨RX4, "advances", "(IJ)V"⟩
def dkwX4_advances_4 : List UInt8 := [136, 79, 42, 180, 0, 7, 27, 6, 96, 3, 79, 177]
abbrev dktX4_advances_4 : List UInt8 := dkwX4_advances_4 ++ []
def dkwX4_advances_3 : List UInt8 := [42, 180, 0, 7, 27, 5, 96, 22, 4, 20, 0, 251, 148, 158, 0, 9, 19, 1, 5, 167, 0, 6, 22, 4]
abbrev dktX4_advances_3 : List UInt8 := dkwX4_advances_3 ++ dktX4_advances_4
def dkwX4_advances_2 : List UInt8 := [22, 4, 20, 0, 251, 113, 136, 79, 167, 0, 42, 42, 180, 0, 7, 27, 5, 96, 46, 133, 32, 97, 55, 4]
abbrev dktX4_advances_2 : List UInt8 := dkwX4_advances_2 ++ dktX4_advances_3
def dkwX4_advances_1 : List UInt8 := [55, 4, 42, 180, 0, 7, 27, 4, 96, 22, 4, 20, 0, 251, 109, 136, 79, 42, 180, 0, 7, 27, 5, 96]
abbrev dktX4_advances_1 : List UInt8 := dkwX4_advances_1 ++ dktX4_advances_2
def dkwX4_advances_0 : List UInt8 := [42, 180, 0, 53, 42, 180, 0, 7, 27, 3, 96, 46, 51, 153, 0, 45, 42, 27, 182, 1, 1, 32, 97]
abbrev dktX4_advances_0 : List UInt8 := dkwX4_advances_0 ++ dktX4_advances_1
theorem dksX4_advances_0 : cX4_advances.data.toList.drop 0 = dktX4_advances_0 := by decide +kernel
theorem dksX4_advances_1 : cX4_advances.data.toList.drop 23 = dktX4_advances_1 := dk_seg dksX4_advances_0 23 rfl rfl
theorem dksX4_advances_2 : cX4_advances.data.toList.drop 47 = dktX4_advances_2 := dk_seg dksX4_advances_1 24 rfl rfl
theorem dksX4_advances_3 : cX4_advances.data.toList.drop 71 = dktX4_advances_3 := dk_seg dksX4_advances_2 24 rfl rfl
theorem dksX4_advances_4 : cX4_advances.data.toList.drop 95 = dktX4_advances_4 := dk_seg dksX4_advances_3 24 rfl rfl
theorem dX4_advances_0 : decode cX4_advances 0 = .ok (.aload_n 0, 1) := dk_42 (dk_at dksX4_advances_0 0 rfl rfl)
theorem dX4_advances_1 : decode cX4_advances 1 = .ok (.getfield 53, 3) := dk_180 0 53 (dk_at dksX4_advances_0 1 rfl rfl)
theorem dX4_advances_4 : decode cX4_advances 4 = .ok (.aload_n 0, 1) := dk_42 (dk_at dksX4_advances_0 4 rfl rfl)
theorem dX4_advances_5 : decode cX4_advances 5 = .ok (.getfield 7, 3) := dk_180 0 7 (dk_at dksX4_advances_0 5 rfl rfl)
theorem dX4_advances_8 : decode cX4_advances 8 = .ok (.iload_n 1, 1) := dk_27 (dk_at dksX4_advances_0 8 rfl rfl)
theorem dX4_advances_9 : decode cX4_advances 9 = .ok (.iconst 0, 1) := dk_3 (dk_at dksX4_advances_0 9 rfl rfl)
theorem dX4_advances_10 : decode cX4_advances 10 = .ok (.iadd, 1) := dk_96 (dk_at dksX4_advances_0 10 rfl rfl)
theorem dX4_advances_11 : decode cX4_advances 11 = .ok (.iaload, 1) := dk_46 (dk_at dksX4_advances_0 11 rfl rfl)
theorem dX4_advances_12 : decode cX4_advances 12 = .ok (.baload, 1) := dk_51 (dk_at dksX4_advances_0 12 rfl rfl)
theorem dX4_advances_13 : decode cX4_advances 13 = .ok (.ifCond .eq 45, 3) := dk_153 0 45 (dk_at dksX4_advances_0 13 rfl rfl)
theorem dX4_advances_16 : decode cX4_advances 16 = .ok (.aload_n 0, 1) := dk_42 (dk_at dksX4_advances_0 16 rfl rfl)
theorem dX4_advances_17 : decode cX4_advances 17 = .ok (.iload_n 1, 1) := dk_27 (dk_at dksX4_advances_0 17 rfl rfl)
theorem dX4_advances_18 : decode cX4_advances 18 = .ok (.invokevirtual 257, 3) := dk_182 1 1 (dk_at dksX4_advances_0 18 rfl rfl)
theorem dX4_advances_21 : decode cX4_advances 21 = .ok (.lload_n 2, 1) := dk_32 (dk_at dksX4_advances_0 21 rfl rfl)
theorem dX4_advances_22 : decode cX4_advances 22 = .ok (.ladd, 1) := dk_97 (dk_at dksX4_advances_0 22 rfl rfl)
theorem dX4_advances_23 : decode cX4_advances 23 = .ok (.lstore 4, 2) := dk_55 4 (dk_at dksX4_advances_1 0 rfl rfl)
theorem dX4_advances_25 : decode cX4_advances 25 = .ok (.aload_n 0, 1) := dk_42 (dk_at dksX4_advances_1 2 rfl rfl)
theorem dX4_advances_26 : decode cX4_advances 26 = .ok (.getfield 7, 3) := dk_180 0 7 (dk_at dksX4_advances_1 3 rfl rfl)
theorem dX4_advances_29 : decode cX4_advances 29 = .ok (.iload_n 1, 1) := dk_27 (dk_at dksX4_advances_1 6 rfl rfl)
theorem dX4_advances_30 : decode cX4_advances 30 = .ok (.iconst 1, 1) := dk_4 (dk_at dksX4_advances_1 7 rfl rfl)
theorem dX4_advances_31 : decode cX4_advances 31 = .ok (.iadd, 1) := dk_96 (dk_at dksX4_advances_1 8 rfl rfl)
theorem dX4_advances_32 : decode cX4_advances 32 = .ok (.lload 4, 2) := dk_22 4 (dk_at dksX4_advances_1 9 rfl rfl)
theorem dX4_advances_34 : decode cX4_advances 34 = .ok (.ldc2_w 251, 3) := dk_20 0 251 (dk_at dksX4_advances_1 11 rfl rfl)
theorem dX4_advances_37 : decode cX4_advances 37 = .ok (.ldiv, 1) := dk_109 (dk_at dksX4_advances_1 14 rfl rfl)
theorem dX4_advances_38 : decode cX4_advances 38 = .ok (.l2i, 1) := dk_136 (dk_at dksX4_advances_1 15 rfl rfl)
theorem dX4_advances_39 : decode cX4_advances 39 = .ok (.iastore, 1) := dk_79 (dk_at dksX4_advances_1 16 rfl rfl)
theorem dX4_advances_40 : decode cX4_advances 40 = .ok (.aload_n 0, 1) := dk_42 (dk_at dksX4_advances_1 17 rfl rfl)
theorem dX4_advances_41 : decode cX4_advances 41 = .ok (.getfield 7, 3) := dk_180 0 7 (dk_at dksX4_advances_1 18 rfl rfl)
theorem dX4_advances_44 : decode cX4_advances 44 = .ok (.iload_n 1, 1) := dk_27 (dk_at dksX4_advances_1 21 rfl rfl)
theorem dX4_advances_45 : decode cX4_advances 45 = .ok (.iconst 2, 1) := dk_5 (dk_at dksX4_advances_1 22 rfl rfl)
theorem dX4_advances_46 : decode cX4_advances 46 = .ok (.iadd, 1) := dk_96 (dk_at dksX4_advances_1 23 rfl rfl)
theorem dX4_advances_47 : decode cX4_advances 47 = .ok (.lload 4, 2) := dk_22 4 (dk_at dksX4_advances_2 0 rfl rfl)
theorem dX4_advances_49 : decode cX4_advances 49 = .ok (.ldc2_w 251, 3) := dk_20 0 251 (dk_at dksX4_advances_2 2 rfl rfl)
theorem dX4_advances_52 : decode cX4_advances 52 = .ok (.lrem, 1) := dk_113 (dk_at dksX4_advances_2 5 rfl rfl)
theorem dX4_advances_53 : decode cX4_advances 53 = .ok (.l2i, 1) := dk_136 (dk_at dksX4_advances_2 6 rfl rfl)
theorem dX4_advances_54 : decode cX4_advances 54 = .ok (.iastore, 1) := dk_79 (dk_at dksX4_advances_2 7 rfl rfl)
theorem dX4_advances_55 : decode cX4_advances 55 = .ok (.goto 42, 3) := dk_167 0 42 (dk_at dksX4_advances_2 8 rfl rfl)
theorem dX4_advances_58 : decode cX4_advances 58 = .ok (.aload_n 0, 1) := dk_42 (dk_at dksX4_advances_2 11 rfl rfl)
theorem dX4_advances_59 : decode cX4_advances 59 = .ok (.getfield 7, 3) := dk_180 0 7 (dk_at dksX4_advances_2 12 rfl rfl)
theorem dX4_advances_62 : decode cX4_advances 62 = .ok (.iload_n 1, 1) := dk_27 (dk_at dksX4_advances_2 15 rfl rfl)
theorem dX4_advances_63 : decode cX4_advances 63 = .ok (.iconst 2, 1) := dk_5 (dk_at dksX4_advances_2 16 rfl rfl)
theorem dX4_advances_64 : decode cX4_advances 64 = .ok (.iadd, 1) := dk_96 (dk_at dksX4_advances_2 17 rfl rfl)
theorem dX4_advances_65 : decode cX4_advances 65 = .ok (.iaload, 1) := dk_46 (dk_at dksX4_advances_2 18 rfl rfl)
theorem dX4_advances_66 : decode cX4_advances 66 = .ok (.i2l, 1) := dk_133 (dk_at dksX4_advances_2 19 rfl rfl)
theorem dX4_advances_67 : decode cX4_advances 67 = .ok (.lload_n 2, 1) := dk_32 (dk_at dksX4_advances_2 20 rfl rfl)
theorem dX4_advances_68 : decode cX4_advances 68 = .ok (.ladd, 1) := dk_97 (dk_at dksX4_advances_2 21 rfl rfl)
theorem dX4_advances_69 : decode cX4_advances 69 = .ok (.lstore 4, 2) := dk_55 4 (dk_at dksX4_advances_2 22 rfl rfl)
theorem dX4_advances_71 : decode cX4_advances 71 = .ok (.aload_n 0, 1) := dk_42 (dk_at dksX4_advances_3 0 rfl rfl)
theorem dX4_advances_72 : decode cX4_advances 72 = .ok (.getfield 7, 3) := dk_180 0 7 (dk_at dksX4_advances_3 1 rfl rfl)
theorem dX4_advances_75 : decode cX4_advances 75 = .ok (.iload_n 1, 1) := dk_27 (dk_at dksX4_advances_3 4 rfl rfl)
theorem dX4_advances_76 : decode cX4_advances 76 = .ok (.iconst 2, 1) := dk_5 (dk_at dksX4_advances_3 5 rfl rfl)
theorem dX4_advances_77 : decode cX4_advances 77 = .ok (.iadd, 1) := dk_96 (dk_at dksX4_advances_3 6 rfl rfl)
theorem dX4_advances_78 : decode cX4_advances 78 = .ok (.lload 4, 2) := dk_22 4 (dk_at dksX4_advances_3 7 rfl rfl)
theorem dX4_advances_80 : decode cX4_advances 80 = .ok (.ldc2_w 251, 3) := dk_20 0 251 (dk_at dksX4_advances_3 9 rfl rfl)
theorem dX4_advances_83 : decode cX4_advances 83 = .ok (.lcmp, 1) := dk_148 (dk_at dksX4_advances_3 12 rfl rfl)
theorem dX4_advances_84 : decode cX4_advances 84 = .ok (.ifCond .le 9, 3) := dk_158 0 9 (dk_at dksX4_advances_3 13 rfl rfl)
theorem dX4_advances_87 : decode cX4_advances 87 = .ok (.ldc_w 261, 3) := dk_19 1 5 (dk_at dksX4_advances_3 16 rfl rfl)
theorem dX4_advances_90 : decode cX4_advances 90 = .ok (.goto 6, 3) := dk_167 0 6 (dk_at dksX4_advances_3 19 rfl rfl)
theorem dX4_advances_93 : decode cX4_advances 93 = .ok (.lload 4, 2) := dk_22 4 (dk_at dksX4_advances_3 22 rfl rfl)
theorem dX4_advances_95 : decode cX4_advances 95 = .ok (.l2i, 1) := dk_136 (dk_at dksX4_advances_4 0 rfl rfl)
theorem dX4_advances_96 : decode cX4_advances 96 = .ok (.iastore, 1) := dk_79 (dk_at dksX4_advances_4 1 rfl rfl)
theorem dX4_advances_97 : decode cX4_advances 97 = .ok (.aload_n 0, 1) := dk_42 (dk_at dksX4_advances_4 2 rfl rfl)
theorem dX4_advances_98 : decode cX4_advances 98 = .ok (.getfield 7, 3) := dk_180 0 7 (dk_at dksX4_advances_4 3 rfl rfl)
theorem dX4_advances_101 : decode cX4_advances 101 = .ok (.iload_n 1, 1) := dk_27 (dk_at dksX4_advances_4 6 rfl rfl)
theorem dX4_advances_102 : decode cX4_advances 102 = .ok (.iconst 3, 1) := dk_6 (dk_at dksX4_advances_4 7 rfl rfl)
theorem dX4_advances_103 : decode cX4_advances 103 = .ok (.iadd, 1) := dk_96 (dk_at dksX4_advances_4 8 rfl rfl)
theorem dX4_advances_104 : decode cX4_advances 104 = .ok (.iconst 0, 1) := dk_3 (dk_at dksX4_advances_4 9 rfl rfl)
theorem dX4_advances_105 : decode cX4_advances 105 = .ok (.iastore, 1) := dk_79 (dk_at dksX4_advances_4 10 rfl rfl)
theorem dX4_advances_106 : decode cX4_advances 106 = .ok (.return_, 1) := dk_177 (dk_at dksX4_advances_4 11 rfl rfl)
abbrev cX4_fires : ByteArray := prog_19_method_76_code
def yX4_fires : MethodName := ⟨RX4, "fires", "(IJZJJI)V"⟩
def dkwX4_fires_7 : List UInt8 := [167, 255, 107, 177]
abbrev dktX4_fires_7 : List UInt8 := dkwX4_fires_7 ++ []
def dkwX4_fires_6 : List UInt8 := [21, 10, 104, 21, 12, 96, 46, 21, 10, 27, 182, 1, 81, 132, 12, 1, 167, 255, 168, 132, 10, 1]
abbrev dktX4_fires_6 : List UInt8 := dkwX4_fires_6 ++ dktX4_fires_7
def dkwX4_fires_5 : List UInt8 := [21, 4, 22, 5, 42, 180, 0, 53, 27, 51, 184, 1, 77, 153, 0, 24, 42, 21, 9, 42, 180, 0, 29, 8]
abbrev dktX4_fires_5 : List UInt8 := dkwX4_fires_5 ++ dktX4_fires_6
def dkwX4_fires_4 : List UInt8 := [21, 12, 96, 46, 133, 20, 0, 251, 105, 42, 180, 0, 20, 21, 10, 46, 133, 109, 55, 13, 22, 13, 32]
abbrev dktX4_fires_4 : List UInt8 := dkwX4_fires_4 ++ dktX4_fires_5
def dkwX4_fires_3 : List UInt8 := [42, 180, 0, 23, 21, 10, 46, 162, 0, 82, 21, 11, 153, 0, 77, 42, 180, 0, 26, 8, 21, 10, 104]
abbrev dktX4_fires_3 : List UInt8 := dkwX4_fires_3 ++ dktX4_fires_4
def dkwX4_fires_2 : List UInt8 := [180, 0, 62, 133, 20, 0, 251, 105, 148, 155, 0, 7, 4, 167, 0, 4, 3, 54, 11, 3, 54, 12, 21, 12]
abbrev dktX4_fires_2 : List UInt8 := dkwX4_fires_2 ++ dktX4_fires_3
def dkwX4_fires_1 : List UInt8 := [42, 180, 0, 72, 21, 10, 47, 9, 148, 158, 0, 31, 42, 180, 0, 72, 21, 10, 47, 20, 0, 116, 105, 42]
abbrev dktX4_fires_1 : List UInt8 := dkwX4_fires_1 ++ dktX4_fires_2
def dkwX4_fires_0 : List UInt8 := [42, 42, 180, 0, 47, 27, 46, 22, 7, 182, 0, 253, 3, 54, 10, 21, 10, 42, 180, 0, 120, 162, 0, 146]
abbrev dktX4_fires_0 : List UInt8 := dkwX4_fires_0 ++ dktX4_fires_1
theorem dksX4_fires_0 : cX4_fires.data.toList.drop 0 = dktX4_fires_0 := by decide +kernel
theorem dksX4_fires_1 : cX4_fires.data.toList.drop 24 = dktX4_fires_1 := dk_seg dksX4_fires_0 24 rfl rfl
theorem dksX4_fires_2 : cX4_fires.data.toList.drop 48 = dktX4_fires_2 := dk_seg dksX4_fires_1 24 rfl rfl
theorem dksX4_fires_3 : cX4_fires.data.toList.drop 72 = dktX4_fires_3 := dk_seg dksX4_fires_2 24 rfl rfl
theorem dksX4_fires_4 : cX4_fires.data.toList.drop 95 = dktX4_fires_4 := dk_seg dksX4_fires_3 23 rfl rfl
theorem dksX4_fires_5 : cX4_fires.data.toList.drop 118 = dktX4_fires_5 := dk_seg dksX4_fires_4 23 rfl rfl
theorem dksX4_fires_6 : cX4_fires.data.toList.drop 142 = dktX4_fires_6 := dk_seg dksX4_fires_5 24 rfl rfl
theorem dksX4_fires_7 : cX4_fires.data.toList.drop 164 = dktX4_fires_7 := dk_seg dksX4_fires_6 22 rfl rfl
theorem dX4_fires_0 : decode cX4_fires 0 = .ok (.aload_n 0, 1) := dk_42 (dk_at dksX4_fires_0 0 rfl rfl)
theorem dX4_fires_1 : decode cX4_fires 1 = .ok (.aload_n 0, 1) := dk_42 (dk_at dksX4_fires_0 1 rfl rfl)
theorem dX4_fires_2 : decode cX4_fires 2 = .ok (.getfield 47, 3) := dk_180 0 47 (dk_at dksX4_fires_0 2 rfl rfl)
theorem dX4_fires_5 : decode cX4_fires 5 = .ok (.iload_n 1, 1) := dk_27 (dk_at dksX4_fires_0 5 rfl rfl)
theorem dX4_fires_6 : decode cX4_fires 6 = .ok (.iaload, 1) := dk_46 (dk_at dksX4_fires_0 6 rfl rfl)
theorem dX4_fires_7 : decode cX4_fires 7 = .ok (.lload 7, 2) := dk_22 7 (dk_at dksX4_fires_0 7 rfl rfl)
theorem dX4_fires_9 : decode cX4_fires 9 = .ok (.invokevirtual 253, 3) := dk_182 0 253 (dk_at dksX4_fires_0 9 rfl rfl)
theorem dX4_fires_12 : decode cX4_fires 12 = .ok (.iconst 0, 1) := dk_3 (dk_at dksX4_fires_0 12 rfl rfl)
theorem dX4_fires_13 : decode cX4_fires 13 = .ok (.istore 10, 2) := dk_54 10 (dk_at dksX4_fires_0 13 rfl rfl)
theorem dX4_fires_15 : decode cX4_fires 15 = .ok (.iload 10, 2) := dk_21 10 (dk_at dksX4_fires_0 15 rfl rfl)
theorem dX4_fires_17 : decode cX4_fires 17 = .ok (.aload_n 0, 1) := dk_42 (dk_at dksX4_fires_0 17 rfl rfl)
theorem dX4_fires_18 : decode cX4_fires 18 = .ok (.getfield 120, 3) := dk_180 0 120 (dk_at dksX4_fires_0 18 rfl rfl)
theorem dX4_fires_21 : decode cX4_fires 21 = .ok (.if_icmp .ge 146, 3) := dk_162 0 146 (dk_at dksX4_fires_0 21 rfl rfl)
theorem dX4_fires_24 : decode cX4_fires 24 = .ok (.aload_n 0, 1) := dk_42 (dk_at dksX4_fires_1 0 rfl rfl)
theorem dX4_fires_25 : decode cX4_fires 25 = .ok (.getfield 72, 3) := dk_180 0 72 (dk_at dksX4_fires_1 1 rfl rfl)
theorem dX4_fires_28 : decode cX4_fires 28 = .ok (.iload 10, 2) := dk_21 10 (dk_at dksX4_fires_1 4 rfl rfl)
theorem dX4_fires_30 : decode cX4_fires 30 = .ok (.laload, 1) := dk_47 (dk_at dksX4_fires_1 6 rfl rfl)
theorem dX4_fires_31 : decode cX4_fires 31 = .ok (.lconst 0, 1) := dk_9 (dk_at dksX4_fires_1 7 rfl rfl)
theorem dX4_fires_32 : decode cX4_fires 32 = .ok (.lcmp, 1) := dk_148 (dk_at dksX4_fires_1 8 rfl rfl)
theorem dX4_fires_33 : decode cX4_fires 33 = .ok (.ifCond .le 31, 3) := dk_158 0 31 (dk_at dksX4_fires_1 9 rfl rfl)
theorem dX4_fires_36 : decode cX4_fires 36 = .ok (.aload_n 0, 1) := dk_42 (dk_at dksX4_fires_1 12 rfl rfl)
theorem dX4_fires_37 : decode cX4_fires 37 = .ok (.getfield 72, 3) := dk_180 0 72 (dk_at dksX4_fires_1 13 rfl rfl)
theorem dX4_fires_40 : decode cX4_fires 40 = .ok (.iload 10, 2) := dk_21 10 (dk_at dksX4_fires_1 16 rfl rfl)
theorem dX4_fires_42 : decode cX4_fires 42 = .ok (.laload, 1) := dk_47 (dk_at dksX4_fires_1 18 rfl rfl)
theorem dX4_fires_43 : decode cX4_fires 43 = .ok (.ldc2_w 116, 3) := dk_20 0 116 (dk_at dksX4_fires_1 19 rfl rfl)
theorem dX4_fires_46 : decode cX4_fires 46 = .ok (.lmul, 1) := dk_105 (dk_at dksX4_fires_1 22 rfl rfl)
theorem dX4_fires_47 : decode cX4_fires 47 = .ok (.aload_n 0, 1) := dk_42 (dk_at dksX4_fires_1 23 rfl rfl)
theorem dX4_fires_48 : decode cX4_fires 48 = .ok (.getfield 62, 3) := dk_180 0 62 (dk_at dksX4_fires_2 0 rfl rfl)
theorem dX4_fires_51 : decode cX4_fires 51 = .ok (.i2l, 1) := dk_133 (dk_at dksX4_fires_2 3 rfl rfl)
theorem dX4_fires_52 : decode cX4_fires 52 = .ok (.ldc2_w 251, 3) := dk_20 0 251 (dk_at dksX4_fires_2 4 rfl rfl)
theorem dX4_fires_55 : decode cX4_fires 55 = .ok (.lmul, 1) := dk_105 (dk_at dksX4_fires_2 7 rfl rfl)
theorem dX4_fires_56 : decode cX4_fires 56 = .ok (.lcmp, 1) := dk_148 (dk_at dksX4_fires_2 8 rfl rfl)
theorem dX4_fires_57 : decode cX4_fires 57 = .ok (.ifCond .lt 7, 3) := dk_155 0 7 (dk_at dksX4_fires_2 9 rfl rfl)
theorem dX4_fires_60 : decode cX4_fires 60 = .ok (.iconst 1, 1) := dk_4 (dk_at dksX4_fires_2 12 rfl rfl)
theorem dX4_fires_61 : decode cX4_fires 61 = .ok (.goto 4, 3) := dk_167 0 4 (dk_at dksX4_fires_2 13 rfl rfl)
theorem dX4_fires_64 : decode cX4_fires 64 = .ok (.iconst 0, 1) := dk_3 (dk_at dksX4_fires_2 16 rfl rfl)
theorem dX4_fires_65 : decode cX4_fires 65 = .ok (.istore 11, 2) := dk_54 11 (dk_at dksX4_fires_2 17 rfl rfl)
theorem dX4_fires_67 : decode cX4_fires 67 = .ok (.iconst 0, 1) := dk_3 (dk_at dksX4_fires_2 19 rfl rfl)
theorem dX4_fires_68 : decode cX4_fires 68 = .ok (.istore 12, 2) := dk_54 12 (dk_at dksX4_fires_2 20 rfl rfl)
theorem dX4_fires_70 : decode cX4_fires 70 = .ok (.iload 12, 2) := dk_21 12 (dk_at dksX4_fires_2 22 rfl rfl)
theorem dX4_fires_72 : decode cX4_fires 72 = .ok (.aload_n 0, 1) := dk_42 (dk_at dksX4_fires_3 0 rfl rfl)
theorem dX4_fires_73 : decode cX4_fires 73 = .ok (.getfield 23, 3) := dk_180 0 23 (dk_at dksX4_fires_3 1 rfl rfl)
theorem dX4_fires_76 : decode cX4_fires 76 = .ok (.iload 10, 2) := dk_21 10 (dk_at dksX4_fires_3 4 rfl rfl)
theorem dX4_fires_78 : decode cX4_fires 78 = .ok (.iaload, 1) := dk_46 (dk_at dksX4_fires_3 6 rfl rfl)
theorem dX4_fires_79 : decode cX4_fires 79 = .ok (.if_icmp .ge 82, 3) := dk_162 0 82 (dk_at dksX4_fires_3 7 rfl rfl)
theorem dX4_fires_82 : decode cX4_fires 82 = .ok (.iload 11, 2) := dk_21 11 (dk_at dksX4_fires_3 10 rfl rfl)
theorem dX4_fires_84 : decode cX4_fires 84 = .ok (.ifCond .eq 77, 3) := dk_153 0 77 (dk_at dksX4_fires_3 12 rfl rfl)
theorem dX4_fires_87 : decode cX4_fires 87 = .ok (.aload_n 0, 1) := dk_42 (dk_at dksX4_fires_3 15 rfl rfl)
theorem dX4_fires_88 : decode cX4_fires 88 = .ok (.getfield 26, 3) := dk_180 0 26 (dk_at dksX4_fires_3 16 rfl rfl)
theorem dX4_fires_91 : decode cX4_fires 91 = .ok (.iconst 5, 1) := dk_8 (dk_at dksX4_fires_3 19 rfl rfl)
theorem dX4_fires_92 : decode cX4_fires 92 = .ok (.iload 10, 2) := dk_21 10 (dk_at dksX4_fires_3 20 rfl rfl)
theorem dX4_fires_94 : decode cX4_fires 94 = .ok (.imul, 1) := dk_104 (dk_at dksX4_fires_3 22 rfl rfl)
theorem dX4_fires_95 : decode cX4_fires 95 = .ok (.iload 12, 2) := dk_21 12 (dk_at dksX4_fires_4 0 rfl rfl)
theorem dX4_fires_97 : decode cX4_fires 97 = .ok (.iadd, 1) := dk_96 (dk_at dksX4_fires_4 2 rfl rfl)
theorem dX4_fires_98 : decode cX4_fires 98 = .ok (.iaload, 1) := dk_46 (dk_at dksX4_fires_4 3 rfl rfl)
theorem dX4_fires_99 : decode cX4_fires 99 = .ok (.i2l, 1) := dk_133 (dk_at dksX4_fires_4 4 rfl rfl)
theorem dX4_fires_100 : decode cX4_fires 100 = .ok (.ldc2_w 251, 3) := dk_20 0 251 (dk_at dksX4_fires_4 5 rfl rfl)
theorem dX4_fires_103 : decode cX4_fires 103 = .ok (.lmul, 1) := dk_105 (dk_at dksX4_fires_4 8 rfl rfl)
theorem dX4_fires_104 : decode cX4_fires 104 = .ok (.aload_n 0, 1) := dk_42 (dk_at dksX4_fires_4 9 rfl rfl)
theorem dX4_fires_105 : decode cX4_fires 105 = .ok (.getfield 20, 3) := dk_180 0 20 (dk_at dksX4_fires_4 10 rfl rfl)
theorem dX4_fires_108 : decode cX4_fires 108 = .ok (.iload 10, 2) := dk_21 10 (dk_at dksX4_fires_4 13 rfl rfl)
theorem dX4_fires_110 : decode cX4_fires 110 = .ok (.iaload, 1) := dk_46 (dk_at dksX4_fires_4 15 rfl rfl)
theorem dX4_fires_111 : decode cX4_fires 111 = .ok (.i2l, 1) := dk_133 (dk_at dksX4_fires_4 16 rfl rfl)
theorem dX4_fires_112 : decode cX4_fires 112 = .ok (.ldiv, 1) := dk_109 (dk_at dksX4_fires_4 17 rfl rfl)
theorem dX4_fires_113 : decode cX4_fires 113 = .ok (.lstore 13, 2) := dk_55 13 (dk_at dksX4_fires_4 18 rfl rfl)
theorem dX4_fires_115 : decode cX4_fires 115 = .ok (.lload 13, 2) := dk_22 13 (dk_at dksX4_fires_4 20 rfl rfl)
theorem dX4_fires_117 : decode cX4_fires 117 = .ok (.lload_n 2, 1) := dk_32 (dk_at dksX4_fires_4 22 rfl rfl)
theorem dX4_fires_118 : decode cX4_fires 118 = .ok (.iload 4, 2) := dk_21 4 (dk_at dksX4_fires_5 0 rfl rfl)
theorem dX4_fires_120 : decode cX4_fires 120 = .ok (.lload 5, 2) := dk_22 5 (dk_at dksX4_fires_5 2 rfl rfl)
theorem dX4_fires_122 : decode cX4_fires 122 = .ok (.aload_n 0, 1) := dk_42 (dk_at dksX4_fires_5 4 rfl rfl)
theorem dX4_fires_123 : decode cX4_fires 123 = .ok (.getfield 53, 3) := dk_180 0 53 (dk_at dksX4_fires_5 5 rfl rfl)
theorem dX4_fires_126 : decode cX4_fires 126 = .ok (.iload_n 1, 1) := dk_27 (dk_at dksX4_fires_5 8 rfl rfl)
theorem dX4_fires_127 : decode cX4_fires 127 = .ok (.baload, 1) := dk_51 (dk_at dksX4_fires_5 9 rfl rfl)
theorem dX4_fires_128 : decode cX4_fires 128 = .ok (.invokestatic 333, 3) := dk_184 1 77 (dk_at dksX4_fires_5 10 rfl rfl)
theorem dX4_fires_131 : decode cX4_fires 131 = .ok (.ifCond .eq 24, 3) := dk_153 0 24 (dk_at dksX4_fires_5 13 rfl rfl)
theorem dX4_fires_134 : decode cX4_fires 134 = .ok (.aload_n 0, 1) := dk_42 (dk_at dksX4_fires_5 16 rfl rfl)
theorem dX4_fires_135 : decode cX4_fires 135 = .ok (.iload 9, 2) := dk_21 9 (dk_at dksX4_fires_5 17 rfl rfl)
theorem dX4_fires_137 : decode cX4_fires 137 = .ok (.aload_n 0, 1) := dk_42 (dk_at dksX4_fires_5 19 rfl rfl)
theorem dX4_fires_138 : decode cX4_fires 138 = .ok (.getfield 29, 3) := dk_180 0 29 (dk_at dksX4_fires_5 20 rfl rfl)
theorem dX4_fires_141 : decode cX4_fires 141 = .ok (.iconst 5, 1) := dk_8 (dk_at dksX4_fires_5 23 rfl rfl)
theorem dX4_fires_142 : decode cX4_fires 142 = .ok (.iload 10, 2) := dk_21 10 (dk_at dksX4_fires_6 0 rfl rfl)
theorem dX4_fires_144 : decode cX4_fires 144 = .ok (.imul, 1) := dk_104 (dk_at dksX4_fires_6 2 rfl rfl)
theorem dX4_fires_145 : decode cX4_fires 145 = .ok (.iload 12, 2) := dk_21 12 (dk_at dksX4_fires_6 3 rfl rfl)
theorem dX4_fires_147 : decode cX4_fires 147 = .ok (.iadd, 1) := dk_96 (dk_at dksX4_fires_6 5 rfl rfl)
theorem dX4_fires_148 : decode cX4_fires 148 = .ok (.iaload, 1) := dk_46 (dk_at dksX4_fires_6 6 rfl rfl)
theorem dX4_fires_149 : decode cX4_fires 149 = .ok (.iload 10, 2) := dk_21 10 (dk_at dksX4_fires_6 7 rfl rfl)
theorem dX4_fires_151 : decode cX4_fires 151 = .ok (.iload_n 1, 1) := dk_27 (dk_at dksX4_fires_6 9 rfl rfl)
theorem dX4_fires_152 : decode cX4_fires 152 = .ok (.invokevirtual 337, 3) := dk_182 1 81 (dk_at dksX4_fires_6 10 rfl rfl)
theorem dX4_fires_155 : decode cX4_fires 155 = .ok (.iinc 12 1, 3) := dk_132 12 1 (dk_at dksX4_fires_6 13 rfl rfl)
theorem dX4_fires_158 : decode cX4_fires 158 = .ok (.goto (-88), 3) := dk_167 255 168 (dk_at dksX4_fires_6 16 rfl rfl)
theorem dX4_fires_161 : decode cX4_fires 161 = .ok (.iinc 10 1, 3) := dk_132 10 1 (dk_at dksX4_fires_6 19 rfl rfl)
theorem dX4_fires_164 : decode cX4_fires 164 = .ok (.goto (-149), 3) := dk_167 255 107 (dk_at dksX4_fires_7 0 rfl rfl)
theorem dX4_fires_167 : decode cX4_fires 167 = .ok (.return_, 1) := dk_177 (dk_at dksX4_fires_7 3 rfl rfl)
abbrev cX4_isCrossed : ByteArray := prog_19_method_77_code
def yX4_isCrossed : MethodName := ⟨RX4, "isCrossed", "(JJZJZ)Z"⟩
def dkwX4_isCrossed_3 : List UInt8 := [4, 167, 0, 4, 3, 172]
abbrev dktX4_isCrossed_3 : List UInt8 := dkwX4_isCrossed_3 ++ []
def dkwX4_isCrossed_2 : List UInt8 := [20, 0, 251, 105, 30, 97, 55, 12, 22, 12, 22, 8, 148, 155, 0, 15, 22, 12, 22, 5, 148, 157, 0, 7]
abbrev dktX4_isCrossed_2 : List UInt8 := dkwX4_isCrossed_2 ++ dktX4_isCrossed_3
def dkwX4_isCrossed_1 : List UInt8 := [30, 148, 158, 0, 19, 22, 8, 30, 101, 20, 0, 251, 97, 10, 101, 20, 0, 251, 109, 55, 10, 22, 10]
abbrev dktX4_isCrossed_1 : List UInt8 := dkwX4_isCrossed_1 ++ dktX4_isCrossed_2
def dkwX4_isCrossed_0 : List UInt8 := [21, 4, 153, 0, 7, 32, 167, 0, 6, 32, 10, 97, 55, 8, 9, 55, 10, 21, 7, 153, 0, 26, 22, 8]
abbrev dktX4_isCrossed_0 : List UInt8 := dkwX4_isCrossed_0 ++ dktX4_isCrossed_1
theorem dksX4_isCrossed_0 : cX4_isCrossed.data.toList.drop 0 = dktX4_isCrossed_0 := by decide +kernel
theorem dksX4_isCrossed_1 : cX4_isCrossed.data.toList.drop 24 = dktX4_isCrossed_1 := dk_seg dksX4_isCrossed_0 24 rfl rfl
theorem dksX4_isCrossed_2 : cX4_isCrossed.data.toList.drop 47 = dktX4_isCrossed_2 := dk_seg dksX4_isCrossed_1 23 rfl rfl
theorem dksX4_isCrossed_3 : cX4_isCrossed.data.toList.drop 71 = dktX4_isCrossed_3 := dk_seg dksX4_isCrossed_2 24 rfl rfl
theorem dX4_isCrossed_0 : decode cX4_isCrossed 0 = .ok (.iload 4, 2) := dk_21 4 (dk_at dksX4_isCrossed_0 0 rfl rfl)
theorem dX4_isCrossed_2 : decode cX4_isCrossed 2 = .ok (.ifCond .eq 7, 3) := dk_153 0 7 (dk_at dksX4_isCrossed_0 2 rfl rfl)
theorem dX4_isCrossed_5 : decode cX4_isCrossed 5 = .ok (.lload_n 2, 1) := dk_32 (dk_at dksX4_isCrossed_0 5 rfl rfl)
theorem dX4_isCrossed_6 : decode cX4_isCrossed 6 = .ok (.goto 6, 3) := dk_167 0 6 (dk_at dksX4_isCrossed_0 6 rfl rfl)
theorem dX4_isCrossed_9 : decode cX4_isCrossed 9 = .ok (.lload_n 2, 1) := dk_32 (dk_at dksX4_isCrossed_0 9 rfl rfl)
theorem dX4_isCrossed_10 : decode cX4_isCrossed 10 = .ok (.lconst 1, 1) := dk_10 (dk_at dksX4_isCrossed_0 10 rfl rfl)
theorem dX4_isCrossed_11 : decode cX4_isCrossed 11 = .ok (.ladd, 1) := dk_97 (dk_at dksX4_isCrossed_0 11 rfl rfl)
theorem dX4_isCrossed_12 : decode cX4_isCrossed 12 = .ok (.lstore 8, 2) := dk_55 8 (dk_at dksX4_isCrossed_0 12 rfl rfl)
theorem dX4_isCrossed_14 : decode cX4_isCrossed 14 = .ok (.lconst 0, 1) := dk_9 (dk_at dksX4_isCrossed_0 14 rfl rfl)
theorem dX4_isCrossed_15 : decode cX4_isCrossed 15 = .ok (.lstore 10, 2) := dk_55 10 (dk_at dksX4_isCrossed_0 15 rfl rfl)
theorem dX4_isCrossed_17 : decode cX4_isCrossed 17 = .ok (.iload 7, 2) := dk_21 7 (dk_at dksX4_isCrossed_0 17 rfl rfl)
theorem dX4_isCrossed_19 : decode cX4_isCrossed 19 = .ok (.ifCond .eq 26, 3) := dk_153 0 26 (dk_at dksX4_isCrossed_0 19 rfl rfl)
theorem dX4_isCrossed_22 : decode cX4_isCrossed 22 = .ok (.lload 8, 2) := dk_22 8 (dk_at dksX4_isCrossed_0 22 rfl rfl)
theorem dX4_isCrossed_24 : decode cX4_isCrossed 24 = .ok (.lload_n 0, 1) := dk_30 (dk_at dksX4_isCrossed_1 0 rfl rfl)
theorem dX4_isCrossed_25 : decode cX4_isCrossed 25 = .ok (.lcmp, 1) := dk_148 (dk_at dksX4_isCrossed_1 1 rfl rfl)
theorem dX4_isCrossed_26 : decode cX4_isCrossed 26 = .ok (.ifCond .le 19, 3) := dk_158 0 19 (dk_at dksX4_isCrossed_1 2 rfl rfl)
theorem dX4_isCrossed_29 : decode cX4_isCrossed 29 = .ok (.lload 8, 2) := dk_22 8 (dk_at dksX4_isCrossed_1 5 rfl rfl)
theorem dX4_isCrossed_31 : decode cX4_isCrossed 31 = .ok (.lload_n 0, 1) := dk_30 (dk_at dksX4_isCrossed_1 7 rfl rfl)
theorem dX4_isCrossed_32 : decode cX4_isCrossed 32 = .ok (.lsub, 1) := dk_101 (dk_at dksX4_isCrossed_1 8 rfl rfl)
theorem dX4_isCrossed_33 : decode cX4_isCrossed 33 = .ok (.ldc2_w 251, 3) := dk_20 0 251 (dk_at dksX4_isCrossed_1 9 rfl rfl)
theorem dX4_isCrossed_36 : decode cX4_isCrossed 36 = .ok (.ladd, 1) := dk_97 (dk_at dksX4_isCrossed_1 12 rfl rfl)
theorem dX4_isCrossed_37 : decode cX4_isCrossed 37 = .ok (.lconst 1, 1) := dk_10 (dk_at dksX4_isCrossed_1 13 rfl rfl)
theorem dX4_isCrossed_38 : decode cX4_isCrossed 38 = .ok (.lsub, 1) := dk_101 (dk_at dksX4_isCrossed_1 14 rfl rfl)
theorem dX4_isCrossed_39 : decode cX4_isCrossed 39 = .ok (.ldc2_w 251, 3) := dk_20 0 251 (dk_at dksX4_isCrossed_1 15 rfl rfl)
theorem dX4_isCrossed_42 : decode cX4_isCrossed 42 = .ok (.ldiv, 1) := dk_109 (dk_at dksX4_isCrossed_1 18 rfl rfl)
theorem dX4_isCrossed_43 : decode cX4_isCrossed 43 = .ok (.lstore 10, 2) := dk_55 10 (dk_at dksX4_isCrossed_1 19 rfl rfl)
theorem dX4_isCrossed_45 : decode cX4_isCrossed 45 = .ok (.lload 10, 2) := dk_22 10 (dk_at dksX4_isCrossed_1 21 rfl rfl)
theorem dX4_isCrossed_47 : decode cX4_isCrossed 47 = .ok (.ldc2_w 251, 3) := dk_20 0 251 (dk_at dksX4_isCrossed_2 0 rfl rfl)
theorem dX4_isCrossed_50 : decode cX4_isCrossed 50 = .ok (.lmul, 1) := dk_105 (dk_at dksX4_isCrossed_2 3 rfl rfl)
theorem dX4_isCrossed_51 : decode cX4_isCrossed 51 = .ok (.lload_n 0, 1) := dk_30 (dk_at dksX4_isCrossed_2 4 rfl rfl)
theorem dX4_isCrossed_52 : decode cX4_isCrossed 52 = .ok (.ladd, 1) := dk_97 (dk_at dksX4_isCrossed_2 5 rfl rfl)
theorem dX4_isCrossed_53 : decode cX4_isCrossed 53 = .ok (.lstore 12, 2) := dk_55 12 (dk_at dksX4_isCrossed_2 6 rfl rfl)
theorem dX4_isCrossed_55 : decode cX4_isCrossed 55 = .ok (.lload 12, 2) := dk_22 12 (dk_at dksX4_isCrossed_2 8 rfl rfl)
theorem dX4_isCrossed_57 : decode cX4_isCrossed 57 = .ok (.lload 8, 2) := dk_22 8 (dk_at dksX4_isCrossed_2 10 rfl rfl)
theorem dX4_isCrossed_59 : decode cX4_isCrossed 59 = .ok (.lcmp, 1) := dk_148 (dk_at dksX4_isCrossed_2 12 rfl rfl)
theorem dX4_isCrossed_60 : decode cX4_isCrossed 60 = .ok (.ifCond .lt 15, 3) := dk_155 0 15 (dk_at dksX4_isCrossed_2 13 rfl rfl)
theorem dX4_isCrossed_63 : decode cX4_isCrossed 63 = .ok (.lload 12, 2) := dk_22 12 (dk_at dksX4_isCrossed_2 16 rfl rfl)
theorem dX4_isCrossed_65 : decode cX4_isCrossed 65 = .ok (.lload 5, 2) := dk_22 5 (dk_at dksX4_isCrossed_2 18 rfl rfl)
theorem dX4_isCrossed_67 : decode cX4_isCrossed 67 = .ok (.lcmp, 1) := dk_148 (dk_at dksX4_isCrossed_2 20 rfl rfl)
theorem dX4_isCrossed_68 : decode cX4_isCrossed 68 = .ok (.ifCond .gt 7, 3) := dk_157 0 7 (dk_at dksX4_isCrossed_2 21 rfl rfl)
theorem dX4_isCrossed_71 : decode cX4_isCrossed 71 = .ok (.iconst 1, 1) := dk_4 (dk_at dksX4_isCrossed_3 0 rfl rfl)
theorem dX4_isCrossed_72 : decode cX4_isCrossed 72 = .ok (.goto 4, 3) := dk_167 0 4 (dk_at dksX4_isCrossed_3 1 rfl rfl)
theorem dX4_isCrossed_75 : decode cX4_isCrossed 75 = .ok (.iconst 0, 1) := dk_3 (dk_at dksX4_isCrossed_3 4 rfl rfl)
theorem dX4_isCrossed_76 : decode cX4_isCrossed 76 = .ok (.ireturn, 1) := dk_172 (dk_at dksX4_isCrossed_3 5 rfl rfl)
abbrev cX4_notes : ByteArray := prog_19_method_78_code
def yX4_notes : MethodName := ⟨RX4, "notes", "(IIII)V"⟩
def dkwX4_notes_6 : List UInt8 := [4, 96, 79, 177]
abbrev dktX4_notes_6 : List UInt8 := dkwX4_notes_6 ++ []
def dkwX4_notes_5 : List UInt8 := [21, 4, 79, 42, 180, 0, 7, 17, 0, 166, 92, 46, 4, 96, 79, 42, 180, 0, 7, 17, 1, 32, 92, 46]
abbrev dktX4_notes_5 : List UInt8 := dkwX4_notes_5 ++ dktX4_notes_6
def dkwX4_notes_4 : List UInt8 := [21, 5, 4, 96, 28, 79, 42, 180, 0, 7, 21, 5, 5, 96, 29, 79, 42, 180, 0, 7, 21, 5, 6, 96]
abbrev dktX4_notes_4 : List UInt8 := dkwX4_notes_4 ++ dktX4_notes_5
def dkwX4_notes_3 : List UInt8 := [180, 0, 7, 17, 0, 166, 46, 104, 96, 54, 5, 42, 180, 0, 7, 21, 5, 27, 79, 42, 180, 0, 7]
abbrev dktX4_notes_3 : List UInt8 := dkwX4_notes_3 ++ dktX4_notes_4
def dkwX4_notes_2 : List UInt8 := [132, 5, 1, 167, 255, 222, 42, 180, 0, 7, 17, 0, 166, 92, 46, 4, 100, 79, 17, 0, 167, 7, 42]
abbrev dktX4_notes_2 : List UInt8 := dkwX4_notes_2 ++ dktX4_notes_3
def dkwX4_notes_1 : List UInt8 := [180, 0, 7, 17, 0, 167, 21, 5, 96, 42, 180, 0, 7, 17, 0, 167, 21, 5, 96, 7, 96, 46, 79]
abbrev dktX4_notes_1 : List UInt8 := dkwX4_notes_1 ++ dktX4_notes_2
def dkwX4_notes_0 : List UInt8 := [42, 180, 0, 7, 17, 0, 166, 46, 16, 30, 160, 0, 55, 3, 54, 5, 21, 5, 16, 116, 162, 0, 33, 42]
abbrev dktX4_notes_0 : List UInt8 := dkwX4_notes_0 ++ dktX4_notes_1
theorem dksX4_notes_0 : cX4_notes.data.toList.drop 0 = dktX4_notes_0 := by decide +kernel
theorem dksX4_notes_1 : cX4_notes.data.toList.drop 24 = dktX4_notes_1 := dk_seg dksX4_notes_0 24 rfl rfl
theorem dksX4_notes_2 : cX4_notes.data.toList.drop 47 = dktX4_notes_2 := dk_seg dksX4_notes_1 23 rfl rfl
theorem dksX4_notes_3 : cX4_notes.data.toList.drop 70 = dktX4_notes_3 := dk_seg dksX4_notes_2 23 rfl rfl
theorem dksX4_notes_4 : cX4_notes.data.toList.drop 93 = dktX4_notes_4 := dk_seg dksX4_notes_3 23 rfl rfl
theorem dksX4_notes_5 : cX4_notes.data.toList.drop 117 = dktX4_notes_5 := dk_seg dksX4_notes_4 24 rfl rfl
theorem dksX4_notes_6 : cX4_notes.data.toList.drop 141 = dktX4_notes_6 := dk_seg dksX4_notes_5 24 rfl rfl
theorem dX4_notes_0 : decode cX4_notes 0 = .ok (.aload_n 0, 1) := dk_42 (dk_at dksX4_notes_0 0 rfl rfl)
theorem dX4_notes_1 : decode cX4_notes 1 = .ok (.getfield 7, 3) := dk_180 0 7 (dk_at dksX4_notes_0 1 rfl rfl)
theorem dX4_notes_4 : decode cX4_notes 4 = .ok (.sipush 166, 3) := dk_17 0 166 (dk_at dksX4_notes_0 4 rfl rfl)
theorem dX4_notes_7 : decode cX4_notes 7 = .ok (.iaload, 1) := dk_46 (dk_at dksX4_notes_0 7 rfl rfl)
theorem dX4_notes_8 : decode cX4_notes 8 = .ok (.bipush 30, 2) := dk_16 30 (dk_at dksX4_notes_0 8 rfl rfl)
theorem dX4_notes_10 : decode cX4_notes 10 = .ok (.if_icmp .ne 55, 3) := dk_160 0 55 (dk_at dksX4_notes_0 10 rfl rfl)
theorem dX4_notes_13 : decode cX4_notes 13 = .ok (.iconst 0, 1) := dk_3 (dk_at dksX4_notes_0 13 rfl rfl)
theorem dX4_notes_14 : decode cX4_notes 14 = .ok (.istore 5, 2) := dk_54 5 (dk_at dksX4_notes_0 14 rfl rfl)
theorem dX4_notes_16 : decode cX4_notes 16 = .ok (.iload 5, 2) := dk_21 5 (dk_at dksX4_notes_0 16 rfl rfl)
theorem dX4_notes_18 : decode cX4_notes 18 = .ok (.bipush 116, 2) := dk_16 116 (dk_at dksX4_notes_0 18 rfl rfl)
theorem dX4_notes_20 : decode cX4_notes 20 = .ok (.if_icmp .ge 33, 3) := dk_162 0 33 (dk_at dksX4_notes_0 20 rfl rfl)
theorem dX4_notes_23 : decode cX4_notes 23 = .ok (.aload_n 0, 1) := dk_42 (dk_at dksX4_notes_0 23 rfl rfl)
theorem dX4_notes_24 : decode cX4_notes 24 = .ok (.getfield 7, 3) := dk_180 0 7 (dk_at dksX4_notes_1 0 rfl rfl)
theorem dX4_notes_27 : decode cX4_notes 27 = .ok (.sipush 167, 3) := dk_17 0 167 (dk_at dksX4_notes_1 3 rfl rfl)
theorem dX4_notes_30 : decode cX4_notes 30 = .ok (.iload 5, 2) := dk_21 5 (dk_at dksX4_notes_1 6 rfl rfl)
theorem dX4_notes_32 : decode cX4_notes 32 = .ok (.iadd, 1) := dk_96 (dk_at dksX4_notes_1 8 rfl rfl)
theorem dX4_notes_33 : decode cX4_notes 33 = .ok (.aload_n 0, 1) := dk_42 (dk_at dksX4_notes_1 9 rfl rfl)
theorem dX4_notes_34 : decode cX4_notes 34 = .ok (.getfield 7, 3) := dk_180 0 7 (dk_at dksX4_notes_1 10 rfl rfl)
theorem dX4_notes_37 : decode cX4_notes 37 = .ok (.sipush 167, 3) := dk_17 0 167 (dk_at dksX4_notes_1 13 rfl rfl)
theorem dX4_notes_40 : decode cX4_notes 40 = .ok (.iload 5, 2) := dk_21 5 (dk_at dksX4_notes_1 16 rfl rfl)
theorem dX4_notes_42 : decode cX4_notes 42 = .ok (.iadd, 1) := dk_96 (dk_at dksX4_notes_1 18 rfl rfl)
theorem dX4_notes_43 : decode cX4_notes 43 = .ok (.iconst 4, 1) := dk_7 (dk_at dksX4_notes_1 19 rfl rfl)
theorem dX4_notes_44 : decode cX4_notes 44 = .ok (.iadd, 1) := dk_96 (dk_at dksX4_notes_1 20 rfl rfl)
theorem dX4_notes_45 : decode cX4_notes 45 = .ok (.iaload, 1) := dk_46 (dk_at dksX4_notes_1 21 rfl rfl)
theorem dX4_notes_46 : decode cX4_notes 46 = .ok (.iastore, 1) := dk_79 (dk_at dksX4_notes_1 22 rfl rfl)
theorem dX4_notes_47 : decode cX4_notes 47 = .ok (.iinc 5 1, 3) := dk_132 5 1 (dk_at dksX4_notes_2 0 rfl rfl)
theorem dX4_notes_50 : decode cX4_notes 50 = .ok (.goto (-34), 3) := dk_167 255 222 (dk_at dksX4_notes_2 3 rfl rfl)
theorem dX4_notes_53 : decode cX4_notes 53 = .ok (.aload_n 0, 1) := dk_42 (dk_at dksX4_notes_2 6 rfl rfl)
theorem dX4_notes_54 : decode cX4_notes 54 = .ok (.getfield 7, 3) := dk_180 0 7 (dk_at dksX4_notes_2 7 rfl rfl)
theorem dX4_notes_57 : decode cX4_notes 57 = .ok (.sipush 166, 3) := dk_17 0 166 (dk_at dksX4_notes_2 10 rfl rfl)
theorem dX4_notes_60 : decode cX4_notes 60 = .ok (.dup2, 1) := dk_92 (dk_at dksX4_notes_2 13 rfl rfl)
theorem dX4_notes_61 : decode cX4_notes 61 = .ok (.iaload, 1) := dk_46 (dk_at dksX4_notes_2 14 rfl rfl)
theorem dX4_notes_62 : decode cX4_notes 62 = .ok (.iconst 1, 1) := dk_4 (dk_at dksX4_notes_2 15 rfl rfl)
theorem dX4_notes_63 : decode cX4_notes 63 = .ok (.isub, 1) := dk_100 (dk_at dksX4_notes_2 16 rfl rfl)
theorem dX4_notes_64 : decode cX4_notes 64 = .ok (.iastore, 1) := dk_79 (dk_at dksX4_notes_2 17 rfl rfl)
theorem dX4_notes_65 : decode cX4_notes 65 = .ok (.sipush 167, 3) := dk_17 0 167 (dk_at dksX4_notes_2 18 rfl rfl)
theorem dX4_notes_68 : decode cX4_notes 68 = .ok (.iconst 4, 1) := dk_7 (dk_at dksX4_notes_2 21 rfl rfl)
theorem dX4_notes_69 : decode cX4_notes 69 = .ok (.aload_n 0, 1) := dk_42 (dk_at dksX4_notes_2 22 rfl rfl)
theorem dX4_notes_70 : decode cX4_notes 70 = .ok (.getfield 7, 3) := dk_180 0 7 (dk_at dksX4_notes_3 0 rfl rfl)
theorem dX4_notes_73 : decode cX4_notes 73 = .ok (.sipush 166, 3) := dk_17 0 166 (dk_at dksX4_notes_3 3 rfl rfl)
theorem dX4_notes_76 : decode cX4_notes 76 = .ok (.iaload, 1) := dk_46 (dk_at dksX4_notes_3 6 rfl rfl)
theorem dX4_notes_77 : decode cX4_notes 77 = .ok (.imul, 1) := dk_104 (dk_at dksX4_notes_3 7 rfl rfl)
theorem dX4_notes_78 : decode cX4_notes 78 = .ok (.iadd, 1) := dk_96 (dk_at dksX4_notes_3 8 rfl rfl)
theorem dX4_notes_79 : decode cX4_notes 79 = .ok (.istore 5, 2) := dk_54 5 (dk_at dksX4_notes_3 9 rfl rfl)
theorem dX4_notes_81 : decode cX4_notes 81 = .ok (.aload_n 0, 1) := dk_42 (dk_at dksX4_notes_3 11 rfl rfl)
theorem dX4_notes_82 : decode cX4_notes 82 = .ok (.getfield 7, 3) := dk_180 0 7 (dk_at dksX4_notes_3 12 rfl rfl)
theorem dX4_notes_85 : decode cX4_notes 85 = .ok (.iload 5, 2) := dk_21 5 (dk_at dksX4_notes_3 15 rfl rfl)
theorem dX4_notes_87 : decode cX4_notes 87 = .ok (.iload_n 1, 1) := dk_27 (dk_at dksX4_notes_3 17 rfl rfl)
theorem dX4_notes_88 : decode cX4_notes 88 = .ok (.iastore, 1) := dk_79 (dk_at dksX4_notes_3 18 rfl rfl)
theorem dX4_notes_89 : decode cX4_notes 89 = .ok (.aload_n 0, 1) := dk_42 (dk_at dksX4_notes_3 19 rfl rfl)
theorem dX4_notes_90 : decode cX4_notes 90 = .ok (.getfield 7, 3) := dk_180 0 7 (dk_at dksX4_notes_3 20 rfl rfl)
theorem dX4_notes_93 : decode cX4_notes 93 = .ok (.iload 5, 2) := dk_21 5 (dk_at dksX4_notes_4 0 rfl rfl)
theorem dX4_notes_95 : decode cX4_notes 95 = .ok (.iconst 1, 1) := dk_4 (dk_at dksX4_notes_4 2 rfl rfl)
theorem dX4_notes_96 : decode cX4_notes 96 = .ok (.iadd, 1) := dk_96 (dk_at dksX4_notes_4 3 rfl rfl)
theorem dX4_notes_97 : decode cX4_notes 97 = .ok (.iload_n 2, 1) := dk_28 (dk_at dksX4_notes_4 4 rfl rfl)
theorem dX4_notes_98 : decode cX4_notes 98 = .ok (.iastore, 1) := dk_79 (dk_at dksX4_notes_4 5 rfl rfl)
theorem dX4_notes_99 : decode cX4_notes 99 = .ok (.aload_n 0, 1) := dk_42 (dk_at dksX4_notes_4 6 rfl rfl)
theorem dX4_notes_100 : decode cX4_notes 100 = .ok (.getfield 7, 3) := dk_180 0 7 (dk_at dksX4_notes_4 7 rfl rfl)
theorem dX4_notes_103 : decode cX4_notes 103 = .ok (.iload 5, 2) := dk_21 5 (dk_at dksX4_notes_4 10 rfl rfl)
theorem dX4_notes_105 : decode cX4_notes 105 = .ok (.iconst 2, 1) := dk_5 (dk_at dksX4_notes_4 12 rfl rfl)
theorem dX4_notes_106 : decode cX4_notes 106 = .ok (.iadd, 1) := dk_96 (dk_at dksX4_notes_4 13 rfl rfl)
theorem dX4_notes_107 : decode cX4_notes 107 = .ok (.iload_n 3, 1) := dk_29 (dk_at dksX4_notes_4 14 rfl rfl)
theorem dX4_notes_108 : decode cX4_notes 108 = .ok (.iastore, 1) := dk_79 (dk_at dksX4_notes_4 15 rfl rfl)
theorem dX4_notes_109 : decode cX4_notes 109 = .ok (.aload_n 0, 1) := dk_42 (dk_at dksX4_notes_4 16 rfl rfl)
theorem dX4_notes_110 : decode cX4_notes 110 = .ok (.getfield 7, 3) := dk_180 0 7 (dk_at dksX4_notes_4 17 rfl rfl)
theorem dX4_notes_113 : decode cX4_notes 113 = .ok (.iload 5, 2) := dk_21 5 (dk_at dksX4_notes_4 20 rfl rfl)
theorem dX4_notes_115 : decode cX4_notes 115 = .ok (.iconst 3, 1) := dk_6 (dk_at dksX4_notes_4 22 rfl rfl)
theorem dX4_notes_116 : decode cX4_notes 116 = .ok (.iadd, 1) := dk_96 (dk_at dksX4_notes_4 23 rfl rfl)
theorem dX4_notes_117 : decode cX4_notes 117 = .ok (.iload 4, 2) := dk_21 4 (dk_at dksX4_notes_5 0 rfl rfl)
theorem dX4_notes_119 : decode cX4_notes 119 = .ok (.iastore, 1) := dk_79 (dk_at dksX4_notes_5 2 rfl rfl)
theorem dX4_notes_120 : decode cX4_notes 120 = .ok (.aload_n 0, 1) := dk_42 (dk_at dksX4_notes_5 3 rfl rfl)
theorem dX4_notes_121 : decode cX4_notes 121 = .ok (.getfield 7, 3) := dk_180 0 7 (dk_at dksX4_notes_5 4 rfl rfl)
theorem dX4_notes_124 : decode cX4_notes 124 = .ok (.sipush 166, 3) := dk_17 0 166 (dk_at dksX4_notes_5 7 rfl rfl)
theorem dX4_notes_127 : decode cX4_notes 127 = .ok (.dup2, 1) := dk_92 (dk_at dksX4_notes_5 10 rfl rfl)
theorem dX4_notes_128 : decode cX4_notes 128 = .ok (.iaload, 1) := dk_46 (dk_at dksX4_notes_5 11 rfl rfl)
theorem dX4_notes_129 : decode cX4_notes 129 = .ok (.iconst 1, 1) := dk_4 (dk_at dksX4_notes_5 12 rfl rfl)
theorem dX4_notes_130 : decode cX4_notes 130 = .ok (.iadd, 1) := dk_96 (dk_at dksX4_notes_5 13 rfl rfl)
theorem dX4_notes_131 : decode cX4_notes 131 = .ok (.iastore, 1) := dk_79 (dk_at dksX4_notes_5 14 rfl rfl)
theorem dX4_notes_132 : decode cX4_notes 132 = .ok (.aload_n 0, 1) := dk_42 (dk_at dksX4_notes_5 15 rfl rfl)
theorem dX4_notes_133 : decode cX4_notes 133 = .ok (.getfield 7, 3) := dk_180 0 7 (dk_at dksX4_notes_5 16 rfl rfl)
theorem dX4_notes_136 : decode cX4_notes 136 = .ok (.sipush 288, 3) := dk_17 1 32 (dk_at dksX4_notes_5 19 rfl rfl)
theorem dX4_notes_139 : decode cX4_notes 139 = .ok (.dup2, 1) := dk_92 (dk_at dksX4_notes_5 22 rfl rfl)
theorem dX4_notes_140 : decode cX4_notes 140 = .ok (.iaload, 1) := dk_46 (dk_at dksX4_notes_5 23 rfl rfl)
theorem dX4_notes_141 : decode cX4_notes 141 = .ok (.iconst 1, 1) := dk_4 (dk_at dksX4_notes_6 0 rfl rfl)
theorem dX4_notes_142 : decode cX4_notes 142 = .ok (.iadd, 1) := dk_96 (dk_at dksX4_notes_6 1 rfl rfl)
theorem dX4_notes_143 : decode cX4_notes 143 = .ok (.iastore, 1) := dk_79 (dk_at dksX4_notes_6 2 rfl rfl)
theorem dX4_notes_144 : decode cX4_notes 144 = .ok (.return_, 1) := dk_177 (dk_at dksX4_notes_6 3 rfl rfl)
abbrev cX4_advancesBoth : ByteArray := prog_19_method_80_code
def yX4_advancesBoth : MethodName := ⟨RX4, "advancesBoth", "()V"⟩
def dkwX4_advancesBoth_6 : List UInt8 := [182, 1, 90, 42, 16, 16, 42, 16, 16, 182, 1, 87, 182, 1, 90, 177]
abbrev dktX4_advancesBoth_6 : List UInt8 := dkwX4_advancesBoth_6 ++ []
def dkwX4_advancesBoth_5 : List UInt8 := [182, 1, 90, 177, 42, 180, 0, 7, 16, 20, 46, 154, 0, 15, 42, 16, 12, 42, 16, 12, 182, 1, 87]
abbrev dktX4_advancesBoth_5 : List UInt8 := dkwX4_advancesBoth_5 ++ dktX4_advancesBoth_6
def dkwX4_advancesBoth_4 : List UInt8 := [20, 0, 116, 22, 7, 105, 109, 55, 9, 42, 16, 12, 22, 9, 182, 1, 90, 42, 16, 16, 22, 9]
abbrev dktX4_advancesBoth_4 : List UInt8 := dkwX4_advancesBoth_4 ++ dktX4_advancesBoth_5
def dkwX4_advancesBoth_3 : List UInt8 := [180, 0, 7, 16, 16, 46, 182, 1, 6, 105, 97, 20, 0, 251, 109, 55, 7, 20, 0, 251, 22, 5, 105]
abbrev dktX4_advancesBoth_3 : List UInt8 := dkwX4_advancesBoth_3 ++ dktX4_advancesBoth_4
def dkwX4_advancesBoth_2 : List UInt8 := [97, 20, 0, 251, 109, 55, 5, 33, 42, 42, 180, 0, 7, 16, 12, 46, 182, 1, 6, 105, 31, 42, 42]
abbrev dktX4_advancesBoth_2 : List UInt8 := dkwX4_advancesBoth_2 ++ dktX4_advancesBoth_3
def dkwX4_advancesBoth_1 : List UInt8 := [180, 0, 7, 16, 12, 46, 46, 133, 105, 31, 42, 180, 0, 50, 42, 180, 0, 7, 16, 16, 46, 46, 133, 105]
abbrev dktX4_advancesBoth_1 : List UInt8 := dkwX4_advancesBoth_1 ++ dktX4_advancesBoth_2
def dkwX4_advancesBoth_0 : List UInt8 := [42, 182, 1, 69, 153, 0, 116, 42, 182, 1, 19, 64, 20, 0, 251, 31, 101, 66, 33, 42, 180, 0, 50, 42]
abbrev dktX4_advancesBoth_0 : List UInt8 := dkwX4_advancesBoth_0 ++ dktX4_advancesBoth_1
theorem dksX4_advancesBoth_0 : cX4_advancesBoth.data.toList.drop 0 = dktX4_advancesBoth_0 := by decide +kernel
theorem dksX4_advancesBoth_1 : cX4_advancesBoth.data.toList.drop 24 = dktX4_advancesBoth_1 := dk_seg dksX4_advancesBoth_0 24 rfl rfl
theorem dksX4_advancesBoth_2 : cX4_advancesBoth.data.toList.drop 48 = dktX4_advancesBoth_2 := dk_seg dksX4_advancesBoth_1 24 rfl rfl
theorem dksX4_advancesBoth_3 : cX4_advancesBoth.data.toList.drop 71 = dktX4_advancesBoth_3 := dk_seg dksX4_advancesBoth_2 23 rfl rfl
theorem dksX4_advancesBoth_4 : cX4_advancesBoth.data.toList.drop 94 = dktX4_advancesBoth_4 := dk_seg dksX4_advancesBoth_3 23 rfl rfl
theorem dksX4_advancesBoth_5 : cX4_advancesBoth.data.toList.drop 116 = dktX4_advancesBoth_5 := dk_seg dksX4_advancesBoth_4 22 rfl rfl
theorem dksX4_advancesBoth_6 : cX4_advancesBoth.data.toList.drop 139 = dktX4_advancesBoth_6 := dk_seg dksX4_advancesBoth_5 23 rfl rfl
theorem dX4_advancesBoth_0 : decode cX4_advancesBoth 0 = .ok (.aload_n 0, 1) := dk_42 (dk_at dksX4_advancesBoth_0 0 rfl rfl)
theorem dX4_advancesBoth_1 : decode cX4_advancesBoth 1 = .ok (.invokevirtual 325, 3) := dk_182 1 69 (dk_at dksX4_advancesBoth_0 1 rfl rfl)
theorem dX4_advancesBoth_4 : decode cX4_advancesBoth 4 = .ok (.ifCond .eq 116, 3) := dk_153 0 116 (dk_at dksX4_advancesBoth_0 4 rfl rfl)
theorem dX4_advancesBoth_7 : decode cX4_advancesBoth 7 = .ok (.aload_n 0, 1) := dk_42 (dk_at dksX4_advancesBoth_0 7 rfl rfl)
theorem dX4_advancesBoth_8 : decode cX4_advancesBoth 8 = .ok (.invokevirtual 275, 3) := dk_182 1 19 (dk_at dksX4_advancesBoth_0 8 rfl rfl)
theorem dX4_advancesBoth_11 : decode cX4_advancesBoth 11 = .ok (.lstore_n 1, 1) := dk_64 (dk_at dksX4_advancesBoth_0 11 rfl rfl)
theorem dX4_advancesBoth_12 : decode cX4_advancesBoth 12 = .ok (.ldc2_w 251, 3) := dk_20 0 251 (dk_at dksX4_advancesBoth_0 12 rfl rfl)
theorem dX4_advancesBoth_15 : decode cX4_advancesBoth 15 = .ok (.lload_n 1, 1) := dk_31 (dk_at dksX4_advancesBoth_0 15 rfl rfl)
theorem dX4_advancesBoth_16 : decode cX4_advancesBoth 16 = .ok (.lsub, 1) := dk_101 (dk_at dksX4_advancesBoth_0 16 rfl rfl)
theorem dX4_advancesBoth_17 : decode cX4_advancesBoth 17 = .ok (.lstore_n 3, 1) := dk_66 (dk_at dksX4_advancesBoth_0 17 rfl rfl)
theorem dX4_advancesBoth_18 : decode cX4_advancesBoth 18 = .ok (.lload_n 3, 1) := dk_33 (dk_at dksX4_advancesBoth_0 18 rfl rfl)
theorem dX4_advancesBoth_19 : decode cX4_advancesBoth 19 = .ok (.aload_n 0, 1) := dk_42 (dk_at dksX4_advancesBoth_0 19 rfl rfl)
theorem dX4_advancesBoth_20 : decode cX4_advancesBoth 20 = .ok (.getfield 50, 3) := dk_180 0 50 (dk_at dksX4_advancesBoth_0 20 rfl rfl)
theorem dX4_advancesBoth_23 : decode cX4_advancesBoth 23 = .ok (.aload_n 0, 1) := dk_42 (dk_at dksX4_advancesBoth_0 23 rfl rfl)
theorem dX4_advancesBoth_24 : decode cX4_advancesBoth 24 = .ok (.getfield 7, 3) := dk_180 0 7 (dk_at dksX4_advancesBoth_1 0 rfl rfl)
theorem dX4_advancesBoth_27 : decode cX4_advancesBoth 27 = .ok (.bipush 12, 2) := dk_16 12 (dk_at dksX4_advancesBoth_1 3 rfl rfl)
theorem dX4_advancesBoth_29 : decode cX4_advancesBoth 29 = .ok (.iaload, 1) := dk_46 (dk_at dksX4_advancesBoth_1 5 rfl rfl)
theorem dX4_advancesBoth_30 : decode cX4_advancesBoth 30 = .ok (.iaload, 1) := dk_46 (dk_at dksX4_advancesBoth_1 6 rfl rfl)
theorem dX4_advancesBoth_31 : decode cX4_advancesBoth 31 = .ok (.i2l, 1) := dk_133 (dk_at dksX4_advancesBoth_1 7 rfl rfl)
theorem dX4_advancesBoth_32 : decode cX4_advancesBoth 32 = .ok (.lmul, 1) := dk_105 (dk_at dksX4_advancesBoth_1 8 rfl rfl)
theorem dX4_advancesBoth_33 : decode cX4_advancesBoth 33 = .ok (.lload_n 1, 1) := dk_31 (dk_at dksX4_advancesBoth_1 9 rfl rfl)
theorem dX4_advancesBoth_34 : decode cX4_advancesBoth 34 = .ok (.aload_n 0, 1) := dk_42 (dk_at dksX4_advancesBoth_1 10 rfl rfl)
theorem dX4_advancesBoth_35 : decode cX4_advancesBoth 35 = .ok (.getfield 50, 3) := dk_180 0 50 (dk_at dksX4_advancesBoth_1 11 rfl rfl)
theorem dX4_advancesBoth_38 : decode cX4_advancesBoth 38 = .ok (.aload_n 0, 1) := dk_42 (dk_at dksX4_advancesBoth_1 14 rfl rfl)
theorem dX4_advancesBoth_39 : decode cX4_advancesBoth 39 = .ok (.getfield 7, 3) := dk_180 0 7 (dk_at dksX4_advancesBoth_1 15 rfl rfl)
theorem dX4_advancesBoth_42 : decode cX4_advancesBoth 42 = .ok (.bipush 16, 2) := dk_16 16 (dk_at dksX4_advancesBoth_1 18 rfl rfl)
theorem dX4_advancesBoth_44 : decode cX4_advancesBoth 44 = .ok (.iaload, 1) := dk_46 (dk_at dksX4_advancesBoth_1 20 rfl rfl)
theorem dX4_advancesBoth_45 : decode cX4_advancesBoth 45 = .ok (.iaload, 1) := dk_46 (dk_at dksX4_advancesBoth_1 21 rfl rfl)
theorem dX4_advancesBoth_46 : decode cX4_advancesBoth 46 = .ok (.i2l, 1) := dk_133 (dk_at dksX4_advancesBoth_1 22 rfl rfl)
theorem dX4_advancesBoth_47 : decode cX4_advancesBoth 47 = .ok (.lmul, 1) := dk_105 (dk_at dksX4_advancesBoth_1 23 rfl rfl)
theorem dX4_advancesBoth_48 : decode cX4_advancesBoth 48 = .ok (.ladd, 1) := dk_97 (dk_at dksX4_advancesBoth_2 0 rfl rfl)
theorem dX4_advancesBoth_49 : decode cX4_advancesBoth 49 = .ok (.ldc2_w 251, 3) := dk_20 0 251 (dk_at dksX4_advancesBoth_2 1 rfl rfl)
theorem dX4_advancesBoth_52 : decode cX4_advancesBoth 52 = .ok (.ldiv, 1) := dk_109 (dk_at dksX4_advancesBoth_2 4 rfl rfl)
theorem dX4_advancesBoth_53 : decode cX4_advancesBoth 53 = .ok (.lstore 5, 2) := dk_55 5 (dk_at dksX4_advancesBoth_2 5 rfl rfl)
theorem dX4_advancesBoth_55 : decode cX4_advancesBoth 55 = .ok (.lload_n 3, 1) := dk_33 (dk_at dksX4_advancesBoth_2 7 rfl rfl)
theorem dX4_advancesBoth_56 : decode cX4_advancesBoth 56 = .ok (.aload_n 0, 1) := dk_42 (dk_at dksX4_advancesBoth_2 8 rfl rfl)
theorem dX4_advancesBoth_57 : decode cX4_advancesBoth 57 = .ok (.aload_n 0, 1) := dk_42 (dk_at dksX4_advancesBoth_2 9 rfl rfl)
theorem dX4_advancesBoth_58 : decode cX4_advancesBoth 58 = .ok (.getfield 7, 3) := dk_180 0 7 (dk_at dksX4_advancesBoth_2 10 rfl rfl)
theorem dX4_advancesBoth_61 : decode cX4_advancesBoth 61 = .ok (.bipush 12, 2) := dk_16 12 (dk_at dksX4_advancesBoth_2 13 rfl rfl)
theorem dX4_advancesBoth_63 : decode cX4_advancesBoth 63 = .ok (.iaload, 1) := dk_46 (dk_at dksX4_advancesBoth_2 15 rfl rfl)
theorem dX4_advancesBoth_64 : decode cX4_advancesBoth 64 = .ok (.invokevirtual 262, 3) := dk_182 1 6 (dk_at dksX4_advancesBoth_2 16 rfl rfl)
theorem dX4_advancesBoth_67 : decode cX4_advancesBoth 67 = .ok (.lmul, 1) := dk_105 (dk_at dksX4_advancesBoth_2 19 rfl rfl)
theorem dX4_advancesBoth_68 : decode cX4_advancesBoth 68 = .ok (.lload_n 1, 1) := dk_31 (dk_at dksX4_advancesBoth_2 20 rfl rfl)
theorem dX4_advancesBoth_69 : decode cX4_advancesBoth 69 = .ok (.aload_n 0, 1) := dk_42 (dk_at dksX4_advancesBoth_2 21 rfl rfl)
theorem dX4_advancesBoth_70 : decode cX4_advancesBoth 70 = .ok (.aload_n 0, 1) := dk_42 (dk_at dksX4_advancesBoth_2 22 rfl rfl)
theorem dX4_advancesBoth_71 : decode cX4_advancesBoth 71 = .ok (.getfield 7, 3) := dk_180 0 7 (dk_at dksX4_advancesBoth_3 0 rfl rfl)
theorem dX4_advancesBoth_74 : decode cX4_advancesBoth 74 = .ok (.bipush 16, 2) := dk_16 16 (dk_at dksX4_advancesBoth_3 3 rfl rfl)
theorem dX4_advancesBoth_76 : decode cX4_advancesBoth 76 = .ok (.iaload, 1) := dk_46 (dk_at dksX4_advancesBoth_3 5 rfl rfl)
theorem dX4_advancesBoth_77 : decode cX4_advancesBoth 77 = .ok (.invokevirtual 262, 3) := dk_182 1 6 (dk_at dksX4_advancesBoth_3 6 rfl rfl)
theorem dX4_advancesBoth_80 : decode cX4_advancesBoth 80 = .ok (.lmul, 1) := dk_105 (dk_at dksX4_advancesBoth_3 9 rfl rfl)
theorem dX4_advancesBoth_81 : decode cX4_advancesBoth 81 = .ok (.ladd, 1) := dk_97 (dk_at dksX4_advancesBoth_3 10 rfl rfl)
theorem dX4_advancesBoth_82 : decode cX4_advancesBoth 82 = .ok (.ldc2_w 251, 3) := dk_20 0 251 (dk_at dksX4_advancesBoth_3 11 rfl rfl)
theorem dX4_advancesBoth_85 : decode cX4_advancesBoth 85 = .ok (.ldiv, 1) := dk_109 (dk_at dksX4_advancesBoth_3 14 rfl rfl)
theorem dX4_advancesBoth_86 : decode cX4_advancesBoth 86 = .ok (.lstore 7, 2) := dk_55 7 (dk_at dksX4_advancesBoth_3 15 rfl rfl)
theorem dX4_advancesBoth_88 : decode cX4_advancesBoth 88 = .ok (.ldc2_w 251, 3) := dk_20 0 251 (dk_at dksX4_advancesBoth_3 17 rfl rfl)
theorem dX4_advancesBoth_91 : decode cX4_advancesBoth 91 = .ok (.lload 5, 2) := dk_22 5 (dk_at dksX4_advancesBoth_3 20 rfl rfl)
theorem dX4_advancesBoth_93 : decode cX4_advancesBoth 93 = .ok (.lmul, 1) := dk_105 (dk_at dksX4_advancesBoth_3 22 rfl rfl)
theorem dX4_advancesBoth_94 : decode cX4_advancesBoth 94 = .ok (.ldc2_w 116, 3) := dk_20 0 116 (dk_at dksX4_advancesBoth_4 0 rfl rfl)
theorem dX4_advancesBoth_97 : decode cX4_advancesBoth 97 = .ok (.lload 7, 2) := dk_22 7 (dk_at dksX4_advancesBoth_4 3 rfl rfl)
theorem dX4_advancesBoth_99 : decode cX4_advancesBoth 99 = .ok (.lmul, 1) := dk_105 (dk_at dksX4_advancesBoth_4 5 rfl rfl)
theorem dX4_advancesBoth_100 : decode cX4_advancesBoth 100 = .ok (.ldiv, 1) := dk_109 (dk_at dksX4_advancesBoth_4 6 rfl rfl)
theorem dX4_advancesBoth_101 : decode cX4_advancesBoth 101 = .ok (.lstore 9, 2) := dk_55 9 (dk_at dksX4_advancesBoth_4 7 rfl rfl)
theorem dX4_advancesBoth_103 : decode cX4_advancesBoth 103 = .ok (.aload_n 0, 1) := dk_42 (dk_at dksX4_advancesBoth_4 9 rfl rfl)
theorem dX4_advancesBoth_104 : decode cX4_advancesBoth 104 = .ok (.bipush 12, 2) := dk_16 12 (dk_at dksX4_advancesBoth_4 10 rfl rfl)
theorem dX4_advancesBoth_106 : decode cX4_advancesBoth 106 = .ok (.lload 9, 2) := dk_22 9 (dk_at dksX4_advancesBoth_4 12 rfl rfl)
theorem dX4_advancesBoth_108 : decode cX4_advancesBoth 108 = .ok (.invokevirtual 346, 3) := dk_182 1 90 (dk_at dksX4_advancesBoth_4 14 rfl rfl)
theorem dX4_advancesBoth_111 : decode cX4_advancesBoth 111 = .ok (.aload_n 0, 1) := dk_42 (dk_at dksX4_advancesBoth_4 17 rfl rfl)
theorem dX4_advancesBoth_112 : decode cX4_advancesBoth 112 = .ok (.bipush 16, 2) := dk_16 16 (dk_at dksX4_advancesBoth_4 18 rfl rfl)
theorem dX4_advancesBoth_114 : decode cX4_advancesBoth 114 = .ok (.lload 9, 2) := dk_22 9 (dk_at dksX4_advancesBoth_4 20 rfl rfl)
theorem dX4_advancesBoth_116 : decode cX4_advancesBoth 116 = .ok (.invokevirtual 346, 3) := dk_182 1 90 (dk_at dksX4_advancesBoth_5 0 rfl rfl)
theorem dX4_advancesBoth_119 : decode cX4_advancesBoth 119 = .ok (.return_, 1) := dk_177 (dk_at dksX4_advancesBoth_5 3 rfl rfl)
theorem dX4_advancesBoth_120 : decode cX4_advancesBoth 120 = .ok (.aload_n 0, 1) := dk_42 (dk_at dksX4_advancesBoth_5 4 rfl rfl)
theorem dX4_advancesBoth_121 : decode cX4_advancesBoth 121 = .ok (.getfield 7, 3) := dk_180 0 7 (dk_at dksX4_advancesBoth_5 5 rfl rfl)
theorem dX4_advancesBoth_124 : decode cX4_advancesBoth 124 = .ok (.bipush 20, 2) := dk_16 20 (dk_at dksX4_advancesBoth_5 8 rfl rfl)
theorem dX4_advancesBoth_126 : decode cX4_advancesBoth 126 = .ok (.iaload, 1) := dk_46 (dk_at dksX4_advancesBoth_5 10 rfl rfl)
theorem dX4_advancesBoth_127 : decode cX4_advancesBoth 127 = .ok (.ifCond .ne 15, 3) := dk_154 0 15 (dk_at dksX4_advancesBoth_5 11 rfl rfl)
theorem dX4_advancesBoth_130 : decode cX4_advancesBoth 130 = .ok (.aload_n 0, 1) := dk_42 (dk_at dksX4_advancesBoth_5 14 rfl rfl)
theorem dX4_advancesBoth_131 : decode cX4_advancesBoth 131 = .ok (.bipush 12, 2) := dk_16 12 (dk_at dksX4_advancesBoth_5 15 rfl rfl)
theorem dX4_advancesBoth_133 : decode cX4_advancesBoth 133 = .ok (.aload_n 0, 1) := dk_42 (dk_at dksX4_advancesBoth_5 17 rfl rfl)
theorem dX4_advancesBoth_134 : decode cX4_advancesBoth 134 = .ok (.bipush 12, 2) := dk_16 12 (dk_at dksX4_advancesBoth_5 18 rfl rfl)
theorem dX4_advancesBoth_136 : decode cX4_advancesBoth 136 = .ok (.invokevirtual 343, 3) := dk_182 1 87 (dk_at dksX4_advancesBoth_5 20 rfl rfl)
theorem dX4_advancesBoth_139 : decode cX4_advancesBoth 139 = .ok (.invokevirtual 346, 3) := dk_182 1 90 (dk_at dksX4_advancesBoth_6 0 rfl rfl)
theorem dX4_advancesBoth_142 : decode cX4_advancesBoth 142 = .ok (.aload_n 0, 1) := dk_42 (dk_at dksX4_advancesBoth_6 3 rfl rfl)
theorem dX4_advancesBoth_143 : decode cX4_advancesBoth 143 = .ok (.bipush 16, 2) := dk_16 16 (dk_at dksX4_advancesBoth_6 4 rfl rfl)
theorem dX4_advancesBoth_145 : decode cX4_advancesBoth 145 = .ok (.aload_n 0, 1) := dk_42 (dk_at dksX4_advancesBoth_6 6 rfl rfl)
theorem dX4_advancesBoth_146 : decode cX4_advancesBoth 146 = .ok (.bipush 16, 2) := dk_16 16 (dk_at dksX4_advancesBoth_6 7 rfl rfl)
theorem dX4_advancesBoth_148 : decode cX4_advancesBoth 148 = .ok (.invokevirtual 343, 3) := dk_182 1 87 (dk_at dksX4_advancesBoth_6 9 rfl rfl)
theorem dX4_advancesBoth_151 : decode cX4_advancesBoth 151 = .ok (.invokevirtual 346, 3) := dk_182 1 90 (dk_at dksX4_advancesBoth_6 12 rfl rfl)
theorem dX4_advancesBoth_154 : decode cX4_advancesBoth 154 = .ok (.return_, 1) := dk_177 (dk_at dksX4_advancesBoth_6 15 rfl rfl)
abbrev cX4_reset : ByteArray := prog_19_method_82_code
def yX4_reset : MethodName := ⟨RX4, "reset", "()I"⟩
def dkwX4_reset_3 : List UInt8 := [172]
abbrev dktX4_reset_3 : List UInt8 := dkwX4_reset_3 ++ []
def dkwX4_reset_2 : List UInt8 := [17, 0, 166, 3, 79, 42, 180, 0, 7, 17, 1, 31, 3, 79, 42, 180, 0, 7, 17, 1, 32, 3, 79, 27]
abbrev dktX4_reset_2 : List UInt8 := dkwX4_reset_2 ++ dktX4_reset_3
def dkwX4_reset_1 : List UInt8 := [180, 0, 7, 3, 28, 96, 3, 79, 132, 2, 1, 167, 255, 238, 42, 182, 0, 152, 42, 180, 0, 7]
abbrev dktX4_reset_1 : List UInt8 := dkwX4_reset_1 ++ dktX4_reset_2
def dkwX4_reset_0 : List UInt8 := [42, 3, 181, 0, 94, 42, 180, 0, 7, 17, 1, 31, 46, 60, 3, 61, 28, 16, 8, 162, 0, 18, 42]
abbrev dktX4_reset_0 : List UInt8 := dkwX4_reset_0 ++ dktX4_reset_1
theorem dksX4_reset_0 : cX4_reset.data.toList.drop 0 = dktX4_reset_0 := by decide +kernel
theorem dksX4_reset_1 : cX4_reset.data.toList.drop 23 = dktX4_reset_1 := dk_seg dksX4_reset_0 23 rfl rfl
theorem dksX4_reset_2 : cX4_reset.data.toList.drop 45 = dktX4_reset_2 := dk_seg dksX4_reset_1 22 rfl rfl
theorem dksX4_reset_3 : cX4_reset.data.toList.drop 69 = dktX4_reset_3 := dk_seg dksX4_reset_2 24 rfl rfl
theorem dX4_reset_0 : decode cX4_reset 0 = .ok (.aload_n 0, 1) := dk_42 (dk_at dksX4_reset_0 0 rfl rfl)
theorem dX4_reset_1 : decode cX4_reset 1 = .ok (.iconst 0, 1) := dk_3 (dk_at dksX4_reset_0 1 rfl rfl)
theorem dX4_reset_2 : decode cX4_reset 2 = .ok (.putfield 94, 3) := dk_181 0 94 (dk_at dksX4_reset_0 2 rfl rfl)
theorem dX4_reset_5 : decode cX4_reset 5 = .ok (.aload_n 0, 1) := dk_42 (dk_at dksX4_reset_0 5 rfl rfl)
theorem dX4_reset_6 : decode cX4_reset 6 = .ok (.getfield 7, 3) := dk_180 0 7 (dk_at dksX4_reset_0 6 rfl rfl)
theorem dX4_reset_9 : decode cX4_reset 9 = .ok (.sipush 287, 3) := dk_17 1 31 (dk_at dksX4_reset_0 9 rfl rfl)
theorem dX4_reset_12 : decode cX4_reset 12 = .ok (.iaload, 1) := dk_46 (dk_at dksX4_reset_0 12 rfl rfl)
theorem dX4_reset_13 : decode cX4_reset 13 = .ok (.istore_n 1, 1) := dk_60 (dk_at dksX4_reset_0 13 rfl rfl)
theorem dX4_reset_14 : decode cX4_reset 14 = .ok (.iconst 0, 1) := dk_3 (dk_at dksX4_reset_0 14 rfl rfl)
theorem dX4_reset_15 : decode cX4_reset 15 = .ok (.istore_n 2, 1) := dk_61 (dk_at dksX4_reset_0 15 rfl rfl)
theorem dX4_reset_16 : decode cX4_reset 16 = .ok (.iload_n 2, 1) := dk_28 (dk_at dksX4_reset_0 16 rfl rfl)
theorem dX4_reset_17 : decode cX4_reset 17 = .ok (.bipush 8, 2) := dk_16 8 (dk_at dksX4_reset_0 17 rfl rfl)
theorem dX4_reset_19 : decode cX4_reset 19 = .ok (.if_icmp .ge 18, 3) := dk_162 0 18 (dk_at dksX4_reset_0 19 rfl rfl)
theorem dX4_reset_22 : decode cX4_reset 22 = .ok (.aload_n 0, 1) := dk_42 (dk_at dksX4_reset_0 22 rfl rfl)
theorem dX4_reset_23 : decode cX4_reset 23 = .ok (.getfield 7, 3) := dk_180 0 7 (dk_at dksX4_reset_1 0 rfl rfl)
theorem dX4_reset_26 : decode cX4_reset 26 = .ok (.iconst 0, 1) := dk_3 (dk_at dksX4_reset_1 3 rfl rfl)
theorem dX4_reset_27 : decode cX4_reset 27 = .ok (.iload_n 2, 1) := dk_28 (dk_at dksX4_reset_1 4 rfl rfl)
theorem dX4_reset_28 : decode cX4_reset 28 = .ok (.iadd, 1) := dk_96 (dk_at dksX4_reset_1 5 rfl rfl)
theorem dX4_reset_29 : decode cX4_reset 29 = .ok (.iconst 0, 1) := dk_3 (dk_at dksX4_reset_1 6 rfl rfl)
theorem dX4_reset_30 : decode cX4_reset 30 = .ok (.iastore, 1) := dk_79 (dk_at dksX4_reset_1 7 rfl rfl)
theorem dX4_reset_31 : decode cX4_reset 31 = .ok (.iinc 2 1, 3) := dk_132 2 1 (dk_at dksX4_reset_1 8 rfl rfl)
theorem dX4_reset_34 : decode cX4_reset 34 = .ok (.goto (-18), 3) := dk_167 255 238 (dk_at dksX4_reset_1 11 rfl rfl)
theorem dX4_reset_37 : decode cX4_reset 37 = .ok (.aload_n 0, 1) := dk_42 (dk_at dksX4_reset_1 14 rfl rfl)
theorem dX4_reset_38 : decode cX4_reset 38 = .ok (.invokevirtual 152, 3) := dk_182 0 152 (dk_at dksX4_reset_1 15 rfl rfl)
theorem dX4_reset_41 : decode cX4_reset 41 = .ok (.aload_n 0, 1) := dk_42 (dk_at dksX4_reset_1 18 rfl rfl)
theorem dX4_reset_42 : decode cX4_reset 42 = .ok (.getfield 7, 3) := dk_180 0 7 (dk_at dksX4_reset_1 19 rfl rfl)
theorem dX4_reset_45 : decode cX4_reset 45 = .ok (.sipush 166, 3) := dk_17 0 166 (dk_at dksX4_reset_2 0 rfl rfl)
theorem dX4_reset_48 : decode cX4_reset 48 = .ok (.iconst 0, 1) := dk_3 (dk_at dksX4_reset_2 3 rfl rfl)
theorem dX4_reset_49 : decode cX4_reset 49 = .ok (.iastore, 1) := dk_79 (dk_at dksX4_reset_2 4 rfl rfl)
theorem dX4_reset_50 : decode cX4_reset 50 = .ok (.aload_n 0, 1) := dk_42 (dk_at dksX4_reset_2 5 rfl rfl)
theorem dX4_reset_51 : decode cX4_reset 51 = .ok (.getfield 7, 3) := dk_180 0 7 (dk_at dksX4_reset_2 6 rfl rfl)
theorem dX4_reset_54 : decode cX4_reset 54 = .ok (.sipush 287, 3) := dk_17 1 31 (dk_at dksX4_reset_2 9 rfl rfl)
theorem dX4_reset_57 : decode cX4_reset 57 = .ok (.iconst 0, 1) := dk_3 (dk_at dksX4_reset_2 12 rfl rfl)
theorem dX4_reset_58 : decode cX4_reset 58 = .ok (.iastore, 1) := dk_79 (dk_at dksX4_reset_2 13 rfl rfl)
theorem dX4_reset_59 : decode cX4_reset 59 = .ok (.aload_n 0, 1) := dk_42 (dk_at dksX4_reset_2 14 rfl rfl)
theorem dX4_reset_60 : decode cX4_reset 60 = .ok (.getfield 7, 3) := dk_180 0 7 (dk_at dksX4_reset_2 15 rfl rfl)
theorem dX4_reset_63 : decode cX4_reset 63 = .ok (.sipush 288, 3) := dk_17 1 32 (dk_at dksX4_reset_2 18 rfl rfl)
theorem dX4_reset_66 : decode cX4_reset 66 = .ok (.iconst 0, 1) := dk_3 (dk_at dksX4_reset_2 21 rfl rfl)
theorem dX4_reset_67 : decode cX4_reset 67 = .ok (.iastore, 1) := dk_79 (dk_at dksX4_reset_2 22 rfl rfl)
theorem dX4_reset_68 : decode cX4_reset 68 = .ok (.iload_n 1, 1) := dk_27 (dk_at dksX4_reset_2 23 rfl rfl)
theorem dX4_reset_69 : decode cX4_reset 69 = .ok (.ireturn, 1) := dk_172 (dk_at dksX4_reset_3 0 rfl rfl)
abbrev cX4_state : ByteArray := prog_19_method_83_code
def yX4_state : MethodName := ⟨RX4, "state", "()I"⟩
def dkwX4_state_1 : List UInt8 := [16, 12, 46, 172]
abbrev dktX4_state_1 : List UInt8 := dkwX4_state_1 ++ []
def dkwX4_state_0 : List UInt8 := [42, 3, 181, 0, 94, 42, 180, 0, 145, 154, 0, 11, 42, 4, 182, 0, 103, 167, 0, 10, 42, 180, 0, 7]
abbrev dktX4_state_0 : List UInt8 := dkwX4_state_0 ++ dktX4_state_1
theorem dksX4_state_0 : cX4_state.data.toList.drop 0 = dktX4_state_0 := by decide +kernel
theorem dksX4_state_1 : cX4_state.data.toList.drop 24 = dktX4_state_1 := dk_seg dksX4_state_0 24 rfl rfl
theorem dX4_state_0 : decode cX4_state 0 = .ok (.aload_n 0, 1) := dk_42 (dk_at dksX4_state_0 0 rfl rfl)
theorem dX4_state_1 : decode cX4_state 1 = .ok (.iconst 0, 1) := dk_3 (dk_at dksX4_state_0 1 rfl rfl)
theorem dX4_state_2 : decode cX4_state 2 = .ok (.putfield 94, 3) := dk_181 0 94 (dk_at dksX4_state_0 2 rfl rfl)
theorem dX4_state_5 : decode cX4_state 5 = .ok (.aload_n 0, 1) := dk_42 (dk_at dksX4_state_0 5 rfl rfl)
theorem dX4_state_6 : decode cX4_state 6 = .ok (.getfield 145, 3) := dk_180 0 145 (dk_at dksX4_state_0 6 rfl rfl)
theorem dX4_state_9 : decode cX4_state 9 = .ok (.ifCond .ne 11, 3) := dk_154 0 11 (dk_at dksX4_state_0 9 rfl rfl)
theorem dX4_state_12 : decode cX4_state 12 = .ok (.aload_n 0, 1) := dk_42 (dk_at dksX4_state_0 12 rfl rfl)
theorem dX4_state_13 : decode cX4_state 13 = .ok (.iconst 1, 1) := dk_4 (dk_at dksX4_state_0 13 rfl rfl)
theorem dX4_state_14 : decode cX4_state 14 = .ok (.invokevirtual 103, 3) := dk_182 0 103 (dk_at dksX4_state_0 14 rfl rfl)
theorem dX4_state_17 : decode cX4_state 17 = .ok (.goto 10, 3) := dk_167 0 10 (dk_at dksX4_state_0 17 rfl rfl)
theorem dX4_state_20 : decode cX4_state 20 = .ok (.aload_n 0, 1) := dk_42 (dk_at dksX4_state_0 20 rfl rfl)
theorem dX4_state_21 : decode cX4_state 21 = .ok (.getfield 7, 3) := dk_180 0 7 (dk_at dksX4_state_0 21 rfl rfl)
theorem dX4_state_24 : decode cX4_state 24 = .ok (.bipush 12, 2) := dk_16 12 (dk_at dksX4_state_1 0 rfl rfl)
theorem dX4_state_26 : decode cX4_state 26 = .ok (.iaload, 1) := dk_46 (dk_at dksX4_state_1 2 rfl rfl)
theorem dX4_state_27 : decode cX4_state 27 = .ok (.ireturn, 1) := dk_172 (dk_at dksX4_state_1 3 rfl rfl)
abbrev cX4_target : ByteArray := prog_19_method_84_code
def yX4_target : MethodName := ⟨RX4, "target", "()I"⟩
def dkwX4_target_1 : List UInt8 := [16, 16, 46, 172]
abbrev dktX4_target_1 : List UInt8 := dkwX4_target_1 ++ []
def dkwX4_target_0 : List UInt8 := [42, 3, 181, 0, 94, 42, 180, 0, 7, 16, 8, 46, 154, 0, 7, 2, 167, 0, 10, 42, 180, 0, 7]
abbrev dktX4_target_0 : List UInt8 := dkwX4_target_0 ++ dktX4_target_1
theorem dksX4_target_0 : cX4_target.data.toList.drop 0 = dktX4_target_0 := by decide +kernel
theorem dksX4_target_1 : cX4_target.data.toList.drop 23 = dktX4_target_1 := dk_seg dksX4_target_0 23 rfl rfl
theorem dX4_target_0 : decode cX4_target 0 = .ok (.aload_n 0, 1) := dk_42 (dk_at dksX4_target_0 0 rfl rfl)
theorem dX4_target_1 : decode cX4_target 1 = .ok (.iconst 0, 1) := dk_3 (dk_at dksX4_target_0 1 rfl rfl)
theorem dX4_target_2 : decode cX4_target 2 = .ok (.putfield 94, 3) := dk_181 0 94 (dk_at dksX4_target_0 2 rfl rfl)
theorem dX4_target_5 : decode cX4_target 5 = .ok (.aload_n 0, 1) := dk_42 (dk_at dksX4_target_0 5 rfl rfl)
theorem dX4_target_6 : decode cX4_target 6 = .ok (.getfield 7, 3) := dk_180 0 7 (dk_at dksX4_target_0 6 rfl rfl)
theorem dX4_target_9 : decode cX4_target 9 = .ok (.bipush 8, 2) := dk_16 8 (dk_at dksX4_target_0 9 rfl rfl)
theorem dX4_target_11 : decode cX4_target 11 = .ok (.iaload, 1) := dk_46 (dk_at dksX4_target_0 11 rfl rfl)
theorem dX4_target_12 : decode cX4_target 12 = .ok (.ifCond .ne 7, 3) := dk_154 0 7 (dk_at dksX4_target_0 12 rfl rfl)
theorem dX4_target_15 : decode cX4_target 15 = .ok (.iconst (-1), 1) := dk_2 (dk_at dksX4_target_0 15 rfl rfl)
theorem dX4_target_16 : decode cX4_target 16 = .ok (.goto 10, 3) := dk_167 0 10 (dk_at dksX4_target_0 16 rfl rfl)
theorem dX4_target_19 : decode cX4_target 19 = .ok (.aload_n 0, 1) := dk_42 (dk_at dksX4_target_0 19 rfl rfl)
theorem dX4_target_20 : decode cX4_target 20 = .ok (.getfield 7, 3) := dk_180 0 7 (dk_at dksX4_target_0 20 rfl rfl)
theorem dX4_target_23 : decode cX4_target 23 = .ok (.bipush 16, 2) := dk_16 16 (dk_at dksX4_target_1 0 rfl rfl)
theorem dX4_target_25 : decode cX4_target 25 = .ok (.iaload, 1) := dk_46 (dk_at dksX4_target_1 2 rfl rfl)
theorem dX4_target_26 : decode cX4_target 26 = .ok (.ireturn, 1) := dk_172 (dk_at dksX4_target_1 3 rfl rfl)
abbrev cX4_transition : ByteArray := prog_19_method_85_code
def yX4_transition : MethodName := ⟨RX4, "transition", "()I"⟩
def dkwX4_transition_1 : List UInt8 := [16, 9, 46, 172]
abbrev dktX4_transition_1 : List UInt8 := dkwX4_transition_1 ++ []
def dkwX4_transition_0 : List UInt8 := [42, 3, 181, 0, 94, 42, 180, 0, 7, 16, 8, 46, 154, 0, 7, 2, 167, 0, 10, 42, 180, 0, 7]
abbrev dktX4_transition_0 : List UInt8 := dkwX4_transition_0 ++ dktX4_transition_1
theorem dksX4_transition_0 : cX4_transition.data.toList.drop 0 = dktX4_transition_0 := by decide +kernel
theorem dksX4_transition_1 : cX4_transition.data.toList.drop 23 = dktX4_transition_1 := dk_seg dksX4_transition_0 23 rfl rfl
theorem dX4_transition_0 : decode cX4_transition 0 = .ok (.aload_n 0, 1) := dk_42 (dk_at dksX4_transition_0 0 rfl rfl)
theorem dX4_transition_1 : decode cX4_transition 1 = .ok (.iconst 0, 1) := dk_3 (dk_at dksX4_transition_0 1 rfl rfl)
theorem dX4_transition_2 : decode cX4_transition 2 = .ok (.putfield 94, 3) := dk_181 0 94 (dk_at dksX4_transition_0 2 rfl rfl)
theorem dX4_transition_5 : decode cX4_transition 5 = .ok (.aload_n 0, 1) := dk_42 (dk_at dksX4_transition_0 5 rfl rfl)
theorem dX4_transition_6 : decode cX4_transition 6 = .ok (.getfield 7, 3) := dk_180 0 7 (dk_at dksX4_transition_0 6 rfl rfl)
theorem dX4_transition_9 : decode cX4_transition 9 = .ok (.bipush 8, 2) := dk_16 8 (dk_at dksX4_transition_0 9 rfl rfl)
theorem dX4_transition_11 : decode cX4_transition 11 = .ok (.iaload, 1) := dk_46 (dk_at dksX4_transition_0 11 rfl rfl)
theorem dX4_transition_12 : decode cX4_transition 12 = .ok (.ifCond .ne 7, 3) := dk_154 0 7 (dk_at dksX4_transition_0 12 rfl rfl)
theorem dX4_transition_15 : decode cX4_transition 15 = .ok (.iconst (-1), 1) := dk_2 (dk_at dksX4_transition_0 15 rfl rfl)
theorem dX4_transition_16 : decode cX4_transition 16 = .ok (.goto 10, 3) := dk_167 0 10 (dk_at dksX4_transition_0 16 rfl rfl)
theorem dX4_transition_19 : decode cX4_transition 19 = .ok (.aload_n 0, 1) := dk_42 (dk_at dksX4_transition_0 19 rfl rfl)
theorem dX4_transition_20 : decode cX4_transition 20 = .ok (.getfield 7, 3) := dk_180 0 7 (dk_at dksX4_transition_0 20 rfl rfl)
theorem dX4_transition_23 : decode cX4_transition 23 = .ok (.bipush 9, 2) := dk_16 9 (dk_at dksX4_transition_1 0 rfl rfl)
theorem dX4_transition_25 : decode cX4_transition 25 = .ok (.iaload, 1) := dk_46 (dk_at dksX4_transition_1 2 rfl rfl)
theorem dX4_transition_26 : decode cX4_transition 26 = .ok (.ireturn, 1) := dk_172 (dk_at dksX4_transition_1 3 rfl rfl)
abbrev cX4_elapsed : ByteArray := prog_19_method_86_code
def yX4_elapsed : MethodName := ⟨RX4, "elapsed", "()I"⟩
def dkwX4_elapsed_1 : List UInt8 := [16, 10, 46, 172]
abbrev dktX4_elapsed_1 : List UInt8 := dkwX4_elapsed_1 ++ []
def dkwX4_elapsed_0 : List UInt8 := [42, 3, 181, 0, 94, 42, 180, 0, 7, 16, 8, 46, 154, 0, 7, 2, 167, 0, 10, 42, 180, 0, 7]
abbrev dktX4_elapsed_0 : List UInt8 := dkwX4_elapsed_0 ++ dktX4_elapsed_1
theorem dksX4_elapsed_0 : cX4_elapsed.data.toList.drop 0 = dktX4_elapsed_0 := by decide +kernel
theorem dksX4_elapsed_1 : cX4_elapsed.data.toList.drop 23 = dktX4_elapsed_1 := dk_seg dksX4_elapsed_0 23 rfl rfl
theorem dX4_elapsed_0 : decode cX4_elapsed 0 = .ok (.aload_n 0, 1) := dk_42 (dk_at dksX4_elapsed_0 0 rfl rfl)
theorem dX4_elapsed_1 : decode cX4_elapsed 1 = .ok (.iconst 0, 1) := dk_3 (dk_at dksX4_elapsed_0 1 rfl rfl)
theorem dX4_elapsed_2 : decode cX4_elapsed 2 = .ok (.putfield 94, 3) := dk_181 0 94 (dk_at dksX4_elapsed_0 2 rfl rfl)
theorem dX4_elapsed_5 : decode cX4_elapsed 5 = .ok (.aload_n 0, 1) := dk_42 (dk_at dksX4_elapsed_0 5 rfl rfl)
theorem dX4_elapsed_6 : decode cX4_elapsed 6 = .ok (.getfield 7, 3) := dk_180 0 7 (dk_at dksX4_elapsed_0 6 rfl rfl)
theorem dX4_elapsed_9 : decode cX4_elapsed 9 = .ok (.bipush 8, 2) := dk_16 8 (dk_at dksX4_elapsed_0 9 rfl rfl)
theorem dX4_elapsed_11 : decode cX4_elapsed 11 = .ok (.iaload, 1) := dk_46 (dk_at dksX4_elapsed_0 11 rfl rfl)
theorem dX4_elapsed_12 : decode cX4_elapsed 12 = .ok (.ifCond .ne 7, 3) := dk_154 0 7 (dk_at dksX4_elapsed_0 12 rfl rfl)
theorem dX4_elapsed_15 : decode cX4_elapsed 15 = .ok (.iconst (-1), 1) := dk_2 (dk_at dksX4_elapsed_0 15 rfl rfl)
theorem dX4_elapsed_16 : decode cX4_elapsed 16 = .ok (.goto 10, 3) := dk_167 0 10 (dk_at dksX4_elapsed_0 16 rfl rfl)
theorem dX4_elapsed_19 : decode cX4_elapsed 19 = .ok (.aload_n 0, 1) := dk_42 (dk_at dksX4_elapsed_0 19 rfl rfl)
theorem dX4_elapsed_20 : decode cX4_elapsed 20 = .ok (.getfield 7, 3) := dk_180 0 7 (dk_at dksX4_elapsed_0 20 rfl rfl)
theorem dX4_elapsed_23 : decode cX4_elapsed 23 = .ok (.bipush 10, 2) := dk_16 10 (dk_at dksX4_elapsed_1 0 rfl rfl)
theorem dX4_elapsed_25 : decode cX4_elapsed 25 = .ok (.iaload, 1) := dk_46 (dk_at dksX4_elapsed_1 2 rfl rfl)
theorem dX4_elapsed_26 : decode cX4_elapsed 26 = .ok (.ireturn, 1) := dk_172 (dk_at dksX4_elapsed_1 3 rfl rfl)
abbrev cX4_isFrozen : ByteArray := prog_19_method_87_code
def yX4_isFrozen : MethodName := ⟨RX4, "isFrozen", "()Z"⟩
def dkwX4_isFrozen_1 : List UInt8 := [160, 0, 7, 4, 167, 0, 4, 3, 172]
abbrev dktX4_isFrozen_1 : List UInt8 := dkwX4_isFrozen_1 ++ []
def dkwX4_isFrozen_0 : List UInt8 := [42, 3, 181, 0, 94, 42, 180, 0, 7, 16, 8, 46, 4, 160, 0, 18, 42, 180, 0, 7, 16, 20, 46, 4]
abbrev dktX4_isFrozen_0 : List UInt8 := dkwX4_isFrozen_0 ++ dktX4_isFrozen_1
theorem dksX4_isFrozen_0 : cX4_isFrozen.data.toList.drop 0 = dktX4_isFrozen_0 := by decide +kernel
theorem dksX4_isFrozen_1 : cX4_isFrozen.data.toList.drop 24 = dktX4_isFrozen_1 := dk_seg dksX4_isFrozen_0 24 rfl rfl
theorem dX4_isFrozen_0 : decode cX4_isFrozen 0 = .ok (.aload_n 0, 1) := dk_42 (dk_at dksX4_isFrozen_0 0 rfl rfl)
theorem dX4_isFrozen_1 : decode cX4_isFrozen 1 = .ok (.iconst 0, 1) := dk_3 (dk_at dksX4_isFrozen_0 1 rfl rfl)
theorem dX4_isFrozen_2 : decode cX4_isFrozen 2 = .ok (.putfield 94, 3) := dk_181 0 94 (dk_at dksX4_isFrozen_0 2 rfl rfl)
theorem dX4_isFrozen_5 : decode cX4_isFrozen 5 = .ok (.aload_n 0, 1) := dk_42 (dk_at dksX4_isFrozen_0 5 rfl rfl)
theorem dX4_isFrozen_6 : decode cX4_isFrozen 6 = .ok (.getfield 7, 3) := dk_180 0 7 (dk_at dksX4_isFrozen_0 6 rfl rfl)
theorem dX4_isFrozen_9 : decode cX4_isFrozen 9 = .ok (.bipush 8, 2) := dk_16 8 (dk_at dksX4_isFrozen_0 9 rfl rfl)
theorem dX4_isFrozen_11 : decode cX4_isFrozen 11 = .ok (.iaload, 1) := dk_46 (dk_at dksX4_isFrozen_0 11 rfl rfl)
theorem dX4_isFrozen_12 : decode cX4_isFrozen 12 = .ok (.iconst 1, 1) := dk_4 (dk_at dksX4_isFrozen_0 12 rfl rfl)
theorem dX4_isFrozen_13 : decode cX4_isFrozen 13 = .ok (.if_icmp .ne 18, 3) := dk_160 0 18 (dk_at dksX4_isFrozen_0 13 rfl rfl)
theorem dX4_isFrozen_16 : decode cX4_isFrozen 16 = .ok (.aload_n 0, 1) := dk_42 (dk_at dksX4_isFrozen_0 16 rfl rfl)
theorem dX4_isFrozen_17 : decode cX4_isFrozen 17 = .ok (.getfield 7, 3) := dk_180 0 7 (dk_at dksX4_isFrozen_0 17 rfl rfl)
theorem dX4_isFrozen_20 : decode cX4_isFrozen 20 = .ok (.bipush 20, 2) := dk_16 20 (dk_at dksX4_isFrozen_0 20 rfl rfl)
theorem dX4_isFrozen_22 : decode cX4_isFrozen 22 = .ok (.iaload, 1) := dk_46 (dk_at dksX4_isFrozen_0 22 rfl rfl)
theorem dX4_isFrozen_23 : decode cX4_isFrozen 23 = .ok (.iconst 1, 1) := dk_4 (dk_at dksX4_isFrozen_0 23 rfl rfl)
theorem dX4_isFrozen_24 : decode cX4_isFrozen 24 = .ok (.if_icmp .ne 7, 3) := dk_160 0 7 (dk_at dksX4_isFrozen_1 0 rfl rfl)
theorem dX4_isFrozen_27 : decode cX4_isFrozen 27 = .ok (.iconst 1, 1) := dk_4 (dk_at dksX4_isFrozen_1 3 rfl rfl)
theorem dX4_isFrozen_28 : decode cX4_isFrozen 28 = .ok (.goto 4, 3) := dk_167 0 4 (dk_at dksX4_isFrozen_1 4 rfl rfl)
theorem dX4_isFrozen_31 : decode cX4_isFrozen 31 = .ok (.iconst 0, 1) := dk_3 (dk_at dksX4_isFrozen_1 7 rfl rfl)
theorem dX4_isFrozen_32 : decode cX4_isFrozen 32 = .ok (.ireturn, 1) := dk_172 (dk_at dksX4_isFrozen_1 8 rfl rfl)
abbrev cX4_progress : ByteArray := prog_19_method_88_code
def yX4_progress : MethodName := ⟨RX4, "progress", "(Z)J"⟩
def dkwX4_progress_2 : List UInt8 := [182, 1, 1, 173]
abbrev dktX4_progress_2 : List UInt8 := dkwX4_progress_2 ++ []
def dkwX4_progress_1 : List UInt8 := [154, 0, 11, 42, 4, 182, 0, 103, 87, 9, 173, 42, 27, 153, 0, 8, 16, 16, 167, 0, 5, 16, 12]
abbrev dktX4_progress_1 : List UInt8 := dkwX4_progress_1 ++ dktX4_progress_2
def dkwX4_progress_0 : List UInt8 := [42, 3, 181, 0, 94, 42, 180, 0, 145, 153, 0, 17, 27, 153, 0, 21, 42, 180, 0, 7, 16, 8, 46]
abbrev dktX4_progress_0 : List UInt8 := dkwX4_progress_0 ++ dktX4_progress_1
theorem dksX4_progress_0 : cX4_progress.data.toList.drop 0 = dktX4_progress_0 := by decide +kernel
theorem dksX4_progress_1 : cX4_progress.data.toList.drop 23 = dktX4_progress_1 := dk_seg dksX4_progress_0 23 rfl rfl
theorem dksX4_progress_2 : cX4_progress.data.toList.drop 46 = dktX4_progress_2 := dk_seg dksX4_progress_1 23 rfl rfl
theorem dX4_progress_0 : decode cX4_progress 0 = .ok (.aload_n 0, 1) := dk_42 (dk_at dksX4_progress_0 0 rfl rfl)
theorem dX4_progress_1 : decode cX4_progress 1 = .ok (.iconst 0, 1) := dk_3 (dk_at dksX4_progress_0 1 rfl rfl)
theorem dX4_progress_2 : decode cX4_progress 2 = .ok (.putfield 94, 3) := dk_181 0 94 (dk_at dksX4_progress_0 2 rfl rfl)
theorem dX4_progress_5 : decode cX4_progress 5 = .ok (.aload_n 0, 1) := dk_42 (dk_at dksX4_progress_0 5 rfl rfl)
theorem dX4_progress_6 : decode cX4_progress 6 = .ok (.getfield 145, 3) := dk_180 0 145 (dk_at dksX4_progress_0 6 rfl rfl)
theorem dX4_progress_9 : decode cX4_progress 9 = .ok (.ifCond .eq 17, 3) := dk_153 0 17 (dk_at dksX4_progress_0 9 rfl rfl)
theorem dX4_progress_12 : decode cX4_progress 12 = .ok (.iload_n 1, 1) := dk_27 (dk_at dksX4_progress_0 12 rfl rfl)
theorem dX4_progress_13 : decode cX4_progress 13 = .ok (.ifCond .eq 21, 3) := dk_153 0 21 (dk_at dksX4_progress_0 13 rfl rfl)
theorem dX4_progress_16 : decode cX4_progress 16 = .ok (.aload_n 0, 1) := dk_42 (dk_at dksX4_progress_0 16 rfl rfl)
theorem dX4_progress_17 : decode cX4_progress 17 = .ok (.getfield 7, 3) := dk_180 0 7 (dk_at dksX4_progress_0 17 rfl rfl)
theorem dX4_progress_20 : decode cX4_progress 20 = .ok (.bipush 8, 2) := dk_16 8 (dk_at dksX4_progress_0 20 rfl rfl)
theorem dX4_progress_22 : decode cX4_progress 22 = .ok (.iaload, 1) := dk_46 (dk_at dksX4_progress_0 22 rfl rfl)
theorem dX4_progress_23 : decode cX4_progress 23 = .ok (.ifCond .ne 11, 3) := dk_154 0 11 (dk_at dksX4_progress_1 0 rfl rfl)
theorem dX4_progress_26 : decode cX4_progress 26 = .ok (.aload_n 0, 1) := dk_42 (dk_at dksX4_progress_1 3 rfl rfl)
theorem dX4_progress_27 : decode cX4_progress 27 = .ok (.iconst 1, 1) := dk_4 (dk_at dksX4_progress_1 4 rfl rfl)
theorem dX4_progress_28 : decode cX4_progress 28 = .ok (.invokevirtual 103, 3) := dk_182 0 103 (dk_at dksX4_progress_1 5 rfl rfl)
theorem dX4_progress_31 : decode cX4_progress 31 = .ok (.pop, 1) := dk_87 (dk_at dksX4_progress_1 8 rfl rfl)
theorem dX4_progress_32 : decode cX4_progress 32 = .ok (.lconst 0, 1) := dk_9 (dk_at dksX4_progress_1 9 rfl rfl)
theorem dX4_progress_33 : decode cX4_progress 33 = .ok (.lreturn, 1) := dk_173 (dk_at dksX4_progress_1 10 rfl rfl)
theorem dX4_progress_34 : decode cX4_progress 34 = .ok (.aload_n 0, 1) := dk_42 (dk_at dksX4_progress_1 11 rfl rfl)
theorem dX4_progress_35 : decode cX4_progress 35 = .ok (.iload_n 1, 1) := dk_27 (dk_at dksX4_progress_1 12 rfl rfl)
theorem dX4_progress_36 : decode cX4_progress 36 = .ok (.ifCond .eq 8, 3) := dk_153 0 8 (dk_at dksX4_progress_1 13 rfl rfl)
theorem dX4_progress_39 : decode cX4_progress 39 = .ok (.bipush 16, 2) := dk_16 16 (dk_at dksX4_progress_1 16 rfl rfl)
theorem dX4_progress_41 : decode cX4_progress 41 = .ok (.goto 5, 3) := dk_167 0 5 (dk_at dksX4_progress_1 18 rfl rfl)
theorem dX4_progress_44 : decode cX4_progress 44 = .ok (.bipush 12, 2) := dk_16 12 (dk_at dksX4_progress_1 21 rfl rfl)
theorem dX4_progress_46 : decode cX4_progress 46 = .ok (.invokevirtual 257, 3) := dk_182 1 1 (dk_at dksX4_progress_2 0 rfl rfl)
theorem dX4_progress_49 : decode cX4_progress 49 = .ok (.lreturn, 1) := dk_173 (dk_at dksX4_progress_2 3 rfl rfl)
abbrev cX4_stateLength : ByteArray := prog_19_method_89_code
def yX4_stateLength : MethodName := ⟨RX4, "stateLength", "(I)I"⟩
def dkwX4_stateLength_1 : List UInt8 := [182, 0, 103, 172]
abbrev dktX4_stateLength_1 : List UInt8 := dkwX4_stateLength_1 ++ []
def dkwX4_stateLength_0 : List UInt8 := [42, 3, 181, 0, 94, 42, 27, 182, 0, 162, 153, 0, 12, 42, 27, 182, 1, 6, 136, 167, 0, 8, 42, 4]
abbrev dktX4_stateLength_0 : List UInt8 := dkwX4_stateLength_0 ++ dktX4_stateLength_1
theorem dksX4_stateLength_0 : cX4_stateLength.data.toList.drop 0 = dktX4_stateLength_0 := by decide +kernel
theorem dksX4_stateLength_1 : cX4_stateLength.data.toList.drop 24 = dktX4_stateLength_1 := dk_seg dksX4_stateLength_0 24 rfl rfl
theorem dX4_stateLength_0 : decode cX4_stateLength 0 = .ok (.aload_n 0, 1) := dk_42 (dk_at dksX4_stateLength_0 0 rfl rfl)
theorem dX4_stateLength_1 : decode cX4_stateLength 1 = .ok (.iconst 0, 1) := dk_3 (dk_at dksX4_stateLength_0 1 rfl rfl)
theorem dX4_stateLength_2 : decode cX4_stateLength 2 = .ok (.putfield 94, 3) := dk_181 0 94 (dk_at dksX4_stateLength_0 2 rfl rfl)
theorem dX4_stateLength_5 : decode cX4_stateLength 5 = .ok (.aload_n 0, 1) := dk_42 (dk_at dksX4_stateLength_0 5 rfl rfl)
theorem dX4_stateLength_6 : decode cX4_stateLength 6 = .ok (.iload_n 1, 1) := dk_27 (dk_at dksX4_stateLength_0 6 rfl rfl)
theorem dX4_stateLength_7 : decode cX4_stateLength 7 = .ok (.invokevirtual 162, 3) := dk_182 0 162 (dk_at dksX4_stateLength_0 7 rfl rfl)
theorem dX4_stateLength_10 : decode cX4_stateLength 10 = .ok (.ifCond .eq 12, 3) := dk_153 0 12 (dk_at dksX4_stateLength_0 10 rfl rfl)
theorem dX4_stateLength_13 : decode cX4_stateLength 13 = .ok (.aload_n 0, 1) := dk_42 (dk_at dksX4_stateLength_0 13 rfl rfl)
theorem dX4_stateLength_14 : decode cX4_stateLength 14 = .ok (.iload_n 1, 1) := dk_27 (dk_at dksX4_stateLength_0 14 rfl rfl)
theorem dX4_stateLength_15 : decode cX4_stateLength 15 = .ok (.invokevirtual 262, 3) := dk_182 1 6 (dk_at dksX4_stateLength_0 15 rfl rfl)
theorem dX4_stateLength_18 : decode cX4_stateLength 18 = .ok (.l2i, 1) := dk_136 (dk_at dksX4_stateLength_0 18 rfl rfl)
theorem dX4_stateLength_19 : decode cX4_stateLength 19 = .ok (.goto 8, 3) := dk_167 0 8 (dk_at dksX4_stateLength_0 19 rfl rfl)
theorem dX4_stateLength_22 : decode cX4_stateLength 22 = .ok (.aload_n 0, 1) := dk_42 (dk_at dksX4_stateLength_0 22 rfl rfl)
theorem dX4_stateLength_23 : decode cX4_stateLength 23 = .ok (.iconst 1, 1) := dk_4 (dk_at dksX4_stateLength_0 23 rfl rfl)
theorem dX4_stateLength_24 : decode cX4_stateLength 24 = .ok (.invokevirtual 103, 3) := dk_182 0 103 (dk_at dksX4_stateLength_1 0 rfl rfl)
theorem dX4_stateLength_27 : decode cX4_stateLength 27 = .ok (.ireturn, 1) := dk_172 (dk_at dksX4_stateLength_1 3 rfl rfl)
abbrev cX4_partWeight : ByteArray := prog_19_method_90_code
def yX4_partWeight : MethodName := ⟨RX4, "partWeight", "(II)I"⟩
def dkwX4_partWeight_2 : List UInt8 := [172]
abbrev dktX4_partWeight_2 : List UInt8 := dkwX4_partWeight_2 ++ []
def dkwX4_partWeight_1 : List UInt8 := [182, 0, 103, 172, 42, 42, 180, 0, 47, 27, 46, 20, 0, 251, 182, 0, 253, 42, 180, 0, 72, 28, 47, 136]
abbrev dktX4_partWeight_1 : List UInt8 := dkwX4_partWeight_1 ++ dktX4_partWeight_2
def dkwX4_partWeight_0 : List UInt8 := [42, 3, 181, 0, 94, 42, 27, 182, 0, 162, 153, 0, 11, 42, 28, 182, 0, 123, 154, 0, 9, 42, 4]
abbrev dktX4_partWeight_0 : List UInt8 := dkwX4_partWeight_0 ++ dktX4_partWeight_1
theorem dksX4_partWeight_0 : cX4_partWeight.data.toList.drop 0 = dktX4_partWeight_0 := by decide +kernel
theorem dksX4_partWeight_1 : cX4_partWeight.data.toList.drop 23 = dktX4_partWeight_1 := dk_seg dksX4_partWeight_0 23 rfl rfl
theorem dksX4_partWeight_2 : cX4_partWeight.data.toList.drop 47 = dktX4_partWeight_2 := dk_seg dksX4_partWeight_1 24 rfl rfl
theorem dX4_partWeight_0 : decode cX4_partWeight 0 = .ok (.aload_n 0, 1) := dk_42 (dk_at dksX4_partWeight_0 0 rfl rfl)
theorem dX4_partWeight_1 : decode cX4_partWeight 1 = .ok (.iconst 0, 1) := dk_3 (dk_at dksX4_partWeight_0 1 rfl rfl)
theorem dX4_partWeight_2 : decode cX4_partWeight 2 = .ok (.putfield 94, 3) := dk_181 0 94 (dk_at dksX4_partWeight_0 2 rfl rfl)
theorem dX4_partWeight_5 : decode cX4_partWeight 5 = .ok (.aload_n 0, 1) := dk_42 (dk_at dksX4_partWeight_0 5 rfl rfl)
theorem dX4_partWeight_6 : decode cX4_partWeight 6 = .ok (.iload_n 1, 1) := dk_27 (dk_at dksX4_partWeight_0 6 rfl rfl)
theorem dX4_partWeight_7 : decode cX4_partWeight 7 = .ok (.invokevirtual 162, 3) := dk_182 0 162 (dk_at dksX4_partWeight_0 7 rfl rfl)
theorem dX4_partWeight_10 : decode cX4_partWeight 10 = .ok (.ifCond .eq 11, 3) := dk_153 0 11 (dk_at dksX4_partWeight_0 10 rfl rfl)
theorem dX4_partWeight_13 : decode cX4_partWeight 13 = .ok (.aload_n 0, 1) := dk_42 (dk_at dksX4_partWeight_0 13 rfl rfl)
theorem dX4_partWeight_14 : decode cX4_partWeight 14 = .ok (.iload_n 2, 1) := dk_28 (dk_at dksX4_partWeight_0 14 rfl rfl)
theorem dX4_partWeight_15 : decode cX4_partWeight 15 = .ok (.invokevirtual 123, 3) := dk_182 0 123 (dk_at dksX4_partWeight_0 15 rfl rfl)
theorem dX4_partWeight_18 : decode cX4_partWeight 18 = .ok (.ifCond .ne 9, 3) := dk_154 0 9 (dk_at dksX4_partWeight_0 18 rfl rfl)
theorem dX4_partWeight_21 : decode cX4_partWeight 21 = .ok (.aload_n 0, 1) := dk_42 (dk_at dksX4_partWeight_0 21 rfl rfl)
theorem dX4_partWeight_22 : decode cX4_partWeight 22 = .ok (.iconst 1, 1) := dk_4 (dk_at dksX4_partWeight_0 22 rfl rfl)
theorem dX4_partWeight_23 : decode cX4_partWeight 23 = .ok (.invokevirtual 103, 3) := dk_182 0 103 (dk_at dksX4_partWeight_1 0 rfl rfl)
theorem dX4_partWeight_26 : decode cX4_partWeight 26 = .ok (.ireturn, 1) := dk_172 (dk_at dksX4_partWeight_1 3 rfl rfl)
theorem dX4_partWeight_27 : decode cX4_partWeight 27 = .ok (.aload_n 0, 1) := dk_42 (dk_at dksX4_partWeight_1 4 rfl rfl)
theorem dX4_partWeight_28 : decode cX4_partWeight 28 = .ok (.aload_n 0, 1) := dk_42 (dk_at dksX4_partWeight_1 5 rfl rfl)
theorem dX4_partWeight_29 : decode cX4_partWeight 29 = .ok (.getfield 47, 3) := dk_180 0 47 (dk_at dksX4_partWeight_1 6 rfl rfl)
theorem dX4_partWeight_32 : decode cX4_partWeight 32 = .ok (.iload_n 1, 1) := dk_27 (dk_at dksX4_partWeight_1 9 rfl rfl)
theorem dX4_partWeight_33 : decode cX4_partWeight 33 = .ok (.iaload, 1) := dk_46 (dk_at dksX4_partWeight_1 10 rfl rfl)
theorem dX4_partWeight_34 : decode cX4_partWeight 34 = .ok (.ldc2_w 251, 3) := dk_20 0 251 (dk_at dksX4_partWeight_1 11 rfl rfl)
theorem dX4_partWeight_37 : decode cX4_partWeight 37 = .ok (.invokevirtual 253, 3) := dk_182 0 253 (dk_at dksX4_partWeight_1 14 rfl rfl)
theorem dX4_partWeight_40 : decode cX4_partWeight 40 = .ok (.aload_n 0, 1) := dk_42 (dk_at dksX4_partWeight_1 17 rfl rfl)
theorem dX4_partWeight_41 : decode cX4_partWeight 41 = .ok (.getfield 72, 3) := dk_180 0 72 (dk_at dksX4_partWeight_1 18 rfl rfl)
theorem dX4_partWeight_44 : decode cX4_partWeight 44 = .ok (.iload_n 2, 1) := dk_28 (dk_at dksX4_partWeight_1 21 rfl rfl)
theorem dX4_partWeight_45 : decode cX4_partWeight 45 = .ok (.laload, 1) := dk_47 (dk_at dksX4_partWeight_1 22 rfl rfl)
theorem dX4_partWeight_46 : decode cX4_partWeight 46 = .ok (.l2i, 1) := dk_136 (dk_at dksX4_partWeight_1 23 rfl rfl)
theorem dX4_partWeight_47 : decode cX4_partWeight 47 = .ok (.ireturn, 1) := dk_172 (dk_at dksX4_partWeight_2 0 rfl rfl)
abbrev cX4_fired : ByteArray := prog_19_method_91_code
def yX4_fired : MethodName := ⟨RX4, "fired", "()I"⟩
def dkwX4_fired_0 : List UInt8 := [42, 3, 181, 0, 94, 42, 180, 0, 7, 17, 1, 32, 46, 172]
abbrev dktX4_fired_0 : List UInt8 := dkwX4_fired_0 ++ []
theorem dksX4_fired_0 : cX4_fired.data.toList.drop 0 = dktX4_fired_0 := by decide +kernel
theorem dX4_fired_0 : decode cX4_fired 0 = .ok (.aload_n 0, 1) := dk_42 (dk_at dksX4_fired_0 0 rfl rfl)
theorem dX4_fired_1 : decode cX4_fired 1 = .ok (.iconst 0, 1) := dk_3 (dk_at dksX4_fired_0 1 rfl rfl)
theorem dX4_fired_2 : decode cX4_fired 2 = .ok (.putfield 94, 3) := dk_181 0 94 (dk_at dksX4_fired_0 2 rfl rfl)
theorem dX4_fired_5 : decode cX4_fired 5 = .ok (.aload_n 0, 1) := dk_42 (dk_at dksX4_fired_0 5 rfl rfl)
theorem dX4_fired_6 : decode cX4_fired 6 = .ok (.getfield 7, 3) := dk_180 0 7 (dk_at dksX4_fired_0 6 rfl rfl)
theorem dX4_fired_9 : decode cX4_fired 9 = .ok (.sipush 288, 3) := dk_17 1 32 (dk_at dksX4_fired_0 9 rfl rfl)
theorem dX4_fired_12 : decode cX4_fired 12 = .ok (.iaload, 1) := dk_46 (dk_at dksX4_fired_0 12 rfl rfl)
theorem dX4_fired_13 : decode cX4_fired 13 = .ok (.ireturn, 1) := dk_172 (dk_at dksX4_fired_0 13 rfl rfl)
abbrev cX4_event : ByteArray := prog_19_method_92_code
def yX4_event : MethodName := ⟨RX4, "event", "(II)I"⟩
def dkwX4_event_2 : List UInt8 := [180, 0, 7, 17, 0, 167, 7, 27, 104, 96, 28, 96, 46, 167, 0, 8, 42, 5, 182, 0, 103, 172]
abbrev dktX4_event_2 : List UInt8 := dkwX4_event_2 ++ []
def dkwX4_event_1 : List UInt8 := [154, 0, 9, 42, 4, 182, 0, 103, 172, 28, 133, 9, 20, 0, 150, 184, 0, 99, 153, 0, 20, 42]
abbrev dktX4_event_1 : List UInt8 := dkwX4_event_1 ++ dktX4_event_2
def dkwX4_event_0 : List UInt8 := [42, 3, 181, 0, 94, 27, 133, 9, 42, 180, 0, 7, 17, 0, 166, 46, 4, 100, 133, 184, 0, 99]
abbrev dktX4_event_0 : List UInt8 := dkwX4_event_0 ++ dktX4_event_1
theorem dksX4_event_0 : cX4_event.data.toList.drop 0 = dktX4_event_0 := by decide +kernel
theorem dksX4_event_1 : cX4_event.data.toList.drop 22 = dktX4_event_1 := dk_seg dksX4_event_0 22 rfl rfl
theorem dksX4_event_2 : cX4_event.data.toList.drop 44 = dktX4_event_2 := dk_seg dksX4_event_1 22 rfl rfl
theorem dX4_event_0 : decode cX4_event 0 = .ok (.aload_n 0, 1) := dk_42 (dk_at dksX4_event_0 0 rfl rfl)
theorem dX4_event_1 : decode cX4_event 1 = .ok (.iconst 0, 1) := dk_3 (dk_at dksX4_event_0 1 rfl rfl)
theorem dX4_event_2 : decode cX4_event 2 = .ok (.putfield 94, 3) := dk_181 0 94 (dk_at dksX4_event_0 2 rfl rfl)
theorem dX4_event_5 : decode cX4_event 5 = .ok (.iload_n 1, 1) := dk_27 (dk_at dksX4_event_0 5 rfl rfl)
theorem dX4_event_6 : decode cX4_event 6 = .ok (.i2l, 1) := dk_133 (dk_at dksX4_event_0 6 rfl rfl)
theorem dX4_event_7 : decode cX4_event 7 = .ok (.lconst 0, 1) := dk_9 (dk_at dksX4_event_0 7 rfl rfl)
theorem dX4_event_8 : decode cX4_event 8 = .ok (.aload_n 0, 1) := dk_42 (dk_at dksX4_event_0 8 rfl rfl)
theorem dX4_event_9 : decode cX4_event 9 = .ok (.getfield 7, 3) := dk_180 0 7 (dk_at dksX4_event_0 9 rfl rfl)
theorem dX4_event_12 : decode cX4_event 12 = .ok (.sipush 166, 3) := dk_17 0 166 (dk_at dksX4_event_0 12 rfl rfl)
theorem dX4_event_15 : decode cX4_event 15 = .ok (.iaload, 1) := dk_46 (dk_at dksX4_event_0 15 rfl rfl)
theorem dX4_event_16 : decode cX4_event 16 = .ok (.iconst 1, 1) := dk_4 (dk_at dksX4_event_0 16 rfl rfl)
theorem dX4_event_17 : decode cX4_event 17 = .ok (.isub, 1) := dk_100 (dk_at dksX4_event_0 17 rfl rfl)
theorem dX4_event_18 : decode cX4_event 18 = .ok (.i2l, 1) := dk_133 (dk_at dksX4_event_0 18 rfl rfl)
theorem dX4_event_19 : decode cX4_event 19 = .ok (.invokestatic 99, 3) := dk_184 0 99 (dk_at dksX4_event_0 19 rfl rfl)
theorem dX4_event_22 : decode cX4_event 22 = .ok (.ifCond .ne 9, 3) := dk_154 0 9 (dk_at dksX4_event_1 0 rfl rfl)
theorem dX4_event_25 : decode cX4_event 25 = .ok (.aload_n 0, 1) := dk_42 (dk_at dksX4_event_1 3 rfl rfl)
theorem dX4_event_26 : decode cX4_event 26 = .ok (.iconst 1, 1) := dk_4 (dk_at dksX4_event_1 4 rfl rfl)
theorem dX4_event_27 : decode cX4_event 27 = .ok (.invokevirtual 103, 3) := dk_182 0 103 (dk_at dksX4_event_1 5 rfl rfl)
theorem dX4_event_30 : decode cX4_event 30 = .ok (.ireturn, 1) := dk_172 (dk_at dksX4_event_1 8 rfl rfl)
theorem dX4_event_31 : decode cX4_event 31 = .ok (.iload_n 2, 1) := dk_28 (dk_at dksX4_event_1 9 rfl rfl)
theorem dX4_event_32 : decode cX4_event 32 = .ok (.i2l, 1) := dk_133 (dk_at dksX4_event_1 10 rfl rfl)
theorem dX4_event_33 : decode cX4_event 33 = .ok (.lconst 0, 1) := dk_9 (dk_at dksX4_event_1 11 rfl rfl)
theorem dX4_event_34 : decode cX4_event 34 = .ok (.ldc2_w 150, 3) := dk_20 0 150 (dk_at dksX4_event_1 12 rfl rfl)
theorem dX4_event_37 : decode cX4_event 37 = .ok (.invokestatic 99, 3) := dk_184 0 99 (dk_at dksX4_event_1 15 rfl rfl)
theorem dX4_event_40 : decode cX4_event 40 = .ok (.ifCond .eq 20, 3) := dk_153 0 20 (dk_at dksX4_event_1 18 rfl rfl)
theorem dX4_event_43 : decode cX4_event 43 = .ok (.aload_n 0, 1) := dk_42 (dk_at dksX4_event_1 21 rfl rfl)
theorem dX4_event_44 : decode cX4_event 44 = .ok (.getfield 7, 3) := dk_180 0 7 (dk_at dksX4_event_2 0 rfl rfl)
theorem dX4_event_47 : decode cX4_event 47 = .ok (.sipush 167, 3) := dk_17 0 167 (dk_at dksX4_event_2 3 rfl rfl)
theorem dX4_event_50 : decode cX4_event 50 = .ok (.iconst 4, 1) := dk_7 (dk_at dksX4_event_2 6 rfl rfl)
theorem dX4_event_51 : decode cX4_event 51 = .ok (.iload_n 1, 1) := dk_27 (dk_at dksX4_event_2 7 rfl rfl)
theorem dX4_event_52 : decode cX4_event 52 = .ok (.imul, 1) := dk_104 (dk_at dksX4_event_2 8 rfl rfl)
theorem dX4_event_53 : decode cX4_event 53 = .ok (.iadd, 1) := dk_96 (dk_at dksX4_event_2 9 rfl rfl)
theorem dX4_event_54 : decode cX4_event 54 = .ok (.iload_n 2, 1) := dk_28 (dk_at dksX4_event_2 10 rfl rfl)
theorem dX4_event_55 : decode cX4_event 55 = .ok (.iadd, 1) := dk_96 (dk_at dksX4_event_2 11 rfl rfl)
theorem dX4_event_56 : decode cX4_event 56 = .ok (.iaload, 1) := dk_46 (dk_at dksX4_event_2 12 rfl rfl)
theorem dX4_event_57 : decode cX4_event 57 = .ok (.goto 8, 3) := dk_167 0 8 (dk_at dksX4_event_2 13 rfl rfl)
theorem dX4_event_60 : decode cX4_event 60 = .ok (.aload_n 0, 1) := dk_42 (dk_at dksX4_event_2 16 rfl rfl)
theorem dX4_event_61 : decode cX4_event 61 = .ok (.iconst 2, 1) := dk_5 (dk_at dksX4_event_2 17 rfl rfl)
theorem dX4_event_62 : decode cX4_event 62 = .ok (.invokevirtual 103, 3) := dk_182 0 103 (dk_at dksX4_event_2 18 rfl rfl)
theorem dX4_event_65 : decode cX4_event 65 = .ok (.ireturn, 1) := dk_172 (dk_at dksX4_event_2 21 rfl rfl)
abbrev cX4_foretell : ByteArray := prog_19_method_94_code
def yX4_foretell : MethodName := ⟨RX4, "foretell", "(I)I"⟩
def dkwX4_foretell_4 : List UInt8 := [182, 1, 103, 28, 172]
abbrev dktX4_foretell_4 : List UInt8 := dkwX4_foretell_4 ++ []
def dkwX4_foretell_3 : List UInt8 := [42, 180, 0, 7, 16, 16, 46, 167, 0, 10, 42, 180, 0, 7, 16, 12, 46, 61, 42, 17, 3, 102, 3]
abbrev dktX4_foretell_3 : List UInt8 := dkwX4_foretell_3 ++ dktX4_foretell_4
def dkwX4_foretell_2 : List UInt8 := [162, 0, 13, 42, 182, 1, 100, 132, 2, 1, 167, 255, 244, 42, 180, 0, 7, 16, 8, 46, 4, 160, 0, 13]
abbrev dktX4_foretell_2 : List UInt8 := dkwX4_foretell_2 ++ dktX4_foretell_3
def dkwX4_foretell_1 : List UInt8 := [180, 0, 145, 154, 0, 9, 42, 5, 182, 0, 103, 172, 42, 3, 17, 3, 102, 182, 1, 103, 3, 61, 28, 27]
abbrev dktX4_foretell_1 : List UInt8 := dkwX4_foretell_1 ++ dktX4_foretell_2
def dkwX4_foretell_0 : List UInt8 := [42, 3, 181, 0, 94, 27, 133, 10, 20, 0, 116, 184, 0, 99, 154, 0, 9, 42, 4, 182, 0, 103, 172, 42]
abbrev dktX4_foretell_0 : List UInt8 := dkwX4_foretell_0 ++ dktX4_foretell_1
theorem dksX4_foretell_0 : cX4_foretell.data.toList.drop 0 = dktX4_foretell_0 := by decide +kernel
theorem dksX4_foretell_1 : cX4_foretell.data.toList.drop 24 = dktX4_foretell_1 := dk_seg dksX4_foretell_0 24 rfl rfl
theorem dksX4_foretell_2 : cX4_foretell.data.toList.drop 48 = dktX4_foretell_2 := dk_seg dksX4_foretell_1 24 rfl rfl
theorem dksX4_foretell_3 : cX4_foretell.data.toList.drop 72 = dktX4_foretell_3 := dk_seg dksX4_foretell_2 24 rfl rfl
theorem dksX4_foretell_4 : cX4_foretell.data.toList.drop 95 = dktX4_foretell_4 := dk_seg dksX4_foretell_3 23 rfl rfl
theorem dX4_foretell_0 : decode cX4_foretell 0 = .ok (.aload_n 0, 1) := dk_42 (dk_at dksX4_foretell_0 0 rfl rfl)
theorem dX4_foretell_1 : decode cX4_foretell 1 = .ok (.iconst 0, 1) := dk_3 (dk_at dksX4_foretell_0 1 rfl rfl)
theorem dX4_foretell_2 : decode cX4_foretell 2 = .ok (.putfield 94, 3) := dk_181 0 94 (dk_at dksX4_foretell_0 2 rfl rfl)
theorem dX4_foretell_5 : decode cX4_foretell 5 = .ok (.iload_n 1, 1) := dk_27 (dk_at dksX4_foretell_0 5 rfl rfl)
theorem dX4_foretell_6 : decode cX4_foretell 6 = .ok (.i2l, 1) := dk_133 (dk_at dksX4_foretell_0 6 rfl rfl)
theorem dX4_foretell_7 : decode cX4_foretell 7 = .ok (.lconst 1, 1) := dk_10 (dk_at dksX4_foretell_0 7 rfl rfl)
theorem dX4_foretell_8 : decode cX4_foretell 8 = .ok (.ldc2_w 116, 3) := dk_20 0 116 (dk_at dksX4_foretell_0 8 rfl rfl)
theorem dX4_foretell_11 : decode cX4_foretell 11 = .ok (.invokestatic 99, 3) := dk_184 0 99 (dk_at dksX4_foretell_0 11 rfl rfl)
theorem dX4_foretell_14 : decode cX4_foretell 14 = .ok (.ifCond .ne 9, 3) := dk_154 0 9 (dk_at dksX4_foretell_0 14 rfl rfl)
theorem dX4_foretell_17 : decode cX4_foretell 17 = .ok (.aload_n 0, 1) := dk_42 (dk_at dksX4_foretell_0 17 rfl rfl)
theorem dX4_foretell_18 : decode cX4_foretell 18 = .ok (.iconst 1, 1) := dk_4 (dk_at dksX4_foretell_0 18 rfl rfl)
theorem dX4_foretell_19 : decode cX4_foretell 19 = .ok (.invokevirtual 103, 3) := dk_182 0 103 (dk_at dksX4_foretell_0 19 rfl rfl)
theorem dX4_foretell_22 : decode cX4_foretell 22 = .ok (.ireturn, 1) := dk_172 (dk_at dksX4_foretell_0 22 rfl rfl)
theorem dX4_foretell_23 : decode cX4_foretell 23 = .ok (.aload_n 0, 1) := dk_42 (dk_at dksX4_foretell_0 23 rfl rfl)
theorem dX4_foretell_24 : decode cX4_foretell 24 = .ok (.getfield 145, 3) := dk_180 0 145 (dk_at dksX4_foretell_1 0 rfl rfl)
theorem dX4_foretell_27 : decode cX4_foretell 27 = .ok (.ifCond .ne 9, 3) := dk_154 0 9 (dk_at dksX4_foretell_1 3 rfl rfl)
theorem dX4_foretell_30 : decode cX4_foretell 30 = .ok (.aload_n 0, 1) := dk_42 (dk_at dksX4_foretell_1 6 rfl rfl)
theorem dX4_foretell_31 : decode cX4_foretell 31 = .ok (.iconst 2, 1) := dk_5 (dk_at dksX4_foretell_1 7 rfl rfl)
theorem dX4_foretell_32 : decode cX4_foretell 32 = .ok (.invokevirtual 103, 3) := dk_182 0 103 (dk_at dksX4_foretell_1 8 rfl rfl)
theorem dX4_foretell_35 : decode cX4_foretell 35 = .ok (.ireturn, 1) := dk_172 (dk_at dksX4_foretell_1 11 rfl rfl)
theorem dX4_foretell_36 : decode cX4_foretell 36 = .ok (.aload_n 0, 1) := dk_42 (dk_at dksX4_foretell_1 12 rfl rfl)
theorem dX4_foretell_37 : decode cX4_foretell 37 = .ok (.iconst 0, 1) := dk_3 (dk_at dksX4_foretell_1 13 rfl rfl)
theorem dX4_foretell_38 : decode cX4_foretell 38 = .ok (.sipush 870, 3) := dk_17 3 102 (dk_at dksX4_foretell_1 14 rfl rfl)
theorem dX4_foretell_41 : decode cX4_foretell 41 = .ok (.invokevirtual 359, 3) := dk_182 1 103 (dk_at dksX4_foretell_1 17 rfl rfl)
theorem dX4_foretell_44 : decode cX4_foretell 44 = .ok (.iconst 0, 1) := dk_3 (dk_at dksX4_foretell_1 20 rfl rfl)
theorem dX4_foretell_45 : decode cX4_foretell 45 = .ok (.istore_n 2, 1) := dk_61 (dk_at dksX4_foretell_1 21 rfl rfl)
theorem dX4_foretell_46 : decode cX4_foretell 46 = .ok (.iload_n 2, 1) := dk_28 (dk_at dksX4_foretell_1 22 rfl rfl)
theorem dX4_foretell_47 : decode cX4_foretell 47 = .ok (.iload_n 1, 1) := dk_27 (dk_at dksX4_foretell_1 23 rfl rfl)
theorem dX4_foretell_48 : decode cX4_foretell 48 = .ok (.if_icmp .ge 13, 3) := dk_162 0 13 (dk_at dksX4_foretell_2 0 rfl rfl)
theorem dX4_foretell_51 : decode cX4_foretell 51 = .ok (.aload_n 0, 1) := dk_42 (dk_at dksX4_foretell_2 3 rfl rfl)
theorem dX4_foretell_52 : decode cX4_foretell 52 = .ok (.invokevirtual 356, 3) := dk_182 1 100 (dk_at dksX4_foretell_2 4 rfl rfl)
theorem dX4_foretell_55 : decode cX4_foretell 55 = .ok (.iinc 2 1, 3) := dk_132 2 1 (dk_at dksX4_foretell_2 7 rfl rfl)
theorem dX4_foretell_58 : decode cX4_foretell 58 = .ok (.goto (-12), 3) := dk_167 255 244 (dk_at dksX4_foretell_2 10 rfl rfl)
theorem dX4_foretell_61 : decode cX4_foretell 61 = .ok (.aload_n 0, 1) := dk_42 (dk_at dksX4_foretell_2 13 rfl rfl)
theorem dX4_foretell_62 : decode cX4_foretell 62 = .ok (.getfield 7, 3) := dk_180 0 7 (dk_at dksX4_foretell_2 14 rfl rfl)
theorem dX4_foretell_65 : decode cX4_foretell 65 = .ok (.bipush 8, 2) := dk_16 8 (dk_at dksX4_foretell_2 17 rfl rfl)
theorem dX4_foretell_67 : decode cX4_foretell 67 = .ok (.iaload, 1) := dk_46 (dk_at dksX4_foretell_2 19 rfl rfl)
theorem dX4_foretell_68 : decode cX4_foretell 68 = .ok (.iconst 1, 1) := dk_4 (dk_at dksX4_foretell_2 20 rfl rfl)
theorem dX4_foretell_69 : decode cX4_foretell 69 = .ok (.if_icmp .ne 13, 3) := dk_160 0 13 (dk_at dksX4_foretell_2 21 rfl rfl)
theorem dX4_foretell_72 : decode cX4_foretell 72 = .ok (.aload_n 0, 1) := dk_42 (dk_at dksX4_foretell_3 0 rfl rfl)
theorem dX4_foretell_73 : decode cX4_foretell 73 = .ok (.getfield 7, 3) := dk_180 0 7 (dk_at dksX4_foretell_3 1 rfl rfl)
theorem dX4_foretell_76 : decode cX4_foretell 76 = .ok (.bipush 16, 2) := dk_16 16 (dk_at dksX4_foretell_3 4 rfl rfl)
theorem dX4_foretell_78 : decode cX4_foretell 78 = .ok (.iaload, 1) := dk_46 (dk_at dksX4_foretell_3 6 rfl rfl)
theorem dX4_foretell_79 : decode cX4_foretell 79 = .ok (.goto 10, 3) := dk_167 0 10 (dk_at dksX4_foretell_3 7 rfl rfl)
theorem dX4_foretell_82 : decode cX4_foretell 82 = .ok (.aload_n 0, 1) := dk_42 (dk_at dksX4_foretell_3 10 rfl rfl)
theorem dX4_foretell_83 : decode cX4_foretell 83 = .ok (.getfield 7, 3) := dk_180 0 7 (dk_at dksX4_foretell_3 11 rfl rfl)
theorem dX4_foretell_86 : decode cX4_foretell 86 = .ok (.bipush 12, 2) := dk_16 12 (dk_at dksX4_foretell_3 14 rfl rfl)
theorem dX4_foretell_88 : decode cX4_foretell 88 = .ok (.iaload, 1) := dk_46 (dk_at dksX4_foretell_3 16 rfl rfl)
theorem dX4_foretell_89 : decode cX4_foretell 89 = .ok (.istore_n 2, 1) := dk_61 (dk_at dksX4_foretell_3 17 rfl rfl)
theorem dX4_foretell_90 : decode cX4_foretell 90 = .ok (.aload_n 0, 1) := dk_42 (dk_at dksX4_foretell_3 18 rfl rfl)
theorem dX4_foretell_91 : decode cX4_foretell 91 = .ok (.sipush 870, 3) := dk_17 3 102 (dk_at dksX4_foretell_3 19 rfl rfl)
theorem dX4_foretell_94 : decode cX4_foretell 94 = .ok (.iconst 0, 1) := dk_3 (dk_at dksX4_foretell_3 22 rfl rfl)
theorem dX4_foretell_95 : decode cX4_foretell 95 = .ok (.invokevirtual 359, 3) := dk_182 1 103 (dk_at dksX4_foretell_4 0 rfl rfl)
theorem dX4_foretell_98 : decode cX4_foretell 98 = .ok (.iload_n 2, 1) := dk_28 (dk_at dksX4_foretell_4 3 rfl rfl)
theorem dX4_foretell_99 : decode cX4_foretell 99 = .ok (.ireturn, 1) := dk_172 (dk_at dksX4_foretell_4 4 rfl rfl)
abbrev cX4_copies : ByteArray := prog_19_method_93_code
def yX4_copies : MethodName := ⟨RX4, "copies", "(II)V"⟩
def dkwX4_copies_1 : List UInt8 := [79, 132, 3, 1, 167, 255, 230, 177]
abbrev dktX4_copies_1 : List UInt8 := dkwX4_copies_1 ++ []
def dkwX4_copies_0 : List UInt8 := [3, 62, 29, 17, 1, 34, 162, 0, 25, 42, 180, 0, 7, 28, 29, 96, 42, 180, 0, 7, 27, 29, 96, 46]
abbrev dktX4_copies_0 : List UInt8 := dkwX4_copies_0 ++ dktX4_copies_1
theorem dksX4_copies_0 : cX4_copies.data.toList.drop 0 = dktX4_copies_0 := by decide +kernel
theorem dksX4_copies_1 : cX4_copies.data.toList.drop 24 = dktX4_copies_1 := dk_seg dksX4_copies_0 24 rfl rfl
theorem dX4_copies_0 : decode cX4_copies 0 = .ok (.iconst 0, 1) := dk_3 (dk_at dksX4_copies_0 0 rfl rfl)
theorem dX4_copies_1 : decode cX4_copies 1 = .ok (.istore_n 3, 1) := dk_62 (dk_at dksX4_copies_0 1 rfl rfl)
theorem dX4_copies_2 : decode cX4_copies 2 = .ok (.iload_n 3, 1) := dk_29 (dk_at dksX4_copies_0 2 rfl rfl)
theorem dX4_copies_3 : decode cX4_copies 3 = .ok (.sipush 290, 3) := dk_17 1 34 (dk_at dksX4_copies_0 3 rfl rfl)
theorem dX4_copies_6 : decode cX4_copies 6 = .ok (.if_icmp .ge 25, 3) := dk_162 0 25 (dk_at dksX4_copies_0 6 rfl rfl)
theorem dX4_copies_9 : decode cX4_copies 9 = .ok (.aload_n 0, 1) := dk_42 (dk_at dksX4_copies_0 9 rfl rfl)
theorem dX4_copies_10 : decode cX4_copies 10 = .ok (.getfield 7, 3) := dk_180 0 7 (dk_at dksX4_copies_0 10 rfl rfl)
theorem dX4_copies_13 : decode cX4_copies 13 = .ok (.iload_n 2, 1) := dk_28 (dk_at dksX4_copies_0 13 rfl rfl)
theorem dX4_copies_14 : decode cX4_copies 14 = .ok (.iload_n 3, 1) := dk_29 (dk_at dksX4_copies_0 14 rfl rfl)
theorem dX4_copies_15 : decode cX4_copies 15 = .ok (.iadd, 1) := dk_96 (dk_at dksX4_copies_0 15 rfl rfl)
theorem dX4_copies_16 : decode cX4_copies 16 = .ok (.aload_n 0, 1) := dk_42 (dk_at dksX4_copies_0 16 rfl rfl)
theorem dX4_copies_17 : decode cX4_copies 17 = .ok (.getfield 7, 3) := dk_180 0 7 (dk_at dksX4_copies_0 17 rfl rfl)
theorem dX4_copies_20 : decode cX4_copies 20 = .ok (.iload_n 1, 1) := dk_27 (dk_at dksX4_copies_0 20 rfl rfl)
theorem dX4_copies_21 : decode cX4_copies 21 = .ok (.iload_n 3, 1) := dk_29 (dk_at dksX4_copies_0 21 rfl rfl)
theorem dX4_copies_22 : decode cX4_copies 22 = .ok (.iadd, 1) := dk_96 (dk_at dksX4_copies_0 22 rfl rfl)
theorem dX4_copies_23 : decode cX4_copies 23 = .ok (.iaload, 1) := dk_46 (dk_at dksX4_copies_0 23 rfl rfl)
theorem dX4_copies_24 : decode cX4_copies 24 = .ok (.iastore, 1) := dk_79 (dk_at dksX4_copies_1 0 rfl rfl)
theorem dX4_copies_25 : decode cX4_copies 25 = .ok (.iinc 3 1, 3) := dk_132 3 1 (dk_at dksX4_copies_1 1 rfl rfl)
theorem dX4_copies_28 : decode cX4_copies 28 = .ok (.goto (-26), 3) := dk_167 255 230 (dk_at dksX4_copies_1 4 rfl rfl)
theorem dX4_copies_31 : decode cX4_copies 31 = .ok (.return_, 1) := dk_177 (dk_at dksX4_copies_1 7 rfl rfl)
abbrev cX4_ticksTo : ByteArray := prog_19_method_95_code
def yX4_ticksTo : MethodName := ⟨RX4, "ticksTo", "(I)I"⟩
def dkwX4_ticksTo_3 : List UInt8 := [167, 255, 215, 42, 17, 3, 102, 3, 182, 1, 103, 28, 16, 100, 163, 0, 7, 28, 167, 0, 4, 2, 172]
abbrev dktX4_ticksTo_3 : List UInt8 := dkwX4_ticksTo_3 ++ []
def dkwX4_ticksTo_2 : List UInt8 := [180, 0, 7, 16, 12, 46, 27, 159, 0, 19, 132, 2, 1, 28, 16, 100, 163, 255, 222, 42, 182, 1, 100]
abbrev dktX4_ticksTo_2 : List UInt8 := dkwX4_ticksTo_2 ++ dktX4_ticksTo_3
def dkwX4_ticksTo_1 : List UInt8 := [182, 1, 103, 3, 61, 28, 16, 100, 163, 0, 41, 42, 180, 0, 7, 16, 8, 46, 4, 159, 0, 14, 42]
abbrev dktX4_ticksTo_1 : List UInt8 := dkwX4_ticksTo_1 ++ dktX4_ticksTo_2
def dkwX4_ticksTo_0 : List UInt8 := [42, 3, 181, 0, 94, 42, 27, 182, 0, 162, 154, 0, 9, 42, 4, 182, 0, 103, 172, 42, 3, 17, 3, 102]
abbrev dktX4_ticksTo_0 : List UInt8 := dkwX4_ticksTo_0 ++ dktX4_ticksTo_1
theorem dksX4_ticksTo_0 : cX4_ticksTo.data.toList.drop 0 = dktX4_ticksTo_0 := by decide +kernel
theorem dksX4_ticksTo_1 : cX4_ticksTo.data.toList.drop 24 = dktX4_ticksTo_1 := dk_seg dksX4_ticksTo_0 24 rfl rfl
theorem dksX4_ticksTo_2 : cX4_ticksTo.data.toList.drop 47 = dktX4_ticksTo_2 := dk_seg dksX4_ticksTo_1 23 rfl rfl
theorem dksX4_ticksTo_3 : cX4_ticksTo.data.toList.drop 70 = dktX4_ticksTo_3 := dk_seg dksX4_ticksTo_2 23 rfl rfl
theorem dX4_ticksTo_0 : decode cX4_ticksTo 0 = .ok (.aload_n 0, 1) := dk_42 (dk_at dksX4_ticksTo_0 0 rfl rfl)
theorem dX4_ticksTo_1 : decode cX4_ticksTo 1 = .ok (.iconst 0, 1) := dk_3 (dk_at dksX4_ticksTo_0 1 rfl rfl)
theorem dX4_ticksTo_2 : decode cX4_ticksTo 2 = .ok (.putfield 94, 3) := dk_181 0 94 (dk_at dksX4_ticksTo_0 2 rfl rfl)
theorem dX4_ticksTo_5 : decode cX4_ticksTo 5 = .ok (.aload_n 0, 1) := dk_42 (dk_at dksX4_ticksTo_0 5 rfl rfl)
theorem dX4_ticksTo_6 : decode cX4_ticksTo 6 = .ok (.iload_n 1, 1) := dk_27 (dk_at dksX4_ticksTo_0 6 rfl rfl)
theorem dX4_ticksTo_7 : decode cX4_ticksTo 7 = .ok (.invokevirtual 162, 3) := dk_182 0 162 (dk_at dksX4_ticksTo_0 7 rfl rfl)
theorem dX4_ticksTo_10 : decode cX4_ticksTo 10 = .ok (.ifCond .ne 9, 3) := dk_154 0 9 (dk_at dksX4_ticksTo_0 10 rfl rfl)
theorem dX4_ticksTo_13 : decode cX4_ticksTo 13 = .ok (.aload_n 0, 1) := dk_42 (dk_at dksX4_ticksTo_0 13 rfl rfl)
theorem dX4_ticksTo_14 : decode cX4_ticksTo 14 = .ok (.iconst 1, 1) := dk_4 (dk_at dksX4_ticksTo_0 14 rfl rfl)
theorem dX4_ticksTo_15 : decode cX4_ticksTo 15 = .ok (.invokevirtual 103, 3) := dk_182 0 103 (dk_at dksX4_ticksTo_0 15 rfl rfl)
theorem dX4_ticksTo_18 : decode cX4_ticksTo 18 = .ok (.ireturn, 1) := dk_172 (dk_at dksX4_ticksTo_0 18 rfl rfl)
theorem dX4_ticksTo_19 : decode cX4_ticksTo 19 = .ok (.aload_n 0, 1) := dk_42 (dk_at dksX4_ticksTo_0 19 rfl rfl)
theorem dX4_ticksTo_20 : decode cX4_ticksTo 20 = .ok (.iconst 0, 1) := dk_3 (dk_at dksX4_ticksTo_0 20 rfl rfl)
theorem dX4_ticksTo_21 : decode cX4_ticksTo 21 = .ok (.sipush 870, 3) := dk_17 3 102 (dk_at dksX4_ticksTo_0 21 rfl rfl)
theorem dX4_ticksTo_24 : decode cX4_ticksTo 24 = .ok (.invokevirtual 359, 3) := dk_182 1 103 (dk_at dksX4_ticksTo_1 0 rfl rfl)
theorem dX4_ticksTo_27 : decode cX4_ticksTo 27 = .ok (.iconst 0, 1) := dk_3 (dk_at dksX4_ticksTo_1 3 rfl rfl)
theorem dX4_ticksTo_28 : decode cX4_ticksTo 28 = .ok (.istore_n 2, 1) := dk_61 (dk_at dksX4_ticksTo_1 4 rfl rfl)
theorem dX4_ticksTo_29 : decode cX4_ticksTo 29 = .ok (.iload_n 2, 1) := dk_28 (dk_at dksX4_ticksTo_1 5 rfl rfl)
theorem dX4_ticksTo_30 : decode cX4_ticksTo 30 = .ok (.bipush 100, 2) := dk_16 100 (dk_at dksX4_ticksTo_1 6 rfl rfl)
theorem dX4_ticksTo_32 : decode cX4_ticksTo 32 = .ok (.if_icmp .gt 41, 3) := dk_163 0 41 (dk_at dksX4_ticksTo_1 8 rfl rfl)
theorem dX4_ticksTo_35 : decode cX4_ticksTo 35 = .ok (.aload_n 0, 1) := dk_42 (dk_at dksX4_ticksTo_1 11 rfl rfl)
theorem dX4_ticksTo_36 : decode cX4_ticksTo 36 = .ok (.getfield 7, 3) := dk_180 0 7 (dk_at dksX4_ticksTo_1 12 rfl rfl)
theorem dX4_ticksTo_39 : decode cX4_ticksTo 39 = .ok (.bipush 8, 2) := dk_16 8 (dk_at dksX4_ticksTo_1 15 rfl rfl)
theorem dX4_ticksTo_41 : decode cX4_ticksTo 41 = .ok (.iaload, 1) := dk_46 (dk_at dksX4_ticksTo_1 17 rfl rfl)
theorem dX4_ticksTo_42 : decode cX4_ticksTo 42 = .ok (.iconst 1, 1) := dk_4 (dk_at dksX4_ticksTo_1 18 rfl rfl)
theorem dX4_ticksTo_43 : decode cX4_ticksTo 43 = .ok (.if_icmp .eq 14, 3) := dk_159 0 14 (dk_at dksX4_ticksTo_1 19 rfl rfl)
theorem dX4_ticksTo_46 : decode cX4_ticksTo 46 = .ok (.aload_n 0, 1) := dk_42 (dk_at dksX4_ticksTo_1 22 rfl rfl)
theorem dX4_ticksTo_47 : decode cX4_ticksTo 47 = .ok (.getfield 7, 3) := dk_180 0 7 (dk_at dksX4_ticksTo_2 0 rfl rfl)
theorem dX4_ticksTo_50 : decode cX4_ticksTo 50 = .ok (.bipush 12, 2) := dk_16 12 (dk_at dksX4_ticksTo_2 3 rfl rfl)
theorem dX4_ticksTo_52 : decode cX4_ticksTo 52 = .ok (.iaload, 1) := dk_46 (dk_at dksX4_ticksTo_2 5 rfl rfl)
theorem dX4_ticksTo_53 : decode cX4_ticksTo 53 = .ok (.iload_n 1, 1) := dk_27 (dk_at dksX4_ticksTo_2 6 rfl rfl)
theorem dX4_ticksTo_54 : decode cX4_ticksTo 54 = .ok (.if_icmp .eq 19, 3) := dk_159 0 19 (dk_at dksX4_ticksTo_2 7 rfl rfl)
theorem dX4_ticksTo_57 : decode cX4_ticksTo 57 = .ok (.iinc 2 1, 3) := dk_132 2 1 (dk_at dksX4_ticksTo_2 10 rfl rfl)
theorem dX4_ticksTo_60 : decode cX4_ticksTo 60 = .ok (.iload_n 2, 1) := dk_28 (dk_at dksX4_ticksTo_2 13 rfl rfl)
theorem dX4_ticksTo_61 : decode cX4_ticksTo 61 = .ok (.bipush 100, 2) := dk_16 100 (dk_at dksX4_ticksTo_2 14 rfl rfl)
theorem dX4_ticksTo_63 : decode cX4_ticksTo 63 = .ok (.if_icmp .gt (-34), 3) := dk_163 255 222 (dk_at dksX4_ticksTo_2 16 rfl rfl)
theorem dX4_ticksTo_66 : decode cX4_ticksTo 66 = .ok (.aload_n 0, 1) := dk_42 (dk_at dksX4_ticksTo_2 19 rfl rfl)
theorem dX4_ticksTo_67 : decode cX4_ticksTo 67 = .ok (.invokevirtual 356, 3) := dk_182 1 100 (dk_at dksX4_ticksTo_2 20 rfl rfl)
theorem dX4_ticksTo_70 : decode cX4_ticksTo 70 = .ok (.goto (-41), 3) := dk_167 255 215 (dk_at dksX4_ticksTo_3 0 rfl rfl)
theorem dX4_ticksTo_73 : decode cX4_ticksTo 73 = .ok (.aload_n 0, 1) := dk_42 (dk_at dksX4_ticksTo_3 3 rfl rfl)
theorem dX4_ticksTo_74 : decode cX4_ticksTo 74 = .ok (.sipush 870, 3) := dk_17 3 102 (dk_at dksX4_ticksTo_3 4 rfl rfl)
theorem dX4_ticksTo_77 : decode cX4_ticksTo 77 = .ok (.iconst 0, 1) := dk_3 (dk_at dksX4_ticksTo_3 7 rfl rfl)
theorem dX4_ticksTo_78 : decode cX4_ticksTo 78 = .ok (.invokevirtual 359, 3) := dk_182 1 103 (dk_at dksX4_ticksTo_3 8 rfl rfl)
theorem dX4_ticksTo_81 : decode cX4_ticksTo 81 = .ok (.iload_n 2, 1) := dk_28 (dk_at dksX4_ticksTo_3 11 rfl rfl)
theorem dX4_ticksTo_82 : decode cX4_ticksTo 82 = .ok (.bipush 100, 2) := dk_16 100 (dk_at dksX4_ticksTo_3 12 rfl rfl)
theorem dX4_ticksTo_84 : decode cX4_ticksTo 84 = .ok (.if_icmp .gt 7, 3) := dk_163 0 7 (dk_at dksX4_ticksTo_3 14 rfl rfl)
theorem dX4_ticksTo_87 : decode cX4_ticksTo 87 = .ok (.iload_n 2, 1) := dk_28 (dk_at dksX4_ticksTo_3 17 rfl rfl)
theorem dX4_ticksTo_88 : decode cX4_ticksTo 88 = .ok (.goto 4, 3) := dk_167 0 4 (dk_at dksX4_ticksTo_3 18 rfl rfl)
theorem dX4_ticksTo_91 : decode cX4_ticksTo 91 = .ok (.iconst (-1), 1) := dk_2 (dk_at dksX4_ticksTo_3 21 rfl rfl)
theorem dX4_ticksTo_92 : decode cX4_ticksTo 92 = .ok (.ireturn, 1) := dk_172 (dk_at dksX4_ticksTo_3 22 rfl rfl)
abbrev cX4_steps : ByteArray := prog_19_method_96_code
def yX4_steps : MethodName := ⟨RX4, "steps", "(II)I"⟩
def dkwX4_steps_9 : List UInt8 := [167, 0, 4, 2, 172]
abbrev dktX4_steps_9 : List UInt8 := dkwX4_steps_9 ++ []
def dkwX4_steps_8 : List UInt8 := [132, 3, 1, 167, 255, 126, 42, 180, 0, 91, 28, 46, 16, 100, 162, 0, 12, 42, 180, 0, 91, 28, 46]
abbrev dktX4_steps_8 : List UInt8 := dkwX4_steps_8 ++ dktX4_steps_9
def dkwX4_steps_7 : List UInt8 := [180, 0, 91, 42, 21, 4, 4, 182, 0, 177, 46, 79, 132, 5, 1, 167, 255, 161, 132, 4, 1, 167, 255, 143]
abbrev dktX4_steps_7 : List UInt8 := dkwX4_steps_7 ++ dktX4_steps_8
def dkwX4_steps_6 : List UInt8 := [4, 182, 0, 177, 21, 6, 153, 0, 15, 42, 180, 0, 91, 21, 5, 46, 4, 96, 167, 0, 15, 42]
abbrev dktX4_steps_6 : List UInt8 := dkwX4_steps_6 ++ dktX4_steps_7
def dkwX4_steps_5 : List UInt8 := [21, 4, 4, 182, 0, 177, 46, 162, 0, 7, 4, 167, 0, 4, 3, 54, 6, 42, 180, 0, 91, 42, 21, 4]
abbrev dktX4_steps_5 : List UInt8 := dkwX4_steps_5 ++ dktX4_steps_6
def dkwX4_steps_4 : List UInt8 := [21, 4, 21, 5, 182, 1, 33, 153, 0, 31, 42, 180, 0, 91, 21, 5, 46, 4, 96, 42, 180, 0, 91, 42]
abbrev dktX4_steps_4 : List UInt8 := dkwX4_steps_4 ++ dktX4_steps_5
def dkwX4_steps_3 : List UInt8 := [54, 4, 21, 4, 42, 180, 0, 159, 162, 0, 110, 3, 54, 5, 21, 5, 42, 180, 0, 145, 162, 0, 92, 42]
abbrev dktX4_steps_3 : List UInt8 := dkwX4_steps_3 ++ dktX4_steps_4
def dkwX4_steps_2 : List UInt8 := [3, 167, 0, 5, 16, 100, 79, 132, 3, 1, 167, 255, 228, 3, 62, 29, 42, 180, 0, 145, 162, 0, 128, 3]
abbrev dktX4_steps_2 : List UInt8 := dkwX4_steps_2 ++ dktX4_steps_3
def dkwX4_steps_1 : List UInt8 := [182, 0, 103, 172, 3, 62, 29, 42, 180, 0, 145, 162, 0, 26, 42, 180, 0, 91, 29, 29, 27, 160, 0, 7]
abbrev dktX4_steps_1 : List UInt8 := dkwX4_steps_1 ++ dktX4_steps_2
def dkwX4_steps_0 : List UInt8 := [42, 3, 181, 0, 94, 42, 27, 182, 0, 162, 153, 0, 11, 42, 28, 182, 0, 162, 154, 0, 9, 42, 4]
abbrev dktX4_steps_0 : List UInt8 := dkwX4_steps_0 ++ dktX4_steps_1
theorem dksX4_steps_0 : cX4_steps.data.toList.drop 0 = dktX4_steps_0 := by decide +kernel
theorem dksX4_steps_1 : cX4_steps.data.toList.drop 23 = dktX4_steps_1 := dk_seg dksX4_steps_0 23 rfl rfl
theorem dksX4_steps_2 : cX4_steps.data.toList.drop 47 = dktX4_steps_2 := dk_seg dksX4_steps_1 24 rfl rfl
theorem dksX4_steps_3 : cX4_steps.data.toList.drop 71 = dktX4_steps_3 := dk_seg dksX4_steps_2 24 rfl rfl
theorem dksX4_steps_4 : cX4_steps.data.toList.drop 95 = dktX4_steps_4 := dk_seg dksX4_steps_3 24 rfl rfl
theorem dksX4_steps_5 : cX4_steps.data.toList.drop 119 = dktX4_steps_5 := dk_seg dksX4_steps_4 24 rfl rfl
theorem dksX4_steps_6 : cX4_steps.data.toList.drop 143 = dktX4_steps_6 := dk_seg dksX4_steps_5 24 rfl rfl
theorem dksX4_steps_7 : cX4_steps.data.toList.drop 165 = dktX4_steps_7 := dk_seg dksX4_steps_6 22 rfl rfl
theorem dksX4_steps_8 : cX4_steps.data.toList.drop 189 = dktX4_steps_8 := dk_seg dksX4_steps_7 24 rfl rfl
theorem dksX4_steps_9 : cX4_steps.data.toList.drop 212 = dktX4_steps_9 := dk_seg dksX4_steps_8 23 rfl rfl
theorem dX4_steps_0 : decode cX4_steps 0 = .ok (.aload_n 0, 1) := dk_42 (dk_at dksX4_steps_0 0 rfl rfl)
theorem dX4_steps_1 : decode cX4_steps 1 = .ok (.iconst 0, 1) := dk_3 (dk_at dksX4_steps_0 1 rfl rfl)
theorem dX4_steps_2 : decode cX4_steps 2 = .ok (.putfield 94, 3) := dk_181 0 94 (dk_at dksX4_steps_0 2 rfl rfl)
theorem dX4_steps_5 : decode cX4_steps 5 = .ok (.aload_n 0, 1) := dk_42 (dk_at dksX4_steps_0 5 rfl rfl)
theorem dX4_steps_6 : decode cX4_steps 6 = .ok (.iload_n 1, 1) := dk_27 (dk_at dksX4_steps_0 6 rfl rfl)
theorem dX4_steps_7 : decode cX4_steps 7 = .ok (.invokevirtual 162, 3) := dk_182 0 162 (dk_at dksX4_steps_0 7 rfl rfl)
theorem dX4_steps_10 : decode cX4_steps 10 = .ok (.ifCond .eq 11, 3) := dk_153 0 11 (dk_at dksX4_steps_0 10 rfl rfl)
theorem dX4_steps_13 : decode cX4_steps 13 = .ok (.aload_n 0, 1) := dk_42 (dk_at dksX4_steps_0 13 rfl rfl)
theorem dX4_steps_14 : decode cX4_steps 14 = .ok (.iload_n 2, 1) := dk_28 (dk_at dksX4_steps_0 14 rfl rfl)
theorem dX4_steps_15 : decode cX4_steps 15 = .ok (.invokevirtual 162, 3) := dk_182 0 162 (dk_at dksX4_steps_0 15 rfl rfl)
theorem dX4_steps_18 : decode cX4_steps 18 = .ok (.ifCond .ne 9, 3) := dk_154 0 9 (dk_at dksX4_steps_0 18 rfl rfl)
theorem dX4_steps_21 : decode cX4_steps 21 = .ok (.aload_n 0, 1) := dk_42 (dk_at dksX4_steps_0 21 rfl rfl)
theorem dX4_steps_22 : decode cX4_steps 22 = .ok (.iconst 1, 1) := dk_4 (dk_at dksX4_steps_0 22 rfl rfl)
theorem dX4_steps_23 : decode cX4_steps 23 = .ok (.invokevirtual 103, 3) := dk_182 0 103 (dk_at dksX4_steps_1 0 rfl rfl)
theorem dX4_steps_26 : decode cX4_steps 26 = .ok (.ireturn, 1) := dk_172 (dk_at dksX4_steps_1 3 rfl rfl)
theorem dX4_steps_27 : decode cX4_steps 27 = .ok (.iconst 0, 1) := dk_3 (dk_at dksX4_steps_1 4 rfl rfl)
theorem dX4_steps_28 : decode cX4_steps 28 = .ok (.istore_n 3, 1) := dk_62 (dk_at dksX4_steps_1 5 rfl rfl)
theorem dX4_steps_29 : decode cX4_steps 29 = .ok (.iload_n 3, 1) := dk_29 (dk_at dksX4_steps_1 6 rfl rfl)
theorem dX4_steps_30 : decode cX4_steps 30 = .ok (.aload_n 0, 1) := dk_42 (dk_at dksX4_steps_1 7 rfl rfl)
theorem dX4_steps_31 : decode cX4_steps 31 = .ok (.getfield 145, 3) := dk_180 0 145 (dk_at dksX4_steps_1 8 rfl rfl)
theorem dX4_steps_34 : decode cX4_steps 34 = .ok (.if_icmp .ge 26, 3) := dk_162 0 26 (dk_at dksX4_steps_1 11 rfl rfl)
theorem dX4_steps_37 : decode cX4_steps 37 = .ok (.aload_n 0, 1) := dk_42 (dk_at dksX4_steps_1 14 rfl rfl)
theorem dX4_steps_38 : decode cX4_steps 38 = .ok (.getfield 91, 3) := dk_180 0 91 (dk_at dksX4_steps_1 15 rfl rfl)
theorem dX4_steps_41 : decode cX4_steps 41 = .ok (.iload_n 3, 1) := dk_29 (dk_at dksX4_steps_1 18 rfl rfl)
theorem dX4_steps_42 : decode cX4_steps 42 = .ok (.iload_n 3, 1) := dk_29 (dk_at dksX4_steps_1 19 rfl rfl)
theorem dX4_steps_43 : decode cX4_steps 43 = .ok (.iload_n 1, 1) := dk_27 (dk_at dksX4_steps_1 20 rfl rfl)
theorem dX4_steps_44 : decode cX4_steps 44 = .ok (.if_icmp .ne 7, 3) := dk_160 0 7 (dk_at dksX4_steps_1 21 rfl rfl)
theorem dX4_steps_47 : decode cX4_steps 47 = .ok (.iconst 0, 1) := dk_3 (dk_at dksX4_steps_2 0 rfl rfl)
theorem dX4_steps_48 : decode cX4_steps 48 = .ok (.goto 5, 3) := dk_167 0 5 (dk_at dksX4_steps_2 1 rfl rfl)
theorem dX4_steps_51 : decode cX4_steps 51 = .ok (.bipush 100, 2) := dk_16 100 (dk_at dksX4_steps_2 4 rfl rfl)
theorem dX4_steps_53 : decode cX4_steps 53 = .ok (.iastore, 1) := dk_79 (dk_at dksX4_steps_2 6 rfl rfl)
theorem dX4_steps_54 : decode cX4_steps 54 = .ok (.iinc 3 1, 3) := dk_132 3 1 (dk_at dksX4_steps_2 7 rfl rfl)
theorem dX4_steps_57 : decode cX4_steps 57 = .ok (.goto (-28), 3) := dk_167 255 228 (dk_at dksX4_steps_2 10 rfl rfl)
theorem dX4_steps_60 : decode cX4_steps 60 = .ok (.iconst 0, 1) := dk_3 (dk_at dksX4_steps_2 13 rfl rfl)
theorem dX4_steps_61 : decode cX4_steps 61 = .ok (.istore_n 3, 1) := dk_62 (dk_at dksX4_steps_2 14 rfl rfl)
theorem dX4_steps_62 : decode cX4_steps 62 = .ok (.iload_n 3, 1) := dk_29 (dk_at dksX4_steps_2 15 rfl rfl)
theorem dX4_steps_63 : decode cX4_steps 63 = .ok (.aload_n 0, 1) := dk_42 (dk_at dksX4_steps_2 16 rfl rfl)
theorem dX4_steps_64 : decode cX4_steps 64 = .ok (.getfield 145, 3) := dk_180 0 145 (dk_at dksX4_steps_2 17 rfl rfl)
theorem dX4_steps_67 : decode cX4_steps 67 = .ok (.if_icmp .ge 128, 3) := dk_162 0 128 (dk_at dksX4_steps_2 20 rfl rfl)
theorem dX4_steps_70 : decode cX4_steps 70 = .ok (.iconst 0, 1) := dk_3 (dk_at dksX4_steps_2 23 rfl rfl)
theorem dX4_steps_71 : decode cX4_steps 71 = .ok (.istore 4, 2) := dk_54 4 (dk_at dksX4_steps_3 0 rfl rfl)
theorem dX4_steps_73 : decode cX4_steps 73 = .ok (.iload 4, 2) := dk_21 4 (dk_at dksX4_steps_3 2 rfl rfl)
theorem dX4_steps_75 : decode cX4_steps 75 = .ok (.aload_n 0, 1) := dk_42 (dk_at dksX4_steps_3 4 rfl rfl)
theorem dX4_steps_76 : decode cX4_steps 76 = .ok (.getfield 159, 3) := dk_180 0 159 (dk_at dksX4_steps_3 5 rfl rfl)
theorem dX4_steps_79 : decode cX4_steps 79 = .ok (.if_icmp .ge 110, 3) := dk_162 0 110 (dk_at dksX4_steps_3 8 rfl rfl)
theorem dX4_steps_82 : decode cX4_steps 82 = .ok (.iconst 0, 1) := dk_3 (dk_at dksX4_steps_3 11 rfl rfl)
theorem dX4_steps_83 : decode cX4_steps 83 = .ok (.istore 5, 2) := dk_54 5 (dk_at dksX4_steps_3 12 rfl rfl)
theorem dX4_steps_85 : decode cX4_steps 85 = .ok (.iload 5, 2) := dk_21 5 (dk_at dksX4_steps_3 14 rfl rfl)
theorem dX4_steps_87 : decode cX4_steps 87 = .ok (.aload_n 0, 1) := dk_42 (dk_at dksX4_steps_3 16 rfl rfl)
theorem dX4_steps_88 : decode cX4_steps 88 = .ok (.getfield 145, 3) := dk_180 0 145 (dk_at dksX4_steps_3 17 rfl rfl)
theorem dX4_steps_91 : decode cX4_steps 91 = .ok (.if_icmp .ge 92, 3) := dk_162 0 92 (dk_at dksX4_steps_3 20 rfl rfl)
theorem dX4_steps_94 : decode cX4_steps 94 = .ok (.aload_n 0, 1) := dk_42 (dk_at dksX4_steps_3 23 rfl rfl)
theorem dX4_steps_95 : decode cX4_steps 95 = .ok (.iload 4, 2) := dk_21 4 (dk_at dksX4_steps_4 0 rfl rfl)
theorem dX4_steps_97 : decode cX4_steps 97 = .ok (.iload 5, 2) := dk_21 5 (dk_at dksX4_steps_4 2 rfl rfl)
theorem dX4_steps_99 : decode cX4_steps 99 = .ok (.invokevirtual 289, 3) := dk_182 1 33 (dk_at dksX4_steps_4 4 rfl rfl)
theorem dX4_steps_102 : decode cX4_steps 102 = .ok (.ifCond .eq 31, 3) := dk_153 0 31 (dk_at dksX4_steps_4 7 rfl rfl)
theorem dX4_steps_105 : decode cX4_steps 105 = .ok (.aload_n 0, 1) := dk_42 (dk_at dksX4_steps_4 10 rfl rfl)
theorem dX4_steps_106 : decode cX4_steps 106 = .ok (.getfield 91, 3) := dk_180 0 91 (dk_at dksX4_steps_4 11 rfl rfl)
theorem dX4_steps_109 : decode cX4_steps 109 = .ok (.iload 5, 2) := dk_21 5 (dk_at dksX4_steps_4 14 rfl rfl)
theorem dX4_steps_111 : decode cX4_steps 111 = .ok (.iaload, 1) := dk_46 (dk_at dksX4_steps_4 16 rfl rfl)
theorem dX4_steps_112 : decode cX4_steps 112 = .ok (.iconst 1, 1) := dk_4 (dk_at dksX4_steps_4 17 rfl rfl)
theorem dX4_steps_113 : decode cX4_steps 113 = .ok (.iadd, 1) := dk_96 (dk_at dksX4_steps_4 18 rfl rfl)
theorem dX4_steps_114 : decode cX4_steps 114 = .ok (.aload_n 0, 1) := dk_42 (dk_at dksX4_steps_4 19 rfl rfl)
theorem dX4_steps_115 : decode cX4_steps 115 = .ok (.getfield 91, 3) := dk_180 0 91 (dk_at dksX4_steps_4 20 rfl rfl)
theorem dX4_steps_118 : decode cX4_steps 118 = .ok (.aload_n 0, 1) := dk_42 (dk_at dksX4_steps_4 23 rfl rfl)
theorem dX4_steps_119 : decode cX4_steps 119 = .ok (.iload 4, 2) := dk_21 4 (dk_at dksX4_steps_5 0 rfl rfl)
theorem dX4_steps_121 : decode cX4_steps 121 = .ok (.iconst 1, 1) := dk_4 (dk_at dksX4_steps_5 2 rfl rfl)
theorem dX4_steps_122 : decode cX4_steps 122 = .ok (.invokevirtual 177, 3) := dk_182 0 177 (dk_at dksX4_steps_5 3 rfl rfl)
theorem dX4_steps_125 : decode cX4_steps 125 = .ok (.iaload, 1) := dk_46 (dk_at dksX4_steps_5 6 rfl rfl)
theorem dX4_steps_126 : decode cX4_steps 126 = .ok (.if_icmp .ge 7, 3) := dk_162 0 7 (dk_at dksX4_steps_5 7 rfl rfl)
theorem dX4_steps_129 : decode cX4_steps 129 = .ok (.iconst 1, 1) := dk_4 (dk_at dksX4_steps_5 10 rfl rfl)
theorem dX4_steps_130 : decode cX4_steps 130 = .ok (.goto 4, 3) := dk_167 0 4 (dk_at dksX4_steps_5 11 rfl rfl)
theorem dX4_steps_133 : decode cX4_steps 133 = .ok (.iconst 0, 1) := dk_3 (dk_at dksX4_steps_5 14 rfl rfl)
theorem dX4_steps_134 : decode cX4_steps 134 = .ok (.istore 6, 2) := dk_54 6 (dk_at dksX4_steps_5 15 rfl rfl)
theorem dX4_steps_136 : decode cX4_steps 136 = .ok (.aload_n 0, 1) := dk_42 (dk_at dksX4_steps_5 17 rfl rfl)
theorem dX4_steps_137 : decode cX4_steps 137 = .ok (.getfield 91, 3) := dk_180 0 91 (dk_at dksX4_steps_5 18 rfl rfl)
theorem dX4_steps_140 : decode cX4_steps 140 = .ok (.aload_n 0, 1) := dk_42 (dk_at dksX4_steps_5 21 rfl rfl)
theorem dX4_steps_141 : decode cX4_steps 141 = .ok (.iload 4, 2) := dk_21 4 (dk_at dksX4_steps_5 22 rfl rfl)
theorem dX4_steps_143 : decode cX4_steps 143 = .ok (.iconst 1, 1) := dk_4 (dk_at dksX4_steps_6 0 rfl rfl)
theorem dX4_steps_144 : decode cX4_steps 144 = .ok (.invokevirtual 177, 3) := dk_182 0 177 (dk_at dksX4_steps_6 1 rfl rfl)
theorem dX4_steps_147 : decode cX4_steps 147 = .ok (.iload 6, 2) := dk_21 6 (dk_at dksX4_steps_6 4 rfl rfl)
theorem dX4_steps_149 : decode cX4_steps 149 = .ok (.ifCond .eq 15, 3) := dk_153 0 15 (dk_at dksX4_steps_6 6 rfl rfl)
theorem dX4_steps_152 : decode cX4_steps 152 = .ok (.aload_n 0, 1) := dk_42 (dk_at dksX4_steps_6 9 rfl rfl)
theorem dX4_steps_153 : decode cX4_steps 153 = .ok (.getfield 91, 3) := dk_180 0 91 (dk_at dksX4_steps_6 10 rfl rfl)
theorem dX4_steps_156 : decode cX4_steps 156 = .ok (.iload 5, 2) := dk_21 5 (dk_at dksX4_steps_6 13 rfl rfl)
theorem dX4_steps_158 : decode cX4_steps 158 = .ok (.iaload, 1) := dk_46 (dk_at dksX4_steps_6 15 rfl rfl)
theorem dX4_steps_159 : decode cX4_steps 159 = .ok (.iconst 1, 1) := dk_4 (dk_at dksX4_steps_6 16 rfl rfl)
theorem dX4_steps_160 : decode cX4_steps 160 = .ok (.iadd, 1) := dk_96 (dk_at dksX4_steps_6 17 rfl rfl)
theorem dX4_steps_161 : decode cX4_steps 161 = .ok (.goto 15, 3) := dk_167 0 15 (dk_at dksX4_steps_6 18 rfl rfl)
theorem dX4_steps_164 : decode cX4_steps 164 = .ok (.aload_n 0, 1) := dk_42 (dk_at dksX4_steps_6 21 rfl rfl)
theorem dX4_steps_165 : decode cX4_steps 165 = .ok (.getfield 91, 3) := dk_180 0 91 (dk_at dksX4_steps_7 0 rfl rfl)
theorem dX4_steps_168 : decode cX4_steps 168 = .ok (.aload_n 0, 1) := dk_42 (dk_at dksX4_steps_7 3 rfl rfl)
theorem dX4_steps_169 : decode cX4_steps 169 = .ok (.iload 4, 2) := dk_21 4 (dk_at dksX4_steps_7 4 rfl rfl)
theorem dX4_steps_171 : decode cX4_steps 171 = .ok (.iconst 1, 1) := dk_4 (dk_at dksX4_steps_7 6 rfl rfl)
theorem dX4_steps_172 : decode cX4_steps 172 = .ok (.invokevirtual 177, 3) := dk_182 0 177 (dk_at dksX4_steps_7 7 rfl rfl)
theorem dX4_steps_175 : decode cX4_steps 175 = .ok (.iaload, 1) := dk_46 (dk_at dksX4_steps_7 10 rfl rfl)
theorem dX4_steps_176 : decode cX4_steps 176 = .ok (.iastore, 1) := dk_79 (dk_at dksX4_steps_7 11 rfl rfl)
theorem dX4_steps_177 : decode cX4_steps 177 = .ok (.iinc 5 1, 3) := dk_132 5 1 (dk_at dksX4_steps_7 12 rfl rfl)
theorem dX4_steps_180 : decode cX4_steps 180 = .ok (.goto (-95), 3) := dk_167 255 161 (dk_at dksX4_steps_7 15 rfl rfl)
theorem dX4_steps_183 : decode cX4_steps 183 = .ok (.iinc 4 1, 3) := dk_132 4 1 (dk_at dksX4_steps_7 18 rfl rfl)
theorem dX4_steps_186 : decode cX4_steps 186 = .ok (.goto (-113), 3) := dk_167 255 143 (dk_at dksX4_steps_7 21 rfl rfl)
theorem dX4_steps_189 : decode cX4_steps 189 = .ok (.iinc 3 1, 3) := dk_132 3 1 (dk_at dksX4_steps_8 0 rfl rfl)
theorem dX4_steps_192 : decode cX4_steps 192 = .ok (.goto (-130), 3) := dk_167 255 126 (dk_at dksX4_steps_8 3 rfl rfl)
theorem dX4_steps_195 : decode cX4_steps 195 = .ok (.aload_n 0, 1) := dk_42 (dk_at dksX4_steps_8 6 rfl rfl)
theorem dX4_steps_196 : decode cX4_steps 196 = .ok (.getfield 91, 3) := dk_180 0 91 (dk_at dksX4_steps_8 7 rfl rfl)
theorem dX4_steps_199 : decode cX4_steps 199 = .ok (.iload_n 2, 1) := dk_28 (dk_at dksX4_steps_8 10 rfl rfl)
theorem dX4_steps_200 : decode cX4_steps 200 = .ok (.iaload, 1) := dk_46 (dk_at dksX4_steps_8 11 rfl rfl)
theorem dX4_steps_201 : decode cX4_steps 201 = .ok (.bipush 100, 2) := dk_16 100 (dk_at dksX4_steps_8 12 rfl rfl)
theorem dX4_steps_203 : decode cX4_steps 203 = .ok (.if_icmp .ge 12, 3) := dk_162 0 12 (dk_at dksX4_steps_8 14 rfl rfl)
theorem dX4_steps_206 : decode cX4_steps 206 = .ok (.aload_n 0, 1) := dk_42 (dk_at dksX4_steps_8 17 rfl rfl)
theorem dX4_steps_207 : decode cX4_steps 207 = .ok (.getfield 91, 3) := dk_180 0 91 (dk_at dksX4_steps_8 18 rfl rfl)
theorem dX4_steps_210 : decode cX4_steps 210 = .ok (.iload_n 2, 1) := dk_28 (dk_at dksX4_steps_8 21 rfl rfl)
theorem dX4_steps_211 : decode cX4_steps 211 = .ok (.iaload, 1) := dk_46 (dk_at dksX4_steps_8 22 rfl rfl)
theorem dX4_steps_212 : decode cX4_steps 212 = .ok (.goto 4, 3) := dk_167 0 4 (dk_at dksX4_steps_9 0 rfl rfl)
theorem dX4_steps_215 : decode cX4_steps 215 = .ok (.iconst (-1), 1) := dk_2 (dk_at dksX4_steps_9 3 rfl rfl)
theorem dX4_steps_216 : decode cX4_steps 216 = .ok (.ireturn, 1) := dk_172 (dk_at dksX4_steps_9 4 rfl rfl)
abbrev cX4_keep : ByteArray := prog_19_method_97_code
def yX4_keep : MethodName := ⟨RX4, "keep", "(I)I"⟩
def dkwX4_keep_3 : List UInt8 := [180, 0, 7, 17, 1, 31, 46, 172]
abbrev dktX4_keep_3 : List UInt8 := dkwX4_keep_3 ++ []
def dkwX4_keep_2 : List UInt8 := [42, 3, 17, 1, 34, 17, 1, 34, 27, 104, 96, 182, 1, 103, 42, 180, 0, 13, 27, 4, 84, 42]
abbrev dktX4_keep_2 : List UInt8 := dkwX4_keep_2 ++ dktX4_keep_3
def dkwX4_keep_1 : List UInt8 := [180, 0, 145, 154, 0, 9, 42, 5, 182, 0, 103, 172, 42, 180, 0, 7, 17, 1, 33, 42, 180, 0, 107, 79]
abbrev dktX4_keep_1 : List UInt8 := dkwX4_keep_1 ++ dktX4_keep_2
def dkwX4_keep_0 : List UInt8 := [42, 3, 181, 0, 94, 27, 133, 9, 10, 184, 0, 99, 154, 0, 9, 42, 4, 182, 0, 103, 172, 42]
abbrev dktX4_keep_0 : List UInt8 := dkwX4_keep_0 ++ dktX4_keep_1
theorem dksX4_keep_0 : cX4_keep.data.toList.drop 0 = dktX4_keep_0 := by decide +kernel
theorem dksX4_keep_1 : cX4_keep.data.toList.drop 22 = dktX4_keep_1 := dk_seg dksX4_keep_0 22 rfl rfl
theorem dksX4_keep_2 : cX4_keep.data.toList.drop 46 = dktX4_keep_2 := dk_seg dksX4_keep_1 24 rfl rfl
theorem dksX4_keep_3 : cX4_keep.data.toList.drop 68 = dktX4_keep_3 := dk_seg dksX4_keep_2 22 rfl rfl
theorem dX4_keep_0 : decode cX4_keep 0 = .ok (.aload_n 0, 1) := dk_42 (dk_at dksX4_keep_0 0 rfl rfl)
theorem dX4_keep_1 : decode cX4_keep 1 = .ok (.iconst 0, 1) := dk_3 (dk_at dksX4_keep_0 1 rfl rfl)
theorem dX4_keep_2 : decode cX4_keep 2 = .ok (.putfield 94, 3) := dk_181 0 94 (dk_at dksX4_keep_0 2 rfl rfl)
theorem dX4_keep_5 : decode cX4_keep 5 = .ok (.iload_n 1, 1) := dk_27 (dk_at dksX4_keep_0 5 rfl rfl)
theorem dX4_keep_6 : decode cX4_keep 6 = .ok (.i2l, 1) := dk_133 (dk_at dksX4_keep_0 6 rfl rfl)
theorem dX4_keep_7 : decode cX4_keep 7 = .ok (.lconst 0, 1) := dk_9 (dk_at dksX4_keep_0 7 rfl rfl)
theorem dX4_keep_8 : decode cX4_keep 8 = .ok (.lconst 1, 1) := dk_10 (dk_at dksX4_keep_0 8 rfl rfl)
theorem dX4_keep_9 : decode cX4_keep 9 = .ok (.invokestatic 99, 3) := dk_184 0 99 (dk_at dksX4_keep_0 9 rfl rfl)
theorem dX4_keep_12 : decode cX4_keep 12 = .ok (.ifCond .ne 9, 3) := dk_154 0 9 (dk_at dksX4_keep_0 12 rfl rfl)
theorem dX4_keep_15 : decode cX4_keep 15 = .ok (.aload_n 0, 1) := dk_42 (dk_at dksX4_keep_0 15 rfl rfl)
theorem dX4_keep_16 : decode cX4_keep 16 = .ok (.iconst 1, 1) := dk_4 (dk_at dksX4_keep_0 16 rfl rfl)
theorem dX4_keep_17 : decode cX4_keep 17 = .ok (.invokevirtual 103, 3) := dk_182 0 103 (dk_at dksX4_keep_0 17 rfl rfl)
theorem dX4_keep_20 : decode cX4_keep 20 = .ok (.ireturn, 1) := dk_172 (dk_at dksX4_keep_0 20 rfl rfl)
theorem dX4_keep_21 : decode cX4_keep 21 = .ok (.aload_n 0, 1) := dk_42 (dk_at dksX4_keep_0 21 rfl rfl)
theorem dX4_keep_22 : decode cX4_keep 22 = .ok (.getfield 145, 3) := dk_180 0 145 (dk_at dksX4_keep_1 0 rfl rfl)
theorem dX4_keep_25 : decode cX4_keep 25 = .ok (.ifCond .ne 9, 3) := dk_154 0 9 (dk_at dksX4_keep_1 3 rfl rfl)
theorem dX4_keep_28 : decode cX4_keep 28 = .ok (.aload_n 0, 1) := dk_42 (dk_at dksX4_keep_1 6 rfl rfl)
theorem dX4_keep_29 : decode cX4_keep 29 = .ok (.iconst 2, 1) := dk_5 (dk_at dksX4_keep_1 7 rfl rfl)
theorem dX4_keep_30 : decode cX4_keep 30 = .ok (.invokevirtual 103, 3) := dk_182 0 103 (dk_at dksX4_keep_1 8 rfl rfl)
theorem dX4_keep_33 : decode cX4_keep 33 = .ok (.ireturn, 1) := dk_172 (dk_at dksX4_keep_1 11 rfl rfl)
theorem dX4_keep_34 : decode cX4_keep 34 = .ok (.aload_n 0, 1) := dk_42 (dk_at dksX4_keep_1 12 rfl rfl)
theorem dX4_keep_35 : decode cX4_keep 35 = .ok (.getfield 7, 3) := dk_180 0 7 (dk_at dksX4_keep_1 13 rfl rfl)
theorem dX4_keep_38 : decode cX4_keep 38 = .ok (.sipush 289, 3) := dk_17 1 33 (dk_at dksX4_keep_1 16 rfl rfl)
theorem dX4_keep_41 : decode cX4_keep 41 = .ok (.aload_n 0, 1) := dk_42 (dk_at dksX4_keep_1 19 rfl rfl)
theorem dX4_keep_42 : decode cX4_keep 42 = .ok (.getfield 107, 3) := dk_180 0 107 (dk_at dksX4_keep_1 20 rfl rfl)
theorem dX4_keep_45 : decode cX4_keep 45 = .ok (.iastore, 1) := dk_79 (dk_at dksX4_keep_1 23 rfl rfl)
theorem dX4_keep_46 : decode cX4_keep 46 = .ok (.aload_n 0, 1) := dk_42 (dk_at dksX4_keep_2 0 rfl rfl)
theorem dX4_keep_47 : decode cX4_keep 47 = .ok (.iconst 0, 1) := dk_3 (dk_at dksX4_keep_2 1 rfl rfl)
theorem dX4_keep_48 : decode cX4_keep 48 = .ok (.sipush 290, 3) := dk_17 1 34 (dk_at dksX4_keep_2 2 rfl rfl)
theorem dX4_keep_51 : decode cX4_keep 51 = .ok (.sipush 290, 3) := dk_17 1 34 (dk_at dksX4_keep_2 5 rfl rfl)
theorem dX4_keep_54 : decode cX4_keep 54 = .ok (.iload_n 1, 1) := dk_27 (dk_at dksX4_keep_2 8 rfl rfl)
theorem dX4_keep_55 : decode cX4_keep 55 = .ok (.imul, 1) := dk_104 (dk_at dksX4_keep_2 9 rfl rfl)
theorem dX4_keep_56 : decode cX4_keep 56 = .ok (.iadd, 1) := dk_96 (dk_at dksX4_keep_2 10 rfl rfl)
theorem dX4_keep_57 : decode cX4_keep 57 = .ok (.invokevirtual 359, 3) := dk_182 1 103 (dk_at dksX4_keep_2 11 rfl rfl)
theorem dX4_keep_60 : decode cX4_keep 60 = .ok (.aload_n 0, 1) := dk_42 (dk_at dksX4_keep_2 14 rfl rfl)
theorem dX4_keep_61 : decode cX4_keep 61 = .ok (.getfield 13, 3) := dk_180 0 13 (dk_at dksX4_keep_2 15 rfl rfl)
theorem dX4_keep_64 : decode cX4_keep 64 = .ok (.iload_n 1, 1) := dk_27 (dk_at dksX4_keep_2 18 rfl rfl)
theorem dX4_keep_65 : decode cX4_keep 65 = .ok (.iconst 1, 1) := dk_4 (dk_at dksX4_keep_2 19 rfl rfl)
theorem dX4_keep_66 : decode cX4_keep 66 = .ok (.bastore, 1) := dk_84 (dk_at dksX4_keep_2 20 rfl rfl)
theorem dX4_keep_67 : decode cX4_keep 67 = .ok (.aload_n 0, 1) := dk_42 (dk_at dksX4_keep_2 21 rfl rfl)
theorem dX4_keep_68 : decode cX4_keep 68 = .ok (.getfield 7, 3) := dk_180 0 7 (dk_at dksX4_keep_3 0 rfl rfl)
theorem dX4_keep_71 : decode cX4_keep 71 = .ok (.sipush 287, 3) := dk_17 1 31 (dk_at dksX4_keep_3 3 rfl rfl)
theorem dX4_keep_74 : decode cX4_keep 74 = .ok (.iaload, 1) := dk_46 (dk_at dksX4_keep_3 6 rfl rfl)
theorem dX4_keep_75 : decode cX4_keep 75 = .ok (.ireturn, 1) := dk_172 (dk_at dksX4_keep_3 7 rfl rfl)
abbrev cX4_restore : ByteArray := prog_19_method_98_code
def yX4_restore : MethodName := ⟨RX4, "restore", "(I)I"⟩
def dkwX4_restore_3 : List UInt8 := [28, 96, 3, 79, 132, 2, 1, 167, 255, 238, 42, 180, 0, 7, 17, 1, 31, 46, 172]
abbrev dktX4_restore_3 : List UInt8 := dkwX4_restore_3 ++ []
def dkwX4_restore_2 : List UInt8 := [3, 182, 1, 103, 42, 180, 0, 7, 17, 1, 33, 46, 61, 28, 16, 8, 162, 0, 18, 42, 180, 0, 7, 3]
abbrev dktX4_restore_2 : List UInt8 := dkwX4_restore_2 ++ dktX4_restore_3
def dkwX4_restore_1 : List UInt8 := [180, 0, 13, 27, 51, 154, 0, 9, 42, 5, 182, 0, 103, 172, 42, 17, 1, 34, 17, 1, 34, 27, 104, 96]
abbrev dktX4_restore_1 : List UInt8 := dkwX4_restore_1 ++ dktX4_restore_2
def dkwX4_restore_0 : List UInt8 := [42, 3, 181, 0, 94, 27, 133, 9, 10, 184, 0, 99, 154, 0, 9, 42, 4, 182, 0, 103, 172, 42]
abbrev dktX4_restore_0 : List UInt8 := dkwX4_restore_0 ++ dktX4_restore_1
theorem dksX4_restore_0 : cX4_restore.data.toList.drop 0 = dktX4_restore_0 := by decide +kernel
theorem dksX4_restore_1 : cX4_restore.data.toList.drop 22 = dktX4_restore_1 := dk_seg dksX4_restore_0 22 rfl rfl
theorem dksX4_restore_2 : cX4_restore.data.toList.drop 46 = dktX4_restore_2 := dk_seg dksX4_restore_1 24 rfl rfl
theorem dksX4_restore_3 : cX4_restore.data.toList.drop 70 = dktX4_restore_3 := dk_seg dksX4_restore_2 24 rfl rfl
theorem dX4_restore_0 : decode cX4_restore 0 = .ok (.aload_n 0, 1) := dk_42 (dk_at dksX4_restore_0 0 rfl rfl)
theorem dX4_restore_1 : decode cX4_restore 1 = .ok (.iconst 0, 1) := dk_3 (dk_at dksX4_restore_0 1 rfl rfl)
theorem dX4_restore_2 : decode cX4_restore 2 = .ok (.putfield 94, 3) := dk_181 0 94 (dk_at dksX4_restore_0 2 rfl rfl)
theorem dX4_restore_5 : decode cX4_restore 5 = .ok (.iload_n 1, 1) := dk_27 (dk_at dksX4_restore_0 5 rfl rfl)
theorem dX4_restore_6 : decode cX4_restore 6 = .ok (.i2l, 1) := dk_133 (dk_at dksX4_restore_0 6 rfl rfl)
theorem dX4_restore_7 : decode cX4_restore 7 = .ok (.lconst 0, 1) := dk_9 (dk_at dksX4_restore_0 7 rfl rfl)
theorem dX4_restore_8 : decode cX4_restore 8 = .ok (.lconst 1, 1) := dk_10 (dk_at dksX4_restore_0 8 rfl rfl)
theorem dX4_restore_9 : decode cX4_restore 9 = .ok (.invokestatic 99, 3) := dk_184 0 99 (dk_at dksX4_restore_0 9 rfl rfl)
theorem dX4_restore_12 : decode cX4_restore 12 = .ok (.ifCond .ne 9, 3) := dk_154 0 9 (dk_at dksX4_restore_0 12 rfl rfl)
theorem dX4_restore_15 : decode cX4_restore 15 = .ok (.aload_n 0, 1) := dk_42 (dk_at dksX4_restore_0 15 rfl rfl)
theorem dX4_restore_16 : decode cX4_restore 16 = .ok (.iconst 1, 1) := dk_4 (dk_at dksX4_restore_0 16 rfl rfl)
theorem dX4_restore_17 : decode cX4_restore 17 = .ok (.invokevirtual 103, 3) := dk_182 0 103 (dk_at dksX4_restore_0 17 rfl rfl)
theorem dX4_restore_20 : decode cX4_restore 20 = .ok (.ireturn, 1) := dk_172 (dk_at dksX4_restore_0 20 rfl rfl)
theorem dX4_restore_21 : decode cX4_restore 21 = .ok (.aload_n 0, 1) := dk_42 (dk_at dksX4_restore_0 21 rfl rfl)
theorem dX4_restore_22 : decode cX4_restore 22 = .ok (.getfield 13, 3) := dk_180 0 13 (dk_at dksX4_restore_1 0 rfl rfl)
theorem dX4_restore_25 : decode cX4_restore 25 = .ok (.iload_n 1, 1) := dk_27 (dk_at dksX4_restore_1 3 rfl rfl)
theorem dX4_restore_26 : decode cX4_restore 26 = .ok (.baload, 1) := dk_51 (dk_at dksX4_restore_1 4 rfl rfl)
theorem dX4_restore_27 : decode cX4_restore 27 = .ok (.ifCond .ne 9, 3) := dk_154 0 9 (dk_at dksX4_restore_1 5 rfl rfl)
theorem dX4_restore_30 : decode cX4_restore 30 = .ok (.aload_n 0, 1) := dk_42 (dk_at dksX4_restore_1 8 rfl rfl)
theorem dX4_restore_31 : decode cX4_restore 31 = .ok (.iconst 2, 1) := dk_5 (dk_at dksX4_restore_1 9 rfl rfl)
theorem dX4_restore_32 : decode cX4_restore 32 = .ok (.invokevirtual 103, 3) := dk_182 0 103 (dk_at dksX4_restore_1 10 rfl rfl)
theorem dX4_restore_35 : decode cX4_restore 35 = .ok (.ireturn, 1) := dk_172 (dk_at dksX4_restore_1 13 rfl rfl)
theorem dX4_restore_36 : decode cX4_restore 36 = .ok (.aload_n 0, 1) := dk_42 (dk_at dksX4_restore_1 14 rfl rfl)
theorem dX4_restore_37 : decode cX4_restore 37 = .ok (.sipush 290, 3) := dk_17 1 34 (dk_at dksX4_restore_1 15 rfl rfl)
theorem dX4_restore_40 : decode cX4_restore 40 = .ok (.sipush 290, 3) := dk_17 1 34 (dk_at dksX4_restore_1 18 rfl rfl)
theorem dX4_restore_43 : decode cX4_restore 43 = .ok (.iload_n 1, 1) := dk_27 (dk_at dksX4_restore_1 21 rfl rfl)
theorem dX4_restore_44 : decode cX4_restore 44 = .ok (.imul, 1) := dk_104 (dk_at dksX4_restore_1 22 rfl rfl)
theorem dX4_restore_45 : decode cX4_restore 45 = .ok (.iadd, 1) := dk_96 (dk_at dksX4_restore_1 23 rfl rfl)
theorem dX4_restore_46 : decode cX4_restore 46 = .ok (.iconst 0, 1) := dk_3 (dk_at dksX4_restore_2 0 rfl rfl)
theorem dX4_restore_47 : decode cX4_restore 47 = .ok (.invokevirtual 359, 3) := dk_182 1 103 (dk_at dksX4_restore_2 1 rfl rfl)
theorem dX4_restore_50 : decode cX4_restore 50 = .ok (.aload_n 0, 1) := dk_42 (dk_at dksX4_restore_2 4 rfl rfl)
theorem dX4_restore_51 : decode cX4_restore 51 = .ok (.getfield 7, 3) := dk_180 0 7 (dk_at dksX4_restore_2 5 rfl rfl)
theorem dX4_restore_54 : decode cX4_restore 54 = .ok (.sipush 289, 3) := dk_17 1 33 (dk_at dksX4_restore_2 8 rfl rfl)
theorem dX4_restore_57 : decode cX4_restore 57 = .ok (.iaload, 1) := dk_46 (dk_at dksX4_restore_2 11 rfl rfl)
theorem dX4_restore_58 : decode cX4_restore 58 = .ok (.istore_n 2, 1) := dk_61 (dk_at dksX4_restore_2 12 rfl rfl)
theorem dX4_restore_59 : decode cX4_restore 59 = .ok (.iload_n 2, 1) := dk_28 (dk_at dksX4_restore_2 13 rfl rfl)
theorem dX4_restore_60 : decode cX4_restore 60 = .ok (.bipush 8, 2) := dk_16 8 (dk_at dksX4_restore_2 14 rfl rfl)
theorem dX4_restore_62 : decode cX4_restore 62 = .ok (.if_icmp .ge 18, 3) := dk_162 0 18 (dk_at dksX4_restore_2 16 rfl rfl)
theorem dX4_restore_65 : decode cX4_restore 65 = .ok (.aload_n 0, 1) := dk_42 (dk_at dksX4_restore_2 19 rfl rfl)
theorem dX4_restore_66 : decode cX4_restore 66 = .ok (.getfield 7, 3) := dk_180 0 7 (dk_at dksX4_restore_2 20 rfl rfl)
theorem dX4_restore_69 : decode cX4_restore 69 = .ok (.iconst 0, 1) := dk_3 (dk_at dksX4_restore_2 23 rfl rfl)
theorem dX4_restore_70 : decode cX4_restore 70 = .ok (.iload_n 2, 1) := dk_28 (dk_at dksX4_restore_3 0 rfl rfl)
theorem dX4_restore_71 : decode cX4_restore 71 = .ok (.iadd, 1) := dk_96 (dk_at dksX4_restore_3 1 rfl rfl)
theorem dX4_restore_72 : decode cX4_restore 72 = .ok (.iconst 0, 1) := dk_3 (dk_at dksX4_restore_3 2 rfl rfl)
theorem dX4_restore_73 : decode cX4_restore 73 = .ok (.iastore, 1) := dk_79 (dk_at dksX4_restore_3 3 rfl rfl)
theorem dX4_restore_74 : decode cX4_restore 74 = .ok (.iinc 2 1, 3) := dk_132 2 1 (dk_at dksX4_restore_3 4 rfl rfl)
theorem dX4_restore_77 : decode cX4_restore 77 = .ok (.goto (-18), 3) := dk_167 255 238 (dk_at dksX4_restore_3 7 rfl rfl)
theorem dX4_restore_80 : decode cX4_restore 80 = .ok (.aload_n 0, 1) := dk_42 (dk_at dksX4_restore_3 10 rfl rfl)
theorem dX4_restore_81 : decode cX4_restore 81 = .ok (.getfield 7, 3) := dk_180 0 7 (dk_at dksX4_restore_3 11 rfl rfl)
theorem dX4_restore_84 : decode cX4_restore 84 = .ok (.sipush 287, 3) := dk_17 1 31 (dk_at dksX4_restore_3 14 rfl rfl)
theorem dX4_restore_87 : decode cX4_restore 87 = .ok (.iaload, 1) := dk_46 (dk_at dksX4_restore_3 17 rfl rfl)
theorem dX4_restore_88 : decode cX4_restore 88 = .ok (.ireturn, 1) := dk_172 (dk_at dksX4_restore_3 18 rfl rfl)
abbrev cX4_count : ByteArray := prog_19_method_99_code
def yX4_count : MethodName := ⟨RX4, "count", "(I)I"⟩
def dkwX4_count_4 : List UInt8 := [42, 4, 182, 0, 103, 172]
abbrev dktX4_count_4 : List UInt8 := dkwX4_count_4 ++ []
def dkwX4_count_3 : List UInt8 := [172, 42, 180, 0, 7, 17, 1, 31, 46, 172, 42, 180, 0, 7, 17, 0, 166, 46, 172, 42, 180, 0, 188, 172]
abbrev dktX4_count_3 : List UInt8 := dkwX4_count_3 ++ dktX4_count_4
def dkwX4_count_2 : List UInt8 := [42, 180, 0, 107, 172, 42, 180, 0, 120, 172, 42, 180, 0, 128, 172, 42, 180, 0, 145, 172, 42, 180, 0, 159]
abbrev dktX4_count_2 : List UInt8 := dkwX4_count_2 ++ dktX4_count_3
def dkwX4_count_1 : List UInt8 := [170, 0, 0, 0, 0, 94, 0, 0, 0, 0, 0, 0, 0, 7, 0, 0, 0, 46, 0, 0, 0, 51, 0, 0, 0, 56, 0, 0, 0, 61, 0, 0, 0, 66, 0, 0, 0, 71, 0, 0, 0, 80, 0, 0, 0, 89]
abbrev dktX4_count_1 : List UInt8 := dkwX4_count_1 ++ dktX4_count_2
def dkwX4_count_0 : List UInt8 := [42, 3, 181, 0, 94, 27]
abbrev dktX4_count_0 : List UInt8 := dkwX4_count_0 ++ dktX4_count_1
theorem dksX4_count_0 : cX4_count.data.toList.drop 0 = dktX4_count_0 := by decide +kernel
theorem dksX4_count_1 : cX4_count.data.toList.drop 6 = dktX4_count_1 := dk_seg dksX4_count_0 6 rfl rfl
theorem dksX4_count_2 : cX4_count.data.toList.drop 52 = dktX4_count_2 := dk_seg dksX4_count_1 46 rfl rfl
theorem dksX4_count_3 : cX4_count.data.toList.drop 76 = dktX4_count_3 := dk_seg dksX4_count_2 24 rfl rfl
theorem dksX4_count_4 : cX4_count.data.toList.drop 100 = dktX4_count_4 := dk_seg dksX4_count_3 24 rfl rfl
theorem dX4_count_0 : decode cX4_count 0 = .ok (.aload_n 0, 1) := dk_42 (dk_at dksX4_count_0 0 rfl rfl)
theorem dX4_count_1 : decode cX4_count 1 = .ok (.iconst 0, 1) := dk_3 (dk_at dksX4_count_0 1 rfl rfl)
theorem dX4_count_2 : decode cX4_count 2 = .ok (.putfield 94, 3) := dk_181 0 94 (dk_at dksX4_count_0 2 rfl rfl)
theorem dX4_count_5 : decode cX4_count 5 = .ok (.iload_n 1, 1) := dk_27 (dk_at dksX4_count_0 5 rfl rfl)
theorem dX4_count_6 : decode cX4_count 6 = .ok (.tableswitch 94 0 7 #[46, 51, 56, 61, 66, 71, 80, 89], 46) := by decide +kernel
theorem dX4_count_52 : decode cX4_count 52 = .ok (.aload_n 0, 1) := dk_42 (dk_at dksX4_count_2 0 rfl rfl)
theorem dX4_count_53 : decode cX4_count 53 = .ok (.getfield 107, 3) := dk_180 0 107 (dk_at dksX4_count_2 1 rfl rfl)
theorem dX4_count_56 : decode cX4_count 56 = .ok (.ireturn, 1) := dk_172 (dk_at dksX4_count_2 4 rfl rfl)
theorem dX4_count_57 : decode cX4_count 57 = .ok (.aload_n 0, 1) := dk_42 (dk_at dksX4_count_2 5 rfl rfl)
theorem dX4_count_58 : decode cX4_count 58 = .ok (.getfield 120, 3) := dk_180 0 120 (dk_at dksX4_count_2 6 rfl rfl)
theorem dX4_count_61 : decode cX4_count 61 = .ok (.ireturn, 1) := dk_172 (dk_at dksX4_count_2 9 rfl rfl)
theorem dX4_count_62 : decode cX4_count 62 = .ok (.aload_n 0, 1) := dk_42 (dk_at dksX4_count_2 10 rfl rfl)
theorem dX4_count_63 : decode cX4_count 63 = .ok (.getfield 128, 3) := dk_180 0 128 (dk_at dksX4_count_2 11 rfl rfl)
theorem dX4_count_66 : decode cX4_count 66 = .ok (.ireturn, 1) := dk_172 (dk_at dksX4_count_2 14 rfl rfl)
theorem dX4_count_67 : decode cX4_count 67 = .ok (.aload_n 0, 1) := dk_42 (dk_at dksX4_count_2 15 rfl rfl)
theorem dX4_count_68 : decode cX4_count 68 = .ok (.getfield 145, 3) := dk_180 0 145 (dk_at dksX4_count_2 16 rfl rfl)
theorem dX4_count_71 : decode cX4_count 71 = .ok (.ireturn, 1) := dk_172 (dk_at dksX4_count_2 19 rfl rfl)
theorem dX4_count_72 : decode cX4_count 72 = .ok (.aload_n 0, 1) := dk_42 (dk_at dksX4_count_2 20 rfl rfl)
theorem dX4_count_73 : decode cX4_count 73 = .ok (.getfield 159, 3) := dk_180 0 159 (dk_at dksX4_count_2 21 rfl rfl)
theorem dX4_count_76 : decode cX4_count 76 = .ok (.ireturn, 1) := dk_172 (dk_at dksX4_count_3 0 rfl rfl)
theorem dX4_count_77 : decode cX4_count 77 = .ok (.aload_n 0, 1) := dk_42 (dk_at dksX4_count_3 1 rfl rfl)
theorem dX4_count_78 : decode cX4_count 78 = .ok (.getfield 7, 3) := dk_180 0 7 (dk_at dksX4_count_3 2 rfl rfl)
theorem dX4_count_81 : decode cX4_count 81 = .ok (.sipush 287, 3) := dk_17 1 31 (dk_at dksX4_count_3 5 rfl rfl)
theorem dX4_count_84 : decode cX4_count 84 = .ok (.iaload, 1) := dk_46 (dk_at dksX4_count_3 8 rfl rfl)
theorem dX4_count_85 : decode cX4_count 85 = .ok (.ireturn, 1) := dk_172 (dk_at dksX4_count_3 9 rfl rfl)
theorem dX4_count_86 : decode cX4_count 86 = .ok (.aload_n 0, 1) := dk_42 (dk_at dksX4_count_3 10 rfl rfl)
theorem dX4_count_87 : decode cX4_count 87 = .ok (.getfield 7, 3) := dk_180 0 7 (dk_at dksX4_count_3 11 rfl rfl)
theorem dX4_count_90 : decode cX4_count 90 = .ok (.sipush 166, 3) := dk_17 0 166 (dk_at dksX4_count_3 14 rfl rfl)
theorem dX4_count_93 : decode cX4_count 93 = .ok (.iaload, 1) := dk_46 (dk_at dksX4_count_3 17 rfl rfl)
theorem dX4_count_94 : decode cX4_count 94 = .ok (.ireturn, 1) := dk_172 (dk_at dksX4_count_3 18 rfl rfl)
theorem dX4_count_95 : decode cX4_count 95 = .ok (.aload_n 0, 1) := dk_42 (dk_at dksX4_count_3 19 rfl rfl)
theorem dX4_count_96 : decode cX4_count 96 = .ok (.getfield 188, 3) := dk_180 0 188 (dk_at dksX4_count_3 20 rfl rfl)
theorem dX4_count_99 : decode cX4_count 99 = .ok (.ireturn, 1) := dk_172 (dk_at dksX4_count_3 23 rfl rfl)
theorem dX4_count_100 : decode cX4_count 100 = .ok (.aload_n 0, 1) := dk_42 (dk_at dksX4_count_4 0 rfl rfl)
theorem dX4_count_101 : decode cX4_count 101 = .ok (.iconst 1, 1) := dk_4 (dk_at dksX4_count_4 1 rfl rfl)
theorem dX4_count_102 : decode cX4_count 102 = .ok (.invokevirtual 103, 3) := dk_182 0 103 (dk_at dksX4_count_4 2 rfl rfl)
theorem dX4_count_105 : decode cX4_count 105 = .ok (.ireturn, 1) := dk_172 (dk_at dksX4_count_4 5 rfl rfl)
theorem q133 : (Jvm.Cond.initialized "AnimationControllerModel") ∈ lw_all := lw_g (lw_at lw_m1 26 rfl) rfl
theorem q1129 : (Jvm.Cond.selects "AnimationControllerModel" ({ cls := "java/lang/Object", name := "getClass", desc := "()Ljava/lang/Class;" } : Jvm.MethodName) ({ cls := "java/lang/Object", name := "getClass", desc := "()Ljava/lang/Class;" } : Jvm.MethodName)) ∈ lw_all := lw_g (lw_at lw_m5 62 rfl) rfl
theorem q1289 : (Jvm.Cond.selects "AnimationControllerModel" ({ cls := "java/lang/Object", name := "hashCode", desc := "()I" } : Jvm.MethodName) ({ cls := "java/lang/Object", name := "hashCode", desc := "()I" } : Jvm.MethodName)) ∈ lw_all := lw_g (lw_at lw_m5 222 rfl) rfl
theorem q1386 : (Jvm.Cond.selects "AnimationControllerModel" ({ cls := "java/lang/Object", name := "equals", desc := "(Ljava/lang/Object;)Z" } : Jvm.MethodName) ({ cls := "java/lang/Object", name := "equals", desc := "(Ljava/lang/Object;)Z" } : Jvm.MethodName)) ∈ lw_all := lw_g (lw_at lw_m6 79 rfl) rfl
theorem q2726 : (Jvm.Cond.instantiable "AnimationControllerModel" (42 : Nat)) ∈ lw_all := lw_g (lw_at lw_m11 219 rfl) rfl
theorem q2728 : (Jvm.Cond.instanceMethod ({ cls := "AnimationControllerModel", name := "<init>", desc := "()V" } : Jvm.MethodName)) ∈ lw_all := lw_g (lw_at lw_m11 221 rfl) rfl
theorem q2729 : (Jvm.Cond.code ({ cls := "AnimationControllerModel", name := "<init>", desc := "()V" } : Jvm.MethodName) prog_19_method_1_code (1 : Nat) (Option.none : Option Jvm.ClassFile.FieldType)) ∈ lw_all := lw_g (lw_at lw_m11 222 rfl) rfl
theorem q2730 : (Jvm.Cond.methodLink "AnimationControllerModel" (1 : Nat) ({ cls := "java/lang/Object", name := "<init>", desc := "()V" } : Jvm.MethodName)) ∈ lw_all := lw_g (lw_at lw_m11 223 rfl) rfl
theorem q2731 : (Jvm.Cond.fieldLink "AnimationControllerModel" (7 : Nat) "AnimationControllerModel" "m" "[I") ∈ lw_all := lw_g (lw_at lw_m11 224 rfl) rfl
theorem q2732 : (Jvm.Cond.fieldLink "AnimationControllerModel" (13 : Nat) "AnimationControllerModel" "isKept" "[Z") ∈ lw_all := lw_g (lw_at lw_m11 225 rfl) rfl
theorem q2733 : (Jvm.Cond.fieldLink "AnimationControllerModel" (17 : Nat) "AnimationControllerModel" "parKind" "[I") ∈ lw_all := lw_g (lw_at lw_m11 226 rfl) rfl
theorem q2734 : (Jvm.Cond.fieldLink "AnimationControllerModel" (107 : Nat) "AnimationControllerModel" "parameters" "I") ∈ lw_all := lw_g (lw_at lw_m11 227 rfl) rfl
theorem q2735 : (Jvm.Cond.fieldLink "AnimationControllerModel" (20 : Nat) "AnimationControllerModel" "clipLength" "[I") ∈ lw_all := lw_g (lw_at lw_m11 228 rfl) rfl
theorem q2736 : (Jvm.Cond.fieldLink "AnimationControllerModel" (23 : Nat) "AnimationControllerModel" "eventMany" "[I") ∈ lw_all := lw_g (lw_at lw_m11 229 rfl) rfl
theorem q2737 : (Jvm.Cond.fieldLink "AnimationControllerModel" (26 : Nat) "AnimationControllerModel" "eventTime" "[I") ∈ lw_all := lw_g (lw_at lw_m11 230 rfl) rfl
theorem q2738 : (Jvm.Cond.fieldLink "AnimationControllerModel" (29 : Nat) "AnimationControllerModel" "eventId" "[I") ∈ lw_all := lw_g (lw_at lw_m11 231 rfl) rfl
theorem q2739 : (Jvm.Cond.fieldLink "AnimationControllerModel" (120 : Nat) "AnimationControllerModel" "clips" "I") ∈ lw_all := lw_g (lw_at lw_m11 232 rfl) rfl
theorem q2740 : (Jvm.Cond.fieldLink "AnimationControllerModel" (32 : Nat) "AnimationControllerModel" "nodeClip" "[I") ∈ lw_all := lw_g (lw_at lw_m11 233 rfl) rfl
theorem q2741 : (Jvm.Cond.fieldLink "AnimationControllerModel" (35 : Nat) "AnimationControllerModel" "nodePar" "[I") ∈ lw_all := lw_g (lw_at lw_m11 234 rfl) rfl
theorem q2742 : (Jvm.Cond.fieldLink "AnimationControllerModel" (38 : Nat) "AnimationControllerModel" "childMany" "[I") ∈ lw_all := lw_g (lw_at lw_m11 235 rfl) rfl
theorem q2743 : (Jvm.Cond.fieldLink "AnimationControllerModel" (41 : Nat) "AnimationControllerModel" "childNode" "[I") ∈ lw_all := lw_g (lw_at lw_m11 236 rfl) rfl
theorem q2744 : (Jvm.Cond.fieldLink "AnimationControllerModel" (44 : Nat) "AnimationControllerModel" "childAt" "[I") ∈ lw_all := lw_g (lw_at lw_m11 237 rfl) rfl
theorem q2745 : (Jvm.Cond.fieldLink "AnimationControllerModel" (128 : Nat) "AnimationControllerModel" "nodes" "I") ∈ lw_all := lw_g (lw_at lw_m11 238 rfl) rfl
theorem q2746 : (Jvm.Cond.fieldLink "AnimationControllerModel" (47 : Nat) "AnimationControllerModel" "motion" "[I") ∈ lw_all := lw_g (lw_at lw_m11 239 rfl) rfl
theorem q2747 : (Jvm.Cond.fieldLink "AnimationControllerModel" (50 : Nat) "AnimationControllerModel" "speed" "[I") ∈ lw_all := lw_g (lw_at lw_m12 0 rfl) rfl
theorem q2748 : (Jvm.Cond.fieldLink "AnimationControllerModel" (53 : Nat) "AnimationControllerModel" "loops" "[Z") ∈ lw_all := lw_g (lw_at lw_m12 1 rfl) rfl
theorem q2749 : (Jvm.Cond.fieldLink "AnimationControllerModel" (56 : Nat) "AnimationControllerModel" "group" "[I") ∈ lw_all := lw_g (lw_at lw_m12 2 rfl) rfl
theorem q2750 : (Jvm.Cond.fieldLink "AnimationControllerModel" (145 : Nat) "AnimationControllerModel" "states" "I") ∈ lw_all := lw_g (lw_at lw_m12 3 rfl) rfl
theorem q2751 : (Jvm.Cond.fieldLink "AnimationControllerModel" (59 : Nat) "AnimationControllerModel" "tr" "[I") ∈ lw_all := lw_g (lw_at lw_m12 4 rfl) rfl
theorem q2752 : (Jvm.Cond.fieldLink "AnimationControllerModel" (159 : Nat) "AnimationControllerModel" "transitions" "I") ∈ lw_all := lw_g (lw_at lw_m12 5 rfl) rfl
theorem q2753 : (Jvm.Cond.fieldLink "AnimationControllerModel" (62 : Nat) "AnimationControllerModel" "threshold" "I") ∈ lw_all := lw_g (lw_at lw_m12 6 rfl) rfl
theorem q2754 : (Jvm.Cond.fieldLink "AnimationControllerModel" (66 : Nat) "AnimationControllerModel" "text" "[I") ∈ lw_all := lw_g (lw_at lw_m12 7 rfl) rfl
theorem q2755 : (Jvm.Cond.fieldLink "AnimationControllerModel" (188 : Nat) "AnimationControllerModel" "length" "I") ∈ lw_all := lw_g (lw_at lw_m12 8 rfl) rfl
theorem q2756 : (Jvm.Cond.fieldLink "AnimationControllerModel" (94 : Nat) "AnimationControllerModel" "code" "I") ∈ lw_all := lw_g (lw_at lw_m12 9 rfl) rfl
theorem q2757 : (Jvm.Cond.fieldLink "AnimationControllerModel" (69 : Nat) "AnimationControllerModel" "depth" "[I") ∈ lw_all := lw_g (lw_at lw_m12 10 rfl) rfl
theorem q2758 : (Jvm.Cond.fieldLink "AnimationControllerModel" (72 : Nat) "AnimationControllerModel" "part" "[J") ∈ lw_all := lw_g (lw_at lw_m12 11 rfl) rfl
theorem q2759 : (Jvm.Cond.fieldLink "AnimationControllerModel" (76 : Nat) "AnimationControllerModel" "openNode" "[I") ∈ lw_all := lw_g (lw_at lw_m12 12 rfl) rfl
theorem q2760 : (Jvm.Cond.fieldLink "AnimationControllerModel" (79 : Nat) "AnimationControllerModel" "openWeight" "[J") ∈ lw_all := lw_g (lw_at lw_m12 13 rfl) rfl
theorem q2761 : (Jvm.Cond.fieldLink "AnimationControllerModel" (191 : Nat) "AnimationControllerModel" "at" "I") ∈ lw_all := lw_g (lw_at lw_m12 14 rfl) rfl
theorem q2762 : (Jvm.Cond.fieldLink "AnimationControllerModel" (197 : Nat) "AnimationControllerModel" "fine" "Z") ∈ lw_all := lw_g (lw_at lw_m12 15 rfl) rfl
theorem q2763 : (Jvm.Cond.fieldLink "AnimationControllerModel" (211 : Nat) "AnimationControllerModel" "adds" "Z") ∈ lw_all := lw_g (lw_at lw_m12 16 rfl) rfl
theorem q2764 : (Jvm.Cond.fieldLink "AnimationControllerModel" (208 : Nat) "AnimationControllerModel" "number" "I") ∈ lw_all := lw_g (lw_at lw_m12 17 rfl) rfl
theorem q2765 : (Jvm.Cond.fieldLink "AnimationControllerModel" (214 : Nat) "AnimationControllerModel" "readMany" "I") ∈ lw_all := lw_g (lw_at lw_m12 18 rfl) rfl
theorem q2766 : (Jvm.Cond.fieldLink "AnimationControllerModel" (228 : Nat) "AnimationControllerModel" "were" "I") ∈ lw_all := lw_g (lw_at lw_m12 19 rfl) rfl
theorem q2767 : (Jvm.Cond.fieldLink "AnimationControllerModel" (231 : Nat) "AnimationControllerModel" "conditions" "I") ∈ lw_all := lw_g (lw_at lw_m12 20 rfl) rfl
theorem q2768 : (Jvm.Cond.fieldLink "AnimationControllerModel" (82 : Nat) "AnimationControllerModel" "poseClips" "[I") ∈ lw_all := lw_g (lw_at lw_m12 21 rfl) rfl
theorem q2769 : (Jvm.Cond.fieldLink "AnimationControllerModel" (85 : Nat) "AnimationControllerModel" "poseTimes" "[I") ∈ lw_all := lw_g (lw_at lw_m12 22 rfl) rfl
theorem q2770 : (Jvm.Cond.fieldLink "AnimationControllerModel" (88 : Nat) "AnimationControllerModel" "poseWeights" "[J") ∈ lw_all := lw_g (lw_at lw_m12 23 rfl) rfl
theorem q2771 : (Jvm.Cond.fieldLink "AnimationControllerModel" (265 : Nat) "AnimationControllerModel" "poseMany" "I") ∈ lw_all := lw_g (lw_at lw_m12 24 rfl) rfl
theorem q2772 : (Jvm.Cond.fieldLink "AnimationControllerModel" (91 : Nat) "AnimationControllerModel" "far" "[I") ∈ lw_all := lw_g (lw_at lw_m12 25 rfl) rfl
theorem q2773 : (Jvm.Cond.laysFinal "AnimationControllerModel" "AnimationControllerModel" "m" "[I") ∈ lw_all := lw_g (lw_at lw_m12 26 rfl) rfl
theorem q2774 : (Jvm.Cond.soleField "AnimationControllerModel" "m") ∈ lw_all := lw_g (lw_at lw_m12 27 rfl) rfl
theorem q2775 : (Jvm.Cond.laysFinal "AnimationControllerModel" "AnimationControllerModel" "isKept" "[Z") ∈ lw_all := lw_g (lw_at lw_m12 28 rfl) rfl
theorem q2776 : (Jvm.Cond.soleField "AnimationControllerModel" "isKept") ∈ lw_all := lw_g (lw_at lw_m12 29 rfl) rfl
theorem q2777 : (Jvm.Cond.laysFinal "AnimationControllerModel" "AnimationControllerModel" "parKind" "[I") ∈ lw_all := lw_g (lw_at lw_m12 30 rfl) rfl
theorem q2778 : (Jvm.Cond.soleField "AnimationControllerModel" "parKind") ∈ lw_all := lw_g (lw_at lw_m12 31 rfl) rfl
theorem q2779 : (Jvm.Cond.lays "AnimationControllerModel" "AnimationControllerModel" "parameters" "I") ∈ lw_all := lw_g (lw_at lw_m12 32 rfl) rfl
theorem q2780 : (Jvm.Cond.soleField "AnimationControllerModel" "parameters") ∈ lw_all := lw_g (lw_at lw_m12 33 rfl) rfl
theorem q2781 : (Jvm.Cond.laysFinal "AnimationControllerModel" "AnimationControllerModel" "clipLength" "[I") ∈ lw_all := lw_g (lw_at lw_m12 34 rfl) rfl
theorem q2782 : (Jvm.Cond.soleField "AnimationControllerModel" "clipLength") ∈ lw_all := lw_g (lw_at lw_m12 35 rfl) rfl
theorem q2783 : (Jvm.Cond.laysFinal "AnimationControllerModel" "AnimationControllerModel" "eventMany" "[I") ∈ lw_all := lw_g (lw_at lw_m12 36 rfl) rfl
theorem q2784 : (Jvm.Cond.soleField "AnimationControllerModel" "eventMany") ∈ lw_all := lw_g (lw_at lw_m12 37 rfl) rfl
theorem q2785 : (Jvm.Cond.laysFinal "AnimationControllerModel" "AnimationControllerModel" "eventTime" "[I") ∈ lw_all := lw_g (lw_at lw_m12 38 rfl) rfl
theorem q2786 : (Jvm.Cond.soleField "AnimationControllerModel" "eventTime") ∈ lw_all := lw_g (lw_at lw_m12 39 rfl) rfl
theorem q2787 : (Jvm.Cond.laysFinal "AnimationControllerModel" "AnimationControllerModel" "eventId" "[I") ∈ lw_all := lw_g (lw_at lw_m12 40 rfl) rfl
theorem q2788 : (Jvm.Cond.soleField "AnimationControllerModel" "eventId") ∈ lw_all := lw_g (lw_at lw_m12 41 rfl) rfl
theorem q2789 : (Jvm.Cond.lays "AnimationControllerModel" "AnimationControllerModel" "clips" "I") ∈ lw_all := lw_g (lw_at lw_m12 42 rfl) rfl
theorem q2790 : (Jvm.Cond.soleField "AnimationControllerModel" "clips") ∈ lw_all := lw_g (lw_at lw_m12 43 rfl) rfl
theorem q2791 : (Jvm.Cond.laysFinal "AnimationControllerModel" "AnimationControllerModel" "nodeClip" "[I") ∈ lw_all := lw_g (lw_at lw_m12 44 rfl) rfl
theorem q2792 : (Jvm.Cond.soleField "AnimationControllerModel" "nodeClip") ∈ lw_all := lw_g (lw_at lw_m12 45 rfl) rfl
theorem q2793 : (Jvm.Cond.laysFinal "AnimationControllerModel" "AnimationControllerModel" "nodePar" "[I") ∈ lw_all := lw_g (lw_at lw_m12 46 rfl) rfl
theorem q2794 : (Jvm.Cond.soleField "AnimationControllerModel" "nodePar") ∈ lw_all := lw_g (lw_at lw_m12 47 rfl) rfl
theorem q2795 : (Jvm.Cond.laysFinal "AnimationControllerModel" "AnimationControllerModel" "childMany" "[I") ∈ lw_all := lw_g (lw_at lw_m12 48 rfl) rfl
theorem q2796 : (Jvm.Cond.soleField "AnimationControllerModel" "childMany") ∈ lw_all := lw_g (lw_at lw_m12 49 rfl) rfl
theorem q2797 : (Jvm.Cond.laysFinal "AnimationControllerModel" "AnimationControllerModel" "childNode" "[I") ∈ lw_all := lw_g (lw_at lw_m12 50 rfl) rfl
theorem q2798 : (Jvm.Cond.soleField "AnimationControllerModel" "childNode") ∈ lw_all := lw_g (lw_at lw_m12 51 rfl) rfl
theorem q2799 : (Jvm.Cond.laysFinal "AnimationControllerModel" "AnimationControllerModel" "childAt" "[I") ∈ lw_all := lw_g (lw_at lw_m12 52 rfl) rfl
theorem q2800 : (Jvm.Cond.soleField "AnimationControllerModel" "childAt") ∈ lw_all := lw_g (lw_at lw_m12 53 rfl) rfl
theorem q2801 : (Jvm.Cond.lays "AnimationControllerModel" "AnimationControllerModel" "nodes" "I") ∈ lw_all := lw_g (lw_at lw_m12 54 rfl) rfl
theorem q2802 : (Jvm.Cond.soleField "AnimationControllerModel" "nodes") ∈ lw_all := lw_g (lw_at lw_m12 55 rfl) rfl
theorem q2803 : (Jvm.Cond.laysFinal "AnimationControllerModel" "AnimationControllerModel" "motion" "[I") ∈ lw_all := lw_g (lw_at lw_m12 56 rfl) rfl
theorem q2804 : (Jvm.Cond.soleField "AnimationControllerModel" "motion") ∈ lw_all := lw_g (lw_at lw_m12 57 rfl) rfl
theorem q2805 : (Jvm.Cond.laysFinal "AnimationControllerModel" "AnimationControllerModel" "speed" "[I") ∈ lw_all := lw_g (lw_at lw_m12 58 rfl) rfl
theorem q2806 : (Jvm.Cond.soleField "AnimationControllerModel" "speed") ∈ lw_all := lw_g (lw_at lw_m12 59 rfl) rfl
theorem q2807 : (Jvm.Cond.laysFinal "AnimationControllerModel" "AnimationControllerModel" "loops" "[Z") ∈ lw_all := lw_g (lw_at lw_m12 60 rfl) rfl
theorem q2808 : (Jvm.Cond.soleField "AnimationControllerModel" "loops") ∈ lw_all := lw_g (lw_at lw_m12 61 rfl) rfl
theorem q2809 : (Jvm.Cond.laysFinal "AnimationControllerModel" "AnimationControllerModel" "group" "[I") ∈ lw_all := lw_g (lw_at lw_m12 62 rfl) rfl
theorem q2810 : (Jvm.Cond.soleField "AnimationControllerModel" "group") ∈ lw_all := lw_g (lw_at lw_m12 63 rfl) rfl
theorem q2811 : (Jvm.Cond.lays "AnimationControllerModel" "AnimationControllerModel" "states" "I") ∈ lw_all := lw_g (lw_at lw_m12 64 rfl) rfl
theorem q2812 : (Jvm.Cond.soleField "AnimationControllerModel" "states") ∈ lw_all := lw_g (lw_at lw_m12 65 rfl) rfl
theorem q2813 : (Jvm.Cond.laysFinal "AnimationControllerModel" "AnimationControllerModel" "tr" "[I") ∈ lw_all := lw_g (lw_at lw_m12 66 rfl) rfl
theorem q2814 : (Jvm.Cond.soleField "AnimationControllerModel" "tr") ∈ lw_all := lw_g (lw_at lw_m12 67 rfl) rfl
theorem q2815 : (Jvm.Cond.lays "AnimationControllerModel" "AnimationControllerModel" "transitions" "I") ∈ lw_all := lw_g (lw_at lw_m12 68 rfl) rfl
theorem q2816 : (Jvm.Cond.soleField "AnimationControllerModel" "transitions") ∈ lw_all := lw_g (lw_at lw_m12 69 rfl) rfl
theorem q2817 : (Jvm.Cond.lays "AnimationControllerModel" "AnimationControllerModel" "threshold" "I") ∈ lw_all := lw_g (lw_at lw_m12 70 rfl) rfl
theorem q2818 : (Jvm.Cond.soleField "AnimationControllerModel" "threshold") ∈ lw_all := lw_g (lw_at lw_m12 71 rfl) rfl
theorem q2819 : (Jvm.Cond.laysFinal "AnimationControllerModel" "AnimationControllerModel" "text" "[I") ∈ lw_all := lw_g (lw_at lw_m12 72 rfl) rfl
theorem q2820 : (Jvm.Cond.soleField "AnimationControllerModel" "text") ∈ lw_all := lw_g (lw_at lw_m12 73 rfl) rfl
theorem q2821 : (Jvm.Cond.lays "AnimationControllerModel" "AnimationControllerModel" "length" "I") ∈ lw_all := lw_g (lw_at lw_m12 74 rfl) rfl
theorem q2822 : (Jvm.Cond.soleField "AnimationControllerModel" "length") ∈ lw_all := lw_g (lw_at lw_m12 75 rfl) rfl
theorem q2823 : (Jvm.Cond.lays "AnimationControllerModel" "AnimationControllerModel" "code" "I") ∈ lw_all := lw_g (lw_at lw_m12 76 rfl) rfl
theorem q2824 : (Jvm.Cond.soleField "AnimationControllerModel" "code") ∈ lw_all := lw_g (lw_at lw_m12 77 rfl) rfl
theorem q2825 : (Jvm.Cond.laysFinal "AnimationControllerModel" "AnimationControllerModel" "depth" "[I") ∈ lw_all := lw_g (lw_at lw_m12 78 rfl) rfl
theorem q2826 : (Jvm.Cond.soleField "AnimationControllerModel" "depth") ∈ lw_all := lw_g (lw_at lw_m12 79 rfl) rfl
theorem q2827 : (Jvm.Cond.laysFinal "AnimationControllerModel" "AnimationControllerModel" "part" "[J") ∈ lw_all := lw_g (lw_at lw_m12 80 rfl) rfl
theorem q2828 : (Jvm.Cond.soleField "AnimationControllerModel" "part") ∈ lw_all := lw_g (lw_at lw_m12 81 rfl) rfl
theorem q2829 : (Jvm.Cond.laysFinal "AnimationControllerModel" "AnimationControllerModel" "openNode" "[I") ∈ lw_all := lw_g (lw_at lw_m12 82 rfl) rfl
theorem q2830 : (Jvm.Cond.soleField "AnimationControllerModel" "openNode") ∈ lw_all := lw_g (lw_at lw_m12 83 rfl) rfl
theorem q2831 : (Jvm.Cond.laysFinal "AnimationControllerModel" "AnimationControllerModel" "openWeight" "[J") ∈ lw_all := lw_g (lw_at lw_m12 84 rfl) rfl
theorem q2832 : (Jvm.Cond.soleField "AnimationControllerModel" "openWeight") ∈ lw_all := lw_g (lw_at lw_m12 85 rfl) rfl
theorem q2833 : (Jvm.Cond.lays "AnimationControllerModel" "AnimationControllerModel" "at" "I") ∈ lw_all := lw_g (lw_at lw_m12 86 rfl) rfl
theorem q2834 : (Jvm.Cond.soleField "AnimationControllerModel" "at") ∈ lw_all := lw_g (lw_at lw_m12 87 rfl) rfl
theorem q2835 : (Jvm.Cond.lays "AnimationControllerModel" "AnimationControllerModel" "fine" "Z") ∈ lw_all := lw_g (lw_at lw_m12 88 rfl) rfl
theorem q2836 : (Jvm.Cond.soleField "AnimationControllerModel" "fine") ∈ lw_all := lw_g (lw_at lw_m12 89 rfl) rfl
theorem q2837 : (Jvm.Cond.lays "AnimationControllerModel" "AnimationControllerModel" "adds" "Z") ∈ lw_all := lw_g (lw_at lw_m12 90 rfl) rfl
theorem q2838 : (Jvm.Cond.soleField "AnimationControllerModel" "adds") ∈ lw_all := lw_g (lw_at lw_m12 91 rfl) rfl
theorem q2839 : (Jvm.Cond.lays "AnimationControllerModel" "AnimationControllerModel" "number" "I") ∈ lw_all := lw_g (lw_at lw_m12 92 rfl) rfl
theorem q2840 : (Jvm.Cond.soleField "AnimationControllerModel" "number") ∈ lw_all := lw_g (lw_at lw_m12 93 rfl) rfl
theorem q2841 : (Jvm.Cond.lays "AnimationControllerModel" "AnimationControllerModel" "readMany" "I") ∈ lw_all := lw_g (lw_at lw_m12 94 rfl) rfl
theorem q2842 : (Jvm.Cond.soleField "AnimationControllerModel" "readMany") ∈ lw_all := lw_g (lw_at lw_m12 95 rfl) rfl
theorem q2843 : (Jvm.Cond.lays "AnimationControllerModel" "AnimationControllerModel" "were" "I") ∈ lw_all := lw_g (lw_at lw_m12 96 rfl) rfl
theorem q2844 : (Jvm.Cond.soleField "AnimationControllerModel" "were") ∈ lw_all := lw_g (lw_at lw_m12 97 rfl) rfl
theorem q2845 : (Jvm.Cond.lays "AnimationControllerModel" "AnimationControllerModel" "conditions" "I") ∈ lw_all := lw_g (lw_at lw_m12 98 rfl) rfl
theorem q2846 : (Jvm.Cond.soleField "AnimationControllerModel" "conditions") ∈ lw_all := lw_g (lw_at lw_m12 99 rfl) rfl
theorem q2847 : (Jvm.Cond.laysFinal "AnimationControllerModel" "AnimationControllerModel" "poseClips" "[I") ∈ lw_all := lw_g (lw_at lw_m12 100 rfl) rfl
theorem q2848 : (Jvm.Cond.soleField "AnimationControllerModel" "poseClips") ∈ lw_all := lw_g (lw_at lw_m12 101 rfl) rfl
theorem q2849 : (Jvm.Cond.laysFinal "AnimationControllerModel" "AnimationControllerModel" "poseTimes" "[I") ∈ lw_all := lw_g (lw_at lw_m12 102 rfl) rfl
theorem q2850 : (Jvm.Cond.soleField "AnimationControllerModel" "poseTimes") ∈ lw_all := lw_g (lw_at lw_m12 103 rfl) rfl
theorem q2851 : (Jvm.Cond.laysFinal "AnimationControllerModel" "AnimationControllerModel" "poseWeights" "[J") ∈ lw_all := lw_g (lw_at lw_m12 104 rfl) rfl
theorem q2852 : (Jvm.Cond.soleField "AnimationControllerModel" "poseWeights") ∈ lw_all := lw_g (lw_at lw_m12 105 rfl) rfl
theorem q2853 : (Jvm.Cond.lays "AnimationControllerModel" "AnimationControllerModel" "poseMany" "I") ∈ lw_all := lw_g (lw_at lw_m12 106 rfl) rfl
theorem q2854 : (Jvm.Cond.soleField "AnimationControllerModel" "poseMany") ∈ lw_all := lw_g (lw_at lw_m12 107 rfl) rfl
theorem q2855 : (Jvm.Cond.laysFinal "AnimationControllerModel" "AnimationControllerModel" "far" "[I") ∈ lw_all := lw_g (lw_at lw_m12 108 rfl) rfl
theorem q2856 : (Jvm.Cond.soleField "AnimationControllerModel" "far") ∈ lw_all := lw_g (lw_at lw_m12 109 rfl) rfl
theorem q2857 : (Jvm.Cond.superclass "AnimationControllerModel" "java/lang/Object") ∈ lw_all := lw_g (lw_at lw_m12 110 rfl) rfl
theorem q2860 : (Jvm.Cond.instanceMethod ({ cls := "AnimationControllerModel", name := "thrown", desc := "()I" } : Jvm.MethodName)) ∈ lw_all := lw_g (lw_at lw_m12 113 rfl) rfl
theorem q2861 : (Jvm.Cond.selects "AnimationControllerModel" ({ cls := "AnimationControllerModel", name := "thrown", desc := "()I" } : Jvm.MethodName) ({ cls := "AnimationControllerModel", name := "thrown", desc := "()I" } : Jvm.MethodName)) ∈ lw_all := lw_g (lw_at lw_m12 114 rfl) rfl
theorem q2862 : (Jvm.Cond.code ({ cls := "AnimationControllerModel", name := "thrown", desc := "()I" } : Jvm.MethodName) prog_19_method_2_code (1 : Nat) (Option.some Jvm.ClassFile.FieldType.int)) ∈ lw_all := lw_g (lw_at lw_m12 115 rfl) rfl
theorem q2864 : (Jvm.Cond.instanceMethod ({ cls := "AnimationControllerModel", name := "addParameter", desc := "(I)I" } : Jvm.MethodName)) ∈ lw_all := lw_g (lw_at lw_m12 117 rfl) rfl
theorem q2865 : (Jvm.Cond.selects "AnimationControllerModel" ({ cls := "AnimationControllerModel", name := "addParameter", desc := "(I)I" } : Jvm.MethodName) ({ cls := "AnimationControllerModel", name := "addParameter", desc := "(I)I" } : Jvm.MethodName)) ∈ lw_all := lw_g (lw_at lw_m12 118 rfl) rfl
theorem q2866 : (Jvm.Cond.code ({ cls := "AnimationControllerModel", name := "addParameter", desc := "(I)I" } : Jvm.MethodName) prog_19_method_5_code (2 : Nat) (Option.some Jvm.ClassFile.FieldType.int)) ∈ lw_all := lw_g (lw_at lw_m12 119 rfl) rfl
theorem q2867 : (Jvm.Cond.constantLong "AnimationControllerModel" (97 : Nat) (2 : Int64)) ∈ lw_all := lw_g (lw_at lw_m12 120 rfl) rfl
theorem q2868 : (Jvm.Cond.methodLink "AnimationControllerModel" (99 : Nat) ({ cls := "AnimationControllerModel", name := "in", desc := "(JJJ)Z" } : Jvm.MethodName)) ∈ lw_all := lw_g (lw_at lw_m12 121 rfl) rfl
theorem q2869 : (Jvm.Cond.static ({ cls := "AnimationControllerModel", name := "in", desc := "(JJJ)Z" } : Jvm.MethodName)) ∈ lw_all := lw_g (lw_at lw_m12 122 rfl) rfl
theorem q2870 : (Jvm.Cond.code ({ cls := "AnimationControllerModel", name := "in", desc := "(JJJ)Z" } : Jvm.MethodName) prog_19_method_3_code (6 : Nat) (Option.some Jvm.ClassFile.FieldType.boolean)) ∈ lw_all := lw_g (lw_at lw_m12 123 rfl) rfl
theorem q2871 : (Jvm.Cond.methodLink "AnimationControllerModel" (103 : Nat) ({ cls := "AnimationControllerModel", name := "fails", desc := "(I)I" } : Jvm.MethodName)) ∈ lw_all := lw_g (lw_at lw_m12 124 rfl) rfl
theorem q2872 : (Jvm.Cond.privateMethod ({ cls := "AnimationControllerModel", name := "fails", desc := "(I)I" } : Jvm.MethodName)) ∈ lw_tbl := lw_at lw_m12 125 rfl
theorem q2873 : (Jvm.Cond.instanceMethod ({ cls := "AnimationControllerModel", name := "fails", desc := "(I)I" } : Jvm.MethodName)) ∈ lw_all := lw_g (lw_at lw_m12 126 rfl) rfl
theorem q2874 : (Jvm.Cond.code ({ cls := "AnimationControllerModel", name := "fails", desc := "(I)I" } : Jvm.MethodName) prog_19_method_4_code (2 : Nat) (Option.some Jvm.ClassFile.FieldType.int)) ∈ lw_all := lw_g (lw_at lw_m12 127 rfl) rfl
theorem q2876 : (Jvm.Cond.instanceMethod ({ cls := "AnimationControllerModel", name := "set", desc := "(II)I" } : Jvm.MethodName)) ∈ lw_all := lw_g (lw_at lw_m12 129 rfl) rfl
theorem q2877 : (Jvm.Cond.selects "AnimationControllerModel" ({ cls := "AnimationControllerModel", name := "set", desc := "(II)I" } : Jvm.MethodName) ({ cls := "AnimationControllerModel", name := "set", desc := "(II)I" } : Jvm.MethodName)) ∈ lw_all := lw_g (lw_at lw_m12 130 rfl) rfl
theorem q2878 : (Jvm.Cond.code ({ cls := "AnimationControllerModel", name := "set", desc := "(II)I" } : Jvm.MethodName) prog_19_method_7_code (5 : Nat) (Option.some Jvm.ClassFile.FieldType.int)) ∈ lw_all := lw_g (lw_at lw_m12 131 rfl) rfl
theorem q2879 : (Jvm.Cond.methodLink "AnimationControllerModel" (110 : Nat) ({ cls := "AnimationControllerModel", name := "isParameter", desc := "(I)Z" } : Jvm.MethodName)) ∈ lw_all := lw_g (lw_at lw_m12 132 rfl) rfl
theorem q2880 : (Jvm.Cond.privateMethod ({ cls := "AnimationControllerModel", name := "isParameter", desc := "(I)Z" } : Jvm.MethodName)) ∈ lw_tbl := lw_at lw_m12 133 rfl
theorem q2881 : (Jvm.Cond.instanceMethod ({ cls := "AnimationControllerModel", name := "isParameter", desc := "(I)Z" } : Jvm.MethodName)) ∈ lw_all := lw_g (lw_at lw_m12 134 rfl) rfl
theorem q2882 : (Jvm.Cond.code ({ cls := "AnimationControllerModel", name := "isParameter", desc := "(I)Z" } : Jvm.MethodName) prog_19_method_6_code (2 : Nat) (Option.some Jvm.ClassFile.FieldType.boolean)) ∈ lw_all := lw_g (lw_at lw_m12 135 rfl) rfl
theorem q2883 : (Jvm.Cond.constantLong "AnimationControllerModel" (114 : Nat) (-100 : Int64)) ∈ lw_all := lw_g (lw_at lw_m12 136 rfl) rfl
theorem q2884 : (Jvm.Cond.constantLong "AnimationControllerModel" (116 : Nat) (100 : Int64)) ∈ lw_all := lw_g (lw_at lw_m12 137 rfl) rfl
theorem q2886 : (Jvm.Cond.instanceMethod ({ cls := "AnimationControllerModel", name := "value", desc := "(I)I" } : Jvm.MethodName)) ∈ lw_all := lw_g (lw_at lw_m12 139 rfl) rfl
theorem q2887 : (Jvm.Cond.selects "AnimationControllerModel" ({ cls := "AnimationControllerModel", name := "value", desc := "(I)I" } : Jvm.MethodName) ({ cls := "AnimationControllerModel", name := "value", desc := "(I)I" } : Jvm.MethodName)) ∈ lw_all := lw_g (lw_at lw_m12 140 rfl) rfl
theorem q2888 : (Jvm.Cond.code ({ cls := "AnimationControllerModel", name := "value", desc := "(I)I" } : Jvm.MethodName) prog_19_method_8_code (2 : Nat) (Option.some Jvm.ClassFile.FieldType.int)) ∈ lw_all := lw_g (lw_at lw_m12 141 rfl) rfl
theorem q2890 : (Jvm.Cond.instanceMethod ({ cls := "AnimationControllerModel", name := "addClip", desc := "(I)I" } : Jvm.MethodName)) ∈ lw_all := lw_g (lw_at lw_m12 143 rfl) rfl
theorem q2891 : (Jvm.Cond.selects "AnimationControllerModel" ({ cls := "AnimationControllerModel", name := "addClip", desc := "(I)I" } : Jvm.MethodName) ({ cls := "AnimationControllerModel", name := "addClip", desc := "(I)I" } : Jvm.MethodName)) ∈ lw_all := lw_g (lw_at lw_m12 144 rfl) rfl
theorem q2892 : (Jvm.Cond.code ({ cls := "AnimationControllerModel", name := "addClip", desc := "(I)I" } : Jvm.MethodName) prog_19_method_9_code (2 : Nat) (Option.some Jvm.ClassFile.FieldType.int)) ∈ lw_all := lw_g (lw_at lw_m12 145 rfl) rfl
theorem q2893 : (Jvm.Cond.constantLong "AnimationControllerModel" (118 : Nat) (500 : Int64)) ∈ lw_all := lw_g (lw_at lw_m12 146 rfl) rfl
theorem q2895 : (Jvm.Cond.instanceMethod ({ cls := "AnimationControllerModel", name := "addEvent", desc := "(III)I" } : Jvm.MethodName)) ∈ lw_all := lw_g (lw_at lw_m12 148 rfl) rfl
theorem q2896 : (Jvm.Cond.selects "AnimationControllerModel" ({ cls := "AnimationControllerModel", name := "addEvent", desc := "(III)I" } : Jvm.MethodName) ({ cls := "AnimationControllerModel", name := "addEvent", desc := "(III)I" } : Jvm.MethodName)) ∈ lw_all := lw_g (lw_at lw_m12 149 rfl) rfl
theorem q2897 : (Jvm.Cond.code ({ cls := "AnimationControllerModel", name := "addEvent", desc := "(III)I" } : Jvm.MethodName) prog_19_method_11_code (5 : Nat) (Option.some Jvm.ClassFile.FieldType.int)) ∈ lw_all := lw_g (lw_at lw_m12 150 rfl) rfl
theorem q2898 : (Jvm.Cond.methodLink "AnimationControllerModel" (123 : Nat) ({ cls := "AnimationControllerModel", name := "isClip", desc := "(I)Z" } : Jvm.MethodName)) ∈ lw_all := lw_g (lw_at lw_m12 151 rfl) rfl
theorem q2899 : (Jvm.Cond.privateMethod ({ cls := "AnimationControllerModel", name := "isClip", desc := "(I)Z" } : Jvm.MethodName)) ∈ lw_tbl := lw_at lw_m12 152 rfl
theorem q2900 : (Jvm.Cond.instanceMethod ({ cls := "AnimationControllerModel", name := "isClip", desc := "(I)Z" } : Jvm.MethodName)) ∈ lw_all := lw_g (lw_at lw_m12 153 rfl) rfl
theorem q2901 : (Jvm.Cond.code ({ cls := "AnimationControllerModel", name := "isClip", desc := "(I)Z" } : Jvm.MethodName) prog_19_method_10_code (2 : Nat) (Option.some Jvm.ClassFile.FieldType.boolean)) ∈ lw_all := lw_g (lw_at lw_m12 154 rfl) rfl
theorem q2902 : (Jvm.Cond.constantLong "AnimationControllerModel" (126 : Nat) (99 : Int64)) ∈ lw_all := lw_g (lw_at lw_m12 155 rfl) rfl
theorem q2904 : (Jvm.Cond.instanceMethod ({ cls := "AnimationControllerModel", name := "addClipNode", desc := "(I)I" } : Jvm.MethodName)) ∈ lw_all := lw_g (lw_at lw_m12 157 rfl) rfl
theorem q2905 : (Jvm.Cond.selects "AnimationControllerModel" ({ cls := "AnimationControllerModel", name := "addClipNode", desc := "(I)I" } : Jvm.MethodName) ({ cls := "AnimationControllerModel", name := "addClipNode", desc := "(I)I" } : Jvm.MethodName)) ∈ lw_all := lw_g (lw_at lw_m12 158 rfl) rfl
theorem q2906 : (Jvm.Cond.code ({ cls := "AnimationControllerModel", name := "addClipNode", desc := "(I)I" } : Jvm.MethodName) prog_19_method_12_code (2 : Nat) (Option.some Jvm.ClassFile.FieldType.int)) ∈ lw_all := lw_g (lw_at lw_m12 159 rfl) rfl
theorem q2908 : (Jvm.Cond.instanceMethod ({ cls := "AnimationControllerModel", name := "addLine", desc := "(I)I" } : Jvm.MethodName)) ∈ lw_all := lw_g (lw_at lw_m12 161 rfl) rfl
theorem q2909 : (Jvm.Cond.selects "AnimationControllerModel" ({ cls := "AnimationControllerModel", name := "addLine", desc := "(I)I" } : Jvm.MethodName) ({ cls := "AnimationControllerModel", name := "addLine", desc := "(I)I" } : Jvm.MethodName)) ∈ lw_all := lw_g (lw_at lw_m12 162 rfl) rfl
theorem q2910 : (Jvm.Cond.code ({ cls := "AnimationControllerModel", name := "addLine", desc := "(I)I" } : Jvm.MethodName) prog_19_method_13_code (2 : Nat) (Option.some Jvm.ClassFile.FieldType.int)) ∈ lw_all := lw_g (lw_at lw_m12 163 rfl) rfl
theorem q2912 : (Jvm.Cond.instanceMethod ({ cls := "AnimationControllerModel", name := "addChild", desc := "(III)I" } : Jvm.MethodName)) ∈ lw_all := lw_g (lw_at lw_m12 165 rfl) rfl
theorem q2913 : (Jvm.Cond.selects "AnimationControllerModel" ({ cls := "AnimationControllerModel", name := "addChild", desc := "(III)I" } : Jvm.MethodName) ({ cls := "AnimationControllerModel", name := "addChild", desc := "(III)I" } : Jvm.MethodName)) ∈ lw_all := lw_g (lw_at lw_m12 166 rfl) rfl
theorem q2914 : (Jvm.Cond.code ({ cls := "AnimationControllerModel", name := "addChild", desc := "(III)I" } : Jvm.MethodName) prog_19_method_17_code (6 : Nat) (Option.some Jvm.ClassFile.FieldType.int)) ∈ lw_all := lw_g (lw_at lw_m12 167 rfl) rfl
theorem q2915 : (Jvm.Cond.methodLink "AnimationControllerModel" (131 : Nat) ({ cls := "AnimationControllerModel", name := "isNode", desc := "(I)Z" } : Jvm.MethodName)) ∈ lw_all := lw_g (lw_at lw_m12 168 rfl) rfl
theorem q2916 : (Jvm.Cond.privateMethod ({ cls := "AnimationControllerModel", name := "isNode", desc := "(I)Z" } : Jvm.MethodName)) ∈ lw_tbl := lw_at lw_m12 169 rfl
theorem q2917 : (Jvm.Cond.instanceMethod ({ cls := "AnimationControllerModel", name := "isNode", desc := "(I)Z" } : Jvm.MethodName)) ∈ lw_all := lw_g (lw_at lw_m12 170 rfl) rfl
theorem q2918 : (Jvm.Cond.code ({ cls := "AnimationControllerModel", name := "isNode", desc := "(I)Z" } : Jvm.MethodName) prog_19_method_14_code (2 : Nat) (Option.some Jvm.ClassFile.FieldType.boolean)) ∈ lw_all := lw_g (lw_at lw_m12 171 rfl) rfl
theorem q2919 : (Jvm.Cond.methodLink "AnimationControllerModel" (134 : Nat) ({ cls := "AnimationControllerModel", name := "isComplete", desc := "(I)Z" } : Jvm.MethodName)) ∈ lw_all := lw_g (lw_at lw_m12 172 rfl) rfl
theorem q2920 : (Jvm.Cond.privateMethod ({ cls := "AnimationControllerModel", name := "isComplete", desc := "(I)Z" } : Jvm.MethodName)) ∈ lw_tbl := lw_at lw_m12 173 rfl
theorem q2921 : (Jvm.Cond.instanceMethod ({ cls := "AnimationControllerModel", name := "isComplete", desc := "(I)Z" } : Jvm.MethodName)) ∈ lw_all := lw_g (lw_at lw_m12 174 rfl) rfl
theorem q2922 : (Jvm.Cond.code ({ cls := "AnimationControllerModel", name := "isComplete", desc := "(I)Z" } : Jvm.MethodName) prog_19_method_15_code (2 : Nat) (Option.some Jvm.ClassFile.FieldType.boolean)) ∈ lw_all := lw_g (lw_at lw_m12 175 rfl) rfl
theorem q2923 : (Jvm.Cond.methodLink "AnimationControllerModel" (137 : Nat) ({ cls := "AnimationControllerModel", name := "greatestDepth", desc := "(II)I" } : Jvm.MethodName)) ∈ lw_all := lw_g (lw_at lw_m12 176 rfl) rfl
theorem q2924 : (Jvm.Cond.privateMethod ({ cls := "AnimationControllerModel", name := "greatestDepth", desc := "(II)I" } : Jvm.MethodName)) ∈ lw_tbl := lw_at lw_m12 177 rfl
theorem q2925 : (Jvm.Cond.instanceMethod ({ cls := "AnimationControllerModel", name := "greatestDepth", desc := "(II)I" } : Jvm.MethodName)) ∈ lw_all := lw_g (lw_at lw_m12 178 rfl) rfl
theorem q2926 : (Jvm.Cond.code ({ cls := "AnimationControllerModel", name := "greatestDepth", desc := "(II)I" } : Jvm.MethodName) prog_19_method_16_code (7 : Nat) (Option.some Jvm.ClassFile.FieldType.int)) ∈ lw_all := lw_g (lw_at lw_m12 179 rfl) rfl
theorem q2928 : (Jvm.Cond.instanceMethod ({ cls := "AnimationControllerModel", name := "addState", desc := "(IIZI)I" } : Jvm.MethodName)) ∈ lw_all := lw_g (lw_at lw_m12 181 rfl) rfl
theorem q2929 : (Jvm.Cond.selects "AnimationControllerModel" ({ cls := "AnimationControllerModel", name := "addState", desc := "(IIZI)I" } : Jvm.MethodName) ({ cls := "AnimationControllerModel", name := "addState", desc := "(IIZI)I" } : Jvm.MethodName)) ∈ lw_all := lw_g (lw_at lw_m12 182 rfl) rfl
theorem q2930 : (Jvm.Cond.code ({ cls := "AnimationControllerModel", name := "addState", desc := "(IIZI)I" } : Jvm.MethodName) prog_19_method_21_code (5 : Nat) (Option.some Jvm.ClassFile.FieldType.int)) ∈ lw_all := lw_g (lw_at lw_m12 183 rfl) rfl
theorem q2931 : (Jvm.Cond.constantLong "AnimationControllerModel" (148 : Nat) (400 : Int64)) ∈ lw_all := lw_g (lw_at lw_m12 184 rfl) rfl
theorem q2932 : (Jvm.Cond.constantLong "AnimationControllerModel" (150 : Nat) (3 : Int64)) ∈ lw_all := lw_g (lw_at lw_m12 185 rfl) rfl
theorem q2933 : (Jvm.Cond.methodLink "AnimationControllerModel" (152 : Nat) ({ cls := "AnimationControllerModel", name := "begins", desc := "()V" } : Jvm.MethodName)) ∈ lw_all := lw_g (lw_at lw_m12 186 rfl) rfl
theorem q2934 : (Jvm.Cond.privateMethod ({ cls := "AnimationControllerModel", name := "begins", desc := "()V" } : Jvm.MethodName)) ∈ lw_tbl := lw_at lw_m12 187 rfl
theorem q2935 : (Jvm.Cond.instanceMethod ({ cls := "AnimationControllerModel", name := "begins", desc := "()V" } : Jvm.MethodName)) ∈ lw_all := lw_g (lw_at lw_m12 188 rfl) rfl
theorem q2936 : (Jvm.Cond.code ({ cls := "AnimationControllerModel", name := "begins", desc := "()V" } : Jvm.MethodName) prog_19_method_22_code (1 : Nat) (Option.none : Option Jvm.ClassFile.FieldType)) ∈ lw_all := lw_g (lw_at lw_m12 189 rfl) rfl
theorem q2937 : (Jvm.Cond.methodLink "AnimationControllerModel" (155 : Nat) ({ cls := "AnimationControllerModel", name := "track", desc := "(III)V" } : Jvm.MethodName)) ∈ lw_all := lw_g (lw_at lw_m12 190 rfl) rfl
theorem q2938 : (Jvm.Cond.privateMethod ({ cls := "AnimationControllerModel", name := "track", desc := "(III)V" } : Jvm.MethodName)) ∈ lw_tbl := lw_at lw_m12 191 rfl
theorem q2939 : (Jvm.Cond.instanceMethod ({ cls := "AnimationControllerModel", name := "track", desc := "(III)V" } : Jvm.MethodName)) ∈ lw_all := lw_g (lw_at lw_m12 192 rfl) rfl
theorem q2940 : (Jvm.Cond.code ({ cls := "AnimationControllerModel", name := "track", desc := "(III)V" } : Jvm.MethodName) prog_19_method_23_code (4 : Nat) (Option.none : Option Jvm.ClassFile.FieldType)) ∈ lw_all := lw_g (lw_at lw_m12 193 rfl) rfl
theorem q2942 : (Jvm.Cond.instanceMethod ({ cls := "AnimationControllerModel", name := "addTransition", desc := "(III)I" } : Jvm.MethodName)) ∈ lw_all := lw_g (lw_at lw_m12 195 rfl) rfl
theorem q2943 : (Jvm.Cond.selects "AnimationControllerModel" ({ cls := "AnimationControllerModel", name := "addTransition", desc := "(III)I" } : Jvm.MethodName) ({ cls := "AnimationControllerModel", name := "addTransition", desc := "(III)I" } : Jvm.MethodName)) ∈ lw_all := lw_g (lw_at lw_m12 196 rfl) rfl
theorem q2944 : (Jvm.Cond.code ({ cls := "AnimationControllerModel", name := "addTransition", desc := "(III)I" } : Jvm.MethodName) prog_19_method_26_code (4 : Nat) (Option.some Jvm.ClassFile.FieldType.int)) ∈ lw_all := lw_g (lw_at lw_m12 197 rfl) rfl
theorem q2945 : (Jvm.Cond.methodLink "AnimationControllerModel" (162 : Nat) ({ cls := "AnimationControllerModel", name := "isState", desc := "(I)Z" } : Jvm.MethodName)) ∈ lw_all := lw_g (lw_at lw_m12 198 rfl) rfl
theorem q2946 : (Jvm.Cond.privateMethod ({ cls := "AnimationControllerModel", name := "isState", desc := "(I)Z" } : Jvm.MethodName)) ∈ lw_tbl := lw_at lw_m12 199 rfl
theorem q2947 : (Jvm.Cond.instanceMethod ({ cls := "AnimationControllerModel", name := "isState", desc := "(I)Z" } : Jvm.MethodName)) ∈ lw_all := lw_g (lw_at lw_m12 200 rfl) rfl
theorem q2948 : (Jvm.Cond.code ({ cls := "AnimationControllerModel", name := "isState", desc := "(I)Z" } : Jvm.MethodName) prog_19_method_20_code (2 : Nat) (Option.some Jvm.ClassFile.FieldType.boolean)) ∈ lw_all := lw_g (lw_at lw_m12 201 rfl) rfl
theorem q2949 : (Jvm.Cond.constantLong "AnimationControllerModel" (165 : Nat) (60 : Int64)) ∈ lw_all := lw_g (lw_at lw_m12 202 rfl) rfl
theorem q2950 : (Jvm.Cond.methodLink "AnimationControllerModel" (167 : Nat) ({ cls := "AnimationControllerModel", name := "newTransition", desc := "(III)V" } : Jvm.MethodName)) ∈ lw_all := lw_g (lw_at lw_m12 203 rfl) rfl
theorem q2951 : (Jvm.Cond.privateMethod ({ cls := "AnimationControllerModel", name := "newTransition", desc := "(III)V" } : Jvm.MethodName)) ∈ lw_tbl := lw_at lw_m12 204 rfl
theorem q2952 : (Jvm.Cond.instanceMethod ({ cls := "AnimationControllerModel", name := "newTransition", desc := "(III)V" } : Jvm.MethodName)) ∈ lw_all := lw_g (lw_at lw_m12 205 rfl) rfl
theorem q2953 : (Jvm.Cond.code ({ cls := "AnimationControllerModel", name := "newTransition", desc := "(III)V" } : Jvm.MethodName) prog_19_method_25_code (6 : Nat) (Option.none : Option Jvm.ClassFile.FieldType)) ∈ lw_all := lw_g (lw_at lw_m12 206 rfl) rfl
theorem q2955 : (Jvm.Cond.instanceMethod ({ cls := "AnimationControllerModel", name := "setTiming", desc := "(III)I" } : Jvm.MethodName)) ∈ lw_all := lw_g (lw_at lw_m12 208 rfl) rfl
theorem q2956 : (Jvm.Cond.selects "AnimationControllerModel" ({ cls := "AnimationControllerModel", name := "setTiming", desc := "(III)I" } : Jvm.MethodName) ({ cls := "AnimationControllerModel", name := "setTiming", desc := "(III)I" } : Jvm.MethodName)) ∈ lw_all := lw_g (lw_at lw_m12 209 rfl) rfl
theorem q2957 : (Jvm.Cond.code ({ cls := "AnimationControllerModel", name := "setTiming", desc := "(III)I" } : Jvm.MethodName) prog_19_method_28_code (5 : Nat) (Option.some Jvm.ClassFile.FieldType.int)) ∈ lw_all := lw_g (lw_at lw_m12 210 rfl) rfl
theorem q2958 : (Jvm.Cond.methodLink "AnimationControllerModel" (170 : Nat) ({ cls := "AnimationControllerModel", name := "isTransition", desc := "(I)Z" } : Jvm.MethodName)) ∈ lw_all := lw_g (lw_at lw_m12 211 rfl) rfl
theorem q2959 : (Jvm.Cond.privateMethod ({ cls := "AnimationControllerModel", name := "isTransition", desc := "(I)Z" } : Jvm.MethodName)) ∈ lw_tbl := lw_at lw_m12 212 rfl
theorem q2960 : (Jvm.Cond.instanceMethod ({ cls := "AnimationControllerModel", name := "isTransition", desc := "(I)Z" } : Jvm.MethodName)) ∈ lw_all := lw_g (lw_at lw_m12 213 rfl) rfl
theorem q2961 : (Jvm.Cond.code ({ cls := "AnimationControllerModel", name := "isTransition", desc := "(I)Z" } : Jvm.MethodName) prog_19_method_27_code (2 : Nat) (Option.some Jvm.ClassFile.FieldType.boolean)) ∈ lw_all := lw_g (lw_at lw_m12 214 rfl) rfl
theorem q2962 : (Jvm.Cond.constantLong "AnimationControllerModel" (173 : Nat) (-1 : Int64)) ∈ lw_all := lw_g (lw_at lw_m12 215 rfl) rfl
theorem q2963 : (Jvm.Cond.constantLong "AnimationControllerModel" (175 : Nat) (300 : Int64)) ∈ lw_all := lw_g (lw_at lw_m12 216 rfl) rfl
theorem q2964 : (Jvm.Cond.methodLink "AnimationControllerModel" (177 : Nat) ({ cls := "AnimationControllerModel", name := "of", desc := "(II)I" } : Jvm.MethodName)) ∈ lw_all := lw_g (lw_at lw_m12 217 rfl) rfl
theorem q2965 : (Jvm.Cond.privateMethod ({ cls := "AnimationControllerModel", name := "of", desc := "(II)I" } : Jvm.MethodName)) ∈ lw_tbl := lw_at lw_m12 218 rfl
theorem q2966 : (Jvm.Cond.instanceMethod ({ cls := "AnimationControllerModel", name := "of", desc := "(II)I" } : Jvm.MethodName)) ∈ lw_all := lw_g (lw_at lw_m12 219 rfl) rfl
theorem q2967 : (Jvm.Cond.code ({ cls := "AnimationControllerModel", name := "of", desc := "(II)I" } : Jvm.MethodName) prog_19_method_24_code (3 : Nat) (Option.some Jvm.ClassFile.FieldType.int)) ∈ lw_all := lw_g (lw_at lw_m12 220 rfl) rfl
theorem q2969 : (Jvm.Cond.instanceMethod ({ cls := "AnimationControllerModel", name := "setInterruption", desc := "(IIZ)I" } : Jvm.MethodName)) ∈ lw_all := lw_g (lw_at lw_m12 222 rfl) rfl
theorem q2970 : (Jvm.Cond.selects "AnimationControllerModel" ({ cls := "AnimationControllerModel", name := "setInterruption", desc := "(IIZ)I" } : Jvm.MethodName) ({ cls := "AnimationControllerModel", name := "setInterruption", desc := "(IIZ)I" } : Jvm.MethodName)) ∈ lw_all := lw_g (lw_at lw_m12 223 rfl) rfl
theorem q2971 : (Jvm.Cond.code ({ cls := "AnimationControllerModel", name := "setInterruption", desc := "(IIZ)I" } : Jvm.MethodName) prog_19_method_29_code (5 : Nat) (Option.some Jvm.ClassFile.FieldType.int)) ∈ lw_all := lw_g (lw_at lw_m12 224 rfl) rfl
theorem q2972 : (Jvm.Cond.constantLong "AnimationControllerModel" (180 : Nat) (4 : Int64)) ∈ lw_all := lw_g (lw_at lw_m12 225 rfl) rfl
theorem q2974 : (Jvm.Cond.instanceMethod ({ cls := "AnimationControllerModel", name := "addCondition", desc := "(IIII)I" } : Jvm.MethodName)) ∈ lw_all := lw_g (lw_at lw_m12 227 rfl) rfl
theorem q2975 : (Jvm.Cond.selects "AnimationControllerModel" ({ cls := "AnimationControllerModel", name := "addCondition", desc := "(IIII)I" } : Jvm.MethodName) ({ cls := "AnimationControllerModel", name := "addCondition", desc := "(IIII)I" } : Jvm.MethodName)) ∈ lw_all := lw_g (lw_at lw_m12 228 rfl) rfl
theorem q2976 : (Jvm.Cond.code ({ cls := "AnimationControllerModel", name := "addCondition", desc := "(IIII)I" } : Jvm.MethodName) prog_19_method_31_code (7 : Nat) (Option.some Jvm.ClassFile.FieldType.int)) ∈ lw_all := lw_g (lw_at lw_m12 229 rfl) rfl
theorem q2977 : (Jvm.Cond.methodLink "AnimationControllerModel" (182 : Nat) ({ cls := "AnimationControllerModel", name := "condition", desc := "(IIII)V" } : Jvm.MethodName)) ∈ lw_all := lw_g (lw_at lw_m12 230 rfl) rfl
theorem q2978 : (Jvm.Cond.privateMethod ({ cls := "AnimationControllerModel", name := "condition", desc := "(IIII)V" } : Jvm.MethodName)) ∈ lw_tbl := lw_at lw_m12 231 rfl
theorem q2979 : (Jvm.Cond.instanceMethod ({ cls := "AnimationControllerModel", name := "condition", desc := "(IIII)V" } : Jvm.MethodName)) ∈ lw_all := lw_g (lw_at lw_m12 232 rfl) rfl
theorem q2980 : (Jvm.Cond.code ({ cls := "AnimationControllerModel", name := "condition", desc := "(IIII)V" } : Jvm.MethodName) prog_19_method_30_code (6 : Nat) (Option.none : Option Jvm.ClassFile.FieldType)) ∈ lw_all := lw_g (lw_at lw_m12 233 rfl) rfl
theorem q2982 : (Jvm.Cond.instanceMethod ({ cls := "AnimationControllerModel", name := "setThreshold", desc := "(I)I" } : Jvm.MethodName)) ∈ lw_all := lw_g (lw_at lw_m12 235 rfl) rfl
theorem q2983 : (Jvm.Cond.selects "AnimationControllerModel" ({ cls := "AnimationControllerModel", name := "setThreshold", desc := "(I)I" } : Jvm.MethodName) ({ cls := "AnimationControllerModel", name := "setThreshold", desc := "(I)I" } : Jvm.MethodName)) ∈ lw_all := lw_g (lw_at lw_m12 236 rfl) rfl
theorem q2984 : (Jvm.Cond.code ({ cls := "AnimationControllerModel", name := "setThreshold", desc := "(I)I" } : Jvm.MethodName) prog_19_method_32_code (3 : Nat) (Option.some Jvm.ClassFile.FieldType.int)) ∈ lw_all := lw_g (lw_at lw_m12 237 rfl) rfl
theorem q2986 : (Jvm.Cond.instanceMethod ({ cls := "AnimationControllerModel", name := "type", desc := "(I)I" } : Jvm.MethodName)) ∈ lw_all := lw_g (lw_at lw_m12 239 rfl) rfl
theorem q2987 : (Jvm.Cond.selects "AnimationControllerModel" ({ cls := "AnimationControllerModel", name := "type", desc := "(I)I" } : Jvm.MethodName) ({ cls := "AnimationControllerModel", name := "type", desc := "(I)I" } : Jvm.MethodName)) ∈ lw_all := lw_g (lw_at lw_m13 0 rfl) rfl
theorem q2988 : (Jvm.Cond.code ({ cls := "AnimationControllerModel", name := "type", desc := "(I)I" } : Jvm.MethodName) prog_19_method_33_code (2 : Nat) (Option.some Jvm.ClassFile.FieldType.int)) ∈ lw_all := lw_g (lw_at lw_m13 1 rfl) rfl
theorem q2989 : (Jvm.Cond.constantLong "AnimationControllerModel" (186 : Nat) (255 : Int64)) ∈ lw_all := lw_g (lw_at lw_m13 2 rfl) rfl
theorem q2991 : (Jvm.Cond.instanceMethod ({ cls := "AnimationControllerModel", name := "clearText", desc := "()I" } : Jvm.MethodName)) ∈ lw_all := lw_g (lw_at lw_m13 4 rfl) rfl
theorem q2992 : (Jvm.Cond.selects "AnimationControllerModel" ({ cls := "AnimationControllerModel", name := "clearText", desc := "()I" } : Jvm.MethodName) ({ cls := "AnimationControllerModel", name := "clearText", desc := "()I" } : Jvm.MethodName)) ∈ lw_all := lw_g (lw_at lw_m13 5 rfl) rfl
theorem q2993 : (Jvm.Cond.code ({ cls := "AnimationControllerModel", name := "clearText", desc := "()I" } : Jvm.MethodName) prog_19_method_34_code (2 : Nat) (Option.some Jvm.ClassFile.FieldType.int)) ∈ lw_all := lw_g (lw_at lw_m13 6 rfl) rfl
theorem q2995 : (Jvm.Cond.instanceMethod ({ cls := "AnimationControllerModel", name := "fault", desc := "()I" } : Jvm.MethodName)) ∈ lw_all := lw_g (lw_at lw_m13 8 rfl) rfl
theorem q2996 : (Jvm.Cond.selects "AnimationControllerModel" ({ cls := "AnimationControllerModel", name := "fault", desc := "()I" } : Jvm.MethodName) ({ cls := "AnimationControllerModel", name := "fault", desc := "()I" } : Jvm.MethodName)) ∈ lw_all := lw_g (lw_at lw_m13 9 rfl) rfl
theorem q2997 : (Jvm.Cond.code ({ cls := "AnimationControllerModel", name := "fault", desc := "()I" } : Jvm.MethodName) prog_19_method_45_code (1 : Nat) (Option.some Jvm.ClassFile.FieldType.int)) ∈ lw_all := lw_g (lw_at lw_m13 10 rfl) rfl
theorem q2998 : (Jvm.Cond.methodLink "AnimationControllerModel" (247 : Nat) ({ cls := "AnimationControllerModel", name := "readsAll", desc := "(Z)Z" } : Jvm.MethodName)) ∈ lw_all := lw_g (lw_at lw_m13 11 rfl) rfl
theorem q2999 : (Jvm.Cond.privateMethod ({ cls := "AnimationControllerModel", name := "readsAll", desc := "(Z)Z" } : Jvm.MethodName)) ∈ lw_tbl := lw_at lw_m13 12 rfl
theorem q3000 : (Jvm.Cond.instanceMethod ({ cls := "AnimationControllerModel", name := "readsAll", desc := "(Z)Z" } : Jvm.MethodName)) ∈ lw_all := lw_g (lw_at lw_m13 13 rfl) rfl
theorem q3001 : (Jvm.Cond.code ({ cls := "AnimationControllerModel", name := "readsAll", desc := "(Z)Z" } : Jvm.MethodName) prog_19_method_44_code (2 : Nat) (Option.some Jvm.ClassFile.FieldType.boolean)) ∈ lw_all := lw_g (lw_at lw_m13 14 rfl) rfl
theorem q3002 : (Jvm.Cond.methodLink "AnimationControllerModel" (244 : Nat) ({ cls := "AnimationControllerModel", name := "readsTransition", desc := "()V" } : Jvm.MethodName)) ∈ lw_all := lw_g (lw_at lw_m13 15 rfl) rfl
theorem q3003 : (Jvm.Cond.privateMethod ({ cls := "AnimationControllerModel", name := "readsTransition", desc := "()V" } : Jvm.MethodName)) ∈ lw_tbl := lw_at lw_m13 16 rfl
theorem q3004 : (Jvm.Cond.instanceMethod ({ cls := "AnimationControllerModel", name := "readsTransition", desc := "()V" } : Jvm.MethodName)) ∈ lw_all := lw_g (lw_at lw_m13 17 rfl) rfl
theorem q3005 : (Jvm.Cond.code ({ cls := "AnimationControllerModel", name := "readsTransition", desc := "()V" } : Jvm.MethodName) prog_19_method_40_code (3 : Nat) (Option.none : Option Jvm.ClassFile.FieldType)) ∈ lw_all := lw_g (lw_at lw_m13 18 rfl) rfl
theorem q3006 : (Jvm.Cond.methodLink "AnimationControllerModel" (194 : Nat) ({ cls := "AnimationControllerModel", name := "skips", desc := "()V" } : Jvm.MethodName)) ∈ lw_all := lw_g (lw_at lw_m13 19 rfl) rfl
theorem q3007 : (Jvm.Cond.privateMethod ({ cls := "AnimationControllerModel", name := "skips", desc := "()V" } : Jvm.MethodName)) ∈ lw_tbl := lw_at lw_m13 20 rfl
theorem q3008 : (Jvm.Cond.instanceMethod ({ cls := "AnimationControllerModel", name := "skips", desc := "()V" } : Jvm.MethodName)) ∈ lw_all := lw_g (lw_at lw_m13 21 rfl) rfl
theorem q3009 : (Jvm.Cond.code ({ cls := "AnimationControllerModel", name := "skips", desc := "()V" } : Jvm.MethodName) prog_19_method_35_code (1 : Nat) (Option.none : Option Jvm.ClassFile.FieldType)) ∈ lw_all := lw_g (lw_at lw_m13 22 rfl) rfl
theorem q3010 : (Jvm.Cond.methodLink "AnimationControllerModel" (217 : Nat) ({ cls := "AnimationControllerModel", name := "readsState", desc := "(Z)I" } : Jvm.MethodName)) ∈ lw_all := lw_g (lw_at lw_m13 23 rfl) rfl
theorem q3011 : (Jvm.Cond.privateMethod ({ cls := "AnimationControllerModel", name := "readsState", desc := "(Z)I" } : Jvm.MethodName)) ∈ lw_tbl := lw_at lw_m13 24 rfl
theorem q3012 : (Jvm.Cond.instanceMethod ({ cls := "AnimationControllerModel", name := "readsState", desc := "(Z)I" } : Jvm.MethodName)) ∈ lw_all := lw_g (lw_at lw_m13 25 rfl) rfl
theorem q3013 : (Jvm.Cond.code ({ cls := "AnimationControllerModel", name := "readsState", desc := "(Z)I" } : Jvm.MethodName) prog_19_method_39_code (3 : Nat) (Option.some Jvm.ClassFile.FieldType.int)) ∈ lw_all := lw_g (lw_at lw_m13 26 rfl) rfl
theorem q3014 : (Jvm.Cond.methodLink "AnimationControllerModel" (201 : Nat) ({ cls := "AnimationControllerModel", name := "here", desc := "(I)Z" } : Jvm.MethodName)) ∈ lw_all := lw_g (lw_at lw_m13 27 rfl) rfl
theorem q3015 : (Jvm.Cond.privateMethod ({ cls := "AnimationControllerModel", name := "here", desc := "(I)Z" } : Jvm.MethodName)) ∈ lw_tbl := lw_at lw_m13 28 rfl
theorem q3016 : (Jvm.Cond.instanceMethod ({ cls := "AnimationControllerModel", name := "here", desc := "(I)Z" } : Jvm.MethodName)) ∈ lw_all := lw_g (lw_at lw_m13 29 rfl) rfl
theorem q3017 : (Jvm.Cond.code ({ cls := "AnimationControllerModel", name := "here", desc := "(I)Z" } : Jvm.MethodName) prog_19_method_36_code (2 : Nat) (Option.some Jvm.ClassFile.FieldType.boolean)) ∈ lw_all := lw_g (lw_at lw_m13 30 rfl) rfl
theorem q3018 : (Jvm.Cond.methodLink "AnimationControllerModel" (221 : Nat) ({ cls := "AnimationControllerModel", name := "reads", desc := "(I)V" } : Jvm.MethodName)) ∈ lw_all := lw_g (lw_at lw_m13 31 rfl) rfl
theorem q3019 : (Jvm.Cond.privateMethod ({ cls := "AnimationControllerModel", name := "reads", desc := "(I)V" } : Jvm.MethodName)) ∈ lw_tbl := lw_at lw_m13 32 rfl
theorem q3020 : (Jvm.Cond.instanceMethod ({ cls := "AnimationControllerModel", name := "reads", desc := "(I)V" } : Jvm.MethodName)) ∈ lw_all := lw_g (lw_at lw_m13 33 rfl) rfl
theorem q3021 : (Jvm.Cond.code ({ cls := "AnimationControllerModel", name := "reads", desc := "(I)V" } : Jvm.MethodName) prog_19_method_37_code (2 : Nat) (Option.none : Option Jvm.ClassFile.FieldType)) ∈ lw_all := lw_g (lw_at lw_m13 34 rfl) rfl
theorem q3022 : (Jvm.Cond.methodLink "AnimationControllerModel" (225 : Nat) ({ cls := "AnimationControllerModel", name := "readsNumber", desc := "(I)V" } : Jvm.MethodName)) ∈ lw_all := lw_g (lw_at lw_m13 35 rfl) rfl
theorem q3023 : (Jvm.Cond.privateMethod ({ cls := "AnimationControllerModel", name := "readsNumber", desc := "(I)V" } : Jvm.MethodName)) ∈ lw_tbl := lw_at lw_m13 36 rfl
theorem q3024 : (Jvm.Cond.instanceMethod ({ cls := "AnimationControllerModel", name := "readsNumber", desc := "(I)V" } : Jvm.MethodName)) ∈ lw_all := lw_g (lw_at lw_m13 37 rfl) rfl
theorem q3025 : (Jvm.Cond.code ({ cls := "AnimationControllerModel", name := "readsNumber", desc := "(I)V" } : Jvm.MethodName) prog_19_method_38_code (5 : Nat) (Option.none : Option Jvm.ClassFile.FieldType)) ∈ lw_all := lw_g (lw_at lw_m13 38 rfl) rfl
theorem q3026 : (Jvm.Cond.constantLong "AnimationControllerModel" (204 : Nat) (48 : Int64)) ∈ lw_all := lw_g (lw_at lw_m13 39 rfl) rfl
theorem q3027 : (Jvm.Cond.constantLong "AnimationControllerModel" (206 : Nat) (57 : Int64)) ∈ lw_all := lw_g (lw_at lw_m13 40 rfl) rfl
theorem q3028 : (Jvm.Cond.methodLink "AnimationControllerModel" (234 : Nat) ({ cls := "AnimationControllerModel", name := "readsAttribute", desc := "()V" } : Jvm.MethodName)) ∈ lw_all := lw_g (lw_at lw_m13 41 rfl) rfl
theorem q3029 : (Jvm.Cond.privateMethod ({ cls := "AnimationControllerModel", name := "readsAttribute", desc := "()V" } : Jvm.MethodName)) ∈ lw_tbl := lw_at lw_m13 42 rfl
theorem q3030 : (Jvm.Cond.instanceMethod ({ cls := "AnimationControllerModel", name := "readsAttribute", desc := "()V" } : Jvm.MethodName)) ∈ lw_all := lw_g (lw_at lw_m13 43 rfl) rfl
theorem q3031 : (Jvm.Cond.code ({ cls := "AnimationControllerModel", name := "readsAttribute", desc := "()V" } : Jvm.MethodName) prog_19_method_42_code (2 : Nat) (Option.none : Option Jvm.ClassFile.FieldType)) ∈ lw_all := lw_g (lw_at lw_m13 44 rfl) rfl
theorem q3032 : (Jvm.Cond.methodLink "AnimationControllerModel" (237 : Nat) ({ cls := "AnimationControllerModel", name := "readsCondition", desc := "()V" } : Jvm.MethodName)) ∈ lw_all := lw_g (lw_at lw_m13 45 rfl) rfl
theorem q3033 : (Jvm.Cond.privateMethod ({ cls := "AnimationControllerModel", name := "readsCondition", desc := "()V" } : Jvm.MethodName)) ∈ lw_tbl := lw_at lw_m13 46 rfl
theorem q3034 : (Jvm.Cond.instanceMethod ({ cls := "AnimationControllerModel", name := "readsCondition", desc := "()V" } : Jvm.MethodName)) ∈ lw_all := lw_g (lw_at lw_m13 47 rfl) rfl
theorem q3035 : (Jvm.Cond.code ({ cls := "AnimationControllerModel", name := "readsCondition", desc := "()V" } : Jvm.MethodName) prog_19_method_43_code (6 : Nat) (Option.none : Option Jvm.ClassFile.FieldType)) ∈ lw_all := lw_g (lw_at lw_m13 48 rfl) rfl
theorem q3036 : (Jvm.Cond.methodLink "AnimationControllerModel" (240 : Nat) ({ cls := "AnimationControllerModel", name := "sets", desc := "(II)V" } : Jvm.MethodName)) ∈ lw_all := lw_g (lw_at lw_m13 49 rfl) rfl
theorem q3037 : (Jvm.Cond.privateMethod ({ cls := "AnimationControllerModel", name := "sets", desc := "(II)V" } : Jvm.MethodName)) ∈ lw_tbl := lw_at lw_m13 50 rfl
theorem q3038 : (Jvm.Cond.instanceMethod ({ cls := "AnimationControllerModel", name := "sets", desc := "(II)V" } : Jvm.MethodName)) ∈ lw_all := lw_g (lw_at lw_m13 51 rfl) rfl
theorem q3039 : (Jvm.Cond.code ({ cls := "AnimationControllerModel", name := "sets", desc := "(II)V" } : Jvm.MethodName) prog_19_method_41_code (3 : Nat) (Option.none : Option Jvm.ClassFile.FieldType)) ∈ lw_all := lw_g (lw_at lw_m13 52 rfl) rfl
theorem q3041 : (Jvm.Cond.instanceMethod ({ cls := "AnimationControllerModel", name := "load", desc := "()I" } : Jvm.MethodName)) ∈ lw_all := lw_g (lw_at lw_m13 54 rfl) rfl
theorem q3042 : (Jvm.Cond.selects "AnimationControllerModel" ({ cls := "AnimationControllerModel", name := "load", desc := "()I" } : Jvm.MethodName) ({ cls := "AnimationControllerModel", name := "load", desc := "()I" } : Jvm.MethodName)) ∈ lw_all := lw_g (lw_at lw_m13 55 rfl) rfl
theorem q3043 : (Jvm.Cond.code ({ cls := "AnimationControllerModel", name := "load", desc := "()I" } : Jvm.MethodName) prog_19_method_46_code (1 : Nat) (Option.some Jvm.ClassFile.FieldType.int)) ∈ lw_all := lw_g (lw_at lw_m13 56 rfl) rfl
theorem q3045 : (Jvm.Cond.instanceMethod ({ cls := "AnimationControllerModel", name := "poseSize", desc := "()I" } : Jvm.MethodName)) ∈ lw_all := lw_g (lw_at lw_m13 58 rfl) rfl
theorem q3046 : (Jvm.Cond.selects "AnimationControllerModel" ({ cls := "AnimationControllerModel", name := "poseSize", desc := "()I" } : Jvm.MethodName) ({ cls := "AnimationControllerModel", name := "poseSize", desc := "()I" } : Jvm.MethodName)) ∈ lw_all := lw_g (lw_at lw_m13 59 rfl) rfl
theorem q3047 : (Jvm.Cond.code ({ cls := "AnimationControllerModel", name := "poseSize", desc := "()I" } : Jvm.MethodName) prog_19_method_57_code (1 : Nat) (Option.some Jvm.ClassFile.FieldType.int)) ∈ lw_all := lw_g (lw_at lw_m13 60 rfl) rfl
theorem q3048 : (Jvm.Cond.methodLink "AnimationControllerModel" (283 : Nat) ({ cls := "AnimationControllerModel", name := "poses", desc := "()V" } : Jvm.MethodName)) ∈ lw_all := lw_g (lw_at lw_m13 61 rfl) rfl
theorem q3049 : (Jvm.Cond.privateMethod ({ cls := "AnimationControllerModel", name := "poses", desc := "()V" } : Jvm.MethodName)) ∈ lw_tbl := lw_at lw_m13 62 rfl
theorem q3050 : (Jvm.Cond.instanceMethod ({ cls := "AnimationControllerModel", name := "poses", desc := "()V" } : Jvm.MethodName)) ∈ lw_all := lw_g (lw_at lw_m13 63 rfl) rfl
theorem q3051 : (Jvm.Cond.code ({ cls := "AnimationControllerModel", name := "poses", desc := "()V" } : Jvm.MethodName) prog_19_method_56_code (3 : Nat) (Option.none : Option Jvm.ClassFile.FieldType)) ∈ lw_all := lw_g (lw_at lw_m13 64 rfl) rfl
theorem q3052 : (Jvm.Cond.constantLong "AnimationControllerModel" (251 : Nat) (1000000 : Int64)) ∈ lw_all := lw_g (lw_at lw_m13 65 rfl) rfl
theorem q3053 : (Jvm.Cond.methodLink "AnimationControllerModel" (272 : Nat) ({ cls := "AnimationControllerModel", name := "addsTrack", desc := "(IJ)V" } : Jvm.MethodName)) ∈ lw_all := lw_g (lw_at lw_m13 66 rfl) rfl
theorem q3054 : (Jvm.Cond.privateMethod ({ cls := "AnimationControllerModel", name := "addsTrack", desc := "(IJ)V" } : Jvm.MethodName)) ∈ lw_tbl := lw_at lw_m13 67 rfl
theorem q3055 : (Jvm.Cond.instanceMethod ({ cls := "AnimationControllerModel", name := "addsTrack", desc := "(IJ)V" } : Jvm.MethodName)) ∈ lw_all := lw_g (lw_at lw_m13 68 rfl) rfl
theorem q3056 : (Jvm.Cond.code ({ cls := "AnimationControllerModel", name := "addsTrack", desc := "(IJ)V" } : Jvm.MethodName) prog_19_method_54_code (7 : Nat) (Option.none : Option Jvm.ClassFile.FieldType)) ∈ lw_all := lw_g (lw_at lw_m13 69 rfl) rfl
theorem q3057 : (Jvm.Cond.methodLink "AnimationControllerModel" (253 : Nat) ({ cls := "AnimationControllerModel", name := "blends", desc := "(IJ)V" } : Jvm.MethodName)) ∈ lw_all := lw_g (lw_at lw_m13 70 rfl) rfl
theorem q3058 : (Jvm.Cond.privateMethod ({ cls := "AnimationControllerModel", name := "blends", desc := "(IJ)V" } : Jvm.MethodName)) ∈ lw_tbl := lw_at lw_m13 71 rfl
theorem q3059 : (Jvm.Cond.instanceMethod ({ cls := "AnimationControllerModel", name := "blends", desc := "(IJ)V" } : Jvm.MethodName)) ∈ lw_all := lw_g (lw_at lw_m13 72 rfl) rfl
theorem q3060 : (Jvm.Cond.code ({ cls := "AnimationControllerModel", name := "blends", desc := "(IJ)V" } : Jvm.MethodName) prog_19_method_18_code (8 : Nat) (Option.none : Option Jvm.ClassFile.FieldType)) ∈ lw_all := lw_g (lw_at lw_m13 73 rfl) rfl
theorem q3061 : (Jvm.Cond.methodLink "AnimationControllerModel" (141 : Nat) ({ cls := "AnimationControllerModel", name := "opens", desc := "(IJI)I" } : Jvm.MethodName)) ∈ lw_all := lw_g (lw_at lw_m13 74 rfl) rfl
theorem q3062 : (Jvm.Cond.privateMethod ({ cls := "AnimationControllerModel", name := "opens", desc := "(IJI)I" } : Jvm.MethodName)) ∈ lw_tbl := lw_at lw_m13 75 rfl
theorem q3063 : (Jvm.Cond.instanceMethod ({ cls := "AnimationControllerModel", name := "opens", desc := "(IJI)I" } : Jvm.MethodName)) ∈ lw_all := lw_g (lw_at lw_m13 76 rfl) rfl
theorem q3064 : (Jvm.Cond.code ({ cls := "AnimationControllerModel", name := "opens", desc := "(IJI)I" } : Jvm.MethodName) prog_19_method_19_code (10 : Nat) (Option.some Jvm.ClassFile.FieldType.int)) ∈ lw_all := lw_g (lw_at lw_m13 77 rfl) rfl
theorem q3065 : (Jvm.Cond.methodLink "AnimationControllerModel" (268 : Nat) ({ cls := "AnimationControllerModel", name := "addsEntry", desc := "(IIJ)V" } : Jvm.MethodName)) ∈ lw_all := lw_g (lw_at lw_m13 78 rfl) rfl
theorem q3066 : (Jvm.Cond.privateMethod ({ cls := "AnimationControllerModel", name := "addsEntry", desc := "(IIJ)V" } : Jvm.MethodName)) ∈ lw_tbl := lw_at lw_m13 79 rfl
theorem q3067 : (Jvm.Cond.instanceMethod ({ cls := "AnimationControllerModel", name := "addsEntry", desc := "(IIJ)V" } : Jvm.MethodName)) ∈ lw_all := lw_g (lw_at lw_m13 80 rfl) rfl
theorem q3068 : (Jvm.Cond.code ({ cls := "AnimationControllerModel", name := "addsEntry", desc := "(IIJ)V" } : Jvm.MethodName) prog_19_method_53_code (7 : Nat) (Option.none : Option Jvm.ClassFile.FieldType)) ∈ lw_all := lw_g (lw_at lw_m13 81 rfl) rfl
theorem q3069 : (Jvm.Cond.methodLink "AnimationControllerModel" (275 : Nat) ({ cls := "AnimationControllerModel", name := "shareOfTarget", desc := "()J" } : Jvm.MethodName)) ∈ lw_all := lw_g (lw_at lw_m13 82 rfl) rfl
theorem q3070 : (Jvm.Cond.privateMethod ({ cls := "AnimationControllerModel", name := "shareOfTarget", desc := "()J" } : Jvm.MethodName)) ∈ lw_tbl := lw_at lw_m13 83 rfl
theorem q3071 : (Jvm.Cond.instanceMethod ({ cls := "AnimationControllerModel", name := "shareOfTarget", desc := "()J" } : Jvm.MethodName)) ∈ lw_all := lw_g (lw_at lw_m13 84 rfl) rfl
theorem q3072 : (Jvm.Cond.code ({ cls := "AnimationControllerModel", name := "shareOfTarget", desc := "()J" } : Jvm.MethodName) prog_19_method_51_code (1 : Nat) (Option.some Jvm.ClassFile.FieldType.long)) ∈ lw_all := lw_g (lw_at lw_m13 85 rfl) rfl
theorem q3073 : (Jvm.Cond.methodLink "AnimationControllerModel" (279 : Nat) ({ cls := "AnimationControllerModel", name := "addsFrozen", desc := "(J)V" } : Jvm.MethodName)) ∈ lw_all := lw_g (lw_at lw_m13 86 rfl) rfl
theorem q3074 : (Jvm.Cond.privateMethod ({ cls := "AnimationControllerModel", name := "addsFrozen", desc := "(J)V" } : Jvm.MethodName)) ∈ lw_tbl := lw_at lw_m13 87 rfl
theorem q3075 : (Jvm.Cond.instanceMethod ({ cls := "AnimationControllerModel", name := "addsFrozen", desc := "(J)V" } : Jvm.MethodName)) ∈ lw_all := lw_g (lw_at lw_m13 88 rfl) rfl
theorem q3076 : (Jvm.Cond.code ({ cls := "AnimationControllerModel", name := "addsFrozen", desc := "(J)V" } : Jvm.MethodName) prog_19_method_55_code (8 : Nat) (Option.none : Option Jvm.ClassFile.FieldType)) ∈ lw_all := lw_g (lw_at lw_m13 89 rfl) rfl
theorem q3078 : (Jvm.Cond.instanceMethod ({ cls := "AnimationControllerModel", name := "poseClip", desc := "(I)I" } : Jvm.MethodName)) ∈ lw_all := lw_g (lw_at lw_m13 91 rfl) rfl
theorem q3079 : (Jvm.Cond.selects "AnimationControllerModel" ({ cls := "AnimationControllerModel", name := "poseClip", desc := "(I)I" } : Jvm.MethodName) ({ cls := "AnimationControllerModel", name := "poseClip", desc := "(I)I" } : Jvm.MethodName)) ∈ lw_all := lw_g (lw_at lw_m13 92 rfl) rfl
theorem q3080 : (Jvm.Cond.code ({ cls := "AnimationControllerModel", name := "poseClip", desc := "(I)I" } : Jvm.MethodName) prog_19_method_59_code (2 : Nat) (Option.some Jvm.ClassFile.FieldType.int)) ∈ lw_all := lw_g (lw_at lw_m13 93 rfl) rfl
theorem q3081 : (Jvm.Cond.methodLink "AnimationControllerModel" (286 : Nat) ({ cls := "AnimationControllerModel", name := "hasEntry", desc := "(I)Z" } : Jvm.MethodName)) ∈ lw_all := lw_g (lw_at lw_m13 94 rfl) rfl
theorem q3082 : (Jvm.Cond.privateMethod ({ cls := "AnimationControllerModel", name := "hasEntry", desc := "(I)Z" } : Jvm.MethodName)) ∈ lw_tbl := lw_at lw_m13 95 rfl
theorem q3083 : (Jvm.Cond.instanceMethod ({ cls := "AnimationControllerModel", name := "hasEntry", desc := "(I)Z" } : Jvm.MethodName)) ∈ lw_all := lw_g (lw_at lw_m13 96 rfl) rfl
theorem q3084 : (Jvm.Cond.code ({ cls := "AnimationControllerModel", name := "hasEntry", desc := "(I)Z" } : Jvm.MethodName) prog_19_method_58_code (2 : Nat) (Option.some Jvm.ClassFile.FieldType.boolean)) ∈ lw_all := lw_g (lw_at lw_m13 97 rfl) rfl
theorem q3086 : (Jvm.Cond.instanceMethod ({ cls := "AnimationControllerModel", name := "poseTime", desc := "(I)I" } : Jvm.MethodName)) ∈ lw_all := lw_g (lw_at lw_m13 99 rfl) rfl
theorem q3087 : (Jvm.Cond.selects "AnimationControllerModel" ({ cls := "AnimationControllerModel", name := "poseTime", desc := "(I)I" } : Jvm.MethodName) ({ cls := "AnimationControllerModel", name := "poseTime", desc := "(I)I" } : Jvm.MethodName)) ∈ lw_all := lw_g (lw_at lw_m13 100 rfl) rfl
theorem q3088 : (Jvm.Cond.code ({ cls := "AnimationControllerModel", name := "poseTime", desc := "(I)I" } : Jvm.MethodName) prog_19_method_60_code (2 : Nat) (Option.some Jvm.ClassFile.FieldType.int)) ∈ lw_all := lw_g (lw_at lw_m13 101 rfl) rfl
theorem q3090 : (Jvm.Cond.instanceMethod ({ cls := "AnimationControllerModel", name := "poseWeight", desc := "(I)I" } : Jvm.MethodName)) ∈ lw_all := lw_g (lw_at lw_m13 103 rfl) rfl
theorem q3091 : (Jvm.Cond.selects "AnimationControllerModel" ({ cls := "AnimationControllerModel", name := "poseWeight", desc := "(I)I" } : Jvm.MethodName) ({ cls := "AnimationControllerModel", name := "poseWeight", desc := "(I)I" } : Jvm.MethodName)) ∈ lw_all := lw_g (lw_at lw_m13 104 rfl) rfl
theorem q3092 : (Jvm.Cond.code ({ cls := "AnimationControllerModel", name := "poseWeight", desc := "(I)I" } : Jvm.MethodName) prog_19_method_61_code (2 : Nat) (Option.some Jvm.ClassFile.FieldType.int)) ∈ lw_all := lw_g (lw_at lw_m13 105 rfl) rfl
theorem q3094 : (Jvm.Cond.instanceMethod ({ cls := "AnimationControllerModel", name := "blocked", desc := "(I)I" } : Jvm.MethodName)) ∈ lw_all := lw_g (lw_at lw_m13 107 rfl) rfl
theorem q3095 : (Jvm.Cond.selects "AnimationControllerModel" ({ cls := "AnimationControllerModel", name := "blocked", desc := "(I)I" } : Jvm.MethodName) ({ cls := "AnimationControllerModel", name := "blocked", desc := "(I)I" } : Jvm.MethodName)) ∈ lw_all := lw_g (lw_at lw_m13 108 rfl) rfl
theorem q3096 : (Jvm.Cond.code ({ cls := "AnimationControllerModel", name := "blocked", desc := "(I)I" } : Jvm.MethodName) prog_19_method_70_code (3 : Nat) (Option.some Jvm.ClassFile.FieldType.int)) ∈ lw_all := lw_g (lw_at lw_m13 109 rfl) rfl
theorem q3097 : (Jvm.Cond.methodLink "AnimationControllerModel" (307 : Nat) ({ cls := "AnimationControllerModel", name := "listOf", desc := "(I)I" } : Jvm.MethodName)) ∈ lw_all := lw_g (lw_at lw_m13 110 rfl) rfl
theorem q3098 : (Jvm.Cond.privateMethod ({ cls := "AnimationControllerModel", name := "listOf", desc := "(I)I" } : Jvm.MethodName)) ∈ lw_tbl := lw_at lw_m13 111 rfl
theorem q3099 : (Jvm.Cond.instanceMethod ({ cls := "AnimationControllerModel", name := "listOf", desc := "(I)I" } : Jvm.MethodName)) ∈ lw_all := lw_g (lw_at lw_m13 112 rfl) rfl
theorem q3100 : (Jvm.Cond.code ({ cls := "AnimationControllerModel", name := "listOf", desc := "(I)I" } : Jvm.MethodName) prog_19_method_66_code (5 : Nat) (Option.some Jvm.ClassFile.FieldType.int)) ∈ lw_all := lw_g (lw_at lw_m13 113 rfl) rfl
theorem q3101 : (Jvm.Cond.methodLink "AnimationControllerModel" (289 : Nat) ({ cls := "AnimationControllerModel", name := "inList", desc := "(II)Z" } : Jvm.MethodName)) ∈ lw_all := lw_g (lw_at lw_m13 114 rfl) rfl
theorem q3102 : (Jvm.Cond.privateMethod ({ cls := "AnimationControllerModel", name := "inList", desc := "(II)Z" } : Jvm.MethodName)) ∈ lw_tbl := lw_at lw_m13 115 rfl
theorem q3103 : (Jvm.Cond.instanceMethod ({ cls := "AnimationControllerModel", name := "inList", desc := "(II)Z" } : Jvm.MethodName)) ∈ lw_all := lw_g (lw_at lw_m13 116 rfl) rfl
theorem q3104 : (Jvm.Cond.code ({ cls := "AnimationControllerModel", name := "inList", desc := "(II)Z" } : Jvm.MethodName) prog_19_method_62_code (3 : Nat) (Option.some Jvm.ClassFile.FieldType.boolean)) ∈ lw_all := lw_g (lw_at lw_m13 117 rfl) rfl
theorem q3105 : (Jvm.Cond.methodLink "AnimationControllerModel" (293 : Nat) ({ cls := "AnimationControllerModel", name := "isBack", desc := "(II)Z" } : Jvm.MethodName)) ∈ lw_all := lw_g (lw_at lw_m13 118 rfl) rfl
theorem q3106 : (Jvm.Cond.privateMethod ({ cls := "AnimationControllerModel", name := "isBack", desc := "(II)Z" } : Jvm.MethodName)) ∈ lw_tbl := lw_at lw_m13 119 rfl
theorem q3107 : (Jvm.Cond.instanceMethod ({ cls := "AnimationControllerModel", name := "isBack", desc := "(II)Z" } : Jvm.MethodName)) ∈ lw_all := lw_g (lw_at lw_m13 120 rfl) rfl
theorem q3108 : (Jvm.Cond.code ({ cls := "AnimationControllerModel", name := "isBack", desc := "(II)Z" } : Jvm.MethodName) prog_19_method_63_code (3 : Nat) (Option.some Jvm.ClassFile.FieldType.boolean)) ∈ lw_all := lw_g (lw_at lw_m13 121 rfl) rfl
theorem q3109 : (Jvm.Cond.methodLink "AnimationControllerModel" (296 : Nat) ({ cls := "AnimationControllerModel", name := "inSource", desc := "(I)Z" } : Jvm.MethodName)) ∈ lw_all := lw_g (lw_at lw_m13 122 rfl) rfl
theorem q3110 : (Jvm.Cond.privateMethod ({ cls := "AnimationControllerModel", name := "inSource", desc := "(I)Z" } : Jvm.MethodName)) ∈ lw_tbl := lw_at lw_m13 123 rfl
theorem q3111 : (Jvm.Cond.instanceMethod ({ cls := "AnimationControllerModel", name := "inSource", desc := "(I)Z" } : Jvm.MethodName)) ∈ lw_all := lw_g (lw_at lw_m13 124 rfl) rfl
theorem q3112 : (Jvm.Cond.code ({ cls := "AnimationControllerModel", name := "inSource", desc := "(I)Z" } : Jvm.MethodName) prog_19_method_64_code (3 : Nat) (Option.some Jvm.ClassFile.FieldType.boolean)) ∈ lw_all := lw_g (lw_at lw_m13 125 rfl) rfl
theorem q3113 : (Jvm.Cond.methodLink "AnimationControllerModel" (299 : Nat) ({ cls := "AnimationControllerModel", name := "inTarget", desc := "(I)Z" } : Jvm.MethodName)) ∈ lw_all := lw_g (lw_at lw_m13 126 rfl) rfl
theorem q3114 : (Jvm.Cond.privateMethod ({ cls := "AnimationControllerModel", name := "inTarget", desc := "(I)Z" } : Jvm.MethodName)) ∈ lw_tbl := lw_at lw_m13 127 rfl
theorem q3115 : (Jvm.Cond.instanceMethod ({ cls := "AnimationControllerModel", name := "inTarget", desc := "(I)Z" } : Jvm.MethodName)) ∈ lw_all := lw_g (lw_at lw_m13 128 rfl) rfl
theorem q3116 : (Jvm.Cond.code ({ cls := "AnimationControllerModel", name := "inTarget", desc := "(I)Z" } : Jvm.MethodName) prog_19_method_65_code (2 : Nat) (Option.some Jvm.ClassFile.FieldType.boolean)) ∈ lw_all := lw_g (lw_at lw_m13 129 rfl) rfl
theorem q3117 : (Jvm.Cond.methodLink "AnimationControllerModel" (310 : Nat) ({ cls := "AnimationControllerModel", name := "against", desc := "(II)I" } : Jvm.MethodName)) ∈ lw_all := lw_g (lw_at lw_m13 130 rfl) rfl
theorem q3118 : (Jvm.Cond.privateMethod ({ cls := "AnimationControllerModel", name := "against", desc := "(II)I" } : Jvm.MethodName)) ∈ lw_tbl := lw_at lw_m13 131 rfl
theorem q3119 : (Jvm.Cond.instanceMethod ({ cls := "AnimationControllerModel", name := "against", desc := "(II)I" } : Jvm.MethodName)) ∈ lw_all := lw_g (lw_at lw_m13 132 rfl) rfl
theorem q3120 : (Jvm.Cond.code ({ cls := "AnimationControllerModel", name := "against", desc := "(II)I" } : Jvm.MethodName) prog_19_method_68_code (5 : Nat) (Option.some Jvm.ClassFile.FieldType.int)) ∈ lw_all := lw_g (lw_at lw_m13 133 rfl) rfl
theorem q3121 : (Jvm.Cond.methodLink "AnimationControllerModel" (257 : Nat) ({ cls := "AnimationControllerModel", name := "progressOf", desc := "(I)J" } : Jvm.MethodName)) ∈ lw_all := lw_g (lw_at lw_m13 134 rfl) rfl
theorem q3122 : (Jvm.Cond.privateMethod ({ cls := "AnimationControllerModel", name := "progressOf", desc := "(I)J" } : Jvm.MethodName)) ∈ lw_tbl := lw_at lw_m13 135 rfl
theorem q3123 : (Jvm.Cond.instanceMethod ({ cls := "AnimationControllerModel", name := "progressOf", desc := "(I)J" } : Jvm.MethodName)) ∈ lw_all := lw_g (lw_at lw_m13 136 rfl) rfl
theorem q3124 : (Jvm.Cond.code ({ cls := "AnimationControllerModel", name := "progressOf", desc := "(I)J" } : Jvm.MethodName) prog_19_method_48_code (2 : Nat) (Option.some Jvm.ClassFile.FieldType.long)) ∈ lw_all := lw_g (lw_at lw_m13 137 rfl) rfl
theorem q3125 : (Jvm.Cond.constantLong "AnimationControllerModel" (302 : Nat) (10000 : Int64)) ∈ lw_all := lw_g (lw_at lw_m13 138 rfl) rfl
theorem q3126 : (Jvm.Cond.methodLink "AnimationControllerModel" (304 : Nat) ({ cls := "AnimationControllerModel", name := "holds", desc := "(II)Z" } : Jvm.MethodName)) ∈ lw_all := lw_g (lw_at lw_m13 139 rfl) rfl
theorem q3127 : (Jvm.Cond.privateMethod ({ cls := "AnimationControllerModel", name := "holds", desc := "(II)Z" } : Jvm.MethodName)) ∈ lw_tbl := lw_at lw_m13 140 rfl
theorem q3128 : (Jvm.Cond.instanceMethod ({ cls := "AnimationControllerModel", name := "holds", desc := "(II)Z" } : Jvm.MethodName)) ∈ lw_all := lw_g (lw_at lw_m13 141 rfl) rfl
theorem q3129 : (Jvm.Cond.code ({ cls := "AnimationControllerModel", name := "holds", desc := "(II)Z" } : Jvm.MethodName) prog_19_method_67_code (7 : Nat) (Option.some Jvm.ClassFile.FieldType.boolean)) ∈ lw_all := lw_g (lw_at lw_m13 142 rfl) rfl
theorem q3131 : (Jvm.Cond.instanceMethod ({ cls := "AnimationControllerModel", name := "tick", desc := "(I)I" } : Jvm.MethodName)) ∈ lw_all := lw_g (lw_at lw_m13 144 rfl) rfl
theorem q3132 : (Jvm.Cond.selects "AnimationControllerModel" ({ cls := "AnimationControllerModel", name := "tick", desc := "(I)I" } : Jvm.MethodName) ({ cls := "AnimationControllerModel", name := "tick", desc := "(I)I" } : Jvm.MethodName)) ∈ lw_all := lw_g (lw_at lw_m13 145 rfl) rfl
theorem q3133 : (Jvm.Cond.code ({ cls := "AnimationControllerModel", name := "tick", desc := "(I)I" } : Jvm.MethodName) prog_19_method_81_code (4 : Nat) (Option.some Jvm.ClassFile.FieldType.int)) ∈ lw_all := lw_g (lw_at lw_m13 146 rfl) rfl
theorem q3134 : (Jvm.Cond.methodLink "AnimationControllerModel" (356 : Nat) ({ cls := "AnimationControllerModel", name := "ticks", desc := "()V" } : Jvm.MethodName)) ∈ lw_all := lw_g (lw_at lw_m13 147 rfl) rfl
theorem q3135 : (Jvm.Cond.privateMethod ({ cls := "AnimationControllerModel", name := "ticks", desc := "()V" } : Jvm.MethodName)) ∈ lw_tbl := lw_at lw_m13 148 rfl
theorem q3136 : (Jvm.Cond.instanceMethod ({ cls := "AnimationControllerModel", name := "ticks", desc := "()V" } : Jvm.MethodName)) ∈ lw_all := lw_g (lw_at lw_m13 149 rfl) rfl
theorem q3137 : (Jvm.Cond.code ({ cls := "AnimationControllerModel", name := "ticks", desc := "()V" } : Jvm.MethodName) prog_19_method_79_code (16 : Nat) (Option.none : Option Jvm.ClassFile.FieldType)) ∈ lw_all := lw_g (lw_at lw_m13 150 rfl) rfl
theorem q3138 : (Jvm.Cond.methodLink "AnimationControllerModel" (340 : Nat) ({ cls := "AnimationControllerModel", name := "takes", desc := "()Z" } : Jvm.MethodName)) ∈ lw_all := lw_g (lw_at lw_m13 151 rfl) rfl
theorem q3139 : (Jvm.Cond.privateMethod ({ cls := "AnimationControllerModel", name := "takes", desc := "()Z" } : Jvm.MethodName)) ∈ lw_tbl := lw_at lw_m13 152 rfl
theorem q3140 : (Jvm.Cond.instanceMethod ({ cls := "AnimationControllerModel", name := "takes", desc := "()Z" } : Jvm.MethodName)) ∈ lw_all := lw_g (lw_at lw_m13 153 rfl) rfl
theorem q3141 : (Jvm.Cond.code ({ cls := "AnimationControllerModel", name := "takes", desc := "()Z" } : Jvm.MethodName) prog_19_method_71_code (6 : Nat) (Option.some Jvm.ClassFile.FieldType.boolean)) ∈ lw_all := lw_g (lw_at lw_m13 154 rfl) rfl
theorem q3142 : (Jvm.Cond.methodLink "AnimationControllerModel" (313 : Nat) ({ cls := "AnimationControllerModel", name := "firstOf", desc := "(I)I" } : Jvm.MethodName)) ∈ lw_all := lw_g (lw_at lw_m13 155 rfl) rfl
theorem q3143 : (Jvm.Cond.privateMethod ({ cls := "AnimationControllerModel", name := "firstOf", desc := "(I)I" } : Jvm.MethodName)) ∈ lw_tbl := lw_at lw_m13 156 rfl
theorem q3144 : (Jvm.Cond.instanceMethod ({ cls := "AnimationControllerModel", name := "firstOf", desc := "(I)I" } : Jvm.MethodName)) ∈ lw_all := lw_g (lw_at lw_m13 157 rfl) rfl
theorem q3145 : (Jvm.Cond.code ({ cls := "AnimationControllerModel", name := "firstOf", desc := "(I)I" } : Jvm.MethodName) prog_19_method_69_code (4 : Nat) (Option.some Jvm.ClassFile.FieldType.int)) ∈ lw_all := lw_g (lw_at lw_m13 158 rfl) rfl
theorem q3146 : (Jvm.Cond.methodLink "AnimationControllerModel" (316 : Nat) ({ cls := "AnimationControllerModel", name := "freezes", desc := "(I)V" } : Jvm.MethodName)) ∈ lw_all := lw_g (lw_at lw_m13 159 rfl) rfl
theorem q3147 : (Jvm.Cond.privateMethod ({ cls := "AnimationControllerModel", name := "freezes", desc := "(I)V" } : Jvm.MethodName)) ∈ lw_tbl := lw_at lw_m13 160 rfl
theorem q3148 : (Jvm.Cond.instanceMethod ({ cls := "AnimationControllerModel", name := "freezes", desc := "(I)V" } : Jvm.MethodName)) ∈ lw_all := lw_g (lw_at lw_m13 161 rfl) rfl
theorem q3149 : (Jvm.Cond.code ({ cls := "AnimationControllerModel", name := "freezes", desc := "(I)V" } : Jvm.MethodName) prog_19_method_73_code (3 : Nat) (Option.none : Option Jvm.ClassFile.FieldType)) ∈ lw_all := lw_g (lw_at lw_m13 162 rfl) rfl
theorem q3150 : (Jvm.Cond.methodLink "AnimationControllerModel" (322 : Nat) ({ cls := "AnimationControllerModel", name := "copiesTrack", desc := "(II)V" } : Jvm.MethodName)) ∈ lw_all := lw_g (lw_at lw_m13 163 rfl) rfl
theorem q3151 : (Jvm.Cond.privateMethod ({ cls := "AnimationControllerModel", name := "copiesTrack", desc := "(II)V" } : Jvm.MethodName)) ∈ lw_tbl := lw_at lw_m13 164 rfl
theorem q3152 : (Jvm.Cond.instanceMethod ({ cls := "AnimationControllerModel", name := "copiesTrack", desc := "(II)V" } : Jvm.MethodName)) ∈ lw_all := lw_g (lw_at lw_m13 165 rfl) rfl
theorem q3153 : (Jvm.Cond.code ({ cls := "AnimationControllerModel", name := "copiesTrack", desc := "(II)V" } : Jvm.MethodName) prog_19_method_72_code (4 : Nat) (Option.none : Option Jvm.ClassFile.FieldType)) ∈ lw_all := lw_g (lw_at lw_m13 166 rfl) rfl
theorem q3154 : (Jvm.Cond.methodLink "AnimationControllerModel" (319 : Nat) ({ cls := "AnimationControllerModel", name := "goesTo", desc := "(I)V" } : Jvm.MethodName)) ∈ lw_all := lw_g (lw_at lw_m13 167 rfl) rfl
theorem q3155 : (Jvm.Cond.privateMethod ({ cls := "AnimationControllerModel", name := "goesTo", desc := "(I)V" } : Jvm.MethodName)) ∈ lw_tbl := lw_at lw_m13 168 rfl
theorem q3156 : (Jvm.Cond.instanceMethod ({ cls := "AnimationControllerModel", name := "goesTo", desc := "(I)V" } : Jvm.MethodName)) ∈ lw_all := lw_g (lw_at lw_m13 169 rfl) rfl
theorem q3157 : (Jvm.Cond.code ({ cls := "AnimationControllerModel", name := "goesTo", desc := "(I)V" } : Jvm.MethodName) prog_19_method_74_code (4 : Nat) (Option.none : Option Jvm.ClassFile.FieldType)) ∈ lw_all := lw_g (lw_at lw_m13 170 rfl) rfl
theorem q3158 : (Jvm.Cond.methodLink "AnimationControllerModel" (325 : Nat) ({ cls := "AnimationControllerModel", name := "isSynced", desc := "()Z" } : Jvm.MethodName)) ∈ lw_all := lw_g (lw_at lw_m13 171 rfl) rfl
theorem q3159 : (Jvm.Cond.privateMethod ({ cls := "AnimationControllerModel", name := "isSynced", desc := "()Z" } : Jvm.MethodName)) ∈ lw_tbl := lw_at lw_m13 172 rfl
theorem q3160 : (Jvm.Cond.instanceMethod ({ cls := "AnimationControllerModel", name := "isSynced", desc := "()Z" } : Jvm.MethodName)) ∈ lw_all := lw_g (lw_at lw_m13 173 rfl) rfl
theorem q3161 : (Jvm.Cond.code ({ cls := "AnimationControllerModel", name := "isSynced", desc := "()Z" } : Jvm.MethodName) prog_19_method_52_code (2 : Nat) (Option.some Jvm.ClassFile.FieldType.boolean)) ∈ lw_all := lw_g (lw_at lw_m13 174 rfl) rfl
theorem q3162 : (Jvm.Cond.constant "AnimationControllerModel" (261 : Nat) (1000000 : Int32)) ∈ lw_all := lw_g (lw_at lw_m13 175 rfl) rfl
theorem q3163 : (Jvm.Cond.constant "AnimationControllerModel" (329 : Nat) (999999 : Int32)) ∈ lw_all := lw_g (lw_at lw_m13 176 rfl) rfl
theorem q3164 : (Jvm.Cond.methodLink "AnimationControllerModel" (330 : Nat) ({ cls := "AnimationControllerModel", name := "ends", desc := "()V" } : Jvm.MethodName)) ∈ lw_all := lw_g (lw_at lw_m13 177 rfl) rfl
theorem q3165 : (Jvm.Cond.privateMethod ({ cls := "AnimationControllerModel", name := "ends", desc := "()V" } : Jvm.MethodName)) ∈ lw_tbl := lw_at lw_m13 178 rfl
theorem q3166 : (Jvm.Cond.instanceMethod ({ cls := "AnimationControllerModel", name := "ends", desc := "()V" } : Jvm.MethodName)) ∈ lw_all := lw_g (lw_at lw_m13 179 rfl) rfl
theorem q3167 : (Jvm.Cond.code ({ cls := "AnimationControllerModel", name := "ends", desc := "()V" } : Jvm.MethodName) prog_19_method_75_code (1 : Nat) (Option.none : Option Jvm.ClassFile.FieldType)) ∈ lw_all := lw_g (lw_at lw_m13 180 rfl) rfl
theorem q3168 : (Jvm.Cond.methodLink "AnimationControllerModel" (343 : Nat) ({ cls := "AnimationControllerModel", name := "stepOf", desc := "(I)J" } : Jvm.MethodName)) ∈ lw_all := lw_g (lw_at lw_m13 181 rfl) rfl
theorem q3169 : (Jvm.Cond.privateMethod ({ cls := "AnimationControllerModel", name := "stepOf", desc := "(I)J" } : Jvm.MethodName)) ∈ lw_tbl := lw_at lw_m13 182 rfl
theorem q3170 : (Jvm.Cond.instanceMethod ({ cls := "AnimationControllerModel", name := "stepOf", desc := "(I)J" } : Jvm.MethodName)) ∈ lw_all := lw_g (lw_at lw_m13 183 rfl) rfl
theorem q3171 : (Jvm.Cond.code ({ cls := "AnimationControllerModel", name := "stepOf", desc := "(I)J" } : Jvm.MethodName) prog_19_method_50_code (3 : Nat) (Option.some Jvm.ClassFile.FieldType.long)) ∈ lw_all := lw_g (lw_at lw_m13 184 rfl) rfl
theorem q3172 : (Jvm.Cond.methodLink "AnimationControllerModel" (262 : Nat) ({ cls := "AnimationControllerModel", name := "lengthOf", desc := "(I)J" } : Jvm.MethodName)) ∈ lw_all := lw_g (lw_at lw_m13 185 rfl) rfl
theorem q3173 : (Jvm.Cond.privateMethod ({ cls := "AnimationControllerModel", name := "lengthOf", desc := "(I)J" } : Jvm.MethodName)) ∈ lw_tbl := lw_at lw_m13 186 rfl
theorem q3174 : (Jvm.Cond.instanceMethod ({ cls := "AnimationControllerModel", name := "lengthOf", desc := "(I)J" } : Jvm.MethodName)) ∈ lw_all := lw_g (lw_at lw_m13 187 rfl) rfl
theorem q3175 : (Jvm.Cond.code ({ cls := "AnimationControllerModel", name := "lengthOf", desc := "(I)J" } : Jvm.MethodName) prog_19_method_47_code (5 : Nat) (Option.some Jvm.ClassFile.FieldType.long)) ∈ lw_all := lw_g (lw_at lw_m13 188 rfl) rfl
theorem q3176 : (Jvm.Cond.methodLink "AnimationControllerModel" (346 : Nat) ({ cls := "AnimationControllerModel", name := "advances", desc := "(IJ)V" } : Jvm.MethodName)) ∈ lw_all := lw_g (lw_at lw_m13 189 rfl) rfl
theorem q3177 : (Jvm.Cond.privateMethod ({ cls := "AnimationControllerModel", name := "advances", desc := "(IJ)V" } : Jvm.MethodName)) ∈ lw_tbl := lw_at lw_m13 190 rfl
theorem q3178 : (Jvm.Cond.instanceMethod ({ cls := "AnimationControllerModel", name := "advances", desc := "(IJ)V" } : Jvm.MethodName)) ∈ lw_all := lw_g (lw_at lw_m13 191 rfl) rfl
theorem q3179 : (Jvm.Cond.code ({ cls := "AnimationControllerModel", name := "advances", desc := "(IJ)V" } : Jvm.MethodName) prog_19_method_49_code (6 : Nat) (Option.none : Option Jvm.ClassFile.FieldType)) ∈ lw_all := lw_g (lw_at lw_m13 192 rfl) rfl
theorem q3180 : (Jvm.Cond.methodLink "AnimationControllerModel" (349 : Nat) ({ cls := "AnimationControllerModel", name := "fires", desc := "(IJZJJI)V" } : Jvm.MethodName)) ∈ lw_all := lw_g (lw_at lw_m13 193 rfl) rfl
theorem q3181 : (Jvm.Cond.privateMethod ({ cls := "AnimationControllerModel", name := "fires", desc := "(IJZJJI)V" } : Jvm.MethodName)) ∈ lw_tbl := lw_at lw_m13 194 rfl
theorem q3182 : (Jvm.Cond.instanceMethod ({ cls := "AnimationControllerModel", name := "fires", desc := "(IJZJJI)V" } : Jvm.MethodName)) ∈ lw_all := lw_g (lw_at lw_m13 195 rfl) rfl
theorem q3183 : (Jvm.Cond.code ({ cls := "AnimationControllerModel", name := "fires", desc := "(IJZJJI)V" } : Jvm.MethodName) prog_19_method_76_code (15 : Nat) (Option.none : Option Jvm.ClassFile.FieldType)) ∈ lw_all := lw_g (lw_at lw_m13 196 rfl) rfl
theorem q3184 : (Jvm.Cond.methodLink "AnimationControllerModel" (333 : Nat) ({ cls := "AnimationControllerModel", name := "isCrossed", desc := "(JJZJZ)Z" } : Jvm.MethodName)) ∈ lw_all := lw_g (lw_at lw_m13 197 rfl) rfl
theorem q3185 : (Jvm.Cond.static ({ cls := "AnimationControllerModel", name := "isCrossed", desc := "(JJZJZ)Z" } : Jvm.MethodName)) ∈ lw_all := lw_g (lw_at lw_m13 198 rfl) rfl
theorem q3186 : (Jvm.Cond.code ({ cls := "AnimationControllerModel", name := "isCrossed", desc := "(JJZJZ)Z" } : Jvm.MethodName) prog_19_method_77_code (14 : Nat) (Option.some Jvm.ClassFile.FieldType.boolean)) ∈ lw_all := lw_g (lw_at lw_m13 199 rfl) rfl
theorem q3187 : (Jvm.Cond.methodLink "AnimationControllerModel" (337 : Nat) ({ cls := "AnimationControllerModel", name := "notes", desc := "(IIII)V" } : Jvm.MethodName)) ∈ lw_all := lw_g (lw_at lw_m13 200 rfl) rfl
theorem q3188 : (Jvm.Cond.privateMethod ({ cls := "AnimationControllerModel", name := "notes", desc := "(IIII)V" } : Jvm.MethodName)) ∈ lw_tbl := lw_at lw_m13 201 rfl
theorem q3189 : (Jvm.Cond.instanceMethod ({ cls := "AnimationControllerModel", name := "notes", desc := "(IIII)V" } : Jvm.MethodName)) ∈ lw_all := lw_g (lw_at lw_m13 202 rfl) rfl
theorem q3190 : (Jvm.Cond.code ({ cls := "AnimationControllerModel", name := "notes", desc := "(IIII)V" } : Jvm.MethodName) prog_19_method_78_code (6 : Nat) (Option.none : Option Jvm.ClassFile.FieldType)) ∈ lw_all := lw_g (lw_at lw_m13 203 rfl) rfl
theorem q3191 : (Jvm.Cond.methodLink "AnimationControllerModel" (353 : Nat) ({ cls := "AnimationControllerModel", name := "advancesBoth", desc := "()V" } : Jvm.MethodName)) ∈ lw_all := lw_g (lw_at lw_m13 204 rfl) rfl
theorem q3192 : (Jvm.Cond.privateMethod ({ cls := "AnimationControllerModel", name := "advancesBoth", desc := "()V" } : Jvm.MethodName)) ∈ lw_tbl := lw_at lw_m13 205 rfl
theorem q3193 : (Jvm.Cond.instanceMethod ({ cls := "AnimationControllerModel", name := "advancesBoth", desc := "()V" } : Jvm.MethodName)) ∈ lw_all := lw_g (lw_at lw_m13 206 rfl) rfl
theorem q3194 : (Jvm.Cond.code ({ cls := "AnimationControllerModel", name := "advancesBoth", desc := "()V" } : Jvm.MethodName) prog_19_method_80_code (11 : Nat) (Option.none : Option Jvm.ClassFile.FieldType)) ∈ lw_all := lw_g (lw_at lw_m13 207 rfl) rfl
theorem q3196 : (Jvm.Cond.instanceMethod ({ cls := "AnimationControllerModel", name := "reset", desc := "()I" } : Jvm.MethodName)) ∈ lw_all := lw_g (lw_at lw_m13 209 rfl) rfl
theorem q3197 : (Jvm.Cond.selects "AnimationControllerModel" ({ cls := "AnimationControllerModel", name := "reset", desc := "()I" } : Jvm.MethodName) ({ cls := "AnimationControllerModel", name := "reset", desc := "()I" } : Jvm.MethodName)) ∈ lw_all := lw_g (lw_at lw_m13 210 rfl) rfl
theorem q3198 : (Jvm.Cond.code ({ cls := "AnimationControllerModel", name := "reset", desc := "()I" } : Jvm.MethodName) prog_19_method_82_code (3 : Nat) (Option.some Jvm.ClassFile.FieldType.int)) ∈ lw_all := lw_g (lw_at lw_m13 211 rfl) rfl
theorem q3200 : (Jvm.Cond.instanceMethod ({ cls := "AnimationControllerModel", name := "state", desc := "()I" } : Jvm.MethodName)) ∈ lw_all := lw_g (lw_at lw_m13 213 rfl) rfl
theorem q3201 : (Jvm.Cond.selects "AnimationControllerModel" ({ cls := "AnimationControllerModel", name := "state", desc := "()I" } : Jvm.MethodName) ({ cls := "AnimationControllerModel", name := "state", desc := "()I" } : Jvm.MethodName)) ∈ lw_all := lw_g (lw_at lw_m13 214 rfl) rfl
theorem q3202 : (Jvm.Cond.code ({ cls := "AnimationControllerModel", name := "state", desc := "()I" } : Jvm.MethodName) prog_19_method_83_code (1 : Nat) (Option.some Jvm.ClassFile.FieldType.int)) ∈ lw_all := lw_g (lw_at lw_m13 215 rfl) rfl
theorem q3204 : (Jvm.Cond.instanceMethod ({ cls := "AnimationControllerModel", name := "target", desc := "()I" } : Jvm.MethodName)) ∈ lw_all := lw_g (lw_at lw_m13 217 rfl) rfl
theorem q3205 : (Jvm.Cond.selects "AnimationControllerModel" ({ cls := "AnimationControllerModel", name := "target", desc := "()I" } : Jvm.MethodName) ({ cls := "AnimationControllerModel", name := "target", desc := "()I" } : Jvm.MethodName)) ∈ lw_all := lw_g (lw_at lw_m13 218 rfl) rfl
theorem q3206 : (Jvm.Cond.code ({ cls := "AnimationControllerModel", name := "target", desc := "()I" } : Jvm.MethodName) prog_19_method_84_code (1 : Nat) (Option.some Jvm.ClassFile.FieldType.int)) ∈ lw_all := lw_g (lw_at lw_m13 219 rfl) rfl
theorem q3208 : (Jvm.Cond.instanceMethod ({ cls := "AnimationControllerModel", name := "transition", desc := "()I" } : Jvm.MethodName)) ∈ lw_all := lw_g (lw_at lw_m13 221 rfl) rfl
theorem q3209 : (Jvm.Cond.selects "AnimationControllerModel" ({ cls := "AnimationControllerModel", name := "transition", desc := "()I" } : Jvm.MethodName) ({ cls := "AnimationControllerModel", name := "transition", desc := "()I" } : Jvm.MethodName)) ∈ lw_all := lw_g (lw_at lw_m13 222 rfl) rfl
theorem q3210 : (Jvm.Cond.code ({ cls := "AnimationControllerModel", name := "transition", desc := "()I" } : Jvm.MethodName) prog_19_method_85_code (1 : Nat) (Option.some Jvm.ClassFile.FieldType.int)) ∈ lw_all := lw_g (lw_at lw_m13 223 rfl) rfl
theorem q3212 : (Jvm.Cond.instanceMethod ({ cls := "AnimationControllerModel", name := "elapsed", desc := "()I" } : Jvm.MethodName)) ∈ lw_all := lw_g (lw_at lw_m13 225 rfl) rfl
theorem q3213 : (Jvm.Cond.selects "AnimationControllerModel" ({ cls := "AnimationControllerModel", name := "elapsed", desc := "()I" } : Jvm.MethodName) ({ cls := "AnimationControllerModel", name := "elapsed", desc := "()I" } : Jvm.MethodName)) ∈ lw_all := lw_g (lw_at lw_m13 226 rfl) rfl
theorem q3214 : (Jvm.Cond.code ({ cls := "AnimationControllerModel", name := "elapsed", desc := "()I" } : Jvm.MethodName) prog_19_method_86_code (1 : Nat) (Option.some Jvm.ClassFile.FieldType.int)) ∈ lw_all := lw_g (lw_at lw_m13 227 rfl) rfl
theorem q3216 : (Jvm.Cond.instanceMethod ({ cls := "AnimationControllerModel", name := "isFrozen", desc := "()Z" } : Jvm.MethodName)) ∈ lw_all := lw_g (lw_at lw_m13 229 rfl) rfl
theorem q3217 : (Jvm.Cond.selects "AnimationControllerModel" ({ cls := "AnimationControllerModel", name := "isFrozen", desc := "()Z" } : Jvm.MethodName) ({ cls := "AnimationControllerModel", name := "isFrozen", desc := "()Z" } : Jvm.MethodName)) ∈ lw_all := lw_g (lw_at lw_m13 230 rfl) rfl
theorem q3218 : (Jvm.Cond.code ({ cls := "AnimationControllerModel", name := "isFrozen", desc := "()Z" } : Jvm.MethodName) prog_19_method_87_code (1 : Nat) (Option.some Jvm.ClassFile.FieldType.boolean)) ∈ lw_all := lw_g (lw_at lw_m13 231 rfl) rfl
theorem q3220 : (Jvm.Cond.instanceMethod ({ cls := "AnimationControllerModel", name := "progress", desc := "(Z)J" } : Jvm.MethodName)) ∈ lw_all := lw_g (lw_at lw_m13 233 rfl) rfl
theorem q3221 : (Jvm.Cond.selects "AnimationControllerModel" ({ cls := "AnimationControllerModel", name := "progress", desc := "(Z)J" } : Jvm.MethodName) ({ cls := "AnimationControllerModel", name := "progress", desc := "(Z)J" } : Jvm.MethodName)) ∈ lw_all := lw_g (lw_at lw_m13 234 rfl) rfl
theorem q3222 : (Jvm.Cond.code ({ cls := "AnimationControllerModel", name := "progress", desc := "(Z)J" } : Jvm.MethodName) prog_19_method_88_code (2 : Nat) (Option.some Jvm.ClassFile.FieldType.long)) ∈ lw_all := lw_g (lw_at lw_m13 235 rfl) rfl
theorem q3224 : (Jvm.Cond.instanceMethod ({ cls := "AnimationControllerModel", name := "stateLength", desc := "(I)I" } : Jvm.MethodName)) ∈ lw_all := lw_g (lw_at lw_m13 237 rfl) rfl
theorem q3225 : (Jvm.Cond.selects "AnimationControllerModel" ({ cls := "AnimationControllerModel", name := "stateLength", desc := "(I)I" } : Jvm.MethodName) ({ cls := "AnimationControllerModel", name := "stateLength", desc := "(I)I" } : Jvm.MethodName)) ∈ lw_all := lw_g (lw_at lw_m13 238 rfl) rfl
theorem q3226 : (Jvm.Cond.code ({ cls := "AnimationControllerModel", name := "stateLength", desc := "(I)I" } : Jvm.MethodName) prog_19_method_89_code (2 : Nat) (Option.some Jvm.ClassFile.FieldType.int)) ∈ lw_all := lw_g (lw_at lw_m13 239 rfl) rfl
theorem q3228 : (Jvm.Cond.instanceMethod ({ cls := "AnimationControllerModel", name := "partWeight", desc := "(II)I" } : Jvm.MethodName)) ∈ lw_all := lw_g (lw_at lw_m14 1 rfl) rfl
theorem q3229 : (Jvm.Cond.selects "AnimationControllerModel" ({ cls := "AnimationControllerModel", name := "partWeight", desc := "(II)I" } : Jvm.MethodName) ({ cls := "AnimationControllerModel", name := "partWeight", desc := "(II)I" } : Jvm.MethodName)) ∈ lw_all := lw_g (lw_at lw_m14 2 rfl) rfl
theorem q3230 : (Jvm.Cond.code ({ cls := "AnimationControllerModel", name := "partWeight", desc := "(II)I" } : Jvm.MethodName) prog_19_method_90_code (3 : Nat) (Option.some Jvm.ClassFile.FieldType.int)) ∈ lw_all := lw_g (lw_at lw_m14 3 rfl) rfl
theorem q3232 : (Jvm.Cond.instanceMethod ({ cls := "AnimationControllerModel", name := "fired", desc := "()I" } : Jvm.MethodName)) ∈ lw_all := lw_g (lw_at lw_m14 5 rfl) rfl
theorem q3233 : (Jvm.Cond.selects "AnimationControllerModel" ({ cls := "AnimationControllerModel", name := "fired", desc := "()I" } : Jvm.MethodName) ({ cls := "AnimationControllerModel", name := "fired", desc := "()I" } : Jvm.MethodName)) ∈ lw_all := lw_g (lw_at lw_m14 6 rfl) rfl
theorem q3234 : (Jvm.Cond.code ({ cls := "AnimationControllerModel", name := "fired", desc := "()I" } : Jvm.MethodName) prog_19_method_91_code (1 : Nat) (Option.some Jvm.ClassFile.FieldType.int)) ∈ lw_all := lw_g (lw_at lw_m14 7 rfl) rfl
theorem q3236 : (Jvm.Cond.instanceMethod ({ cls := "AnimationControllerModel", name := "event", desc := "(II)I" } : Jvm.MethodName)) ∈ lw_all := lw_g (lw_at lw_m14 9 rfl) rfl
theorem q3237 : (Jvm.Cond.selects "AnimationControllerModel" ({ cls := "AnimationControllerModel", name := "event", desc := "(II)I" } : Jvm.MethodName) ({ cls := "AnimationControllerModel", name := "event", desc := "(II)I" } : Jvm.MethodName)) ∈ lw_all := lw_g (lw_at lw_m14 10 rfl) rfl
theorem q3238 : (Jvm.Cond.code ({ cls := "AnimationControllerModel", name := "event", desc := "(II)I" } : Jvm.MethodName) prog_19_method_92_code (3 : Nat) (Option.some Jvm.ClassFile.FieldType.int)) ∈ lw_all := lw_g (lw_at lw_m14 11 rfl) rfl
theorem q3240 : (Jvm.Cond.instanceMethod ({ cls := "AnimationControllerModel", name := "foretell", desc := "(I)I" } : Jvm.MethodName)) ∈ lw_all := lw_g (lw_at lw_m14 13 rfl) rfl
theorem q3241 : (Jvm.Cond.selects "AnimationControllerModel" ({ cls := "AnimationControllerModel", name := "foretell", desc := "(I)I" } : Jvm.MethodName) ({ cls := "AnimationControllerModel", name := "foretell", desc := "(I)I" } : Jvm.MethodName)) ∈ lw_all := lw_g (lw_at lw_m14 14 rfl) rfl
theorem q3242 : (Jvm.Cond.code ({ cls := "AnimationControllerModel", name := "foretell", desc := "(I)I" } : Jvm.MethodName) prog_19_method_94_code (3 : Nat) (Option.some Jvm.ClassFile.FieldType.int)) ∈ lw_all := lw_g (lw_at lw_m14 15 rfl) rfl
theorem q3243 : (Jvm.Cond.methodLink "AnimationControllerModel" (359 : Nat) ({ cls := "AnimationControllerModel", name := "copies", desc := "(II)V" } : Jvm.MethodName)) ∈ lw_all := lw_g (lw_at lw_m14 16 rfl) rfl
theorem q3244 : (Jvm.Cond.privateMethod ({ cls := "AnimationControllerModel", name := "copies", desc := "(II)V" } : Jvm.MethodName)) ∈ lw_tbl := lw_at lw_m14 17 rfl
theorem q3245 : (Jvm.Cond.instanceMethod ({ cls := "AnimationControllerModel", name := "copies", desc := "(II)V" } : Jvm.MethodName)) ∈ lw_all := lw_g (lw_at lw_m14 18 rfl) rfl
theorem q3246 : (Jvm.Cond.code ({ cls := "AnimationControllerModel", name := "copies", desc := "(II)V" } : Jvm.MethodName) prog_19_method_93_code (4 : Nat) (Option.none : Option Jvm.ClassFile.FieldType)) ∈ lw_all := lw_g (lw_at lw_m14 19 rfl) rfl
theorem q3248 : (Jvm.Cond.instanceMethod ({ cls := "AnimationControllerModel", name := "ticksTo", desc := "(I)I" } : Jvm.MethodName)) ∈ lw_all := lw_g (lw_at lw_m14 21 rfl) rfl
theorem q3249 : (Jvm.Cond.selects "AnimationControllerModel" ({ cls := "AnimationControllerModel", name := "ticksTo", desc := "(I)I" } : Jvm.MethodName) ({ cls := "AnimationControllerModel", name := "ticksTo", desc := "(I)I" } : Jvm.MethodName)) ∈ lw_all := lw_g (lw_at lw_m14 22 rfl) rfl
theorem q3250 : (Jvm.Cond.code ({ cls := "AnimationControllerModel", name := "ticksTo", desc := "(I)I" } : Jvm.MethodName) prog_19_method_95_code (3 : Nat) (Option.some Jvm.ClassFile.FieldType.int)) ∈ lw_all := lw_g (lw_at lw_m14 23 rfl) rfl
theorem q3252 : (Jvm.Cond.instanceMethod ({ cls := "AnimationControllerModel", name := "steps", desc := "(II)I" } : Jvm.MethodName)) ∈ lw_all := lw_g (lw_at lw_m14 25 rfl) rfl
theorem q3253 : (Jvm.Cond.selects "AnimationControllerModel" ({ cls := "AnimationControllerModel", name := "steps", desc := "(II)I" } : Jvm.MethodName) ({ cls := "AnimationControllerModel", name := "steps", desc := "(II)I" } : Jvm.MethodName)) ∈ lw_all := lw_g (lw_at lw_m14 26 rfl) rfl
theorem q3254 : (Jvm.Cond.code ({ cls := "AnimationControllerModel", name := "steps", desc := "(II)I" } : Jvm.MethodName) prog_19_method_96_code (7 : Nat) (Option.some Jvm.ClassFile.FieldType.int)) ∈ lw_all := lw_g (lw_at lw_m14 27 rfl) rfl
theorem q3256 : (Jvm.Cond.instanceMethod ({ cls := "AnimationControllerModel", name := "keep", desc := "(I)I" } : Jvm.MethodName)) ∈ lw_all := lw_g (lw_at lw_m14 29 rfl) rfl
theorem q3257 : (Jvm.Cond.selects "AnimationControllerModel" ({ cls := "AnimationControllerModel", name := "keep", desc := "(I)I" } : Jvm.MethodName) ({ cls := "AnimationControllerModel", name := "keep", desc := "(I)I" } : Jvm.MethodName)) ∈ lw_all := lw_g (lw_at lw_m14 30 rfl) rfl
theorem q3258 : (Jvm.Cond.code ({ cls := "AnimationControllerModel", name := "keep", desc := "(I)I" } : Jvm.MethodName) prog_19_method_97_code (2 : Nat) (Option.some Jvm.ClassFile.FieldType.int)) ∈ lw_all := lw_g (lw_at lw_m14 31 rfl) rfl
theorem q3260 : (Jvm.Cond.instanceMethod ({ cls := "AnimationControllerModel", name := "restore", desc := "(I)I" } : Jvm.MethodName)) ∈ lw_all := lw_g (lw_at lw_m14 33 rfl) rfl
theorem q3261 : (Jvm.Cond.selects "AnimationControllerModel" ({ cls := "AnimationControllerModel", name := "restore", desc := "(I)I" } : Jvm.MethodName) ({ cls := "AnimationControllerModel", name := "restore", desc := "(I)I" } : Jvm.MethodName)) ∈ lw_all := lw_g (lw_at lw_m14 34 rfl) rfl
theorem q3262 : (Jvm.Cond.code ({ cls := "AnimationControllerModel", name := "restore", desc := "(I)I" } : Jvm.MethodName) prog_19_method_98_code (3 : Nat) (Option.some Jvm.ClassFile.FieldType.int)) ∈ lw_all := lw_g (lw_at lw_m14 35 rfl) rfl
theorem q3264 : (Jvm.Cond.instanceMethod ({ cls := "AnimationControllerModel", name := "count", desc := "(I)I" } : Jvm.MethodName)) ∈ lw_all := lw_g (lw_at lw_m14 37 rfl) rfl
theorem q3265 : (Jvm.Cond.selects "AnimationControllerModel" ({ cls := "AnimationControllerModel", name := "count", desc := "(I)I" } : Jvm.MethodName) ({ cls := "AnimationControllerModel", name := "count", desc := "(I)I" } : Jvm.MethodName)) ∈ lw_all := lw_g (lw_at lw_m14 38 rfl) rfl
theorem q3266 : (Jvm.Cond.code ({ cls := "AnimationControllerModel", name := "count", desc := "(I)I" } : Jvm.MethodName) prog_19_method_99_code (2 : Nat) (Option.some Jvm.ClassFile.FieldType.int)) ∈ lw_all := lw_g (lw_at lw_m14 39 rfl) rfl
theorem q3300 : (Jvm.Cond.castable "AnimationControllerModel" "java/lang/Object") ∈ lw_tbl := lw_at lw_m14 73 rfl
theorem in_X4 : ∀ w ∈ wsX40, w ∈ lw_all := lw_in wsX40 [2773, 2775, 2777, 2779, 2781, 2783, 2785, 2787, 2789, 2791, 2793, 2795, 2797, 2799, 2801, 2803, 2805, 2807, 2809, 2811, 2813, 2815, 2817, 2819, 2821, 2823, 2825, 2827, 2829, 2831, 2833, 2835, 2837, 2839, 2841, 2843, 2845, 2847, 2849, 2851, 2853, 2855] (by decide +kernel) (by decide +kernel)

/-! AnimationControllerLaw -/
set_option maxRecDepth 100000
def RX0 : String := "AnimationControllerLaw"
abbrev cX0_addParameter : ByteArray := method_3_code
def yX0_addParameter : MethodName := ⟨RX0, "addParameter", "(LAnimationController;I[J)I"⟩
def dkwX0_addParameter_0 : List UInt8 := [44, 3, 42, 27, 182, 0, 7, 133, 80, 167, 0, 9, 78, 4, 172, 78, 5, 172, 3, 172]
abbrev dktX0_addParameter_0 : List UInt8 := dkwX0_addParameter_0 ++ []
theorem dksX0_addParameter_0 : cX0_addParameter.data.toList.drop 0 = dktX0_addParameter_0 := by decide +kernel
theorem dX0_addParameter_0 : decode cX0_addParameter 0 = .ok (.aload_n 2, 1) := dk_44 (dk_at dksX0_addParameter_0 0 rfl rfl)
theorem dX0_addParameter_1 : decode cX0_addParameter 1 = .ok (.iconst 0, 1) := dk_3 (dk_at dksX0_addParameter_0 1 rfl rfl)
theorem dX0_addParameter_2 : decode cX0_addParameter 2 = .ok (.aload_n 0, 1) := dk_42 (dk_at dksX0_addParameter_0 2 rfl rfl)
theorem dX0_addParameter_3 : decode cX0_addParameter 3 = .ok (.iload_n 1, 1) := dk_27 (dk_at dksX0_addParameter_0 3 rfl rfl)
theorem dX0_addParameter_4 : decode cX0_addParameter 4 = .ok (.invokevirtual 7, 3) := dk_182 0 7 (dk_at dksX0_addParameter_0 4 rfl rfl)
theorem dX0_addParameter_7 : decode cX0_addParameter 7 = .ok (.i2l, 1) := dk_133 (dk_at dksX0_addParameter_0 7 rfl rfl)
theorem dX0_addParameter_8 : decode cX0_addParameter 8 = .ok (.lastore, 1) := dk_80 (dk_at dksX0_addParameter_0 8 rfl rfl)
theorem dX0_addParameter_9 : decode cX0_addParameter 9 = .ok (.goto 9, 3) := dk_167 0 9 (dk_at dksX0_addParameter_0 9 rfl rfl)
theorem dX0_addParameter_12 : decode cX0_addParameter 12 = .ok (.astore_n 3, 1) := dk_78 (dk_at dksX0_addParameter_0 12 rfl rfl)
theorem dX0_addParameter_13 : decode cX0_addParameter 13 = .ok (.iconst 1, 1) := dk_4 (dk_at dksX0_addParameter_0 13 rfl rfl)
theorem dX0_addParameter_14 : decode cX0_addParameter 14 = .ok (.ireturn, 1) := dk_172 (dk_at dksX0_addParameter_0 14 rfl rfl)
theorem dX0_addParameter_15 : decode cX0_addParameter 15 = .ok (.astore_n 3, 1) := dk_78 (dk_at dksX0_addParameter_0 15 rfl rfl)
theorem dX0_addParameter_16 : decode cX0_addParameter 16 = .ok (.iconst 2, 1) := dk_5 (dk_at dksX0_addParameter_0 16 rfl rfl)
theorem dX0_addParameter_17 : decode cX0_addParameter 17 = .ok (.ireturn, 1) := dk_172 (dk_at dksX0_addParameter_0 17 rfl rfl)
theorem dX0_addParameter_18 : decode cX0_addParameter 18 = .ok (.iconst 0, 1) := dk_3 (dk_at dksX0_addParameter_0 18 rfl rfl)
theorem dX0_addParameter_19 : decode cX0_addParameter 19 = .ok (.ireturn, 1) := dk_172 (dk_at dksX0_addParameter_0 19 rfl rfl)
abbrev cX0_set : ByteArray := method_4_code
def yX0_set : MethodName := ⟨RX0, "set", "(LAnimationController;II[J)I"⟩
def dkwX0_set_0 : List UInt8 := [45, 3, 42, 27, 28, 182, 0, 17, 133, 80, 167, 0, 11, 58, 4, 4, 172, 58, 4, 5, 172, 3, 172]
abbrev dktX0_set_0 : List UInt8 := dkwX0_set_0 ++ []
theorem dksX0_set_0 : cX0_set.data.toList.drop 0 = dktX0_set_0 := by decide +kernel
theorem dX0_set_0 : decode cX0_set 0 = .ok (.aload_n 3, 1) := dk_45 (dk_at dksX0_set_0 0 rfl rfl)
theorem dX0_set_1 : decode cX0_set 1 = .ok (.iconst 0, 1) := dk_3 (dk_at dksX0_set_0 1 rfl rfl)
theorem dX0_set_2 : decode cX0_set 2 = .ok (.aload_n 0, 1) := dk_42 (dk_at dksX0_set_0 2 rfl rfl)
theorem dX0_set_3 : decode cX0_set 3 = .ok (.iload_n 1, 1) := dk_27 (dk_at dksX0_set_0 3 rfl rfl)
theorem dX0_set_4 : decode cX0_set 4 = .ok (.iload_n 2, 1) := dk_28 (dk_at dksX0_set_0 4 rfl rfl)
theorem dX0_set_5 : decode cX0_set 5 = .ok (.invokevirtual 17, 3) := dk_182 0 17 (dk_at dksX0_set_0 5 rfl rfl)
theorem dX0_set_8 : decode cX0_set 8 = .ok (.i2l, 1) := dk_133 (dk_at dksX0_set_0 8 rfl rfl)
theorem dX0_set_9 : decode cX0_set 9 = .ok (.lastore, 1) := dk_80 (dk_at dksX0_set_0 9 rfl rfl)
theorem dX0_set_10 : decode cX0_set 10 = .ok (.goto 11, 3) := dk_167 0 11 (dk_at dksX0_set_0 10 rfl rfl)
theorem dX0_set_13 : decode cX0_set 13 = .ok (.astore 4, 2) := dk_58 4 (dk_at dksX0_set_0 13 rfl rfl)
theorem dX0_set_15 : decode cX0_set 15 = .ok (.iconst 1, 1) := dk_4 (dk_at dksX0_set_0 15 rfl rfl)
theorem dX0_set_16 : decode cX0_set 16 = .ok (.ireturn, 1) := dk_172 (dk_at dksX0_set_0 16 rfl rfl)
theorem dX0_set_17 : decode cX0_set 17 = .ok (.astore 4, 2) := dk_58 4 (dk_at dksX0_set_0 17 rfl rfl)
theorem dX0_set_19 : decode cX0_set 19 = .ok (.iconst 2, 1) := dk_5 (dk_at dksX0_set_0 19 rfl rfl)
theorem dX0_set_20 : decode cX0_set 20 = .ok (.ireturn, 1) := dk_172 (dk_at dksX0_set_0 20 rfl rfl)
theorem dX0_set_21 : decode cX0_set 21 = .ok (.iconst 0, 1) := dk_3 (dk_at dksX0_set_0 21 rfl rfl)
theorem dX0_set_22 : decode cX0_set 22 = .ok (.ireturn, 1) := dk_172 (dk_at dksX0_set_0 22 rfl rfl)
abbrev cX0_value : ByteArray := method_5_code
def yX0_value : MethodName := ⟨RX0, "value", "(LAnimationController;I[J)I"⟩
def dkwX0_value_0 : List UInt8 := [44, 3, 42, 27, 182, 0, 23, 133, 80, 167, 0, 6, 78, 4, 172, 3, 172]
abbrev dktX0_value_0 : List UInt8 := dkwX0_value_0 ++ []
theorem dksX0_value_0 : cX0_value.data.toList.drop 0 = dktX0_value_0 := by decide +kernel
theorem dX0_value_0 : decode cX0_value 0 = .ok (.aload_n 2, 1) := dk_44 (dk_at dksX0_value_0 0 rfl rfl)
theorem dX0_value_1 : decode cX0_value 1 = .ok (.iconst 0, 1) := dk_3 (dk_at dksX0_value_0 1 rfl rfl)
theorem dX0_value_2 : decode cX0_value 2 = .ok (.aload_n 0, 1) := dk_42 (dk_at dksX0_value_0 2 rfl rfl)
theorem dX0_value_3 : decode cX0_value 3 = .ok (.iload_n 1, 1) := dk_27 (dk_at dksX0_value_0 3 rfl rfl)
theorem dX0_value_4 : decode cX0_value 4 = .ok (.invokevirtual 23, 3) := dk_182 0 23 (dk_at dksX0_value_0 4 rfl rfl)
theorem dX0_value_7 : decode cX0_value 7 = .ok (.i2l, 1) := dk_133 (dk_at dksX0_value_0 7 rfl rfl)
theorem dX0_value_8 : decode cX0_value 8 = .ok (.lastore, 1) := dk_80 (dk_at dksX0_value_0 8 rfl rfl)
theorem dX0_value_9 : decode cX0_value 9 = .ok (.goto 6, 3) := dk_167 0 6 (dk_at dksX0_value_0 9 rfl rfl)
theorem dX0_value_12 : decode cX0_value 12 = .ok (.astore_n 3, 1) := dk_78 (dk_at dksX0_value_0 12 rfl rfl)
theorem dX0_value_13 : decode cX0_value 13 = .ok (.iconst 1, 1) := dk_4 (dk_at dksX0_value_0 13 rfl rfl)
theorem dX0_value_14 : decode cX0_value 14 = .ok (.ireturn, 1) := dk_172 (dk_at dksX0_value_0 14 rfl rfl)
theorem dX0_value_15 : decode cX0_value 15 = .ok (.iconst 0, 1) := dk_3 (dk_at dksX0_value_0 15 rfl rfl)
theorem dX0_value_16 : decode cX0_value 16 = .ok (.ireturn, 1) := dk_172 (dk_at dksX0_value_0 16 rfl rfl)
abbrev cX0_addClip : ByteArray := method_6_code
def yX0_addClip : MethodName := ⟨RX0, "addClip", "(LAnimationController;I[J)I"⟩
def dkwX0_addClip_0 : List UInt8 := [44, 3, 42, 27, 182, 0, 26, 133, 80, 167, 0, 9, 78, 4, 172, 78, 5, 172, 3, 172]
abbrev dktX0_addClip_0 : List UInt8 := dkwX0_addClip_0 ++ []
theorem dksX0_addClip_0 : cX0_addClip.data.toList.drop 0 = dktX0_addClip_0 := by decide +kernel
theorem dX0_addClip_0 : decode cX0_addClip 0 = .ok (.aload_n 2, 1) := dk_44 (dk_at dksX0_addClip_0 0 rfl rfl)
theorem dX0_addClip_1 : decode cX0_addClip 1 = .ok (.iconst 0, 1) := dk_3 (dk_at dksX0_addClip_0 1 rfl rfl)
theorem dX0_addClip_2 : decode cX0_addClip 2 = .ok (.aload_n 0, 1) := dk_42 (dk_at dksX0_addClip_0 2 rfl rfl)
theorem dX0_addClip_3 : decode cX0_addClip 3 = .ok (.iload_n 1, 1) := dk_27 (dk_at dksX0_addClip_0 3 rfl rfl)
theorem dX0_addClip_4 : decode cX0_addClip 4 = .ok (.invokevirtual 26, 3) := dk_182 0 26 (dk_at dksX0_addClip_0 4 rfl rfl)
theorem dX0_addClip_7 : decode cX0_addClip 7 = .ok (.i2l, 1) := dk_133 (dk_at dksX0_addClip_0 7 rfl rfl)
theorem dX0_addClip_8 : decode cX0_addClip 8 = .ok (.lastore, 1) := dk_80 (dk_at dksX0_addClip_0 8 rfl rfl)
theorem dX0_addClip_9 : decode cX0_addClip 9 = .ok (.goto 9, 3) := dk_167 0 9 (dk_at dksX0_addClip_0 9 rfl rfl)
theorem dX0_addClip_12 : decode cX0_addClip 12 = .ok (.astore_n 3, 1) := dk_78 (dk_at dksX0_addClip_0 12 rfl rfl)
theorem dX0_addClip_13 : decode cX0_addClip 13 = .ok (.iconst 1, 1) := dk_4 (dk_at dksX0_addClip_0 13 rfl rfl)
theorem dX0_addClip_14 : decode cX0_addClip 14 = .ok (.ireturn, 1) := dk_172 (dk_at dksX0_addClip_0 14 rfl rfl)
theorem dX0_addClip_15 : decode cX0_addClip 15 = .ok (.astore_n 3, 1) := dk_78 (dk_at dksX0_addClip_0 15 rfl rfl)
theorem dX0_addClip_16 : decode cX0_addClip 16 = .ok (.iconst 2, 1) := dk_5 (dk_at dksX0_addClip_0 16 rfl rfl)
theorem dX0_addClip_17 : decode cX0_addClip 17 = .ok (.ireturn, 1) := dk_172 (dk_at dksX0_addClip_0 17 rfl rfl)
theorem dX0_addClip_18 : decode cX0_addClip 18 = .ok (.iconst 0, 1) := dk_3 (dk_at dksX0_addClip_0 18 rfl rfl)
theorem dX0_addClip_19 : decode cX0_addClip 19 = .ok (.ireturn, 1) := dk_172 (dk_at dksX0_addClip_0 19 rfl rfl)
abbrev cX0_addEvent : ByteArray := method_7_code
def yX0_addEvent : MethodName := ⟨RX0, "addEvent", "(LAnimationController;III[J)I"⟩
def dkwX0_addEvent_1 : List UInt8 := [58, 5, 6, 172, 3, 172]
abbrev dktX0_addEvent_1 : List UInt8 := dkwX0_addEvent_1 ++ []
def dkwX0_addEvent_0 : List UInt8 := [25, 4, 3, 42, 27, 28, 29, 182, 0, 29, 133, 80, 167, 0, 15, 58, 5, 4, 172, 58, 5, 5, 172]
abbrev dktX0_addEvent_0 : List UInt8 := dkwX0_addEvent_0 ++ dktX0_addEvent_1
theorem dksX0_addEvent_0 : cX0_addEvent.data.toList.drop 0 = dktX0_addEvent_0 := by decide +kernel
theorem dksX0_addEvent_1 : cX0_addEvent.data.toList.drop 23 = dktX0_addEvent_1 := dk_seg dksX0_addEvent_0 23 rfl rfl
theorem dX0_addEvent_0 : decode cX0_addEvent 0 = .ok (.aload 4, 2) := dk_25 4 (dk_at dksX0_addEvent_0 0 rfl rfl)
theorem dX0_addEvent_2 : decode cX0_addEvent 2 = .ok (.iconst 0, 1) := dk_3 (dk_at dksX0_addEvent_0 2 rfl rfl)
theorem dX0_addEvent_3 : decode cX0_addEvent 3 = .ok (.aload_n 0, 1) := dk_42 (dk_at dksX0_addEvent_0 3 rfl rfl)
theorem dX0_addEvent_4 : decode cX0_addEvent 4 = .ok (.iload_n 1, 1) := dk_27 (dk_at dksX0_addEvent_0 4 rfl rfl)
theorem dX0_addEvent_5 : decode cX0_addEvent 5 = .ok (.iload_n 2, 1) := dk_28 (dk_at dksX0_addEvent_0 5 rfl rfl)
theorem dX0_addEvent_6 : decode cX0_addEvent 6 = .ok (.iload_n 3, 1) := dk_29 (dk_at dksX0_addEvent_0 6 rfl rfl)
theorem dX0_addEvent_7 : decode cX0_addEvent 7 = .ok (.invokevirtual 29, 3) := dk_182 0 29 (dk_at dksX0_addEvent_0 7 rfl rfl)
theorem dX0_addEvent_10 : decode cX0_addEvent 10 = .ok (.i2l, 1) := dk_133 (dk_at dksX0_addEvent_0 10 rfl rfl)
theorem dX0_addEvent_11 : decode cX0_addEvent 11 = .ok (.lastore, 1) := dk_80 (dk_at dksX0_addEvent_0 11 rfl rfl)
theorem dX0_addEvent_12 : decode cX0_addEvent 12 = .ok (.goto 15, 3) := dk_167 0 15 (dk_at dksX0_addEvent_0 12 rfl rfl)
theorem dX0_addEvent_15 : decode cX0_addEvent 15 = .ok (.astore 5, 2) := dk_58 5 (dk_at dksX0_addEvent_0 15 rfl rfl)
theorem dX0_addEvent_17 : decode cX0_addEvent 17 = .ok (.iconst 1, 1) := dk_4 (dk_at dksX0_addEvent_0 17 rfl rfl)
theorem dX0_addEvent_18 : decode cX0_addEvent 18 = .ok (.ireturn, 1) := dk_172 (dk_at dksX0_addEvent_0 18 rfl rfl)
theorem dX0_addEvent_19 : decode cX0_addEvent 19 = .ok (.astore 5, 2) := dk_58 5 (dk_at dksX0_addEvent_0 19 rfl rfl)
theorem dX0_addEvent_21 : decode cX0_addEvent 21 = .ok (.iconst 2, 1) := dk_5 (dk_at dksX0_addEvent_0 21 rfl rfl)
theorem dX0_addEvent_22 : decode cX0_addEvent 22 = .ok (.ireturn, 1) := dk_172 (dk_at dksX0_addEvent_0 22 rfl rfl)
theorem dX0_addEvent_23 : decode cX0_addEvent 23 = .ok (.astore 5, 2) := dk_58 5 (dk_at dksX0_addEvent_1 0 rfl rfl)
theorem dX0_addEvent_25 : decode cX0_addEvent 25 = .ok (.iconst 3, 1) := dk_6 (dk_at dksX0_addEvent_1 2 rfl rfl)
theorem dX0_addEvent_26 : decode cX0_addEvent 26 = .ok (.ireturn, 1) := dk_172 (dk_at dksX0_addEvent_1 3 rfl rfl)
theorem dX0_addEvent_27 : decode cX0_addEvent 27 = .ok (.iconst 0, 1) := dk_3 (dk_at dksX0_addEvent_1 4 rfl rfl)
theorem dX0_addEvent_28 : decode cX0_addEvent 28 = .ok (.ireturn, 1) := dk_172 (dk_at dksX0_addEvent_1 5 rfl rfl)
abbrev cX0_addClipNode : ByteArray := method_8_code
def yX0_addClipNode : MethodName := ⟨RX0, "addClipNode", "(LAnimationController;I[J)I"⟩
def dkwX0_addClipNode_0 : List UInt8 := [44, 3, 42, 27, 182, 0, 33, 133, 80, 167, 0, 9, 78, 4, 172, 78, 5, 172, 3, 172]
abbrev dktX0_addClipNode_0 : List UInt8 := dkwX0_addClipNode_0 ++ []
theorem dksX0_addClipNode_0 : cX0_addClipNode.data.toList.drop 0 = dktX0_addClipNode_0 := by decide +kernel
theorem dX0_addClipNode_0 : decode cX0_addClipNode 0 = .ok (.aload_n 2, 1) := dk_44 (dk_at dksX0_addClipNode_0 0 rfl rfl)
theorem dX0_addClipNode_1 : decode cX0_addClipNode 1 = .ok (.iconst 0, 1) := dk_3 (dk_at dksX0_addClipNode_0 1 rfl rfl)
theorem dX0_addClipNode_2 : decode cX0_addClipNode 2 = .ok (.aload_n 0, 1) := dk_42 (dk_at dksX0_addClipNode_0 2 rfl rfl)
theorem dX0_addClipNode_3 : decode cX0_addClipNode 3 = .ok (.iload_n 1, 1) := dk_27 (dk_at dksX0_addClipNode_0 3 rfl rfl)
theorem dX0_addClipNode_4 : decode cX0_addClipNode 4 = .ok (.invokevirtual 33, 3) := dk_182 0 33 (dk_at dksX0_addClipNode_0 4 rfl rfl)
theorem dX0_addClipNode_7 : decode cX0_addClipNode 7 = .ok (.i2l, 1) := dk_133 (dk_at dksX0_addClipNode_0 7 rfl rfl)
theorem dX0_addClipNode_8 : decode cX0_addClipNode 8 = .ok (.lastore, 1) := dk_80 (dk_at dksX0_addClipNode_0 8 rfl rfl)
theorem dX0_addClipNode_9 : decode cX0_addClipNode 9 = .ok (.goto 9, 3) := dk_167 0 9 (dk_at dksX0_addClipNode_0 9 rfl rfl)
theorem dX0_addClipNode_12 : decode cX0_addClipNode 12 = .ok (.astore_n 3, 1) := dk_78 (dk_at dksX0_addClipNode_0 12 rfl rfl)
theorem dX0_addClipNode_13 : decode cX0_addClipNode 13 = .ok (.iconst 1, 1) := dk_4 (dk_at dksX0_addClipNode_0 13 rfl rfl)
theorem dX0_addClipNode_14 : decode cX0_addClipNode 14 = .ok (.ireturn, 1) := dk_172 (dk_at dksX0_addClipNode_0 14 rfl rfl)
theorem dX0_addClipNode_15 : decode cX0_addClipNode 15 = .ok (.astore_n 3, 1) := dk_78 (dk_at dksX0_addClipNode_0 15 rfl rfl)
theorem dX0_addClipNode_16 : decode cX0_addClipNode 16 = .ok (.iconst 2, 1) := dk_5 (dk_at dksX0_addClipNode_0 16 rfl rfl)
theorem dX0_addClipNode_17 : decode cX0_addClipNode 17 = .ok (.ireturn, 1) := dk_172 (dk_at dksX0_addClipNode_0 17 rfl rfl)
theorem dX0_addClipNode_18 : decode cX0_addClipNode 18 = .ok (.iconst 0, 1) := dk_3 (dk_at dksX0_addClipNode_0 18 rfl rfl)
theorem dX0_addClipNode_19 : decode cX0_addClipNode 19 = .ok (.ireturn, 1) := dk_172 (dk_at dksX0_addClipNode_0 19 rfl rfl)
abbrev cX0_addLine : ByteArray := method_9_code
def yX0_addLine : MethodName := ⟨RX0, "addLine", "(LAnimationController;I[J)I"⟩
def dkwX0_addLine_0 : List UInt8 := [44, 3, 42, 27, 182, 0, 36, 133, 80, 167, 0, 9, 78, 4, 172, 78, 5, 172, 3, 172]
abbrev dktX0_addLine_0 : List UInt8 := dkwX0_addLine_0 ++ []
theorem dksX0_addLine_0 : cX0_addLine.data.toList.drop 0 = dktX0_addLine_0 := by decide +kernel
theorem dX0_addLine_0 : decode cX0_addLine 0 = .ok (.aload_n 2, 1) := dk_44 (dk_at dksX0_addLine_0 0 rfl rfl)
theorem dX0_addLine_1 : decode cX0_addLine 1 = .ok (.iconst 0, 1) := dk_3 (dk_at dksX0_addLine_0 1 rfl rfl)
theorem dX0_addLine_2 : decode cX0_addLine 2 = .ok (.aload_n 0, 1) := dk_42 (dk_at dksX0_addLine_0 2 rfl rfl)
theorem dX0_addLine_3 : decode cX0_addLine 3 = .ok (.iload_n 1, 1) := dk_27 (dk_at dksX0_addLine_0 3 rfl rfl)
theorem dX0_addLine_4 : decode cX0_addLine 4 = .ok (.invokevirtual 36, 3) := dk_182 0 36 (dk_at dksX0_addLine_0 4 rfl rfl)
theorem dX0_addLine_7 : decode cX0_addLine 7 = .ok (.i2l, 1) := dk_133 (dk_at dksX0_addLine_0 7 rfl rfl)
theorem dX0_addLine_8 : decode cX0_addLine 8 = .ok (.lastore, 1) := dk_80 (dk_at dksX0_addLine_0 8 rfl rfl)
theorem dX0_addLine_9 : decode cX0_addLine 9 = .ok (.goto 9, 3) := dk_167 0 9 (dk_at dksX0_addLine_0 9 rfl rfl)
theorem dX0_addLine_12 : decode cX0_addLine 12 = .ok (.astore_n 3, 1) := dk_78 (dk_at dksX0_addLine_0 12 rfl rfl)
theorem dX0_addLine_13 : decode cX0_addLine 13 = .ok (.iconst 1, 1) := dk_4 (dk_at dksX0_addLine_0 13 rfl rfl)
theorem dX0_addLine_14 : decode cX0_addLine 14 = .ok (.ireturn, 1) := dk_172 (dk_at dksX0_addLine_0 14 rfl rfl)
theorem dX0_addLine_15 : decode cX0_addLine 15 = .ok (.astore_n 3, 1) := dk_78 (dk_at dksX0_addLine_0 15 rfl rfl)
theorem dX0_addLine_16 : decode cX0_addLine 16 = .ok (.iconst 2, 1) := dk_5 (dk_at dksX0_addLine_0 16 rfl rfl)
theorem dX0_addLine_17 : decode cX0_addLine 17 = .ok (.ireturn, 1) := dk_172 (dk_at dksX0_addLine_0 17 rfl rfl)
theorem dX0_addLine_18 : decode cX0_addLine 18 = .ok (.iconst 0, 1) := dk_3 (dk_at dksX0_addLine_0 18 rfl rfl)
theorem dX0_addLine_19 : decode cX0_addLine 19 = .ok (.ireturn, 1) := dk_172 (dk_at dksX0_addLine_0 19 rfl rfl)
abbrev cX0_addChild : ByteArray := method_10_code
def yX0_addChild : MethodName := ⟨RX0, "addChild", "(LAnimationController;III[J)I"⟩
def dkwX0_addChild_1 : List UInt8 := [58, 5, 6, 172, 3, 172]
abbrev dktX0_addChild_1 : List UInt8 := dkwX0_addChild_1 ++ []
def dkwX0_addChild_0 : List UInt8 := [25, 4, 3, 42, 27, 28, 29, 182, 0, 39, 133, 80, 167, 0, 15, 58, 5, 4, 172, 58, 5, 5, 172]
abbrev dktX0_addChild_0 : List UInt8 := dkwX0_addChild_0 ++ dktX0_addChild_1
theorem dksX0_addChild_0 : cX0_addChild.data.toList.drop 0 = dktX0_addChild_0 := by decide +kernel
theorem dksX0_addChild_1 : cX0_addChild.data.toList.drop 23 = dktX0_addChild_1 := dk_seg dksX0_addChild_0 23 rfl rfl
theorem dX0_addChild_0 : decode cX0_addChild 0 = .ok (.aload 4, 2) := dk_25 4 (dk_at dksX0_addChild_0 0 rfl rfl)
theorem dX0_addChild_2 : decode cX0_addChild 2 = .ok (.iconst 0, 1) := dk_3 (dk_at dksX0_addChild_0 2 rfl rfl)
theorem dX0_addChild_3 : decode cX0_addChild 3 = .ok (.aload_n 0, 1) := dk_42 (dk_at dksX0_addChild_0 3 rfl rfl)
theorem dX0_addChild_4 : decode cX0_addChild 4 = .ok (.iload_n 1, 1) := dk_27 (dk_at dksX0_addChild_0 4 rfl rfl)
theorem dX0_addChild_5 : decode cX0_addChild 5 = .ok (.iload_n 2, 1) := dk_28 (dk_at dksX0_addChild_0 5 rfl rfl)
theorem dX0_addChild_6 : decode cX0_addChild 6 = .ok (.iload_n 3, 1) := dk_29 (dk_at dksX0_addChild_0 6 rfl rfl)
theorem dX0_addChild_7 : decode cX0_addChild 7 = .ok (.invokevirtual 39, 3) := dk_182 0 39 (dk_at dksX0_addChild_0 7 rfl rfl)
theorem dX0_addChild_10 : decode cX0_addChild 10 = .ok (.i2l, 1) := dk_133 (dk_at dksX0_addChild_0 10 rfl rfl)
theorem dX0_addChild_11 : decode cX0_addChild 11 = .ok (.lastore, 1) := dk_80 (dk_at dksX0_addChild_0 11 rfl rfl)
theorem dX0_addChild_12 : decode cX0_addChild 12 = .ok (.goto 15, 3) := dk_167 0 15 (dk_at dksX0_addChild_0 12 rfl rfl)
theorem dX0_addChild_15 : decode cX0_addChild 15 = .ok (.astore 5, 2) := dk_58 5 (dk_at dksX0_addChild_0 15 rfl rfl)
theorem dX0_addChild_17 : decode cX0_addChild 17 = .ok (.iconst 1, 1) := dk_4 (dk_at dksX0_addChild_0 17 rfl rfl)
theorem dX0_addChild_18 : decode cX0_addChild 18 = .ok (.ireturn, 1) := dk_172 (dk_at dksX0_addChild_0 18 rfl rfl)
theorem dX0_addChild_19 : decode cX0_addChild 19 = .ok (.astore 5, 2) := dk_58 5 (dk_at dksX0_addChild_0 19 rfl rfl)
theorem dX0_addChild_21 : decode cX0_addChild 21 = .ok (.iconst 2, 1) := dk_5 (dk_at dksX0_addChild_0 21 rfl rfl)
theorem dX0_addChild_22 : decode cX0_addChild 22 = .ok (.ireturn, 1) := dk_172 (dk_at dksX0_addChild_0 22 rfl rfl)
theorem dX0_addChild_23 : decode cX0_addChild 23 = .ok (.astore 5, 2) := dk_58 5 (dk_at dksX0_addChild_1 0 rfl rfl)
theorem dX0_addChild_25 : decode cX0_addChild 25 = .ok (.iconst 3, 1) := dk_6 (dk_at dksX0_addChild_1 2 rfl rfl)
theorem dX0_addChild_26 : decode cX0_addChild 26 = .ok (.ireturn, 1) := dk_172 (dk_at dksX0_addChild_1 3 rfl rfl)
theorem dX0_addChild_27 : decode cX0_addChild 27 = .ok (.iconst 0, 1) := dk_3 (dk_at dksX0_addChild_1 4 rfl rfl)
theorem dX0_addChild_28 : decode cX0_addChild 28 = .ok (.ireturn, 1) := dk_172 (dk_at dksX0_addChild_1 5 rfl rfl)
abbrev cX0_addState : ByteArray := method_11_code
def yX0_addState : MethodName := ⟨RX0, "addState", "(LAnimationController;IIZI[J)I"⟩
def dkwX0_addState_1 : List UInt8 := [172, 58, 6, 6, 172, 3, 172]
abbrev dktX0_addState_1 : List UInt8 := dkwX0_addState_1 ++ []
def dkwX0_addState_0 : List UInt8 := [25, 5, 3, 42, 27, 28, 29, 21, 4, 182, 0, 42, 133, 80, 167, 0, 15, 58, 6, 4, 172, 58, 6, 5]
abbrev dktX0_addState_0 : List UInt8 := dkwX0_addState_0 ++ dktX0_addState_1
theorem dksX0_addState_0 : cX0_addState.data.toList.drop 0 = dktX0_addState_0 := by decide +kernel
theorem dksX0_addState_1 : cX0_addState.data.toList.drop 24 = dktX0_addState_1 := dk_seg dksX0_addState_0 24 rfl rfl
theorem dX0_addState_0 : decode cX0_addState 0 = .ok (.aload 5, 2) := dk_25 5 (dk_at dksX0_addState_0 0 rfl rfl)
theorem dX0_addState_2 : decode cX0_addState 2 = .ok (.iconst 0, 1) := dk_3 (dk_at dksX0_addState_0 2 rfl rfl)
theorem dX0_addState_3 : decode cX0_addState 3 = .ok (.aload_n 0, 1) := dk_42 (dk_at dksX0_addState_0 3 rfl rfl)
theorem dX0_addState_4 : decode cX0_addState 4 = .ok (.iload_n 1, 1) := dk_27 (dk_at dksX0_addState_0 4 rfl rfl)
theorem dX0_addState_5 : decode cX0_addState 5 = .ok (.iload_n 2, 1) := dk_28 (dk_at dksX0_addState_0 5 rfl rfl)
theorem dX0_addState_6 : decode cX0_addState 6 = .ok (.iload_n 3, 1) := dk_29 (dk_at dksX0_addState_0 6 rfl rfl)
theorem dX0_addState_7 : decode cX0_addState 7 = .ok (.iload 4, 2) := dk_21 4 (dk_at dksX0_addState_0 7 rfl rfl)
theorem dX0_addState_9 : decode cX0_addState 9 = .ok (.invokevirtual 42, 3) := dk_182 0 42 (dk_at dksX0_addState_0 9 rfl rfl)
theorem dX0_addState_12 : decode cX0_addState 12 = .ok (.i2l, 1) := dk_133 (dk_at dksX0_addState_0 12 rfl rfl)
theorem dX0_addState_13 : decode cX0_addState 13 = .ok (.lastore, 1) := dk_80 (dk_at dksX0_addState_0 13 rfl rfl)
theorem dX0_addState_14 : decode cX0_addState 14 = .ok (.goto 15, 3) := dk_167 0 15 (dk_at dksX0_addState_0 14 rfl rfl)
theorem dX0_addState_17 : decode cX0_addState 17 = .ok (.astore 6, 2) := dk_58 6 (dk_at dksX0_addState_0 17 rfl rfl)
theorem dX0_addState_19 : decode cX0_addState 19 = .ok (.iconst 1, 1) := dk_4 (dk_at dksX0_addState_0 19 rfl rfl)
theorem dX0_addState_20 : decode cX0_addState 20 = .ok (.ireturn, 1) := dk_172 (dk_at dksX0_addState_0 20 rfl rfl)
theorem dX0_addState_21 : decode cX0_addState 21 = .ok (.astore 6, 2) := dk_58 6 (dk_at dksX0_addState_0 21 rfl rfl)
theorem dX0_addState_23 : decode cX0_addState 23 = .ok (.iconst 2, 1) := dk_5 (dk_at dksX0_addState_0 23 rfl rfl)
theorem dX0_addState_24 : decode cX0_addState 24 = .ok (.ireturn, 1) := dk_172 (dk_at dksX0_addState_1 0 rfl rfl)
theorem dX0_addState_25 : decode cX0_addState 25 = .ok (.astore 6, 2) := dk_58 6 (dk_at dksX0_addState_1 1 rfl rfl)
theorem dX0_addState_27 : decode cX0_addState 27 = .ok (.iconst 3, 1) := dk_6 (dk_at dksX0_addState_1 3 rfl rfl)
theorem dX0_addState_28 : decode cX0_addState 28 = .ok (.ireturn, 1) := dk_172 (dk_at dksX0_addState_1 4 rfl rfl)
theorem dX0_addState_29 : decode cX0_addState 29 = .ok (.iconst 0, 1) := dk_3 (dk_at dksX0_addState_1 5 rfl rfl)
theorem dX0_addState_30 : decode cX0_addState 30 = .ok (.ireturn, 1) := dk_172 (dk_at dksX0_addState_1 6 rfl rfl)
abbrev cX0_addTransition : ByteArray := method_12_code
def yX0_addTransition : MethodName := ⟨RX0, "addTransition", "(LAnimationController;III[J)I"⟩
def dkwX0_addTransition_1 : List UInt8 := [58, 5, 6, 172, 3, 172]
abbrev dktX0_addTransition_1 : List UInt8 := dkwX0_addTransition_1 ++ []
def dkwX0_addTransition_0 : List UInt8 := [25, 4, 3, 42, 27, 28, 29, 182, 0, 46, 133, 80, 167, 0, 15, 58, 5, 4, 172, 58, 5, 5, 172]
abbrev dktX0_addTransition_0 : List UInt8 := dkwX0_addTransition_0 ++ dktX0_addTransition_1
theorem dksX0_addTransition_0 : cX0_addTransition.data.toList.drop 0 = dktX0_addTransition_0 := by decide +kernel
theorem dksX0_addTransition_1 : cX0_addTransition.data.toList.drop 23 = dktX0_addTransition_1 := dk_seg dksX0_addTransition_0 23 rfl rfl
theorem dX0_addTransition_0 : decode cX0_addTransition 0 = .ok (.aload 4, 2) := dk_25 4 (dk_at dksX0_addTransition_0 0 rfl rfl)
theorem dX0_addTransition_2 : decode cX0_addTransition 2 = .ok (.iconst 0, 1) := dk_3 (dk_at dksX0_addTransition_0 2 rfl rfl)
theorem dX0_addTransition_3 : decode cX0_addTransition 3 = .ok (.aload_n 0, 1) := dk_42 (dk_at dksX0_addTransition_0 3 rfl rfl)
theorem dX0_addTransition_4 : decode cX0_addTransition 4 = .ok (.iload_n 1, 1) := dk_27 (dk_at dksX0_addTransition_0 4 rfl rfl)
theorem dX0_addTransition_5 : decode cX0_addTransition 5 = .ok (.iload_n 2, 1) := dk_28 (dk_at dksX0_addTransition_0 5 rfl rfl)
theorem dX0_addTransition_6 : decode cX0_addTransition 6 = .ok (.iload_n 3, 1) := dk_29 (dk_at dksX0_addTransition_0 6 rfl rfl)
theorem dX0_addTransition_7 : decode cX0_addTransition 7 = .ok (.invokevirtual 46, 3) := dk_182 0 46 (dk_at dksX0_addTransition_0 7 rfl rfl)
theorem dX0_addTransition_10 : decode cX0_addTransition 10 = .ok (.i2l, 1) := dk_133 (dk_at dksX0_addTransition_0 10 rfl rfl)
theorem dX0_addTransition_11 : decode cX0_addTransition 11 = .ok (.lastore, 1) := dk_80 (dk_at dksX0_addTransition_0 11 rfl rfl)
theorem dX0_addTransition_12 : decode cX0_addTransition 12 = .ok (.goto 15, 3) := dk_167 0 15 (dk_at dksX0_addTransition_0 12 rfl rfl)
theorem dX0_addTransition_15 : decode cX0_addTransition 15 = .ok (.astore 5, 2) := dk_58 5 (dk_at dksX0_addTransition_0 15 rfl rfl)
theorem dX0_addTransition_17 : decode cX0_addTransition 17 = .ok (.iconst 1, 1) := dk_4 (dk_at dksX0_addTransition_0 17 rfl rfl)
theorem dX0_addTransition_18 : decode cX0_addTransition 18 = .ok (.ireturn, 1) := dk_172 (dk_at dksX0_addTransition_0 18 rfl rfl)
theorem dX0_addTransition_19 : decode cX0_addTransition 19 = .ok (.astore 5, 2) := dk_58 5 (dk_at dksX0_addTransition_0 19 rfl rfl)
theorem dX0_addTransition_21 : decode cX0_addTransition 21 = .ok (.iconst 2, 1) := dk_5 (dk_at dksX0_addTransition_0 21 rfl rfl)
theorem dX0_addTransition_22 : decode cX0_addTransition 22 = .ok (.ireturn, 1) := dk_172 (dk_at dksX0_addTransition_0 22 rfl rfl)
theorem dX0_addTransition_23 : decode cX0_addTransition 23 = .ok (.astore 5, 2) := dk_58 5 (dk_at dksX0_addTransition_1 0 rfl rfl)
theorem dX0_addTransition_25 : decode cX0_addTransition 25 = .ok (.iconst 3, 1) := dk_6 (dk_at dksX0_addTransition_1 2 rfl rfl)
theorem dX0_addTransition_26 : decode cX0_addTransition 26 = .ok (.ireturn, 1) := dk_172 (dk_at dksX0_addTransition_1 3 rfl rfl)
theorem dX0_addTransition_27 : decode cX0_addTransition 27 = .ok (.iconst 0, 1) := dk_3 (dk_at dksX0_addTransition_1 4 rfl rfl)
theorem dX0_addTransition_28 : decode cX0_addTransition 28 = .ok (.ireturn, 1) := dk_172 (dk_at dksX0_addTransition_1 5 rfl rfl)
abbrev cX0_setTiming : ByteArray := method_13_code
def yX0_setTiming : MethodName := ⟨RX0, "setTiming", "(LAnimationController;III[J)I"⟩
def dkwX0_setTiming_1 : List UInt8 := [58, 5, 6, 172, 3, 172]
abbrev dktX0_setTiming_1 : List UInt8 := dkwX0_setTiming_1 ++ []
def dkwX0_setTiming_0 : List UInt8 := [25, 4, 3, 42, 27, 28, 29, 182, 0, 49, 133, 80, 167, 0, 15, 58, 5, 4, 172, 58, 5, 5, 172]
abbrev dktX0_setTiming_0 : List UInt8 := dkwX0_setTiming_0 ++ dktX0_setTiming_1
theorem dksX0_setTiming_0 : cX0_setTiming.data.toList.drop 0 = dktX0_setTiming_0 := by decide +kernel
theorem dksX0_setTiming_1 : cX0_setTiming.data.toList.drop 23 = dktX0_setTiming_1 := dk_seg dksX0_setTiming_0 23 rfl rfl
theorem dX0_setTiming_0 : decode cX0_setTiming 0 = .ok (.aload 4, 2) := dk_25 4 (dk_at dksX0_setTiming_0 0 rfl rfl)
theorem dX0_setTiming_2 : decode cX0_setTiming 2 = .ok (.iconst 0, 1) := dk_3 (dk_at dksX0_setTiming_0 2 rfl rfl)
theorem dX0_setTiming_3 : decode cX0_setTiming 3 = .ok (.aload_n 0, 1) := dk_42 (dk_at dksX0_setTiming_0 3 rfl rfl)
theorem dX0_setTiming_4 : decode cX0_setTiming 4 = .ok (.iload_n 1, 1) := dk_27 (dk_at dksX0_setTiming_0 4 rfl rfl)
theorem dX0_setTiming_5 : decode cX0_setTiming 5 = .ok (.iload_n 2, 1) := dk_28 (dk_at dksX0_setTiming_0 5 rfl rfl)
theorem dX0_setTiming_6 : decode cX0_setTiming 6 = .ok (.iload_n 3, 1) := dk_29 (dk_at dksX0_setTiming_0 6 rfl rfl)
theorem dX0_setTiming_7 : decode cX0_setTiming 7 = .ok (.invokevirtual 49, 3) := dk_182 0 49 (dk_at dksX0_setTiming_0 7 rfl rfl)
theorem dX0_setTiming_10 : decode cX0_setTiming 10 = .ok (.i2l, 1) := dk_133 (dk_at dksX0_setTiming_0 10 rfl rfl)
theorem dX0_setTiming_11 : decode cX0_setTiming 11 = .ok (.lastore, 1) := dk_80 (dk_at dksX0_setTiming_0 11 rfl rfl)
theorem dX0_setTiming_12 : decode cX0_setTiming 12 = .ok (.goto 15, 3) := dk_167 0 15 (dk_at dksX0_setTiming_0 12 rfl rfl)
theorem dX0_setTiming_15 : decode cX0_setTiming 15 = .ok (.astore 5, 2) := dk_58 5 (dk_at dksX0_setTiming_0 15 rfl rfl)
theorem dX0_setTiming_17 : decode cX0_setTiming 17 = .ok (.iconst 1, 1) := dk_4 (dk_at dksX0_setTiming_0 17 rfl rfl)
theorem dX0_setTiming_18 : decode cX0_setTiming 18 = .ok (.ireturn, 1) := dk_172 (dk_at dksX0_setTiming_0 18 rfl rfl)
theorem dX0_setTiming_19 : decode cX0_setTiming 19 = .ok (.astore 5, 2) := dk_58 5 (dk_at dksX0_setTiming_0 19 rfl rfl)
theorem dX0_setTiming_21 : decode cX0_setTiming 21 = .ok (.iconst 2, 1) := dk_5 (dk_at dksX0_setTiming_0 21 rfl rfl)
theorem dX0_setTiming_22 : decode cX0_setTiming 22 = .ok (.ireturn, 1) := dk_172 (dk_at dksX0_setTiming_0 22 rfl rfl)
theorem dX0_setTiming_23 : decode cX0_setTiming 23 = .ok (.astore 5, 2) := dk_58 5 (dk_at dksX0_setTiming_1 0 rfl rfl)
theorem dX0_setTiming_25 : decode cX0_setTiming 25 = .ok (.iconst 3, 1) := dk_6 (dk_at dksX0_setTiming_1 2 rfl rfl)
theorem dX0_setTiming_26 : decode cX0_setTiming 26 = .ok (.ireturn, 1) := dk_172 (dk_at dksX0_setTiming_1 3 rfl rfl)
theorem dX0_setTiming_27 : decode cX0_setTiming 27 = .ok (.iconst 0, 1) := dk_3 (dk_at dksX0_setTiming_1 4 rfl rfl)
theorem dX0_setTiming_28 : decode cX0_setTiming 28 = .ok (.ireturn, 1) := dk_172 (dk_at dksX0_setTiming_1 5 rfl rfl)
abbrev cX0_setInterruption : ByteArray := method_14_code
def yX0_setInterruption : MethodName := ⟨RX0, "setInterruption", "(LAnimationController;IIZ[J)I"⟩
def dkwX0_setInterruption_1 : List UInt8 := [172]
abbrev dktX0_setInterruption_1 : List UInt8 := dkwX0_setInterruption_1 ++ []
def dkwX0_setInterruption_0 : List UInt8 := [25, 4, 3, 42, 27, 28, 29, 182, 0, 52, 133, 80, 167, 0, 11, 58, 5, 4, 172, 58, 5, 5, 172, 3]
abbrev dktX0_setInterruption_0 : List UInt8 := dkwX0_setInterruption_0 ++ dktX0_setInterruption_1
theorem dksX0_setInterruption_0 : cX0_setInterruption.data.toList.drop 0 = dktX0_setInterruption_0 := by decide +kernel
theorem dksX0_setInterruption_1 : cX0_setInterruption.data.toList.drop 24 = dktX0_setInterruption_1 := dk_seg dksX0_setInterruption_0 24 rfl rfl
theorem dX0_setInterruption_0 : decode cX0_setInterruption 0 = .ok (.aload 4, 2) := dk_25 4 (dk_at dksX0_setInterruption_0 0 rfl rfl)
theorem dX0_setInterruption_2 : decode cX0_setInterruption 2 = .ok (.iconst 0, 1) := dk_3 (dk_at dksX0_setInterruption_0 2 rfl rfl)
theorem dX0_setInterruption_3 : decode cX0_setInterruption 3 = .ok (.aload_n 0, 1) := dk_42 (dk_at dksX0_setInterruption_0 3 rfl rfl)
theorem dX0_setInterruption_4 : decode cX0_setInterruption 4 = .ok (.iload_n 1, 1) := dk_27 (dk_at dksX0_setInterruption_0 4 rfl rfl)
theorem dX0_setInterruption_5 : decode cX0_setInterruption 5 = .ok (.iload_n 2, 1) := dk_28 (dk_at dksX0_setInterruption_0 5 rfl rfl)
theorem dX0_setInterruption_6 : decode cX0_setInterruption 6 = .ok (.iload_n 3, 1) := dk_29 (dk_at dksX0_setInterruption_0 6 rfl rfl)
theorem dX0_setInterruption_7 : decode cX0_setInterruption 7 = .ok (.invokevirtual 52, 3) := dk_182 0 52 (dk_at dksX0_setInterruption_0 7 rfl rfl)
theorem dX0_setInterruption_10 : decode cX0_setInterruption 10 = .ok (.i2l, 1) := dk_133 (dk_at dksX0_setInterruption_0 10 rfl rfl)
theorem dX0_setInterruption_11 : decode cX0_setInterruption 11 = .ok (.lastore, 1) := dk_80 (dk_at dksX0_setInterruption_0 11 rfl rfl)
theorem dX0_setInterruption_12 : decode cX0_setInterruption 12 = .ok (.goto 11, 3) := dk_167 0 11 (dk_at dksX0_setInterruption_0 12 rfl rfl)
theorem dX0_setInterruption_15 : decode cX0_setInterruption 15 = .ok (.astore 5, 2) := dk_58 5 (dk_at dksX0_setInterruption_0 15 rfl rfl)
theorem dX0_setInterruption_17 : decode cX0_setInterruption 17 = .ok (.iconst 1, 1) := dk_4 (dk_at dksX0_setInterruption_0 17 rfl rfl)
theorem dX0_setInterruption_18 : decode cX0_setInterruption 18 = .ok (.ireturn, 1) := dk_172 (dk_at dksX0_setInterruption_0 18 rfl rfl)
theorem dX0_setInterruption_19 : decode cX0_setInterruption 19 = .ok (.astore 5, 2) := dk_58 5 (dk_at dksX0_setInterruption_0 19 rfl rfl)
theorem dX0_setInterruption_21 : decode cX0_setInterruption 21 = .ok (.iconst 2, 1) := dk_5 (dk_at dksX0_setInterruption_0 21 rfl rfl)
theorem dX0_setInterruption_22 : decode cX0_setInterruption 22 = .ok (.ireturn, 1) := dk_172 (dk_at dksX0_setInterruption_0 22 rfl rfl)
theorem dX0_setInterruption_23 : decode cX0_setInterruption 23 = .ok (.iconst 0, 1) := dk_3 (dk_at dksX0_setInterruption_0 23 rfl rfl)
theorem dX0_setInterruption_24 : decode cX0_setInterruption 24 = .ok (.ireturn, 1) := dk_172 (dk_at dksX0_setInterruption_1 0 rfl rfl)
abbrev cX0_addCondition : ByteArray := method_15_code
def yX0_addCondition : MethodName := ⟨RX0, "addCondition", "(LAnimationController;IIII[J)I"⟩
def dkwX0_addCondition_1 : List UInt8 := [172, 58, 6, 6, 172, 3, 172]
abbrev dktX0_addCondition_1 : List UInt8 := dkwX0_addCondition_1 ++ []
def dkwX0_addCondition_0 : List UInt8 := [25, 5, 3, 42, 27, 28, 29, 21, 4, 182, 0, 56, 133, 80, 167, 0, 15, 58, 6, 4, 172, 58, 6, 5]
abbrev dktX0_addCondition_0 : List UInt8 := dkwX0_addCondition_0 ++ dktX0_addCondition_1
theorem dksX0_addCondition_0 : cX0_addCondition.data.toList.drop 0 = dktX0_addCondition_0 := by decide +kernel
theorem dksX0_addCondition_1 : cX0_addCondition.data.toList.drop 24 = dktX0_addCondition_1 := dk_seg dksX0_addCondition_0 24 rfl rfl
theorem dX0_addCondition_0 : decode cX0_addCondition 0 = .ok (.aload 5, 2) := dk_25 5 (dk_at dksX0_addCondition_0 0 rfl rfl)
theorem dX0_addCondition_2 : decode cX0_addCondition 2 = .ok (.iconst 0, 1) := dk_3 (dk_at dksX0_addCondition_0 2 rfl rfl)
theorem dX0_addCondition_3 : decode cX0_addCondition 3 = .ok (.aload_n 0, 1) := dk_42 (dk_at dksX0_addCondition_0 3 rfl rfl)
theorem dX0_addCondition_4 : decode cX0_addCondition 4 = .ok (.iload_n 1, 1) := dk_27 (dk_at dksX0_addCondition_0 4 rfl rfl)
theorem dX0_addCondition_5 : decode cX0_addCondition 5 = .ok (.iload_n 2, 1) := dk_28 (dk_at dksX0_addCondition_0 5 rfl rfl)
theorem dX0_addCondition_6 : decode cX0_addCondition 6 = .ok (.iload_n 3, 1) := dk_29 (dk_at dksX0_addCondition_0 6 rfl rfl)
theorem dX0_addCondition_7 : decode cX0_addCondition 7 = .ok (.iload 4, 2) := dk_21 4 (dk_at dksX0_addCondition_0 7 rfl rfl)
theorem dX0_addCondition_9 : decode cX0_addCondition 9 = .ok (.invokevirtual 56, 3) := dk_182 0 56 (dk_at dksX0_addCondition_0 9 rfl rfl)
theorem dX0_addCondition_12 : decode cX0_addCondition 12 = .ok (.i2l, 1) := dk_133 (dk_at dksX0_addCondition_0 12 rfl rfl)
theorem dX0_addCondition_13 : decode cX0_addCondition 13 = .ok (.lastore, 1) := dk_80 (dk_at dksX0_addCondition_0 13 rfl rfl)
theorem dX0_addCondition_14 : decode cX0_addCondition 14 = .ok (.goto 15, 3) := dk_167 0 15 (dk_at dksX0_addCondition_0 14 rfl rfl)
theorem dX0_addCondition_17 : decode cX0_addCondition 17 = .ok (.astore 6, 2) := dk_58 6 (dk_at dksX0_addCondition_0 17 rfl rfl)
theorem dX0_addCondition_19 : decode cX0_addCondition 19 = .ok (.iconst 1, 1) := dk_4 (dk_at dksX0_addCondition_0 19 rfl rfl)
theorem dX0_addCondition_20 : decode cX0_addCondition 20 = .ok (.ireturn, 1) := dk_172 (dk_at dksX0_addCondition_0 20 rfl rfl)
theorem dX0_addCondition_21 : decode cX0_addCondition 21 = .ok (.astore 6, 2) := dk_58 6 (dk_at dksX0_addCondition_0 21 rfl rfl)
theorem dX0_addCondition_23 : decode cX0_addCondition 23 = .ok (.iconst 2, 1) := dk_5 (dk_at dksX0_addCondition_0 23 rfl rfl)
theorem dX0_addCondition_24 : decode cX0_addCondition 24 = .ok (.ireturn, 1) := dk_172 (dk_at dksX0_addCondition_1 0 rfl rfl)
theorem dX0_addCondition_25 : decode cX0_addCondition 25 = .ok (.astore 6, 2) := dk_58 6 (dk_at dksX0_addCondition_1 1 rfl rfl)
theorem dX0_addCondition_27 : decode cX0_addCondition 27 = .ok (.iconst 3, 1) := dk_6 (dk_at dksX0_addCondition_1 3 rfl rfl)
theorem dX0_addCondition_28 : decode cX0_addCondition 28 = .ok (.ireturn, 1) := dk_172 (dk_at dksX0_addCondition_1 4 rfl rfl)
theorem dX0_addCondition_29 : decode cX0_addCondition 29 = .ok (.iconst 0, 1) := dk_3 (dk_at dksX0_addCondition_1 5 rfl rfl)
theorem dX0_addCondition_30 : decode cX0_addCondition 30 = .ok (.ireturn, 1) := dk_172 (dk_at dksX0_addCondition_1 6 rfl rfl)
abbrev cX0_setThreshold : ByteArray := method_16_code
def yX0_setThreshold : MethodName := ⟨RX0, "setThreshold", "(LAnimationController;I[J)I"⟩
def dkwX0_setThreshold_0 : List UInt8 := [44, 3, 42, 27, 182, 0, 60, 133, 80, 167, 0, 6, 78, 4, 172, 3, 172]
abbrev dktX0_setThreshold_0 : List UInt8 := dkwX0_setThreshold_0 ++ []
theorem dksX0_setThreshold_0 : cX0_setThreshold.data.toList.drop 0 = dktX0_setThreshold_0 := by decide +kernel
theorem dX0_setThreshold_0 : decode cX0_setThreshold 0 = .ok (.aload_n 2, 1) := dk_44 (dk_at dksX0_setThreshold_0 0 rfl rfl)
theorem dX0_setThreshold_1 : decode cX0_setThreshold 1 = .ok (.iconst 0, 1) := dk_3 (dk_at dksX0_setThreshold_0 1 rfl rfl)
theorem dX0_setThreshold_2 : decode cX0_setThreshold 2 = .ok (.aload_n 0, 1) := dk_42 (dk_at dksX0_setThreshold_0 2 rfl rfl)
theorem dX0_setThreshold_3 : decode cX0_setThreshold 3 = .ok (.iload_n 1, 1) := dk_27 (dk_at dksX0_setThreshold_0 3 rfl rfl)
theorem dX0_setThreshold_4 : decode cX0_setThreshold 4 = .ok (.invokevirtual 60, 3) := dk_182 0 60 (dk_at dksX0_setThreshold_0 4 rfl rfl)
theorem dX0_setThreshold_7 : decode cX0_setThreshold 7 = .ok (.i2l, 1) := dk_133 (dk_at dksX0_setThreshold_0 7 rfl rfl)
theorem dX0_setThreshold_8 : decode cX0_setThreshold 8 = .ok (.lastore, 1) := dk_80 (dk_at dksX0_setThreshold_0 8 rfl rfl)
theorem dX0_setThreshold_9 : decode cX0_setThreshold 9 = .ok (.goto 6, 3) := dk_167 0 6 (dk_at dksX0_setThreshold_0 9 rfl rfl)
theorem dX0_setThreshold_12 : decode cX0_setThreshold 12 = .ok (.astore_n 3, 1) := dk_78 (dk_at dksX0_setThreshold_0 12 rfl rfl)
theorem dX0_setThreshold_13 : decode cX0_setThreshold 13 = .ok (.iconst 1, 1) := dk_4 (dk_at dksX0_setThreshold_0 13 rfl rfl)
theorem dX0_setThreshold_14 : decode cX0_setThreshold 14 = .ok (.ireturn, 1) := dk_172 (dk_at dksX0_setThreshold_0 14 rfl rfl)
theorem dX0_setThreshold_15 : decode cX0_setThreshold 15 = .ok (.iconst 0, 1) := dk_3 (dk_at dksX0_setThreshold_0 15 rfl rfl)
theorem dX0_setThreshold_16 : decode cX0_setThreshold 16 = .ok (.ireturn, 1) := dk_172 (dk_at dksX0_setThreshold_0 16 rfl rfl)
abbrev cX0_type : ByteArray := method_17_code
def yX0_type : MethodName := ⟨RX0, "type", "(LAnimationController;I[J)I"⟩
def dkwX0_type_0 : List UInt8 := [44, 3, 42, 27, 182, 0, 63, 133, 80, 167, 0, 9, 78, 4, 172, 78, 5, 172, 3, 172]
abbrev dktX0_type_0 : List UInt8 := dkwX0_type_0 ++ []
theorem dksX0_type_0 : cX0_type.data.toList.drop 0 = dktX0_type_0 := by decide +kernel
theorem dX0_type_0 : decode cX0_type 0 = .ok (.aload_n 2, 1) := dk_44 (dk_at dksX0_type_0 0 rfl rfl)
theorem dX0_type_1 : decode cX0_type 1 = .ok (.iconst 0, 1) := dk_3 (dk_at dksX0_type_0 1 rfl rfl)
theorem dX0_type_2 : decode cX0_type 2 = .ok (.aload_n 0, 1) := dk_42 (dk_at dksX0_type_0 2 rfl rfl)
theorem dX0_type_3 : decode cX0_type 3 = .ok (.iload_n 1, 1) := dk_27 (dk_at dksX0_type_0 3 rfl rfl)
theorem dX0_type_4 : decode cX0_type 4 = .ok (.invokevirtual 63, 3) := dk_182 0 63 (dk_at dksX0_type_0 4 rfl rfl)
theorem dX0_type_7 : decode cX0_type 7 = .ok (.i2l, 1) := dk_133 (dk_at dksX0_type_0 7 rfl rfl)
theorem dX0_type_8 : decode cX0_type 8 = .ok (.lastore, 1) := dk_80 (dk_at dksX0_type_0 8 rfl rfl)
theorem dX0_type_9 : decode cX0_type 9 = .ok (.goto 9, 3) := dk_167 0 9 (dk_at dksX0_type_0 9 rfl rfl)
theorem dX0_type_12 : decode cX0_type 12 = .ok (.astore_n 3, 1) := dk_78 (dk_at dksX0_type_0 12 rfl rfl)
theorem dX0_type_13 : decode cX0_type 13 = .ok (.iconst 1, 1) := dk_4 (dk_at dksX0_type_0 13 rfl rfl)
theorem dX0_type_14 : decode cX0_type 14 = .ok (.ireturn, 1) := dk_172 (dk_at dksX0_type_0 14 rfl rfl)
theorem dX0_type_15 : decode cX0_type 15 = .ok (.astore_n 3, 1) := dk_78 (dk_at dksX0_type_0 15 rfl rfl)
theorem dX0_type_16 : decode cX0_type 16 = .ok (.iconst 2, 1) := dk_5 (dk_at dksX0_type_0 16 rfl rfl)
theorem dX0_type_17 : decode cX0_type 17 = .ok (.ireturn, 1) := dk_172 (dk_at dksX0_type_0 17 rfl rfl)
theorem dX0_type_18 : decode cX0_type 18 = .ok (.iconst 0, 1) := dk_3 (dk_at dksX0_type_0 18 rfl rfl)
theorem dX0_type_19 : decode cX0_type 19 = .ok (.ireturn, 1) := dk_172 (dk_at dksX0_type_0 19 rfl rfl)
abbrev cX0_load : ByteArray := method_18_code
def yX0_load : MethodName := ⟨RX0, "load", "(LAnimationController;[J)I"⟩
def dkwX0_load_0 : List UInt8 := [43, 3, 42, 182, 0, 66, 133, 80, 167, 0, 6, 77, 4, 172, 3, 172]
abbrev dktX0_load_0 : List UInt8 := dkwX0_load_0 ++ []
theorem dksX0_load_0 : cX0_load.data.toList.drop 0 = dktX0_load_0 := by decide +kernel
theorem dX0_load_0 : decode cX0_load 0 = .ok (.aload_n 1, 1) := dk_43 (dk_at dksX0_load_0 0 rfl rfl)
theorem dX0_load_1 : decode cX0_load 1 = .ok (.iconst 0, 1) := dk_3 (dk_at dksX0_load_0 1 rfl rfl)
theorem dX0_load_2 : decode cX0_load 2 = .ok (.aload_n 0, 1) := dk_42 (dk_at dksX0_load_0 2 rfl rfl)
theorem dX0_load_3 : decode cX0_load 3 = .ok (.invokevirtual 66, 3) := dk_182 0 66 (dk_at dksX0_load_0 3 rfl rfl)
theorem dX0_load_6 : decode cX0_load 6 = .ok (.i2l, 1) := dk_133 (dk_at dksX0_load_0 6 rfl rfl)
theorem dX0_load_7 : decode cX0_load 7 = .ok (.lastore, 1) := dk_80 (dk_at dksX0_load_0 7 rfl rfl)
theorem dX0_load_8 : decode cX0_load 8 = .ok (.goto 6, 3) := dk_167 0 6 (dk_at dksX0_load_0 8 rfl rfl)
theorem dX0_load_11 : decode cX0_load 11 = .ok (.astore_n 2, 1) := dk_77 (dk_at dksX0_load_0 11 rfl rfl)
theorem dX0_load_12 : decode cX0_load 12 = .ok (.iconst 1, 1) := dk_4 (dk_at dksX0_load_0 12 rfl rfl)
theorem dX0_load_13 : decode cX0_load 13 = .ok (.ireturn, 1) := dk_172 (dk_at dksX0_load_0 13 rfl rfl)
theorem dX0_load_14 : decode cX0_load 14 = .ok (.iconst 0, 1) := dk_3 (dk_at dksX0_load_0 14 rfl rfl)
theorem dX0_load_15 : decode cX0_load 15 = .ok (.ireturn, 1) := dk_172 (dk_at dksX0_load_0 15 rfl rfl)
abbrev cX0_tick : ByteArray := method_19_code
def yX0_tick : MethodName := ⟨RX0, "tick", "(LAnimationController;I[J)I"⟩
def dkwX0_tick_0 : List UInt8 := [44, 3, 42, 27, 182, 0, 70, 133, 80, 167, 0, 9, 78, 4, 172, 78, 5, 172, 3, 172]
abbrev dktX0_tick_0 : List UInt8 := dkwX0_tick_0 ++ []
theorem dksX0_tick_0 : cX0_tick.data.toList.drop 0 = dktX0_tick_0 := by decide +kernel
theorem dX0_tick_0 : decode cX0_tick 0 = .ok (.aload_n 2, 1) := dk_44 (dk_at dksX0_tick_0 0 rfl rfl)
theorem dX0_tick_1 : decode cX0_tick 1 = .ok (.iconst 0, 1) := dk_3 (dk_at dksX0_tick_0 1 rfl rfl)
theorem dX0_tick_2 : decode cX0_tick 2 = .ok (.aload_n 0, 1) := dk_42 (dk_at dksX0_tick_0 2 rfl rfl)
theorem dX0_tick_3 : decode cX0_tick 3 = .ok (.iload_n 1, 1) := dk_27 (dk_at dksX0_tick_0 3 rfl rfl)
theorem dX0_tick_4 : decode cX0_tick 4 = .ok (.invokevirtual 70, 3) := dk_182 0 70 (dk_at dksX0_tick_0 4 rfl rfl)
theorem dX0_tick_7 : decode cX0_tick 7 = .ok (.i2l, 1) := dk_133 (dk_at dksX0_tick_0 7 rfl rfl)
theorem dX0_tick_8 : decode cX0_tick 8 = .ok (.lastore, 1) := dk_80 (dk_at dksX0_tick_0 8 rfl rfl)
theorem dX0_tick_9 : decode cX0_tick 9 = .ok (.goto 9, 3) := dk_167 0 9 (dk_at dksX0_tick_0 9 rfl rfl)
theorem dX0_tick_12 : decode cX0_tick 12 = .ok (.astore_n 3, 1) := dk_78 (dk_at dksX0_tick_0 12 rfl rfl)
theorem dX0_tick_13 : decode cX0_tick 13 = .ok (.iconst 1, 1) := dk_4 (dk_at dksX0_tick_0 13 rfl rfl)
theorem dX0_tick_14 : decode cX0_tick 14 = .ok (.ireturn, 1) := dk_172 (dk_at dksX0_tick_0 14 rfl rfl)
theorem dX0_tick_15 : decode cX0_tick 15 = .ok (.astore_n 3, 1) := dk_78 (dk_at dksX0_tick_0 15 rfl rfl)
theorem dX0_tick_16 : decode cX0_tick 16 = .ok (.iconst 2, 1) := dk_5 (dk_at dksX0_tick_0 16 rfl rfl)
theorem dX0_tick_17 : decode cX0_tick 17 = .ok (.ireturn, 1) := dk_172 (dk_at dksX0_tick_0 17 rfl rfl)
theorem dX0_tick_18 : decode cX0_tick 18 = .ok (.iconst 0, 1) := dk_3 (dk_at dksX0_tick_0 18 rfl rfl)
theorem dX0_tick_19 : decode cX0_tick 19 = .ok (.ireturn, 1) := dk_172 (dk_at dksX0_tick_0 19 rfl rfl)
abbrev cX0_state : ByteArray := method_20_code
def yX0_state : MethodName := ⟨RX0, "state", "(LAnimationController;[J)I"⟩
def dkwX0_state_0 : List UInt8 := [43, 3, 42, 182, 0, 73, 133, 80, 167, 0, 6, 77, 4, 172, 3, 172]
abbrev dktX0_state_0 : List UInt8 := dkwX0_state_0 ++ []
theorem dksX0_state_0 : cX0_state.data.toList.drop 0 = dktX0_state_0 := by decide +kernel
theorem dX0_state_0 : decode cX0_state 0 = .ok (.aload_n 1, 1) := dk_43 (dk_at dksX0_state_0 0 rfl rfl)
theorem dX0_state_1 : decode cX0_state 1 = .ok (.iconst 0, 1) := dk_3 (dk_at dksX0_state_0 1 rfl rfl)
theorem dX0_state_2 : decode cX0_state 2 = .ok (.aload_n 0, 1) := dk_42 (dk_at dksX0_state_0 2 rfl rfl)
theorem dX0_state_3 : decode cX0_state 3 = .ok (.invokevirtual 73, 3) := dk_182 0 73 (dk_at dksX0_state_0 3 rfl rfl)
theorem dX0_state_6 : decode cX0_state 6 = .ok (.i2l, 1) := dk_133 (dk_at dksX0_state_0 6 rfl rfl)
theorem dX0_state_7 : decode cX0_state 7 = .ok (.lastore, 1) := dk_80 (dk_at dksX0_state_0 7 rfl rfl)
theorem dX0_state_8 : decode cX0_state 8 = .ok (.goto 6, 3) := dk_167 0 6 (dk_at dksX0_state_0 8 rfl rfl)
theorem dX0_state_11 : decode cX0_state 11 = .ok (.astore_n 2, 1) := dk_77 (dk_at dksX0_state_0 11 rfl rfl)
theorem dX0_state_12 : decode cX0_state 12 = .ok (.iconst 1, 1) := dk_4 (dk_at dksX0_state_0 12 rfl rfl)
theorem dX0_state_13 : decode cX0_state 13 = .ok (.ireturn, 1) := dk_172 (dk_at dksX0_state_0 13 rfl rfl)
theorem dX0_state_14 : decode cX0_state 14 = .ok (.iconst 0, 1) := dk_3 (dk_at dksX0_state_0 14 rfl rfl)
theorem dX0_state_15 : decode cX0_state 15 = .ok (.ireturn, 1) := dk_172 (dk_at dksX0_state_0 15 rfl rfl)
abbrev cX0_progress : ByteArray := method_21_code
def yX0_progress : MethodName := ⟨RX0, "progress", "(LAnimationController;Z[J)I"⟩
def dkwX0_progress_0 : List UInt8 := [44, 3, 42, 27, 182, 0, 76, 80, 167, 0, 6, 78, 4, 172, 3, 172]
abbrev dktX0_progress_0 : List UInt8 := dkwX0_progress_0 ++ []
theorem dksX0_progress_0 : cX0_progress.data.toList.drop 0 = dktX0_progress_0 := by decide +kernel
theorem dX0_progress_0 : decode cX0_progress 0 = .ok (.aload_n 2, 1) := dk_44 (dk_at dksX0_progress_0 0 rfl rfl)
theorem dX0_progress_1 : decode cX0_progress 1 = .ok (.iconst 0, 1) := dk_3 (dk_at dksX0_progress_0 1 rfl rfl)
theorem dX0_progress_2 : decode cX0_progress 2 = .ok (.aload_n 0, 1) := dk_42 (dk_at dksX0_progress_0 2 rfl rfl)
theorem dX0_progress_3 : decode cX0_progress 3 = .ok (.iload_n 1, 1) := dk_27 (dk_at dksX0_progress_0 3 rfl rfl)
theorem dX0_progress_4 : decode cX0_progress 4 = .ok (.invokevirtual 76, 3) := dk_182 0 76 (dk_at dksX0_progress_0 4 rfl rfl)
theorem dX0_progress_7 : decode cX0_progress 7 = .ok (.lastore, 1) := dk_80 (dk_at dksX0_progress_0 7 rfl rfl)
theorem dX0_progress_8 : decode cX0_progress 8 = .ok (.goto 6, 3) := dk_167 0 6 (dk_at dksX0_progress_0 8 rfl rfl)
theorem dX0_progress_11 : decode cX0_progress 11 = .ok (.astore_n 3, 1) := dk_78 (dk_at dksX0_progress_0 11 rfl rfl)
theorem dX0_progress_12 : decode cX0_progress 12 = .ok (.iconst 1, 1) := dk_4 (dk_at dksX0_progress_0 12 rfl rfl)
theorem dX0_progress_13 : decode cX0_progress 13 = .ok (.ireturn, 1) := dk_172 (dk_at dksX0_progress_0 13 rfl rfl)
theorem dX0_progress_14 : decode cX0_progress 14 = .ok (.iconst 0, 1) := dk_3 (dk_at dksX0_progress_0 14 rfl rfl)
theorem dX0_progress_15 : decode cX0_progress 15 = .ok (.ireturn, 1) := dk_172 (dk_at dksX0_progress_0 15 rfl rfl)
abbrev cX0_stateLength : ByteArray := method_22_code
def yX0_stateLength : MethodName := ⟨RX0, "stateLength", "(LAnimationController;I[J)I"⟩
def dkwX0_stateLength_0 : List UInt8 := [44, 3, 42, 27, 182, 0, 80, 133, 80, 167, 0, 6, 78, 4, 172, 3, 172]
abbrev dktX0_stateLength_0 : List UInt8 := dkwX0_stateLength_0 ++ []
theorem dksX0_stateLength_0 : cX0_stateLength.data.toList.drop 0 = dktX0_stateLength_0 := by decide +kernel
theorem dX0_stateLength_0 : decode cX0_stateLength 0 = .ok (.aload_n 2, 1) := dk_44 (dk_at dksX0_stateLength_0 0 rfl rfl)
theorem dX0_stateLength_1 : decode cX0_stateLength 1 = .ok (.iconst 0, 1) := dk_3 (dk_at dksX0_stateLength_0 1 rfl rfl)
theorem dX0_stateLength_2 : decode cX0_stateLength 2 = .ok (.aload_n 0, 1) := dk_42 (dk_at dksX0_stateLength_0 2 rfl rfl)
theorem dX0_stateLength_3 : decode cX0_stateLength 3 = .ok (.iload_n 1, 1) := dk_27 (dk_at dksX0_stateLength_0 3 rfl rfl)
theorem dX0_stateLength_4 : decode cX0_stateLength 4 = .ok (.invokevirtual 80, 3) := dk_182 0 80 (dk_at dksX0_stateLength_0 4 rfl rfl)
theorem dX0_stateLength_7 : decode cX0_stateLength 7 = .ok (.i2l, 1) := dk_133 (dk_at dksX0_stateLength_0 7 rfl rfl)
theorem dX0_stateLength_8 : decode cX0_stateLength 8 = .ok (.lastore, 1) := dk_80 (dk_at dksX0_stateLength_0 8 rfl rfl)
theorem dX0_stateLength_9 : decode cX0_stateLength 9 = .ok (.goto 6, 3) := dk_167 0 6 (dk_at dksX0_stateLength_0 9 rfl rfl)
theorem dX0_stateLength_12 : decode cX0_stateLength 12 = .ok (.astore_n 3, 1) := dk_78 (dk_at dksX0_stateLength_0 12 rfl rfl)
theorem dX0_stateLength_13 : decode cX0_stateLength 13 = .ok (.iconst 1, 1) := dk_4 (dk_at dksX0_stateLength_0 13 rfl rfl)
theorem dX0_stateLength_14 : decode cX0_stateLength 14 = .ok (.ireturn, 1) := dk_172 (dk_at dksX0_stateLength_0 14 rfl rfl)
theorem dX0_stateLength_15 : decode cX0_stateLength 15 = .ok (.iconst 0, 1) := dk_3 (dk_at dksX0_stateLength_0 15 rfl rfl)
theorem dX0_stateLength_16 : decode cX0_stateLength 16 = .ok (.ireturn, 1) := dk_172 (dk_at dksX0_stateLength_0 16 rfl rfl)
abbrev cX0_partWeight : ByteArray := method_23_code
def yX0_partWeight : MethodName := ⟨RX0, "partWeight", "(LAnimationController;II[J)I"⟩
def dkwX0_partWeight_0 : List UInt8 := [45, 3, 42, 27, 28, 182, 0, 83, 133, 80, 167, 0, 7, 58, 4, 4, 172, 3, 172]
abbrev dktX0_partWeight_0 : List UInt8 := dkwX0_partWeight_0 ++ []
theorem dksX0_partWeight_0 : cX0_partWeight.data.toList.drop 0 = dktX0_partWeight_0 := by decide +kernel
theorem dX0_partWeight_0 : decode cX0_partWeight 0 = .ok (.aload_n 3, 1) := dk_45 (dk_at dksX0_partWeight_0 0 rfl rfl)
theorem dX0_partWeight_1 : decode cX0_partWeight 1 = .ok (.iconst 0, 1) := dk_3 (dk_at dksX0_partWeight_0 1 rfl rfl)
theorem dX0_partWeight_2 : decode cX0_partWeight 2 = .ok (.aload_n 0, 1) := dk_42 (dk_at dksX0_partWeight_0 2 rfl rfl)
theorem dX0_partWeight_3 : decode cX0_partWeight 3 = .ok (.iload_n 1, 1) := dk_27 (dk_at dksX0_partWeight_0 3 rfl rfl)
theorem dX0_partWeight_4 : decode cX0_partWeight 4 = .ok (.iload_n 2, 1) := dk_28 (dk_at dksX0_partWeight_0 4 rfl rfl)
theorem dX0_partWeight_5 : decode cX0_partWeight 5 = .ok (.invokevirtual 83, 3) := dk_182 0 83 (dk_at dksX0_partWeight_0 5 rfl rfl)
theorem dX0_partWeight_8 : decode cX0_partWeight 8 = .ok (.i2l, 1) := dk_133 (dk_at dksX0_partWeight_0 8 rfl rfl)
theorem dX0_partWeight_9 : decode cX0_partWeight 9 = .ok (.lastore, 1) := dk_80 (dk_at dksX0_partWeight_0 9 rfl rfl)
theorem dX0_partWeight_10 : decode cX0_partWeight 10 = .ok (.goto 7, 3) := dk_167 0 7 (dk_at dksX0_partWeight_0 10 rfl rfl)
theorem dX0_partWeight_13 : decode cX0_partWeight 13 = .ok (.astore 4, 2) := dk_58 4 (dk_at dksX0_partWeight_0 13 rfl rfl)
theorem dX0_partWeight_15 : decode cX0_partWeight 15 = .ok (.iconst 1, 1) := dk_4 (dk_at dksX0_partWeight_0 15 rfl rfl)
theorem dX0_partWeight_16 : decode cX0_partWeight 16 = .ok (.ireturn, 1) := dk_172 (dk_at dksX0_partWeight_0 16 rfl rfl)
theorem dX0_partWeight_17 : decode cX0_partWeight 17 = .ok (.iconst 0, 1) := dk_3 (dk_at dksX0_partWeight_0 17 rfl rfl)
theorem dX0_partWeight_18 : decode cX0_partWeight 18 = .ok (.ireturn, 1) := dk_172 (dk_at dksX0_partWeight_0 18 rfl rfl)
abbrev cX0_blocked : ByteArray := method_24_code
def yX0_blocked : MethodName := ⟨RX0, "blocked", "(LAnimationController;I[J)I"⟩
def dkwX0_blocked_0 : List UInt8 := [44, 3, 42, 27, 182, 0, 86, 133, 80, 167, 0, 6, 78, 4, 172, 3, 172]
abbrev dktX0_blocked_0 : List UInt8 := dkwX0_blocked_0 ++ []
theorem dksX0_blocked_0 : cX0_blocked.data.toList.drop 0 = dktX0_blocked_0 := by decide +kernel
theorem dX0_blocked_0 : decode cX0_blocked 0 = .ok (.aload_n 2, 1) := dk_44 (dk_at dksX0_blocked_0 0 rfl rfl)
theorem dX0_blocked_1 : decode cX0_blocked 1 = .ok (.iconst 0, 1) := dk_3 (dk_at dksX0_blocked_0 1 rfl rfl)
theorem dX0_blocked_2 : decode cX0_blocked 2 = .ok (.aload_n 0, 1) := dk_42 (dk_at dksX0_blocked_0 2 rfl rfl)
theorem dX0_blocked_3 : decode cX0_blocked 3 = .ok (.iload_n 1, 1) := dk_27 (dk_at dksX0_blocked_0 3 rfl rfl)
theorem dX0_blocked_4 : decode cX0_blocked 4 = .ok (.invokevirtual 86, 3) := dk_182 0 86 (dk_at dksX0_blocked_0 4 rfl rfl)
theorem dX0_blocked_7 : decode cX0_blocked 7 = .ok (.i2l, 1) := dk_133 (dk_at dksX0_blocked_0 7 rfl rfl)
theorem dX0_blocked_8 : decode cX0_blocked 8 = .ok (.lastore, 1) := dk_80 (dk_at dksX0_blocked_0 8 rfl rfl)
theorem dX0_blocked_9 : decode cX0_blocked 9 = .ok (.goto 6, 3) := dk_167 0 6 (dk_at dksX0_blocked_0 9 rfl rfl)
theorem dX0_blocked_12 : decode cX0_blocked 12 = .ok (.astore_n 3, 1) := dk_78 (dk_at dksX0_blocked_0 12 rfl rfl)
theorem dX0_blocked_13 : decode cX0_blocked 13 = .ok (.iconst 1, 1) := dk_4 (dk_at dksX0_blocked_0 13 rfl rfl)
theorem dX0_blocked_14 : decode cX0_blocked 14 = .ok (.ireturn, 1) := dk_172 (dk_at dksX0_blocked_0 14 rfl rfl)
theorem dX0_blocked_15 : decode cX0_blocked 15 = .ok (.iconst 0, 1) := dk_3 (dk_at dksX0_blocked_0 15 rfl rfl)
theorem dX0_blocked_16 : decode cX0_blocked 16 = .ok (.ireturn, 1) := dk_172 (dk_at dksX0_blocked_0 16 rfl rfl)
abbrev cX0_poseClip : ByteArray := method_25_code
def yX0_poseClip : MethodName := ⟨RX0, "poseClip", "(LAnimationController;I[J)I"⟩
def dkwX0_poseClip_0 : List UInt8 := [44, 3, 42, 27, 182, 0, 89, 133, 80, 167, 0, 6, 78, 4, 172, 3, 172]
abbrev dktX0_poseClip_0 : List UInt8 := dkwX0_poseClip_0 ++ []
theorem dksX0_poseClip_0 : cX0_poseClip.data.toList.drop 0 = dktX0_poseClip_0 := by decide +kernel
theorem dX0_poseClip_0 : decode cX0_poseClip 0 = .ok (.aload_n 2, 1) := dk_44 (dk_at dksX0_poseClip_0 0 rfl rfl)
theorem dX0_poseClip_1 : decode cX0_poseClip 1 = .ok (.iconst 0, 1) := dk_3 (dk_at dksX0_poseClip_0 1 rfl rfl)
theorem dX0_poseClip_2 : decode cX0_poseClip 2 = .ok (.aload_n 0, 1) := dk_42 (dk_at dksX0_poseClip_0 2 rfl rfl)
theorem dX0_poseClip_3 : decode cX0_poseClip 3 = .ok (.iload_n 1, 1) := dk_27 (dk_at dksX0_poseClip_0 3 rfl rfl)
theorem dX0_poseClip_4 : decode cX0_poseClip 4 = .ok (.invokevirtual 89, 3) := dk_182 0 89 (dk_at dksX0_poseClip_0 4 rfl rfl)
theorem dX0_poseClip_7 : decode cX0_poseClip 7 = .ok (.i2l, 1) := dk_133 (dk_at dksX0_poseClip_0 7 rfl rfl)
theorem dX0_poseClip_8 : decode cX0_poseClip 8 = .ok (.lastore, 1) := dk_80 (dk_at dksX0_poseClip_0 8 rfl rfl)
theorem dX0_poseClip_9 : decode cX0_poseClip 9 = .ok (.goto 6, 3) := dk_167 0 6 (dk_at dksX0_poseClip_0 9 rfl rfl)
theorem dX0_poseClip_12 : decode cX0_poseClip 12 = .ok (.astore_n 3, 1) := dk_78 (dk_at dksX0_poseClip_0 12 rfl rfl)
theorem dX0_poseClip_13 : decode cX0_poseClip 13 = .ok (.iconst 1, 1) := dk_4 (dk_at dksX0_poseClip_0 13 rfl rfl)
theorem dX0_poseClip_14 : decode cX0_poseClip 14 = .ok (.ireturn, 1) := dk_172 (dk_at dksX0_poseClip_0 14 rfl rfl)
theorem dX0_poseClip_15 : decode cX0_poseClip 15 = .ok (.iconst 0, 1) := dk_3 (dk_at dksX0_poseClip_0 15 rfl rfl)
theorem dX0_poseClip_16 : decode cX0_poseClip 16 = .ok (.ireturn, 1) := dk_172 (dk_at dksX0_poseClip_0 16 rfl rfl)
abbrev cX0_poseTime : ByteArray := method_26_code
def yX0_poseTime : MethodName := ⟨RX0, "poseTime", "(LAnimationController;I[J)I"⟩
def dkwX0_poseTime_0 : List UInt8 := [44, 3, 42, 27, 182, 0, 92, 133, 80, 167, 0, 6, 78, 4, 172, 3, 172]
abbrev dktX0_poseTime_0 : List UInt8 := dkwX0_poseTime_0 ++ []
theorem dksX0_poseTime_0 : cX0_poseTime.data.toList.drop 0 = dktX0_poseTime_0 := by decide +kernel
theorem dX0_poseTime_0 : decode cX0_poseTime 0 = .ok (.aload_n 2, 1) := dk_44 (dk_at dksX0_poseTime_0 0 rfl rfl)
theorem dX0_poseTime_1 : decode cX0_poseTime 1 = .ok (.iconst 0, 1) := dk_3 (dk_at dksX0_poseTime_0 1 rfl rfl)
theorem dX0_poseTime_2 : decode cX0_poseTime 2 = .ok (.aload_n 0, 1) := dk_42 (dk_at dksX0_poseTime_0 2 rfl rfl)
theorem dX0_poseTime_3 : decode cX0_poseTime 3 = .ok (.iload_n 1, 1) := dk_27 (dk_at dksX0_poseTime_0 3 rfl rfl)
theorem dX0_poseTime_4 : decode cX0_poseTime 4 = .ok (.invokevirtual 92, 3) := dk_182 0 92 (dk_at dksX0_poseTime_0 4 rfl rfl)
theorem dX0_poseTime_7 : decode cX0_poseTime 7 = .ok (.i2l, 1) := dk_133 (dk_at dksX0_poseTime_0 7 rfl rfl)
theorem dX0_poseTime_8 : decode cX0_poseTime 8 = .ok (.lastore, 1) := dk_80 (dk_at dksX0_poseTime_0 8 rfl rfl)
theorem dX0_poseTime_9 : decode cX0_poseTime 9 = .ok (.goto 6, 3) := dk_167 0 6 (dk_at dksX0_poseTime_0 9 rfl rfl)
theorem dX0_poseTime_12 : decode cX0_poseTime 12 = .ok (.astore_n 3, 1) := dk_78 (dk_at dksX0_poseTime_0 12 rfl rfl)
theorem dX0_poseTime_13 : decode cX0_poseTime 13 = .ok (.iconst 1, 1) := dk_4 (dk_at dksX0_poseTime_0 13 rfl rfl)
theorem dX0_poseTime_14 : decode cX0_poseTime 14 = .ok (.ireturn, 1) := dk_172 (dk_at dksX0_poseTime_0 14 rfl rfl)
theorem dX0_poseTime_15 : decode cX0_poseTime 15 = .ok (.iconst 0, 1) := dk_3 (dk_at dksX0_poseTime_0 15 rfl rfl)
theorem dX0_poseTime_16 : decode cX0_poseTime 16 = .ok (.ireturn, 1) := dk_172 (dk_at dksX0_poseTime_0 16 rfl rfl)
abbrev cX0_poseWeight : ByteArray := method_27_code
def yX0_poseWeight : MethodName := ⟨RX0, "poseWeight", "(LAnimationController;I[J)I"⟩
def dkwX0_poseWeight_0 : List UInt8 := [44, 3, 42, 27, 182, 0, 95, 133, 80, 167, 0, 6, 78, 4, 172, 3, 172]
abbrev dktX0_poseWeight_0 : List UInt8 := dkwX0_poseWeight_0 ++ []
theorem dksX0_poseWeight_0 : cX0_poseWeight.data.toList.drop 0 = dktX0_poseWeight_0 := by decide +kernel
theorem dX0_poseWeight_0 : decode cX0_poseWeight 0 = .ok (.aload_n 2, 1) := dk_44 (dk_at dksX0_poseWeight_0 0 rfl rfl)
theorem dX0_poseWeight_1 : decode cX0_poseWeight 1 = .ok (.iconst 0, 1) := dk_3 (dk_at dksX0_poseWeight_0 1 rfl rfl)
theorem dX0_poseWeight_2 : decode cX0_poseWeight 2 = .ok (.aload_n 0, 1) := dk_42 (dk_at dksX0_poseWeight_0 2 rfl rfl)
theorem dX0_poseWeight_3 : decode cX0_poseWeight 3 = .ok (.iload_n 1, 1) := dk_27 (dk_at dksX0_poseWeight_0 3 rfl rfl)
theorem dX0_poseWeight_4 : decode cX0_poseWeight 4 = .ok (.invokevirtual 95, 3) := dk_182 0 95 (dk_at dksX0_poseWeight_0 4 rfl rfl)
theorem dX0_poseWeight_7 : decode cX0_poseWeight 7 = .ok (.i2l, 1) := dk_133 (dk_at dksX0_poseWeight_0 7 rfl rfl)
theorem dX0_poseWeight_8 : decode cX0_poseWeight 8 = .ok (.lastore, 1) := dk_80 (dk_at dksX0_poseWeight_0 8 rfl rfl)
theorem dX0_poseWeight_9 : decode cX0_poseWeight 9 = .ok (.goto 6, 3) := dk_167 0 6 (dk_at dksX0_poseWeight_0 9 rfl rfl)
theorem dX0_poseWeight_12 : decode cX0_poseWeight 12 = .ok (.astore_n 3, 1) := dk_78 (dk_at dksX0_poseWeight_0 12 rfl rfl)
theorem dX0_poseWeight_13 : decode cX0_poseWeight 13 = .ok (.iconst 1, 1) := dk_4 (dk_at dksX0_poseWeight_0 13 rfl rfl)
theorem dX0_poseWeight_14 : decode cX0_poseWeight 14 = .ok (.ireturn, 1) := dk_172 (dk_at dksX0_poseWeight_0 14 rfl rfl)
theorem dX0_poseWeight_15 : decode cX0_poseWeight 15 = .ok (.iconst 0, 1) := dk_3 (dk_at dksX0_poseWeight_0 15 rfl rfl)
theorem dX0_poseWeight_16 : decode cX0_poseWeight 16 = .ok (.ireturn, 1) := dk_172 (dk_at dksX0_poseWeight_0 16 rfl rfl)
abbrev cX0_event : ByteArray := method_28_code
def yX0_event : MethodName := ⟨RX0, "event", "(LAnimationController;II[J)I"⟩
def dkwX0_event_0 : List UInt8 := [45, 3, 42, 27, 28, 182, 0, 98, 133, 80, 167, 0, 11, 58, 4, 4, 172, 58, 4, 5, 172, 3, 172]
abbrev dktX0_event_0 : List UInt8 := dkwX0_event_0 ++ []
theorem dksX0_event_0 : cX0_event.data.toList.drop 0 = dktX0_event_0 := by decide +kernel
theorem dX0_event_0 : decode cX0_event 0 = .ok (.aload_n 3, 1) := dk_45 (dk_at dksX0_event_0 0 rfl rfl)
theorem dX0_event_1 : decode cX0_event 1 = .ok (.iconst 0, 1) := dk_3 (dk_at dksX0_event_0 1 rfl rfl)
theorem dX0_event_2 : decode cX0_event 2 = .ok (.aload_n 0, 1) := dk_42 (dk_at dksX0_event_0 2 rfl rfl)
theorem dX0_event_3 : decode cX0_event 3 = .ok (.iload_n 1, 1) := dk_27 (dk_at dksX0_event_0 3 rfl rfl)
theorem dX0_event_4 : decode cX0_event 4 = .ok (.iload_n 2, 1) := dk_28 (dk_at dksX0_event_0 4 rfl rfl)
theorem dX0_event_5 : decode cX0_event 5 = .ok (.invokevirtual 98, 3) := dk_182 0 98 (dk_at dksX0_event_0 5 rfl rfl)
theorem dX0_event_8 : decode cX0_event 8 = .ok (.i2l, 1) := dk_133 (dk_at dksX0_event_0 8 rfl rfl)
theorem dX0_event_9 : decode cX0_event 9 = .ok (.lastore, 1) := dk_80 (dk_at dksX0_event_0 9 rfl rfl)
theorem dX0_event_10 : decode cX0_event 10 = .ok (.goto 11, 3) := dk_167 0 11 (dk_at dksX0_event_0 10 rfl rfl)
theorem dX0_event_13 : decode cX0_event 13 = .ok (.astore 4, 2) := dk_58 4 (dk_at dksX0_event_0 13 rfl rfl)
theorem dX0_event_15 : decode cX0_event 15 = .ok (.iconst 1, 1) := dk_4 (dk_at dksX0_event_0 15 rfl rfl)
theorem dX0_event_16 : decode cX0_event 16 = .ok (.ireturn, 1) := dk_172 (dk_at dksX0_event_0 16 rfl rfl)
theorem dX0_event_17 : decode cX0_event 17 = .ok (.astore 4, 2) := dk_58 4 (dk_at dksX0_event_0 17 rfl rfl)
theorem dX0_event_19 : decode cX0_event 19 = .ok (.iconst 2, 1) := dk_5 (dk_at dksX0_event_0 19 rfl rfl)
theorem dX0_event_20 : decode cX0_event 20 = .ok (.ireturn, 1) := dk_172 (dk_at dksX0_event_0 20 rfl rfl)
theorem dX0_event_21 : decode cX0_event 21 = .ok (.iconst 0, 1) := dk_3 (dk_at dksX0_event_0 21 rfl rfl)
theorem dX0_event_22 : decode cX0_event 22 = .ok (.ireturn, 1) := dk_172 (dk_at dksX0_event_0 22 rfl rfl)
abbrev cX0_foretell : ByteArray := method_29_code
def yX0_foretell : MethodName := ⟨RX0, "foretell", "(LAnimationController;I[J)I"⟩
def dkwX0_foretell_0 : List UInt8 := [44, 3, 42, 27, 182, 0, 101, 133, 80, 167, 0, 9, 78, 4, 172, 78, 5, 172, 3, 172]
abbrev dktX0_foretell_0 : List UInt8 := dkwX0_foretell_0 ++ []
theorem dksX0_foretell_0 : cX0_foretell.data.toList.drop 0 = dktX0_foretell_0 := by decide +kernel
theorem dX0_foretell_0 : decode cX0_foretell 0 = .ok (.aload_n 2, 1) := dk_44 (dk_at dksX0_foretell_0 0 rfl rfl)
theorem dX0_foretell_1 : decode cX0_foretell 1 = .ok (.iconst 0, 1) := dk_3 (dk_at dksX0_foretell_0 1 rfl rfl)
theorem dX0_foretell_2 : decode cX0_foretell 2 = .ok (.aload_n 0, 1) := dk_42 (dk_at dksX0_foretell_0 2 rfl rfl)
theorem dX0_foretell_3 : decode cX0_foretell 3 = .ok (.iload_n 1, 1) := dk_27 (dk_at dksX0_foretell_0 3 rfl rfl)
theorem dX0_foretell_4 : decode cX0_foretell 4 = .ok (.invokevirtual 101, 3) := dk_182 0 101 (dk_at dksX0_foretell_0 4 rfl rfl)
theorem dX0_foretell_7 : decode cX0_foretell 7 = .ok (.i2l, 1) := dk_133 (dk_at dksX0_foretell_0 7 rfl rfl)
theorem dX0_foretell_8 : decode cX0_foretell 8 = .ok (.lastore, 1) := dk_80 (dk_at dksX0_foretell_0 8 rfl rfl)
theorem dX0_foretell_9 : decode cX0_foretell 9 = .ok (.goto 9, 3) := dk_167 0 9 (dk_at dksX0_foretell_0 9 rfl rfl)
theorem dX0_foretell_12 : decode cX0_foretell 12 = .ok (.astore_n 3, 1) := dk_78 (dk_at dksX0_foretell_0 12 rfl rfl)
theorem dX0_foretell_13 : decode cX0_foretell 13 = .ok (.iconst 1, 1) := dk_4 (dk_at dksX0_foretell_0 13 rfl rfl)
theorem dX0_foretell_14 : decode cX0_foretell 14 = .ok (.ireturn, 1) := dk_172 (dk_at dksX0_foretell_0 14 rfl rfl)
theorem dX0_foretell_15 : decode cX0_foretell 15 = .ok (.astore_n 3, 1) := dk_78 (dk_at dksX0_foretell_0 15 rfl rfl)
theorem dX0_foretell_16 : decode cX0_foretell 16 = .ok (.iconst 2, 1) := dk_5 (dk_at dksX0_foretell_0 16 rfl rfl)
theorem dX0_foretell_17 : decode cX0_foretell 17 = .ok (.ireturn, 1) := dk_172 (dk_at dksX0_foretell_0 17 rfl rfl)
theorem dX0_foretell_18 : decode cX0_foretell 18 = .ok (.iconst 0, 1) := dk_3 (dk_at dksX0_foretell_0 18 rfl rfl)
theorem dX0_foretell_19 : decode cX0_foretell 19 = .ok (.ireturn, 1) := dk_172 (dk_at dksX0_foretell_0 19 rfl rfl)
abbrev cX0_ticksTo : ByteArray := method_30_code
def yX0_ticksTo : MethodName := ⟨RX0, "ticksTo", "(LAnimationController;I[J)I"⟩
def dkwX0_ticksTo_0 : List UInt8 := [44, 3, 42, 27, 182, 0, 104, 133, 80, 167, 0, 6, 78, 4, 172, 3, 172]
abbrev dktX0_ticksTo_0 : List UInt8 := dkwX0_ticksTo_0 ++ []
theorem dksX0_ticksTo_0 : cX0_ticksTo.data.toList.drop 0 = dktX0_ticksTo_0 := by decide +kernel
theorem dX0_ticksTo_0 : decode cX0_ticksTo 0 = .ok (.aload_n 2, 1) := dk_44 (dk_at dksX0_ticksTo_0 0 rfl rfl)
theorem dX0_ticksTo_1 : decode cX0_ticksTo 1 = .ok (.iconst 0, 1) := dk_3 (dk_at dksX0_ticksTo_0 1 rfl rfl)
theorem dX0_ticksTo_2 : decode cX0_ticksTo 2 = .ok (.aload_n 0, 1) := dk_42 (dk_at dksX0_ticksTo_0 2 rfl rfl)
theorem dX0_ticksTo_3 : decode cX0_ticksTo 3 = .ok (.iload_n 1, 1) := dk_27 (dk_at dksX0_ticksTo_0 3 rfl rfl)
theorem dX0_ticksTo_4 : decode cX0_ticksTo 4 = .ok (.invokevirtual 104, 3) := dk_182 0 104 (dk_at dksX0_ticksTo_0 4 rfl rfl)
theorem dX0_ticksTo_7 : decode cX0_ticksTo 7 = .ok (.i2l, 1) := dk_133 (dk_at dksX0_ticksTo_0 7 rfl rfl)
theorem dX0_ticksTo_8 : decode cX0_ticksTo 8 = .ok (.lastore, 1) := dk_80 (dk_at dksX0_ticksTo_0 8 rfl rfl)
theorem dX0_ticksTo_9 : decode cX0_ticksTo 9 = .ok (.goto 6, 3) := dk_167 0 6 (dk_at dksX0_ticksTo_0 9 rfl rfl)
theorem dX0_ticksTo_12 : decode cX0_ticksTo 12 = .ok (.astore_n 3, 1) := dk_78 (dk_at dksX0_ticksTo_0 12 rfl rfl)
theorem dX0_ticksTo_13 : decode cX0_ticksTo 13 = .ok (.iconst 1, 1) := dk_4 (dk_at dksX0_ticksTo_0 13 rfl rfl)
theorem dX0_ticksTo_14 : decode cX0_ticksTo 14 = .ok (.ireturn, 1) := dk_172 (dk_at dksX0_ticksTo_0 14 rfl rfl)
theorem dX0_ticksTo_15 : decode cX0_ticksTo 15 = .ok (.iconst 0, 1) := dk_3 (dk_at dksX0_ticksTo_0 15 rfl rfl)
theorem dX0_ticksTo_16 : decode cX0_ticksTo 16 = .ok (.ireturn, 1) := dk_172 (dk_at dksX0_ticksTo_0 16 rfl rfl)
abbrev cX0_steps : ByteArray := method_31_code
def yX0_steps : MethodName := ⟨RX0, "steps", "(LAnimationController;II[J)I"⟩
def dkwX0_steps_0 : List UInt8 := [45, 3, 42, 27, 28, 182, 0, 107, 133, 80, 167, 0, 7, 58, 4, 4, 172, 3, 172]
abbrev dktX0_steps_0 : List UInt8 := dkwX0_steps_0 ++ []
theorem dksX0_steps_0 : cX0_steps.data.toList.drop 0 = dktX0_steps_0 := by decide +kernel
theorem dX0_steps_0 : decode cX0_steps 0 = .ok (.aload_n 3, 1) := dk_45 (dk_at dksX0_steps_0 0 rfl rfl)
theorem dX0_steps_1 : decode cX0_steps 1 = .ok (.iconst 0, 1) := dk_3 (dk_at dksX0_steps_0 1 rfl rfl)
theorem dX0_steps_2 : decode cX0_steps 2 = .ok (.aload_n 0, 1) := dk_42 (dk_at dksX0_steps_0 2 rfl rfl)
theorem dX0_steps_3 : decode cX0_steps 3 = .ok (.iload_n 1, 1) := dk_27 (dk_at dksX0_steps_0 3 rfl rfl)
theorem dX0_steps_4 : decode cX0_steps 4 = .ok (.iload_n 2, 1) := dk_28 (dk_at dksX0_steps_0 4 rfl rfl)
theorem dX0_steps_5 : decode cX0_steps 5 = .ok (.invokevirtual 107, 3) := dk_182 0 107 (dk_at dksX0_steps_0 5 rfl rfl)
theorem dX0_steps_8 : decode cX0_steps 8 = .ok (.i2l, 1) := dk_133 (dk_at dksX0_steps_0 8 rfl rfl)
theorem dX0_steps_9 : decode cX0_steps 9 = .ok (.lastore, 1) := dk_80 (dk_at dksX0_steps_0 9 rfl rfl)
theorem dX0_steps_10 : decode cX0_steps 10 = .ok (.goto 7, 3) := dk_167 0 7 (dk_at dksX0_steps_0 10 rfl rfl)
theorem dX0_steps_13 : decode cX0_steps 13 = .ok (.astore 4, 2) := dk_58 4 (dk_at dksX0_steps_0 13 rfl rfl)
theorem dX0_steps_15 : decode cX0_steps 15 = .ok (.iconst 1, 1) := dk_4 (dk_at dksX0_steps_0 15 rfl rfl)
theorem dX0_steps_16 : decode cX0_steps 16 = .ok (.ireturn, 1) := dk_172 (dk_at dksX0_steps_0 16 rfl rfl)
theorem dX0_steps_17 : decode cX0_steps 17 = .ok (.iconst 0, 1) := dk_3 (dk_at dksX0_steps_0 17 rfl rfl)
theorem dX0_steps_18 : decode cX0_steps 18 = .ok (.ireturn, 1) := dk_172 (dk_at dksX0_steps_0 18 rfl rfl)
abbrev cX0_keep : ByteArray := method_32_code
def yX0_keep : MethodName := ⟨RX0, "keep", "(LAnimationController;I[J)I"⟩
def dkwX0_keep_0 : List UInt8 := [44, 3, 42, 27, 182, 0, 110, 133, 80, 167, 0, 9, 78, 4, 172, 78, 5, 172, 3, 172]
abbrev dktX0_keep_0 : List UInt8 := dkwX0_keep_0 ++ []
theorem dksX0_keep_0 : cX0_keep.data.toList.drop 0 = dktX0_keep_0 := by decide +kernel
theorem dX0_keep_0 : decode cX0_keep 0 = .ok (.aload_n 2, 1) := dk_44 (dk_at dksX0_keep_0 0 rfl rfl)
theorem dX0_keep_1 : decode cX0_keep 1 = .ok (.iconst 0, 1) := dk_3 (dk_at dksX0_keep_0 1 rfl rfl)
theorem dX0_keep_2 : decode cX0_keep 2 = .ok (.aload_n 0, 1) := dk_42 (dk_at dksX0_keep_0 2 rfl rfl)
theorem dX0_keep_3 : decode cX0_keep 3 = .ok (.iload_n 1, 1) := dk_27 (dk_at dksX0_keep_0 3 rfl rfl)
theorem dX0_keep_4 : decode cX0_keep 4 = .ok (.invokevirtual 110, 3) := dk_182 0 110 (dk_at dksX0_keep_0 4 rfl rfl)
theorem dX0_keep_7 : decode cX0_keep 7 = .ok (.i2l, 1) := dk_133 (dk_at dksX0_keep_0 7 rfl rfl)
theorem dX0_keep_8 : decode cX0_keep 8 = .ok (.lastore, 1) := dk_80 (dk_at dksX0_keep_0 8 rfl rfl)
theorem dX0_keep_9 : decode cX0_keep 9 = .ok (.goto 9, 3) := dk_167 0 9 (dk_at dksX0_keep_0 9 rfl rfl)
theorem dX0_keep_12 : decode cX0_keep 12 = .ok (.astore_n 3, 1) := dk_78 (dk_at dksX0_keep_0 12 rfl rfl)
theorem dX0_keep_13 : decode cX0_keep 13 = .ok (.iconst 1, 1) := dk_4 (dk_at dksX0_keep_0 13 rfl rfl)
theorem dX0_keep_14 : decode cX0_keep 14 = .ok (.ireturn, 1) := dk_172 (dk_at dksX0_keep_0 14 rfl rfl)
theorem dX0_keep_15 : decode cX0_keep 15 = .ok (.astore_n 3, 1) := dk_78 (dk_at dksX0_keep_0 15 rfl rfl)
theorem dX0_keep_16 : decode cX0_keep 16 = .ok (.iconst 2, 1) := dk_5 (dk_at dksX0_keep_0 16 rfl rfl)
theorem dX0_keep_17 : decode cX0_keep 17 = .ok (.ireturn, 1) := dk_172 (dk_at dksX0_keep_0 17 rfl rfl)
theorem dX0_keep_18 : decode cX0_keep 18 = .ok (.iconst 0, 1) := dk_3 (dk_at dksX0_keep_0 18 rfl rfl)
theorem dX0_keep_19 : decode cX0_keep 19 = .ok (.ireturn, 1) := dk_172 (dk_at dksX0_keep_0 19 rfl rfl)
abbrev cX0_restore : ByteArray := method_33_code
def yX0_restore : MethodName := ⟨RX0, "restore", "(LAnimationController;I[J)I"⟩
def dkwX0_restore_0 : List UInt8 := [44, 3, 42, 27, 182, 0, 113, 133, 80, 167, 0, 9, 78, 4, 172, 78, 5, 172, 3, 172]
abbrev dktX0_restore_0 : List UInt8 := dkwX0_restore_0 ++ []
theorem dksX0_restore_0 : cX0_restore.data.toList.drop 0 = dktX0_restore_0 := by decide +kernel
theorem dX0_restore_0 : decode cX0_restore 0 = .ok (.aload_n 2, 1) := dk_44 (dk_at dksX0_restore_0 0 rfl rfl)
theorem dX0_restore_1 : decode cX0_restore 1 = .ok (.iconst 0, 1) := dk_3 (dk_at dksX0_restore_0 1 rfl rfl)
theorem dX0_restore_2 : decode cX0_restore 2 = .ok (.aload_n 0, 1) := dk_42 (dk_at dksX0_restore_0 2 rfl rfl)
theorem dX0_restore_3 : decode cX0_restore 3 = .ok (.iload_n 1, 1) := dk_27 (dk_at dksX0_restore_0 3 rfl rfl)
theorem dX0_restore_4 : decode cX0_restore 4 = .ok (.invokevirtual 113, 3) := dk_182 0 113 (dk_at dksX0_restore_0 4 rfl rfl)
theorem dX0_restore_7 : decode cX0_restore 7 = .ok (.i2l, 1) := dk_133 (dk_at dksX0_restore_0 7 rfl rfl)
theorem dX0_restore_8 : decode cX0_restore 8 = .ok (.lastore, 1) := dk_80 (dk_at dksX0_restore_0 8 rfl rfl)
theorem dX0_restore_9 : decode cX0_restore 9 = .ok (.goto 9, 3) := dk_167 0 9 (dk_at dksX0_restore_0 9 rfl rfl)
theorem dX0_restore_12 : decode cX0_restore 12 = .ok (.astore_n 3, 1) := dk_78 (dk_at dksX0_restore_0 12 rfl rfl)
theorem dX0_restore_13 : decode cX0_restore 13 = .ok (.iconst 1, 1) := dk_4 (dk_at dksX0_restore_0 13 rfl rfl)
theorem dX0_restore_14 : decode cX0_restore 14 = .ok (.ireturn, 1) := dk_172 (dk_at dksX0_restore_0 14 rfl rfl)
theorem dX0_restore_15 : decode cX0_restore 15 = .ok (.astore_n 3, 1) := dk_78 (dk_at dksX0_restore_0 15 rfl rfl)
theorem dX0_restore_16 : decode cX0_restore 16 = .ok (.iconst 2, 1) := dk_5 (dk_at dksX0_restore_0 16 rfl rfl)
theorem dX0_restore_17 : decode cX0_restore 17 = .ok (.ireturn, 1) := dk_172 (dk_at dksX0_restore_0 17 rfl rfl)
theorem dX0_restore_18 : decode cX0_restore 18 = .ok (.iconst 0, 1) := dk_3 (dk_at dksX0_restore_0 18 rfl rfl)
theorem dX0_restore_19 : decode cX0_restore 19 = .ok (.ireturn, 1) := dk_172 (dk_at dksX0_restore_0 19 rfl rfl)
abbrev cX0_count : ByteArray := method_34_code
def yX0_count : MethodName := ⟨RX0, "count", "(LAnimationController;I[J)I"⟩
def dkwX0_count_0 : List UInt8 := [44, 3, 42, 27, 182, 0, 116, 133, 80, 167, 0, 6, 78, 4, 172, 3, 172]
abbrev dktX0_count_0 : List UInt8 := dkwX0_count_0 ++ []
theorem dksX0_count_0 : cX0_count.data.toList.drop 0 = dktX0_count_0 := by decide +kernel
theorem dX0_count_0 : decode cX0_count 0 = .ok (.aload_n 2, 1) := dk_44 (dk_at dksX0_count_0 0 rfl rfl)
theorem dX0_count_1 : decode cX0_count 1 = .ok (.iconst 0, 1) := dk_3 (dk_at dksX0_count_0 1 rfl rfl)
theorem dX0_count_2 : decode cX0_count 2 = .ok (.aload_n 0, 1) := dk_42 (dk_at dksX0_count_0 2 rfl rfl)
theorem dX0_count_3 : decode cX0_count 3 = .ok (.iload_n 1, 1) := dk_27 (dk_at dksX0_count_0 3 rfl rfl)
theorem dX0_count_4 : decode cX0_count 4 = .ok (.invokevirtual 116, 3) := dk_182 0 116 (dk_at dksX0_count_0 4 rfl rfl)
theorem dX0_count_7 : decode cX0_count 7 = .ok (.i2l, 1) := dk_133 (dk_at dksX0_count_0 7 rfl rfl)
theorem dX0_count_8 : decode cX0_count 8 = .ok (.lastore, 1) := dk_80 (dk_at dksX0_count_0 8 rfl rfl)
theorem dX0_count_9 : decode cX0_count 9 = .ok (.goto 6, 3) := dk_167 0 6 (dk_at dksX0_count_0 9 rfl rfl)
theorem dX0_count_12 : decode cX0_count 12 = .ok (.astore_n 3, 1) := dk_78 (dk_at dksX0_count_0 12 rfl rfl)
theorem dX0_count_13 : decode cX0_count 13 = .ok (.iconst 1, 1) := dk_4 (dk_at dksX0_count_0 13 rfl rfl)
theorem dX0_count_14 : decode cX0_count 14 = .ok (.ireturn, 1) := dk_172 (dk_at dksX0_count_0 14 rfl rfl)
theorem dX0_count_15 : decode cX0_count 15 = .ok (.iconst 0, 1) := dk_3 (dk_at dksX0_count_0 15 rfl rfl)
theorem dX0_count_16 : decode cX0_count 16 = .ok (.ireturn, 1) := dk_172 (dk_at dksX0_count_0 16 rfl rfl)
theorem q107 : (Jvm.Cond.initialized "AnimationControllerLaw") ∈ lw_all := lw_g (lw_at lw_m1 0 rfl) rfl
theorem q164 : (Jvm.Cond.classLink "AnimationControllerLaw" (8 : Nat) "AnimationController") ∈ lw_all := lw_g (lw_at lw_m1 57 rfl) rfl
theorem q166 : (Jvm.Cond.methodLink "AnimationControllerLaw" (119 : Nat) ({ cls := "AnimationController", name := "<init>", desc := "()V" } : Jvm.MethodName)) ∈ lw_all := lw_g (lw_at lw_m1 59 rfl) rfl
theorem q664 : (Jvm.Cond.methodLink "AnimationControllerLaw" (194 : Nat) ({ cls := "AnimationController", name := "reset", desc := "()I" } : Jvm.MethodName)) ∈ lw_all := lw_g (lw_at lw_m3 77 rfl) rfl
theorem q781 : (Jvm.Cond.methodLink "AnimationControllerLaw" (201 : Nat) ({ cls := "AnimationController", name := "target", desc := "()I" } : Jvm.MethodName)) ∈ lw_all := lw_g (lw_at lw_m3 194 rfl) rfl
theorem q793 : (Jvm.Cond.methodLink "AnimationControllerLaw" (205 : Nat) ({ cls := "AnimationController", name := "transition", desc := "()I" } : Jvm.MethodName)) ∈ lw_all := lw_g (lw_at lw_m3 206 rfl) rfl
theorem q797 : (Jvm.Cond.methodLink "AnimationControllerLaw" (209 : Nat) ({ cls := "AnimationController", name := "elapsed", desc := "()I" } : Jvm.MethodName)) ∈ lw_all := lw_g (lw_at lw_m3 210 rfl) rfl
theorem q801 : (Jvm.Cond.methodLink "AnimationControllerLaw" (213 : Nat) ({ cls := "AnimationController", name := "isFrozen", desc := "()Z" } : Jvm.MethodName)) ∈ lw_all := lw_g (lw_at lw_m3 214 rfl) rfl
theorem q805 : (Jvm.Cond.methodLink "AnimationControllerLaw" (231 : Nat) ({ cls := "AnimationController", name := "poseSize", desc := "()I" } : Jvm.MethodName)) ∈ lw_all := lw_g (lw_at lw_m3 218 rfl) rfl
theorem q880 : (Jvm.Cond.methodLink "AnimationControllerLaw" (244 : Nat) ({ cls := "AnimationController", name := "fired", desc := "()I" } : Jvm.MethodName)) ∈ lw_all := lw_g (lw_at lw_m4 53 rfl) rfl
theorem q884 : (Jvm.Cond.methodLink "AnimationControllerLaw" (179 : Nat) ({ cls := "AnimationController", name := "clearText", desc := "()I" } : Jvm.MethodName)) ∈ lw_all := lw_g (lw_at lw_m4 57 rfl) rfl
theorem q957 : (Jvm.Cond.methodLink "AnimationControllerLaw" (183 : Nat) ({ cls := "AnimationController", name := "fault", desc := "()I" } : Jvm.MethodName)) ∈ lw_all := lw_g (lw_at lw_m4 130 rfl) rfl
theorem q1899 : (Jvm.Cond.methodLink "AnimationControllerLaw" (123 : Nat) ({ cls := "AnimationControllerLaw", name := "addParameter", desc := "(LAnimationController;I[J)I" } : Jvm.MethodName)) ∈ lw_all := lw_g (lw_at lw_m8 112 rfl) rfl
theorem q1900 : (Jvm.Cond.static ({ cls := "AnimationControllerLaw", name := "addParameter", desc := "(LAnimationController;I[J)I" } : Jvm.MethodName)) ∈ lw_all := lw_g (lw_at lw_m8 113 rfl) rfl
theorem q1901 : (Jvm.Cond.codeWith ({ cls := "AnimationControllerLaw", name := "addParameter", desc := "(LAnimationController;I[J)I" } : Jvm.MethodName) method_3_code (4 : Nat) (Option.some Jvm.ClassFile.FieldType.int) [((0 : Nat), (9 : Nat), (12 : Nat), (13 : Nat)), ((0 : Nat), (9 : Nat), (15 : Nat), (15 : Nat))]) ∈ lw_all := lw_g (lw_at lw_m8 114 rfl) rfl
theorem q1902 : (Jvm.Cond.classLink "AnimationControllerLaw" (13 : Nat) "java/lang/IllegalArgumentException") ∈ lw_all := lw_g (lw_at lw_m8 115 rfl) rfl
theorem q1903 : (Jvm.Cond.classLink "AnimationControllerLaw" (15 : Nat) "java/lang/IllegalStateException") ∈ lw_all := lw_g (lw_at lw_m8 116 rfl) rfl
theorem q1904 : (Jvm.Cond.methodLink "AnimationControllerLaw" (7 : Nat) ({ cls := "AnimationController", name := "addParameter", desc := "(I)I" } : Jvm.MethodName)) ∈ lw_all := lw_g (lw_at lw_m8 117 rfl) rfl
theorem q1961 : (Jvm.Cond.methodLink "AnimationControllerLaw" (132 : Nat) ({ cls := "AnimationControllerLaw", name := "set", desc := "(LAnimationController;II[J)I" } : Jvm.MethodName)) ∈ lw_all := lw_g (lw_at lw_m8 174 rfl) rfl
theorem q1962 : (Jvm.Cond.static ({ cls := "AnimationControllerLaw", name := "set", desc := "(LAnimationController;II[J)I" } : Jvm.MethodName)) ∈ lw_all := lw_g (lw_at lw_m8 175 rfl) rfl
theorem q1963 : (Jvm.Cond.codeWith ({ cls := "AnimationControllerLaw", name := "set", desc := "(LAnimationController;II[J)I" } : Jvm.MethodName) method_4_code (5 : Nat) (Option.some Jvm.ClassFile.FieldType.int) [((0 : Nat), (10 : Nat), (13 : Nat), (21 : Nat)), ((0 : Nat), (10 : Nat), (17 : Nat), (13 : Nat))]) ∈ lw_all := lw_g (lw_at lw_m8 176 rfl) rfl
theorem q1964 : (Jvm.Cond.classLink "AnimationControllerLaw" (21 : Nat) "java/lang/IndexOutOfBoundsException") ∈ lw_all := lw_g (lw_at lw_m8 177 rfl) rfl
theorem q1967 : (Jvm.Cond.methodLink "AnimationControllerLaw" (17 : Nat) ({ cls := "AnimationController", name := "set", desc := "(II)I" } : Jvm.MethodName)) ∈ lw_all := lw_g (lw_at lw_m8 180 rfl) rfl
theorem q2000 : (Jvm.Cond.methodLink "AnimationControllerLaw" (136 : Nat) ({ cls := "AnimationControllerLaw", name := "value", desc := "(LAnimationController;I[J)I" } : Jvm.MethodName)) ∈ lw_all := lw_g (lw_at lw_m8 213 rfl) rfl
theorem q2001 : (Jvm.Cond.static ({ cls := "AnimationControllerLaw", name := "value", desc := "(LAnimationController;I[J)I" } : Jvm.MethodName)) ∈ lw_all := lw_g (lw_at lw_m8 214 rfl) rfl
theorem q2002 : (Jvm.Cond.codeWith ({ cls := "AnimationControllerLaw", name := "value", desc := "(LAnimationController;I[J)I" } : Jvm.MethodName) method_5_code (4 : Nat) (Option.some Jvm.ClassFile.FieldType.int) [((0 : Nat), (9 : Nat), (12 : Nat), (21 : Nat))]) ∈ lw_all := lw_g (lw_at lw_m8 215 rfl) rfl
theorem q2003 : (Jvm.Cond.methodLink "AnimationControllerLaw" (23 : Nat) ({ cls := "AnimationController", name := "value", desc := "(I)I" } : Jvm.MethodName)) ∈ lw_all := lw_g (lw_at lw_m8 216 rfl) rfl
theorem q2007 : (Jvm.Cond.methodLink "AnimationControllerLaw" (139 : Nat) ({ cls := "AnimationControllerLaw", name := "addClip", desc := "(LAnimationController;I[J)I" } : Jvm.MethodName)) ∈ lw_all := lw_g (lw_at lw_m8 220 rfl) rfl
theorem q2008 : (Jvm.Cond.static ({ cls := "AnimationControllerLaw", name := "addClip", desc := "(LAnimationController;I[J)I" } : Jvm.MethodName)) ∈ lw_all := lw_g (lw_at lw_m8 221 rfl) rfl
theorem q2009 : (Jvm.Cond.codeWith ({ cls := "AnimationControllerLaw", name := "addClip", desc := "(LAnimationController;I[J)I" } : Jvm.MethodName) method_6_code (4 : Nat) (Option.some Jvm.ClassFile.FieldType.int) [((0 : Nat), (9 : Nat), (12 : Nat), (13 : Nat)), ((0 : Nat), (9 : Nat), (15 : Nat), (15 : Nat))]) ∈ lw_all := lw_g (lw_at lw_m8 222 rfl) rfl
theorem q2010 : (Jvm.Cond.methodLink "AnimationControllerLaw" (26 : Nat) ({ cls := "AnimationController", name := "addClip", desc := "(I)I" } : Jvm.MethodName)) ∈ lw_all := lw_g (lw_at lw_m8 223 rfl) rfl
theorem q2040 : (Jvm.Cond.methodLink "AnimationControllerLaw" (142 : Nat) ({ cls := "AnimationControllerLaw", name := "addEvent", desc := "(LAnimationController;III[J)I" } : Jvm.MethodName)) ∈ lw_all := lw_g (lw_at lw_m9 13 rfl) rfl
theorem q2041 : (Jvm.Cond.static ({ cls := "AnimationControllerLaw", name := "addEvent", desc := "(LAnimationController;III[J)I" } : Jvm.MethodName)) ∈ lw_all := lw_g (lw_at lw_m9 14 rfl) rfl
theorem q2042 : (Jvm.Cond.codeWith ({ cls := "AnimationControllerLaw", name := "addEvent", desc := "(LAnimationController;III[J)I" } : Jvm.MethodName) method_7_code (6 : Nat) (Option.some Jvm.ClassFile.FieldType.int) [((0 : Nat), (12 : Nat), (15 : Nat), (21 : Nat)), ((0 : Nat), (12 : Nat), (19 : Nat), (13 : Nat)), ((0 : Nat), (12 : Nat), (23 : Nat), (15 : Nat))]) ∈ lw_all := lw_g (lw_at lw_m9 15 rfl) rfl
theorem q2043 : (Jvm.Cond.methodLink "AnimationControllerLaw" (29 : Nat) ({ cls := "AnimationController", name := "addEvent", desc := "(III)I" } : Jvm.MethodName)) ∈ lw_all := lw_g (lw_at lw_m9 16 rfl) rfl
theorem q2092 : (Jvm.Cond.methodLink "AnimationControllerLaw" (146 : Nat) ({ cls := "AnimationControllerLaw", name := "addClipNode", desc := "(LAnimationController;I[J)I" } : Jvm.MethodName)) ∈ lw_all := lw_g (lw_at lw_m9 65 rfl) rfl
theorem q2093 : (Jvm.Cond.static ({ cls := "AnimationControllerLaw", name := "addClipNode", desc := "(LAnimationController;I[J)I" } : Jvm.MethodName)) ∈ lw_all := lw_g (lw_at lw_m9 66 rfl) rfl
theorem q2094 : (Jvm.Cond.codeWith ({ cls := "AnimationControllerLaw", name := "addClipNode", desc := "(LAnimationController;I[J)I" } : Jvm.MethodName) method_8_code (4 : Nat) (Option.some Jvm.ClassFile.FieldType.int) [((0 : Nat), (9 : Nat), (12 : Nat), (21 : Nat)), ((0 : Nat), (9 : Nat), (15 : Nat), (15 : Nat))]) ∈ lw_all := lw_g (lw_at lw_m9 67 rfl) rfl
theorem q2095 : (Jvm.Cond.methodLink "AnimationControllerLaw" (33 : Nat) ({ cls := "AnimationController", name := "addClipNode", desc := "(I)I" } : Jvm.MethodName)) ∈ lw_all := lw_g (lw_at lw_m9 68 rfl) rfl
theorem q2116 : (Jvm.Cond.methodLink "AnimationControllerLaw" (149 : Nat) ({ cls := "AnimationControllerLaw", name := "addLine", desc := "(LAnimationController;I[J)I" } : Jvm.MethodName)) ∈ lw_all := lw_g (lw_at lw_m9 89 rfl) rfl
theorem q2117 : (Jvm.Cond.static ({ cls := "AnimationControllerLaw", name := "addLine", desc := "(LAnimationController;I[J)I" } : Jvm.MethodName)) ∈ lw_all := lw_g (lw_at lw_m9 90 rfl) rfl
theorem q2118 : (Jvm.Cond.codeWith ({ cls := "AnimationControllerLaw", name := "addLine", desc := "(LAnimationController;I[J)I" } : Jvm.MethodName) method_9_code (4 : Nat) (Option.some Jvm.ClassFile.FieldType.int) [((0 : Nat), (9 : Nat), (12 : Nat), (21 : Nat)), ((0 : Nat), (9 : Nat), (15 : Nat), (15 : Nat))]) ∈ lw_all := lw_g (lw_at lw_m9 91 rfl) rfl
theorem q2119 : (Jvm.Cond.methodLink "AnimationControllerLaw" (36 : Nat) ({ cls := "AnimationController", name := "addLine", desc := "(I)I" } : Jvm.MethodName)) ∈ lw_all := lw_g (lw_at lw_m9 92 rfl) rfl
theorem q2145 : (Jvm.Cond.methodLink "AnimationControllerLaw" (152 : Nat) ({ cls := "AnimationControllerLaw", name := "addChild", desc := "(LAnimationController;III[J)I" } : Jvm.MethodName)) ∈ lw_all := lw_g (lw_at lw_m9 118 rfl) rfl
theorem q2146 : (Jvm.Cond.static ({ cls := "AnimationControllerLaw", name := "addChild", desc := "(LAnimationController;III[J)I" } : Jvm.MethodName)) ∈ lw_all := lw_g (lw_at lw_m9 119 rfl) rfl
theorem q2147 : (Jvm.Cond.codeWith ({ cls := "AnimationControllerLaw", name := "addChild", desc := "(LAnimationController;III[J)I" } : Jvm.MethodName) method_10_code (6 : Nat) (Option.some Jvm.ClassFile.FieldType.int) [((0 : Nat), (12 : Nat), (15 : Nat), (21 : Nat)), ((0 : Nat), (12 : Nat), (19 : Nat), (13 : Nat)), ((0 : Nat), (12 : Nat), (23 : Nat), (15 : Nat))]) ∈ lw_all := lw_g (lw_at lw_m9 120 rfl) rfl
theorem q2148 : (Jvm.Cond.methodLink "AnimationControllerLaw" (39 : Nat) ({ cls := "AnimationController", name := "addChild", desc := "(III)I" } : Jvm.MethodName)) ∈ lw_all := lw_g (lw_at lw_m9 121 rfl) rfl
theorem q2191 : (Jvm.Cond.methodLink "AnimationControllerLaw" (155 : Nat) ({ cls := "AnimationControllerLaw", name := "addState", desc := "(LAnimationController;IIZI[J)I" } : Jvm.MethodName)) ∈ lw_all := lw_g (lw_at lw_m9 164 rfl) rfl
theorem q2192 : (Jvm.Cond.static ({ cls := "AnimationControllerLaw", name := "addState", desc := "(LAnimationController;IIZI[J)I" } : Jvm.MethodName)) ∈ lw_all := lw_g (lw_at lw_m9 165 rfl) rfl
theorem q2193 : (Jvm.Cond.codeWith ({ cls := "AnimationControllerLaw", name := "addState", desc := "(LAnimationController;IIZI[J)I" } : Jvm.MethodName) method_11_code (7 : Nat) (Option.some Jvm.ClassFile.FieldType.int) [((0 : Nat), (14 : Nat), (17 : Nat), (21 : Nat)), ((0 : Nat), (14 : Nat), (21 : Nat), (13 : Nat)), ((0 : Nat), (14 : Nat), (25 : Nat), (15 : Nat))]) ∈ lw_all := lw_g (lw_at lw_m9 166 rfl) rfl
theorem q2194 : (Jvm.Cond.methodLink "AnimationControllerLaw" (42 : Nat) ({ cls := "AnimationController", name := "addState", desc := "(IIZI)I" } : Jvm.MethodName)) ∈ lw_all := lw_g (lw_at lw_m9 167 rfl) rfl
theorem q2228 : (Jvm.Cond.methodLink "AnimationControllerLaw" (159 : Nat) ({ cls := "AnimationControllerLaw", name := "addTransition", desc := "(LAnimationController;III[J)I" } : Jvm.MethodName)) ∈ lw_all := lw_g (lw_at lw_m9 201 rfl) rfl
theorem q2229 : (Jvm.Cond.static ({ cls := "AnimationControllerLaw", name := "addTransition", desc := "(LAnimationController;III[J)I" } : Jvm.MethodName)) ∈ lw_all := lw_g (lw_at lw_m9 202 rfl) rfl
theorem q2230 : (Jvm.Cond.codeWith ({ cls := "AnimationControllerLaw", name := "addTransition", desc := "(LAnimationController;III[J)I" } : Jvm.MethodName) method_12_code (6 : Nat) (Option.some Jvm.ClassFile.FieldType.int) [((0 : Nat), (12 : Nat), (15 : Nat), (21 : Nat)), ((0 : Nat), (12 : Nat), (19 : Nat), (13 : Nat)), ((0 : Nat), (12 : Nat), (23 : Nat), (15 : Nat))]) ∈ lw_all := lw_g (lw_at lw_m9 203 rfl) rfl
theorem q2231 : (Jvm.Cond.methodLink "AnimationControllerLaw" (46 : Nat) ({ cls := "AnimationController", name := "addTransition", desc := "(III)I" } : Jvm.MethodName)) ∈ lw_all := lw_g (lw_at lw_m9 204 rfl) rfl
theorem q2246 : (Jvm.Cond.methodLink "AnimationControllerLaw" (162 : Nat) ({ cls := "AnimationControllerLaw", name := "setTiming", desc := "(LAnimationController;III[J)I" } : Jvm.MethodName)) ∈ lw_all := lw_g (lw_at lw_m9 219 rfl) rfl
theorem q2247 : (Jvm.Cond.static ({ cls := "AnimationControllerLaw", name := "setTiming", desc := "(LAnimationController;III[J)I" } : Jvm.MethodName)) ∈ lw_all := lw_g (lw_at lw_m9 220 rfl) rfl
theorem q2248 : (Jvm.Cond.codeWith ({ cls := "AnimationControllerLaw", name := "setTiming", desc := "(LAnimationController;III[J)I" } : Jvm.MethodName) method_13_code (6 : Nat) (Option.some Jvm.ClassFile.FieldType.int) [((0 : Nat), (12 : Nat), (15 : Nat), (21 : Nat)), ((0 : Nat), (12 : Nat), (19 : Nat), (13 : Nat)), ((0 : Nat), (12 : Nat), (23 : Nat), (15 : Nat))]) ∈ lw_all := lw_g (lw_at lw_m9 221 rfl) rfl
theorem q2249 : (Jvm.Cond.methodLink "AnimationControllerLaw" (49 : Nat) ({ cls := "AnimationController", name := "setTiming", desc := "(III)I" } : Jvm.MethodName)) ∈ lw_all := lw_g (lw_at lw_m9 222 rfl) rfl
theorem q2259 : (Jvm.Cond.methodLink "AnimationControllerLaw" (165 : Nat) ({ cls := "AnimationControllerLaw", name := "setInterruption", desc := "(LAnimationController;IIZ[J)I" } : Jvm.MethodName)) ∈ lw_all := lw_g (lw_at lw_m9 232 rfl) rfl
theorem q2260 : (Jvm.Cond.static ({ cls := "AnimationControllerLaw", name := "setInterruption", desc := "(LAnimationController;IIZ[J)I" } : Jvm.MethodName)) ∈ lw_all := lw_g (lw_at lw_m9 233 rfl) rfl
theorem q2261 : (Jvm.Cond.codeWith ({ cls := "AnimationControllerLaw", name := "setInterruption", desc := "(LAnimationController;IIZ[J)I" } : Jvm.MethodName) method_14_code (6 : Nat) (Option.some Jvm.ClassFile.FieldType.int) [((0 : Nat), (12 : Nat), (15 : Nat), (21 : Nat)), ((0 : Nat), (12 : Nat), (19 : Nat), (13 : Nat))]) ∈ lw_all := lw_g (lw_at lw_m9 234 rfl) rfl
theorem q2262 : (Jvm.Cond.methodLink "AnimationControllerLaw" (52 : Nat) ({ cls := "AnimationController", name := "setInterruption", desc := "(IIZ)I" } : Jvm.MethodName)) ∈ lw_all := lw_g (lw_at lw_m9 235 rfl) rfl
theorem q2267 : (Jvm.Cond.methodLink "AnimationControllerLaw" (169 : Nat) ({ cls := "AnimationControllerLaw", name := "addCondition", desc := "(LAnimationController;IIII[J)I" } : Jvm.MethodName)) ∈ lw_all := lw_g (lw_at lw_m10 0 rfl) rfl
theorem q2268 : (Jvm.Cond.static ({ cls := "AnimationControllerLaw", name := "addCondition", desc := "(LAnimationController;IIII[J)I" } : Jvm.MethodName)) ∈ lw_all := lw_g (lw_at lw_m10 1 rfl) rfl
theorem q2269 : (Jvm.Cond.codeWith ({ cls := "AnimationControllerLaw", name := "addCondition", desc := "(LAnimationController;IIII[J)I" } : Jvm.MethodName) method_15_code (7 : Nat) (Option.some Jvm.ClassFile.FieldType.int) [((0 : Nat), (14 : Nat), (17 : Nat), (21 : Nat)), ((0 : Nat), (14 : Nat), (21 : Nat), (13 : Nat)), ((0 : Nat), (14 : Nat), (25 : Nat), (15 : Nat))]) ∈ lw_all := lw_g (lw_at lw_m10 2 rfl) rfl
theorem q2270 : (Jvm.Cond.methodLink "AnimationControllerLaw" (56 : Nat) ({ cls := "AnimationController", name := "addCondition", desc := "(IIII)I" } : Jvm.MethodName)) ∈ lw_all := lw_g (lw_at lw_m10 3 rfl) rfl
theorem q2278 : (Jvm.Cond.methodLink "AnimationControllerLaw" (173 : Nat) ({ cls := "AnimationControllerLaw", name := "setThreshold", desc := "(LAnimationController;I[J)I" } : Jvm.MethodName)) ∈ lw_all := lw_g (lw_at lw_m10 11 rfl) rfl
theorem q2279 : (Jvm.Cond.static ({ cls := "AnimationControllerLaw", name := "setThreshold", desc := "(LAnimationController;I[J)I" } : Jvm.MethodName)) ∈ lw_all := lw_g (lw_at lw_m10 12 rfl) rfl
theorem q2280 : (Jvm.Cond.codeWith ({ cls := "AnimationControllerLaw", name := "setThreshold", desc := "(LAnimationController;I[J)I" } : Jvm.MethodName) method_16_code (4 : Nat) (Option.some Jvm.ClassFile.FieldType.int) [((0 : Nat), (9 : Nat), (12 : Nat), (13 : Nat))]) ∈ lw_all := lw_g (lw_at lw_m10 13 rfl) rfl
theorem q2281 : (Jvm.Cond.methodLink "AnimationControllerLaw" (60 : Nat) ({ cls := "AnimationController", name := "setThreshold", desc := "(I)I" } : Jvm.MethodName)) ∈ lw_all := lw_g (lw_at lw_m10 14 rfl) rfl
theorem q2285 : (Jvm.Cond.methodLink "AnimationControllerLaw" (176 : Nat) ({ cls := "AnimationControllerLaw", name := "type", desc := "(LAnimationController;I[J)I" } : Jvm.MethodName)) ∈ lw_all := lw_g (lw_at lw_m10 18 rfl) rfl
theorem q2286 : (Jvm.Cond.static ({ cls := "AnimationControllerLaw", name := "type", desc := "(LAnimationController;I[J)I" } : Jvm.MethodName)) ∈ lw_all := lw_g (lw_at lw_m10 19 rfl) rfl
theorem q2287 : (Jvm.Cond.codeWith ({ cls := "AnimationControllerLaw", name := "type", desc := "(LAnimationController;I[J)I" } : Jvm.MethodName) method_17_code (4 : Nat) (Option.some Jvm.ClassFile.FieldType.int) [((0 : Nat), (9 : Nat), (12 : Nat), (13 : Nat)), ((0 : Nat), (9 : Nat), (15 : Nat), (15 : Nat))]) ∈ lw_all := lw_g (lw_at lw_m10 20 rfl) rfl
theorem q2288 : (Jvm.Cond.methodLink "AnimationControllerLaw" (63 : Nat) ({ cls := "AnimationController", name := "type", desc := "(I)I" } : Jvm.MethodName)) ∈ lw_all := lw_g (lw_at lw_m10 21 rfl) rfl
theorem q2310 : (Jvm.Cond.methodLink "AnimationControllerLaw" (187 : Nat) ({ cls := "AnimationControllerLaw", name := "load", desc := "(LAnimationController;[J)I" } : Jvm.MethodName)) ∈ lw_all := lw_g (lw_at lw_m10 43 rfl) rfl
theorem q2311 : (Jvm.Cond.static ({ cls := "AnimationControllerLaw", name := "load", desc := "(LAnimationController;[J)I" } : Jvm.MethodName)) ∈ lw_all := lw_g (lw_at lw_m10 44 rfl) rfl
theorem q2312 : (Jvm.Cond.codeWith ({ cls := "AnimationControllerLaw", name := "load", desc := "(LAnimationController;[J)I" } : Jvm.MethodName) method_18_code (3 : Nat) (Option.some Jvm.ClassFile.FieldType.int) [((0 : Nat), (8 : Nat), (11 : Nat), (15 : Nat))]) ∈ lw_all := lw_g (lw_at lw_m10 45 rfl) rfl
theorem q2313 : (Jvm.Cond.methodLink "AnimationControllerLaw" (66 : Nat) ({ cls := "AnimationController", name := "load", desc := "()I" } : Jvm.MethodName)) ∈ lw_all := lw_g (lw_at lw_m10 46 rfl) rfl
theorem q2317 : (Jvm.Cond.methodLink "AnimationControllerLaw" (191 : Nat) ({ cls := "AnimationControllerLaw", name := "tick", desc := "(LAnimationController;I[J)I" } : Jvm.MethodName)) ∈ lw_all := lw_g (lw_at lw_m10 50 rfl) rfl
theorem q2318 : (Jvm.Cond.static ({ cls := "AnimationControllerLaw", name := "tick", desc := "(LAnimationController;I[J)I" } : Jvm.MethodName)) ∈ lw_all := lw_g (lw_at lw_m10 51 rfl) rfl
theorem q2319 : (Jvm.Cond.codeWith ({ cls := "AnimationControllerLaw", name := "tick", desc := "(LAnimationController;I[J)I" } : Jvm.MethodName) method_19_code (4 : Nat) (Option.some Jvm.ClassFile.FieldType.int) [((0 : Nat), (9 : Nat), (12 : Nat), (13 : Nat)), ((0 : Nat), (9 : Nat), (15 : Nat), (15 : Nat))]) ∈ lw_all := lw_g (lw_at lw_m10 52 rfl) rfl
theorem q2320 : (Jvm.Cond.methodLink "AnimationControllerLaw" (70 : Nat) ({ cls := "AnimationController", name := "tick", desc := "(I)I" } : Jvm.MethodName)) ∈ lw_all := lw_g (lw_at lw_m10 53 rfl) rfl
theorem q2463 : (Jvm.Cond.methodLink "AnimationControllerLaw" (198 : Nat) ({ cls := "AnimationControllerLaw", name := "state", desc := "(LAnimationController;[J)I" } : Jvm.MethodName)) ∈ lw_all := lw_g (lw_at lw_m10 196 rfl) rfl
theorem q2464 : (Jvm.Cond.static ({ cls := "AnimationControllerLaw", name := "state", desc := "(LAnimationController;[J)I" } : Jvm.MethodName)) ∈ lw_all := lw_g (lw_at lw_m10 197 rfl) rfl
theorem q2465 : (Jvm.Cond.codeWith ({ cls := "AnimationControllerLaw", name := "state", desc := "(LAnimationController;[J)I" } : Jvm.MethodName) method_20_code (3 : Nat) (Option.some Jvm.ClassFile.FieldType.int) [((0 : Nat), (8 : Nat), (11 : Nat), (15 : Nat))]) ∈ lw_all := lw_g (lw_at lw_m10 198 rfl) rfl
theorem q2466 : (Jvm.Cond.methodLink "AnimationControllerLaw" (73 : Nat) ({ cls := "AnimationController", name := "state", desc := "()I" } : Jvm.MethodName)) ∈ lw_all := lw_g (lw_at lw_m10 199 rfl) rfl
theorem q2470 : (Jvm.Cond.methodLink "AnimationControllerLaw" (218 : Nat) ({ cls := "AnimationControllerLaw", name := "progress", desc := "(LAnimationController;Z[J)I" } : Jvm.MethodName)) ∈ lw_all := lw_g (lw_at lw_m10 203 rfl) rfl
theorem q2471 : (Jvm.Cond.static ({ cls := "AnimationControllerLaw", name := "progress", desc := "(LAnimationController;Z[J)I" } : Jvm.MethodName)) ∈ lw_all := lw_g (lw_at lw_m10 204 rfl) rfl
theorem q2472 : (Jvm.Cond.codeWith ({ cls := "AnimationControllerLaw", name := "progress", desc := "(LAnimationController;Z[J)I" } : Jvm.MethodName) method_21_code (4 : Nat) (Option.some Jvm.ClassFile.FieldType.int) [((0 : Nat), (8 : Nat), (11 : Nat), (15 : Nat))]) ∈ lw_all := lw_g (lw_at lw_m10 205 rfl) rfl
theorem q2473 : (Jvm.Cond.methodLink "AnimationControllerLaw" (76 : Nat) ({ cls := "AnimationController", name := "progress", desc := "(Z)J" } : Jvm.MethodName)) ∈ lw_all := lw_g (lw_at lw_m10 206 rfl) rfl
theorem q2478 : (Jvm.Cond.methodLink "AnimationControllerLaw" (222 : Nat) ({ cls := "AnimationControllerLaw", name := "stateLength", desc := "(LAnimationController;I[J)I" } : Jvm.MethodName)) ∈ lw_all := lw_g (lw_at lw_m10 211 rfl) rfl
theorem q2479 : (Jvm.Cond.static ({ cls := "AnimationControllerLaw", name := "stateLength", desc := "(LAnimationController;I[J)I" } : Jvm.MethodName)) ∈ lw_all := lw_g (lw_at lw_m10 212 rfl) rfl
theorem q2480 : (Jvm.Cond.codeWith ({ cls := "AnimationControllerLaw", name := "stateLength", desc := "(LAnimationController;I[J)I" } : Jvm.MethodName) method_22_code (4 : Nat) (Option.some Jvm.ClassFile.FieldType.int) [((0 : Nat), (9 : Nat), (12 : Nat), (21 : Nat))]) ∈ lw_all := lw_g (lw_at lw_m10 213 rfl) rfl
theorem q2481 : (Jvm.Cond.methodLink "AnimationControllerLaw" (80 : Nat) ({ cls := "AnimationController", name := "stateLength", desc := "(I)I" } : Jvm.MethodName)) ∈ lw_all := lw_g (lw_at lw_m10 214 rfl) rfl
theorem q2486 : (Jvm.Cond.methodLink "AnimationControllerLaw" (225 : Nat) ({ cls := "AnimationControllerLaw", name := "partWeight", desc := "(LAnimationController;II[J)I" } : Jvm.MethodName)) ∈ lw_all := lw_g (lw_at lw_m10 219 rfl) rfl
theorem q2487 : (Jvm.Cond.static ({ cls := "AnimationControllerLaw", name := "partWeight", desc := "(LAnimationController;II[J)I" } : Jvm.MethodName)) ∈ lw_all := lw_g (lw_at lw_m10 220 rfl) rfl
theorem q2488 : (Jvm.Cond.codeWith ({ cls := "AnimationControllerLaw", name := "partWeight", desc := "(LAnimationController;II[J)I" } : Jvm.MethodName) method_23_code (5 : Nat) (Option.some Jvm.ClassFile.FieldType.int) [((0 : Nat), (10 : Nat), (13 : Nat), (21 : Nat))]) ∈ lw_all := lw_g (lw_at lw_m10 221 rfl) rfl
theorem q2489 : (Jvm.Cond.methodLink "AnimationControllerLaw" (83 : Nat) ({ cls := "AnimationController", name := "partWeight", desc := "(II)I" } : Jvm.MethodName)) ∈ lw_all := lw_g (lw_at lw_m10 222 rfl) rfl
theorem q2493 : (Jvm.Cond.methodLink "AnimationControllerLaw" (228 : Nat) ({ cls := "AnimationControllerLaw", name := "blocked", desc := "(LAnimationController;I[J)I" } : Jvm.MethodName)) ∈ lw_all := lw_g (lw_at lw_m10 226 rfl) rfl
theorem q2494 : (Jvm.Cond.static ({ cls := "AnimationControllerLaw", name := "blocked", desc := "(LAnimationController;I[J)I" } : Jvm.MethodName)) ∈ lw_all := lw_g (lw_at lw_m10 227 rfl) rfl
theorem q2495 : (Jvm.Cond.codeWith ({ cls := "AnimationControllerLaw", name := "blocked", desc := "(LAnimationController;I[J)I" } : Jvm.MethodName) method_24_code (4 : Nat) (Option.some Jvm.ClassFile.FieldType.int) [((0 : Nat), (9 : Nat), (12 : Nat), (21 : Nat))]) ∈ lw_all := lw_g (lw_at lw_m10 228 rfl) rfl
theorem q2496 : (Jvm.Cond.methodLink "AnimationControllerLaw" (86 : Nat) ({ cls := "AnimationController", name := "blocked", desc := "(I)I" } : Jvm.MethodName)) ∈ lw_all := lw_g (lw_at lw_m10 229 rfl) rfl
theorem q2504 : (Jvm.Cond.methodLink "AnimationControllerLaw" (235 : Nat) ({ cls := "AnimationControllerLaw", name := "poseClip", desc := "(LAnimationController;I[J)I" } : Jvm.MethodName)) ∈ lw_all := lw_g (lw_at lw_m10 237 rfl) rfl
theorem q2505 : (Jvm.Cond.static ({ cls := "AnimationControllerLaw", name := "poseClip", desc := "(LAnimationController;I[J)I" } : Jvm.MethodName)) ∈ lw_all := lw_g (lw_at lw_m10 238 rfl) rfl
theorem q2506 : (Jvm.Cond.codeWith ({ cls := "AnimationControllerLaw", name := "poseClip", desc := "(LAnimationController;I[J)I" } : Jvm.MethodName) method_25_code (4 : Nat) (Option.some Jvm.ClassFile.FieldType.int) [((0 : Nat), (9 : Nat), (12 : Nat), (21 : Nat))]) ∈ lw_all := lw_g (lw_at lw_m10 239 rfl) rfl
theorem q2507 : (Jvm.Cond.methodLink "AnimationControllerLaw" (89 : Nat) ({ cls := "AnimationController", name := "poseClip", desc := "(I)I" } : Jvm.MethodName)) ∈ lw_all := lw_g (lw_at lw_m11 0 rfl) rfl
theorem q2515 : (Jvm.Cond.methodLink "AnimationControllerLaw" (238 : Nat) ({ cls := "AnimationControllerLaw", name := "poseTime", desc := "(LAnimationController;I[J)I" } : Jvm.MethodName)) ∈ lw_all := lw_g (lw_at lw_m11 8 rfl) rfl
theorem q2516 : (Jvm.Cond.static ({ cls := "AnimationControllerLaw", name := "poseTime", desc := "(LAnimationController;I[J)I" } : Jvm.MethodName)) ∈ lw_all := lw_g (lw_at lw_m11 9 rfl) rfl
theorem q2517 : (Jvm.Cond.codeWith ({ cls := "AnimationControllerLaw", name := "poseTime", desc := "(LAnimationController;I[J)I" } : Jvm.MethodName) method_26_code (4 : Nat) (Option.some Jvm.ClassFile.FieldType.int) [((0 : Nat), (9 : Nat), (12 : Nat), (21 : Nat))]) ∈ lw_all := lw_g (lw_at lw_m11 10 rfl) rfl
theorem q2518 : (Jvm.Cond.methodLink "AnimationControllerLaw" (92 : Nat) ({ cls := "AnimationController", name := "poseTime", desc := "(I)I" } : Jvm.MethodName)) ∈ lw_all := lw_g (lw_at lw_m11 11 rfl) rfl
theorem q2522 : (Jvm.Cond.methodLink "AnimationControllerLaw" (241 : Nat) ({ cls := "AnimationControllerLaw", name := "poseWeight", desc := "(LAnimationController;I[J)I" } : Jvm.MethodName)) ∈ lw_all := lw_g (lw_at lw_m11 15 rfl) rfl
theorem q2523 : (Jvm.Cond.static ({ cls := "AnimationControllerLaw", name := "poseWeight", desc := "(LAnimationController;I[J)I" } : Jvm.MethodName)) ∈ lw_all := lw_g (lw_at lw_m11 16 rfl) rfl
theorem q2524 : (Jvm.Cond.codeWith ({ cls := "AnimationControllerLaw", name := "poseWeight", desc := "(LAnimationController;I[J)I" } : Jvm.MethodName) method_27_code (4 : Nat) (Option.some Jvm.ClassFile.FieldType.int) [((0 : Nat), (9 : Nat), (12 : Nat), (21 : Nat))]) ∈ lw_all := lw_g (lw_at lw_m11 17 rfl) rfl
theorem q2525 : (Jvm.Cond.methodLink "AnimationControllerLaw" (95 : Nat) ({ cls := "AnimationController", name := "poseWeight", desc := "(I)I" } : Jvm.MethodName)) ∈ lw_all := lw_g (lw_at lw_m11 18 rfl) rfl
theorem q2529 : (Jvm.Cond.methodLink "AnimationControllerLaw" (248 : Nat) ({ cls := "AnimationControllerLaw", name := "event", desc := "(LAnimationController;II[J)I" } : Jvm.MethodName)) ∈ lw_all := lw_g (lw_at lw_m11 22 rfl) rfl
theorem q2530 : (Jvm.Cond.static ({ cls := "AnimationControllerLaw", name := "event", desc := "(LAnimationController;II[J)I" } : Jvm.MethodName)) ∈ lw_all := lw_g (lw_at lw_m11 23 rfl) rfl
theorem q2531 : (Jvm.Cond.codeWith ({ cls := "AnimationControllerLaw", name := "event", desc := "(LAnimationController;II[J)I" } : Jvm.MethodName) method_28_code (5 : Nat) (Option.some Jvm.ClassFile.FieldType.int) [((0 : Nat), (10 : Nat), (13 : Nat), (21 : Nat)), ((0 : Nat), (10 : Nat), (17 : Nat), (13 : Nat))]) ∈ lw_all := lw_g (lw_at lw_m11 24 rfl) rfl
theorem q2532 : (Jvm.Cond.methodLink "AnimationControllerLaw" (98 : Nat) ({ cls := "AnimationController", name := "event", desc := "(II)I" } : Jvm.MethodName)) ∈ lw_all := lw_g (lw_at lw_m11 25 rfl) rfl
theorem q2540 : (Jvm.Cond.methodLink "AnimationControllerLaw" (251 : Nat) ({ cls := "AnimationControllerLaw", name := "foretell", desc := "(LAnimationController;I[J)I" } : Jvm.MethodName)) ∈ lw_all := lw_g (lw_at lw_m11 33 rfl) rfl
theorem q2541 : (Jvm.Cond.static ({ cls := "AnimationControllerLaw", name := "foretell", desc := "(LAnimationController;I[J)I" } : Jvm.MethodName)) ∈ lw_all := lw_g (lw_at lw_m11 34 rfl) rfl
theorem q2542 : (Jvm.Cond.codeWith ({ cls := "AnimationControllerLaw", name := "foretell", desc := "(LAnimationController;I[J)I" } : Jvm.MethodName) method_29_code (4 : Nat) (Option.some Jvm.ClassFile.FieldType.int) [((0 : Nat), (9 : Nat), (12 : Nat), (13 : Nat)), ((0 : Nat), (9 : Nat), (15 : Nat), (15 : Nat))]) ∈ lw_all := lw_g (lw_at lw_m11 35 rfl) rfl
theorem q2543 : (Jvm.Cond.methodLink "AnimationControllerLaw" (101 : Nat) ({ cls := "AnimationController", name := "foretell", desc := "(I)I" } : Jvm.MethodName)) ∈ lw_all := lw_g (lw_at lw_m11 36 rfl) rfl
theorem q2571 : (Jvm.Cond.methodLink "AnimationControllerLaw" (254 : Nat) ({ cls := "AnimationControllerLaw", name := "ticksTo", desc := "(LAnimationController;I[J)I" } : Jvm.MethodName)) ∈ lw_all := lw_g (lw_at lw_m11 64 rfl) rfl
theorem q2572 : (Jvm.Cond.static ({ cls := "AnimationControllerLaw", name := "ticksTo", desc := "(LAnimationController;I[J)I" } : Jvm.MethodName)) ∈ lw_all := lw_g (lw_at lw_m11 65 rfl) rfl
theorem q2573 : (Jvm.Cond.codeWith ({ cls := "AnimationControllerLaw", name := "ticksTo", desc := "(LAnimationController;I[J)I" } : Jvm.MethodName) method_30_code (4 : Nat) (Option.some Jvm.ClassFile.FieldType.int) [((0 : Nat), (9 : Nat), (12 : Nat), (21 : Nat))]) ∈ lw_all := lw_g (lw_at lw_m11 66 rfl) rfl
theorem q2574 : (Jvm.Cond.methodLink "AnimationControllerLaw" (104 : Nat) ({ cls := "AnimationController", name := "ticksTo", desc := "(I)I" } : Jvm.MethodName)) ∈ lw_all := lw_g (lw_at lw_m11 67 rfl) rfl
theorem q2578 : (Jvm.Cond.methodLink "AnimationControllerLaw" (257 : Nat) ({ cls := "AnimationControllerLaw", name := "steps", desc := "(LAnimationController;II[J)I" } : Jvm.MethodName)) ∈ lw_all := lw_g (lw_at lw_m11 71 rfl) rfl
theorem q2579 : (Jvm.Cond.static ({ cls := "AnimationControllerLaw", name := "steps", desc := "(LAnimationController;II[J)I" } : Jvm.MethodName)) ∈ lw_all := lw_g (lw_at lw_m11 72 rfl) rfl
theorem q2580 : (Jvm.Cond.codeWith ({ cls := "AnimationControllerLaw", name := "steps", desc := "(LAnimationController;II[J)I" } : Jvm.MethodName) method_31_code (5 : Nat) (Option.some Jvm.ClassFile.FieldType.int) [((0 : Nat), (10 : Nat), (13 : Nat), (21 : Nat))]) ∈ lw_all := lw_g (lw_at lw_m11 73 rfl) rfl
theorem q2581 : (Jvm.Cond.methodLink "AnimationControllerLaw" (107 : Nat) ({ cls := "AnimationController", name := "steps", desc := "(II)I" } : Jvm.MethodName)) ∈ lw_all := lw_g (lw_at lw_m11 74 rfl) rfl
theorem q2680 : (Jvm.Cond.methodLink "AnimationControllerLaw" (260 : Nat) ({ cls := "AnimationControllerLaw", name := "keep", desc := "(LAnimationController;I[J)I" } : Jvm.MethodName)) ∈ lw_all := lw_g (lw_at lw_m11 173 rfl) rfl
theorem q2681 : (Jvm.Cond.static ({ cls := "AnimationControllerLaw", name := "keep", desc := "(LAnimationController;I[J)I" } : Jvm.MethodName)) ∈ lw_all := lw_g (lw_at lw_m11 174 rfl) rfl
theorem q2682 : (Jvm.Cond.codeWith ({ cls := "AnimationControllerLaw", name := "keep", desc := "(LAnimationController;I[J)I" } : Jvm.MethodName) method_32_code (4 : Nat) (Option.some Jvm.ClassFile.FieldType.int) [((0 : Nat), (9 : Nat), (12 : Nat), (13 : Nat)), ((0 : Nat), (9 : Nat), (15 : Nat), (15 : Nat))]) ∈ lw_all := lw_g (lw_at lw_m11 175 rfl) rfl
theorem q2683 : (Jvm.Cond.methodLink "AnimationControllerLaw" (110 : Nat) ({ cls := "AnimationController", name := "keep", desc := "(I)I" } : Jvm.MethodName)) ∈ lw_all := lw_g (lw_at lw_m11 176 rfl) rfl
theorem q2706 : (Jvm.Cond.methodLink "AnimationControllerLaw" (263 : Nat) ({ cls := "AnimationControllerLaw", name := "restore", desc := "(LAnimationController;I[J)I" } : Jvm.MethodName)) ∈ lw_all := lw_g (lw_at lw_m11 199 rfl) rfl
theorem q2707 : (Jvm.Cond.static ({ cls := "AnimationControllerLaw", name := "restore", desc := "(LAnimationController;I[J)I" } : Jvm.MethodName)) ∈ lw_all := lw_g (lw_at lw_m11 200 rfl) rfl
theorem q2708 : (Jvm.Cond.codeWith ({ cls := "AnimationControllerLaw", name := "restore", desc := "(LAnimationController;I[J)I" } : Jvm.MethodName) method_33_code (4 : Nat) (Option.some Jvm.ClassFile.FieldType.int) [((0 : Nat), (9 : Nat), (12 : Nat), (13 : Nat)), ((0 : Nat), (9 : Nat), (15 : Nat), (15 : Nat))]) ∈ lw_all := lw_g (lw_at lw_m11 201 rfl) rfl
theorem q2709 : (Jvm.Cond.methodLink "AnimationControllerLaw" (113 : Nat) ({ cls := "AnimationController", name := "restore", desc := "(I)I" } : Jvm.MethodName)) ∈ lw_all := lw_g (lw_at lw_m11 202 rfl) rfl
theorem q2718 : (Jvm.Cond.methodLink "AnimationControllerLaw" (266 : Nat) ({ cls := "AnimationControllerLaw", name := "count", desc := "(LAnimationController;I[J)I" } : Jvm.MethodName)) ∈ lw_all := lw_g (lw_at lw_m11 211 rfl) rfl
theorem q2719 : (Jvm.Cond.static ({ cls := "AnimationControllerLaw", name := "count", desc := "(LAnimationController;I[J)I" } : Jvm.MethodName)) ∈ lw_all := lw_g (lw_at lw_m11 212 rfl) rfl
theorem q2720 : (Jvm.Cond.codeWith ({ cls := "AnimationControllerLaw", name := "count", desc := "(LAnimationController;I[J)I" } : Jvm.MethodName) method_34_code (4 : Nat) (Option.some Jvm.ClassFile.FieldType.int) [((0 : Nat), (9 : Nat), (12 : Nat), (13 : Nat))]) ∈ lw_all := lw_g (lw_at lw_m11 213 rfl) rfl
theorem q2721 : (Jvm.Cond.methodLink "AnimationControllerLaw" (116 : Nat) ({ cls := "AnimationController", name := "count", desc := "(I)I" } : Jvm.MethodName)) ∈ lw_all := lw_g (lw_at lw_m11 214 rfl) rfl
theorem q2725 : (Jvm.Cond.classLink "AnimationControllerLaw" (120 : Nat) "AnimationControllerModel") ∈ lw_all := lw_g (lw_at lw_m11 218 rfl) rfl
theorem q2727 : (Jvm.Cond.methodLink "AnimationControllerLaw" (122 : Nat) ({ cls := "AnimationControllerModel", name := "<init>", desc := "()V" } : Jvm.MethodName)) ∈ lw_all := lw_g (lw_at lw_m11 220 rfl) rfl
theorem q2859 : (Jvm.Cond.methodLink "AnimationControllerLaw" (129 : Nat) ({ cls := "AnimationControllerModel", name := "thrown", desc := "()I" } : Jvm.MethodName)) ∈ lw_all := lw_g (lw_at lw_m12 112 rfl) rfl
theorem q2863 : (Jvm.Cond.methodLink "AnimationControllerLaw" (128 : Nat) ({ cls := "AnimationControllerModel", name := "addParameter", desc := "(I)I" } : Jvm.MethodName)) ∈ lw_all := lw_g (lw_at lw_m12 116 rfl) rfl
theorem q2875 : (Jvm.Cond.methodLink "AnimationControllerLaw" (135 : Nat) ({ cls := "AnimationControllerModel", name := "set", desc := "(II)I" } : Jvm.MethodName)) ∈ lw_all := lw_g (lw_at lw_m12 128 rfl) rfl
theorem q2885 : (Jvm.Cond.methodLink "AnimationControllerLaw" (138 : Nat) ({ cls := "AnimationControllerModel", name := "value", desc := "(I)I" } : Jvm.MethodName)) ∈ lw_all := lw_g (lw_at lw_m12 138 rfl) rfl
theorem q2889 : (Jvm.Cond.methodLink "AnimationControllerLaw" (141 : Nat) ({ cls := "AnimationControllerModel", name := "addClip", desc := "(I)I" } : Jvm.MethodName)) ∈ lw_all := lw_g (lw_at lw_m12 142 rfl) rfl
theorem q2894 : (Jvm.Cond.methodLink "AnimationControllerLaw" (145 : Nat) ({ cls := "AnimationControllerModel", name := "addEvent", desc := "(III)I" } : Jvm.MethodName)) ∈ lw_all := lw_g (lw_at lw_m12 147 rfl) rfl
theorem q2903 : (Jvm.Cond.methodLink "AnimationControllerLaw" (148 : Nat) ({ cls := "AnimationControllerModel", name := "addClipNode", desc := "(I)I" } : Jvm.MethodName)) ∈ lw_all := lw_g (lw_at lw_m12 156 rfl) rfl
theorem q2907 : (Jvm.Cond.methodLink "AnimationControllerLaw" (151 : Nat) ({ cls := "AnimationControllerModel", name := "addLine", desc := "(I)I" } : Jvm.MethodName)) ∈ lw_all := lw_g (lw_at lw_m12 160 rfl) rfl
theorem q2911 : (Jvm.Cond.methodLink "AnimationControllerLaw" (154 : Nat) ({ cls := "AnimationControllerModel", name := "addChild", desc := "(III)I" } : Jvm.MethodName)) ∈ lw_all := lw_g (lw_at lw_m12 164 rfl) rfl
theorem q2927 : (Jvm.Cond.methodLink "AnimationControllerLaw" (158 : Nat) ({ cls := "AnimationControllerModel", name := "addState", desc := "(IIZI)I" } : Jvm.MethodName)) ∈ lw_all := lw_g (lw_at lw_m12 180 rfl) rfl
theorem q2941 : (Jvm.Cond.methodLink "AnimationControllerLaw" (161 : Nat) ({ cls := "AnimationControllerModel", name := "addTransition", desc := "(III)I" } : Jvm.MethodName)) ∈ lw_all := lw_g (lw_at lw_m12 194 rfl) rfl
theorem q2954 : (Jvm.Cond.methodLink "AnimationControllerLaw" (164 : Nat) ({ cls := "AnimationControllerModel", name := "setTiming", desc := "(III)I" } : Jvm.MethodName)) ∈ lw_all := lw_g (lw_at lw_m12 207 rfl) rfl
theorem q2968 : (Jvm.Cond.methodLink "AnimationControllerLaw" (168 : Nat) ({ cls := "AnimationControllerModel", name := "setInterruption", desc := "(IIZ)I" } : Jvm.MethodName)) ∈ lw_all := lw_g (lw_at lw_m12 221 rfl) rfl
theorem q2973 : (Jvm.Cond.methodLink "AnimationControllerLaw" (172 : Nat) ({ cls := "AnimationControllerModel", name := "addCondition", desc := "(IIII)I" } : Jvm.MethodName)) ∈ lw_all := lw_g (lw_at lw_m12 226 rfl) rfl
theorem q2981 : (Jvm.Cond.methodLink "AnimationControllerLaw" (175 : Nat) ({ cls := "AnimationControllerModel", name := "setThreshold", desc := "(I)I" } : Jvm.MethodName)) ∈ lw_all := lw_g (lw_at lw_m12 234 rfl) rfl
theorem q2985 : (Jvm.Cond.methodLink "AnimationControllerLaw" (178 : Nat) ({ cls := "AnimationControllerModel", name := "type", desc := "(I)I" } : Jvm.MethodName)) ∈ lw_all := lw_g (lw_at lw_m12 238 rfl) rfl
theorem q2990 : (Jvm.Cond.methodLink "AnimationControllerLaw" (182 : Nat) ({ cls := "AnimationControllerModel", name := "clearText", desc := "()I" } : Jvm.MethodName)) ∈ lw_all := lw_g (lw_at lw_m13 3 rfl) rfl
theorem q2994 : (Jvm.Cond.methodLink "AnimationControllerLaw" (186 : Nat) ({ cls := "AnimationControllerModel", name := "fault", desc := "()I" } : Jvm.MethodName)) ∈ lw_all := lw_g (lw_at lw_m13 7 rfl) rfl
theorem q3040 : (Jvm.Cond.methodLink "AnimationControllerLaw" (190 : Nat) ({ cls := "AnimationControllerModel", name := "load", desc := "()I" } : Jvm.MethodName)) ∈ lw_all := lw_g (lw_at lw_m13 53 rfl) rfl
theorem q3044 : (Jvm.Cond.methodLink "AnimationControllerLaw" (234 : Nat) ({ cls := "AnimationControllerModel", name := "poseSize", desc := "()I" } : Jvm.MethodName)) ∈ lw_all := lw_g (lw_at lw_m13 57 rfl) rfl
theorem q3077 : (Jvm.Cond.methodLink "AnimationControllerLaw" (237 : Nat) ({ cls := "AnimationControllerModel", name := "poseClip", desc := "(I)I" } : Jvm.MethodName)) ∈ lw_all := lw_g (lw_at lw_m13 90 rfl) rfl
theorem q3085 : (Jvm.Cond.methodLink "AnimationControllerLaw" (240 : Nat) ({ cls := "AnimationControllerModel", name := "poseTime", desc := "(I)I" } : Jvm.MethodName)) ∈ lw_all := lw_g (lw_at lw_m13 98 rfl) rfl
theorem q3089 : (Jvm.Cond.methodLink "AnimationControllerLaw" (243 : Nat) ({ cls := "AnimationControllerModel", name := "poseWeight", desc := "(I)I" } : Jvm.MethodName)) ∈ lw_all := lw_g (lw_at lw_m13 102 rfl) rfl
theorem q3093 : (Jvm.Cond.methodLink "AnimationControllerLaw" (230 : Nat) ({ cls := "AnimationControllerModel", name := "blocked", desc := "(I)I" } : Jvm.MethodName)) ∈ lw_all := lw_g (lw_at lw_m13 106 rfl) rfl
theorem q3130 : (Jvm.Cond.methodLink "AnimationControllerLaw" (193 : Nat) ({ cls := "AnimationControllerModel", name := "tick", desc := "(I)I" } : Jvm.MethodName)) ∈ lw_all := lw_g (lw_at lw_m13 143 rfl) rfl
theorem q3195 : (Jvm.Cond.methodLink "AnimationControllerLaw" (197 : Nat) ({ cls := "AnimationControllerModel", name := "reset", desc := "()I" } : Jvm.MethodName)) ∈ lw_all := lw_g (lw_at lw_m13 208 rfl) rfl
theorem q3199 : (Jvm.Cond.methodLink "AnimationControllerLaw" (200 : Nat) ({ cls := "AnimationControllerModel", name := "state", desc := "()I" } : Jvm.MethodName)) ∈ lw_all := lw_g (lw_at lw_m13 212 rfl) rfl
theorem q3203 : (Jvm.Cond.methodLink "AnimationControllerLaw" (204 : Nat) ({ cls := "AnimationControllerModel", name := "target", desc := "()I" } : Jvm.MethodName)) ∈ lw_all := lw_g (lw_at lw_m13 216 rfl) rfl
theorem q3207 : (Jvm.Cond.methodLink "AnimationControllerLaw" (208 : Nat) ({ cls := "AnimationControllerModel", name := "transition", desc := "()I" } : Jvm.MethodName)) ∈ lw_all := lw_g (lw_at lw_m13 220 rfl) rfl
theorem q3211 : (Jvm.Cond.methodLink "AnimationControllerLaw" (212 : Nat) ({ cls := "AnimationControllerModel", name := "elapsed", desc := "()I" } : Jvm.MethodName)) ∈ lw_all := lw_g (lw_at lw_m13 224 rfl) rfl
theorem q3215 : (Jvm.Cond.methodLink "AnimationControllerLaw" (217 : Nat) ({ cls := "AnimationControllerModel", name := "isFrozen", desc := "()Z" } : Jvm.MethodName)) ∈ lw_all := lw_g (lw_at lw_m13 228 rfl) rfl
theorem q3219 : (Jvm.Cond.methodLink "AnimationControllerLaw" (221 : Nat) ({ cls := "AnimationControllerModel", name := "progress", desc := "(Z)J" } : Jvm.MethodName)) ∈ lw_all := lw_g (lw_at lw_m13 232 rfl) rfl
theorem q3223 : (Jvm.Cond.methodLink "AnimationControllerLaw" (224 : Nat) ({ cls := "AnimationControllerModel", name := "stateLength", desc := "(I)I" } : Jvm.MethodName)) ∈ lw_all := lw_g (lw_at lw_m13 236 rfl) rfl
theorem q3227 : (Jvm.Cond.methodLink "AnimationControllerLaw" (227 : Nat) ({ cls := "AnimationControllerModel", name := "partWeight", desc := "(II)I" } : Jvm.MethodName)) ∈ lw_all := lw_g (lw_at lw_m14 0 rfl) rfl
theorem q3231 : (Jvm.Cond.methodLink "AnimationControllerLaw" (247 : Nat) ({ cls := "AnimationControllerModel", name := "fired", desc := "()I" } : Jvm.MethodName)) ∈ lw_all := lw_g (lw_at lw_m14 4 rfl) rfl
theorem q3235 : (Jvm.Cond.methodLink "AnimationControllerLaw" (250 : Nat) ({ cls := "AnimationControllerModel", name := "event", desc := "(II)I" } : Jvm.MethodName)) ∈ lw_all := lw_g (lw_at lw_m14 8 rfl) rfl
theorem q3239 : (Jvm.Cond.methodLink "AnimationControllerLaw" (253 : Nat) ({ cls := "AnimationControllerModel", name := "foretell", desc := "(I)I" } : Jvm.MethodName)) ∈ lw_all := lw_g (lw_at lw_m14 12 rfl) rfl
theorem q3247 : (Jvm.Cond.methodLink "AnimationControllerLaw" (256 : Nat) ({ cls := "AnimationControllerModel", name := "ticksTo", desc := "(I)I" } : Jvm.MethodName)) ∈ lw_all := lw_g (lw_at lw_m14 20 rfl) rfl
theorem q3251 : (Jvm.Cond.methodLink "AnimationControllerLaw" (259 : Nat) ({ cls := "AnimationControllerModel", name := "steps", desc := "(II)I" } : Jvm.MethodName)) ∈ lw_all := lw_g (lw_at lw_m14 24 rfl) rfl
theorem q3255 : (Jvm.Cond.methodLink "AnimationControllerLaw" (262 : Nat) ({ cls := "AnimationControllerModel", name := "keep", desc := "(I)I" } : Jvm.MethodName)) ∈ lw_all := lw_g (lw_at lw_m14 28 rfl) rfl
theorem q3259 : (Jvm.Cond.methodLink "AnimationControllerLaw" (265 : Nat) ({ cls := "AnimationControllerModel", name := "restore", desc := "(I)I" } : Jvm.MethodName)) ∈ lw_all := lw_g (lw_at lw_m14 32 rfl) rfl
theorem q3263 : (Jvm.Cond.methodLink "AnimationControllerLaw" (268 : Nat) ({ cls := "AnimationControllerModel", name := "count", desc := "(I)I" } : Jvm.MethodName)) ∈ lw_all := lw_g (lw_at lw_m14 36 rfl) rfl
