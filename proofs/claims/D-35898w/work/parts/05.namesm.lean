/-! RaidhallModel -/
set_option maxRecDepth 100000
def RX4 : String := "RaidhallModel"
def TX4 : u_T := fun k => match k with
  | 0 => ("RaidhallModel", "thrown", "I", false)
  | 1 => ("RaidhallModel", "begun", "I", false)
  | 2 => ("RaidhallModel", "isMatch", "Z", false)
  | 3 => ("RaidhallModel", "isRaid", "Z", false)
  | 4 => ("RaidhallModel", "clubs", "[I", true)
  | 5 => ("RaidhallModel", "lasts", "I", false)
  | 6 => ("RaidhallModel", "areLost", "[Z", true)
  | 7 => ("RaidhallModel", "events", "I", false)
  | 8 => ("RaidhallModel", "kinds", "[I", true)
  | 9 => ("RaidhallModel", "first", "[I", true)
  | 10 => ("RaidhallModel", "second", "[I", true)
  | 11 => ("RaidhallModel", "third", "[I", true)
  | 12 => ("RaidhallModel", "stepMany", "[I", true)
  | 13 => ("RaidhallModel", "stepKind", "[I", true)
  | 14 => ("RaidhallModel", "stepWho", "[I", true)
  | 15 => ("RaidhallModel", "stepTenth", "[I", true)
  | 16 => ("RaidhallModel", "s", "[I", true)
  | 17 => ("RaidhallModel", "mats", "[I", true)
  | 18 => ("RaidhallModel", "pointsThen", "[I", true)
  | 19 => ("RaidhallModel", "pad", "[I", true)
  | 20 => ("RaidhallModel", "length", "I", false)
  | 21 => ("RaidhallModel", "spot", "I", false)
  | 22 => ("RaidhallModel", "isBad", "Z", false)
  | 23 => ("RaidhallModel", "readKind", "I", false)
  | 24 => ("RaidhallModel", "readWho", "I", false)
  | 25 => ("RaidhallModel", "readTenth", "I", false)
  | 26 => ("RaidhallModel", "league", "[I", true)
  | 27 => ("RaidhallModel", "purses", "[I", true)
  | 28 => ("RaidhallModel", "squads", "[I", true)
  | 29 => ("RaidhallModel", "foreigners", "[I", true)
  | 30 => ("RaidhallModel", "owners", "[I", true)
  | 31 => ("RaidhallModel", "prices", "[I", true)
  | 32 => ("RaidhallModel", "rights", "[I", true)
  | 33 => ("RaidhallModel", "called", "I", false)
  | 34 => ("RaidhallModel", "bids", "I", false)
  | 35 => ("RaidhallModel", "best", "I", false)
  | 36 => ("RaidhallModel", "bidder", "I", false)
  | _ => ("RaidhallModel", "isAsked", "Z", false)
def tyX4 : Nat → FieldType := fun k => match k with
  | 0 => .int
  | 1 => .int
  | 2 => .boolean
  | 3 => .boolean
  | 4 => .array .int
  | 5 => .int
  | 6 => .array .boolean
  | 7 => .int
  | 8 => .array .int
  | 9 => .array .int
  | 10 => .array .int
  | 11 => .array .int
  | 12 => .array .int
  | 13 => .array .int
  | 14 => .array .int
  | 15 => .array .int
  | 16 => .array .int
  | 17 => .array .int
  | 18 => .array .int
  | 19 => .array .int
  | 20 => .int
  | 21 => .int
  | 22 => .boolean
  | 23 => .int
  | 24 => .int
  | 25 => .int
  | 26 => .array .int
  | 27 => .array .int
  | 28 => .array .int
  | 29 => .array .int
  | 30 => .array .int
  | 31 => .array .int
  | 32 => .array .int
  | 33 => .int
  | 34 => .int
  | 35 => .int
  | 36 => .int
  | _ => .boolean
abbrev wsX40 : List Cond := u_ws RX4 TX4 38
set_option maxRecDepth 100000 in
theorem nmX4 : ∀ a, a < 38 → ∀ b, b < 38 → a ≠ b → (TX4 a).2.1 ≠ (TX4 b).2.1 := by decide +kernel
set_option maxRecDepth 100000 in
theorem tyX4_ok : ∀ k, k < 38 → parseFieldDescriptor (TX4 k).2.2.1 = some (tyX4 k) := by decide +kernel
abbrev cX4_init : ByteArray := prog_14_method_1_code
def yX4_init : MethodName := ⟨RX4, "<init>", "()V"⟩
def dkwX4_init_10 : List UInt8 := [177]
abbrev dktX4_init_10 : List UInt8 := dkwX4_init_10 ++ []
def dkwX4_init_9 : List UInt8 := [180, 0, 68, 27, 2, 79, 42, 180, 0, 71, 27, 2, 79, 132, 1, 1, 167, 255, 226, 42, 2, 181, 0, 74]
abbrev dktX4_init_9 : List UInt8 := dkwX4_init_9 ++ dktX4_init_10
def dkwX4_init_8 : List UInt8 := [132, 1, 1, 167, 255, 238, 3, 60, 27, 16, 24, 162, 0, 30, 42, 180, 0, 65, 27, 2, 79, 42]
abbrev dktX4_init_8 : List UInt8 := dkwX4_init_8 ++ dktX4_init_9
def dkwX4_init_7 : List UInt8 := [16, 24, 188, 10, 181, 0, 71, 3, 60, 27, 16, 8, 162, 0, 18, 42, 180, 0, 56, 27, 17, 3, 232, 79]
abbrev dktX4_init_7 : List UInt8 := dkwX4_init_7 ++ dktX4_init_8
def dkwX4_init_6 : List UInt8 := [16, 8, 188, 10, 181, 0, 62, 42, 16, 24, 188, 10, 181, 0, 65, 42, 16, 24, 188, 10, 181, 0, 68, 42]
abbrev dktX4_init_6 : List UInt8 := dkwX4_init_6 ++ dktX4_init_7
def dkwX4_init_5 : List UInt8 := [16, 48, 188, 10, 181, 0, 53, 42, 16, 8, 188, 10, 181, 0, 56, 42, 16, 8, 188, 10, 181, 0, 59, 42]
abbrev dktX4_init_5 : List UInt8 := dkwX4_init_5 ++ dktX4_init_6
def dkwX4_init_4 : List UInt8 := [16, 120, 188, 10, 181, 0, 44, 42, 16, 120, 188, 10, 181, 0, 47, 42, 16, 60, 188, 10, 181, 0, 50, 42]
abbrev dktX4_init_4 : List UInt8 := dkwX4_init_4 ++ dktX4_init_5
def dkwX4_init_3 : List UInt8 := [188, 10, 181, 0, 35, 42, 17, 3, 72, 188, 10, 181, 0, 38, 42, 16, 110, 188, 10, 181, 0, 41, 42]
abbrev dktX4_init_3 : List UInt8 := dkwX4_init_3 ++ dktX4_init_4
def dkwX4_init_2 : List UInt8 := [181, 0, 26, 42, 16, 60, 188, 10, 181, 0, 29, 42, 17, 3, 72, 188, 10, 181, 0, 32, 42, 17, 3, 72]
abbrev dktX4_init_2 : List UInt8 := dkwX4_init_2 ++ dktX4_init_3
def dkwX4_init_1 : List UInt8 := [181, 0, 17, 42, 16, 60, 188, 10, 181, 0, 20, 42, 16, 60, 188, 10, 181, 0, 23, 42, 16, 60, 188, 10]
abbrev dktX4_init_1 : List UInt8 := dkwX4_init_1 ++ dktX4_init_2
def dkwX4_init_0 : List UInt8 := [42, 183, 0, 1, 42, 5, 188, 10, 181, 0, 7, 42, 5, 188, 4, 181, 0, 13, 42, 16, 60, 188, 10]
abbrev dktX4_init_0 : List UInt8 := dkwX4_init_0 ++ dktX4_init_1
theorem dksX4_init_0 : cX4_init.data.toList.drop 0 = dktX4_init_0 := by decide +kernel
theorem dksX4_init_1 : cX4_init.data.toList.drop 23 = dktX4_init_1 := dk_seg dksX4_init_0 23 rfl rfl
theorem dksX4_init_2 : cX4_init.data.toList.drop 47 = dktX4_init_2 := dk_seg dksX4_init_1 24 rfl rfl
theorem dksX4_init_3 : cX4_init.data.toList.drop 71 = dktX4_init_3 := dk_seg dksX4_init_2 24 rfl rfl
theorem dksX4_init_4 : cX4_init.data.toList.drop 94 = dktX4_init_4 := dk_seg dksX4_init_3 23 rfl rfl
theorem dksX4_init_5 : cX4_init.data.toList.drop 118 = dktX4_init_5 := dk_seg dksX4_init_4 24 rfl rfl
theorem dksX4_init_6 : cX4_init.data.toList.drop 142 = dktX4_init_6 := dk_seg dksX4_init_5 24 rfl rfl
theorem dksX4_init_7 : cX4_init.data.toList.drop 166 = dktX4_init_7 := dk_seg dksX4_init_6 24 rfl rfl
theorem dksX4_init_8 : cX4_init.data.toList.drop 190 = dktX4_init_8 := dk_seg dksX4_init_7 24 rfl rfl
theorem dksX4_init_9 : cX4_init.data.toList.drop 212 = dktX4_init_9 := dk_seg dksX4_init_8 22 rfl rfl
theorem dksX4_init_10 : cX4_init.data.toList.drop 236 = dktX4_init_10 := dk_seg dksX4_init_9 24 rfl rfl
theorem dX4_init_0 : decode cX4_init 0 = .ok (.aload_n 0, 1) := dk_42 (dk_at dksX4_init_0 0 rfl rfl)
theorem dX4_init_1 : decode cX4_init 1 = .ok (.invokespecial 1, 3) := dk_183 0 1 (dk_at dksX4_init_0 1 rfl rfl)
theorem dX4_init_4 : decode cX4_init 4 = .ok (.aload_n 0, 1) := dk_42 (dk_at dksX4_init_0 4 rfl rfl)
theorem dX4_init_5 : decode cX4_init 5 = .ok (.iconst 2, 1) := dk_5 (dk_at dksX4_init_0 5 rfl rfl)
theorem dX4_init_6 : decode cX4_init 6 = .ok (.newarray .int, 2) := dk_188_10 (dk_at dksX4_init_0 6 rfl rfl)
theorem dX4_init_8 : decode cX4_init 8 = .ok (.putfield 7, 3) := dk_181 0 7 (dk_at dksX4_init_0 8 rfl rfl)
theorem dX4_init_11 : decode cX4_init 11 = .ok (.aload_n 0, 1) := dk_42 (dk_at dksX4_init_0 11 rfl rfl)
theorem dX4_init_12 : decode cX4_init 12 = .ok (.iconst 2, 1) := dk_5 (dk_at dksX4_init_0 12 rfl rfl)
theorem dX4_init_13 : decode cX4_init 13 = .ok (.newarray .boolean, 2) := dk_188_4 (dk_at dksX4_init_0 13 rfl rfl)
theorem dX4_init_15 : decode cX4_init 15 = .ok (.putfield 13, 3) := dk_181 0 13 (dk_at dksX4_init_0 15 rfl rfl)
theorem dX4_init_18 : decode cX4_init 18 = .ok (.aload_n 0, 1) := dk_42 (dk_at dksX4_init_0 18 rfl rfl)
theorem dX4_init_19 : decode cX4_init 19 = .ok (.bipush 60, 2) := dk_16 60 (dk_at dksX4_init_0 19 rfl rfl)
theorem dX4_init_21 : decode cX4_init 21 = .ok (.newarray .int, 2) := dk_188_10 (dk_at dksX4_init_0 21 rfl rfl)
theorem dX4_init_23 : decode cX4_init 23 = .ok (.putfield 17, 3) := dk_181 0 17 (dk_at dksX4_init_1 0 rfl rfl)
theorem dX4_init_26 : decode cX4_init 26 = .ok (.aload_n 0, 1) := dk_42 (dk_at dksX4_init_1 3 rfl rfl)
theorem dX4_init_27 : decode cX4_init 27 = .ok (.bipush 60, 2) := dk_16 60 (dk_at dksX4_init_1 4 rfl rfl)
theorem dX4_init_29 : decode cX4_init 29 = .ok (.newarray .int, 2) := dk_188_10 (dk_at dksX4_init_1 6 rfl rfl)
theorem dX4_init_31 : decode cX4_init 31 = .ok (.putfield 20, 3) := dk_181 0 20 (dk_at dksX4_init_1 8 rfl rfl)
theorem dX4_init_34 : decode cX4_init 34 = .ok (.aload_n 0, 1) := dk_42 (dk_at dksX4_init_1 11 rfl rfl)
theorem dX4_init_35 : decode cX4_init 35 = .ok (.bipush 60, 2) := dk_16 60 (dk_at dksX4_init_1 12 rfl rfl)
theorem dX4_init_37 : decode cX4_init 37 = .ok (.newarray .int, 2) := dk_188_10 (dk_at dksX4_init_1 14 rfl rfl)
theorem dX4_init_39 : decode cX4_init 39 = .ok (.putfield 23, 3) := dk_181 0 23 (dk_at dksX4_init_1 16 rfl rfl)
theorem dX4_init_42 : decode cX4_init 42 = .ok (.aload_n 0, 1) := dk_42 (dk_at dksX4_init_1 19 rfl rfl)
theorem dX4_init_43 : decode cX4_init 43 = .ok (.bipush 60, 2) := dk_16 60 (dk_at dksX4_init_1 20 rfl rfl)
theorem dX4_init_45 : decode cX4_init 45 = .ok (.newarray .int, 2) := dk_188_10 (dk_at dksX4_init_1 22 rfl rfl)
theorem dX4_init_47 : decode cX4_init 47 = .ok (.putfield 26, 3) := dk_181 0 26 (dk_at dksX4_init_2 0 rfl rfl)
theorem dX4_init_50 : decode cX4_init 50 = .ok (.aload_n 0, 1) := dk_42 (dk_at dksX4_init_2 3 rfl rfl)
theorem dX4_init_51 : decode cX4_init 51 = .ok (.bipush 60, 2) := dk_16 60 (dk_at dksX4_init_2 4 rfl rfl)
theorem dX4_init_53 : decode cX4_init 53 = .ok (.newarray .int, 2) := dk_188_10 (dk_at dksX4_init_2 6 rfl rfl)
theorem dX4_init_55 : decode cX4_init 55 = .ok (.putfield 29, 3) := dk_181 0 29 (dk_at dksX4_init_2 8 rfl rfl)
theorem dX4_init_58 : decode cX4_init 58 = .ok (.aload_n 0, 1) := dk_42 (dk_at dksX4_init_2 11 rfl rfl)
theorem dX4_init_59 : decode cX4_init 59 = .ok (.sipush 840, 3) := dk_17 3 72 (dk_at dksX4_init_2 12 rfl rfl)
theorem dX4_init_62 : decode cX4_init 62 = .ok (.newarray .int, 2) := dk_188_10 (dk_at dksX4_init_2 15 rfl rfl)
theorem dX4_init_64 : decode cX4_init 64 = .ok (.putfield 32, 3) := dk_181 0 32 (dk_at dksX4_init_2 17 rfl rfl)
theorem dX4_init_67 : decode cX4_init 67 = .ok (.aload_n 0, 1) := dk_42 (dk_at dksX4_init_2 20 rfl rfl)
theorem dX4_init_68 : decode cX4_init 68 = .ok (.sipush 840, 3) := dk_17 3 72 (dk_at dksX4_init_2 21 rfl rfl)
theorem dX4_init_71 : decode cX4_init 71 = .ok (.newarray .int, 2) := dk_188_10 (dk_at dksX4_init_3 0 rfl rfl)
theorem dX4_init_73 : decode cX4_init 73 = .ok (.putfield 35, 3) := dk_181 0 35 (dk_at dksX4_init_3 2 rfl rfl)
theorem dX4_init_76 : decode cX4_init 76 = .ok (.aload_n 0, 1) := dk_42 (dk_at dksX4_init_3 5 rfl rfl)
theorem dX4_init_77 : decode cX4_init 77 = .ok (.sipush 840, 3) := dk_17 3 72 (dk_at dksX4_init_3 6 rfl rfl)
theorem dX4_init_80 : decode cX4_init 80 = .ok (.newarray .int, 2) := dk_188_10 (dk_at dksX4_init_3 9 rfl rfl)
theorem dX4_init_82 : decode cX4_init 82 = .ok (.putfield 38, 3) := dk_181 0 38 (dk_at dksX4_init_3 11 rfl rfl)
theorem dX4_init_85 : decode cX4_init 85 = .ok (.aload_n 0, 1) := dk_42 (dk_at dksX4_init_3 14 rfl rfl)
theorem dX4_init_86 : decode cX4_init 86 = .ok (.bipush 110, 2) := dk_16 110 (dk_at dksX4_init_3 15 rfl rfl)
theorem dX4_init_88 : decode cX4_init 88 = .ok (.newarray .int, 2) := dk_188_10 (dk_at dksX4_init_3 17 rfl rfl)
theorem dX4_init_90 : decode cX4_init 90 = .ok (.putfield 41, 3) := dk_181 0 41 (dk_at dksX4_init_3 19 rfl rfl)
theorem dX4_init_93 : decode cX4_init 93 = .ok (.aload_n 0, 1) := dk_42 (dk_at dksX4_init_3 22 rfl rfl)
theorem dX4_init_94 : decode cX4_init 94 = .ok (.bipush 120, 2) := dk_16 120 (dk_at dksX4_init_4 0 rfl rfl)
theorem dX4_init_96 : decode cX4_init 96 = .ok (.newarray .int, 2) := dk_188_10 (dk_at dksX4_init_4 2 rfl rfl)
theorem dX4_init_98 : decode cX4_init 98 = .ok (.putfield 44, 3) := dk_181 0 44 (dk_at dksX4_init_4 4 rfl rfl)
theorem dX4_init_101 : decode cX4_init 101 = .ok (.aload_n 0, 1) := dk_42 (dk_at dksX4_init_4 7 rfl rfl)
theorem dX4_init_102 : decode cX4_init 102 = .ok (.bipush 120, 2) := dk_16 120 (dk_at dksX4_init_4 8 rfl rfl)
theorem dX4_init_104 : decode cX4_init 104 = .ok (.newarray .int, 2) := dk_188_10 (dk_at dksX4_init_4 10 rfl rfl)
theorem dX4_init_106 : decode cX4_init 106 = .ok (.putfield 47, 3) := dk_181 0 47 (dk_at dksX4_init_4 12 rfl rfl)
theorem dX4_init_109 : decode cX4_init 109 = .ok (.aload_n 0, 1) := dk_42 (dk_at dksX4_init_4 15 rfl rfl)
theorem dX4_init_110 : decode cX4_init 110 = .ok (.bipush 60, 2) := dk_16 60 (dk_at dksX4_init_4 16 rfl rfl)
theorem dX4_init_112 : decode cX4_init 112 = .ok (.newarray .int, 2) := dk_188_10 (dk_at dksX4_init_4 18 rfl rfl)
theorem dX4_init_114 : decode cX4_init 114 = .ok (.putfield 50, 3) := dk_181 0 50 (dk_at dksX4_init_4 20 rfl rfl)
theorem dX4_init_117 : decode cX4_init 117 = .ok (.aload_n 0, 1) := dk_42 (dk_at dksX4_init_4 23 rfl rfl)
theorem dX4_init_118 : decode cX4_init 118 = .ok (.bipush 48, 2) := dk_16 48 (dk_at dksX4_init_5 0 rfl rfl)
theorem dX4_init_120 : decode cX4_init 120 = .ok (.newarray .int, 2) := dk_188_10 (dk_at dksX4_init_5 2 rfl rfl)
theorem dX4_init_122 : decode cX4_init 122 = .ok (.putfield 53, 3) := dk_181 0 53 (dk_at dksX4_init_5 4 rfl rfl)
theorem dX4_init_125 : decode cX4_init 125 = .ok (.aload_n 0, 1) := dk_42 (dk_at dksX4_init_5 7 rfl rfl)
theorem dX4_init_126 : decode cX4_init 126 = .ok (.bipush 8, 2) := dk_16 8 (dk_at dksX4_init_5 8 rfl rfl)
theorem dX4_init_128 : decode cX4_init 128 = .ok (.newarray .int, 2) := dk_188_10 (dk_at dksX4_init_5 10 rfl rfl)
theorem dX4_init_130 : decode cX4_init 130 = .ok (.putfield 56, 3) := dk_181 0 56 (dk_at dksX4_init_5 12 rfl rfl)
theorem dX4_init_133 : decode cX4_init 133 = .ok (.aload_n 0, 1) := dk_42 (dk_at dksX4_init_5 15 rfl rfl)
theorem dX4_init_134 : decode cX4_init 134 = .ok (.bipush 8, 2) := dk_16 8 (dk_at dksX4_init_5 16 rfl rfl)
theorem dX4_init_136 : decode cX4_init 136 = .ok (.newarray .int, 2) := dk_188_10 (dk_at dksX4_init_5 18 rfl rfl)
theorem dX4_init_138 : decode cX4_init 138 = .ok (.putfield 59, 3) := dk_181 0 59 (dk_at dksX4_init_5 20 rfl rfl)
theorem dX4_init_141 : decode cX4_init 141 = .ok (.aload_n 0, 1) := dk_42 (dk_at dksX4_init_5 23 rfl rfl)
theorem dX4_init_142 : decode cX4_init 142 = .ok (.bipush 8, 2) := dk_16 8 (dk_at dksX4_init_6 0 rfl rfl)
theorem dX4_init_144 : decode cX4_init 144 = .ok (.newarray .int, 2) := dk_188_10 (dk_at dksX4_init_6 2 rfl rfl)
theorem dX4_init_146 : decode cX4_init 146 = .ok (.putfield 62, 3) := dk_181 0 62 (dk_at dksX4_init_6 4 rfl rfl)
theorem dX4_init_149 : decode cX4_init 149 = .ok (.aload_n 0, 1) := dk_42 (dk_at dksX4_init_6 7 rfl rfl)
theorem dX4_init_150 : decode cX4_init 150 = .ok (.bipush 24, 2) := dk_16 24 (dk_at dksX4_init_6 8 rfl rfl)
theorem dX4_init_152 : decode cX4_init 152 = .ok (.newarray .int, 2) := dk_188_10 (dk_at dksX4_init_6 10 rfl rfl)
theorem dX4_init_154 : decode cX4_init 154 = .ok (.putfield 65, 3) := dk_181 0 65 (dk_at dksX4_init_6 12 rfl rfl)
theorem dX4_init_157 : decode cX4_init 157 = .ok (.aload_n 0, 1) := dk_42 (dk_at dksX4_init_6 15 rfl rfl)
theorem dX4_init_158 : decode cX4_init 158 = .ok (.bipush 24, 2) := dk_16 24 (dk_at dksX4_init_6 16 rfl rfl)
theorem dX4_init_160 : decode cX4_init 160 = .ok (.newarray .int, 2) := dk_188_10 (dk_at dksX4_init_6 18 rfl rfl)
theorem dX4_init_162 : decode cX4_init 162 = .ok (.putfield 68, 3) := dk_181 0 68 (dk_at dksX4_init_6 20 rfl rfl)
theorem dX4_init_165 : decode cX4_init 165 = .ok (.aload_n 0, 1) := dk_42 (dk_at dksX4_init_6 23 rfl rfl)
theorem dX4_init_166 : decode cX4_init 166 = .ok (.bipush 24, 2) := dk_16 24 (dk_at dksX4_init_7 0 rfl rfl)
theorem dX4_init_168 : decode cX4_init 168 = .ok (.newarray .int, 2) := dk_188_10 (dk_at dksX4_init_7 2 rfl rfl)
theorem dX4_init_170 : decode cX4_init 170 = .ok (.putfield 71, 3) := dk_181 0 71 (dk_at dksX4_init_7 4 rfl rfl)
theorem dX4_init_173 : decode cX4_init 173 = .ok (.iconst 0, 1) := dk_3 (dk_at dksX4_init_7 7 rfl rfl)
theorem dX4_init_174 : decode cX4_init 174 = .ok (.istore_n 1, 1) := dk_60 (dk_at dksX4_init_7 8 rfl rfl)
theorem dX4_init_175 : decode cX4_init 175 = .ok (.iload_n 1, 1) := dk_27 (dk_at dksX4_init_7 9 rfl rfl)
theorem dX4_init_176 : decode cX4_init 176 = .ok (.bipush 8, 2) := dk_16 8 (dk_at dksX4_init_7 10 rfl rfl)
theorem dX4_init_178 : decode cX4_init 178 = .ok (.if_icmp .ge 18, 3) := dk_162 0 18 (dk_at dksX4_init_7 12 rfl rfl)
theorem dX4_init_181 : decode cX4_init 181 = .ok (.aload_n 0, 1) := dk_42 (dk_at dksX4_init_7 15 rfl rfl)
theorem dX4_init_182 : decode cX4_init 182 = .ok (.getfield 56, 3) := dk_180 0 56 (dk_at dksX4_init_7 16 rfl rfl)
theorem dX4_init_185 : decode cX4_init 185 = .ok (.iload_n 1, 1) := dk_27 (dk_at dksX4_init_7 19 rfl rfl)
theorem dX4_init_186 : decode cX4_init 186 = .ok (.sipush 1000, 3) := dk_17 3 232 (dk_at dksX4_init_7 20 rfl rfl)
theorem dX4_init_189 : decode cX4_init 189 = .ok (.iastore, 1) := dk_79 (dk_at dksX4_init_7 23 rfl rfl)
theorem dX4_init_190 : decode cX4_init 190 = .ok (.iinc 1 1, 3) := dk_132 1 1 (dk_at dksX4_init_8 0 rfl rfl)
theorem dX4_init_193 : decode cX4_init 193 = .ok (.goto (-18), 3) := dk_167 255 238 (dk_at dksX4_init_8 3 rfl rfl)
theorem dX4_init_196 : decode cX4_init 196 = .ok (.iconst 0, 1) := dk_3 (dk_at dksX4_init_8 6 rfl rfl)
theorem dX4_init_197 : decode cX4_init 197 = .ok (.istore_n 1, 1) := dk_60 (dk_at dksX4_init_8 7 rfl rfl)
theorem dX4_init_198 : decode cX4_init 198 = .ok (.iload_n 1, 1) := dk_27 (dk_at dksX4_init_8 8 rfl rfl)
theorem dX4_init_199 : decode cX4_init 199 = .ok (.bipush 24, 2) := dk_16 24 (dk_at dksX4_init_8 9 rfl rfl)
theorem dX4_init_201 : decode cX4_init 201 = .ok (.if_icmp .ge 30, 3) := dk_162 0 30 (dk_at dksX4_init_8 11 rfl rfl)
theorem dX4_init_204 : decode cX4_init 204 = .ok (.aload_n 0, 1) := dk_42 (dk_at dksX4_init_8 14 rfl rfl)
theorem dX4_init_205 : decode cX4_init 205 = .ok (.getfield 65, 3) := dk_180 0 65 (dk_at dksX4_init_8 15 rfl rfl)
theorem dX4_init_208 : decode cX4_init 208 = .ok (.iload_n 1, 1) := dk_27 (dk_at dksX4_init_8 18 rfl rfl)
theorem dX4_init_209 : decode cX4_init 209 = .ok (.iconst (-1), 1) := dk_2 (dk_at dksX4_init_8 19 rfl rfl)
theorem dX4_init_210 : decode cX4_init 210 = .ok (.iastore, 1) := dk_79 (dk_at dksX4_init_8 20 rfl rfl)
theorem dX4_init_211 : decode cX4_init 211 = .ok (.aload_n 0, 1) := dk_42 (dk_at dksX4_init_8 21 rfl rfl)
theorem dX4_init_212 : decode cX4_init 212 = .ok (.getfield 68, 3) := dk_180 0 68 (dk_at dksX4_init_9 0 rfl rfl)
theorem dX4_init_215 : decode cX4_init 215 = .ok (.iload_n 1, 1) := dk_27 (dk_at dksX4_init_9 3 rfl rfl)
theorem dX4_init_216 : decode cX4_init 216 = .ok (.iconst (-1), 1) := dk_2 (dk_at dksX4_init_9 4 rfl rfl)
theorem dX4_init_217 : decode cX4_init 217 = .ok (.iastore, 1) := dk_79 (dk_at dksX4_init_9 5 rfl rfl)
theorem dX4_init_218 : decode cX4_init 218 = .ok (.aload_n 0, 1) := dk_42 (dk_at dksX4_init_9 6 rfl rfl)
theorem dX4_init_219 : decode cX4_init 219 = .ok (.getfield 71, 3) := dk_180 0 71 (dk_at dksX4_init_9 7 rfl rfl)
theorem dX4_init_222 : decode cX4_init 222 = .ok (.iload_n 1, 1) := dk_27 (dk_at dksX4_init_9 10 rfl rfl)
theorem dX4_init_223 : decode cX4_init 223 = .ok (.iconst (-1), 1) := dk_2 (dk_at dksX4_init_9 11 rfl rfl)
theorem dX4_init_224 : decode cX4_init 224 = .ok (.iastore, 1) := dk_79 (dk_at dksX4_init_9 12 rfl rfl)
theorem dX4_init_225 : decode cX4_init 225 = .ok (.iinc 1 1, 3) := dk_132 1 1 (dk_at dksX4_init_9 13 rfl rfl)
theorem dX4_init_228 : decode cX4_init 228 = .ok (.goto (-30), 3) := dk_167 255 226 (dk_at dksX4_init_9 16 rfl rfl)
theorem dX4_init_231 : decode cX4_init 231 = .ok (.aload_n 0, 1) := dk_42 (dk_at dksX4_init_9 19 rfl rfl)
theorem dX4_init_232 : decode cX4_init 232 = .ok (.iconst (-1), 1) := dk_2 (dk_at dksX4_init_9 20 rfl rfl)
theorem dX4_init_233 : decode cX4_init 233 = .ok (.putfield 74, 3) := dk_181 0 74 (dk_at dksX4_init_9 21 rfl rfl)
theorem dX4_init_236 : decode cX4_init 236 = .ok (.return_, 1) := dk_177 (dk_at dksX4_init_10 0 rfl rfl)
abbrev cX4_thrown : ByteArray := prog_14_method_2_code
def yX4_thrown : MethodName := ⟨RX4, "thrown", "()I"⟩
theorem dX4_thrown_0 : decode cX4_thrown 0 = .ok (.aload_n 0, 1) := by decide +kernel
theorem dX4_thrown_1 : decode cX4_thrown 1 = .ok (.getfield 78, 3) := by decide +kernel
theorem dX4_thrown_4 : decode cX4_thrown 4 = .ok (.ireturn, 1) := by decide +kernel
abbrev cX4_begin : ByteArray := prog_14_method_30_code
def yX4_begin : MethodName := ⟨RX4, "begin", "(III)I"⟩
def dkwX4_begin_6 : List UInt8 := [172]
abbrev dktX4_begin_6 : List UInt8 := dkwX4_begin_6 ++ []
def dkwX4_begin_5 : List UInt8 := [180, 0, 13, 4, 3, 84, 42, 182, 0, 154, 42, 89, 180, 0, 172, 4, 96, 181, 0, 172, 42, 180, 0, 172]
abbrev dktX4_begin_5 : List UInt8 := dkwX4_begin_5 ++ dktX4_begin_6
def dkwX4_begin_4 : List UInt8 := [180, 0, 7, 4, 28, 79, 42, 29, 181, 0, 118, 42, 3, 181, 0, 151, 42, 180, 0, 13, 3, 3, 84, 42]
abbrev dktX4_begin_4 : List UInt8 := dkwX4_begin_4 ++ dktX4_begin_5
def dkwX4_begin_3 : List UInt8 := [154, 0, 5, 3, 172, 42, 4, 181, 0, 166, 42, 3, 181, 0, 147, 42, 180, 0, 7, 3, 27, 79, 42]
abbrev dktX4_begin_3 : List UInt8 := dkwX4_begin_3 ++ dktX4_begin_4
def dkwX4_begin_2 : List UInt8 := [154, 0, 7, 5, 167, 0, 15, 42, 180, 0, 166, 153, 0, 7, 6, 167, 0, 4, 3, 182, 0, 169]
abbrev dktX4_begin_2 : List UInt8 := dkwX4_begin_2 ++ dktX4_begin_3
def dkwX4_begin_1 : List UInt8 := [154, 0, 7, 4, 167, 0, 37, 27, 28, 159, 0, 16, 29, 17, 1, 44, 17, 93, 192, 184, 0, 81]
abbrev dktX4_begin_1 : List UInt8 := dkwX4_begin_1 ++ dktX4_begin_2
def dkwX4_begin_0 : List UInt8 := [27, 184, 0, 163, 153, 0, 14, 28, 184, 0, 163, 153, 0, 7, 4, 167, 0, 4, 3, 54, 4, 42, 21, 4]
abbrev dktX4_begin_0 : List UInt8 := dkwX4_begin_0 ++ dktX4_begin_1
theorem dksX4_begin_0 : cX4_begin.data.toList.drop 0 = dktX4_begin_0 := by decide +kernel
theorem dksX4_begin_1 : cX4_begin.data.toList.drop 24 = dktX4_begin_1 := dk_seg dksX4_begin_0 24 rfl rfl
theorem dksX4_begin_2 : cX4_begin.data.toList.drop 46 = dktX4_begin_2 := dk_seg dksX4_begin_1 22 rfl rfl
theorem dksX4_begin_3 : cX4_begin.data.toList.drop 68 = dktX4_begin_3 := dk_seg dksX4_begin_2 22 rfl rfl
theorem dksX4_begin_4 : cX4_begin.data.toList.drop 91 = dktX4_begin_4 := dk_seg dksX4_begin_3 23 rfl rfl
theorem dksX4_begin_5 : cX4_begin.data.toList.drop 115 = dktX4_begin_5 := dk_seg dksX4_begin_4 24 rfl rfl
theorem dksX4_begin_6 : cX4_begin.data.toList.drop 139 = dktX4_begin_6 := dk_seg dksX4_begin_5 24 rfl rfl
theorem dX4_begin_0 : decode cX4_begin 0 = .ok (.iload_n 1, 1) := dk_27 (dk_at dksX4_begin_0 0 rfl rfl)
theorem dX4_begin_1 : decode cX4_begin 1 = .ok (.invokestatic 163, 3) := dk_184 0 163 (dk_at dksX4_begin_0 1 rfl rfl)
theorem dX4_begin_4 : decode cX4_begin 4 = .ok (.ifCond .eq 14, 3) := dk_153 0 14 (dk_at dksX4_begin_0 4 rfl rfl)
theorem dX4_begin_7 : decode cX4_begin 7 = .ok (.iload_n 2, 1) := dk_28 (dk_at dksX4_begin_0 7 rfl rfl)
theorem dX4_begin_8 : decode cX4_begin 8 = .ok (.invokestatic 163, 3) := dk_184 0 163 (dk_at dksX4_begin_0 8 rfl rfl)
theorem dX4_begin_11 : decode cX4_begin 11 = .ok (.ifCond .eq 7, 3) := dk_153 0 7 (dk_at dksX4_begin_0 11 rfl rfl)
theorem dX4_begin_14 : decode cX4_begin 14 = .ok (.iconst 1, 1) := dk_4 (dk_at dksX4_begin_0 14 rfl rfl)
theorem dX4_begin_15 : decode cX4_begin 15 = .ok (.goto 4, 3) := dk_167 0 4 (dk_at dksX4_begin_0 15 rfl rfl)
theorem dX4_begin_18 : decode cX4_begin 18 = .ok (.iconst 0, 1) := dk_3 (dk_at dksX4_begin_0 18 rfl rfl)
theorem dX4_begin_19 : decode cX4_begin 19 = .ok (.istore 4, 2) := dk_54 4 (dk_at dksX4_begin_0 19 rfl rfl)
theorem dX4_begin_21 : decode cX4_begin 21 = .ok (.aload_n 0, 1) := dk_42 (dk_at dksX4_begin_0 21 rfl rfl)
theorem dX4_begin_22 : decode cX4_begin 22 = .ok (.iload 4, 2) := dk_21 4 (dk_at dksX4_begin_0 22 rfl rfl)
theorem dX4_begin_24 : decode cX4_begin 24 = .ok (.ifCond .ne 7, 3) := dk_154 0 7 (dk_at dksX4_begin_1 0 rfl rfl)
theorem dX4_begin_27 : decode cX4_begin 27 = .ok (.iconst 1, 1) := dk_4 (dk_at dksX4_begin_1 3 rfl rfl)
theorem dX4_begin_28 : decode cX4_begin 28 = .ok (.goto 37, 3) := dk_167 0 37 (dk_at dksX4_begin_1 4 rfl rfl)
theorem dX4_begin_31 : decode cX4_begin 31 = .ok (.iload_n 1, 1) := dk_27 (dk_at dksX4_begin_1 7 rfl rfl)
theorem dX4_begin_32 : decode cX4_begin 32 = .ok (.iload_n 2, 1) := dk_28 (dk_at dksX4_begin_1 8 rfl rfl)
theorem dX4_begin_33 : decode cX4_begin 33 = .ok (.if_icmp .eq 16, 3) := dk_159 0 16 (dk_at dksX4_begin_1 9 rfl rfl)
theorem dX4_begin_36 : decode cX4_begin 36 = .ok (.iload_n 3, 1) := dk_29 (dk_at dksX4_begin_1 12 rfl rfl)
theorem dX4_begin_37 : decode cX4_begin 37 = .ok (.sipush 300, 3) := dk_17 1 44 (dk_at dksX4_begin_1 13 rfl rfl)
theorem dX4_begin_40 : decode cX4_begin 40 = .ok (.sipush 24000, 3) := dk_17 93 192 (dk_at dksX4_begin_1 16 rfl rfl)
theorem dX4_begin_43 : decode cX4_begin 43 = .ok (.invokestatic 81, 3) := dk_184 0 81 (dk_at dksX4_begin_1 19 rfl rfl)
theorem dX4_begin_46 : decode cX4_begin 46 = .ok (.ifCond .ne 7, 3) := dk_154 0 7 (dk_at dksX4_begin_2 0 rfl rfl)
theorem dX4_begin_49 : decode cX4_begin 49 = .ok (.iconst 2, 1) := dk_5 (dk_at dksX4_begin_2 3 rfl rfl)
theorem dX4_begin_50 : decode cX4_begin 50 = .ok (.goto 15, 3) := dk_167 0 15 (dk_at dksX4_begin_2 4 rfl rfl)
theorem dX4_begin_53 : decode cX4_begin 53 = .ok (.aload_n 0, 1) := dk_42 (dk_at dksX4_begin_2 7 rfl rfl)
theorem dX4_begin_54 : decode cX4_begin 54 = .ok (.getfield 166, 3) := dk_180 0 166 (dk_at dksX4_begin_2 8 rfl rfl)
theorem dX4_begin_57 : decode cX4_begin 57 = .ok (.ifCond .eq 7, 3) := dk_153 0 7 (dk_at dksX4_begin_2 11 rfl rfl)
theorem dX4_begin_60 : decode cX4_begin 60 = .ok (.iconst 3, 1) := dk_6 (dk_at dksX4_begin_2 14 rfl rfl)
theorem dX4_begin_61 : decode cX4_begin 61 = .ok (.goto 4, 3) := dk_167 0 4 (dk_at dksX4_begin_2 15 rfl rfl)
theorem dX4_begin_64 : decode cX4_begin 64 = .ok (.iconst 0, 1) := dk_3 (dk_at dksX4_begin_2 18 rfl rfl)
theorem dX4_begin_65 : decode cX4_begin 65 = .ok (.invokevirtual 169, 3) := dk_182 0 169 (dk_at dksX4_begin_2 19 rfl rfl)
theorem dX4_begin_68 : decode cX4_begin 68 = .ok (.ifCond .ne 5, 3) := dk_154 0 5 (dk_at dksX4_begin_3 0 rfl rfl)
theorem dX4_begin_71 : decode cX4_begin 71 = .ok (.iconst 0, 1) := dk_3 (dk_at dksX4_begin_3 3 rfl rfl)
theorem dX4_begin_72 : decode cX4_begin 72 = .ok (.ireturn, 1) := dk_172 (dk_at dksX4_begin_3 4 rfl rfl)
theorem dX4_begin_73 : decode cX4_begin 73 = .ok (.aload_n 0, 1) := dk_42 (dk_at dksX4_begin_3 5 rfl rfl)
theorem dX4_begin_74 : decode cX4_begin 74 = .ok (.iconst 1, 1) := dk_4 (dk_at dksX4_begin_3 6 rfl rfl)
theorem dX4_begin_75 : decode cX4_begin 75 = .ok (.putfield 166, 3) := dk_181 0 166 (dk_at dksX4_begin_3 7 rfl rfl)
theorem dX4_begin_78 : decode cX4_begin 78 = .ok (.aload_n 0, 1) := dk_42 (dk_at dksX4_begin_3 10 rfl rfl)
theorem dX4_begin_79 : decode cX4_begin 79 = .ok (.iconst 0, 1) := dk_3 (dk_at dksX4_begin_3 11 rfl rfl)
theorem dX4_begin_80 : decode cX4_begin 80 = .ok (.putfield 147, 3) := dk_181 0 147 (dk_at dksX4_begin_3 12 rfl rfl)
theorem dX4_begin_83 : decode cX4_begin 83 = .ok (.aload_n 0, 1) := dk_42 (dk_at dksX4_begin_3 15 rfl rfl)
theorem dX4_begin_84 : decode cX4_begin 84 = .ok (.getfield 7, 3) := dk_180 0 7 (dk_at dksX4_begin_3 16 rfl rfl)
theorem dX4_begin_87 : decode cX4_begin 87 = .ok (.iconst 0, 1) := dk_3 (dk_at dksX4_begin_3 19 rfl rfl)
theorem dX4_begin_88 : decode cX4_begin 88 = .ok (.iload_n 1, 1) := dk_27 (dk_at dksX4_begin_3 20 rfl rfl)
theorem dX4_begin_89 : decode cX4_begin 89 = .ok (.iastore, 1) := dk_79 (dk_at dksX4_begin_3 21 rfl rfl)
theorem dX4_begin_90 : decode cX4_begin 90 = .ok (.aload_n 0, 1) := dk_42 (dk_at dksX4_begin_3 22 rfl rfl)
theorem dX4_begin_91 : decode cX4_begin 91 = .ok (.getfield 7, 3) := dk_180 0 7 (dk_at dksX4_begin_4 0 rfl rfl)
theorem dX4_begin_94 : decode cX4_begin 94 = .ok (.iconst 1, 1) := dk_4 (dk_at dksX4_begin_4 3 rfl rfl)
theorem dX4_begin_95 : decode cX4_begin 95 = .ok (.iload_n 2, 1) := dk_28 (dk_at dksX4_begin_4 4 rfl rfl)
theorem dX4_begin_96 : decode cX4_begin 96 = .ok (.iastore, 1) := dk_79 (dk_at dksX4_begin_4 5 rfl rfl)
theorem dX4_begin_97 : decode cX4_begin 97 = .ok (.aload_n 0, 1) := dk_42 (dk_at dksX4_begin_4 6 rfl rfl)
theorem dX4_begin_98 : decode cX4_begin 98 = .ok (.iload_n 3, 1) := dk_29 (dk_at dksX4_begin_4 7 rfl rfl)
theorem dX4_begin_99 : decode cX4_begin 99 = .ok (.putfield 118, 3) := dk_181 0 118 (dk_at dksX4_begin_4 8 rfl rfl)
theorem dX4_begin_102 : decode cX4_begin 102 = .ok (.aload_n 0, 1) := dk_42 (dk_at dksX4_begin_4 11 rfl rfl)
theorem dX4_begin_103 : decode cX4_begin 103 = .ok (.iconst 0, 1) := dk_3 (dk_at dksX4_begin_4 12 rfl rfl)
theorem dX4_begin_104 : decode cX4_begin 104 = .ok (.putfield 151, 3) := dk_181 0 151 (dk_at dksX4_begin_4 13 rfl rfl)
theorem dX4_begin_107 : decode cX4_begin 107 = .ok (.aload_n 0, 1) := dk_42 (dk_at dksX4_begin_4 16 rfl rfl)
theorem dX4_begin_108 : decode cX4_begin 108 = .ok (.getfield 13, 3) := dk_180 0 13 (dk_at dksX4_begin_4 17 rfl rfl)
theorem dX4_begin_111 : decode cX4_begin 111 = .ok (.iconst 0, 1) := dk_3 (dk_at dksX4_begin_4 20 rfl rfl)
theorem dX4_begin_112 : decode cX4_begin 112 = .ok (.iconst 0, 1) := dk_3 (dk_at dksX4_begin_4 21 rfl rfl)
theorem dX4_begin_113 : decode cX4_begin 113 = .ok (.bastore, 1) := dk_84 (dk_at dksX4_begin_4 22 rfl rfl)
theorem dX4_begin_114 : decode cX4_begin 114 = .ok (.aload_n 0, 1) := dk_42 (dk_at dksX4_begin_4 23 rfl rfl)
theorem dX4_begin_115 : decode cX4_begin 115 = .ok (.getfield 13, 3) := dk_180 0 13 (dk_at dksX4_begin_5 0 rfl rfl)
theorem dX4_begin_118 : decode cX4_begin 118 = .ok (.iconst 1, 1) := dk_4 (dk_at dksX4_begin_5 3 rfl rfl)
theorem dX4_begin_119 : decode cX4_begin 119 = .ok (.iconst 0, 1) := dk_3 (dk_at dksX4_begin_5 4 rfl rfl)
theorem dX4_begin_120 : decode cX4_begin 120 = .ok (.bastore, 1) := dk_84 (dk_at dksX4_begin_5 5 rfl rfl)
theorem dX4_begin_121 : decode cX4_begin 121 = .ok (.aload_n 0, 1) := dk_42 (dk_at dksX4_begin_5 6 rfl rfl)
theorem dX4_begin_122 : decode cX4_begin 122 = .ok (.invokevirtual 154, 3) := dk_182 0 154 (dk_at dksX4_begin_5 7 rfl rfl)
theorem dX4_begin_125 : decode cX4_begin 125 = .ok (.aload_n 0, 1) := dk_42 (dk_at dksX4_begin_5 10 rfl rfl)
theorem dX4_begin_126 : decode cX4_begin 126 = .ok (.dup, 1) := dk_89 (dk_at dksX4_begin_5 11 rfl rfl)
theorem dX4_begin_127 : decode cX4_begin 127 = .ok (.getfield 172, 3) := dk_180 0 172 (dk_at dksX4_begin_5 12 rfl rfl)
theorem dX4_begin_130 : decode cX4_begin 130 = .ok (.iconst 1, 1) := dk_4 (dk_at dksX4_begin_5 15 rfl rfl)
theorem dX4_begin_131 : decode cX4_begin 131 = .ok (.iadd, 1) := dk_96 (dk_at dksX4_begin_5 16 rfl rfl)
theorem dX4_begin_132 : decode cX4_begin 132 = .ok (.putfield 172, 3) := dk_181 0 172 (dk_at dksX4_begin_5 17 rfl rfl)
theorem dX4_begin_135 : decode cX4_begin 135 = .ok (.aload_n 0, 1) := dk_42 (dk_at dksX4_begin_5 20 rfl rfl)
theorem dX4_begin_136 : decode cX4_begin 136 = .ok (.getfield 172, 3) := dk_180 0 172 (dk_at dksX4_begin_5 21 rfl rfl)
theorem dX4_begin_139 : decode cX4_begin 139 = .ok (.ireturn, 1) := dk_172 (dk_at dksX4_begin_6 0 rfl rfl)
abbrev cX4_isClub : ByteArray := prog_14_method_5_code
def yX4_isClub : MethodName := ⟨RX4, "isClub", "(I)Z"⟩
def dkwX4_isClub_0 : List UInt8 := [26, 3, 16, 7, 184, 0, 81, 172]
abbrev dktX4_isClub_0 : List UInt8 := dkwX4_isClub_0 ++ []
theorem dksX4_isClub_0 : cX4_isClub.data.toList.drop 0 = dktX4_isClub_0 := by decide +kernel
theorem dX4_isClub_0 : decode cX4_isClub 0 = .ok (.iload_n 0, 1) := dk_26 (dk_at dksX4_isClub_0 0 rfl rfl)
theorem dX4_isClub_1 : decode cX4_isClub 1 = .ok (.iconst 0, 1) := dk_3 (dk_at dksX4_isClub_0 1 rfl rfl)
theorem dX4_isClub_2 : decode cX4_isClub 2 = .ok (.bipush 7, 2) := dk_16 7 (dk_at dksX4_isClub_0 2 rfl rfl)
theorem dX4_isClub_4 : decode cX4_isClub 4 = .ok (.invokestatic 81, 3) := dk_184 0 81 (dk_at dksX4_isClub_0 4 rfl rfl)
theorem dX4_isClub_7 : decode cX4_isClub 7 = .ok (.ireturn, 1) := dk_172 (dk_at dksX4_isClub_0 7 rfl rfl)
abbrev cX4_in : ByteArray := prog_14_method_4_code
def yX4_in : MethodName := ⟨RX4, "in", "(III)Z"⟩
def dkwX4_in_0 : List UInt8 := [26, 27, 161, 0, 12, 26, 28, 163, 0, 7, 4, 167, 0, 4, 3, 172]
abbrev dktX4_in_0 : List UInt8 := dkwX4_in_0 ++ []
theorem dksX4_in_0 : cX4_in.data.toList.drop 0 = dktX4_in_0 := by decide +kernel
theorem dX4_in_0 : decode cX4_in 0 = .ok (.iload_n 0, 1) := dk_26 (dk_at dksX4_in_0 0 rfl rfl)
theorem dX4_in_1 : decode cX4_in 1 = .ok (.iload_n 1, 1) := dk_27 (dk_at dksX4_in_0 1 rfl rfl)
theorem dX4_in_2 : decode cX4_in 2 = .ok (.if_icmp .lt 12, 3) := dk_161 0 12 (dk_at dksX4_in_0 2 rfl rfl)
theorem dX4_in_5 : decode cX4_in 5 = .ok (.iload_n 0, 1) := dk_26 (dk_at dksX4_in_0 5 rfl rfl)
theorem dX4_in_6 : decode cX4_in 6 = .ok (.iload_n 2, 1) := dk_28 (dk_at dksX4_in_0 6 rfl rfl)
theorem dX4_in_7 : decode cX4_in 7 = .ok (.if_icmp .gt 7, 3) := dk_163 0 7 (dk_at dksX4_in_0 7 rfl rfl)
theorem dX4_in_10 : decode cX4_in 10 = .ok (.iconst 1, 1) := dk_4 (dk_at dksX4_in_0 10 rfl rfl)
theorem dX4_in_11 : decode cX4_in 11 = .ok (.goto 4, 3) := dk_167 0 4 (dk_at dksX4_in_0 11 rfl rfl)
theorem dX4_in_14 : decode cX4_in 14 = .ok (.iconst 0, 1) := dk_3 (dk_at dksX4_in_0 14 rfl rfl)
theorem dX4_in_15 : decode cX4_in 15 = .ok (.ireturn, 1) := dk_172 (dk_at dksX4_in_0 15 rfl rfl)
abbrev cX4_holds : ByteArray := prog_14_method_3_code
def yX4_holds : MethodName := ⟨RX4, "holds", "(I)Z"⟩
def dkwX4_holds_0 : List UInt8 := [42, 27, 181, 0, 78, 27, 154, 0, 7, 4, 167, 0, 4, 3, 172]
abbrev dktX4_holds_0 : List UInt8 := dkwX4_holds_0 ++ []
theorem dksX4_holds_0 : cX4_holds.data.toList.drop 0 = dktX4_holds_0 := by decide +kernel
theorem dX4_holds_0 : decode cX4_holds 0 = .ok (.aload_n 0, 1) := dk_42 (dk_at dksX4_holds_0 0 rfl rfl)
theorem dX4_holds_1 : decode cX4_holds 1 = .ok (.iload_n 1, 1) := dk_27 (dk_at dksX4_holds_0 1 rfl rfl)
theorem dX4_holds_2 : decode cX4_holds 2 = .ok (.putfield 78, 3) := dk_181 0 78 (dk_at dksX4_holds_0 2 rfl rfl)
theorem dX4_holds_5 : decode cX4_holds 5 = .ok (.iload_n 1, 1) := dk_27 (dk_at dksX4_holds_0 5 rfl rfl)
theorem dX4_holds_6 : decode cX4_holds 6 = .ok (.ifCond .ne 7, 3) := dk_154 0 7 (dk_at dksX4_holds_0 6 rfl rfl)
theorem dX4_holds_9 : decode cX4_holds 9 = .ok (.iconst 1, 1) := dk_4 (dk_at dksX4_holds_0 9 rfl rfl)
theorem dX4_holds_10 : decode cX4_holds 10 = .ok (.goto 4, 3) := dk_167 0 4 (dk_at dksX4_holds_0 10 rfl rfl)
theorem dX4_holds_13 : decode cX4_holds 13 = .ok (.iconst 0, 1) := dk_3 (dk_at dksX4_holds_0 13 rfl rfl)
theorem dX4_holds_14 : decode cX4_holds 14 = .ok (.ireturn, 1) := dk_172 (dk_at dksX4_holds_0 14 rfl rfl)
abbrev cX4_starts : ByteArray := prog_14_method_9_code
def yX4_starts : MethodName := ⟨RX4, "starts", "()V"⟩
def dkwX4_starts_1 : List UInt8 := [16, 6, 164, 0, 7, 4, 167, 0, 4, 3, 79, 132, 1, 1, 167, 255, 221, 177]
abbrev dktX4_starts_1 : List UInt8 := dkwX4_starts_1 ++ []
def dkwX4_starts_0 : List UInt8 := [3, 60, 27, 16, 110, 162, 0, 35, 42, 180, 0, 41, 27, 27, 16, 20, 162, 0, 16, 27, 16, 10, 112]
abbrev dktX4_starts_0 : List UInt8 := dkwX4_starts_0 ++ dktX4_starts_1
theorem dksX4_starts_0 : cX4_starts.data.toList.drop 0 = dktX4_starts_0 := by decide +kernel
theorem dksX4_starts_1 : cX4_starts.data.toList.drop 23 = dktX4_starts_1 := dk_seg dksX4_starts_0 23 rfl rfl
theorem dX4_starts_0 : decode cX4_starts 0 = .ok (.iconst 0, 1) := dk_3 (dk_at dksX4_starts_0 0 rfl rfl)
theorem dX4_starts_1 : decode cX4_starts 1 = .ok (.istore_n 1, 1) := dk_60 (dk_at dksX4_starts_0 1 rfl rfl)
theorem dX4_starts_2 : decode cX4_starts 2 = .ok (.iload_n 1, 1) := dk_27 (dk_at dksX4_starts_0 2 rfl rfl)
theorem dX4_starts_3 : decode cX4_starts 3 = .ok (.bipush 110, 2) := dk_16 110 (dk_at dksX4_starts_0 3 rfl rfl)
theorem dX4_starts_5 : decode cX4_starts 5 = .ok (.if_icmp .ge 35, 3) := dk_162 0 35 (dk_at dksX4_starts_0 5 rfl rfl)
theorem dX4_starts_8 : decode cX4_starts 8 = .ok (.aload_n 0, 1) := dk_42 (dk_at dksX4_starts_0 8 rfl rfl)
theorem dX4_starts_9 : decode cX4_starts 9 = .ok (.getfield 41, 3) := dk_180 0 41 (dk_at dksX4_starts_0 9 rfl rfl)
theorem dX4_starts_12 : decode cX4_starts 12 = .ok (.iload_n 1, 1) := dk_27 (dk_at dksX4_starts_0 12 rfl rfl)
theorem dX4_starts_13 : decode cX4_starts 13 = .ok (.iload_n 1, 1) := dk_27 (dk_at dksX4_starts_0 13 rfl rfl)
theorem dX4_starts_14 : decode cX4_starts 14 = .ok (.bipush 20, 2) := dk_16 20 (dk_at dksX4_starts_0 14 rfl rfl)
theorem dX4_starts_16 : decode cX4_starts 16 = .ok (.if_icmp .ge 16, 3) := dk_162 0 16 (dk_at dksX4_starts_0 16 rfl rfl)
theorem dX4_starts_19 : decode cX4_starts 19 = .ok (.iload_n 1, 1) := dk_27 (dk_at dksX4_starts_0 19 rfl rfl)
theorem dX4_starts_20 : decode cX4_starts 20 = .ok (.bipush 10, 2) := dk_16 10 (dk_at dksX4_starts_0 20 rfl rfl)
theorem dX4_starts_22 : decode cX4_starts 22 = .ok (.irem, 1) := dk_112 (dk_at dksX4_starts_0 22 rfl rfl)
theorem dX4_starts_23 : decode cX4_starts 23 = .ok (.bipush 6, 2) := dk_16 6 (dk_at dksX4_starts_1 0 rfl rfl)
theorem dX4_starts_25 : decode cX4_starts 25 = .ok (.if_icmp .le 7, 3) := dk_164 0 7 (dk_at dksX4_starts_1 2 rfl rfl)
theorem dX4_starts_28 : decode cX4_starts 28 = .ok (.iconst 1, 1) := dk_4 (dk_at dksX4_starts_1 5 rfl rfl)
theorem dX4_starts_29 : decode cX4_starts 29 = .ok (.goto 4, 3) := dk_167 0 4 (dk_at dksX4_starts_1 6 rfl rfl)
theorem dX4_starts_32 : decode cX4_starts 32 = .ok (.iconst 0, 1) := dk_3 (dk_at dksX4_starts_1 9 rfl rfl)
theorem dX4_starts_33 : decode cX4_starts 33 = .ok (.iastore, 1) := dk_79 (dk_at dksX4_starts_1 10 rfl rfl)
theorem dX4_starts_34 : decode cX4_starts 34 = .ok (.iinc 1 1, 3) := dk_132 1 1 (dk_at dksX4_starts_1 11 rfl rfl)
theorem dX4_starts_37 : decode cX4_starts 37 = .ok (.goto (-35), 3) := dk_167 255 221 (dk_at dksX4_starts_1 14 rfl rfl)
theorem dX4_starts_40 : decode cX4_starts 40 = .ok (.return_, 1) := dk_177 (dk_at dksX4_starts_1 17 rfl rfl)
abbrev cX4_raid : ByteArray := prog_14_method_33_code
def yX4_raid : MethodName := ⟨RX4, "raid", "(I)I"⟩
def dkwX4_raid_2 : List UInt8 := [42, 3, 27, 3, 3, 182, 0, 182, 172]
abbrev dktX4_raid_2 : List UInt8 := dkwX4_raid_2 ++ []
def dkwX4_raid_1 : List UInt8 := [182, 0, 124, 154, 0, 7, 5, 167, 0, 4, 3, 182, 0, 169, 154, 0, 5, 3, 172, 42, 4, 181, 0, 147]
abbrev dktX4_raid_1 : List UInt8 := dkwX4_raid_1 ++ dktX4_raid_2
def dkwX4_raid_0 : List UInt8 := [27, 184, 0, 175, 61, 42, 28, 154, 0, 7, 4, 167, 0, 23, 42, 182, 0, 178, 153, 0, 11, 42, 27]
abbrev dktX4_raid_0 : List UInt8 := dkwX4_raid_0 ++ dktX4_raid_1
theorem dksX4_raid_0 : cX4_raid.data.toList.drop 0 = dktX4_raid_0 := by decide +kernel
theorem dksX4_raid_1 : cX4_raid.data.toList.drop 23 = dktX4_raid_1 := dk_seg dksX4_raid_0 23 rfl rfl
theorem dksX4_raid_2 : cX4_raid.data.toList.drop 47 = dktX4_raid_2 := dk_seg dksX4_raid_1 24 rfl rfl
theorem dX4_raid_0 : decode cX4_raid 0 = .ok (.iload_n 1, 1) := dk_27 (dk_at dksX4_raid_0 0 rfl rfl)
theorem dX4_raid_1 : decode cX4_raid 1 = .ok (.invokestatic 175, 3) := dk_184 0 175 (dk_at dksX4_raid_0 1 rfl rfl)
theorem dX4_raid_4 : decode cX4_raid 4 = .ok (.istore_n 2, 1) := dk_61 (dk_at dksX4_raid_0 4 rfl rfl)
theorem dX4_raid_5 : decode cX4_raid 5 = .ok (.aload_n 0, 1) := dk_42 (dk_at dksX4_raid_0 5 rfl rfl)
theorem dX4_raid_6 : decode cX4_raid 6 = .ok (.iload_n 2, 1) := dk_28 (dk_at dksX4_raid_0 6 rfl rfl)
theorem dX4_raid_7 : decode cX4_raid 7 = .ok (.ifCond .ne 7, 3) := dk_154 0 7 (dk_at dksX4_raid_0 7 rfl rfl)
theorem dX4_raid_10 : decode cX4_raid 10 = .ok (.iconst 1, 1) := dk_4 (dk_at dksX4_raid_0 10 rfl rfl)
theorem dX4_raid_11 : decode cX4_raid 11 = .ok (.goto 23, 3) := dk_167 0 23 (dk_at dksX4_raid_0 11 rfl rfl)
theorem dX4_raid_14 : decode cX4_raid 14 = .ok (.aload_n 0, 1) := dk_42 (dk_at dksX4_raid_0 14 rfl rfl)
theorem dX4_raid_15 : decode cX4_raid 15 = .ok (.invokevirtual 178, 3) := dk_182 0 178 (dk_at dksX4_raid_0 15 rfl rfl)
theorem dX4_raid_18 : decode cX4_raid 18 = .ok (.ifCond .eq 11, 3) := dk_153 0 11 (dk_at dksX4_raid_0 18 rfl rfl)
theorem dX4_raid_21 : decode cX4_raid 21 = .ok (.aload_n 0, 1) := dk_42 (dk_at dksX4_raid_0 21 rfl rfl)
theorem dX4_raid_22 : decode cX4_raid 22 = .ok (.iload_n 1, 1) := dk_27 (dk_at dksX4_raid_0 22 rfl rfl)
theorem dX4_raid_23 : decode cX4_raid 23 = .ok (.invokevirtual 124, 3) := dk_182 0 124 (dk_at dksX4_raid_1 0 rfl rfl)
theorem dX4_raid_26 : decode cX4_raid 26 = .ok (.ifCond .ne 7, 3) := dk_154 0 7 (dk_at dksX4_raid_1 3 rfl rfl)
theorem dX4_raid_29 : decode cX4_raid 29 = .ok (.iconst 2, 1) := dk_5 (dk_at dksX4_raid_1 6 rfl rfl)
theorem dX4_raid_30 : decode cX4_raid 30 = .ok (.goto 4, 3) := dk_167 0 4 (dk_at dksX4_raid_1 7 rfl rfl)
theorem dX4_raid_33 : decode cX4_raid 33 = .ok (.iconst 0, 1) := dk_3 (dk_at dksX4_raid_1 10 rfl rfl)
theorem dX4_raid_34 : decode cX4_raid 34 = .ok (.invokevirtual 169, 3) := dk_182 0 169 (dk_at dksX4_raid_1 11 rfl rfl)
theorem dX4_raid_37 : decode cX4_raid 37 = .ok (.ifCond .ne 5, 3) := dk_154 0 5 (dk_at dksX4_raid_1 14 rfl rfl)
theorem dX4_raid_40 : decode cX4_raid 40 = .ok (.iconst 0, 1) := dk_3 (dk_at dksX4_raid_1 17 rfl rfl)
theorem dX4_raid_41 : decode cX4_raid 41 = .ok (.ireturn, 1) := dk_172 (dk_at dksX4_raid_1 18 rfl rfl)
theorem dX4_raid_42 : decode cX4_raid 42 = .ok (.aload_n 0, 1) := dk_42 (dk_at dksX4_raid_1 19 rfl rfl)
theorem dX4_raid_43 : decode cX4_raid 43 = .ok (.iconst 1, 1) := dk_4 (dk_at dksX4_raid_1 20 rfl rfl)
theorem dX4_raid_44 : decode cX4_raid 44 = .ok (.putfield 147, 3) := dk_181 0 147 (dk_at dksX4_raid_1 21 rfl rfl)
theorem dX4_raid_47 : decode cX4_raid 47 = .ok (.aload_n 0, 1) := dk_42 (dk_at dksX4_raid_2 0 rfl rfl)
theorem dX4_raid_48 : decode cX4_raid 48 = .ok (.iconst 0, 1) := dk_3 (dk_at dksX4_raid_2 1 rfl rfl)
theorem dX4_raid_49 : decode cX4_raid 49 = .ok (.iload_n 1, 1) := dk_27 (dk_at dksX4_raid_2 2 rfl rfl)
theorem dX4_raid_50 : decode cX4_raid 50 = .ok (.iconst 0, 1) := dk_3 (dk_at dksX4_raid_2 3 rfl rfl)
theorem dX4_raid_51 : decode cX4_raid 51 = .ok (.iconst 0, 1) := dk_3 (dk_at dksX4_raid_2 4 rfl rfl)
theorem dX4_raid_52 : decode cX4_raid 52 = .ok (.invokevirtual 182, 3) := dk_182 0 182 (dk_at dksX4_raid_2 5 rfl rfl)
theorem dX4_raid_55 : decode cX4_raid 55 = .ok (.ireturn, 1) := dk_172 (dk_at dksX4_raid_2 8 rfl rfl)
abbrev cX4_isPlayer : ByteArray := prog_14_method_7_code
def yX4_isPlayer : MethodName := ⟨RX4, "isPlayer", "(I)Z"⟩
def dkwX4_isPlayer_0 : List UInt8 := [26, 3, 16, 9, 184, 0, 81, 172]
abbrev dktX4_isPlayer_0 : List UInt8 := dkwX4_isPlayer_0 ++ []
theorem dksX4_isPlayer_0 : cX4_isPlayer.data.toList.drop 0 = dktX4_isPlayer_0 := by decide +kernel
theorem dX4_isPlayer_0 : decode cX4_isPlayer 0 = .ok (.iload_n 0, 1) := dk_26 (dk_at dksX4_isPlayer_0 0 rfl rfl)
theorem dX4_isPlayer_1 : decode cX4_isPlayer 1 = .ok (.iconst 0, 1) := dk_3 (dk_at dksX4_isPlayer_0 1 rfl rfl)
theorem dX4_isPlayer_2 : decode cX4_isPlayer 2 = .ok (.bipush 9, 2) := dk_16 9 (dk_at dksX4_isPlayer_0 2 rfl rfl)
theorem dX4_isPlayer_4 : decode cX4_isPlayer 4 = .ok (.invokestatic 81, 3) := dk_184 0 81 (dk_at dksX4_isPlayer_0 4 rfl rfl)
theorem dX4_isPlayer_7 : decode cX4_isPlayer 7 = .ok (.ireturn, 1) := dk_172 (dk_at dksX4_isPlayer_0 7 rfl rfl)
abbrev cX4_isBetween : ByteArray := prog_14_method_31_code
def yX4_isBetween : MethodName := ⟨RX4, "isBetween", "()Z"⟩
def dkwX4_isBetween_1 : List UInt8 := [167, 0, 4, 3, 172]
abbrev dktX4_isBetween_1 : List UInt8 := dkwX4_isBetween_1 ++ []
def dkwX4_isBetween_0 : List UInt8 := [42, 180, 0, 166, 153, 0, 23, 42, 180, 0, 147, 154, 0, 16, 42, 180, 0, 151, 16, 60, 162, 0, 7, 4]
abbrev dktX4_isBetween_0 : List UInt8 := dkwX4_isBetween_0 ++ dktX4_isBetween_1
theorem dksX4_isBetween_0 : cX4_isBetween.data.toList.drop 0 = dktX4_isBetween_0 := by decide +kernel
theorem dksX4_isBetween_1 : cX4_isBetween.data.toList.drop 24 = dktX4_isBetween_1 := dk_seg dksX4_isBetween_0 24 rfl rfl
theorem dX4_isBetween_0 : decode cX4_isBetween 0 = .ok (.aload_n 0, 1) := dk_42 (dk_at dksX4_isBetween_0 0 rfl rfl)
theorem dX4_isBetween_1 : decode cX4_isBetween 1 = .ok (.getfield 166, 3) := dk_180 0 166 (dk_at dksX4_isBetween_0 1 rfl rfl)
theorem dX4_isBetween_4 : decode cX4_isBetween 4 = .ok (.ifCond .eq 23, 3) := dk_153 0 23 (dk_at dksX4_isBetween_0 4 rfl rfl)
theorem dX4_isBetween_7 : decode cX4_isBetween 7 = .ok (.aload_n 0, 1) := dk_42 (dk_at dksX4_isBetween_0 7 rfl rfl)
theorem dX4_isBetween_8 : decode cX4_isBetween 8 = .ok (.getfield 147, 3) := dk_180 0 147 (dk_at dksX4_isBetween_0 8 rfl rfl)
theorem dX4_isBetween_11 : decode cX4_isBetween 11 = .ok (.ifCond .ne 16, 3) := dk_154 0 16 (dk_at dksX4_isBetween_0 11 rfl rfl)
theorem dX4_isBetween_14 : decode cX4_isBetween 14 = .ok (.aload_n 0, 1) := dk_42 (dk_at dksX4_isBetween_0 14 rfl rfl)
theorem dX4_isBetween_15 : decode cX4_isBetween 15 = .ok (.getfield 151, 3) := dk_180 0 151 (dk_at dksX4_isBetween_0 15 rfl rfl)
theorem dX4_isBetween_18 : decode cX4_isBetween 18 = .ok (.bipush 60, 2) := dk_16 60 (dk_at dksX4_isBetween_0 18 rfl rfl)
theorem dX4_isBetween_20 : decode cX4_isBetween 20 = .ok (.if_icmp .ge 7, 3) := dk_162 0 7 (dk_at dksX4_isBetween_0 20 rfl rfl)
theorem dX4_isBetween_23 : decode cX4_isBetween 23 = .ok (.iconst 1, 1) := dk_4 (dk_at dksX4_isBetween_0 23 rfl rfl)
theorem dX4_isBetween_24 : decode cX4_isBetween 24 = .ok (.goto 4, 3) := dk_167 0 4 (dk_at dksX4_isBetween_1 0 rfl rfl)
theorem dX4_isBetween_27 : decode cX4_isBetween 27 = .ok (.iconst 0, 1) := dk_3 (dk_at dksX4_isBetween_1 3 rfl rfl)
theorem dX4_isBetween_28 : decode cX4_isBetween 28 = .ok (.ireturn, 1) := dk_172 (dk_at dksX4_isBetween_1 4 rfl rfl)
abbrev cX4_canRaid : ByteArray := prog_14_method_21_code
def yX4_canRaid : MethodName := ⟨RX4, "canRaid", "(I)Z"⟩
def dkwX4_canRaid_1 : List UInt8 := [153, 0, 7, 4, 167, 0, 4, 3, 172]
abbrev dktX4_canRaid_1 : List UInt8 := dkwX4_canRaid_1 ++ []
def dkwX4_canRaid_0 : List UInt8 := [42, 180, 0, 41, 16, 108, 46, 42, 180, 0, 118, 162, 0, 20, 42, 42, 182, 0, 108, 27, 3, 182, 0, 85]
abbrev dktX4_canRaid_0 : List UInt8 := dkwX4_canRaid_0 ++ dktX4_canRaid_1
theorem dksX4_canRaid_0 : cX4_canRaid.data.toList.drop 0 = dktX4_canRaid_0 := by decide +kernel
theorem dksX4_canRaid_1 : cX4_canRaid.data.toList.drop 24 = dktX4_canRaid_1 := dk_seg dksX4_canRaid_0 24 rfl rfl
theorem dX4_canRaid_0 : decode cX4_canRaid 0 = .ok (.aload_n 0, 1) := dk_42 (dk_at dksX4_canRaid_0 0 rfl rfl)
theorem dX4_canRaid_1 : decode cX4_canRaid 1 = .ok (.getfield 41, 3) := dk_180 0 41 (dk_at dksX4_canRaid_0 1 rfl rfl)
theorem dX4_canRaid_4 : decode cX4_canRaid 4 = .ok (.bipush 108, 2) := dk_16 108 (dk_at dksX4_canRaid_0 4 rfl rfl)
theorem dX4_canRaid_6 : decode cX4_canRaid 6 = .ok (.iaload, 1) := dk_46 (dk_at dksX4_canRaid_0 6 rfl rfl)
theorem dX4_canRaid_7 : decode cX4_canRaid 7 = .ok (.aload_n 0, 1) := dk_42 (dk_at dksX4_canRaid_0 7 rfl rfl)
theorem dX4_canRaid_8 : decode cX4_canRaid 8 = .ok (.getfield 118, 3) := dk_180 0 118 (dk_at dksX4_canRaid_0 8 rfl rfl)
theorem dX4_canRaid_11 : decode cX4_canRaid 11 = .ok (.if_icmp .ge 20, 3) := dk_162 0 20 (dk_at dksX4_canRaid_0 11 rfl rfl)
theorem dX4_canRaid_14 : decode cX4_canRaid 14 = .ok (.aload_n 0, 1) := dk_42 (dk_at dksX4_canRaid_0 14 rfl rfl)
theorem dX4_canRaid_15 : decode cX4_canRaid 15 = .ok (.aload_n 0, 1) := dk_42 (dk_at dksX4_canRaid_0 15 rfl rfl)
theorem dX4_canRaid_16 : decode cX4_canRaid 16 = .ok (.invokevirtual 108, 3) := dk_182 0 108 (dk_at dksX4_canRaid_0 16 rfl rfl)
theorem dX4_canRaid_19 : decode cX4_canRaid 19 = .ok (.iload_n 1, 1) := dk_27 (dk_at dksX4_canRaid_0 19 rfl rfl)
theorem dX4_canRaid_20 : decode cX4_canRaid 20 = .ok (.iconst 0, 1) := dk_3 (dk_at dksX4_canRaid_0 20 rfl rfl)
theorem dX4_canRaid_21 : decode cX4_canRaid 21 = .ok (.invokevirtual 85, 3) := dk_182 0 85 (dk_at dksX4_canRaid_0 21 rfl rfl)
theorem dX4_canRaid_24 : decode cX4_canRaid 24 = .ok (.ifCond .eq 7, 3) := dk_153 0 7 (dk_at dksX4_canRaid_1 0 rfl rfl)
theorem dX4_canRaid_27 : decode cX4_canRaid 27 = .ok (.iconst 1, 1) := dk_4 (dk_at dksX4_canRaid_1 3 rfl rfl)
theorem dX4_canRaid_28 : decode cX4_canRaid 28 = .ok (.goto 4, 3) := dk_167 0 4 (dk_at dksX4_canRaid_1 4 rfl rfl)
theorem dX4_canRaid_31 : decode cX4_canRaid 31 = .ok (.iconst 0, 1) := dk_3 (dk_at dksX4_canRaid_1 7 rfl rfl)
theorem dX4_canRaid_32 : decode cX4_canRaid 32 = .ok (.ireturn, 1) := dk_172 (dk_at dksX4_canRaid_1 8 rfl rfl)
abbrev cX4_turn : ByteArray := prog_14_method_12_code
def yX4_turn : MethodName := ⟨RX4, "turn", "()I"⟩
def dkwX4_turn_0 : List UInt8 := [42, 180, 0, 41, 16, 109, 46, 5, 112, 172]
abbrev dktX4_turn_0 : List UInt8 := dkwX4_turn_0 ++ []
theorem dksX4_turn_0 : cX4_turn.data.toList.drop 0 = dktX4_turn_0 := by decide +kernel
theorem dX4_turn_0 : decode cX4_turn 0 = .ok (.aload_n 0, 1) := dk_42 (dk_at dksX4_turn_0 0 rfl rfl)
theorem dX4_turn_1 : decode cX4_turn 1 = .ok (.getfield 41, 3) := dk_180 0 41 (dk_at dksX4_turn_0 1 rfl rfl)
theorem dX4_turn_4 : decode cX4_turn 4 = .ok (.bipush 109, 2) := dk_16 109 (dk_at dksX4_turn_0 4 rfl rfl)
theorem dX4_turn_6 : decode cX4_turn 6 = .ok (.iaload, 1) := dk_46 (dk_at dksX4_turn_0 6 rfl rfl)
theorem dX4_turn_7 : decode cX4_turn 7 = .ok (.iconst 2, 1) := dk_5 (dk_at dksX4_turn_0 7 rfl rfl)
theorem dX4_turn_8 : decode cX4_turn 8 = .ok (.irem, 1) := dk_112 (dk_at dksX4_turn_0 8 rfl rfl)
theorem dX4_turn_9 : decode cX4_turn 9 = .ok (.ireturn, 1) := dk_172 (dk_at dksX4_turn_0 9 rfl rfl)
abbrev cX4_is : ByteArray := prog_14_method_10_code
def yX4_is : MethodName := ⟨RX4, "is", "(III)Z"⟩
def dkwX4_is_0 : List UInt8 := [42, 180, 0, 41, 16, 10, 27, 104, 28, 96, 46, 29, 160, 0, 7, 4, 167, 0, 4, 3, 172]
abbrev dktX4_is_0 : List UInt8 := dkwX4_is_0 ++ []
theorem dksX4_is_0 : cX4_is.data.toList.drop 0 = dktX4_is_0 := by decide +kernel
theorem dX4_is_0 : decode cX4_is 0 = .ok (.aload_n 0, 1) := dk_42 (dk_at dksX4_is_0 0 rfl rfl)
theorem dX4_is_1 : decode cX4_is 1 = .ok (.getfield 41, 3) := dk_180 0 41 (dk_at dksX4_is_0 1 rfl rfl)
theorem dX4_is_4 : decode cX4_is 4 = .ok (.bipush 10, 2) := dk_16 10 (dk_at dksX4_is_0 4 rfl rfl)
theorem dX4_is_6 : decode cX4_is 6 = .ok (.iload_n 1, 1) := dk_27 (dk_at dksX4_is_0 6 rfl rfl)
theorem dX4_is_7 : decode cX4_is 7 = .ok (.imul, 1) := dk_104 (dk_at dksX4_is_0 7 rfl rfl)
theorem dX4_is_8 : decode cX4_is 8 = .ok (.iload_n 2, 1) := dk_28 (dk_at dksX4_is_0 8 rfl rfl)
theorem dX4_is_9 : decode cX4_is 9 = .ok (.iadd, 1) := dk_96 (dk_at dksX4_is_0 9 rfl rfl)
theorem dX4_is_10 : decode cX4_is 10 = .ok (.iaload, 1) := dk_46 (dk_at dksX4_is_0 10 rfl rfl)
theorem dX4_is_11 : decode cX4_is 11 = .ok (.iload_n 3, 1) := dk_29 (dk_at dksX4_is_0 11 rfl rfl)
theorem dX4_is_12 : decode cX4_is 12 = .ok (.if_icmp .ne 7, 3) := dk_160 0 7 (dk_at dksX4_is_0 12 rfl rfl)
theorem dX4_is_15 : decode cX4_is 15 = .ok (.iconst 1, 1) := dk_4 (dk_at dksX4_is_0 15 rfl rfl)
theorem dX4_is_16 : decode cX4_is 16 = .ok (.goto 4, 3) := dk_167 0 4 (dk_at dksX4_is_0 16 rfl rfl)
theorem dX4_is_19 : decode cX4_is 19 = .ok (.iconst 0, 1) := dk_3 (dk_at dksX4_is_0 19 rfl rfl)
theorem dX4_is_20 : decode cX4_is 20 = .ok (.ireturn, 1) := dk_172 (dk_at dksX4_is_0 20 rfl rfl)
abbrev cX4_adds : ByteArray := prog_14_method_32_code
def yX4_adds : MethodName := ⟨RX4, "adds", "(IIII)I"⟩
def dkwX4_adds_2 : List UInt8 := [180, 0, 151, 3, 79, 42, 89, 180, 0, 151, 4, 96, 181, 0, 151, 42, 180, 0, 151, 4, 100, 172]
abbrev dktX4_adds_2 : List UInt8 := dkwX4_adds_2 ++ []
def dkwX4_adds_1 : List UInt8 := [42, 180, 0, 151, 29, 79, 42, 180, 0, 26, 42, 180, 0, 151, 21, 4, 79, 42, 180, 0, 29, 42]
abbrev dktX4_adds_1 : List UInt8 := dkwX4_adds_1 ++ dktX4_adds_2
def dkwX4_adds_0 : List UInt8 := [42, 180, 0, 17, 42, 180, 0, 151, 27, 79, 42, 180, 0, 20, 42, 180, 0, 151, 28, 79, 42, 180, 0, 23]
abbrev dktX4_adds_0 : List UInt8 := dkwX4_adds_0 ++ dktX4_adds_1
theorem dksX4_adds_0 : cX4_adds.data.toList.drop 0 = dktX4_adds_0 := by decide +kernel
theorem dksX4_adds_1 : cX4_adds.data.toList.drop 24 = dktX4_adds_1 := dk_seg dksX4_adds_0 24 rfl rfl
theorem dksX4_adds_2 : cX4_adds.data.toList.drop 46 = dktX4_adds_2 := dk_seg dksX4_adds_1 22 rfl rfl
theorem dX4_adds_0 : decode cX4_adds 0 = .ok (.aload_n 0, 1) := dk_42 (dk_at dksX4_adds_0 0 rfl rfl)
theorem dX4_adds_1 : decode cX4_adds 1 = .ok (.getfield 17, 3) := dk_180 0 17 (dk_at dksX4_adds_0 1 rfl rfl)
theorem dX4_adds_4 : decode cX4_adds 4 = .ok (.aload_n 0, 1) := dk_42 (dk_at dksX4_adds_0 4 rfl rfl)
theorem dX4_adds_5 : decode cX4_adds 5 = .ok (.getfield 151, 3) := dk_180 0 151 (dk_at dksX4_adds_0 5 rfl rfl)
theorem dX4_adds_8 : decode cX4_adds 8 = .ok (.iload_n 1, 1) := dk_27 (dk_at dksX4_adds_0 8 rfl rfl)
theorem dX4_adds_9 : decode cX4_adds 9 = .ok (.iastore, 1) := dk_79 (dk_at dksX4_adds_0 9 rfl rfl)
theorem dX4_adds_10 : decode cX4_adds 10 = .ok (.aload_n 0, 1) := dk_42 (dk_at dksX4_adds_0 10 rfl rfl)
theorem dX4_adds_11 : decode cX4_adds 11 = .ok (.getfield 20, 3) := dk_180 0 20 (dk_at dksX4_adds_0 11 rfl rfl)
theorem dX4_adds_14 : decode cX4_adds 14 = .ok (.aload_n 0, 1) := dk_42 (dk_at dksX4_adds_0 14 rfl rfl)
theorem dX4_adds_15 : decode cX4_adds 15 = .ok (.getfield 151, 3) := dk_180 0 151 (dk_at dksX4_adds_0 15 rfl rfl)
theorem dX4_adds_18 : decode cX4_adds 18 = .ok (.iload_n 2, 1) := dk_28 (dk_at dksX4_adds_0 18 rfl rfl)
theorem dX4_adds_19 : decode cX4_adds 19 = .ok (.iastore, 1) := dk_79 (dk_at dksX4_adds_0 19 rfl rfl)
theorem dX4_adds_20 : decode cX4_adds 20 = .ok (.aload_n 0, 1) := dk_42 (dk_at dksX4_adds_0 20 rfl rfl)
theorem dX4_adds_21 : decode cX4_adds 21 = .ok (.getfield 23, 3) := dk_180 0 23 (dk_at dksX4_adds_0 21 rfl rfl)
theorem dX4_adds_24 : decode cX4_adds 24 = .ok (.aload_n 0, 1) := dk_42 (dk_at dksX4_adds_1 0 rfl rfl)
theorem dX4_adds_25 : decode cX4_adds 25 = .ok (.getfield 151, 3) := dk_180 0 151 (dk_at dksX4_adds_1 1 rfl rfl)
theorem dX4_adds_28 : decode cX4_adds 28 = .ok (.iload_n 3, 1) := dk_29 (dk_at dksX4_adds_1 4 rfl rfl)
theorem dX4_adds_29 : decode cX4_adds 29 = .ok (.iastore, 1) := dk_79 (dk_at dksX4_adds_1 5 rfl rfl)
theorem dX4_adds_30 : decode cX4_adds 30 = .ok (.aload_n 0, 1) := dk_42 (dk_at dksX4_adds_1 6 rfl rfl)
theorem dX4_adds_31 : decode cX4_adds 31 = .ok (.getfield 26, 3) := dk_180 0 26 (dk_at dksX4_adds_1 7 rfl rfl)
theorem dX4_adds_34 : decode cX4_adds 34 = .ok (.aload_n 0, 1) := dk_42 (dk_at dksX4_adds_1 10 rfl rfl)
theorem dX4_adds_35 : decode cX4_adds 35 = .ok (.getfield 151, 3) := dk_180 0 151 (dk_at dksX4_adds_1 11 rfl rfl)
theorem dX4_adds_38 : decode cX4_adds 38 = .ok (.iload 4, 2) := dk_21 4 (dk_at dksX4_adds_1 14 rfl rfl)
theorem dX4_adds_40 : decode cX4_adds 40 = .ok (.iastore, 1) := dk_79 (dk_at dksX4_adds_1 16 rfl rfl)
theorem dX4_adds_41 : decode cX4_adds 41 = .ok (.aload_n 0, 1) := dk_42 (dk_at dksX4_adds_1 17 rfl rfl)
theorem dX4_adds_42 : decode cX4_adds 42 = .ok (.getfield 29, 3) := dk_180 0 29 (dk_at dksX4_adds_1 18 rfl rfl)
theorem dX4_adds_45 : decode cX4_adds 45 = .ok (.aload_n 0, 1) := dk_42 (dk_at dksX4_adds_1 21 rfl rfl)
theorem dX4_adds_46 : decode cX4_adds 46 = .ok (.getfield 151, 3) := dk_180 0 151 (dk_at dksX4_adds_2 0 rfl rfl)
theorem dX4_adds_49 : decode cX4_adds 49 = .ok (.iconst 0, 1) := dk_3 (dk_at dksX4_adds_2 3 rfl rfl)
theorem dX4_adds_50 : decode cX4_adds 50 = .ok (.iastore, 1) := dk_79 (dk_at dksX4_adds_2 4 rfl rfl)
theorem dX4_adds_51 : decode cX4_adds 51 = .ok (.aload_n 0, 1) := dk_42 (dk_at dksX4_adds_2 5 rfl rfl)
theorem dX4_adds_52 : decode cX4_adds 52 = .ok (.dup, 1) := dk_89 (dk_at dksX4_adds_2 6 rfl rfl)
theorem dX4_adds_53 : decode cX4_adds 53 = .ok (.getfield 151, 3) := dk_180 0 151 (dk_at dksX4_adds_2 7 rfl rfl)
theorem dX4_adds_56 : decode cX4_adds 56 = .ok (.iconst 1, 1) := dk_4 (dk_at dksX4_adds_2 10 rfl rfl)
theorem dX4_adds_57 : decode cX4_adds 57 = .ok (.iadd, 1) := dk_96 (dk_at dksX4_adds_2 11 rfl rfl)
theorem dX4_adds_58 : decode cX4_adds 58 = .ok (.putfield 151, 3) := dk_181 0 151 (dk_at dksX4_adds_2 12 rfl rfl)
theorem dX4_adds_61 : decode cX4_adds 61 = .ok (.aload_n 0, 1) := dk_42 (dk_at dksX4_adds_2 15 rfl rfl)
theorem dX4_adds_62 : decode cX4_adds 62 = .ok (.getfield 151, 3) := dk_180 0 151 (dk_at dksX4_adds_2 16 rfl rfl)
theorem dX4_adds_65 : decode cX4_adds 65 = .ok (.iconst 1, 1) := dk_4 (dk_at dksX4_adds_2 19 rfl rfl)
theorem dX4_adds_66 : decode cX4_adds 66 = .ok (.isub, 1) := dk_100 (dk_at dksX4_adds_2 20 rfl rfl)
theorem dX4_adds_67 : decode cX4_adds 67 = .ok (.ireturn, 1) := dk_172 (dk_at dksX4_adds_2 21 rfl rfl)
abbrev cX4_step : ByteArray := prog_14_method_36_code
def yX4_step : MethodName := ⟨RX4, "step", "(III)I"⟩
def dkwX4_step_7 : List UInt8 := [16, 105, 21, 6, 100, 46, 96, 21, 8, 100, 172]
abbrev dktX4_step_7 : List UInt8 := dkwX4_step_7 ++ []
def dkwX4_step_6 : List UInt8 := [181, 0, 147, 16, 10, 42, 180, 0, 41, 16, 104, 21, 6, 96, 46, 21, 7, 100, 104, 42, 180, 0, 41]
abbrev dktX4_step_6 : List UInt8 := dkwX4_step_6 ++ dktX4_step_7
def dkwX4_step_5 : List UInt8 := [16, 105, 21, 6, 100, 46, 54, 8, 42, 21, 5, 182, 0, 132, 42, 21, 5, 182, 0, 144, 42, 3]
abbrev dktX4_step_5 : List UInt8 := dkwX4_step_5 ++ dktX4_step_6
def dkwX4_step_4 : List UInt8 := [172, 42, 182, 0, 108, 54, 6, 42, 180, 0, 41, 16, 104, 21, 6, 96, 46, 54, 7, 42, 180, 0, 41]
abbrev dktX4_step_4 : List UInt8 := dkwX4_step_4 ++ dktX4_step_5
def dkwX4_step_3 : List UInt8 := [180, 0, 151, 4, 100, 54, 5, 42, 180, 0, 29, 21, 5, 92, 46, 4, 96, 79, 27, 6, 162, 0, 5, 2]
abbrev dktX4_step_3 : List UInt8 := dkwX4_step_3 ++ dktX4_step_4
def dkwX4_step_2 : List UInt8 := [27, 28, 29, 182, 0, 189, 153, 0, 7, 3, 167, 0, 4, 5, 182, 0, 169, 154, 0, 5, 3, 172, 42]
abbrev dktX4_step_2 : List UInt8 := dkwX4_step_2 ++ dktX4_step_3
def dkwX4_step_1 : List UInt8 := [184, 0, 81, 153, 0, 7, 4, 167, 0, 4, 3, 54, 4, 42, 21, 4, 154, 0, 7, 4, 167, 0, 18, 42]
abbrev dktX4_step_1 : List UInt8 := dkwX4_step_1 ++ dktX4_step_2
def dkwX4_step_0 : List UInt8 := [27, 3, 16, 6, 184, 0, 81, 153, 0, 26, 27, 28, 184, 0, 186, 153, 0, 18, 29, 4, 17, 1, 44]
abbrev dktX4_step_0 : List UInt8 := dkwX4_step_0 ++ dktX4_step_1
theorem dksX4_step_0 : cX4_step.data.toList.drop 0 = dktX4_step_0 := by decide +kernel
theorem dksX4_step_1 : cX4_step.data.toList.drop 23 = dktX4_step_1 := dk_seg dksX4_step_0 23 rfl rfl
theorem dksX4_step_2 : cX4_step.data.toList.drop 47 = dktX4_step_2 := dk_seg dksX4_step_1 24 rfl rfl
theorem dksX4_step_3 : cX4_step.data.toList.drop 70 = dktX4_step_3 := dk_seg dksX4_step_2 23 rfl rfl
theorem dksX4_step_4 : cX4_step.data.toList.drop 94 = dktX4_step_4 := dk_seg dksX4_step_3 24 rfl rfl
theorem dksX4_step_5 : cX4_step.data.toList.drop 117 = dktX4_step_5 := dk_seg dksX4_step_4 23 rfl rfl
theorem dksX4_step_6 : cX4_step.data.toList.drop 139 = dktX4_step_6 := dk_seg dksX4_step_5 22 rfl rfl
theorem dksX4_step_7 : cX4_step.data.toList.drop 162 = dktX4_step_7 := dk_seg dksX4_step_6 23 rfl rfl
theorem dX4_step_0 : decode cX4_step 0 = .ok (.iload_n 1, 1) := dk_27 (dk_at dksX4_step_0 0 rfl rfl)
theorem dX4_step_1 : decode cX4_step 1 = .ok (.iconst 0, 1) := dk_3 (dk_at dksX4_step_0 1 rfl rfl)
theorem dX4_step_2 : decode cX4_step 2 = .ok (.bipush 6, 2) := dk_16 6 (dk_at dksX4_step_0 2 rfl rfl)
theorem dX4_step_4 : decode cX4_step 4 = .ok (.invokestatic 81, 3) := dk_184 0 81 (dk_at dksX4_step_0 4 rfl rfl)
theorem dX4_step_7 : decode cX4_step 7 = .ok (.ifCond .eq 26, 3) := dk_153 0 26 (dk_at dksX4_step_0 7 rfl rfl)
theorem dX4_step_10 : decode cX4_step 10 = .ok (.iload_n 1, 1) := dk_27 (dk_at dksX4_step_0 10 rfl rfl)
theorem dX4_step_11 : decode cX4_step 11 = .ok (.iload_n 2, 1) := dk_28 (dk_at dksX4_step_0 11 rfl rfl)
theorem dX4_step_12 : decode cX4_step 12 = .ok (.invokestatic 186, 3) := dk_184 0 186 (dk_at dksX4_step_0 12 rfl rfl)
theorem dX4_step_15 : decode cX4_step 15 = .ok (.ifCond .eq 18, 3) := dk_153 0 18 (dk_at dksX4_step_0 15 rfl rfl)
theorem dX4_step_18 : decode cX4_step 18 = .ok (.iload_n 3, 1) := dk_29 (dk_at dksX4_step_0 18 rfl rfl)
theorem dX4_step_19 : decode cX4_step 19 = .ok (.iconst 1, 1) := dk_4 (dk_at dksX4_step_0 19 rfl rfl)
theorem dX4_step_20 : decode cX4_step 20 = .ok (.sipush 300, 3) := dk_17 1 44 (dk_at dksX4_step_0 20 rfl rfl)
theorem dX4_step_23 : decode cX4_step 23 = .ok (.invokestatic 81, 3) := dk_184 0 81 (dk_at dksX4_step_1 0 rfl rfl)
theorem dX4_step_26 : decode cX4_step 26 = .ok (.ifCond .eq 7, 3) := dk_153 0 7 (dk_at dksX4_step_1 3 rfl rfl)
theorem dX4_step_29 : decode cX4_step 29 = .ok (.iconst 1, 1) := dk_4 (dk_at dksX4_step_1 6 rfl rfl)
theorem dX4_step_30 : decode cX4_step 30 = .ok (.goto 4, 3) := dk_167 0 4 (dk_at dksX4_step_1 7 rfl rfl)
theorem dX4_step_33 : decode cX4_step 33 = .ok (.iconst 0, 1) := dk_3 (dk_at dksX4_step_1 10 rfl rfl)
theorem dX4_step_34 : decode cX4_step 34 = .ok (.istore 4, 2) := dk_54 4 (dk_at dksX4_step_1 11 rfl rfl)
theorem dX4_step_36 : decode cX4_step 36 = .ok (.aload_n 0, 1) := dk_42 (dk_at dksX4_step_1 13 rfl rfl)
theorem dX4_step_37 : decode cX4_step 37 = .ok (.iload 4, 2) := dk_21 4 (dk_at dksX4_step_1 14 rfl rfl)
theorem dX4_step_39 : decode cX4_step 39 = .ok (.ifCond .ne 7, 3) := dk_154 0 7 (dk_at dksX4_step_1 16 rfl rfl)
theorem dX4_step_42 : decode cX4_step 42 = .ok (.iconst 1, 1) := dk_4 (dk_at dksX4_step_1 19 rfl rfl)
theorem dX4_step_43 : decode cX4_step 43 = .ok (.goto 18, 3) := dk_167 0 18 (dk_at dksX4_step_1 20 rfl rfl)
theorem dX4_step_46 : decode cX4_step 46 = .ok (.aload_n 0, 1) := dk_42 (dk_at dksX4_step_1 23 rfl rfl)
theorem dX4_step_47 : decode cX4_step 47 = .ok (.iload_n 1, 1) := dk_27 (dk_at dksX4_step_2 0 rfl rfl)
theorem dX4_step_48 : decode cX4_step 48 = .ok (.iload_n 2, 1) := dk_28 (dk_at dksX4_step_2 1 rfl rfl)
theorem dX4_step_49 : decode cX4_step 49 = .ok (.iload_n 3, 1) := dk_29 (dk_at dksX4_step_2 2 rfl rfl)
theorem dX4_step_50 : decode cX4_step 50 = .ok (.invokevirtual 189, 3) := dk_182 0 189 (dk_at dksX4_step_2 3 rfl rfl)
theorem dX4_step_53 : decode cX4_step 53 = .ok (.ifCond .eq 7, 3) := dk_153 0 7 (dk_at dksX4_step_2 6 rfl rfl)
theorem dX4_step_56 : decode cX4_step 56 = .ok (.iconst 0, 1) := dk_3 (dk_at dksX4_step_2 9 rfl rfl)
theorem dX4_step_57 : decode cX4_step 57 = .ok (.goto 4, 3) := dk_167 0 4 (dk_at dksX4_step_2 10 rfl rfl)
theorem dX4_step_60 : decode cX4_step 60 = .ok (.iconst 2, 1) := dk_5 (dk_at dksX4_step_2 13 rfl rfl)
theorem dX4_step_61 : decode cX4_step 61 = .ok (.invokevirtual 169, 3) := dk_182 0 169 (dk_at dksX4_step_2 14 rfl rfl)
theorem dX4_step_64 : decode cX4_step 64 = .ok (.ifCond .ne 5, 3) := dk_154 0 5 (dk_at dksX4_step_2 17 rfl rfl)
theorem dX4_step_67 : decode cX4_step 67 = .ok (.iconst 0, 1) := dk_3 (dk_at dksX4_step_2 20 rfl rfl)
theorem dX4_step_68 : decode cX4_step 68 = .ok (.ireturn, 1) := dk_172 (dk_at dksX4_step_2 21 rfl rfl)
theorem dX4_step_69 : decode cX4_step 69 = .ok (.aload_n 0, 1) := dk_42 (dk_at dksX4_step_2 22 rfl rfl)
theorem dX4_step_70 : decode cX4_step 70 = .ok (.getfield 151, 3) := dk_180 0 151 (dk_at dksX4_step_3 0 rfl rfl)
theorem dX4_step_73 : decode cX4_step 73 = .ok (.iconst 1, 1) := dk_4 (dk_at dksX4_step_3 3 rfl rfl)
theorem dX4_step_74 : decode cX4_step 74 = .ok (.isub, 1) := dk_100 (dk_at dksX4_step_3 4 rfl rfl)
theorem dX4_step_75 : decode cX4_step 75 = .ok (.istore 5, 2) := dk_54 5 (dk_at dksX4_step_3 5 rfl rfl)
theorem dX4_step_77 : decode cX4_step 77 = .ok (.aload_n 0, 1) := dk_42 (dk_at dksX4_step_3 7 rfl rfl)
theorem dX4_step_78 : decode cX4_step 78 = .ok (.getfield 29, 3) := dk_180 0 29 (dk_at dksX4_step_3 8 rfl rfl)
theorem dX4_step_81 : decode cX4_step 81 = .ok (.iload 5, 2) := dk_21 5 (dk_at dksX4_step_3 11 rfl rfl)
theorem dX4_step_83 : decode cX4_step 83 = .ok (.dup2, 1) := dk_92 (dk_at dksX4_step_3 13 rfl rfl)
theorem dX4_step_84 : decode cX4_step 84 = .ok (.iaload, 1) := dk_46 (dk_at dksX4_step_3 14 rfl rfl)
theorem dX4_step_85 : decode cX4_step 85 = .ok (.iconst 1, 1) := dk_4 (dk_at dksX4_step_3 15 rfl rfl)
theorem dX4_step_86 : decode cX4_step 86 = .ok (.iadd, 1) := dk_96 (dk_at dksX4_step_3 16 rfl rfl)
theorem dX4_step_87 : decode cX4_step 87 = .ok (.iastore, 1) := dk_79 (dk_at dksX4_step_3 17 rfl rfl)
theorem dX4_step_88 : decode cX4_step 88 = .ok (.iload_n 1, 1) := dk_27 (dk_at dksX4_step_3 18 rfl rfl)
theorem dX4_step_89 : decode cX4_step 89 = .ok (.iconst 3, 1) := dk_6 (dk_at dksX4_step_3 19 rfl rfl)
theorem dX4_step_90 : decode cX4_step 90 = .ok (.if_icmp .ge 5, 3) := dk_162 0 5 (dk_at dksX4_step_3 20 rfl rfl)
theorem dX4_step_93 : decode cX4_step 93 = .ok (.iconst (-1), 1) := dk_2 (dk_at dksX4_step_3 23 rfl rfl)
theorem dX4_step_94 : decode cX4_step 94 = .ok (.ireturn, 1) := dk_172 (dk_at dksX4_step_4 0 rfl rfl)
theorem dX4_step_95 : decode cX4_step 95 = .ok (.aload_n 0, 1) := dk_42 (dk_at dksX4_step_4 1 rfl rfl)
theorem dX4_step_96 : decode cX4_step 96 = .ok (.invokevirtual 108, 3) := dk_182 0 108 (dk_at dksX4_step_4 2 rfl rfl)
theorem dX4_step_99 : decode cX4_step 99 = .ok (.istore 6, 2) := dk_54 6 (dk_at dksX4_step_4 5 rfl rfl)
theorem dX4_step_101 : decode cX4_step 101 = .ok (.aload_n 0, 1) := dk_42 (dk_at dksX4_step_4 7 rfl rfl)
theorem dX4_step_102 : decode cX4_step 102 = .ok (.getfield 41, 3) := dk_180 0 41 (dk_at dksX4_step_4 8 rfl rfl)
theorem dX4_step_105 : decode cX4_step 105 = .ok (.bipush 104, 2) := dk_16 104 (dk_at dksX4_step_4 11 rfl rfl)
theorem dX4_step_107 : decode cX4_step 107 = .ok (.iload 6, 2) := dk_21 6 (dk_at dksX4_step_4 13 rfl rfl)
theorem dX4_step_109 : decode cX4_step 109 = .ok (.iadd, 1) := dk_96 (dk_at dksX4_step_4 15 rfl rfl)
theorem dX4_step_110 : decode cX4_step 110 = .ok (.iaload, 1) := dk_46 (dk_at dksX4_step_4 16 rfl rfl)
theorem dX4_step_111 : decode cX4_step 111 = .ok (.istore 7, 2) := dk_54 7 (dk_at dksX4_step_4 17 rfl rfl)
theorem dX4_step_113 : decode cX4_step 113 = .ok (.aload_n 0, 1) := dk_42 (dk_at dksX4_step_4 19 rfl rfl)
theorem dX4_step_114 : decode cX4_step 114 = .ok (.getfield 41, 3) := dk_180 0 41 (dk_at dksX4_step_4 20 rfl rfl)
theorem dX4_step_117 : decode cX4_step 117 = .ok (.bipush 105, 2) := dk_16 105 (dk_at dksX4_step_5 0 rfl rfl)
theorem dX4_step_119 : decode cX4_step 119 = .ok (.iload 6, 2) := dk_21 6 (dk_at dksX4_step_5 2 rfl rfl)
theorem dX4_step_121 : decode cX4_step 121 = .ok (.isub, 1) := dk_100 (dk_at dksX4_step_5 4 rfl rfl)
theorem dX4_step_122 : decode cX4_step 122 = .ok (.iaload, 1) := dk_46 (dk_at dksX4_step_5 5 rfl rfl)
theorem dX4_step_123 : decode cX4_step 123 = .ok (.istore 8, 2) := dk_54 8 (dk_at dksX4_step_5 6 rfl rfl)
theorem dX4_step_125 : decode cX4_step 125 = .ok (.aload_n 0, 1) := dk_42 (dk_at dksX4_step_5 8 rfl rfl)
theorem dX4_step_126 : decode cX4_step 126 = .ok (.iload 5, 2) := dk_21 5 (dk_at dksX4_step_5 9 rfl rfl)
theorem dX4_step_128 : decode cX4_step 128 = .ok (.invokevirtual 132, 3) := dk_182 0 132 (dk_at dksX4_step_5 11 rfl rfl)
theorem dX4_step_131 : decode cX4_step 131 = .ok (.aload_n 0, 1) := dk_42 (dk_at dksX4_step_5 14 rfl rfl)
theorem dX4_step_132 : decode cX4_step 132 = .ok (.iload 5, 2) := dk_21 5 (dk_at dksX4_step_5 15 rfl rfl)
theorem dX4_step_134 : decode cX4_step 134 = .ok (.invokevirtual 144, 3) := dk_182 0 144 (dk_at dksX4_step_5 17 rfl rfl)
theorem dX4_step_137 : decode cX4_step 137 = .ok (.aload_n 0, 1) := dk_42 (dk_at dksX4_step_5 20 rfl rfl)
theorem dX4_step_138 : decode cX4_step 138 = .ok (.iconst 0, 1) := dk_3 (dk_at dksX4_step_5 21 rfl rfl)
theorem dX4_step_139 : decode cX4_step 139 = .ok (.putfield 147, 3) := dk_181 0 147 (dk_at dksX4_step_6 0 rfl rfl)
theorem dX4_step_142 : decode cX4_step 142 = .ok (.bipush 10, 2) := dk_16 10 (dk_at dksX4_step_6 3 rfl rfl)
theorem dX4_step_144 : decode cX4_step 144 = .ok (.aload_n 0, 1) := dk_42 (dk_at dksX4_step_6 5 rfl rfl)
theorem dX4_step_145 : decode cX4_step 145 = .ok (.getfield 41, 3) := dk_180 0 41 (dk_at dksX4_step_6 6 rfl rfl)
theorem dX4_step_148 : decode cX4_step 148 = .ok (.bipush 104, 2) := dk_16 104 (dk_at dksX4_step_6 9 rfl rfl)
theorem dX4_step_150 : decode cX4_step 150 = .ok (.iload 6, 2) := dk_21 6 (dk_at dksX4_step_6 11 rfl rfl)
theorem dX4_step_152 : decode cX4_step 152 = .ok (.iadd, 1) := dk_96 (dk_at dksX4_step_6 13 rfl rfl)
theorem dX4_step_153 : decode cX4_step 153 = .ok (.iaload, 1) := dk_46 (dk_at dksX4_step_6 14 rfl rfl)
theorem dX4_step_154 : decode cX4_step 154 = .ok (.iload 7, 2) := dk_21 7 (dk_at dksX4_step_6 15 rfl rfl)
theorem dX4_step_156 : decode cX4_step 156 = .ok (.isub, 1) := dk_100 (dk_at dksX4_step_6 17 rfl rfl)
theorem dX4_step_157 : decode cX4_step 157 = .ok (.imul, 1) := dk_104 (dk_at dksX4_step_6 18 rfl rfl)
theorem dX4_step_158 : decode cX4_step 158 = .ok (.aload_n 0, 1) := dk_42 (dk_at dksX4_step_6 19 rfl rfl)
theorem dX4_step_159 : decode cX4_step 159 = .ok (.getfield 41, 3) := dk_180 0 41 (dk_at dksX4_step_6 20 rfl rfl)
theorem dX4_step_162 : decode cX4_step 162 = .ok (.bipush 105, 2) := dk_16 105 (dk_at dksX4_step_7 0 rfl rfl)
theorem dX4_step_164 : decode cX4_step 164 = .ok (.iload 6, 2) := dk_21 6 (dk_at dksX4_step_7 2 rfl rfl)
theorem dX4_step_166 : decode cX4_step 166 = .ok (.isub, 1) := dk_100 (dk_at dksX4_step_7 4 rfl rfl)
theorem dX4_step_167 : decode cX4_step 167 = .ok (.iaload, 1) := dk_46 (dk_at dksX4_step_7 5 rfl rfl)
theorem dX4_step_168 : decode cX4_step 168 = .ok (.iadd, 1) := dk_96 (dk_at dksX4_step_7 6 rfl rfl)
theorem dX4_step_169 : decode cX4_step 169 = .ok (.iload 8, 2) := dk_21 8 (dk_at dksX4_step_7 7 rfl rfl)
theorem dX4_step_171 : decode cX4_step 171 = .ok (.isub, 1) := dk_100 (dk_at dksX4_step_7 9 rfl rfl)
theorem dX4_step_172 : decode cX4_step 172 = .ok (.ireturn, 1) := dk_172 (dk_at dksX4_step_7 10 rfl rfl)
abbrev cX4_isWho : ByteArray := prog_14_method_34_code
def yX4_isWho : MethodName := ⟨RX4, "isWho", "(II)Z"⟩
def dkwX4_isWho_0 : List UInt8 := [26, 154, 0, 10, 27, 184, 0, 175, 167, 0, 13, 27, 2, 160, 0, 7, 4, 167, 0, 4, 3, 172]
abbrev dktX4_isWho_0 : List UInt8 := dkwX4_isWho_0 ++ []
theorem dksX4_isWho_0 : cX4_isWho.data.toList.drop 0 = dktX4_isWho_0 := by decide +kernel
theorem dX4_isWho_0 : decode cX4_isWho 0 = .ok (.iload_n 0, 1) := dk_26 (dk_at dksX4_isWho_0 0 rfl rfl)
theorem dX4_isWho_1 : decode cX4_isWho 1 = .ok (.ifCond .ne 10, 3) := dk_154 0 10 (dk_at dksX4_isWho_0 1 rfl rfl)
theorem dX4_isWho_4 : decode cX4_isWho 4 = .ok (.iload_n 1, 1) := dk_27 (dk_at dksX4_isWho_0 4 rfl rfl)
theorem dX4_isWho_5 : decode cX4_isWho 5 = .ok (.invokestatic 175, 3) := dk_184 0 175 (dk_at dksX4_isWho_0 5 rfl rfl)
theorem dX4_isWho_8 : decode cX4_isWho 8 = .ok (.goto 13, 3) := dk_167 0 13 (dk_at dksX4_isWho_0 8 rfl rfl)
theorem dX4_isWho_11 : decode cX4_isWho 11 = .ok (.iload_n 1, 1) := dk_27 (dk_at dksX4_isWho_0 11 rfl rfl)
theorem dX4_isWho_12 : decode cX4_isWho 12 = .ok (.iconst (-1), 1) := dk_2 (dk_at dksX4_isWho_0 12 rfl rfl)
theorem dX4_isWho_13 : decode cX4_isWho 13 = .ok (.if_icmp .ne 7, 3) := dk_160 0 7 (dk_at dksX4_isWho_0 13 rfl rfl)
theorem dX4_isWho_16 : decode cX4_isWho 16 = .ok (.iconst 1, 1) := dk_4 (dk_at dksX4_isWho_0 16 rfl rfl)
theorem dX4_isWho_17 : decode cX4_isWho 17 = .ok (.goto 4, 3) := dk_167 0 4 (dk_at dksX4_isWho_0 17 rfl rfl)
theorem dX4_isWho_20 : decode cX4_isWho 20 = .ok (.iconst 0, 1) := dk_3 (dk_at dksX4_isWho_0 20 rfl rfl)
theorem dX4_isWho_21 : decode cX4_isWho 21 = .ok (.ireturn, 1) := dk_172 (dk_at dksX4_isWho_0 21 rfl rfl)
abbrev cX4_canTell : ByteArray := prog_14_method_35_code
def yX4_canTell : MethodName := ⟨RX4, "canTell", "(III)Z"⟩
def dkwX4_canTell_4 : List UInt8 := [21, 4, 46, 182, 0, 128, 153, 0, 7, 4, 167, 0, 4, 3, 172]
abbrev dktX4_canTell_4 : List UInt8 := dkwX4_canTell_4 ++ []
def dkwX4_canTell_3 : List UInt8 := [153, 0, 16, 42, 180, 0, 38, 21, 5, 4, 100, 46, 29, 162, 0, 23, 42, 21, 4, 42, 180, 0, 29]
abbrev dktX4_canTell_3 : List UInt8 := dkwX4_canTell_3 ++ dktX4_canTell_4
def dkwX4_canTell_2 : List UInt8 := [180, 0, 35, 21, 5, 28, 79, 42, 180, 0, 38, 21, 5, 29, 79, 42, 180, 0, 29, 21, 4, 46]
abbrev dktX4_canTell_2 : List UInt8 := dkwX4_canTell_2 ++ dktX4_canTell_3
def dkwX4_canTell_1 : List UInt8 := [16, 14, 21, 4, 104, 42, 180, 0, 29, 21, 4, 46, 96, 54, 5, 42, 180, 0, 32, 21, 5, 27, 79, 42]
abbrev dktX4_canTell_1 : List UInt8 := dkwX4_canTell_1 ++ dktX4_canTell_2
def dkwX4_canTell_0 : List UInt8 := [42, 180, 0, 166, 153, 0, 10, 42, 180, 0, 147, 154, 0, 5, 3, 172, 42, 180, 0, 151, 4, 100, 54, 4]
abbrev dktX4_canTell_0 : List UInt8 := dkwX4_canTell_0 ++ dktX4_canTell_1
theorem dksX4_canTell_0 : cX4_canTell.data.toList.drop 0 = dktX4_canTell_0 := by decide +kernel
theorem dksX4_canTell_1 : cX4_canTell.data.toList.drop 24 = dktX4_canTell_1 := dk_seg dksX4_canTell_0 24 rfl rfl
theorem dksX4_canTell_2 : cX4_canTell.data.toList.drop 48 = dktX4_canTell_2 := dk_seg dksX4_canTell_1 24 rfl rfl
theorem dksX4_canTell_3 : cX4_canTell.data.toList.drop 70 = dktX4_canTell_3 := dk_seg dksX4_canTell_2 22 rfl rfl
theorem dksX4_canTell_4 : cX4_canTell.data.toList.drop 93 = dktX4_canTell_4 := dk_seg dksX4_canTell_3 23 rfl rfl
theorem dX4_canTell_0 : decode cX4_canTell 0 = .ok (.aload_n 0, 1) := dk_42 (dk_at dksX4_canTell_0 0 rfl rfl)
theorem dX4_canTell_1 : decode cX4_canTell 1 = .ok (.getfield 166, 3) := dk_180 0 166 (dk_at dksX4_canTell_0 1 rfl rfl)
theorem dX4_canTell_4 : decode cX4_canTell 4 = .ok (.ifCond .eq 10, 3) := dk_153 0 10 (dk_at dksX4_canTell_0 4 rfl rfl)
theorem dX4_canTell_7 : decode cX4_canTell 7 = .ok (.aload_n 0, 1) := dk_42 (dk_at dksX4_canTell_0 7 rfl rfl)
theorem dX4_canTell_8 : decode cX4_canTell 8 = .ok (.getfield 147, 3) := dk_180 0 147 (dk_at dksX4_canTell_0 8 rfl rfl)
theorem dX4_canTell_11 : decode cX4_canTell 11 = .ok (.ifCond .ne 5, 3) := dk_154 0 5 (dk_at dksX4_canTell_0 11 rfl rfl)
theorem dX4_canTell_14 : decode cX4_canTell 14 = .ok (.iconst 0, 1) := dk_3 (dk_at dksX4_canTell_0 14 rfl rfl)
theorem dX4_canTell_15 : decode cX4_canTell 15 = .ok (.ireturn, 1) := dk_172 (dk_at dksX4_canTell_0 15 rfl rfl)
theorem dX4_canTell_16 : decode cX4_canTell 16 = .ok (.aload_n 0, 1) := dk_42 (dk_at dksX4_canTell_0 16 rfl rfl)
theorem dX4_canTell_17 : decode cX4_canTell 17 = .ok (.getfield 151, 3) := dk_180 0 151 (dk_at dksX4_canTell_0 17 rfl rfl)
theorem dX4_canTell_20 : decode cX4_canTell 20 = .ok (.iconst 1, 1) := dk_4 (dk_at dksX4_canTell_0 20 rfl rfl)
theorem dX4_canTell_21 : decode cX4_canTell 21 = .ok (.isub, 1) := dk_100 (dk_at dksX4_canTell_0 21 rfl rfl)
theorem dX4_canTell_22 : decode cX4_canTell 22 = .ok (.istore 4, 2) := dk_54 4 (dk_at dksX4_canTell_0 22 rfl rfl)
theorem dX4_canTell_24 : decode cX4_canTell 24 = .ok (.bipush 14, 2) := dk_16 14 (dk_at dksX4_canTell_1 0 rfl rfl)
theorem dX4_canTell_26 : decode cX4_canTell 26 = .ok (.iload 4, 2) := dk_21 4 (dk_at dksX4_canTell_1 2 rfl rfl)
theorem dX4_canTell_28 : decode cX4_canTell 28 = .ok (.imul, 1) := dk_104 (dk_at dksX4_canTell_1 4 rfl rfl)
theorem dX4_canTell_29 : decode cX4_canTell 29 = .ok (.aload_n 0, 1) := dk_42 (dk_at dksX4_canTell_1 5 rfl rfl)
theorem dX4_canTell_30 : decode cX4_canTell 30 = .ok (.getfield 29, 3) := dk_180 0 29 (dk_at dksX4_canTell_1 6 rfl rfl)
theorem dX4_canTell_33 : decode cX4_canTell 33 = .ok (.iload 4, 2) := dk_21 4 (dk_at dksX4_canTell_1 9 rfl rfl)
theorem dX4_canTell_35 : decode cX4_canTell 35 = .ok (.iaload, 1) := dk_46 (dk_at dksX4_canTell_1 11 rfl rfl)
theorem dX4_canTell_36 : decode cX4_canTell 36 = .ok (.iadd, 1) := dk_96 (dk_at dksX4_canTell_1 12 rfl rfl)
theorem dX4_canTell_37 : decode cX4_canTell 37 = .ok (.istore 5, 2) := dk_54 5 (dk_at dksX4_canTell_1 13 rfl rfl)
theorem dX4_canTell_39 : decode cX4_canTell 39 = .ok (.aload_n 0, 1) := dk_42 (dk_at dksX4_canTell_1 15 rfl rfl)
theorem dX4_canTell_40 : decode cX4_canTell 40 = .ok (.getfield 32, 3) := dk_180 0 32 (dk_at dksX4_canTell_1 16 rfl rfl)
theorem dX4_canTell_43 : decode cX4_canTell 43 = .ok (.iload 5, 2) := dk_21 5 (dk_at dksX4_canTell_1 19 rfl rfl)
theorem dX4_canTell_45 : decode cX4_canTell 45 = .ok (.iload_n 1, 1) := dk_27 (dk_at dksX4_canTell_1 21 rfl rfl)
theorem dX4_canTell_46 : decode cX4_canTell 46 = .ok (.iastore, 1) := dk_79 (dk_at dksX4_canTell_1 22 rfl rfl)
theorem dX4_canTell_47 : decode cX4_canTell 47 = .ok (.aload_n 0, 1) := dk_42 (dk_at dksX4_canTell_1 23 rfl rfl)
theorem dX4_canTell_48 : decode cX4_canTell 48 = .ok (.getfield 35, 3) := dk_180 0 35 (dk_at dksX4_canTell_2 0 rfl rfl)
theorem dX4_canTell_51 : decode cX4_canTell 51 = .ok (.iload 5, 2) := dk_21 5 (dk_at dksX4_canTell_2 3 rfl rfl)
theorem dX4_canTell_53 : decode cX4_canTell 53 = .ok (.iload_n 2, 1) := dk_28 (dk_at dksX4_canTell_2 5 rfl rfl)
theorem dX4_canTell_54 : decode cX4_canTell 54 = .ok (.iastore, 1) := dk_79 (dk_at dksX4_canTell_2 6 rfl rfl)
theorem dX4_canTell_55 : decode cX4_canTell 55 = .ok (.aload_n 0, 1) := dk_42 (dk_at dksX4_canTell_2 7 rfl rfl)
theorem dX4_canTell_56 : decode cX4_canTell 56 = .ok (.getfield 38, 3) := dk_180 0 38 (dk_at dksX4_canTell_2 8 rfl rfl)
theorem dX4_canTell_59 : decode cX4_canTell 59 = .ok (.iload 5, 2) := dk_21 5 (dk_at dksX4_canTell_2 11 rfl rfl)
theorem dX4_canTell_61 : decode cX4_canTell 61 = .ok (.iload_n 3, 1) := dk_29 (dk_at dksX4_canTell_2 13 rfl rfl)
theorem dX4_canTell_62 : decode cX4_canTell 62 = .ok (.iastore, 1) := dk_79 (dk_at dksX4_canTell_2 14 rfl rfl)
theorem dX4_canTell_63 : decode cX4_canTell 63 = .ok (.aload_n 0, 1) := dk_42 (dk_at dksX4_canTell_2 15 rfl rfl)
theorem dX4_canTell_64 : decode cX4_canTell 64 = .ok (.getfield 29, 3) := dk_180 0 29 (dk_at dksX4_canTell_2 16 rfl rfl)
theorem dX4_canTell_67 : decode cX4_canTell 67 = .ok (.iload 4, 2) := dk_21 4 (dk_at dksX4_canTell_2 19 rfl rfl)
theorem dX4_canTell_69 : decode cX4_canTell 69 = .ok (.iaload, 1) := dk_46 (dk_at dksX4_canTell_2 21 rfl rfl)
theorem dX4_canTell_70 : decode cX4_canTell 70 = .ok (.ifCond .eq 16, 3) := dk_153 0 16 (dk_at dksX4_canTell_3 0 rfl rfl)
theorem dX4_canTell_73 : decode cX4_canTell 73 = .ok (.aload_n 0, 1) := dk_42 (dk_at dksX4_canTell_3 3 rfl rfl)
theorem dX4_canTell_74 : decode cX4_canTell 74 = .ok (.getfield 38, 3) := dk_180 0 38 (dk_at dksX4_canTell_3 4 rfl rfl)
theorem dX4_canTell_77 : decode cX4_canTell 77 = .ok (.iload 5, 2) := dk_21 5 (dk_at dksX4_canTell_3 7 rfl rfl)
theorem dX4_canTell_79 : decode cX4_canTell 79 = .ok (.iconst 1, 1) := dk_4 (dk_at dksX4_canTell_3 9 rfl rfl)
theorem dX4_canTell_80 : decode cX4_canTell 80 = .ok (.isub, 1) := dk_100 (dk_at dksX4_canTell_3 10 rfl rfl)
theorem dX4_canTell_81 : decode cX4_canTell 81 = .ok (.iaload, 1) := dk_46 (dk_at dksX4_canTell_3 11 rfl rfl)
theorem dX4_canTell_82 : decode cX4_canTell 82 = .ok (.iload_n 3, 1) := dk_29 (dk_at dksX4_canTell_3 12 rfl rfl)
theorem dX4_canTell_83 : decode cX4_canTell 83 = .ok (.if_icmp .ge 23, 3) := dk_162 0 23 (dk_at dksX4_canTell_3 13 rfl rfl)
theorem dX4_canTell_86 : decode cX4_canTell 86 = .ok (.aload_n 0, 1) := dk_42 (dk_at dksX4_canTell_3 16 rfl rfl)
theorem dX4_canTell_87 : decode cX4_canTell 87 = .ok (.iload 4, 2) := dk_21 4 (dk_at dksX4_canTell_3 17 rfl rfl)
theorem dX4_canTell_89 : decode cX4_canTell 89 = .ok (.aload_n 0, 1) := dk_42 (dk_at dksX4_canTell_3 19 rfl rfl)
theorem dX4_canTell_90 : decode cX4_canTell 90 = .ok (.getfield 29, 3) := dk_180 0 29 (dk_at dksX4_canTell_3 20 rfl rfl)
theorem dX4_canTell_93 : decode cX4_canTell 93 = .ok (.iload 4, 2) := dk_21 4 (dk_at dksX4_canTell_4 0 rfl rfl)
theorem dX4_canTell_95 : decode cX4_canTell 95 = .ok (.iaload, 1) := dk_46 (dk_at dksX4_canTell_4 2 rfl rfl)
theorem dX4_canTell_96 : decode cX4_canTell 96 = .ok (.invokevirtual 128, 3) := dk_182 0 128 (dk_at dksX4_canTell_4 3 rfl rfl)
theorem dX4_canTell_99 : decode cX4_canTell 99 = .ok (.ifCond .eq 7, 3) := dk_153 0 7 (dk_at dksX4_canTell_4 6 rfl rfl)
theorem dX4_canTell_102 : decode cX4_canTell 102 = .ok (.iconst 1, 1) := dk_4 (dk_at dksX4_canTell_4 9 rfl rfl)
theorem dX4_canTell_103 : decode cX4_canTell 103 = .ok (.goto 4, 3) := dk_167 0 4 (dk_at dksX4_canTell_4 10 rfl rfl)
theorem dX4_canTell_106 : decode cX4_canTell 106 = .ok (.iconst 0, 1) := dk_3 (dk_at dksX4_canTell_4 13 rfl rfl)
theorem dX4_canTell_107 : decode cX4_canTell 107 = .ok (.ireturn, 1) := dk_172 (dk_at dksX4_canTell_4 14 rfl rfl)
abbrev cX4_canStep : ByteArray := prog_14_method_20_code
def yX4_canStep : MethodName := ⟨RX4, "canStep", "(II)Z"⟩
def dkwX4_canStep_6 : List UInt8 := [17, 1, 44, 160, 0, 7, 4, 167, 0, 4, 3, 172]
abbrev dktX4_canStep_6 : List UInt8 := dkwX4_canStep_6 ++ []
def dkwX4_canStep_5 : List UInt8 := [132, 6, 1, 167, 255, 190, 21, 5, 153, 0, 26, 21, 4, 16, 6, 160, 0, 15, 42, 180, 0, 38, 29, 46]
abbrev dktX4_canStep_5 : List UInt8 := dkwX4_canStep_5 ++ dktX4_canStep_6
def dkwX4_canStep_4 : List UInt8 := [167, 0, 4, 3, 54, 7, 21, 5, 153, 0, 12, 21, 7, 154, 0, 7, 4, 167, 0, 4, 3, 54, 5]
abbrev dktX4_canStep_4 : List UInt8 := dkwX4_canStep_4 ++ dktX4_canStep_5
def dkwX4_canStep_3 : List UInt8 := [21, 4, 154, 0, 19, 42, 180, 0, 35, 21, 6, 46, 42, 180, 0, 35, 29, 46, 160, 0, 7, 4]
abbrev dktX4_canStep_3 : List UInt8 := dkwX4_canStep_3 ++ dktX4_canStep_4
def dkwX4_canStep_2 : List UInt8 := [16, 14, 27, 104, 54, 6, 21, 6, 29, 162, 0, 66, 42, 180, 0, 32, 21, 6, 46, 21, 4, 160, 0, 28]
abbrev dktX4_canStep_2 : List UInt8 := dkwX4_canStep_2 ++ dktX4_canStep_3
def dkwX4_canStep_1 : List UInt8 := [182, 0, 108, 100, 42, 180, 0, 35, 29, 46, 3, 182, 0, 85, 153, 0, 7, 4, 167, 0, 4, 3, 54, 5]
abbrev dktX4_canStep_1 : List UInt8 := dkwX4_canStep_1 ++ dktX4_canStep_2
def dkwX4_canStep_0 : List UInt8 := [16, 14, 27, 104, 28, 96, 62, 42, 180, 0, 32, 29, 46, 54, 4, 21, 4, 154, 0, 23, 42, 4, 42]
abbrev dktX4_canStep_0 : List UInt8 := dkwX4_canStep_0 ++ dktX4_canStep_1
theorem dksX4_canStep_0 : cX4_canStep.data.toList.drop 0 = dktX4_canStep_0 := by decide +kernel
theorem dksX4_canStep_1 : cX4_canStep.data.toList.drop 23 = dktX4_canStep_1 := dk_seg dksX4_canStep_0 23 rfl rfl
theorem dksX4_canStep_2 : cX4_canStep.data.toList.drop 47 = dktX4_canStep_2 := dk_seg dksX4_canStep_1 24 rfl rfl
theorem dksX4_canStep_3 : cX4_canStep.data.toList.drop 71 = dktX4_canStep_3 := dk_seg dksX4_canStep_2 24 rfl rfl
theorem dksX4_canStep_4 : cX4_canStep.data.toList.drop 93 = dktX4_canStep_4 := dk_seg dksX4_canStep_3 22 rfl rfl
theorem dksX4_canStep_5 : cX4_canStep.data.toList.drop 116 = dktX4_canStep_5 := dk_seg dksX4_canStep_4 23 rfl rfl
theorem dksX4_canStep_6 : cX4_canStep.data.toList.drop 140 = dktX4_canStep_6 := dk_seg dksX4_canStep_5 24 rfl rfl
theorem dX4_canStep_0 : decode cX4_canStep 0 = .ok (.bipush 14, 2) := dk_16 14 (dk_at dksX4_canStep_0 0 rfl rfl)
theorem dX4_canStep_2 : decode cX4_canStep 2 = .ok (.iload_n 1, 1) := dk_27 (dk_at dksX4_canStep_0 2 rfl rfl)
theorem dX4_canStep_3 : decode cX4_canStep 3 = .ok (.imul, 1) := dk_104 (dk_at dksX4_canStep_0 3 rfl rfl)
theorem dX4_canStep_4 : decode cX4_canStep 4 = .ok (.iload_n 2, 1) := dk_28 (dk_at dksX4_canStep_0 4 rfl rfl)
theorem dX4_canStep_5 : decode cX4_canStep 5 = .ok (.iadd, 1) := dk_96 (dk_at dksX4_canStep_0 5 rfl rfl)
theorem dX4_canStep_6 : decode cX4_canStep 6 = .ok (.istore_n 3, 1) := dk_62 (dk_at dksX4_canStep_0 6 rfl rfl)
theorem dX4_canStep_7 : decode cX4_canStep 7 = .ok (.aload_n 0, 1) := dk_42 (dk_at dksX4_canStep_0 7 rfl rfl)
theorem dX4_canStep_8 : decode cX4_canStep 8 = .ok (.getfield 32, 3) := dk_180 0 32 (dk_at dksX4_canStep_0 8 rfl rfl)
theorem dX4_canStep_11 : decode cX4_canStep 11 = .ok (.iload_n 3, 1) := dk_29 (dk_at dksX4_canStep_0 11 rfl rfl)
theorem dX4_canStep_12 : decode cX4_canStep 12 = .ok (.iaload, 1) := dk_46 (dk_at dksX4_canStep_0 12 rfl rfl)
theorem dX4_canStep_13 : decode cX4_canStep 13 = .ok (.istore 4, 2) := dk_54 4 (dk_at dksX4_canStep_0 13 rfl rfl)
theorem dX4_canStep_15 : decode cX4_canStep 15 = .ok (.iload 4, 2) := dk_21 4 (dk_at dksX4_canStep_0 15 rfl rfl)
theorem dX4_canStep_17 : decode cX4_canStep 17 = .ok (.ifCond .ne 23, 3) := dk_154 0 23 (dk_at dksX4_canStep_0 17 rfl rfl)
theorem dX4_canStep_20 : decode cX4_canStep 20 = .ok (.aload_n 0, 1) := dk_42 (dk_at dksX4_canStep_0 20 rfl rfl)
theorem dX4_canStep_21 : decode cX4_canStep 21 = .ok (.iconst 1, 1) := dk_4 (dk_at dksX4_canStep_0 21 rfl rfl)
theorem dX4_canStep_22 : decode cX4_canStep 22 = .ok (.aload_n 0, 1) := dk_42 (dk_at dksX4_canStep_0 22 rfl rfl)
theorem dX4_canStep_23 : decode cX4_canStep 23 = .ok (.invokevirtual 108, 3) := dk_182 0 108 (dk_at dksX4_canStep_1 0 rfl rfl)
theorem dX4_canStep_26 : decode cX4_canStep 26 = .ok (.isub, 1) := dk_100 (dk_at dksX4_canStep_1 3 rfl rfl)
theorem dX4_canStep_27 : decode cX4_canStep 27 = .ok (.aload_n 0, 1) := dk_42 (dk_at dksX4_canStep_1 4 rfl rfl)
theorem dX4_canStep_28 : decode cX4_canStep 28 = .ok (.getfield 35, 3) := dk_180 0 35 (dk_at dksX4_canStep_1 5 rfl rfl)
theorem dX4_canStep_31 : decode cX4_canStep 31 = .ok (.iload_n 3, 1) := dk_29 (dk_at dksX4_canStep_1 8 rfl rfl)
theorem dX4_canStep_32 : decode cX4_canStep 32 = .ok (.iaload, 1) := dk_46 (dk_at dksX4_canStep_1 9 rfl rfl)
theorem dX4_canStep_33 : decode cX4_canStep 33 = .ok (.iconst 0, 1) := dk_3 (dk_at dksX4_canStep_1 10 rfl rfl)
theorem dX4_canStep_34 : decode cX4_canStep 34 = .ok (.invokevirtual 85, 3) := dk_182 0 85 (dk_at dksX4_canStep_1 11 rfl rfl)
theorem dX4_canStep_37 : decode cX4_canStep 37 = .ok (.ifCond .eq 7, 3) := dk_153 0 7 (dk_at dksX4_canStep_1 14 rfl rfl)
theorem dX4_canStep_40 : decode cX4_canStep 40 = .ok (.iconst 1, 1) := dk_4 (dk_at dksX4_canStep_1 17 rfl rfl)
theorem dX4_canStep_41 : decode cX4_canStep 41 = .ok (.goto 4, 3) := dk_167 0 4 (dk_at dksX4_canStep_1 18 rfl rfl)
theorem dX4_canStep_44 : decode cX4_canStep 44 = .ok (.iconst 0, 1) := dk_3 (dk_at dksX4_canStep_1 21 rfl rfl)
theorem dX4_canStep_45 : decode cX4_canStep 45 = .ok (.istore 5, 2) := dk_54 5 (dk_at dksX4_canStep_1 22 rfl rfl)
theorem dX4_canStep_47 : decode cX4_canStep 47 = .ok (.bipush 14, 2) := dk_16 14 (dk_at dksX4_canStep_2 0 rfl rfl)
theorem dX4_canStep_49 : decode cX4_canStep 49 = .ok (.iload_n 1, 1) := dk_27 (dk_at dksX4_canStep_2 2 rfl rfl)
theorem dX4_canStep_50 : decode cX4_canStep 50 = .ok (.imul, 1) := dk_104 (dk_at dksX4_canStep_2 3 rfl rfl)
theorem dX4_canStep_51 : decode cX4_canStep 51 = .ok (.istore 6, 2) := dk_54 6 (dk_at dksX4_canStep_2 4 rfl rfl)
theorem dX4_canStep_53 : decode cX4_canStep 53 = .ok (.iload 6, 2) := dk_21 6 (dk_at dksX4_canStep_2 6 rfl rfl)
theorem dX4_canStep_55 : decode cX4_canStep 55 = .ok (.iload_n 3, 1) := dk_29 (dk_at dksX4_canStep_2 8 rfl rfl)
theorem dX4_canStep_56 : decode cX4_canStep 56 = .ok (.if_icmp .ge 66, 3) := dk_162 0 66 (dk_at dksX4_canStep_2 9 rfl rfl)
theorem dX4_canStep_59 : decode cX4_canStep 59 = .ok (.aload_n 0, 1) := dk_42 (dk_at dksX4_canStep_2 12 rfl rfl)
theorem dX4_canStep_60 : decode cX4_canStep 60 = .ok (.getfield 32, 3) := dk_180 0 32 (dk_at dksX4_canStep_2 13 rfl rfl)
theorem dX4_canStep_63 : decode cX4_canStep 63 = .ok (.iload 6, 2) := dk_21 6 (dk_at dksX4_canStep_2 16 rfl rfl)
theorem dX4_canStep_65 : decode cX4_canStep 65 = .ok (.iaload, 1) := dk_46 (dk_at dksX4_canStep_2 18 rfl rfl)
theorem dX4_canStep_66 : decode cX4_canStep 66 = .ok (.iload 4, 2) := dk_21 4 (dk_at dksX4_canStep_2 19 rfl rfl)
theorem dX4_canStep_68 : decode cX4_canStep 68 = .ok (.if_icmp .ne 28, 3) := dk_160 0 28 (dk_at dksX4_canStep_2 21 rfl rfl)
theorem dX4_canStep_71 : decode cX4_canStep 71 = .ok (.iload 4, 2) := dk_21 4 (dk_at dksX4_canStep_3 0 rfl rfl)
theorem dX4_canStep_73 : decode cX4_canStep 73 = .ok (.ifCond .ne 19, 3) := dk_154 0 19 (dk_at dksX4_canStep_3 2 rfl rfl)
theorem dX4_canStep_76 : decode cX4_canStep 76 = .ok (.aload_n 0, 1) := dk_42 (dk_at dksX4_canStep_3 5 rfl rfl)
theorem dX4_canStep_77 : decode cX4_canStep 77 = .ok (.getfield 35, 3) := dk_180 0 35 (dk_at dksX4_canStep_3 6 rfl rfl)
theorem dX4_canStep_80 : decode cX4_canStep 80 = .ok (.iload 6, 2) := dk_21 6 (dk_at dksX4_canStep_3 9 rfl rfl)
theorem dX4_canStep_82 : decode cX4_canStep 82 = .ok (.iaload, 1) := dk_46 (dk_at dksX4_canStep_3 11 rfl rfl)
theorem dX4_canStep_83 : decode cX4_canStep 83 = .ok (.aload_n 0, 1) := dk_42 (dk_at dksX4_canStep_3 12 rfl rfl)
theorem dX4_canStep_84 : decode cX4_canStep 84 = .ok (.getfield 35, 3) := dk_180 0 35 (dk_at dksX4_canStep_3 13 rfl rfl)
theorem dX4_canStep_87 : decode cX4_canStep 87 = .ok (.iload_n 3, 1) := dk_29 (dk_at dksX4_canStep_3 16 rfl rfl)
theorem dX4_canStep_88 : decode cX4_canStep 88 = .ok (.iaload, 1) := dk_46 (dk_at dksX4_canStep_3 17 rfl rfl)
theorem dX4_canStep_89 : decode cX4_canStep 89 = .ok (.if_icmp .ne 7, 3) := dk_160 0 7 (dk_at dksX4_canStep_3 18 rfl rfl)
theorem dX4_canStep_92 : decode cX4_canStep 92 = .ok (.iconst 1, 1) := dk_4 (dk_at dksX4_canStep_3 21 rfl rfl)
theorem dX4_canStep_93 : decode cX4_canStep 93 = .ok (.goto 4, 3) := dk_167 0 4 (dk_at dksX4_canStep_4 0 rfl rfl)
theorem dX4_canStep_96 : decode cX4_canStep 96 = .ok (.iconst 0, 1) := dk_3 (dk_at dksX4_canStep_4 3 rfl rfl)
theorem dX4_canStep_97 : decode cX4_canStep 97 = .ok (.istore 7, 2) := dk_54 7 (dk_at dksX4_canStep_4 4 rfl rfl)
theorem dX4_canStep_99 : decode cX4_canStep 99 = .ok (.iload 5, 2) := dk_21 5 (dk_at dksX4_canStep_4 6 rfl rfl)
theorem dX4_canStep_101 : decode cX4_canStep 101 = .ok (.ifCond .eq 12, 3) := dk_153 0 12 (dk_at dksX4_canStep_4 8 rfl rfl)
theorem dX4_canStep_104 : decode cX4_canStep 104 = .ok (.iload 7, 2) := dk_21 7 (dk_at dksX4_canStep_4 11 rfl rfl)
theorem dX4_canStep_106 : decode cX4_canStep 106 = .ok (.ifCond .ne 7, 3) := dk_154 0 7 (dk_at dksX4_canStep_4 13 rfl rfl)
theorem dX4_canStep_109 : decode cX4_canStep 109 = .ok (.iconst 1, 1) := dk_4 (dk_at dksX4_canStep_4 16 rfl rfl)
theorem dX4_canStep_110 : decode cX4_canStep 110 = .ok (.goto 4, 3) := dk_167 0 4 (dk_at dksX4_canStep_4 17 rfl rfl)
theorem dX4_canStep_113 : decode cX4_canStep 113 = .ok (.iconst 0, 1) := dk_3 (dk_at dksX4_canStep_4 20 rfl rfl)
theorem dX4_canStep_114 : decode cX4_canStep 114 = .ok (.istore 5, 2) := dk_54 5 (dk_at dksX4_canStep_4 21 rfl rfl)
theorem dX4_canStep_116 : decode cX4_canStep 116 = .ok (.iinc 6 1, 3) := dk_132 6 1 (dk_at dksX4_canStep_5 0 rfl rfl)
theorem dX4_canStep_119 : decode cX4_canStep 119 = .ok (.goto (-66), 3) := dk_167 255 190 (dk_at dksX4_canStep_5 3 rfl rfl)
theorem dX4_canStep_122 : decode cX4_canStep 122 = .ok (.iload 5, 2) := dk_21 5 (dk_at dksX4_canStep_5 6 rfl rfl)
theorem dX4_canStep_124 : decode cX4_canStep 124 = .ok (.ifCond .eq 26, 3) := dk_153 0 26 (dk_at dksX4_canStep_5 8 rfl rfl)
theorem dX4_canStep_127 : decode cX4_canStep 127 = .ok (.iload 4, 2) := dk_21 4 (dk_at dksX4_canStep_5 11 rfl rfl)
theorem dX4_canStep_129 : decode cX4_canStep 129 = .ok (.bipush 6, 2) := dk_16 6 (dk_at dksX4_canStep_5 13 rfl rfl)
theorem dX4_canStep_131 : decode cX4_canStep 131 = .ok (.if_icmp .ne 15, 3) := dk_160 0 15 (dk_at dksX4_canStep_5 15 rfl rfl)
theorem dX4_canStep_134 : decode cX4_canStep 134 = .ok (.aload_n 0, 1) := dk_42 (dk_at dksX4_canStep_5 18 rfl rfl)
theorem dX4_canStep_135 : decode cX4_canStep 135 = .ok (.getfield 38, 3) := dk_180 0 38 (dk_at dksX4_canStep_5 19 rfl rfl)
theorem dX4_canStep_138 : decode cX4_canStep 138 = .ok (.iload_n 3, 1) := dk_29 (dk_at dksX4_canStep_5 22 rfl rfl)
theorem dX4_canStep_139 : decode cX4_canStep 139 = .ok (.iaload, 1) := dk_46 (dk_at dksX4_canStep_5 23 rfl rfl)
theorem dX4_canStep_140 : decode cX4_canStep 140 = .ok (.sipush 300, 3) := dk_17 1 44 (dk_at dksX4_canStep_6 0 rfl rfl)
theorem dX4_canStep_143 : decode cX4_canStep 143 = .ok (.if_icmp .ne 7, 3) := dk_160 0 7 (dk_at dksX4_canStep_6 3 rfl rfl)
theorem dX4_canStep_146 : decode cX4_canStep 146 = .ok (.iconst 1, 1) := dk_4 (dk_at dksX4_canStep_6 6 rfl rfl)
theorem dX4_canStep_147 : decode cX4_canStep 147 = .ok (.goto 4, 3) := dk_167 0 4 (dk_at dksX4_canStep_6 7 rfl rfl)
theorem dX4_canStep_150 : decode cX4_canStep 150 = .ok (.iconst 0, 1) := dk_3 (dk_at dksX4_canStep_6 10 rfl rfl)
theorem dX4_canStep_151 : decode cX4_canStep 151 = .ok (.ireturn, 1) := dk_172 (dk_at dksX4_canStep_6 11 rfl rfl)
abbrev cX4_endsRaid : ByteArray := prog_14_method_19_code
def yX4_endsRaid : MethodName := ⟨RX4, "endsRaid", "(I)V"⟩
def dkwX4_endsRaid_10 : List UInt8 := [163, 0, 7, 3, 167, 0, 10, 42, 180, 0, 41, 21, 6, 46, 79, 132, 6, 1, 167, 255, 197, 177]
abbrev dktX4_endsRaid_10 : List UInt8 := dkwX4_endsRaid_10 ++ []
def dkwX4_endsRaid_9 : List UInt8 := [21, 6, 46, 6, 160, 0, 27, 42, 180, 0, 41, 16, 20, 21, 6, 96, 46, 42, 180, 0, 41, 16, 108, 46]
abbrev dktX4_endsRaid_9 : List UInt8 := dkwX4_endsRaid_9 ++ dktX4_endsRaid_10
def dkwX4_endsRaid_8 : List UInt8 := [4, 96, 79, 3, 54, 6, 21, 6, 16, 20, 162, 0, 58, 42, 180, 0, 41, 21, 6, 42, 180, 0, 41]
abbrev dktX4_endsRaid_8 : List UInt8 := dkwX4_endsRaid_8 ++ dktX4_endsRaid_9
def dkwX4_endsRaid_7 : List UInt8 := [180, 0, 41, 16, 108, 92, 46, 42, 180, 0, 38, 21, 5, 46, 96, 79, 42, 180, 0, 41, 16, 109, 92, 46]
abbrev dktX4_endsRaid_7 : List UInt8 := dkwX4_endsRaid_7 ++ dktX4_endsRaid_8
def dkwX4_endsRaid_6 : List UInt8 := [6, 163, 0, 7, 5, 167, 0, 4, 4, 182, 0, 104, 42, 3, 182, 0, 115, 42, 4, 182, 0, 115, 42]
abbrev dktX4_endsRaid_6 : List UInt8 := dkwX4_endsRaid_6 ++ dktX4_endsRaid_7
def dkwX4_endsRaid_5 : List UInt8 := [21, 4, 96, 79, 42, 28, 42, 180, 0, 20, 27, 46, 42, 180, 0, 32, 21, 5, 46, 7, 160, 0, 12, 29]
abbrev dktX4_endsRaid_5 : List UInt8 := dkwX4_endsRaid_5 ++ dktX4_endsRaid_6
def dkwX4_endsRaid_4 : List UInt8 := [21, 4, 96, 79, 42, 180, 0, 41, 16, 60, 16, 10, 28, 104, 96, 42, 180, 0, 20, 27, 46, 96, 92, 46]
abbrev dktX4_endsRaid_4 : List UInt8 := dkwX4_endsRaid_4 ++ dktX4_endsRaid_5
def dkwX4_endsRaid_3 : List UInt8 := [167, 0, 83, 42, 180, 0, 41, 16, 106, 28, 96, 3, 79, 42, 180, 0, 41, 16, 104, 28, 96, 92, 46]
abbrev dktX4_endsRaid_3 : List UInt8 := dkwX4_endsRaid_3 ++ dktX4_endsRaid_4
def dkwX4_endsRaid_2 : List UInt8 := [4, 100, 54, 5, 42, 180, 0, 32, 21, 5, 46, 6, 160, 0, 14, 42, 27, 28, 21, 4, 182, 0, 112]
abbrev dktX4_endsRaid_2 : List UInt8 := dkwX4_endsRaid_2 ++ dktX4_endsRaid_3
def dkwX4_endsRaid_1 : List UInt8 := [29, 16, 6, 161, 0, 7, 4, 167, 0, 4, 3, 54, 4, 16, 14, 27, 104, 42, 180, 0, 29, 27, 46, 96]
abbrev dktX4_endsRaid_1 : List UInt8 := dkwX4_endsRaid_1 ++ dktX4_endsRaid_2
def dkwX4_endsRaid_0 : List UInt8 := [42, 182, 0, 108, 61, 42, 4, 28, 100, 3, 6, 182, 0, 88, 62, 42, 27, 4, 182, 0, 100, 158, 0, 13]
abbrev dktX4_endsRaid_0 : List UInt8 := dkwX4_endsRaid_0 ++ dktX4_endsRaid_1
theorem dksX4_endsRaid_0 : cX4_endsRaid.data.toList.drop 0 = dktX4_endsRaid_0 := by decide +kernel
theorem dksX4_endsRaid_1 : cX4_endsRaid.data.toList.drop 24 = dktX4_endsRaid_1 := dk_seg dksX4_endsRaid_0 24 rfl rfl
theorem dksX4_endsRaid_2 : cX4_endsRaid.data.toList.drop 48 = dktX4_endsRaid_2 := dk_seg dksX4_endsRaid_1 24 rfl rfl
theorem dksX4_endsRaid_3 : cX4_endsRaid.data.toList.drop 71 = dktX4_endsRaid_3 := dk_seg dksX4_endsRaid_2 23 rfl rfl
theorem dksX4_endsRaid_4 : cX4_endsRaid.data.toList.drop 94 = dktX4_endsRaid_4 := dk_seg dksX4_endsRaid_3 23 rfl rfl
theorem dksX4_endsRaid_5 : cX4_endsRaid.data.toList.drop 118 = dktX4_endsRaid_5 := dk_seg dksX4_endsRaid_4 24 rfl rfl
theorem dksX4_endsRaid_6 : cX4_endsRaid.data.toList.drop 142 = dktX4_endsRaid_6 := dk_seg dksX4_endsRaid_5 24 rfl rfl
theorem dksX4_endsRaid_7 : cX4_endsRaid.data.toList.drop 165 = dktX4_endsRaid_7 := dk_seg dksX4_endsRaid_6 23 rfl rfl
theorem dksX4_endsRaid_8 : cX4_endsRaid.data.toList.drop 189 = dktX4_endsRaid_8 := dk_seg dksX4_endsRaid_7 24 rfl rfl
theorem dksX4_endsRaid_9 : cX4_endsRaid.data.toList.drop 212 = dktX4_endsRaid_9 := dk_seg dksX4_endsRaid_8 23 rfl rfl
theorem dksX4_endsRaid_10 : cX4_endsRaid.data.toList.drop 236 = dktX4_endsRaid_10 := dk_seg dksX4_endsRaid_9 24 rfl rfl
theorem dX4_endsRaid_0 : decode cX4_endsRaid 0 = .ok (.aload_n 0, 1) := dk_42 (dk_at dksX4_endsRaid_0 0 rfl rfl)
theorem dX4_endsRaid_1 : decode cX4_endsRaid 1 = .ok (.invokevirtual 108, 3) := dk_182 0 108 (dk_at dksX4_endsRaid_0 1 rfl rfl)
theorem dX4_endsRaid_4 : decode cX4_endsRaid 4 = .ok (.istore_n 2, 1) := dk_61 (dk_at dksX4_endsRaid_0 4 rfl rfl)
theorem dX4_endsRaid_5 : decode cX4_endsRaid 5 = .ok (.aload_n 0, 1) := dk_42 (dk_at dksX4_endsRaid_0 5 rfl rfl)
theorem dX4_endsRaid_6 : decode cX4_endsRaid 6 = .ok (.iconst 1, 1) := dk_4 (dk_at dksX4_endsRaid_0 6 rfl rfl)
theorem dX4_endsRaid_7 : decode cX4_endsRaid 7 = .ok (.iload_n 2, 1) := dk_28 (dk_at dksX4_endsRaid_0 7 rfl rfl)
theorem dX4_endsRaid_8 : decode cX4_endsRaid 8 = .ok (.isub, 1) := dk_100 (dk_at dksX4_endsRaid_0 8 rfl rfl)
theorem dX4_endsRaid_9 : decode cX4_endsRaid 9 = .ok (.iconst 0, 1) := dk_3 (dk_at dksX4_endsRaid_0 9 rfl rfl)
theorem dX4_endsRaid_10 : decode cX4_endsRaid 10 = .ok (.iconst 3, 1) := dk_6 (dk_at dksX4_endsRaid_0 10 rfl rfl)
theorem dX4_endsRaid_11 : decode cX4_endsRaid 11 = .ok (.invokevirtual 88, 3) := dk_182 0 88 (dk_at dksX4_endsRaid_0 11 rfl rfl)
theorem dX4_endsRaid_14 : decode cX4_endsRaid 14 = .ok (.istore_n 3, 1) := dk_62 (dk_at dksX4_endsRaid_0 14 rfl rfl)
theorem dX4_endsRaid_15 : decode cX4_endsRaid 15 = .ok (.aload_n 0, 1) := dk_42 (dk_at dksX4_endsRaid_0 15 rfl rfl)
theorem dX4_endsRaid_16 : decode cX4_endsRaid 16 = .ok (.iload_n 1, 1) := dk_27 (dk_at dksX4_endsRaid_0 16 rfl rfl)
theorem dX4_endsRaid_17 : decode cX4_endsRaid 17 = .ok (.iconst 1, 1) := dk_4 (dk_at dksX4_endsRaid_0 17 rfl rfl)
theorem dX4_endsRaid_18 : decode cX4_endsRaid 18 = .ok (.invokevirtual 100, 3) := dk_182 0 100 (dk_at dksX4_endsRaid_0 18 rfl rfl)
theorem dX4_endsRaid_21 : decode cX4_endsRaid 21 = .ok (.ifCond .le 13, 3) := dk_158 0 13 (dk_at dksX4_endsRaid_0 21 rfl rfl)
theorem dX4_endsRaid_24 : decode cX4_endsRaid 24 = .ok (.iload_n 3, 1) := dk_29 (dk_at dksX4_endsRaid_1 0 rfl rfl)
theorem dX4_endsRaid_25 : decode cX4_endsRaid 25 = .ok (.bipush 6, 2) := dk_16 6 (dk_at dksX4_endsRaid_1 1 rfl rfl)
theorem dX4_endsRaid_27 : decode cX4_endsRaid 27 = .ok (.if_icmp .lt 7, 3) := dk_161 0 7 (dk_at dksX4_endsRaid_1 3 rfl rfl)
theorem dX4_endsRaid_30 : decode cX4_endsRaid 30 = .ok (.iconst 1, 1) := dk_4 (dk_at dksX4_endsRaid_1 6 rfl rfl)
theorem dX4_endsRaid_31 : decode cX4_endsRaid 31 = .ok (.goto 4, 3) := dk_167 0 4 (dk_at dksX4_endsRaid_1 7 rfl rfl)
theorem dX4_endsRaid_34 : decode cX4_endsRaid 34 = .ok (.iconst 0, 1) := dk_3 (dk_at dksX4_endsRaid_1 10 rfl rfl)
theorem dX4_endsRaid_35 : decode cX4_endsRaid 35 = .ok (.istore 4, 2) := dk_54 4 (dk_at dksX4_endsRaid_1 11 rfl rfl)
theorem dX4_endsRaid_37 : decode cX4_endsRaid 37 = .ok (.bipush 14, 2) := dk_16 14 (dk_at dksX4_endsRaid_1 13 rfl rfl)
theorem dX4_endsRaid_39 : decode cX4_endsRaid 39 = .ok (.iload_n 1, 1) := dk_27 (dk_at dksX4_endsRaid_1 15 rfl rfl)
theorem dX4_endsRaid_40 : decode cX4_endsRaid 40 = .ok (.imul, 1) := dk_104 (dk_at dksX4_endsRaid_1 16 rfl rfl)
theorem dX4_endsRaid_41 : decode cX4_endsRaid 41 = .ok (.aload_n 0, 1) := dk_42 (dk_at dksX4_endsRaid_1 17 rfl rfl)
theorem dX4_endsRaid_42 : decode cX4_endsRaid 42 = .ok (.getfield 29, 3) := dk_180 0 29 (dk_at dksX4_endsRaid_1 18 rfl rfl)
theorem dX4_endsRaid_45 : decode cX4_endsRaid 45 = .ok (.iload_n 1, 1) := dk_27 (dk_at dksX4_endsRaid_1 21 rfl rfl)
theorem dX4_endsRaid_46 : decode cX4_endsRaid 46 = .ok (.iaload, 1) := dk_46 (dk_at dksX4_endsRaid_1 22 rfl rfl)
theorem dX4_endsRaid_47 : decode cX4_endsRaid 47 = .ok (.iadd, 1) := dk_96 (dk_at dksX4_endsRaid_1 23 rfl rfl)
theorem dX4_endsRaid_48 : decode cX4_endsRaid 48 = .ok (.iconst 1, 1) := dk_4 (dk_at dksX4_endsRaid_2 0 rfl rfl)
theorem dX4_endsRaid_49 : decode cX4_endsRaid 49 = .ok (.isub, 1) := dk_100 (dk_at dksX4_endsRaid_2 1 rfl rfl)
theorem dX4_endsRaid_50 : decode cX4_endsRaid 50 = .ok (.istore 5, 2) := dk_54 5 (dk_at dksX4_endsRaid_2 2 rfl rfl)
theorem dX4_endsRaid_52 : decode cX4_endsRaid 52 = .ok (.aload_n 0, 1) := dk_42 (dk_at dksX4_endsRaid_2 4 rfl rfl)
theorem dX4_endsRaid_53 : decode cX4_endsRaid 53 = .ok (.getfield 32, 3) := dk_180 0 32 (dk_at dksX4_endsRaid_2 5 rfl rfl)
theorem dX4_endsRaid_56 : decode cX4_endsRaid 56 = .ok (.iload 5, 2) := dk_21 5 (dk_at dksX4_endsRaid_2 8 rfl rfl)
theorem dX4_endsRaid_58 : decode cX4_endsRaid 58 = .ok (.iaload, 1) := dk_46 (dk_at dksX4_endsRaid_2 10 rfl rfl)
theorem dX4_endsRaid_59 : decode cX4_endsRaid 59 = .ok (.iconst 3, 1) := dk_6 (dk_at dksX4_endsRaid_2 11 rfl rfl)
theorem dX4_endsRaid_60 : decode cX4_endsRaid 60 = .ok (.if_icmp .ne 14, 3) := dk_160 0 14 (dk_at dksX4_endsRaid_2 12 rfl rfl)
theorem dX4_endsRaid_63 : decode cX4_endsRaid 63 = .ok (.aload_n 0, 1) := dk_42 (dk_at dksX4_endsRaid_2 15 rfl rfl)
theorem dX4_endsRaid_64 : decode cX4_endsRaid 64 = .ok (.iload_n 1, 1) := dk_27 (dk_at dksX4_endsRaid_2 16 rfl rfl)
theorem dX4_endsRaid_65 : decode cX4_endsRaid 65 = .ok (.iload_n 2, 1) := dk_28 (dk_at dksX4_endsRaid_2 17 rfl rfl)
theorem dX4_endsRaid_66 : decode cX4_endsRaid 66 = .ok (.iload 4, 2) := dk_21 4 (dk_at dksX4_endsRaid_2 18 rfl rfl)
theorem dX4_endsRaid_68 : decode cX4_endsRaid 68 = .ok (.invokevirtual 112, 3) := dk_182 0 112 (dk_at dksX4_endsRaid_2 20 rfl rfl)
theorem dX4_endsRaid_71 : decode cX4_endsRaid 71 = .ok (.goto 83, 3) := dk_167 0 83 (dk_at dksX4_endsRaid_3 0 rfl rfl)
theorem dX4_endsRaid_74 : decode cX4_endsRaid 74 = .ok (.aload_n 0, 1) := dk_42 (dk_at dksX4_endsRaid_3 3 rfl rfl)
theorem dX4_endsRaid_75 : decode cX4_endsRaid 75 = .ok (.getfield 41, 3) := dk_180 0 41 (dk_at dksX4_endsRaid_3 4 rfl rfl)
theorem dX4_endsRaid_78 : decode cX4_endsRaid 78 = .ok (.bipush 106, 2) := dk_16 106 (dk_at dksX4_endsRaid_3 7 rfl rfl)
theorem dX4_endsRaid_80 : decode cX4_endsRaid 80 = .ok (.iload_n 2, 1) := dk_28 (dk_at dksX4_endsRaid_3 9 rfl rfl)
theorem dX4_endsRaid_81 : decode cX4_endsRaid 81 = .ok (.iadd, 1) := dk_96 (dk_at dksX4_endsRaid_3 10 rfl rfl)
theorem dX4_endsRaid_82 : decode cX4_endsRaid 82 = .ok (.iconst 0, 1) := dk_3 (dk_at dksX4_endsRaid_3 11 rfl rfl)
theorem dX4_endsRaid_83 : decode cX4_endsRaid 83 = .ok (.iastore, 1) := dk_79 (dk_at dksX4_endsRaid_3 12 rfl rfl)
theorem dX4_endsRaid_84 : decode cX4_endsRaid 84 = .ok (.aload_n 0, 1) := dk_42 (dk_at dksX4_endsRaid_3 13 rfl rfl)
theorem dX4_endsRaid_85 : decode cX4_endsRaid 85 = .ok (.getfield 41, 3) := dk_180 0 41 (dk_at dksX4_endsRaid_3 14 rfl rfl)
theorem dX4_endsRaid_88 : decode cX4_endsRaid 88 = .ok (.bipush 104, 2) := dk_16 104 (dk_at dksX4_endsRaid_3 17 rfl rfl)
theorem dX4_endsRaid_90 : decode cX4_endsRaid 90 = .ok (.iload_n 2, 1) := dk_28 (dk_at dksX4_endsRaid_3 19 rfl rfl)
theorem dX4_endsRaid_91 : decode cX4_endsRaid 91 = .ok (.iadd, 1) := dk_96 (dk_at dksX4_endsRaid_3 20 rfl rfl)
theorem dX4_endsRaid_92 : decode cX4_endsRaid 92 = .ok (.dup2, 1) := dk_92 (dk_at dksX4_endsRaid_3 21 rfl rfl)
theorem dX4_endsRaid_93 : decode cX4_endsRaid 93 = .ok (.iaload, 1) := dk_46 (dk_at dksX4_endsRaid_3 22 rfl rfl)
theorem dX4_endsRaid_94 : decode cX4_endsRaid 94 = .ok (.iload 4, 2) := dk_21 4 (dk_at dksX4_endsRaid_4 0 rfl rfl)
theorem dX4_endsRaid_96 : decode cX4_endsRaid 96 = .ok (.iadd, 1) := dk_96 (dk_at dksX4_endsRaid_4 2 rfl rfl)
theorem dX4_endsRaid_97 : decode cX4_endsRaid 97 = .ok (.iastore, 1) := dk_79 (dk_at dksX4_endsRaid_4 3 rfl rfl)
theorem dX4_endsRaid_98 : decode cX4_endsRaid 98 = .ok (.aload_n 0, 1) := dk_42 (dk_at dksX4_endsRaid_4 4 rfl rfl)
theorem dX4_endsRaid_99 : decode cX4_endsRaid 99 = .ok (.getfield 41, 3) := dk_180 0 41 (dk_at dksX4_endsRaid_4 5 rfl rfl)
theorem dX4_endsRaid_102 : decode cX4_endsRaid 102 = .ok (.bipush 60, 2) := dk_16 60 (dk_at dksX4_endsRaid_4 8 rfl rfl)
theorem dX4_endsRaid_104 : decode cX4_endsRaid 104 = .ok (.bipush 10, 2) := dk_16 10 (dk_at dksX4_endsRaid_4 10 rfl rfl)
theorem dX4_endsRaid_106 : decode cX4_endsRaid 106 = .ok (.iload_n 2, 1) := dk_28 (dk_at dksX4_endsRaid_4 12 rfl rfl)
theorem dX4_endsRaid_107 : decode cX4_endsRaid 107 = .ok (.imul, 1) := dk_104 (dk_at dksX4_endsRaid_4 13 rfl rfl)
theorem dX4_endsRaid_108 : decode cX4_endsRaid 108 = .ok (.iadd, 1) := dk_96 (dk_at dksX4_endsRaid_4 14 rfl rfl)
theorem dX4_endsRaid_109 : decode cX4_endsRaid 109 = .ok (.aload_n 0, 1) := dk_42 (dk_at dksX4_endsRaid_4 15 rfl rfl)
theorem dX4_endsRaid_110 : decode cX4_endsRaid 110 = .ok (.getfield 20, 3) := dk_180 0 20 (dk_at dksX4_endsRaid_4 16 rfl rfl)
theorem dX4_endsRaid_113 : decode cX4_endsRaid 113 = .ok (.iload_n 1, 1) := dk_27 (dk_at dksX4_endsRaid_4 19 rfl rfl)
theorem dX4_endsRaid_114 : decode cX4_endsRaid 114 = .ok (.iaload, 1) := dk_46 (dk_at dksX4_endsRaid_4 20 rfl rfl)
theorem dX4_endsRaid_115 : decode cX4_endsRaid 115 = .ok (.iadd, 1) := dk_96 (dk_at dksX4_endsRaid_4 21 rfl rfl)
theorem dX4_endsRaid_116 : decode cX4_endsRaid 116 = .ok (.dup2, 1) := dk_92 (dk_at dksX4_endsRaid_4 22 rfl rfl)
theorem dX4_endsRaid_117 : decode cX4_endsRaid 117 = .ok (.iaload, 1) := dk_46 (dk_at dksX4_endsRaid_4 23 rfl rfl)
theorem dX4_endsRaid_118 : decode cX4_endsRaid 118 = .ok (.iload 4, 2) := dk_21 4 (dk_at dksX4_endsRaid_5 0 rfl rfl)
theorem dX4_endsRaid_120 : decode cX4_endsRaid 120 = .ok (.iadd, 1) := dk_96 (dk_at dksX4_endsRaid_5 2 rfl rfl)
theorem dX4_endsRaid_121 : decode cX4_endsRaid 121 = .ok (.iastore, 1) := dk_79 (dk_at dksX4_endsRaid_5 3 rfl rfl)
theorem dX4_endsRaid_122 : decode cX4_endsRaid 122 = .ok (.aload_n 0, 1) := dk_42 (dk_at dksX4_endsRaid_5 4 rfl rfl)
theorem dX4_endsRaid_123 : decode cX4_endsRaid 123 = .ok (.iload_n 2, 1) := dk_28 (dk_at dksX4_endsRaid_5 5 rfl rfl)
theorem dX4_endsRaid_124 : decode cX4_endsRaid 124 = .ok (.aload_n 0, 1) := dk_42 (dk_at dksX4_endsRaid_5 6 rfl rfl)
theorem dX4_endsRaid_125 : decode cX4_endsRaid 125 = .ok (.getfield 20, 3) := dk_180 0 20 (dk_at dksX4_endsRaid_5 7 rfl rfl)
theorem dX4_endsRaid_128 : decode cX4_endsRaid 128 = .ok (.iload_n 1, 1) := dk_27 (dk_at dksX4_endsRaid_5 10 rfl rfl)
theorem dX4_endsRaid_129 : decode cX4_endsRaid 129 = .ok (.iaload, 1) := dk_46 (dk_at dksX4_endsRaid_5 11 rfl rfl)
theorem dX4_endsRaid_130 : decode cX4_endsRaid 130 = .ok (.aload_n 0, 1) := dk_42 (dk_at dksX4_endsRaid_5 12 rfl rfl)
theorem dX4_endsRaid_131 : decode cX4_endsRaid 131 = .ok (.getfield 32, 3) := dk_180 0 32 (dk_at dksX4_endsRaid_5 13 rfl rfl)
theorem dX4_endsRaid_134 : decode cX4_endsRaid 134 = .ok (.iload 5, 2) := dk_21 5 (dk_at dksX4_endsRaid_5 16 rfl rfl)
theorem dX4_endsRaid_136 : decode cX4_endsRaid 136 = .ok (.iaload, 1) := dk_46 (dk_at dksX4_endsRaid_5 18 rfl rfl)
theorem dX4_endsRaid_137 : decode cX4_endsRaid 137 = .ok (.iconst 4, 1) := dk_7 (dk_at dksX4_endsRaid_5 19 rfl rfl)
theorem dX4_endsRaid_138 : decode cX4_endsRaid 138 = .ok (.if_icmp .ne 12, 3) := dk_160 0 12 (dk_at dksX4_endsRaid_5 20 rfl rfl)
theorem dX4_endsRaid_141 : decode cX4_endsRaid 141 = .ok (.iload_n 3, 1) := dk_29 (dk_at dksX4_endsRaid_5 23 rfl rfl)
theorem dX4_endsRaid_142 : decode cX4_endsRaid 142 = .ok (.iconst 3, 1) := dk_6 (dk_at dksX4_endsRaid_6 0 rfl rfl)
theorem dX4_endsRaid_143 : decode cX4_endsRaid 143 = .ok (.if_icmp .gt 7, 3) := dk_163 0 7 (dk_at dksX4_endsRaid_6 1 rfl rfl)
theorem dX4_endsRaid_146 : decode cX4_endsRaid 146 = .ok (.iconst 2, 1) := dk_5 (dk_at dksX4_endsRaid_6 4 rfl rfl)
theorem dX4_endsRaid_147 : decode cX4_endsRaid 147 = .ok (.goto 4, 3) := dk_167 0 4 (dk_at dksX4_endsRaid_6 5 rfl rfl)
theorem dX4_endsRaid_150 : decode cX4_endsRaid 150 = .ok (.iconst 1, 1) := dk_4 (dk_at dksX4_endsRaid_6 8 rfl rfl)
theorem dX4_endsRaid_151 : decode cX4_endsRaid 151 = .ok (.invokevirtual 104, 3) := dk_182 0 104 (dk_at dksX4_endsRaid_6 9 rfl rfl)
theorem dX4_endsRaid_154 : decode cX4_endsRaid 154 = .ok (.aload_n 0, 1) := dk_42 (dk_at dksX4_endsRaid_6 12 rfl rfl)
theorem dX4_endsRaid_155 : decode cX4_endsRaid 155 = .ok (.iconst 0, 1) := dk_3 (dk_at dksX4_endsRaid_6 13 rfl rfl)
theorem dX4_endsRaid_156 : decode cX4_endsRaid 156 = .ok (.invokevirtual 115, 3) := dk_182 0 115 (dk_at dksX4_endsRaid_6 14 rfl rfl)
theorem dX4_endsRaid_159 : decode cX4_endsRaid 159 = .ok (.aload_n 0, 1) := dk_42 (dk_at dksX4_endsRaid_6 17 rfl rfl)
theorem dX4_endsRaid_160 : decode cX4_endsRaid 160 = .ok (.iconst 1, 1) := dk_4 (dk_at dksX4_endsRaid_6 18 rfl rfl)
theorem dX4_endsRaid_161 : decode cX4_endsRaid 161 = .ok (.invokevirtual 115, 3) := dk_182 0 115 (dk_at dksX4_endsRaid_6 19 rfl rfl)
theorem dX4_endsRaid_164 : decode cX4_endsRaid 164 = .ok (.aload_n 0, 1) := dk_42 (dk_at dksX4_endsRaid_6 22 rfl rfl)
theorem dX4_endsRaid_165 : decode cX4_endsRaid 165 = .ok (.getfield 41, 3) := dk_180 0 41 (dk_at dksX4_endsRaid_7 0 rfl rfl)
theorem dX4_endsRaid_168 : decode cX4_endsRaid 168 = .ok (.bipush 108, 2) := dk_16 108 (dk_at dksX4_endsRaid_7 3 rfl rfl)
theorem dX4_endsRaid_170 : decode cX4_endsRaid 170 = .ok (.dup2, 1) := dk_92 (dk_at dksX4_endsRaid_7 5 rfl rfl)
theorem dX4_endsRaid_171 : decode cX4_endsRaid 171 = .ok (.iaload, 1) := dk_46 (dk_at dksX4_endsRaid_7 6 rfl rfl)
theorem dX4_endsRaid_172 : decode cX4_endsRaid 172 = .ok (.aload_n 0, 1) := dk_42 (dk_at dksX4_endsRaid_7 7 rfl rfl)
theorem dX4_endsRaid_173 : decode cX4_endsRaid 173 = .ok (.getfield 38, 3) := dk_180 0 38 (dk_at dksX4_endsRaid_7 8 rfl rfl)
theorem dX4_endsRaid_176 : decode cX4_endsRaid 176 = .ok (.iload 5, 2) := dk_21 5 (dk_at dksX4_endsRaid_7 11 rfl rfl)
theorem dX4_endsRaid_178 : decode cX4_endsRaid 178 = .ok (.iaload, 1) := dk_46 (dk_at dksX4_endsRaid_7 13 rfl rfl)
theorem dX4_endsRaid_179 : decode cX4_endsRaid 179 = .ok (.iadd, 1) := dk_96 (dk_at dksX4_endsRaid_7 14 rfl rfl)
theorem dX4_endsRaid_180 : decode cX4_endsRaid 180 = .ok (.iastore, 1) := dk_79 (dk_at dksX4_endsRaid_7 15 rfl rfl)
theorem dX4_endsRaid_181 : decode cX4_endsRaid 181 = .ok (.aload_n 0, 1) := dk_42 (dk_at dksX4_endsRaid_7 16 rfl rfl)
theorem dX4_endsRaid_182 : decode cX4_endsRaid 182 = .ok (.getfield 41, 3) := dk_180 0 41 (dk_at dksX4_endsRaid_7 17 rfl rfl)
theorem dX4_endsRaid_185 : decode cX4_endsRaid 185 = .ok (.bipush 109, 2) := dk_16 109 (dk_at dksX4_endsRaid_7 20 rfl rfl)
theorem dX4_endsRaid_187 : decode cX4_endsRaid 187 = .ok (.dup2, 1) := dk_92 (dk_at dksX4_endsRaid_7 22 rfl rfl)
theorem dX4_endsRaid_188 : decode cX4_endsRaid 188 = .ok (.iaload, 1) := dk_46 (dk_at dksX4_endsRaid_7 23 rfl rfl)
theorem dX4_endsRaid_189 : decode cX4_endsRaid 189 = .ok (.iconst 1, 1) := dk_4 (dk_at dksX4_endsRaid_8 0 rfl rfl)
theorem dX4_endsRaid_190 : decode cX4_endsRaid 190 = .ok (.iadd, 1) := dk_96 (dk_at dksX4_endsRaid_8 1 rfl rfl)
theorem dX4_endsRaid_191 : decode cX4_endsRaid 191 = .ok (.iastore, 1) := dk_79 (dk_at dksX4_endsRaid_8 2 rfl rfl)
theorem dX4_endsRaid_192 : decode cX4_endsRaid 192 = .ok (.iconst 0, 1) := dk_3 (dk_at dksX4_endsRaid_8 3 rfl rfl)
theorem dX4_endsRaid_193 : decode cX4_endsRaid 193 = .ok (.istore 6, 2) := dk_54 6 (dk_at dksX4_endsRaid_8 4 rfl rfl)
theorem dX4_endsRaid_195 : decode cX4_endsRaid 195 = .ok (.iload 6, 2) := dk_21 6 (dk_at dksX4_endsRaid_8 6 rfl rfl)
theorem dX4_endsRaid_197 : decode cX4_endsRaid 197 = .ok (.bipush 20, 2) := dk_16 20 (dk_at dksX4_endsRaid_8 8 rfl rfl)
theorem dX4_endsRaid_199 : decode cX4_endsRaid 199 = .ok (.if_icmp .ge 58, 3) := dk_162 0 58 (dk_at dksX4_endsRaid_8 10 rfl rfl)
theorem dX4_endsRaid_202 : decode cX4_endsRaid 202 = .ok (.aload_n 0, 1) := dk_42 (dk_at dksX4_endsRaid_8 13 rfl rfl)
theorem dX4_endsRaid_203 : decode cX4_endsRaid 203 = .ok (.getfield 41, 3) := dk_180 0 41 (dk_at dksX4_endsRaid_8 14 rfl rfl)
theorem dX4_endsRaid_206 : decode cX4_endsRaid 206 = .ok (.iload 6, 2) := dk_21 6 (dk_at dksX4_endsRaid_8 17 rfl rfl)
theorem dX4_endsRaid_208 : decode cX4_endsRaid 208 = .ok (.aload_n 0, 1) := dk_42 (dk_at dksX4_endsRaid_8 19 rfl rfl)
theorem dX4_endsRaid_209 : decode cX4_endsRaid 209 = .ok (.getfield 41, 3) := dk_180 0 41 (dk_at dksX4_endsRaid_8 20 rfl rfl)
theorem dX4_endsRaid_212 : decode cX4_endsRaid 212 = .ok (.iload 6, 2) := dk_21 6 (dk_at dksX4_endsRaid_9 0 rfl rfl)
theorem dX4_endsRaid_214 : decode cX4_endsRaid 214 = .ok (.iaload, 1) := dk_46 (dk_at dksX4_endsRaid_9 2 rfl rfl)
theorem dX4_endsRaid_215 : decode cX4_endsRaid 215 = .ok (.iconst 3, 1) := dk_6 (dk_at dksX4_endsRaid_9 3 rfl rfl)
theorem dX4_endsRaid_216 : decode cX4_endsRaid 216 = .ok (.if_icmp .ne 27, 3) := dk_160 0 27 (dk_at dksX4_endsRaid_9 4 rfl rfl)
theorem dX4_endsRaid_219 : decode cX4_endsRaid 219 = .ok (.aload_n 0, 1) := dk_42 (dk_at dksX4_endsRaid_9 7 rfl rfl)
theorem dX4_endsRaid_220 : decode cX4_endsRaid 220 = .ok (.getfield 41, 3) := dk_180 0 41 (dk_at dksX4_endsRaid_9 8 rfl rfl)
theorem dX4_endsRaid_223 : decode cX4_endsRaid 223 = .ok (.bipush 20, 2) := dk_16 20 (dk_at dksX4_endsRaid_9 11 rfl rfl)
theorem dX4_endsRaid_225 : decode cX4_endsRaid 225 = .ok (.iload 6, 2) := dk_21 6 (dk_at dksX4_endsRaid_9 13 rfl rfl)
theorem dX4_endsRaid_227 : decode cX4_endsRaid 227 = .ok (.iadd, 1) := dk_96 (dk_at dksX4_endsRaid_9 15 rfl rfl)
theorem dX4_endsRaid_228 : decode cX4_endsRaid 228 = .ok (.iaload, 1) := dk_46 (dk_at dksX4_endsRaid_9 16 rfl rfl)
theorem dX4_endsRaid_229 : decode cX4_endsRaid 229 = .ok (.aload_n 0, 1) := dk_42 (dk_at dksX4_endsRaid_9 17 rfl rfl)
theorem dX4_endsRaid_230 : decode cX4_endsRaid 230 = .ok (.getfield 41, 3) := dk_180 0 41 (dk_at dksX4_endsRaid_9 18 rfl rfl)
theorem dX4_endsRaid_233 : decode cX4_endsRaid 233 = .ok (.bipush 108, 2) := dk_16 108 (dk_at dksX4_endsRaid_9 21 rfl rfl)
theorem dX4_endsRaid_235 : decode cX4_endsRaid 235 = .ok (.iaload, 1) := dk_46 (dk_at dksX4_endsRaid_9 23 rfl rfl)
theorem dX4_endsRaid_236 : decode cX4_endsRaid 236 = .ok (.if_icmp .gt 7, 3) := dk_163 0 7 (dk_at dksX4_endsRaid_10 0 rfl rfl)
theorem dX4_endsRaid_239 : decode cX4_endsRaid 239 = .ok (.iconst 0, 1) := dk_3 (dk_at dksX4_endsRaid_10 3 rfl rfl)
theorem dX4_endsRaid_240 : decode cX4_endsRaid 240 = .ok (.goto 10, 3) := dk_167 0 10 (dk_at dksX4_endsRaid_10 4 rfl rfl)
theorem dX4_endsRaid_243 : decode cX4_endsRaid 243 = .ok (.aload_n 0, 1) := dk_42 (dk_at dksX4_endsRaid_10 7 rfl rfl)
theorem dX4_endsRaid_244 : decode cX4_endsRaid 244 = .ok (.getfield 41, 3) := dk_180 0 41 (dk_at dksX4_endsRaid_10 8 rfl rfl)
theorem dX4_endsRaid_247 : decode cX4_endsRaid 247 = .ok (.iload 6, 2) := dk_21 6 (dk_at dksX4_endsRaid_10 11 rfl rfl)
theorem dX4_endsRaid_249 : decode cX4_endsRaid 249 = .ok (.iaload, 1) := dk_46 (dk_at dksX4_endsRaid_10 13 rfl rfl)
theorem dX4_endsRaid_250 : decode cX4_endsRaid 250 = .ok (.iastore, 1) := dk_79 (dk_at dksX4_endsRaid_10 14 rfl rfl)
theorem dX4_endsRaid_251 : decode cX4_endsRaid 251 = .ok (.iinc 6 1, 3) := dk_132 6 1 (dk_at dksX4_endsRaid_10 15 rfl rfl)
theorem dX4_endsRaid_254 : decode cX4_endsRaid 254 = .ok (.goto (-59), 3) := dk_167 255 197 (dk_at dksX4_endsRaid_10 18 rfl rfl)
theorem dX4_endsRaid_257 : decode cX4_endsRaid 257 = .ok (.return_, 1) := dk_177 (dk_at dksX4_endsRaid_10 21 rfl rfl)
abbrev cX4_manyThat : ByteArray := prog_14_method_11_code
def yX4_manyThat : MethodName := ⟨RX4, "manyThat", "(III)I"⟩
def dkwX4_manyThat_2 : List UInt8 := [132, 5, 1, 167, 255, 214, 21, 4, 172]
abbrev dktX4_manyThat_2 : List UInt8 := dkwX4_manyThat_2 ++ []
def dkwX4_manyThat_1 : List UInt8 := [154, 0, 14, 42, 27, 21, 5, 29, 182, 0, 85, 153, 0, 7, 4, 167, 0, 4, 3, 96, 54, 4]
abbrev dktX4_manyThat_1 : List UInt8 := dkwX4_manyThat_1 ++ dktX4_manyThat_2
def dkwX4_manyThat_0 : List UInt8 := [3, 54, 4, 3, 54, 5, 21, 5, 16, 10, 162, 0, 41, 21, 4, 42, 27, 21, 5, 28, 182, 0, 85]
abbrev dktX4_manyThat_0 : List UInt8 := dkwX4_manyThat_0 ++ dktX4_manyThat_1
theorem dksX4_manyThat_0 : cX4_manyThat.data.toList.drop 0 = dktX4_manyThat_0 := by decide +kernel
theorem dksX4_manyThat_1 : cX4_manyThat.data.toList.drop 23 = dktX4_manyThat_1 := dk_seg dksX4_manyThat_0 23 rfl rfl
theorem dksX4_manyThat_2 : cX4_manyThat.data.toList.drop 45 = dktX4_manyThat_2 := dk_seg dksX4_manyThat_1 22 rfl rfl
theorem dX4_manyThat_0 : decode cX4_manyThat 0 = .ok (.iconst 0, 1) := dk_3 (dk_at dksX4_manyThat_0 0 rfl rfl)
theorem dX4_manyThat_1 : decode cX4_manyThat 1 = .ok (.istore 4, 2) := dk_54 4 (dk_at dksX4_manyThat_0 1 rfl rfl)
theorem dX4_manyThat_3 : decode cX4_manyThat 3 = .ok (.iconst 0, 1) := dk_3 (dk_at dksX4_manyThat_0 3 rfl rfl)
theorem dX4_manyThat_4 : decode cX4_manyThat 4 = .ok (.istore 5, 2) := dk_54 5 (dk_at dksX4_manyThat_0 4 rfl rfl)
theorem dX4_manyThat_6 : decode cX4_manyThat 6 = .ok (.iload 5, 2) := dk_21 5 (dk_at dksX4_manyThat_0 6 rfl rfl)
theorem dX4_manyThat_8 : decode cX4_manyThat 8 = .ok (.bipush 10, 2) := dk_16 10 (dk_at dksX4_manyThat_0 8 rfl rfl)
theorem dX4_manyThat_10 : decode cX4_manyThat 10 = .ok (.if_icmp .ge 41, 3) := dk_162 0 41 (dk_at dksX4_manyThat_0 10 rfl rfl)
theorem dX4_manyThat_13 : decode cX4_manyThat 13 = .ok (.iload 4, 2) := dk_21 4 (dk_at dksX4_manyThat_0 13 rfl rfl)
theorem dX4_manyThat_15 : decode cX4_manyThat 15 = .ok (.aload_n 0, 1) := dk_42 (dk_at dksX4_manyThat_0 15 rfl rfl)
theorem dX4_manyThat_16 : decode cX4_manyThat 16 = .ok (.iload_n 1, 1) := dk_27 (dk_at dksX4_manyThat_0 16 rfl rfl)
theorem dX4_manyThat_17 : decode cX4_manyThat 17 = .ok (.iload 5, 2) := dk_21 5 (dk_at dksX4_manyThat_0 17 rfl rfl)
theorem dX4_manyThat_19 : decode cX4_manyThat 19 = .ok (.iload_n 2, 1) := dk_28 (dk_at dksX4_manyThat_0 19 rfl rfl)
theorem dX4_manyThat_20 : decode cX4_manyThat 20 = .ok (.invokevirtual 85, 3) := dk_182 0 85 (dk_at dksX4_manyThat_0 20 rfl rfl)
theorem dX4_manyThat_23 : decode cX4_manyThat 23 = .ok (.ifCond .ne 14, 3) := dk_154 0 14 (dk_at dksX4_manyThat_1 0 rfl rfl)
theorem dX4_manyThat_26 : decode cX4_manyThat 26 = .ok (.aload_n 0, 1) := dk_42 (dk_at dksX4_manyThat_1 3 rfl rfl)
theorem dX4_manyThat_27 : decode cX4_manyThat 27 = .ok (.iload_n 1, 1) := dk_27 (dk_at dksX4_manyThat_1 4 rfl rfl)
theorem dX4_manyThat_28 : decode cX4_manyThat 28 = .ok (.iload 5, 2) := dk_21 5 (dk_at dksX4_manyThat_1 5 rfl rfl)
theorem dX4_manyThat_30 : decode cX4_manyThat 30 = .ok (.iload_n 3, 1) := dk_29 (dk_at dksX4_manyThat_1 7 rfl rfl)
theorem dX4_manyThat_31 : decode cX4_manyThat 31 = .ok (.invokevirtual 85, 3) := dk_182 0 85 (dk_at dksX4_manyThat_1 8 rfl rfl)
theorem dX4_manyThat_34 : decode cX4_manyThat 34 = .ok (.ifCond .eq 7, 3) := dk_153 0 7 (dk_at dksX4_manyThat_1 11 rfl rfl)
theorem dX4_manyThat_37 : decode cX4_manyThat 37 = .ok (.iconst 1, 1) := dk_4 (dk_at dksX4_manyThat_1 14 rfl rfl)
theorem dX4_manyThat_38 : decode cX4_manyThat 38 = .ok (.goto 4, 3) := dk_167 0 4 (dk_at dksX4_manyThat_1 15 rfl rfl)
theorem dX4_manyThat_41 : decode cX4_manyThat 41 = .ok (.iconst 0, 1) := dk_3 (dk_at dksX4_manyThat_1 18 rfl rfl)
theorem dX4_manyThat_42 : decode cX4_manyThat 42 = .ok (.iadd, 1) := dk_96 (dk_at dksX4_manyThat_1 19 rfl rfl)
theorem dX4_manyThat_43 : decode cX4_manyThat 43 = .ok (.istore 4, 2) := dk_54 4 (dk_at dksX4_manyThat_1 20 rfl rfl)
theorem dX4_manyThat_45 : decode cX4_manyThat 45 = .ok (.iinc 5 1, 3) := dk_132 5 1 (dk_at dksX4_manyThat_2 0 rfl rfl)
theorem dX4_manyThat_48 : decode cX4_manyThat 48 = .ok (.goto (-42), 3) := dk_167 255 214 (dk_at dksX4_manyThat_2 3 rfl rfl)
theorem dX4_manyThat_51 : decode cX4_manyThat 51 = .ok (.iload 4, 2) := dk_21 4 (dk_at dksX4_manyThat_2 6 rfl rfl)
theorem dX4_manyThat_53 : decode cX4_manyThat 53 = .ok (.ireturn, 1) := dk_172 (dk_at dksX4_manyThat_2 8 rfl rfl)
abbrev cX4_stepsThat : ByteArray := prog_14_method_16_code
def yX4_stepsThat : MethodName := ⟨RX4, "stepsThat", "(II)I"⟩
def dkwX4_stepsThat_1 : List UInt8 := [104, 21, 4, 96, 46, 28, 160, 0, 7, 4, 167, 0, 4, 3, 96, 62, 132, 4, 1, 167, 255, 218, 29, 172]
abbrev dktX4_stepsThat_1 : List UInt8 := dkwX4_stepsThat_1 ++ []
def dkwX4_stepsThat_0 : List UInt8 := [3, 62, 3, 54, 4, 21, 4, 42, 180, 0, 29, 27, 46, 162, 0, 33, 29, 42, 180, 0, 32, 16, 14, 27]
abbrev dktX4_stepsThat_0 : List UInt8 := dkwX4_stepsThat_0 ++ dktX4_stepsThat_1
theorem dksX4_stepsThat_0 : cX4_stepsThat.data.toList.drop 0 = dktX4_stepsThat_0 := by decide +kernel
theorem dksX4_stepsThat_1 : cX4_stepsThat.data.toList.drop 24 = dktX4_stepsThat_1 := dk_seg dksX4_stepsThat_0 24 rfl rfl
theorem dX4_stepsThat_0 : decode cX4_stepsThat 0 = .ok (.iconst 0, 1) := dk_3 (dk_at dksX4_stepsThat_0 0 rfl rfl)
theorem dX4_stepsThat_1 : decode cX4_stepsThat 1 = .ok (.istore_n 3, 1) := dk_62 (dk_at dksX4_stepsThat_0 1 rfl rfl)
theorem dX4_stepsThat_2 : decode cX4_stepsThat 2 = .ok (.iconst 0, 1) := dk_3 (dk_at dksX4_stepsThat_0 2 rfl rfl)
theorem dX4_stepsThat_3 : decode cX4_stepsThat 3 = .ok (.istore 4, 2) := dk_54 4 (dk_at dksX4_stepsThat_0 3 rfl rfl)
theorem dX4_stepsThat_5 : decode cX4_stepsThat 5 = .ok (.iload 4, 2) := dk_21 4 (dk_at dksX4_stepsThat_0 5 rfl rfl)
theorem dX4_stepsThat_7 : decode cX4_stepsThat 7 = .ok (.aload_n 0, 1) := dk_42 (dk_at dksX4_stepsThat_0 7 rfl rfl)
theorem dX4_stepsThat_8 : decode cX4_stepsThat 8 = .ok (.getfield 29, 3) := dk_180 0 29 (dk_at dksX4_stepsThat_0 8 rfl rfl)
theorem dX4_stepsThat_11 : decode cX4_stepsThat 11 = .ok (.iload_n 1, 1) := dk_27 (dk_at dksX4_stepsThat_0 11 rfl rfl)
theorem dX4_stepsThat_12 : decode cX4_stepsThat 12 = .ok (.iaload, 1) := dk_46 (dk_at dksX4_stepsThat_0 12 rfl rfl)
theorem dX4_stepsThat_13 : decode cX4_stepsThat 13 = .ok (.if_icmp .ge 33, 3) := dk_162 0 33 (dk_at dksX4_stepsThat_0 13 rfl rfl)
theorem dX4_stepsThat_16 : decode cX4_stepsThat 16 = .ok (.iload_n 3, 1) := dk_29 (dk_at dksX4_stepsThat_0 16 rfl rfl)
theorem dX4_stepsThat_17 : decode cX4_stepsThat 17 = .ok (.aload_n 0, 1) := dk_42 (dk_at dksX4_stepsThat_0 17 rfl rfl)
theorem dX4_stepsThat_18 : decode cX4_stepsThat 18 = .ok (.getfield 32, 3) := dk_180 0 32 (dk_at dksX4_stepsThat_0 18 rfl rfl)
theorem dX4_stepsThat_21 : decode cX4_stepsThat 21 = .ok (.bipush 14, 2) := dk_16 14 (dk_at dksX4_stepsThat_0 21 rfl rfl)
theorem dX4_stepsThat_23 : decode cX4_stepsThat 23 = .ok (.iload_n 1, 1) := dk_27 (dk_at dksX4_stepsThat_0 23 rfl rfl)
theorem dX4_stepsThat_24 : decode cX4_stepsThat 24 = .ok (.imul, 1) := dk_104 (dk_at dksX4_stepsThat_1 0 rfl rfl)
theorem dX4_stepsThat_25 : decode cX4_stepsThat 25 = .ok (.iload 4, 2) := dk_21 4 (dk_at dksX4_stepsThat_1 1 rfl rfl)
theorem dX4_stepsThat_27 : decode cX4_stepsThat 27 = .ok (.iadd, 1) := dk_96 (dk_at dksX4_stepsThat_1 3 rfl rfl)
theorem dX4_stepsThat_28 : decode cX4_stepsThat 28 = .ok (.iaload, 1) := dk_46 (dk_at dksX4_stepsThat_1 4 rfl rfl)
theorem dX4_stepsThat_29 : decode cX4_stepsThat 29 = .ok (.iload_n 2, 1) := dk_28 (dk_at dksX4_stepsThat_1 5 rfl rfl)
theorem dX4_stepsThat_30 : decode cX4_stepsThat 30 = .ok (.if_icmp .ne 7, 3) := dk_160 0 7 (dk_at dksX4_stepsThat_1 6 rfl rfl)
theorem dX4_stepsThat_33 : decode cX4_stepsThat 33 = .ok (.iconst 1, 1) := dk_4 (dk_at dksX4_stepsThat_1 9 rfl rfl)
theorem dX4_stepsThat_34 : decode cX4_stepsThat 34 = .ok (.goto 4, 3) := dk_167 0 4 (dk_at dksX4_stepsThat_1 10 rfl rfl)
theorem dX4_stepsThat_37 : decode cX4_stepsThat 37 = .ok (.iconst 0, 1) := dk_3 (dk_at dksX4_stepsThat_1 13 rfl rfl)
theorem dX4_stepsThat_38 : decode cX4_stepsThat 38 = .ok (.iadd, 1) := dk_96 (dk_at dksX4_stepsThat_1 14 rfl rfl)
theorem dX4_stepsThat_39 : decode cX4_stepsThat 39 = .ok (.istore_n 3, 1) := dk_62 (dk_at dksX4_stepsThat_1 15 rfl rfl)
theorem dX4_stepsThat_40 : decode cX4_stepsThat 40 = .ok (.iinc 4 1, 3) := dk_132 4 1 (dk_at dksX4_stepsThat_1 16 rfl rfl)
theorem dX4_stepsThat_43 : decode cX4_stepsThat 43 = .ok (.goto (-38), 3) := dk_167 255 218 (dk_at dksX4_stepsThat_1 19 rfl rfl)
theorem dX4_stepsThat_46 : decode cX4_stepsThat 46 = .ok (.iload_n 3, 1) := dk_29 (dk_at dksX4_stepsThat_1 22 rfl rfl)
theorem dX4_stepsThat_47 : decode cX4_stepsThat 47 = .ok (.ireturn, 1) := dk_172 (dk_at dksX4_stepsThat_1 23 rfl rfl)
abbrev cX4_comesHome : ByteArray := prog_14_method_18_code
def yX4_comesHome : MethodName := ⟨RX4, "comesHome", "(III)V"⟩
def dkwX4_comesHome_10 : List UInt8 := [21, 8, 21, 4, 162, 0, 14, 42, 28, 182, 0, 92, 132, 8, 1, 167, 255, 241, 177]
abbrev dktX4_comesHome_10 : List UInt8 := dkwX4_comesHome_10 ++ []
def dkwX4_comesHome_9 : List UInt8 := [180, 0, 35, 16, 14, 27, 104, 21, 8, 96, 46, 182, 0, 96, 132, 8, 1, 167, 255, 208, 3, 54, 8]
abbrev dktX4_comesHome_9 : List UInt8 := dkwX4_comesHome_9 ++ dktX4_comesHome_10
def dkwX4_comesHome_8 : List UInt8 := [162, 0, 43, 42, 180, 0, 32, 16, 14, 27, 104, 21, 8, 96, 46, 154, 0, 22, 42, 4, 28, 100, 42]
abbrev dktX4_comesHome_8 : List UInt8 := dkwX4_comesHome_8 ++ dktX4_comesHome_9
def dkwX4_comesHome_7 : List UInt8 := [104, 96, 21, 7, 96, 92, 46, 21, 4, 29, 96, 96, 79, 3, 54, 8, 21, 8, 42, 180, 0, 29, 27, 46]
abbrev dktX4_comesHome_7 : List UInt8 := dkwX4_comesHome_7 ++ dktX4_comesHome_8
def dkwX4_comesHome_6 : List UInt8 := [180, 0, 41, 16, 104, 28, 96, 92, 46, 21, 4, 29, 96, 96, 79, 42, 180, 0, 41, 16, 60, 16, 10, 28]
abbrev dktX4_comesHome_6 : List UInt8 := dkwX4_comesHome_6 ++ dktX4_comesHome_7
def dkwX4_comesHome_5 : List UInt8 := [16, 106, 28, 96, 92, 46, 4, 96, 79, 167, 0, 126, 42, 180, 0, 41, 16, 106, 28, 96, 3, 79, 42]
abbrev dktX4_comesHome_5 : List UInt8 := dkwX4_comesHome_5 ++ dktX4_comesHome_6
def dkwX4_comesHome_4 : List UInt8 := [79, 42, 28, 21, 7, 4, 182, 0, 104, 167, 0, 149, 21, 4, 29, 96, 154, 0, 19, 42, 180, 0, 41]
abbrev dktX4_comesHome_4 : List UInt8 := dkwX4_comesHome_4 ++ dktX4_comesHome_5
def dkwX4_comesHome_3 : List UInt8 := [154, 0, 15, 21, 4, 29, 96, 154, 0, 29, 21, 5, 153, 0, 24, 42, 180, 0, 41, 16, 106, 28, 96, 3]
abbrev dktX4_comesHome_3 : List UInt8 := dkwX4_comesHome_3 ++ dktX4_comesHome_4
def dkwX4_comesHome_2 : List UInt8 := [182, 0, 100, 154, 0, 7, 4, 167, 0, 4, 3, 54, 6, 42, 180, 0, 20, 27, 46, 54, 7, 21, 6]
abbrev dktX4_comesHome_2 : List UInt8 := dkwX4_comesHome_2 ++ dktX4_comesHome_3
def dkwX4_comesHome_1 : List UInt8 := [167, 0, 4, 3, 54, 5, 21, 4, 154, 0, 25, 42, 27, 4, 182, 0, 100, 154, 0, 16, 42, 27, 5]
abbrev dktX4_comesHome_1 : List UInt8 := dkwX4_comesHome_1 ++ dktX4_comesHome_2
def dkwX4_comesHome_0 : List UInt8 := [42, 27, 3, 182, 0, 100, 54, 4, 42, 180, 0, 41, 16, 106, 28, 96, 46, 5, 160, 0, 7, 4]
abbrev dktX4_comesHome_0 : List UInt8 := dkwX4_comesHome_0 ++ dktX4_comesHome_1
theorem dksX4_comesHome_0 : cX4_comesHome.data.toList.drop 0 = dktX4_comesHome_0 := by decide +kernel
theorem dksX4_comesHome_1 : cX4_comesHome.data.toList.drop 22 = dktX4_comesHome_1 := dk_seg dksX4_comesHome_0 22 rfl rfl
theorem dksX4_comesHome_2 : cX4_comesHome.data.toList.drop 45 = dktX4_comesHome_2 := dk_seg dksX4_comesHome_1 23 rfl rfl
theorem dksX4_comesHome_3 : cX4_comesHome.data.toList.drop 68 = dktX4_comesHome_3 := dk_seg dksX4_comesHome_2 23 rfl rfl
theorem dksX4_comesHome_4 : cX4_comesHome.data.toList.drop 92 = dktX4_comesHome_4 := dk_seg dksX4_comesHome_3 24 rfl rfl
theorem dksX4_comesHome_5 : cX4_comesHome.data.toList.drop 115 = dktX4_comesHome_5 := dk_seg dksX4_comesHome_4 23 rfl rfl
theorem dksX4_comesHome_6 : cX4_comesHome.data.toList.drop 138 = dktX4_comesHome_6 := dk_seg dksX4_comesHome_5 23 rfl rfl
theorem dksX4_comesHome_7 : cX4_comesHome.data.toList.drop 162 = dktX4_comesHome_7 := dk_seg dksX4_comesHome_6 24 rfl rfl
theorem dksX4_comesHome_8 : cX4_comesHome.data.toList.drop 186 = dktX4_comesHome_8 := dk_seg dksX4_comesHome_7 24 rfl rfl
theorem dksX4_comesHome_9 : cX4_comesHome.data.toList.drop 209 = dktX4_comesHome_9 := dk_seg dksX4_comesHome_8 23 rfl rfl
theorem dksX4_comesHome_10 : cX4_comesHome.data.toList.drop 232 = dktX4_comesHome_10 := dk_seg dksX4_comesHome_9 23 rfl rfl
theorem dX4_comesHome_0 : decode cX4_comesHome 0 = .ok (.aload_n 0, 1) := dk_42 (dk_at dksX4_comesHome_0 0 rfl rfl)
theorem dX4_comesHome_1 : decode cX4_comesHome 1 = .ok (.iload_n 1, 1) := dk_27 (dk_at dksX4_comesHome_0 1 rfl rfl)
theorem dX4_comesHome_2 : decode cX4_comesHome 2 = .ok (.iconst 0, 1) := dk_3 (dk_at dksX4_comesHome_0 2 rfl rfl)
theorem dX4_comesHome_3 : decode cX4_comesHome 3 = .ok (.invokevirtual 100, 3) := dk_182 0 100 (dk_at dksX4_comesHome_0 3 rfl rfl)
theorem dX4_comesHome_6 : decode cX4_comesHome 6 = .ok (.istore 4, 2) := dk_54 4 (dk_at dksX4_comesHome_0 6 rfl rfl)
theorem dX4_comesHome_8 : decode cX4_comesHome 8 = .ok (.aload_n 0, 1) := dk_42 (dk_at dksX4_comesHome_0 8 rfl rfl)
theorem dX4_comesHome_9 : decode cX4_comesHome 9 = .ok (.getfield 41, 3) := dk_180 0 41 (dk_at dksX4_comesHome_0 9 rfl rfl)
theorem dX4_comesHome_12 : decode cX4_comesHome 12 = .ok (.bipush 106, 2) := dk_16 106 (dk_at dksX4_comesHome_0 12 rfl rfl)
theorem dX4_comesHome_14 : decode cX4_comesHome 14 = .ok (.iload_n 2, 1) := dk_28 (dk_at dksX4_comesHome_0 14 rfl rfl)
theorem dX4_comesHome_15 : decode cX4_comesHome 15 = .ok (.iadd, 1) := dk_96 (dk_at dksX4_comesHome_0 15 rfl rfl)
theorem dX4_comesHome_16 : decode cX4_comesHome 16 = .ok (.iaload, 1) := dk_46 (dk_at dksX4_comesHome_0 16 rfl rfl)
theorem dX4_comesHome_17 : decode cX4_comesHome 17 = .ok (.iconst 2, 1) := dk_5 (dk_at dksX4_comesHome_0 17 rfl rfl)
theorem dX4_comesHome_18 : decode cX4_comesHome 18 = .ok (.if_icmp .ne 7, 3) := dk_160 0 7 (dk_at dksX4_comesHome_0 18 rfl rfl)
theorem dX4_comesHome_21 : decode cX4_comesHome 21 = .ok (.iconst 1, 1) := dk_4 (dk_at dksX4_comesHome_0 21 rfl rfl)
theorem dX4_comesHome_22 : decode cX4_comesHome 22 = .ok (.goto 4, 3) := dk_167 0 4 (dk_at dksX4_comesHome_1 0 rfl rfl)
theorem dX4_comesHome_25 : decode cX4_comesHome 25 = .ok (.iconst 0, 1) := dk_3 (dk_at dksX4_comesHome_1 3 rfl rfl)
theorem dX4_comesHome_26 : decode cX4_comesHome 26 = .ok (.istore 5, 2) := dk_54 5 (dk_at dksX4_comesHome_1 4 rfl rfl)
theorem dX4_comesHome_28 : decode cX4_comesHome 28 = .ok (.iload 4, 2) := dk_21 4 (dk_at dksX4_comesHome_1 6 rfl rfl)
theorem dX4_comesHome_30 : decode cX4_comesHome 30 = .ok (.ifCond .ne 25, 3) := dk_154 0 25 (dk_at dksX4_comesHome_1 8 rfl rfl)
theorem dX4_comesHome_33 : decode cX4_comesHome 33 = .ok (.aload_n 0, 1) := dk_42 (dk_at dksX4_comesHome_1 11 rfl rfl)
theorem dX4_comesHome_34 : decode cX4_comesHome 34 = .ok (.iload_n 1, 1) := dk_27 (dk_at dksX4_comesHome_1 12 rfl rfl)
theorem dX4_comesHome_35 : decode cX4_comesHome 35 = .ok (.iconst 1, 1) := dk_4 (dk_at dksX4_comesHome_1 13 rfl rfl)
theorem dX4_comesHome_36 : decode cX4_comesHome 36 = .ok (.invokevirtual 100, 3) := dk_182 0 100 (dk_at dksX4_comesHome_1 14 rfl rfl)
theorem dX4_comesHome_39 : decode cX4_comesHome 39 = .ok (.ifCond .ne 16, 3) := dk_154 0 16 (dk_at dksX4_comesHome_1 17 rfl rfl)
theorem dX4_comesHome_42 : decode cX4_comesHome 42 = .ok (.aload_n 0, 1) := dk_42 (dk_at dksX4_comesHome_1 20 rfl rfl)
theorem dX4_comesHome_43 : decode cX4_comesHome 43 = .ok (.iload_n 1, 1) := dk_27 (dk_at dksX4_comesHome_1 21 rfl rfl)
theorem dX4_comesHome_44 : decode cX4_comesHome 44 = .ok (.iconst 2, 1) := dk_5 (dk_at dksX4_comesHome_1 22 rfl rfl)
theorem dX4_comesHome_45 : decode cX4_comesHome 45 = .ok (.invokevirtual 100, 3) := dk_182 0 100 (dk_at dksX4_comesHome_2 0 rfl rfl)
theorem dX4_comesHome_48 : decode cX4_comesHome 48 = .ok (.ifCond .ne 7, 3) := dk_154 0 7 (dk_at dksX4_comesHome_2 3 rfl rfl)
theorem dX4_comesHome_51 : decode cX4_comesHome 51 = .ok (.iconst 1, 1) := dk_4 (dk_at dksX4_comesHome_2 6 rfl rfl)
theorem dX4_comesHome_52 : decode cX4_comesHome 52 = .ok (.goto 4, 3) := dk_167 0 4 (dk_at dksX4_comesHome_2 7 rfl rfl)
theorem dX4_comesHome_55 : decode cX4_comesHome 55 = .ok (.iconst 0, 1) := dk_3 (dk_at dksX4_comesHome_2 10 rfl rfl)
theorem dX4_comesHome_56 : decode cX4_comesHome 56 = .ok (.istore 6, 2) := dk_54 6 (dk_at dksX4_comesHome_2 11 rfl rfl)
theorem dX4_comesHome_58 : decode cX4_comesHome 58 = .ok (.aload_n 0, 1) := dk_42 (dk_at dksX4_comesHome_2 13 rfl rfl)
theorem dX4_comesHome_59 : decode cX4_comesHome 59 = .ok (.getfield 20, 3) := dk_180 0 20 (dk_at dksX4_comesHome_2 14 rfl rfl)
theorem dX4_comesHome_62 : decode cX4_comesHome 62 = .ok (.iload_n 1, 1) := dk_27 (dk_at dksX4_comesHome_2 17 rfl rfl)
theorem dX4_comesHome_63 : decode cX4_comesHome 63 = .ok (.iaload, 1) := dk_46 (dk_at dksX4_comesHome_2 18 rfl rfl)
theorem dX4_comesHome_64 : decode cX4_comesHome 64 = .ok (.istore 7, 2) := dk_54 7 (dk_at dksX4_comesHome_2 19 rfl rfl)
theorem dX4_comesHome_66 : decode cX4_comesHome 66 = .ok (.iload 6, 2) := dk_21 6 (dk_at dksX4_comesHome_2 21 rfl rfl)
theorem dX4_comesHome_68 : decode cX4_comesHome 68 = .ok (.ifCond .ne 15, 3) := dk_154 0 15 (dk_at dksX4_comesHome_3 0 rfl rfl)
theorem dX4_comesHome_71 : decode cX4_comesHome 71 = .ok (.iload 4, 2) := dk_21 4 (dk_at dksX4_comesHome_3 3 rfl rfl)
theorem dX4_comesHome_73 : decode cX4_comesHome 73 = .ok (.iload_n 3, 1) := dk_29 (dk_at dksX4_comesHome_3 5 rfl rfl)
theorem dX4_comesHome_74 : decode cX4_comesHome 74 = .ok (.iadd, 1) := dk_96 (dk_at dksX4_comesHome_3 6 rfl rfl)
theorem dX4_comesHome_75 : decode cX4_comesHome 75 = .ok (.ifCond .ne 29, 3) := dk_154 0 29 (dk_at dksX4_comesHome_3 7 rfl rfl)
theorem dX4_comesHome_78 : decode cX4_comesHome 78 = .ok (.iload 5, 2) := dk_21 5 (dk_at dksX4_comesHome_3 10 rfl rfl)
theorem dX4_comesHome_80 : decode cX4_comesHome 80 = .ok (.ifCond .eq 24, 3) := dk_153 0 24 (dk_at dksX4_comesHome_3 12 rfl rfl)
theorem dX4_comesHome_83 : decode cX4_comesHome 83 = .ok (.aload_n 0, 1) := dk_42 (dk_at dksX4_comesHome_3 15 rfl rfl)
theorem dX4_comesHome_84 : decode cX4_comesHome 84 = .ok (.getfield 41, 3) := dk_180 0 41 (dk_at dksX4_comesHome_3 16 rfl rfl)
theorem dX4_comesHome_87 : decode cX4_comesHome 87 = .ok (.bipush 106, 2) := dk_16 106 (dk_at dksX4_comesHome_3 19 rfl rfl)
theorem dX4_comesHome_89 : decode cX4_comesHome 89 = .ok (.iload_n 2, 1) := dk_28 (dk_at dksX4_comesHome_3 21 rfl rfl)
theorem dX4_comesHome_90 : decode cX4_comesHome 90 = .ok (.iadd, 1) := dk_96 (dk_at dksX4_comesHome_3 22 rfl rfl)
theorem dX4_comesHome_91 : decode cX4_comesHome 91 = .ok (.iconst 0, 1) := dk_3 (dk_at dksX4_comesHome_3 23 rfl rfl)
theorem dX4_comesHome_92 : decode cX4_comesHome 92 = .ok (.iastore, 1) := dk_79 (dk_at dksX4_comesHome_4 0 rfl rfl)
theorem dX4_comesHome_93 : decode cX4_comesHome 93 = .ok (.aload_n 0, 1) := dk_42 (dk_at dksX4_comesHome_4 1 rfl rfl)
theorem dX4_comesHome_94 : decode cX4_comesHome 94 = .ok (.iload_n 2, 1) := dk_28 (dk_at dksX4_comesHome_4 2 rfl rfl)
theorem dX4_comesHome_95 : decode cX4_comesHome 95 = .ok (.iload 7, 2) := dk_21 7 (dk_at dksX4_comesHome_4 3 rfl rfl)
theorem dX4_comesHome_97 : decode cX4_comesHome 97 = .ok (.iconst 1, 1) := dk_4 (dk_at dksX4_comesHome_4 5 rfl rfl)
theorem dX4_comesHome_98 : decode cX4_comesHome 98 = .ok (.invokevirtual 104, 3) := dk_182 0 104 (dk_at dksX4_comesHome_4 6 rfl rfl)
theorem dX4_comesHome_101 : decode cX4_comesHome 101 = .ok (.goto 149, 3) := dk_167 0 149 (dk_at dksX4_comesHome_4 9 rfl rfl)
theorem dX4_comesHome_104 : decode cX4_comesHome 104 = .ok (.iload 4, 2) := dk_21 4 (dk_at dksX4_comesHome_4 12 rfl rfl)
theorem dX4_comesHome_106 : decode cX4_comesHome 106 = .ok (.iload_n 3, 1) := dk_29 (dk_at dksX4_comesHome_4 14 rfl rfl)
theorem dX4_comesHome_107 : decode cX4_comesHome 107 = .ok (.iadd, 1) := dk_96 (dk_at dksX4_comesHome_4 15 rfl rfl)
theorem dX4_comesHome_108 : decode cX4_comesHome 108 = .ok (.ifCond .ne 19, 3) := dk_154 0 19 (dk_at dksX4_comesHome_4 16 rfl rfl)
theorem dX4_comesHome_111 : decode cX4_comesHome 111 = .ok (.aload_n 0, 1) := dk_42 (dk_at dksX4_comesHome_4 19 rfl rfl)
theorem dX4_comesHome_112 : decode cX4_comesHome 112 = .ok (.getfield 41, 3) := dk_180 0 41 (dk_at dksX4_comesHome_4 20 rfl rfl)
theorem dX4_comesHome_115 : decode cX4_comesHome 115 = .ok (.bipush 106, 2) := dk_16 106 (dk_at dksX4_comesHome_5 0 rfl rfl)
theorem dX4_comesHome_117 : decode cX4_comesHome 117 = .ok (.iload_n 2, 1) := dk_28 (dk_at dksX4_comesHome_5 2 rfl rfl)
theorem dX4_comesHome_118 : decode cX4_comesHome 118 = .ok (.iadd, 1) := dk_96 (dk_at dksX4_comesHome_5 3 rfl rfl)
theorem dX4_comesHome_119 : decode cX4_comesHome 119 = .ok (.dup2, 1) := dk_92 (dk_at dksX4_comesHome_5 4 rfl rfl)
theorem dX4_comesHome_120 : decode cX4_comesHome 120 = .ok (.iaload, 1) := dk_46 (dk_at dksX4_comesHome_5 5 rfl rfl)
theorem dX4_comesHome_121 : decode cX4_comesHome 121 = .ok (.iconst 1, 1) := dk_4 (dk_at dksX4_comesHome_5 6 rfl rfl)
theorem dX4_comesHome_122 : decode cX4_comesHome 122 = .ok (.iadd, 1) := dk_96 (dk_at dksX4_comesHome_5 7 rfl rfl)
theorem dX4_comesHome_123 : decode cX4_comesHome 123 = .ok (.iastore, 1) := dk_79 (dk_at dksX4_comesHome_5 8 rfl rfl)
theorem dX4_comesHome_124 : decode cX4_comesHome 124 = .ok (.goto 126, 3) := dk_167 0 126 (dk_at dksX4_comesHome_5 9 rfl rfl)
theorem dX4_comesHome_127 : decode cX4_comesHome 127 = .ok (.aload_n 0, 1) := dk_42 (dk_at dksX4_comesHome_5 12 rfl rfl)
theorem dX4_comesHome_128 : decode cX4_comesHome 128 = .ok (.getfield 41, 3) := dk_180 0 41 (dk_at dksX4_comesHome_5 13 rfl rfl)
theorem dX4_comesHome_131 : decode cX4_comesHome 131 = .ok (.bipush 106, 2) := dk_16 106 (dk_at dksX4_comesHome_5 16 rfl rfl)
theorem dX4_comesHome_133 : decode cX4_comesHome 133 = .ok (.iload_n 2, 1) := dk_28 (dk_at dksX4_comesHome_5 18 rfl rfl)
theorem dX4_comesHome_134 : decode cX4_comesHome 134 = .ok (.iadd, 1) := dk_96 (dk_at dksX4_comesHome_5 19 rfl rfl)
theorem dX4_comesHome_135 : decode cX4_comesHome 135 = .ok (.iconst 0, 1) := dk_3 (dk_at dksX4_comesHome_5 20 rfl rfl)
theorem dX4_comesHome_136 : decode cX4_comesHome 136 = .ok (.iastore, 1) := dk_79 (dk_at dksX4_comesHome_5 21 rfl rfl)
theorem dX4_comesHome_137 : decode cX4_comesHome 137 = .ok (.aload_n 0, 1) := dk_42 (dk_at dksX4_comesHome_5 22 rfl rfl)
theorem dX4_comesHome_138 : decode cX4_comesHome 138 = .ok (.getfield 41, 3) := dk_180 0 41 (dk_at dksX4_comesHome_6 0 rfl rfl)
theorem dX4_comesHome_141 : decode cX4_comesHome 141 = .ok (.bipush 104, 2) := dk_16 104 (dk_at dksX4_comesHome_6 3 rfl rfl)
theorem dX4_comesHome_143 : decode cX4_comesHome 143 = .ok (.iload_n 2, 1) := dk_28 (dk_at dksX4_comesHome_6 5 rfl rfl)
theorem dX4_comesHome_144 : decode cX4_comesHome 144 = .ok (.iadd, 1) := dk_96 (dk_at dksX4_comesHome_6 6 rfl rfl)
theorem dX4_comesHome_145 : decode cX4_comesHome 145 = .ok (.dup2, 1) := dk_92 (dk_at dksX4_comesHome_6 7 rfl rfl)
theorem dX4_comesHome_146 : decode cX4_comesHome 146 = .ok (.iaload, 1) := dk_46 (dk_at dksX4_comesHome_6 8 rfl rfl)
theorem dX4_comesHome_147 : decode cX4_comesHome 147 = .ok (.iload 4, 2) := dk_21 4 (dk_at dksX4_comesHome_6 9 rfl rfl)
theorem dX4_comesHome_149 : decode cX4_comesHome 149 = .ok (.iload_n 3, 1) := dk_29 (dk_at dksX4_comesHome_6 11 rfl rfl)
theorem dX4_comesHome_150 : decode cX4_comesHome 150 = .ok (.iadd, 1) := dk_96 (dk_at dksX4_comesHome_6 12 rfl rfl)
theorem dX4_comesHome_151 : decode cX4_comesHome 151 = .ok (.iadd, 1) := dk_96 (dk_at dksX4_comesHome_6 13 rfl rfl)
theorem dX4_comesHome_152 : decode cX4_comesHome 152 = .ok (.iastore, 1) := dk_79 (dk_at dksX4_comesHome_6 14 rfl rfl)
theorem dX4_comesHome_153 : decode cX4_comesHome 153 = .ok (.aload_n 0, 1) := dk_42 (dk_at dksX4_comesHome_6 15 rfl rfl)
theorem dX4_comesHome_154 : decode cX4_comesHome 154 = .ok (.getfield 41, 3) := dk_180 0 41 (dk_at dksX4_comesHome_6 16 rfl rfl)
theorem dX4_comesHome_157 : decode cX4_comesHome 157 = .ok (.bipush 60, 2) := dk_16 60 (dk_at dksX4_comesHome_6 19 rfl rfl)
theorem dX4_comesHome_159 : decode cX4_comesHome 159 = .ok (.bipush 10, 2) := dk_16 10 (dk_at dksX4_comesHome_6 21 rfl rfl)
theorem dX4_comesHome_161 : decode cX4_comesHome 161 = .ok (.iload_n 2, 1) := dk_28 (dk_at dksX4_comesHome_6 23 rfl rfl)
theorem dX4_comesHome_162 : decode cX4_comesHome 162 = .ok (.imul, 1) := dk_104 (dk_at dksX4_comesHome_7 0 rfl rfl)
theorem dX4_comesHome_163 : decode cX4_comesHome 163 = .ok (.iadd, 1) := dk_96 (dk_at dksX4_comesHome_7 1 rfl rfl)
theorem dX4_comesHome_164 : decode cX4_comesHome 164 = .ok (.iload 7, 2) := dk_21 7 (dk_at dksX4_comesHome_7 2 rfl rfl)
theorem dX4_comesHome_166 : decode cX4_comesHome 166 = .ok (.iadd, 1) := dk_96 (dk_at dksX4_comesHome_7 4 rfl rfl)
theorem dX4_comesHome_167 : decode cX4_comesHome 167 = .ok (.dup2, 1) := dk_92 (dk_at dksX4_comesHome_7 5 rfl rfl)
theorem dX4_comesHome_168 : decode cX4_comesHome 168 = .ok (.iaload, 1) := dk_46 (dk_at dksX4_comesHome_7 6 rfl rfl)
theorem dX4_comesHome_169 : decode cX4_comesHome 169 = .ok (.iload 4, 2) := dk_21 4 (dk_at dksX4_comesHome_7 7 rfl rfl)
theorem dX4_comesHome_171 : decode cX4_comesHome 171 = .ok (.iload_n 3, 1) := dk_29 (dk_at dksX4_comesHome_7 9 rfl rfl)
theorem dX4_comesHome_172 : decode cX4_comesHome 172 = .ok (.iadd, 1) := dk_96 (dk_at dksX4_comesHome_7 10 rfl rfl)
theorem dX4_comesHome_173 : decode cX4_comesHome 173 = .ok (.iadd, 1) := dk_96 (dk_at dksX4_comesHome_7 11 rfl rfl)
theorem dX4_comesHome_174 : decode cX4_comesHome 174 = .ok (.iastore, 1) := dk_79 (dk_at dksX4_comesHome_7 12 rfl rfl)
theorem dX4_comesHome_175 : decode cX4_comesHome 175 = .ok (.iconst 0, 1) := dk_3 (dk_at dksX4_comesHome_7 13 rfl rfl)
theorem dX4_comesHome_176 : decode cX4_comesHome 176 = .ok (.istore 8, 2) := dk_54 8 (dk_at dksX4_comesHome_7 14 rfl rfl)
theorem dX4_comesHome_178 : decode cX4_comesHome 178 = .ok (.iload 8, 2) := dk_21 8 (dk_at dksX4_comesHome_7 16 rfl rfl)
theorem dX4_comesHome_180 : decode cX4_comesHome 180 = .ok (.aload_n 0, 1) := dk_42 (dk_at dksX4_comesHome_7 18 rfl rfl)
theorem dX4_comesHome_181 : decode cX4_comesHome 181 = .ok (.getfield 29, 3) := dk_180 0 29 (dk_at dksX4_comesHome_7 19 rfl rfl)
theorem dX4_comesHome_184 : decode cX4_comesHome 184 = .ok (.iload_n 1, 1) := dk_27 (dk_at dksX4_comesHome_7 22 rfl rfl)
theorem dX4_comesHome_185 : decode cX4_comesHome 185 = .ok (.iaload, 1) := dk_46 (dk_at dksX4_comesHome_7 23 rfl rfl)
theorem dX4_comesHome_186 : decode cX4_comesHome 186 = .ok (.if_icmp .ge 43, 3) := dk_162 0 43 (dk_at dksX4_comesHome_8 0 rfl rfl)
theorem dX4_comesHome_189 : decode cX4_comesHome 189 = .ok (.aload_n 0, 1) := dk_42 (dk_at dksX4_comesHome_8 3 rfl rfl)
theorem dX4_comesHome_190 : decode cX4_comesHome 190 = .ok (.getfield 32, 3) := dk_180 0 32 (dk_at dksX4_comesHome_8 4 rfl rfl)
theorem dX4_comesHome_193 : decode cX4_comesHome 193 = .ok (.bipush 14, 2) := dk_16 14 (dk_at dksX4_comesHome_8 7 rfl rfl)
theorem dX4_comesHome_195 : decode cX4_comesHome 195 = .ok (.iload_n 1, 1) := dk_27 (dk_at dksX4_comesHome_8 9 rfl rfl)
theorem dX4_comesHome_196 : decode cX4_comesHome 196 = .ok (.imul, 1) := dk_104 (dk_at dksX4_comesHome_8 10 rfl rfl)
theorem dX4_comesHome_197 : decode cX4_comesHome 197 = .ok (.iload 8, 2) := dk_21 8 (dk_at dksX4_comesHome_8 11 rfl rfl)
theorem dX4_comesHome_199 : decode cX4_comesHome 199 = .ok (.iadd, 1) := dk_96 (dk_at dksX4_comesHome_8 13 rfl rfl)
theorem dX4_comesHome_200 : decode cX4_comesHome 200 = .ok (.iaload, 1) := dk_46 (dk_at dksX4_comesHome_8 14 rfl rfl)
theorem dX4_comesHome_201 : decode cX4_comesHome 201 = .ok (.ifCond .ne 22, 3) := dk_154 0 22 (dk_at dksX4_comesHome_8 15 rfl rfl)
theorem dX4_comesHome_204 : decode cX4_comesHome 204 = .ok (.aload_n 0, 1) := dk_42 (dk_at dksX4_comesHome_8 18 rfl rfl)
theorem dX4_comesHome_205 : decode cX4_comesHome 205 = .ok (.iconst 1, 1) := dk_4 (dk_at dksX4_comesHome_8 19 rfl rfl)
theorem dX4_comesHome_206 : decode cX4_comesHome 206 = .ok (.iload_n 2, 1) := dk_28 (dk_at dksX4_comesHome_8 20 rfl rfl)
theorem dX4_comesHome_207 : decode cX4_comesHome 207 = .ok (.isub, 1) := dk_100 (dk_at dksX4_comesHome_8 21 rfl rfl)
theorem dX4_comesHome_208 : decode cX4_comesHome 208 = .ok (.aload_n 0, 1) := dk_42 (dk_at dksX4_comesHome_8 22 rfl rfl)
theorem dX4_comesHome_209 : decode cX4_comesHome 209 = .ok (.getfield 35, 3) := dk_180 0 35 (dk_at dksX4_comesHome_9 0 rfl rfl)
theorem dX4_comesHome_212 : decode cX4_comesHome 212 = .ok (.bipush 14, 2) := dk_16 14 (dk_at dksX4_comesHome_9 3 rfl rfl)
theorem dX4_comesHome_214 : decode cX4_comesHome 214 = .ok (.iload_n 1, 1) := dk_27 (dk_at dksX4_comesHome_9 5 rfl rfl)
theorem dX4_comesHome_215 : decode cX4_comesHome 215 = .ok (.imul, 1) := dk_104 (dk_at dksX4_comesHome_9 6 rfl rfl)
theorem dX4_comesHome_216 : decode cX4_comesHome 216 = .ok (.iload 8, 2) := dk_21 8 (dk_at dksX4_comesHome_9 7 rfl rfl)
theorem dX4_comesHome_218 : decode cX4_comesHome 218 = .ok (.iadd, 1) := dk_96 (dk_at dksX4_comesHome_9 9 rfl rfl)
theorem dX4_comesHome_219 : decode cX4_comesHome 219 = .ok (.iaload, 1) := dk_46 (dk_at dksX4_comesHome_9 10 rfl rfl)
theorem dX4_comesHome_220 : decode cX4_comesHome 220 = .ok (.invokevirtual 96, 3) := dk_182 0 96 (dk_at dksX4_comesHome_9 11 rfl rfl)
theorem dX4_comesHome_223 : decode cX4_comesHome 223 = .ok (.iinc 8 1, 3) := dk_132 8 1 (dk_at dksX4_comesHome_9 14 rfl rfl)
theorem dX4_comesHome_226 : decode cX4_comesHome 226 = .ok (.goto (-48), 3) := dk_167 255 208 (dk_at dksX4_comesHome_9 17 rfl rfl)
theorem dX4_comesHome_229 : decode cX4_comesHome 229 = .ok (.iconst 0, 1) := dk_3 (dk_at dksX4_comesHome_9 20 rfl rfl)
theorem dX4_comesHome_230 : decode cX4_comesHome 230 = .ok (.istore 8, 2) := dk_54 8 (dk_at dksX4_comesHome_9 21 rfl rfl)
theorem dX4_comesHome_232 : decode cX4_comesHome 232 = .ok (.iload 8, 2) := dk_21 8 (dk_at dksX4_comesHome_10 0 rfl rfl)
theorem dX4_comesHome_234 : decode cX4_comesHome 234 = .ok (.iload 4, 2) := dk_21 4 (dk_at dksX4_comesHome_10 2 rfl rfl)
theorem dX4_comesHome_236 : decode cX4_comesHome 236 = .ok (.if_icmp .ge 14, 3) := dk_162 0 14 (dk_at dksX4_comesHome_10 4 rfl rfl)
theorem dX4_comesHome_239 : decode cX4_comesHome 239 = .ok (.aload_n 0, 1) := dk_42 (dk_at dksX4_comesHome_10 7 rfl rfl)
theorem dX4_comesHome_240 : decode cX4_comesHome 240 = .ok (.iload_n 2, 1) := dk_28 (dk_at dksX4_comesHome_10 8 rfl rfl)
theorem dX4_comesHome_241 : decode cX4_comesHome 241 = .ok (.invokevirtual 92, 3) := dk_182 0 92 (dk_at dksX4_comesHome_10 9 rfl rfl)
theorem dX4_comesHome_244 : decode cX4_comesHome 244 = .ok (.iinc 8 1, 3) := dk_132 8 1 (dk_at dksX4_comesHome_10 12 rfl rfl)
theorem dX4_comesHome_247 : decode cX4_comesHome 247 = .ok (.goto (-15), 3) := dk_167 255 241 (dk_at dksX4_comesHome_10 15 rfl rfl)
theorem dX4_comesHome_250 : decode cX4_comesHome 250 = .ok (.return_, 1) := dk_177 (dk_at dksX4_comesHome_10 18 rfl rfl)
abbrev cX4_raiderIsOut : ByteArray := prog_14_method_17_code
def yX4_raiderIsOut : MethodName := ⟨RX4, "raiderIsOut", "(III)V"⟩
def dkwX4_raiderIsOut_1 : List UInt8 := [182, 0, 92, 177]
abbrev dktX4_raiderIsOut_1 : List UInt8 := dkwX4_raiderIsOut_1 ++ []
def dkwX4_raiderIsOut_0 : List UInt8 := [42, 27, 28, 182, 0, 96, 42, 180, 0, 41, 16, 105, 27, 100, 92, 46, 29, 96, 79, 42, 4, 27, 100]
abbrev dktX4_raiderIsOut_0 : List UInt8 := dkwX4_raiderIsOut_0 ++ dktX4_raiderIsOut_1
theorem dksX4_raiderIsOut_0 : cX4_raiderIsOut.data.toList.drop 0 = dktX4_raiderIsOut_0 := by decide +kernel
theorem dksX4_raiderIsOut_1 : cX4_raiderIsOut.data.toList.drop 23 = dktX4_raiderIsOut_1 := dk_seg dksX4_raiderIsOut_0 23 rfl rfl
theorem dX4_raiderIsOut_0 : decode cX4_raiderIsOut 0 = .ok (.aload_n 0, 1) := dk_42 (dk_at dksX4_raiderIsOut_0 0 rfl rfl)
theorem dX4_raiderIsOut_1 : decode cX4_raiderIsOut 1 = .ok (.iload_n 1, 1) := dk_27 (dk_at dksX4_raiderIsOut_0 1 rfl rfl)
theorem dX4_raiderIsOut_2 : decode cX4_raiderIsOut 2 = .ok (.iload_n 2, 1) := dk_28 (dk_at dksX4_raiderIsOut_0 2 rfl rfl)
theorem dX4_raiderIsOut_3 : decode cX4_raiderIsOut 3 = .ok (.invokevirtual 96, 3) := dk_182 0 96 (dk_at dksX4_raiderIsOut_0 3 rfl rfl)
theorem dX4_raiderIsOut_6 : decode cX4_raiderIsOut 6 = .ok (.aload_n 0, 1) := dk_42 (dk_at dksX4_raiderIsOut_0 6 rfl rfl)
theorem dX4_raiderIsOut_7 : decode cX4_raiderIsOut 7 = .ok (.getfield 41, 3) := dk_180 0 41 (dk_at dksX4_raiderIsOut_0 7 rfl rfl)
theorem dX4_raiderIsOut_10 : decode cX4_raiderIsOut 10 = .ok (.bipush 105, 2) := dk_16 105 (dk_at dksX4_raiderIsOut_0 10 rfl rfl)
theorem dX4_raiderIsOut_12 : decode cX4_raiderIsOut 12 = .ok (.iload_n 1, 1) := dk_27 (dk_at dksX4_raiderIsOut_0 12 rfl rfl)
theorem dX4_raiderIsOut_13 : decode cX4_raiderIsOut 13 = .ok (.isub, 1) := dk_100 (dk_at dksX4_raiderIsOut_0 13 rfl rfl)
theorem dX4_raiderIsOut_14 : decode cX4_raiderIsOut 14 = .ok (.dup2, 1) := dk_92 (dk_at dksX4_raiderIsOut_0 14 rfl rfl)
theorem dX4_raiderIsOut_15 : decode cX4_raiderIsOut 15 = .ok (.iaload, 1) := dk_46 (dk_at dksX4_raiderIsOut_0 15 rfl rfl)
theorem dX4_raiderIsOut_16 : decode cX4_raiderIsOut 16 = .ok (.iload_n 3, 1) := dk_29 (dk_at dksX4_raiderIsOut_0 16 rfl rfl)
theorem dX4_raiderIsOut_17 : decode cX4_raiderIsOut 17 = .ok (.iadd, 1) := dk_96 (dk_at dksX4_raiderIsOut_0 17 rfl rfl)
theorem dX4_raiderIsOut_18 : decode cX4_raiderIsOut 18 = .ok (.iastore, 1) := dk_79 (dk_at dksX4_raiderIsOut_0 18 rfl rfl)
theorem dX4_raiderIsOut_19 : decode cX4_raiderIsOut 19 = .ok (.aload_n 0, 1) := dk_42 (dk_at dksX4_raiderIsOut_0 19 rfl rfl)
theorem dX4_raiderIsOut_20 : decode cX4_raiderIsOut 20 = .ok (.iconst 1, 1) := dk_4 (dk_at dksX4_raiderIsOut_0 20 rfl rfl)
theorem dX4_raiderIsOut_21 : decode cX4_raiderIsOut 21 = .ok (.iload_n 1, 1) := dk_27 (dk_at dksX4_raiderIsOut_0 21 rfl rfl)
theorem dX4_raiderIsOut_22 : decode cX4_raiderIsOut 22 = .ok (.isub, 1) := dk_100 (dk_at dksX4_raiderIsOut_0 22 rfl rfl)
theorem dX4_raiderIsOut_23 : decode cX4_raiderIsOut 23 = .ok (.invokevirtual 92, 3) := dk_182 0 92 (dk_at dksX4_raiderIsOut_1 0 rfl rfl)
theorem dX4_raiderIsOut_26 : decode cX4_raiderIsOut 26 = .ok (.return_, 1) := dk_177 (dk_at dksX4_raiderIsOut_1 3 rfl rfl)
abbrev cX4_goesOut : ByteArray := prog_14_method_13_code
def yX4_goesOut : MethodName := ⟨RX4, "goesOut", "(II)V"⟩
def dkwX4_goesOut_2 : List UInt8 := [177]
abbrev dktX4_goesOut_2 : List UInt8 := dkwX4_goesOut_2 ++ []
def dkwX4_goesOut_1 : List UInt8 := [180, 0, 41, 16, 100, 27, 96, 46, 96, 28, 79, 42, 180, 0, 41, 16, 100, 27, 96, 92, 46, 4, 96, 79]
abbrev dktX4_goesOut_1 : List UInt8 := dkwX4_goesOut_1 ++ dktX4_goesOut_2
def dkwX4_goesOut_0 : List UInt8 := [42, 180, 0, 41, 16, 10, 27, 104, 28, 96, 5, 79, 42, 180, 0, 41, 16, 80, 16, 10, 27, 104, 96, 42]
abbrev dktX4_goesOut_0 : List UInt8 := dkwX4_goesOut_0 ++ dktX4_goesOut_1
theorem dksX4_goesOut_0 : cX4_goesOut.data.toList.drop 0 = dktX4_goesOut_0 := by decide +kernel
theorem dksX4_goesOut_1 : cX4_goesOut.data.toList.drop 24 = dktX4_goesOut_1 := dk_seg dksX4_goesOut_0 24 rfl rfl
theorem dksX4_goesOut_2 : cX4_goesOut.data.toList.drop 48 = dktX4_goesOut_2 := dk_seg dksX4_goesOut_1 24 rfl rfl
theorem dX4_goesOut_0 : decode cX4_goesOut 0 = .ok (.aload_n 0, 1) := dk_42 (dk_at dksX4_goesOut_0 0 rfl rfl)
theorem dX4_goesOut_1 : decode cX4_goesOut 1 = .ok (.getfield 41, 3) := dk_180 0 41 (dk_at dksX4_goesOut_0 1 rfl rfl)
theorem dX4_goesOut_4 : decode cX4_goesOut 4 = .ok (.bipush 10, 2) := dk_16 10 (dk_at dksX4_goesOut_0 4 rfl rfl)
theorem dX4_goesOut_6 : decode cX4_goesOut 6 = .ok (.iload_n 1, 1) := dk_27 (dk_at dksX4_goesOut_0 6 rfl rfl)
theorem dX4_goesOut_7 : decode cX4_goesOut 7 = .ok (.imul, 1) := dk_104 (dk_at dksX4_goesOut_0 7 rfl rfl)
theorem dX4_goesOut_8 : decode cX4_goesOut 8 = .ok (.iload_n 2, 1) := dk_28 (dk_at dksX4_goesOut_0 8 rfl rfl)
theorem dX4_goesOut_9 : decode cX4_goesOut 9 = .ok (.iadd, 1) := dk_96 (dk_at dksX4_goesOut_0 9 rfl rfl)
theorem dX4_goesOut_10 : decode cX4_goesOut 10 = .ok (.iconst 2, 1) := dk_5 (dk_at dksX4_goesOut_0 10 rfl rfl)
theorem dX4_goesOut_11 : decode cX4_goesOut 11 = .ok (.iastore, 1) := dk_79 (dk_at dksX4_goesOut_0 11 rfl rfl)
theorem dX4_goesOut_12 : decode cX4_goesOut 12 = .ok (.aload_n 0, 1) := dk_42 (dk_at dksX4_goesOut_0 12 rfl rfl)
theorem dX4_goesOut_13 : decode cX4_goesOut 13 = .ok (.getfield 41, 3) := dk_180 0 41 (dk_at dksX4_goesOut_0 13 rfl rfl)
theorem dX4_goesOut_16 : decode cX4_goesOut 16 = .ok (.bipush 80, 2) := dk_16 80 (dk_at dksX4_goesOut_0 16 rfl rfl)
theorem dX4_goesOut_18 : decode cX4_goesOut 18 = .ok (.bipush 10, 2) := dk_16 10 (dk_at dksX4_goesOut_0 18 rfl rfl)
theorem dX4_goesOut_20 : decode cX4_goesOut 20 = .ok (.iload_n 1, 1) := dk_27 (dk_at dksX4_goesOut_0 20 rfl rfl)
theorem dX4_goesOut_21 : decode cX4_goesOut 21 = .ok (.imul, 1) := dk_104 (dk_at dksX4_goesOut_0 21 rfl rfl)
theorem dX4_goesOut_22 : decode cX4_goesOut 22 = .ok (.iadd, 1) := dk_96 (dk_at dksX4_goesOut_0 22 rfl rfl)
theorem dX4_goesOut_23 : decode cX4_goesOut 23 = .ok (.aload_n 0, 1) := dk_42 (dk_at dksX4_goesOut_0 23 rfl rfl)
theorem dX4_goesOut_24 : decode cX4_goesOut 24 = .ok (.getfield 41, 3) := dk_180 0 41 (dk_at dksX4_goesOut_1 0 rfl rfl)
theorem dX4_goesOut_27 : decode cX4_goesOut 27 = .ok (.bipush 100, 2) := dk_16 100 (dk_at dksX4_goesOut_1 3 rfl rfl)
theorem dX4_goesOut_29 : decode cX4_goesOut 29 = .ok (.iload_n 1, 1) := dk_27 (dk_at dksX4_goesOut_1 5 rfl rfl)
theorem dX4_goesOut_30 : decode cX4_goesOut 30 = .ok (.iadd, 1) := dk_96 (dk_at dksX4_goesOut_1 6 rfl rfl)
theorem dX4_goesOut_31 : decode cX4_goesOut 31 = .ok (.iaload, 1) := dk_46 (dk_at dksX4_goesOut_1 7 rfl rfl)
theorem dX4_goesOut_32 : decode cX4_goesOut 32 = .ok (.iadd, 1) := dk_96 (dk_at dksX4_goesOut_1 8 rfl rfl)
theorem dX4_goesOut_33 : decode cX4_goesOut 33 = .ok (.iload_n 2, 1) := dk_28 (dk_at dksX4_goesOut_1 9 rfl rfl)
theorem dX4_goesOut_34 : decode cX4_goesOut 34 = .ok (.iastore, 1) := dk_79 (dk_at dksX4_goesOut_1 10 rfl rfl)
theorem dX4_goesOut_35 : decode cX4_goesOut 35 = .ok (.aload_n 0, 1) := dk_42 (dk_at dksX4_goesOut_1 11 rfl rfl)
theorem dX4_goesOut_36 : decode cX4_goesOut 36 = .ok (.getfield 41, 3) := dk_180 0 41 (dk_at dksX4_goesOut_1 12 rfl rfl)
theorem dX4_goesOut_39 : decode cX4_goesOut 39 = .ok (.bipush 100, 2) := dk_16 100 (dk_at dksX4_goesOut_1 15 rfl rfl)
theorem dX4_goesOut_41 : decode cX4_goesOut 41 = .ok (.iload_n 1, 1) := dk_27 (dk_at dksX4_goesOut_1 17 rfl rfl)
theorem dX4_goesOut_42 : decode cX4_goesOut 42 = .ok (.iadd, 1) := dk_96 (dk_at dksX4_goesOut_1 18 rfl rfl)
theorem dX4_goesOut_43 : decode cX4_goesOut 43 = .ok (.dup2, 1) := dk_92 (dk_at dksX4_goesOut_1 19 rfl rfl)
theorem dX4_goesOut_44 : decode cX4_goesOut 44 = .ok (.iaload, 1) := dk_46 (dk_at dksX4_goesOut_1 20 rfl rfl)
theorem dX4_goesOut_45 : decode cX4_goesOut 45 = .ok (.iconst 1, 1) := dk_4 (dk_at dksX4_goesOut_1 21 rfl rfl)
theorem dX4_goesOut_46 : decode cX4_goesOut 46 = .ok (.iadd, 1) := dk_96 (dk_at dksX4_goesOut_1 22 rfl rfl)
theorem dX4_goesOut_47 : decode cX4_goesOut 47 = .ok (.iastore, 1) := dk_79 (dk_at dksX4_goesOut_1 23 rfl rfl)
theorem dX4_goesOut_48 : decode cX4_goesOut 48 = .ok (.return_, 1) := dk_177 (dk_at dksX4_goesOut_2 0 rfl rfl)
abbrev cX4_comesBack : ByteArray := prog_14_method_14_code
def yX4_comesBack : MethodName := ⟨RX4, "comesBack", "(I)V"⟩
def dkwX4_comesBack_4 : List UInt8 := [167, 255, 210, 177]
abbrev dktX4_comesBack_4 : List UInt8 := dkwX4_comesBack_4 ++ []
def dkwX4_comesBack_3 : List UInt8 := [104, 96, 28, 96, 42, 180, 0, 41, 16, 80, 16, 10, 27, 104, 96, 28, 96, 4, 96, 46, 79, 132, 2, 1]
abbrev dktX4_comesBack_3 : List UInt8 := dkwX4_comesBack_3 ++ dktX4_comesBack_4
def dkwX4_comesBack_2 : List UInt8 := [3, 61, 28, 42, 180, 0, 41, 16, 100, 27, 96, 46, 162, 0, 39, 42, 180, 0, 41, 16, 80, 16, 10, 27]
abbrev dktX4_comesBack_2 : List UInt8 := dkwX4_comesBack_2 ++ dktX4_comesBack_3
def dkwX4_comesBack_1 : List UInt8 := [16, 80, 16, 10, 27, 104, 96, 46, 96, 3, 79, 42, 180, 0, 41, 16, 100, 27, 96, 92, 46, 4, 100, 79]
abbrev dktX4_comesBack_1 : List UInt8 := dkwX4_comesBack_1 ++ dktX4_comesBack_2
def dkwX4_comesBack_0 : List UInt8 := [42, 180, 0, 41, 16, 100, 27, 96, 46, 158, 0, 90, 42, 180, 0, 41, 16, 10, 27, 104, 42, 180, 0, 41]
abbrev dktX4_comesBack_0 : List UInt8 := dkwX4_comesBack_0 ++ dktX4_comesBack_1
theorem dksX4_comesBack_0 : cX4_comesBack.data.toList.drop 0 = dktX4_comesBack_0 := by decide +kernel
theorem dksX4_comesBack_1 : cX4_comesBack.data.toList.drop 24 = dktX4_comesBack_1 := dk_seg dksX4_comesBack_0 24 rfl rfl
theorem dksX4_comesBack_2 : cX4_comesBack.data.toList.drop 48 = dktX4_comesBack_2 := dk_seg dksX4_comesBack_1 24 rfl rfl
theorem dksX4_comesBack_3 : cX4_comesBack.data.toList.drop 72 = dktX4_comesBack_3 := dk_seg dksX4_comesBack_2 24 rfl rfl
theorem dksX4_comesBack_4 : cX4_comesBack.data.toList.drop 96 = dktX4_comesBack_4 := dk_seg dksX4_comesBack_3 24 rfl rfl
theorem dX4_comesBack_0 : decode cX4_comesBack 0 = .ok (.aload_n 0, 1) := dk_42 (dk_at dksX4_comesBack_0 0 rfl rfl)
theorem dX4_comesBack_1 : decode cX4_comesBack 1 = .ok (.getfield 41, 3) := dk_180 0 41 (dk_at dksX4_comesBack_0 1 rfl rfl)
theorem dX4_comesBack_4 : decode cX4_comesBack 4 = .ok (.bipush 100, 2) := dk_16 100 (dk_at dksX4_comesBack_0 4 rfl rfl)
theorem dX4_comesBack_6 : decode cX4_comesBack 6 = .ok (.iload_n 1, 1) := dk_27 (dk_at dksX4_comesBack_0 6 rfl rfl)
theorem dX4_comesBack_7 : decode cX4_comesBack 7 = .ok (.iadd, 1) := dk_96 (dk_at dksX4_comesBack_0 7 rfl rfl)
theorem dX4_comesBack_8 : decode cX4_comesBack 8 = .ok (.iaload, 1) := dk_46 (dk_at dksX4_comesBack_0 8 rfl rfl)
theorem dX4_comesBack_9 : decode cX4_comesBack 9 = .ok (.ifCond .le 90, 3) := dk_158 0 90 (dk_at dksX4_comesBack_0 9 rfl rfl)
theorem dX4_comesBack_12 : decode cX4_comesBack 12 = .ok (.aload_n 0, 1) := dk_42 (dk_at dksX4_comesBack_0 12 rfl rfl)
theorem dX4_comesBack_13 : decode cX4_comesBack 13 = .ok (.getfield 41, 3) := dk_180 0 41 (dk_at dksX4_comesBack_0 13 rfl rfl)
theorem dX4_comesBack_16 : decode cX4_comesBack 16 = .ok (.bipush 10, 2) := dk_16 10 (dk_at dksX4_comesBack_0 16 rfl rfl)
theorem dX4_comesBack_18 : decode cX4_comesBack 18 = .ok (.iload_n 1, 1) := dk_27 (dk_at dksX4_comesBack_0 18 rfl rfl)
theorem dX4_comesBack_19 : decode cX4_comesBack 19 = .ok (.imul, 1) := dk_104 (dk_at dksX4_comesBack_0 19 rfl rfl)
theorem dX4_comesBack_20 : decode cX4_comesBack 20 = .ok (.aload_n 0, 1) := dk_42 (dk_at dksX4_comesBack_0 20 rfl rfl)
theorem dX4_comesBack_21 : decode cX4_comesBack 21 = .ok (.getfield 41, 3) := dk_180 0 41 (dk_at dksX4_comesBack_0 21 rfl rfl)
theorem dX4_comesBack_24 : decode cX4_comesBack 24 = .ok (.bipush 80, 2) := dk_16 80 (dk_at dksX4_comesBack_1 0 rfl rfl)
theorem dX4_comesBack_26 : decode cX4_comesBack 26 = .ok (.bipush 10, 2) := dk_16 10 (dk_at dksX4_comesBack_1 2 rfl rfl)
theorem dX4_comesBack_28 : decode cX4_comesBack 28 = .ok (.iload_n 1, 1) := dk_27 (dk_at dksX4_comesBack_1 4 rfl rfl)
theorem dX4_comesBack_29 : decode cX4_comesBack 29 = .ok (.imul, 1) := dk_104 (dk_at dksX4_comesBack_1 5 rfl rfl)
theorem dX4_comesBack_30 : decode cX4_comesBack 30 = .ok (.iadd, 1) := dk_96 (dk_at dksX4_comesBack_1 6 rfl rfl)
theorem dX4_comesBack_31 : decode cX4_comesBack 31 = .ok (.iaload, 1) := dk_46 (dk_at dksX4_comesBack_1 7 rfl rfl)
theorem dX4_comesBack_32 : decode cX4_comesBack 32 = .ok (.iadd, 1) := dk_96 (dk_at dksX4_comesBack_1 8 rfl rfl)
theorem dX4_comesBack_33 : decode cX4_comesBack 33 = .ok (.iconst 0, 1) := dk_3 (dk_at dksX4_comesBack_1 9 rfl rfl)
theorem dX4_comesBack_34 : decode cX4_comesBack 34 = .ok (.iastore, 1) := dk_79 (dk_at dksX4_comesBack_1 10 rfl rfl)
theorem dX4_comesBack_35 : decode cX4_comesBack 35 = .ok (.aload_n 0, 1) := dk_42 (dk_at dksX4_comesBack_1 11 rfl rfl)
theorem dX4_comesBack_36 : decode cX4_comesBack 36 = .ok (.getfield 41, 3) := dk_180 0 41 (dk_at dksX4_comesBack_1 12 rfl rfl)
theorem dX4_comesBack_39 : decode cX4_comesBack 39 = .ok (.bipush 100, 2) := dk_16 100 (dk_at dksX4_comesBack_1 15 rfl rfl)
theorem dX4_comesBack_41 : decode cX4_comesBack 41 = .ok (.iload_n 1, 1) := dk_27 (dk_at dksX4_comesBack_1 17 rfl rfl)
theorem dX4_comesBack_42 : decode cX4_comesBack 42 = .ok (.iadd, 1) := dk_96 (dk_at dksX4_comesBack_1 18 rfl rfl)
theorem dX4_comesBack_43 : decode cX4_comesBack 43 = .ok (.dup2, 1) := dk_92 (dk_at dksX4_comesBack_1 19 rfl rfl)
theorem dX4_comesBack_44 : decode cX4_comesBack 44 = .ok (.iaload, 1) := dk_46 (dk_at dksX4_comesBack_1 20 rfl rfl)
theorem dX4_comesBack_45 : decode cX4_comesBack 45 = .ok (.iconst 1, 1) := dk_4 (dk_at dksX4_comesBack_1 21 rfl rfl)
theorem dX4_comesBack_46 : decode cX4_comesBack 46 = .ok (.isub, 1) := dk_100 (dk_at dksX4_comesBack_1 22 rfl rfl)
theorem dX4_comesBack_47 : decode cX4_comesBack 47 = .ok (.iastore, 1) := dk_79 (dk_at dksX4_comesBack_1 23 rfl rfl)
theorem dX4_comesBack_48 : decode cX4_comesBack 48 = .ok (.iconst 0, 1) := dk_3 (dk_at dksX4_comesBack_2 0 rfl rfl)
theorem dX4_comesBack_49 : decode cX4_comesBack 49 = .ok (.istore_n 2, 1) := dk_61 (dk_at dksX4_comesBack_2 1 rfl rfl)
theorem dX4_comesBack_50 : decode cX4_comesBack 50 = .ok (.iload_n 2, 1) := dk_28 (dk_at dksX4_comesBack_2 2 rfl rfl)
theorem dX4_comesBack_51 : decode cX4_comesBack 51 = .ok (.aload_n 0, 1) := dk_42 (dk_at dksX4_comesBack_2 3 rfl rfl)
theorem dX4_comesBack_52 : decode cX4_comesBack 52 = .ok (.getfield 41, 3) := dk_180 0 41 (dk_at dksX4_comesBack_2 4 rfl rfl)
theorem dX4_comesBack_55 : decode cX4_comesBack 55 = .ok (.bipush 100, 2) := dk_16 100 (dk_at dksX4_comesBack_2 7 rfl rfl)
theorem dX4_comesBack_57 : decode cX4_comesBack 57 = .ok (.iload_n 1, 1) := dk_27 (dk_at dksX4_comesBack_2 9 rfl rfl)
theorem dX4_comesBack_58 : decode cX4_comesBack 58 = .ok (.iadd, 1) := dk_96 (dk_at dksX4_comesBack_2 10 rfl rfl)
theorem dX4_comesBack_59 : decode cX4_comesBack 59 = .ok (.iaload, 1) := dk_46 (dk_at dksX4_comesBack_2 11 rfl rfl)
theorem dX4_comesBack_60 : decode cX4_comesBack 60 = .ok (.if_icmp .ge 39, 3) := dk_162 0 39 (dk_at dksX4_comesBack_2 12 rfl rfl)
theorem dX4_comesBack_63 : decode cX4_comesBack 63 = .ok (.aload_n 0, 1) := dk_42 (dk_at dksX4_comesBack_2 15 rfl rfl)
theorem dX4_comesBack_64 : decode cX4_comesBack 64 = .ok (.getfield 41, 3) := dk_180 0 41 (dk_at dksX4_comesBack_2 16 rfl rfl)
theorem dX4_comesBack_67 : decode cX4_comesBack 67 = .ok (.bipush 80, 2) := dk_16 80 (dk_at dksX4_comesBack_2 19 rfl rfl)
theorem dX4_comesBack_69 : decode cX4_comesBack 69 = .ok (.bipush 10, 2) := dk_16 10 (dk_at dksX4_comesBack_2 21 rfl rfl)
theorem dX4_comesBack_71 : decode cX4_comesBack 71 = .ok (.iload_n 1, 1) := dk_27 (dk_at dksX4_comesBack_2 23 rfl rfl)
theorem dX4_comesBack_72 : decode cX4_comesBack 72 = .ok (.imul, 1) := dk_104 (dk_at dksX4_comesBack_3 0 rfl rfl)
theorem dX4_comesBack_73 : decode cX4_comesBack 73 = .ok (.iadd, 1) := dk_96 (dk_at dksX4_comesBack_3 1 rfl rfl)
theorem dX4_comesBack_74 : decode cX4_comesBack 74 = .ok (.iload_n 2, 1) := dk_28 (dk_at dksX4_comesBack_3 2 rfl rfl)
theorem dX4_comesBack_75 : decode cX4_comesBack 75 = .ok (.iadd, 1) := dk_96 (dk_at dksX4_comesBack_3 3 rfl rfl)
theorem dX4_comesBack_76 : decode cX4_comesBack 76 = .ok (.aload_n 0, 1) := dk_42 (dk_at dksX4_comesBack_3 4 rfl rfl)
theorem dX4_comesBack_77 : decode cX4_comesBack 77 = .ok (.getfield 41, 3) := dk_180 0 41 (dk_at dksX4_comesBack_3 5 rfl rfl)
theorem dX4_comesBack_80 : decode cX4_comesBack 80 = .ok (.bipush 80, 2) := dk_16 80 (dk_at dksX4_comesBack_3 8 rfl rfl)
theorem dX4_comesBack_82 : decode cX4_comesBack 82 = .ok (.bipush 10, 2) := dk_16 10 (dk_at dksX4_comesBack_3 10 rfl rfl)
theorem dX4_comesBack_84 : decode cX4_comesBack 84 = .ok (.iload_n 1, 1) := dk_27 (dk_at dksX4_comesBack_3 12 rfl rfl)
theorem dX4_comesBack_85 : decode cX4_comesBack 85 = .ok (.imul, 1) := dk_104 (dk_at dksX4_comesBack_3 13 rfl rfl)
theorem dX4_comesBack_86 : decode cX4_comesBack 86 = .ok (.iadd, 1) := dk_96 (dk_at dksX4_comesBack_3 14 rfl rfl)
theorem dX4_comesBack_87 : decode cX4_comesBack 87 = .ok (.iload_n 2, 1) := dk_28 (dk_at dksX4_comesBack_3 15 rfl rfl)
theorem dX4_comesBack_88 : decode cX4_comesBack 88 = .ok (.iadd, 1) := dk_96 (dk_at dksX4_comesBack_3 16 rfl rfl)
theorem dX4_comesBack_89 : decode cX4_comesBack 89 = .ok (.iconst 1, 1) := dk_4 (dk_at dksX4_comesBack_3 17 rfl rfl)
theorem dX4_comesBack_90 : decode cX4_comesBack 90 = .ok (.iadd, 1) := dk_96 (dk_at dksX4_comesBack_3 18 rfl rfl)
theorem dX4_comesBack_91 : decode cX4_comesBack 91 = .ok (.iaload, 1) := dk_46 (dk_at dksX4_comesBack_3 19 rfl rfl)
theorem dX4_comesBack_92 : decode cX4_comesBack 92 = .ok (.iastore, 1) := dk_79 (dk_at dksX4_comesBack_3 20 rfl rfl)
theorem dX4_comesBack_93 : decode cX4_comesBack 93 = .ok (.iinc 2 1, 3) := dk_132 2 1 (dk_at dksX4_comesBack_3 21 rfl rfl)
theorem dX4_comesBack_96 : decode cX4_comesBack 96 = .ok (.goto (-46), 3) := dk_167 255 210 (dk_at dksX4_comesBack_4 0 rfl rfl)
theorem dX4_comesBack_99 : decode cX4_comesBack 99 = .ok (.return_, 1) := dk_177 (dk_at dksX4_comesBack_4 3 rfl rfl)
abbrev cX4_looksAtMat : ByteArray := prog_14_method_15_code
def yX4_looksAtMat : MethodName := ⟨RX4, "looksAtMat", "(I)V"⟩
def dkwX4_looksAtMat_1 : List UInt8 := [180, 0, 41, 16, 100, 27, 96, 46, 158, 0, 11, 42, 27, 182, 0, 92, 167, 255, 239, 177]
abbrev dktX4_looksAtMat_1 : List UInt8 := dkwX4_looksAtMat_1 ++ []
def dkwX4_looksAtMat_0 : List UInt8 := [42, 27, 3, 3, 182, 0, 88, 154, 0, 36, 42, 180, 0, 41, 16, 105, 27, 100, 92, 46, 5, 96, 79, 42]
abbrev dktX4_looksAtMat_0 : List UInt8 := dkwX4_looksAtMat_0 ++ dktX4_looksAtMat_1
theorem dksX4_looksAtMat_0 : cX4_looksAtMat.data.toList.drop 0 = dktX4_looksAtMat_0 := by decide +kernel
theorem dksX4_looksAtMat_1 : cX4_looksAtMat.data.toList.drop 24 = dktX4_looksAtMat_1 := dk_seg dksX4_looksAtMat_0 24 rfl rfl
theorem dX4_looksAtMat_0 : decode cX4_looksAtMat 0 = .ok (.aload_n 0, 1) := dk_42 (dk_at dksX4_looksAtMat_0 0 rfl rfl)
theorem dX4_looksAtMat_1 : decode cX4_looksAtMat 1 = .ok (.iload_n 1, 1) := dk_27 (dk_at dksX4_looksAtMat_0 1 rfl rfl)
theorem dX4_looksAtMat_2 : decode cX4_looksAtMat 2 = .ok (.iconst 0, 1) := dk_3 (dk_at dksX4_looksAtMat_0 2 rfl rfl)
theorem dX4_looksAtMat_3 : decode cX4_looksAtMat 3 = .ok (.iconst 0, 1) := dk_3 (dk_at dksX4_looksAtMat_0 3 rfl rfl)
theorem dX4_looksAtMat_4 : decode cX4_looksAtMat 4 = .ok (.invokevirtual 88, 3) := dk_182 0 88 (dk_at dksX4_looksAtMat_0 4 rfl rfl)
theorem dX4_looksAtMat_7 : decode cX4_looksAtMat 7 = .ok (.ifCond .ne 36, 3) := dk_154 0 36 (dk_at dksX4_looksAtMat_0 7 rfl rfl)
theorem dX4_looksAtMat_10 : decode cX4_looksAtMat 10 = .ok (.aload_n 0, 1) := dk_42 (dk_at dksX4_looksAtMat_0 10 rfl rfl)
theorem dX4_looksAtMat_11 : decode cX4_looksAtMat 11 = .ok (.getfield 41, 3) := dk_180 0 41 (dk_at dksX4_looksAtMat_0 11 rfl rfl)
theorem dX4_looksAtMat_14 : decode cX4_looksAtMat 14 = .ok (.bipush 105, 2) := dk_16 105 (dk_at dksX4_looksAtMat_0 14 rfl rfl)
theorem dX4_looksAtMat_16 : decode cX4_looksAtMat 16 = .ok (.iload_n 1, 1) := dk_27 (dk_at dksX4_looksAtMat_0 16 rfl rfl)
theorem dX4_looksAtMat_17 : decode cX4_looksAtMat 17 = .ok (.isub, 1) := dk_100 (dk_at dksX4_looksAtMat_0 17 rfl rfl)
theorem dX4_looksAtMat_18 : decode cX4_looksAtMat 18 = .ok (.dup2, 1) := dk_92 (dk_at dksX4_looksAtMat_0 18 rfl rfl)
theorem dX4_looksAtMat_19 : decode cX4_looksAtMat 19 = .ok (.iaload, 1) := dk_46 (dk_at dksX4_looksAtMat_0 19 rfl rfl)
theorem dX4_looksAtMat_20 : decode cX4_looksAtMat 20 = .ok (.iconst 2, 1) := dk_5 (dk_at dksX4_looksAtMat_0 20 rfl rfl)
theorem dX4_looksAtMat_21 : decode cX4_looksAtMat 21 = .ok (.iadd, 1) := dk_96 (dk_at dksX4_looksAtMat_0 21 rfl rfl)
theorem dX4_looksAtMat_22 : decode cX4_looksAtMat 22 = .ok (.iastore, 1) := dk_79 (dk_at dksX4_looksAtMat_0 22 rfl rfl)
theorem dX4_looksAtMat_23 : decode cX4_looksAtMat 23 = .ok (.aload_n 0, 1) := dk_42 (dk_at dksX4_looksAtMat_0 23 rfl rfl)
theorem dX4_looksAtMat_24 : decode cX4_looksAtMat 24 = .ok (.getfield 41, 3) := dk_180 0 41 (dk_at dksX4_looksAtMat_1 0 rfl rfl)
theorem dX4_looksAtMat_27 : decode cX4_looksAtMat 27 = .ok (.bipush 100, 2) := dk_16 100 (dk_at dksX4_looksAtMat_1 3 rfl rfl)
theorem dX4_looksAtMat_29 : decode cX4_looksAtMat 29 = .ok (.iload_n 1, 1) := dk_27 (dk_at dksX4_looksAtMat_1 5 rfl rfl)
theorem dX4_looksAtMat_30 : decode cX4_looksAtMat 30 = .ok (.iadd, 1) := dk_96 (dk_at dksX4_looksAtMat_1 6 rfl rfl)
theorem dX4_looksAtMat_31 : decode cX4_looksAtMat 31 = .ok (.iaload, 1) := dk_46 (dk_at dksX4_looksAtMat_1 7 rfl rfl)
theorem dX4_looksAtMat_32 : decode cX4_looksAtMat 32 = .ok (.ifCond .le 11, 3) := dk_158 0 11 (dk_at dksX4_looksAtMat_1 8 rfl rfl)
theorem dX4_looksAtMat_35 : decode cX4_looksAtMat 35 = .ok (.aload_n 0, 1) := dk_42 (dk_at dksX4_looksAtMat_1 11 rfl rfl)
theorem dX4_looksAtMat_36 : decode cX4_looksAtMat 36 = .ok (.iload_n 1, 1) := dk_27 (dk_at dksX4_looksAtMat_1 12 rfl rfl)
theorem dX4_looksAtMat_37 : decode cX4_looksAtMat 37 = .ok (.invokevirtual 92, 3) := dk_182 0 92 (dk_at dksX4_looksAtMat_1 13 rfl rfl)
theorem dX4_looksAtMat_40 : decode cX4_looksAtMat 40 = .ok (.goto (-17), 3) := dk_167 255 239 (dk_at dksX4_looksAtMat_1 16 rfl rfl)
theorem dX4_looksAtMat_43 : decode cX4_looksAtMat 43 = .ok (.return_, 1) := dk_177 (dk_at dksX4_looksAtMat_1 19 rfl rfl)
abbrev cX4_notes : ByteArray := prog_14_method_27_code
def yX4_notes : MethodName := ⟨RX4, "notes", "(I)V"⟩
def dkwX4_notes_3 : List UInt8 := [16, 104, 28, 96, 46, 79, 132, 2, 1, 167, 255, 178, 177]
abbrev dktX4_notes_3 : List UInt8 := dkwX4_notes_3 ++ []
def dkwX4_notes_2 : List UInt8 := [180, 0, 44, 5, 27, 104, 28, 96, 29, 79, 42, 180, 0, 47, 5, 27, 104, 28, 96, 42, 180, 0, 41]
abbrev dktX4_notes_2 : List UInt8 := dkwX4_notes_2 ++ dktX4_notes_3
def dkwX4_notes_1 : List UInt8 := [3, 182, 0, 85, 153, 0, 10, 4, 21, 4, 120, 167, 0, 4, 3, 128, 62, 132, 4, 1, 167, 255, 224, 42]
abbrev dktX4_notes_1 : List UInt8 := dkwX4_notes_1 ++ dktX4_notes_2
def dkwX4_notes_0 : List UInt8 := [3, 61, 28, 5, 162, 0, 79, 3, 62, 3, 54, 4, 21, 4, 16, 10, 162, 0, 31, 29, 42, 28, 21, 4]
abbrev dktX4_notes_0 : List UInt8 := dkwX4_notes_0 ++ dktX4_notes_1
theorem dksX4_notes_0 : cX4_notes.data.toList.drop 0 = dktX4_notes_0 := by decide +kernel
theorem dksX4_notes_1 : cX4_notes.data.toList.drop 24 = dktX4_notes_1 := dk_seg dksX4_notes_0 24 rfl rfl
theorem dksX4_notes_2 : cX4_notes.data.toList.drop 48 = dktX4_notes_2 := dk_seg dksX4_notes_1 24 rfl rfl
theorem dksX4_notes_3 : cX4_notes.data.toList.drop 71 = dktX4_notes_3 := dk_seg dksX4_notes_2 23 rfl rfl
theorem dX4_notes_0 : decode cX4_notes 0 = .ok (.iconst 0, 1) := dk_3 (dk_at dksX4_notes_0 0 rfl rfl)
theorem dX4_notes_1 : decode cX4_notes 1 = .ok (.istore_n 2, 1) := dk_61 (dk_at dksX4_notes_0 1 rfl rfl)
theorem dX4_notes_2 : decode cX4_notes 2 = .ok (.iload_n 2, 1) := dk_28 (dk_at dksX4_notes_0 2 rfl rfl)
theorem dX4_notes_3 : decode cX4_notes 3 = .ok (.iconst 2, 1) := dk_5 (dk_at dksX4_notes_0 3 rfl rfl)
theorem dX4_notes_4 : decode cX4_notes 4 = .ok (.if_icmp .ge 79, 3) := dk_162 0 79 (dk_at dksX4_notes_0 4 rfl rfl)
theorem dX4_notes_7 : decode cX4_notes 7 = .ok (.iconst 0, 1) := dk_3 (dk_at dksX4_notes_0 7 rfl rfl)
theorem dX4_notes_8 : decode cX4_notes 8 = .ok (.istore_n 3, 1) := dk_62 (dk_at dksX4_notes_0 8 rfl rfl)
theorem dX4_notes_9 : decode cX4_notes 9 = .ok (.iconst 0, 1) := dk_3 (dk_at dksX4_notes_0 9 rfl rfl)
theorem dX4_notes_10 : decode cX4_notes 10 = .ok (.istore 4, 2) := dk_54 4 (dk_at dksX4_notes_0 10 rfl rfl)
theorem dX4_notes_12 : decode cX4_notes 12 = .ok (.iload 4, 2) := dk_21 4 (dk_at dksX4_notes_0 12 rfl rfl)
theorem dX4_notes_14 : decode cX4_notes 14 = .ok (.bipush 10, 2) := dk_16 10 (dk_at dksX4_notes_0 14 rfl rfl)
theorem dX4_notes_16 : decode cX4_notes 16 = .ok (.if_icmp .ge 31, 3) := dk_162 0 31 (dk_at dksX4_notes_0 16 rfl rfl)
theorem dX4_notes_19 : decode cX4_notes 19 = .ok (.iload_n 3, 1) := dk_29 (dk_at dksX4_notes_0 19 rfl rfl)
theorem dX4_notes_20 : decode cX4_notes 20 = .ok (.aload_n 0, 1) := dk_42 (dk_at dksX4_notes_0 20 rfl rfl)
theorem dX4_notes_21 : decode cX4_notes 21 = .ok (.iload_n 2, 1) := dk_28 (dk_at dksX4_notes_0 21 rfl rfl)
theorem dX4_notes_22 : decode cX4_notes 22 = .ok (.iload 4, 2) := dk_21 4 (dk_at dksX4_notes_0 22 rfl rfl)
theorem dX4_notes_24 : decode cX4_notes 24 = .ok (.iconst 0, 1) := dk_3 (dk_at dksX4_notes_1 0 rfl rfl)
theorem dX4_notes_25 : decode cX4_notes 25 = .ok (.invokevirtual 85, 3) := dk_182 0 85 (dk_at dksX4_notes_1 1 rfl rfl)
theorem dX4_notes_28 : decode cX4_notes 28 = .ok (.ifCond .eq 10, 3) := dk_153 0 10 (dk_at dksX4_notes_1 4 rfl rfl)
theorem dX4_notes_31 : decode cX4_notes 31 = .ok (.iconst 1, 1) := dk_4 (dk_at dksX4_notes_1 7 rfl rfl)
theorem dX4_notes_32 : decode cX4_notes 32 = .ok (.iload 4, 2) := dk_21 4 (dk_at dksX4_notes_1 8 rfl rfl)
theorem dX4_notes_34 : decode cX4_notes 34 = .ok (.ishl, 1) := dk_120 (dk_at dksX4_notes_1 10 rfl rfl)
theorem dX4_notes_35 : decode cX4_notes 35 = .ok (.goto 4, 3) := dk_167 0 4 (dk_at dksX4_notes_1 11 rfl rfl)
theorem dX4_notes_38 : decode cX4_notes 38 = .ok (.iconst 0, 1) := dk_3 (dk_at dksX4_notes_1 14 rfl rfl)
theorem dX4_notes_39 : decode cX4_notes 39 = .ok (.ior, 1) := dk_128 (dk_at dksX4_notes_1 15 rfl rfl)
theorem dX4_notes_40 : decode cX4_notes 40 = .ok (.istore_n 3, 1) := dk_62 (dk_at dksX4_notes_1 16 rfl rfl)
theorem dX4_notes_41 : decode cX4_notes 41 = .ok (.iinc 4 1, 3) := dk_132 4 1 (dk_at dksX4_notes_1 17 rfl rfl)
theorem dX4_notes_44 : decode cX4_notes 44 = .ok (.goto (-32), 3) := dk_167 255 224 (dk_at dksX4_notes_1 20 rfl rfl)
theorem dX4_notes_47 : decode cX4_notes 47 = .ok (.aload_n 0, 1) := dk_42 (dk_at dksX4_notes_1 23 rfl rfl)
theorem dX4_notes_48 : decode cX4_notes 48 = .ok (.getfield 44, 3) := dk_180 0 44 (dk_at dksX4_notes_2 0 rfl rfl)
theorem dX4_notes_51 : decode cX4_notes 51 = .ok (.iconst 2, 1) := dk_5 (dk_at dksX4_notes_2 3 rfl rfl)
theorem dX4_notes_52 : decode cX4_notes 52 = .ok (.iload_n 1, 1) := dk_27 (dk_at dksX4_notes_2 4 rfl rfl)
theorem dX4_notes_53 : decode cX4_notes 53 = .ok (.imul, 1) := dk_104 (dk_at dksX4_notes_2 5 rfl rfl)
theorem dX4_notes_54 : decode cX4_notes 54 = .ok (.iload_n 2, 1) := dk_28 (dk_at dksX4_notes_2 6 rfl rfl)
theorem dX4_notes_55 : decode cX4_notes 55 = .ok (.iadd, 1) := dk_96 (dk_at dksX4_notes_2 7 rfl rfl)
theorem dX4_notes_56 : decode cX4_notes 56 = .ok (.iload_n 3, 1) := dk_29 (dk_at dksX4_notes_2 8 rfl rfl)
theorem dX4_notes_57 : decode cX4_notes 57 = .ok (.iastore, 1) := dk_79 (dk_at dksX4_notes_2 9 rfl rfl)
theorem dX4_notes_58 : decode cX4_notes 58 = .ok (.aload_n 0, 1) := dk_42 (dk_at dksX4_notes_2 10 rfl rfl)
theorem dX4_notes_59 : decode cX4_notes 59 = .ok (.getfield 47, 3) := dk_180 0 47 (dk_at dksX4_notes_2 11 rfl rfl)
theorem dX4_notes_62 : decode cX4_notes 62 = .ok (.iconst 2, 1) := dk_5 (dk_at dksX4_notes_2 14 rfl rfl)
theorem dX4_notes_63 : decode cX4_notes 63 = .ok (.iload_n 1, 1) := dk_27 (dk_at dksX4_notes_2 15 rfl rfl)
theorem dX4_notes_64 : decode cX4_notes 64 = .ok (.imul, 1) := dk_104 (dk_at dksX4_notes_2 16 rfl rfl)
theorem dX4_notes_65 : decode cX4_notes 65 = .ok (.iload_n 2, 1) := dk_28 (dk_at dksX4_notes_2 17 rfl rfl)
theorem dX4_notes_66 : decode cX4_notes 66 = .ok (.iadd, 1) := dk_96 (dk_at dksX4_notes_2 18 rfl rfl)
theorem dX4_notes_67 : decode cX4_notes 67 = .ok (.aload_n 0, 1) := dk_42 (dk_at dksX4_notes_2 19 rfl rfl)
theorem dX4_notes_68 : decode cX4_notes 68 = .ok (.getfield 41, 3) := dk_180 0 41 (dk_at dksX4_notes_2 20 rfl rfl)
theorem dX4_notes_71 : decode cX4_notes 71 = .ok (.bipush 104, 2) := dk_16 104 (dk_at dksX4_notes_3 0 rfl rfl)
theorem dX4_notes_73 : decode cX4_notes 73 = .ok (.iload_n 2, 1) := dk_28 (dk_at dksX4_notes_3 2 rfl rfl)
theorem dX4_notes_74 : decode cX4_notes 74 = .ok (.iadd, 1) := dk_96 (dk_at dksX4_notes_3 3 rfl rfl)
theorem dX4_notes_75 : decode cX4_notes 75 = .ok (.iaload, 1) := dk_46 (dk_at dksX4_notes_3 4 rfl rfl)
theorem dX4_notes_76 : decode cX4_notes 76 = .ok (.iastore, 1) := dk_79 (dk_at dksX4_notes_3 5 rfl rfl)
theorem dX4_notes_77 : decode cX4_notes 77 = .ok (.iinc 2 1, 3) := dk_132 2 1 (dk_at dksX4_notes_3 6 rfl rfl)
theorem dX4_notes_80 : decode cX4_notes 80 = .ok (.goto (-78), 3) := dk_167 255 178 (dk_at dksX4_notes_3 9 rfl rfl)
theorem dX4_notes_83 : decode cX4_notes 83 = .ok (.return_, 1) := dk_177 (dk_at dksX4_notes_3 12 rfl rfl)
abbrev cX4_card : ByteArray := prog_14_method_37_code
def yX4_card : MethodName := ⟨RX4, "card", "(III)I"⟩
def dkwX4_card_4 : List UInt8 := [182, 0, 160, 153, 0, 8, 21, 5, 167, 0, 4, 3, 172]
abbrev dktX4_card_4 : List UInt8 := dkwX4_card_4 ++ []
def dkwX4_card_3 : List UInt8 := [3, 172, 42, 27, 28, 29, 182, 0, 121, 54, 5, 42, 4, 27, 28, 29, 182, 0, 182, 54, 6, 42, 21, 6]
abbrev dktX4_card_3 : List UInt8 := dkwX4_card_3 ++ dktX4_card_4
def dkwX4_card_2 : List UInt8 := [153, 0, 13, 42, 27, 28, 29, 182, 0, 135, 154, 0, 7, 6, 167, 0, 4, 3, 182, 0, 169, 154, 0, 5]
abbrev dktX4_card_2 : List UInt8 := dkwX4_card_2 ++ dktX4_card_3
def dkwX4_card_1 : List UInt8 := [154, 0, 7, 4, 167, 0, 38, 29, 3, 5, 184, 0, 81, 154, 0, 7, 5, 167, 0, 25, 42, 182, 0, 178]
abbrev dktX4_card_1 : List UInt8 := dkwX4_card_1 ++ dktX4_card_2
def dkwX4_card_0 : List UInt8 := [27, 184, 0, 192, 153, 0, 14, 28, 184, 0, 175, 153, 0, 7, 4, 167, 0, 4, 3, 54, 4, 42, 21, 4]
abbrev dktX4_card_0 : List UInt8 := dkwX4_card_0 ++ dktX4_card_1
theorem dksX4_card_0 : cX4_card.data.toList.drop 0 = dktX4_card_0 := by decide +kernel
theorem dksX4_card_1 : cX4_card.data.toList.drop 24 = dktX4_card_1 := dk_seg dksX4_card_0 24 rfl rfl
theorem dksX4_card_2 : cX4_card.data.toList.drop 48 = dktX4_card_2 := dk_seg dksX4_card_1 24 rfl rfl
theorem dksX4_card_3 : cX4_card.data.toList.drop 72 = dktX4_card_3 := dk_seg dksX4_card_2 24 rfl rfl
theorem dksX4_card_4 : cX4_card.data.toList.drop 96 = dktX4_card_4 := dk_seg dksX4_card_3 24 rfl rfl
theorem dX4_card_0 : decode cX4_card 0 = .ok (.iload_n 1, 1) := dk_27 (dk_at dksX4_card_0 0 rfl rfl)
theorem dX4_card_1 : decode cX4_card 1 = .ok (.invokestatic 192, 3) := dk_184 0 192 (dk_at dksX4_card_0 1 rfl rfl)
theorem dX4_card_4 : decode cX4_card 4 = .ok (.ifCond .eq 14, 3) := dk_153 0 14 (dk_at dksX4_card_0 4 rfl rfl)
theorem dX4_card_7 : decode cX4_card 7 = .ok (.iload_n 2, 1) := dk_28 (dk_at dksX4_card_0 7 rfl rfl)
theorem dX4_card_8 : decode cX4_card 8 = .ok (.invokestatic 175, 3) := dk_184 0 175 (dk_at dksX4_card_0 8 rfl rfl)
theorem dX4_card_11 : decode cX4_card 11 = .ok (.ifCond .eq 7, 3) := dk_153 0 7 (dk_at dksX4_card_0 11 rfl rfl)
theorem dX4_card_14 : decode cX4_card 14 = .ok (.iconst 1, 1) := dk_4 (dk_at dksX4_card_0 14 rfl rfl)
theorem dX4_card_15 : decode cX4_card 15 = .ok (.goto 4, 3) := dk_167 0 4 (dk_at dksX4_card_0 15 rfl rfl)
theorem dX4_card_18 : decode cX4_card 18 = .ok (.iconst 0, 1) := dk_3 (dk_at dksX4_card_0 18 rfl rfl)
theorem dX4_card_19 : decode cX4_card 19 = .ok (.istore 4, 2) := dk_54 4 (dk_at dksX4_card_0 19 rfl rfl)
theorem dX4_card_21 : decode cX4_card 21 = .ok (.aload_n 0, 1) := dk_42 (dk_at dksX4_card_0 21 rfl rfl)
theorem dX4_card_22 : decode cX4_card 22 = .ok (.iload 4, 2) := dk_21 4 (dk_at dksX4_card_0 22 rfl rfl)
theorem dX4_card_24 : decode cX4_card 24 = .ok (.ifCond .ne 7, 3) := dk_154 0 7 (dk_at dksX4_card_1 0 rfl rfl)
theorem dX4_card_27 : decode cX4_card 27 = .ok (.iconst 1, 1) := dk_4 (dk_at dksX4_card_1 3 rfl rfl)
theorem dX4_card_28 : decode cX4_card 28 = .ok (.goto 38, 3) := dk_167 0 38 (dk_at dksX4_card_1 4 rfl rfl)
theorem dX4_card_31 : decode cX4_card 31 = .ok (.iload_n 3, 1) := dk_29 (dk_at dksX4_card_1 7 rfl rfl)
theorem dX4_card_32 : decode cX4_card 32 = .ok (.iconst 0, 1) := dk_3 (dk_at dksX4_card_1 8 rfl rfl)
theorem dX4_card_33 : decode cX4_card 33 = .ok (.iconst 2, 1) := dk_5 (dk_at dksX4_card_1 9 rfl rfl)
theorem dX4_card_34 : decode cX4_card 34 = .ok (.invokestatic 81, 3) := dk_184 0 81 (dk_at dksX4_card_1 10 rfl rfl)
theorem dX4_card_37 : decode cX4_card 37 = .ok (.ifCond .ne 7, 3) := dk_154 0 7 (dk_at dksX4_card_1 13 rfl rfl)
theorem dX4_card_40 : decode cX4_card 40 = .ok (.iconst 2, 1) := dk_5 (dk_at dksX4_card_1 16 rfl rfl)
theorem dX4_card_41 : decode cX4_card 41 = .ok (.goto 25, 3) := dk_167 0 25 (dk_at dksX4_card_1 17 rfl rfl)
theorem dX4_card_44 : decode cX4_card 44 = .ok (.aload_n 0, 1) := dk_42 (dk_at dksX4_card_1 20 rfl rfl)
theorem dX4_card_45 : decode cX4_card 45 = .ok (.invokevirtual 178, 3) := dk_182 0 178 (dk_at dksX4_card_1 21 rfl rfl)
theorem dX4_card_48 : decode cX4_card 48 = .ok (.ifCond .eq 13, 3) := dk_153 0 13 (dk_at dksX4_card_2 0 rfl rfl)
theorem dX4_card_51 : decode cX4_card 51 = .ok (.aload_n 0, 1) := dk_42 (dk_at dksX4_card_2 3 rfl rfl)
theorem dX4_card_52 : decode cX4_card 52 = .ok (.iload_n 1, 1) := dk_27 (dk_at dksX4_card_2 4 rfl rfl)
theorem dX4_card_53 : decode cX4_card 53 = .ok (.iload_n 2, 1) := dk_28 (dk_at dksX4_card_2 5 rfl rfl)
theorem dX4_card_54 : decode cX4_card 54 = .ok (.iload_n 3, 1) := dk_29 (dk_at dksX4_card_2 6 rfl rfl)
theorem dX4_card_55 : decode cX4_card 55 = .ok (.invokevirtual 135, 3) := dk_182 0 135 (dk_at dksX4_card_2 7 rfl rfl)
theorem dX4_card_58 : decode cX4_card 58 = .ok (.ifCond .ne 7, 3) := dk_154 0 7 (dk_at dksX4_card_2 10 rfl rfl)
theorem dX4_card_61 : decode cX4_card 61 = .ok (.iconst 3, 1) := dk_6 (dk_at dksX4_card_2 13 rfl rfl)
theorem dX4_card_62 : decode cX4_card 62 = .ok (.goto 4, 3) := dk_167 0 4 (dk_at dksX4_card_2 14 rfl rfl)
theorem dX4_card_65 : decode cX4_card 65 = .ok (.iconst 0, 1) := dk_3 (dk_at dksX4_card_2 17 rfl rfl)
theorem dX4_card_66 : decode cX4_card 66 = .ok (.invokevirtual 169, 3) := dk_182 0 169 (dk_at dksX4_card_2 18 rfl rfl)
theorem dX4_card_69 : decode cX4_card 69 = .ok (.ifCond .ne 5, 3) := dk_154 0 5 (dk_at dksX4_card_2 21 rfl rfl)
theorem dX4_card_72 : decode cX4_card 72 = .ok (.iconst 0, 1) := dk_3 (dk_at dksX4_card_3 0 rfl rfl)
theorem dX4_card_73 : decode cX4_card 73 = .ok (.ireturn, 1) := dk_172 (dk_at dksX4_card_3 1 rfl rfl)
theorem dX4_card_74 : decode cX4_card 74 = .ok (.aload_n 0, 1) := dk_42 (dk_at dksX4_card_3 2 rfl rfl)
theorem dX4_card_75 : decode cX4_card 75 = .ok (.iload_n 1, 1) := dk_27 (dk_at dksX4_card_3 3 rfl rfl)
theorem dX4_card_76 : decode cX4_card 76 = .ok (.iload_n 2, 1) := dk_28 (dk_at dksX4_card_3 4 rfl rfl)
theorem dX4_card_77 : decode cX4_card 77 = .ok (.iload_n 3, 1) := dk_29 (dk_at dksX4_card_3 5 rfl rfl)
theorem dX4_card_78 : decode cX4_card 78 = .ok (.invokevirtual 121, 3) := dk_182 0 121 (dk_at dksX4_card_3 6 rfl rfl)
theorem dX4_card_81 : decode cX4_card 81 = .ok (.istore 5, 2) := dk_54 5 (dk_at dksX4_card_3 9 rfl rfl)
theorem dX4_card_83 : decode cX4_card 83 = .ok (.aload_n 0, 1) := dk_42 (dk_at dksX4_card_3 11 rfl rfl)
theorem dX4_card_84 : decode cX4_card 84 = .ok (.iconst 1, 1) := dk_4 (dk_at dksX4_card_3 12 rfl rfl)
theorem dX4_card_85 : decode cX4_card 85 = .ok (.iload_n 1, 1) := dk_27 (dk_at dksX4_card_3 13 rfl rfl)
theorem dX4_card_86 : decode cX4_card 86 = .ok (.iload_n 2, 1) := dk_28 (dk_at dksX4_card_3 14 rfl rfl)
theorem dX4_card_87 : decode cX4_card 87 = .ok (.iload_n 3, 1) := dk_29 (dk_at dksX4_card_3 15 rfl rfl)
theorem dX4_card_88 : decode cX4_card 88 = .ok (.invokevirtual 182, 3) := dk_182 0 182 (dk_at dksX4_card_3 16 rfl rfl)
theorem dX4_card_91 : decode cX4_card 91 = .ok (.istore 6, 2) := dk_54 6 (dk_at dksX4_card_3 19 rfl rfl)
theorem dX4_card_93 : decode cX4_card 93 = .ok (.aload_n 0, 1) := dk_42 (dk_at dksX4_card_3 21 rfl rfl)
theorem dX4_card_94 : decode cX4_card 94 = .ok (.iload 6, 2) := dk_21 6 (dk_at dksX4_card_3 22 rfl rfl)
theorem dX4_card_96 : decode cX4_card 96 = .ok (.invokevirtual 160, 3) := dk_182 0 160 (dk_at dksX4_card_4 0 rfl rfl)
theorem dX4_card_99 : decode cX4_card 99 = .ok (.ifCond .eq 8, 3) := dk_153 0 8 (dk_at dksX4_card_4 3 rfl rfl)
theorem dX4_card_102 : decode cX4_card 102 = .ok (.iload 5, 2) := dk_21 5 (dk_at dksX4_card_4 6 rfl rfl)
theorem dX4_card_104 : decode cX4_card 104 = .ok (.goto 4, 3) := dk_167 0 4 (dk_at dksX4_card_4 8 rfl rfl)
theorem dX4_card_107 : decode cX4_card 107 = .ok (.iconst 0, 1) := dk_3 (dk_at dksX4_card_4 11 rfl rfl)
theorem dX4_card_108 : decode cX4_card 108 = .ok (.ireturn, 1) := dk_172 (dk_at dksX4_card_4 12 rfl rfl)
abbrev cX4_isSide : ByteArray := prog_14_method_6_code
def yX4_isSide : MethodName := ⟨RX4, "isSide", "(I)Z"⟩
def dkwX4_isSide_0 : List UInt8 := [26, 3, 4, 184, 0, 81, 172]
abbrev dktX4_isSide_0 : List UInt8 := dkwX4_isSide_0 ++ []
theorem dksX4_isSide_0 : cX4_isSide.data.toList.drop 0 = dktX4_isSide_0 := by decide +kernel
theorem dX4_isSide_0 : decode cX4_isSide 0 = .ok (.iload_n 0, 1) := dk_26 (dk_at dksX4_isSide_0 0 rfl rfl)
theorem dX4_isSide_1 : decode cX4_isSide 1 = .ok (.iconst 0, 1) := dk_3 (dk_at dksX4_isSide_0 1 rfl rfl)
theorem dX4_isSide_2 : decode cX4_isSide 2 = .ok (.iconst 1, 1) := dk_4 (dk_at dksX4_isSide_0 2 rfl rfl)
theorem dX4_isSide_3 : decode cX4_isSide 3 = .ok (.invokestatic 81, 3) := dk_184 0 81 (dk_at dksX4_isSide_0 3 rfl rfl)
theorem dX4_isSide_6 : decode cX4_isSide 6 = .ok (.ireturn, 1) := dk_172 (dk_at dksX4_isSide_0 6 rfl rfl)
abbrev cX4_canCard : ByteArray := prog_14_method_23_code
def yX4_canCard : MethodName := ⟨RX4, "canCard", "(III)Z"⟩
def dkwX4_canCard_1 : List UInt8 := [182, 0, 88, 6, 162, 0, 7, 4, 167, 0, 4, 3, 172]
abbrev dktX4_canCard_1 : List UInt8 := dkwX4_canCard_1 ++ []
def dkwX4_canCard_0 : List UInt8 := [42, 27, 28, 3, 182, 0, 85, 153, 0, 28, 42, 27, 28, 29, 182, 0, 121, 153, 0, 14, 42, 27, 6, 7]
abbrev dktX4_canCard_0 : List UInt8 := dkwX4_canCard_0 ++ dktX4_canCard_1
theorem dksX4_canCard_0 : cX4_canCard.data.toList.drop 0 = dktX4_canCard_0 := by decide +kernel
theorem dksX4_canCard_1 : cX4_canCard.data.toList.drop 24 = dktX4_canCard_1 := dk_seg dksX4_canCard_0 24 rfl rfl
theorem dX4_canCard_0 : decode cX4_canCard 0 = .ok (.aload_n 0, 1) := dk_42 (dk_at dksX4_canCard_0 0 rfl rfl)
theorem dX4_canCard_1 : decode cX4_canCard 1 = .ok (.iload_n 1, 1) := dk_27 (dk_at dksX4_canCard_0 1 rfl rfl)
theorem dX4_canCard_2 : decode cX4_canCard 2 = .ok (.iload_n 2, 1) := dk_28 (dk_at dksX4_canCard_0 2 rfl rfl)
theorem dX4_canCard_3 : decode cX4_canCard 3 = .ok (.iconst 0, 1) := dk_3 (dk_at dksX4_canCard_0 3 rfl rfl)
theorem dX4_canCard_4 : decode cX4_canCard 4 = .ok (.invokevirtual 85, 3) := dk_182 0 85 (dk_at dksX4_canCard_0 4 rfl rfl)
theorem dX4_canCard_7 : decode cX4_canCard 7 = .ok (.ifCond .eq 28, 3) := dk_153 0 28 (dk_at dksX4_canCard_0 7 rfl rfl)
theorem dX4_canCard_10 : decode cX4_canCard 10 = .ok (.aload_n 0, 1) := dk_42 (dk_at dksX4_canCard_0 10 rfl rfl)
theorem dX4_canCard_11 : decode cX4_canCard 11 = .ok (.iload_n 1, 1) := dk_27 (dk_at dksX4_canCard_0 11 rfl rfl)
theorem dX4_canCard_12 : decode cX4_canCard 12 = .ok (.iload_n 2, 1) := dk_28 (dk_at dksX4_canCard_0 12 rfl rfl)
theorem dX4_canCard_13 : decode cX4_canCard 13 = .ok (.iload_n 3, 1) := dk_29 (dk_at dksX4_canCard_0 13 rfl rfl)
theorem dX4_canCard_14 : decode cX4_canCard 14 = .ok (.invokevirtual 121, 3) := dk_182 0 121 (dk_at dksX4_canCard_0 14 rfl rfl)
theorem dX4_canCard_17 : decode cX4_canCard 17 = .ok (.ifCond .eq 14, 3) := dk_153 0 14 (dk_at dksX4_canCard_0 17 rfl rfl)
theorem dX4_canCard_20 : decode cX4_canCard 20 = .ok (.aload_n 0, 1) := dk_42 (dk_at dksX4_canCard_0 20 rfl rfl)
theorem dX4_canCard_21 : decode cX4_canCard 21 = .ok (.iload_n 1, 1) := dk_27 (dk_at dksX4_canCard_0 21 rfl rfl)
theorem dX4_canCard_22 : decode cX4_canCard 22 = .ok (.iconst 3, 1) := dk_6 (dk_at dksX4_canCard_0 22 rfl rfl)
theorem dX4_canCard_23 : decode cX4_canCard 23 = .ok (.iconst 4, 1) := dk_7 (dk_at dksX4_canCard_0 23 rfl rfl)
theorem dX4_canCard_24 : decode cX4_canCard 24 = .ok (.invokevirtual 88, 3) := dk_182 0 88 (dk_at dksX4_canCard_1 0 rfl rfl)
theorem dX4_canCard_27 : decode cX4_canCard 27 = .ok (.iconst 3, 1) := dk_6 (dk_at dksX4_canCard_1 3 rfl rfl)
theorem dX4_canCard_28 : decode cX4_canCard 28 = .ok (.if_icmp .ge 7, 3) := dk_162 0 7 (dk_at dksX4_canCard_1 4 rfl rfl)
theorem dX4_canCard_31 : decode cX4_canCard 31 = .ok (.iconst 1, 1) := dk_4 (dk_at dksX4_canCard_1 7 rfl rfl)
theorem dX4_canCard_32 : decode cX4_canCard 32 = .ok (.goto 4, 3) := dk_167 0 4 (dk_at dksX4_canCard_1 8 rfl rfl)
theorem dX4_canCard_35 : decode cX4_canCard 35 = .ok (.iconst 0, 1) := dk_3 (dk_at dksX4_canCard_1 11 rfl rfl)
theorem dX4_canCard_36 : decode cX4_canCard 36 = .ok (.ireturn, 1) := dk_172 (dk_at dksX4_canCard_1 12 rfl rfl)
abbrev cX4_colourFor : ByteArray := prog_14_method_22_code
def yX4_colourFor : MethodName := ⟨RX4, "colourFor", "(III)I"⟩
def dkwX4_colourFor_1 : List UInt8 := [21, 4, 122, 4, 126, 4, 160, 0, 9, 132, 4, 1, 167, 255, 224, 21, 4, 172]
abbrev dktX4_colourFor_1 : List UInt8 := dkwX4_colourFor_1 ++ []
def dkwX4_colourFor_0 : List UInt8 := [29, 54, 4, 21, 4, 5, 162, 0, 32, 42, 180, 0, 41, 16, 40, 16, 10, 27, 104, 96, 28, 96, 46]
abbrev dktX4_colourFor_0 : List UInt8 := dkwX4_colourFor_0 ++ dktX4_colourFor_1
theorem dksX4_colourFor_0 : cX4_colourFor.data.toList.drop 0 = dktX4_colourFor_0 := by decide +kernel
theorem dksX4_colourFor_1 : cX4_colourFor.data.toList.drop 23 = dktX4_colourFor_1 := dk_seg dksX4_colourFor_0 23 rfl rfl
theorem dX4_colourFor_0 : decode cX4_colourFor 0 = .ok (.iload_n 3, 1) := dk_29 (dk_at dksX4_colourFor_0 0 rfl rfl)
theorem dX4_colourFor_1 : decode cX4_colourFor 1 = .ok (.istore 4, 2) := dk_54 4 (dk_at dksX4_colourFor_0 1 rfl rfl)
theorem dX4_colourFor_3 : decode cX4_colourFor 3 = .ok (.iload 4, 2) := dk_21 4 (dk_at dksX4_colourFor_0 3 rfl rfl)
theorem dX4_colourFor_5 : decode cX4_colourFor 5 = .ok (.iconst 2, 1) := dk_5 (dk_at dksX4_colourFor_0 5 rfl rfl)
theorem dX4_colourFor_6 : decode cX4_colourFor 6 = .ok (.if_icmp .ge 32, 3) := dk_162 0 32 (dk_at dksX4_colourFor_0 6 rfl rfl)
theorem dX4_colourFor_9 : decode cX4_colourFor 9 = .ok (.aload_n 0, 1) := dk_42 (dk_at dksX4_colourFor_0 9 rfl rfl)
theorem dX4_colourFor_10 : decode cX4_colourFor 10 = .ok (.getfield 41, 3) := dk_180 0 41 (dk_at dksX4_colourFor_0 10 rfl rfl)
theorem dX4_colourFor_13 : decode cX4_colourFor 13 = .ok (.bipush 40, 2) := dk_16 40 (dk_at dksX4_colourFor_0 13 rfl rfl)
theorem dX4_colourFor_15 : decode cX4_colourFor 15 = .ok (.bipush 10, 2) := dk_16 10 (dk_at dksX4_colourFor_0 15 rfl rfl)
theorem dX4_colourFor_17 : decode cX4_colourFor 17 = .ok (.iload_n 1, 1) := dk_27 (dk_at dksX4_colourFor_0 17 rfl rfl)
theorem dX4_colourFor_18 : decode cX4_colourFor 18 = .ok (.imul, 1) := dk_104 (dk_at dksX4_colourFor_0 18 rfl rfl)
theorem dX4_colourFor_19 : decode cX4_colourFor 19 = .ok (.iadd, 1) := dk_96 (dk_at dksX4_colourFor_0 19 rfl rfl)
theorem dX4_colourFor_20 : decode cX4_colourFor 20 = .ok (.iload_n 2, 1) := dk_28 (dk_at dksX4_colourFor_0 20 rfl rfl)
theorem dX4_colourFor_21 : decode cX4_colourFor 21 = .ok (.iadd, 1) := dk_96 (dk_at dksX4_colourFor_0 21 rfl rfl)
theorem dX4_colourFor_22 : decode cX4_colourFor 22 = .ok (.iaload, 1) := dk_46 (dk_at dksX4_colourFor_0 22 rfl rfl)
theorem dX4_colourFor_23 : decode cX4_colourFor 23 = .ok (.iload 4, 2) := dk_21 4 (dk_at dksX4_colourFor_1 0 rfl rfl)
theorem dX4_colourFor_25 : decode cX4_colourFor 25 = .ok (.ishr, 1) := dk_122 (dk_at dksX4_colourFor_1 2 rfl rfl)
theorem dX4_colourFor_26 : decode cX4_colourFor 26 = .ok (.iconst 1, 1) := dk_4 (dk_at dksX4_colourFor_1 3 rfl rfl)
theorem dX4_colourFor_27 : decode cX4_colourFor 27 = .ok (.iand, 1) := dk_126 (dk_at dksX4_colourFor_1 4 rfl rfl)
theorem dX4_colourFor_28 : decode cX4_colourFor 28 = .ok (.iconst 1, 1) := dk_4 (dk_at dksX4_colourFor_1 5 rfl rfl)
theorem dX4_colourFor_29 : decode cX4_colourFor 29 = .ok (.if_icmp .ne 9, 3) := dk_160 0 9 (dk_at dksX4_colourFor_1 6 rfl rfl)
theorem dX4_colourFor_32 : decode cX4_colourFor 32 = .ok (.iinc 4 1, 3) := dk_132 4 1 (dk_at dksX4_colourFor_1 9 rfl rfl)
theorem dX4_colourFor_35 : decode cX4_colourFor 35 = .ok (.goto (-32), 3) := dk_167 255 224 (dk_at dksX4_colourFor_1 12 rfl rfl)
theorem dX4_colourFor_38 : decode cX4_colourFor 38 = .ok (.iload 4, 2) := dk_21 4 (dk_at dksX4_colourFor_1 15 rfl rfl)
theorem dX4_colourFor_40 : decode cX4_colourFor 40 = .ok (.ireturn, 1) := dk_172 (dk_at dksX4_colourFor_1 17 rfl rfl)
abbrev cX4_follows : ByteArray := prog_14_method_26_code
def yX4_follows : MethodName := ⟨RX4, "follows", "(I)Z"⟩
def dkwX4_follows_9 : List UInt8 := [180, 0, 20, 27, 46, 96, 92, 46, 4, 96, 79, 42, 27, 182, 0, 144, 28, 172]
abbrev dktX4_follows_9 : List UInt8 := dkwX4_follows_9 ++ []
def dkwX4_follows_8 : List UInt8 := [42, 180, 0, 20, 27, 46, 104, 42, 180, 0, 26, 27, 46, 96, 3, 79, 42, 180, 0, 41, 16, 102, 42]
abbrev dktX4_follows_8 : List UInt8 := dkwX4_follows_8 ++ dktX4_follows_9
def dkwX4_follows_7 : List UInt8 := [16, 10, 42, 180, 0, 20, 27, 46, 104, 42, 180, 0, 23, 27, 46, 96, 4, 79, 42, 180, 0, 41, 16, 10]
abbrev dktX4_follows_7 : List UInt8 := dkwX4_follows_7 ++ dktX4_follows_8
def dkwX4_follows_6 : List UInt8 := [180, 0, 23, 27, 46, 42, 180, 0, 26, 27, 46, 182, 0, 141, 61, 28, 153, 0, 65, 42, 180, 0, 41]
abbrev dktX4_follows_6 : List UInt8 := dkwX4_follows_6 ++ dktX4_follows_7
def dkwX4_follows_5 : List UInt8 := [27, 46, 42, 180, 0, 26, 27, 46, 182, 0, 138, 167, 0, 92, 42, 42, 180, 0, 20, 27, 46, 42]
abbrev dktX4_follows_5 : List UInt8 := dkwX4_follows_5 ++ dktX4_follows_6
def dkwX4_follows_4 : List UInt8 := [180, 0, 26, 27, 46, 182, 0, 135, 61, 28, 153, 0, 117, 42, 42, 180, 0, 20, 27, 46, 42, 180, 0, 23]
abbrev dktX4_follows_4 : List UInt8 := dkwX4_follows_4 ++ dktX4_follows_5
def dkwX4_follows_3 : List UInt8 := [180, 0, 17, 27, 46, 4, 160, 0, 55, 42, 42, 180, 0, 20, 27, 46, 42, 180, 0, 23, 27, 46, 42]
abbrev dktX4_follows_3 : List UInt8 := dkwX4_follows_3 ++ dktX4_follows_4
def dkwX4_follows_2 : List UInt8 := [167, 0, 4, 3, 61, 132, 3, 1, 167, 255, 224, 28, 153, 0, 162, 42, 27, 182, 0, 132, 167, 0, 154, 42]
abbrev dktX4_follows_2 : List UInt8 := dkwX4_follows_2 ++ dktX4_follows_3
def dkwX4_follows_1 : List UInt8 := [29, 42, 180, 0, 29, 27, 46, 162, 0, 28, 28, 153, 0, 16, 42, 27, 29, 182, 0, 128, 153, 0, 7, 4]
abbrev dktX4_follows_1 : List UInt8 := dkwX4_follows_1 ++ dktX4_follows_2
def dkwX4_follows_0 : List UInt8 := [4, 61, 42, 180, 0, 17, 27, 46, 154, 0, 63, 42, 42, 180, 0, 20, 27, 46, 182, 0, 124, 61, 3, 62]
abbrev dktX4_follows_0 : List UInt8 := dkwX4_follows_0 ++ dktX4_follows_1
theorem dksX4_follows_0 : cX4_follows.data.toList.drop 0 = dktX4_follows_0 := by decide +kernel
theorem dksX4_follows_1 : cX4_follows.data.toList.drop 24 = dktX4_follows_1 := dk_seg dksX4_follows_0 24 rfl rfl
theorem dksX4_follows_2 : cX4_follows.data.toList.drop 48 = dktX4_follows_2 := dk_seg dksX4_follows_1 24 rfl rfl
theorem dksX4_follows_3 : cX4_follows.data.toList.drop 72 = dktX4_follows_3 := dk_seg dksX4_follows_2 24 rfl rfl
theorem dksX4_follows_4 : cX4_follows.data.toList.drop 95 = dktX4_follows_4 := dk_seg dksX4_follows_3 23 rfl rfl
theorem dksX4_follows_5 : cX4_follows.data.toList.drop 119 = dktX4_follows_5 := dk_seg dksX4_follows_4 24 rfl rfl
theorem dksX4_follows_6 : cX4_follows.data.toList.drop 141 = dktX4_follows_6 := dk_seg dksX4_follows_5 22 rfl rfl
theorem dksX4_follows_7 : cX4_follows.data.toList.drop 164 = dktX4_follows_7 := dk_seg dksX4_follows_6 23 rfl rfl
theorem dksX4_follows_8 : cX4_follows.data.toList.drop 188 = dktX4_follows_8 := dk_seg dksX4_follows_7 24 rfl rfl
theorem dksX4_follows_9 : cX4_follows.data.toList.drop 211 = dktX4_follows_9 := dk_seg dksX4_follows_8 23 rfl rfl
theorem dX4_follows_0 : decode cX4_follows 0 = .ok (.iconst 1, 1) := dk_4 (dk_at dksX4_follows_0 0 rfl rfl)
theorem dX4_follows_1 : decode cX4_follows 1 = .ok (.istore_n 2, 1) := dk_61 (dk_at dksX4_follows_0 1 rfl rfl)
theorem dX4_follows_2 : decode cX4_follows 2 = .ok (.aload_n 0, 1) := dk_42 (dk_at dksX4_follows_0 2 rfl rfl)
theorem dX4_follows_3 : decode cX4_follows 3 = .ok (.getfield 17, 3) := dk_180 0 17 (dk_at dksX4_follows_0 3 rfl rfl)
theorem dX4_follows_6 : decode cX4_follows 6 = .ok (.iload_n 1, 1) := dk_27 (dk_at dksX4_follows_0 6 rfl rfl)
theorem dX4_follows_7 : decode cX4_follows 7 = .ok (.iaload, 1) := dk_46 (dk_at dksX4_follows_0 7 rfl rfl)
theorem dX4_follows_8 : decode cX4_follows 8 = .ok (.ifCond .ne 63, 3) := dk_154 0 63 (dk_at dksX4_follows_0 8 rfl rfl)
theorem dX4_follows_11 : decode cX4_follows 11 = .ok (.aload_n 0, 1) := dk_42 (dk_at dksX4_follows_0 11 rfl rfl)
theorem dX4_follows_12 : decode cX4_follows 12 = .ok (.aload_n 0, 1) := dk_42 (dk_at dksX4_follows_0 12 rfl rfl)
theorem dX4_follows_13 : decode cX4_follows 13 = .ok (.getfield 20, 3) := dk_180 0 20 (dk_at dksX4_follows_0 13 rfl rfl)
theorem dX4_follows_16 : decode cX4_follows 16 = .ok (.iload_n 1, 1) := dk_27 (dk_at dksX4_follows_0 16 rfl rfl)
theorem dX4_follows_17 : decode cX4_follows 17 = .ok (.iaload, 1) := dk_46 (dk_at dksX4_follows_0 17 rfl rfl)
theorem dX4_follows_18 : decode cX4_follows 18 = .ok (.invokevirtual 124, 3) := dk_182 0 124 (dk_at dksX4_follows_0 18 rfl rfl)
theorem dX4_follows_21 : decode cX4_follows 21 = .ok (.istore_n 2, 1) := dk_61 (dk_at dksX4_follows_0 21 rfl rfl)
theorem dX4_follows_22 : decode cX4_follows 22 = .ok (.iconst 0, 1) := dk_3 (dk_at dksX4_follows_0 22 rfl rfl)
theorem dX4_follows_23 : decode cX4_follows 23 = .ok (.istore_n 3, 1) := dk_62 (dk_at dksX4_follows_0 23 rfl rfl)
theorem dX4_follows_24 : decode cX4_follows 24 = .ok (.iload_n 3, 1) := dk_29 (dk_at dksX4_follows_1 0 rfl rfl)
theorem dX4_follows_25 : decode cX4_follows 25 = .ok (.aload_n 0, 1) := dk_42 (dk_at dksX4_follows_1 1 rfl rfl)
theorem dX4_follows_26 : decode cX4_follows 26 = .ok (.getfield 29, 3) := dk_180 0 29 (dk_at dksX4_follows_1 2 rfl rfl)
theorem dX4_follows_29 : decode cX4_follows 29 = .ok (.iload_n 1, 1) := dk_27 (dk_at dksX4_follows_1 5 rfl rfl)
theorem dX4_follows_30 : decode cX4_follows 30 = .ok (.iaload, 1) := dk_46 (dk_at dksX4_follows_1 6 rfl rfl)
theorem dX4_follows_31 : decode cX4_follows 31 = .ok (.if_icmp .ge 28, 3) := dk_162 0 28 (dk_at dksX4_follows_1 7 rfl rfl)
theorem dX4_follows_34 : decode cX4_follows 34 = .ok (.iload_n 2, 1) := dk_28 (dk_at dksX4_follows_1 10 rfl rfl)
theorem dX4_follows_35 : decode cX4_follows 35 = .ok (.ifCond .eq 16, 3) := dk_153 0 16 (dk_at dksX4_follows_1 11 rfl rfl)
theorem dX4_follows_38 : decode cX4_follows 38 = .ok (.aload_n 0, 1) := dk_42 (dk_at dksX4_follows_1 14 rfl rfl)
theorem dX4_follows_39 : decode cX4_follows 39 = .ok (.iload_n 1, 1) := dk_27 (dk_at dksX4_follows_1 15 rfl rfl)
theorem dX4_follows_40 : decode cX4_follows 40 = .ok (.iload_n 3, 1) := dk_29 (dk_at dksX4_follows_1 16 rfl rfl)
theorem dX4_follows_41 : decode cX4_follows 41 = .ok (.invokevirtual 128, 3) := dk_182 0 128 (dk_at dksX4_follows_1 17 rfl rfl)
theorem dX4_follows_44 : decode cX4_follows 44 = .ok (.ifCond .eq 7, 3) := dk_153 0 7 (dk_at dksX4_follows_1 20 rfl rfl)
theorem dX4_follows_47 : decode cX4_follows 47 = .ok (.iconst 1, 1) := dk_4 (dk_at dksX4_follows_1 23 rfl rfl)
theorem dX4_follows_48 : decode cX4_follows 48 = .ok (.goto 4, 3) := dk_167 0 4 (dk_at dksX4_follows_2 0 rfl rfl)
theorem dX4_follows_51 : decode cX4_follows 51 = .ok (.iconst 0, 1) := dk_3 (dk_at dksX4_follows_2 3 rfl rfl)
theorem dX4_follows_52 : decode cX4_follows 52 = .ok (.istore_n 2, 1) := dk_61 (dk_at dksX4_follows_2 4 rfl rfl)
theorem dX4_follows_53 : decode cX4_follows 53 = .ok (.iinc 3 1, 3) := dk_132 3 1 (dk_at dksX4_follows_2 5 rfl rfl)
theorem dX4_follows_56 : decode cX4_follows 56 = .ok (.goto (-32), 3) := dk_167 255 224 (dk_at dksX4_follows_2 8 rfl rfl)
theorem dX4_follows_59 : decode cX4_follows 59 = .ok (.iload_n 2, 1) := dk_28 (dk_at dksX4_follows_2 11 rfl rfl)
theorem dX4_follows_60 : decode cX4_follows 60 = .ok (.ifCond .eq 162, 3) := dk_153 0 162 (dk_at dksX4_follows_2 12 rfl rfl)
theorem dX4_follows_63 : decode cX4_follows 63 = .ok (.aload_n 0, 1) := dk_42 (dk_at dksX4_follows_2 15 rfl rfl)
theorem dX4_follows_64 : decode cX4_follows 64 = .ok (.iload_n 1, 1) := dk_27 (dk_at dksX4_follows_2 16 rfl rfl)
theorem dX4_follows_65 : decode cX4_follows 65 = .ok (.invokevirtual 132, 3) := dk_182 0 132 (dk_at dksX4_follows_2 17 rfl rfl)
theorem dX4_follows_68 : decode cX4_follows 68 = .ok (.goto 154, 3) := dk_167 0 154 (dk_at dksX4_follows_2 20 rfl rfl)
theorem dX4_follows_71 : decode cX4_follows 71 = .ok (.aload_n 0, 1) := dk_42 (dk_at dksX4_follows_2 23 rfl rfl)
theorem dX4_follows_72 : decode cX4_follows 72 = .ok (.getfield 17, 3) := dk_180 0 17 (dk_at dksX4_follows_3 0 rfl rfl)
theorem dX4_follows_75 : decode cX4_follows 75 = .ok (.iload_n 1, 1) := dk_27 (dk_at dksX4_follows_3 3 rfl rfl)
theorem dX4_follows_76 : decode cX4_follows 76 = .ok (.iaload, 1) := dk_46 (dk_at dksX4_follows_3 4 rfl rfl)
theorem dX4_follows_77 : decode cX4_follows 77 = .ok (.iconst 1, 1) := dk_4 (dk_at dksX4_follows_3 5 rfl rfl)
theorem dX4_follows_78 : decode cX4_follows 78 = .ok (.if_icmp .ne 55, 3) := dk_160 0 55 (dk_at dksX4_follows_3 6 rfl rfl)
theorem dX4_follows_81 : decode cX4_follows 81 = .ok (.aload_n 0, 1) := dk_42 (dk_at dksX4_follows_3 9 rfl rfl)
theorem dX4_follows_82 : decode cX4_follows 82 = .ok (.aload_n 0, 1) := dk_42 (dk_at dksX4_follows_3 10 rfl rfl)
theorem dX4_follows_83 : decode cX4_follows 83 = .ok (.getfield 20, 3) := dk_180 0 20 (dk_at dksX4_follows_3 11 rfl rfl)
theorem dX4_follows_86 : decode cX4_follows 86 = .ok (.iload_n 1, 1) := dk_27 (dk_at dksX4_follows_3 14 rfl rfl)
theorem dX4_follows_87 : decode cX4_follows 87 = .ok (.iaload, 1) := dk_46 (dk_at dksX4_follows_3 15 rfl rfl)
theorem dX4_follows_88 : decode cX4_follows 88 = .ok (.aload_n 0, 1) := dk_42 (dk_at dksX4_follows_3 16 rfl rfl)
theorem dX4_follows_89 : decode cX4_follows 89 = .ok (.getfield 23, 3) := dk_180 0 23 (dk_at dksX4_follows_3 17 rfl rfl)
theorem dX4_follows_92 : decode cX4_follows 92 = .ok (.iload_n 1, 1) := dk_27 (dk_at dksX4_follows_3 20 rfl rfl)
theorem dX4_follows_93 : decode cX4_follows 93 = .ok (.iaload, 1) := dk_46 (dk_at dksX4_follows_3 21 rfl rfl)
theorem dX4_follows_94 : decode cX4_follows 94 = .ok (.aload_n 0, 1) := dk_42 (dk_at dksX4_follows_3 22 rfl rfl)
theorem dX4_follows_95 : decode cX4_follows 95 = .ok (.getfield 26, 3) := dk_180 0 26 (dk_at dksX4_follows_4 0 rfl rfl)
theorem dX4_follows_98 : decode cX4_follows 98 = .ok (.iload_n 1, 1) := dk_27 (dk_at dksX4_follows_4 3 rfl rfl)
theorem dX4_follows_99 : decode cX4_follows 99 = .ok (.iaload, 1) := dk_46 (dk_at dksX4_follows_4 4 rfl rfl)
theorem dX4_follows_100 : decode cX4_follows 100 = .ok (.invokevirtual 135, 3) := dk_182 0 135 (dk_at dksX4_follows_4 5 rfl rfl)
theorem dX4_follows_103 : decode cX4_follows 103 = .ok (.istore_n 2, 1) := dk_61 (dk_at dksX4_follows_4 8 rfl rfl)
theorem dX4_follows_104 : decode cX4_follows 104 = .ok (.iload_n 2, 1) := dk_28 (dk_at dksX4_follows_4 9 rfl rfl)
theorem dX4_follows_105 : decode cX4_follows 105 = .ok (.ifCond .eq 117, 3) := dk_153 0 117 (dk_at dksX4_follows_4 10 rfl rfl)
theorem dX4_follows_108 : decode cX4_follows 108 = .ok (.aload_n 0, 1) := dk_42 (dk_at dksX4_follows_4 13 rfl rfl)
theorem dX4_follows_109 : decode cX4_follows 109 = .ok (.aload_n 0, 1) := dk_42 (dk_at dksX4_follows_4 14 rfl rfl)
theorem dX4_follows_110 : decode cX4_follows 110 = .ok (.getfield 20, 3) := dk_180 0 20 (dk_at dksX4_follows_4 15 rfl rfl)
theorem dX4_follows_113 : decode cX4_follows 113 = .ok (.iload_n 1, 1) := dk_27 (dk_at dksX4_follows_4 18 rfl rfl)
theorem dX4_follows_114 : decode cX4_follows 114 = .ok (.iaload, 1) := dk_46 (dk_at dksX4_follows_4 19 rfl rfl)
theorem dX4_follows_115 : decode cX4_follows 115 = .ok (.aload_n 0, 1) := dk_42 (dk_at dksX4_follows_4 20 rfl rfl)
theorem dX4_follows_116 : decode cX4_follows 116 = .ok (.getfield 23, 3) := dk_180 0 23 (dk_at dksX4_follows_4 21 rfl rfl)
theorem dX4_follows_119 : decode cX4_follows 119 = .ok (.iload_n 1, 1) := dk_27 (dk_at dksX4_follows_5 0 rfl rfl)
theorem dX4_follows_120 : decode cX4_follows 120 = .ok (.iaload, 1) := dk_46 (dk_at dksX4_follows_5 1 rfl rfl)
theorem dX4_follows_121 : decode cX4_follows 121 = .ok (.aload_n 0, 1) := dk_42 (dk_at dksX4_follows_5 2 rfl rfl)
theorem dX4_follows_122 : decode cX4_follows 122 = .ok (.getfield 26, 3) := dk_180 0 26 (dk_at dksX4_follows_5 3 rfl rfl)
theorem dX4_follows_125 : decode cX4_follows 125 = .ok (.iload_n 1, 1) := dk_27 (dk_at dksX4_follows_5 6 rfl rfl)
theorem dX4_follows_126 : decode cX4_follows 126 = .ok (.iaload, 1) := dk_46 (dk_at dksX4_follows_5 7 rfl rfl)
theorem dX4_follows_127 : decode cX4_follows 127 = .ok (.invokevirtual 138, 3) := dk_182 0 138 (dk_at dksX4_follows_5 8 rfl rfl)
theorem dX4_follows_130 : decode cX4_follows 130 = .ok (.goto 92, 3) := dk_167 0 92 (dk_at dksX4_follows_5 11 rfl rfl)
theorem dX4_follows_133 : decode cX4_follows 133 = .ok (.aload_n 0, 1) := dk_42 (dk_at dksX4_follows_5 14 rfl rfl)
theorem dX4_follows_134 : decode cX4_follows 134 = .ok (.aload_n 0, 1) := dk_42 (dk_at dksX4_follows_5 15 rfl rfl)
theorem dX4_follows_135 : decode cX4_follows 135 = .ok (.getfield 20, 3) := dk_180 0 20 (dk_at dksX4_follows_5 16 rfl rfl)
theorem dX4_follows_138 : decode cX4_follows 138 = .ok (.iload_n 1, 1) := dk_27 (dk_at dksX4_follows_5 19 rfl rfl)
theorem dX4_follows_139 : decode cX4_follows 139 = .ok (.iaload, 1) := dk_46 (dk_at dksX4_follows_5 20 rfl rfl)
theorem dX4_follows_140 : decode cX4_follows 140 = .ok (.aload_n 0, 1) := dk_42 (dk_at dksX4_follows_5 21 rfl rfl)
theorem dX4_follows_141 : decode cX4_follows 141 = .ok (.getfield 23, 3) := dk_180 0 23 (dk_at dksX4_follows_6 0 rfl rfl)
theorem dX4_follows_144 : decode cX4_follows 144 = .ok (.iload_n 1, 1) := dk_27 (dk_at dksX4_follows_6 3 rfl rfl)
theorem dX4_follows_145 : decode cX4_follows 145 = .ok (.iaload, 1) := dk_46 (dk_at dksX4_follows_6 4 rfl rfl)
theorem dX4_follows_146 : decode cX4_follows 146 = .ok (.aload_n 0, 1) := dk_42 (dk_at dksX4_follows_6 5 rfl rfl)
theorem dX4_follows_147 : decode cX4_follows 147 = .ok (.getfield 26, 3) := dk_180 0 26 (dk_at dksX4_follows_6 6 rfl rfl)
theorem dX4_follows_150 : decode cX4_follows 150 = .ok (.iload_n 1, 1) := dk_27 (dk_at dksX4_follows_6 9 rfl rfl)
theorem dX4_follows_151 : decode cX4_follows 151 = .ok (.iaload, 1) := dk_46 (dk_at dksX4_follows_6 10 rfl rfl)
theorem dX4_follows_152 : decode cX4_follows 152 = .ok (.invokevirtual 141, 3) := dk_182 0 141 (dk_at dksX4_follows_6 11 rfl rfl)
theorem dX4_follows_155 : decode cX4_follows 155 = .ok (.istore_n 2, 1) := dk_61 (dk_at dksX4_follows_6 14 rfl rfl)
theorem dX4_follows_156 : decode cX4_follows 156 = .ok (.iload_n 2, 1) := dk_28 (dk_at dksX4_follows_6 15 rfl rfl)
theorem dX4_follows_157 : decode cX4_follows 157 = .ok (.ifCond .eq 65, 3) := dk_153 0 65 (dk_at dksX4_follows_6 16 rfl rfl)
theorem dX4_follows_160 : decode cX4_follows 160 = .ok (.aload_n 0, 1) := dk_42 (dk_at dksX4_follows_6 19 rfl rfl)
theorem dX4_follows_161 : decode cX4_follows 161 = .ok (.getfield 41, 3) := dk_180 0 41 (dk_at dksX4_follows_6 20 rfl rfl)
theorem dX4_follows_164 : decode cX4_follows 164 = .ok (.bipush 10, 2) := dk_16 10 (dk_at dksX4_follows_7 0 rfl rfl)
theorem dX4_follows_166 : decode cX4_follows 166 = .ok (.aload_n 0, 1) := dk_42 (dk_at dksX4_follows_7 2 rfl rfl)
theorem dX4_follows_167 : decode cX4_follows 167 = .ok (.getfield 20, 3) := dk_180 0 20 (dk_at dksX4_follows_7 3 rfl rfl)
theorem dX4_follows_170 : decode cX4_follows 170 = .ok (.iload_n 1, 1) := dk_27 (dk_at dksX4_follows_7 6 rfl rfl)
theorem dX4_follows_171 : decode cX4_follows 171 = .ok (.iaload, 1) := dk_46 (dk_at dksX4_follows_7 7 rfl rfl)
theorem dX4_follows_172 : decode cX4_follows 172 = .ok (.imul, 1) := dk_104 (dk_at dksX4_follows_7 8 rfl rfl)
theorem dX4_follows_173 : decode cX4_follows 173 = .ok (.aload_n 0, 1) := dk_42 (dk_at dksX4_follows_7 9 rfl rfl)
theorem dX4_follows_174 : decode cX4_follows 174 = .ok (.getfield 23, 3) := dk_180 0 23 (dk_at dksX4_follows_7 10 rfl rfl)
theorem dX4_follows_177 : decode cX4_follows 177 = .ok (.iload_n 1, 1) := dk_27 (dk_at dksX4_follows_7 13 rfl rfl)
theorem dX4_follows_178 : decode cX4_follows 178 = .ok (.iaload, 1) := dk_46 (dk_at dksX4_follows_7 14 rfl rfl)
theorem dX4_follows_179 : decode cX4_follows 179 = .ok (.iadd, 1) := dk_96 (dk_at dksX4_follows_7 15 rfl rfl)
theorem dX4_follows_180 : decode cX4_follows 180 = .ok (.iconst 1, 1) := dk_4 (dk_at dksX4_follows_7 16 rfl rfl)
theorem dX4_follows_181 : decode cX4_follows 181 = .ok (.iastore, 1) := dk_79 (dk_at dksX4_follows_7 17 rfl rfl)
theorem dX4_follows_182 : decode cX4_follows 182 = .ok (.aload_n 0, 1) := dk_42 (dk_at dksX4_follows_7 18 rfl rfl)
theorem dX4_follows_183 : decode cX4_follows 183 = .ok (.getfield 41, 3) := dk_180 0 41 (dk_at dksX4_follows_7 19 rfl rfl)
theorem dX4_follows_186 : decode cX4_follows 186 = .ok (.bipush 10, 2) := dk_16 10 (dk_at dksX4_follows_7 22 rfl rfl)
theorem dX4_follows_188 : decode cX4_follows 188 = .ok (.aload_n 0, 1) := dk_42 (dk_at dksX4_follows_8 0 rfl rfl)
theorem dX4_follows_189 : decode cX4_follows 189 = .ok (.getfield 20, 3) := dk_180 0 20 (dk_at dksX4_follows_8 1 rfl rfl)
theorem dX4_follows_192 : decode cX4_follows 192 = .ok (.iload_n 1, 1) := dk_27 (dk_at dksX4_follows_8 4 rfl rfl)
theorem dX4_follows_193 : decode cX4_follows 193 = .ok (.iaload, 1) := dk_46 (dk_at dksX4_follows_8 5 rfl rfl)
theorem dX4_follows_194 : decode cX4_follows 194 = .ok (.imul, 1) := dk_104 (dk_at dksX4_follows_8 6 rfl rfl)
theorem dX4_follows_195 : decode cX4_follows 195 = .ok (.aload_n 0, 1) := dk_42 (dk_at dksX4_follows_8 7 rfl rfl)
theorem dX4_follows_196 : decode cX4_follows 196 = .ok (.getfield 26, 3) := dk_180 0 26 (dk_at dksX4_follows_8 8 rfl rfl)
theorem dX4_follows_199 : decode cX4_follows 199 = .ok (.iload_n 1, 1) := dk_27 (dk_at dksX4_follows_8 11 rfl rfl)
theorem dX4_follows_200 : decode cX4_follows 200 = .ok (.iaload, 1) := dk_46 (dk_at dksX4_follows_8 12 rfl rfl)
theorem dX4_follows_201 : decode cX4_follows 201 = .ok (.iadd, 1) := dk_96 (dk_at dksX4_follows_8 13 rfl rfl)
theorem dX4_follows_202 : decode cX4_follows 202 = .ok (.iconst 0, 1) := dk_3 (dk_at dksX4_follows_8 14 rfl rfl)
theorem dX4_follows_203 : decode cX4_follows 203 = .ok (.iastore, 1) := dk_79 (dk_at dksX4_follows_8 15 rfl rfl)
theorem dX4_follows_204 : decode cX4_follows 204 = .ok (.aload_n 0, 1) := dk_42 (dk_at dksX4_follows_8 16 rfl rfl)
theorem dX4_follows_205 : decode cX4_follows 205 = .ok (.getfield 41, 3) := dk_180 0 41 (dk_at dksX4_follows_8 17 rfl rfl)
theorem dX4_follows_208 : decode cX4_follows 208 = .ok (.bipush 102, 2) := dk_16 102 (dk_at dksX4_follows_8 20 rfl rfl)
theorem dX4_follows_210 : decode cX4_follows 210 = .ok (.aload_n 0, 1) := dk_42 (dk_at dksX4_follows_8 22 rfl rfl)
theorem dX4_follows_211 : decode cX4_follows 211 = .ok (.getfield 20, 3) := dk_180 0 20 (dk_at dksX4_follows_9 0 rfl rfl)
theorem dX4_follows_214 : decode cX4_follows 214 = .ok (.iload_n 1, 1) := dk_27 (dk_at dksX4_follows_9 3 rfl rfl)
theorem dX4_follows_215 : decode cX4_follows 215 = .ok (.iaload, 1) := dk_46 (dk_at dksX4_follows_9 4 rfl rfl)
theorem dX4_follows_216 : decode cX4_follows 216 = .ok (.iadd, 1) := dk_96 (dk_at dksX4_follows_9 5 rfl rfl)
theorem dX4_follows_217 : decode cX4_follows 217 = .ok (.dup2, 1) := dk_92 (dk_at dksX4_follows_9 6 rfl rfl)
theorem dX4_follows_218 : decode cX4_follows 218 = .ok (.iaload, 1) := dk_46 (dk_at dksX4_follows_9 7 rfl rfl)
theorem dX4_follows_219 : decode cX4_follows 219 = .ok (.iconst 1, 1) := dk_4 (dk_at dksX4_follows_9 8 rfl rfl)
theorem dX4_follows_220 : decode cX4_follows 220 = .ok (.iadd, 1) := dk_96 (dk_at dksX4_follows_9 9 rfl rfl)
theorem dX4_follows_221 : decode cX4_follows 221 = .ok (.iastore, 1) := dk_79 (dk_at dksX4_follows_9 10 rfl rfl)
theorem dX4_follows_222 : decode cX4_follows 222 = .ok (.aload_n 0, 1) := dk_42 (dk_at dksX4_follows_9 11 rfl rfl)
theorem dX4_follows_223 : decode cX4_follows 223 = .ok (.iload_n 1, 1) := dk_27 (dk_at dksX4_follows_9 12 rfl rfl)
theorem dX4_follows_224 : decode cX4_follows 224 = .ok (.invokevirtual 144, 3) := dk_182 0 144 (dk_at dksX4_follows_9 13 rfl rfl)
theorem dX4_follows_227 : decode cX4_follows 227 = .ok (.iload_n 2, 1) := dk_28 (dk_at dksX4_follows_9 16 rfl rfl)
theorem dX4_follows_228 : decode cX4_follows 228 = .ok (.ireturn, 1) := dk_172 (dk_at dksX4_follows_9 17 rfl rfl)
abbrev cX4_givesCard : ByteArray := prog_14_method_25_code
def yX4_givesCard : MethodName := ⟨RX4, "givesCard", "(III)V"⟩
def dkwX4_givesCard_4 : List UInt8 := [4, 167, 0, 4, 3, 96, 79, 42, 27, 182, 0, 115, 177]
abbrev dktX4_givesCard_4 : List UInt8 := dkwX4_givesCard_4 ++ []
def dkwX4_givesCard_3 : List UInt8 := [16, 108, 46, 17, 4, 176, 96, 79, 42, 180, 0, 41, 16, 105, 27, 100, 92, 46, 21, 4, 5, 160, 0, 7]
abbrev dktX4_givesCard_3 : List UInt8 := dkwX4_givesCard_3 ++ dktX4_givesCard_4
def dkwX4_givesCard_2 : List UInt8 := [4, 160, 0, 7, 6, 167, 0, 4, 7, 79, 42, 180, 0, 41, 16, 20, 21, 5, 96, 42, 180, 0, 41]
abbrev dktX4_givesCard_2 : List UInt8 := dkwX4_givesCard_2 ++ dktX4_givesCard_3
def dkwX4_givesCard_1 : List UInt8 := [21, 5, 96, 92, 46, 4, 21, 4, 120, 128, 79, 21, 4, 158, 0, 70, 42, 180, 0, 41, 21, 5, 21, 4]
abbrev dktX4_givesCard_1 : List UInt8 := dkwX4_givesCard_1 ++ dktX4_givesCard_2
def dkwX4_givesCard_0 : List UInt8 := [42, 27, 28, 29, 182, 0, 121, 54, 4, 16, 10, 27, 104, 28, 96, 54, 5, 42, 180, 0, 41, 16, 40]
abbrev dktX4_givesCard_0 : List UInt8 := dkwX4_givesCard_0 ++ dktX4_givesCard_1
theorem dksX4_givesCard_0 : cX4_givesCard.data.toList.drop 0 = dktX4_givesCard_0 := by decide +kernel
theorem dksX4_givesCard_1 : cX4_givesCard.data.toList.drop 23 = dktX4_givesCard_1 := dk_seg dksX4_givesCard_0 23 rfl rfl
theorem dksX4_givesCard_2 : cX4_givesCard.data.toList.drop 47 = dktX4_givesCard_2 := dk_seg dksX4_givesCard_1 24 rfl rfl
theorem dksX4_givesCard_3 : cX4_givesCard.data.toList.drop 70 = dktX4_givesCard_3 := dk_seg dksX4_givesCard_2 23 rfl rfl
theorem dksX4_givesCard_4 : cX4_givesCard.data.toList.drop 94 = dktX4_givesCard_4 := dk_seg dksX4_givesCard_3 24 rfl rfl
theorem dX4_givesCard_0 : decode cX4_givesCard 0 = .ok (.aload_n 0, 1) := dk_42 (dk_at dksX4_givesCard_0 0 rfl rfl)
theorem dX4_givesCard_1 : decode cX4_givesCard 1 = .ok (.iload_n 1, 1) := dk_27 (dk_at dksX4_givesCard_0 1 rfl rfl)
theorem dX4_givesCard_2 : decode cX4_givesCard 2 = .ok (.iload_n 2, 1) := dk_28 (dk_at dksX4_givesCard_0 2 rfl rfl)
theorem dX4_givesCard_3 : decode cX4_givesCard 3 = .ok (.iload_n 3, 1) := dk_29 (dk_at dksX4_givesCard_0 3 rfl rfl)
theorem dX4_givesCard_4 : decode cX4_givesCard 4 = .ok (.invokevirtual 121, 3) := dk_182 0 121 (dk_at dksX4_givesCard_0 4 rfl rfl)
theorem dX4_givesCard_7 : decode cX4_givesCard 7 = .ok (.istore 4, 2) := dk_54 4 (dk_at dksX4_givesCard_0 7 rfl rfl)
theorem dX4_givesCard_9 : decode cX4_givesCard 9 = .ok (.bipush 10, 2) := dk_16 10 (dk_at dksX4_givesCard_0 9 rfl rfl)
theorem dX4_givesCard_11 : decode cX4_givesCard 11 = .ok (.iload_n 1, 1) := dk_27 (dk_at dksX4_givesCard_0 11 rfl rfl)
theorem dX4_givesCard_12 : decode cX4_givesCard 12 = .ok (.imul, 1) := dk_104 (dk_at dksX4_givesCard_0 12 rfl rfl)
theorem dX4_givesCard_13 : decode cX4_givesCard 13 = .ok (.iload_n 2, 1) := dk_28 (dk_at dksX4_givesCard_0 13 rfl rfl)
theorem dX4_givesCard_14 : decode cX4_givesCard 14 = .ok (.iadd, 1) := dk_96 (dk_at dksX4_givesCard_0 14 rfl rfl)
theorem dX4_givesCard_15 : decode cX4_givesCard 15 = .ok (.istore 5, 2) := dk_54 5 (dk_at dksX4_givesCard_0 15 rfl rfl)
theorem dX4_givesCard_17 : decode cX4_givesCard 17 = .ok (.aload_n 0, 1) := dk_42 (dk_at dksX4_givesCard_0 17 rfl rfl)
theorem dX4_givesCard_18 : decode cX4_givesCard 18 = .ok (.getfield 41, 3) := dk_180 0 41 (dk_at dksX4_givesCard_0 18 rfl rfl)
theorem dX4_givesCard_21 : decode cX4_givesCard 21 = .ok (.bipush 40, 2) := dk_16 40 (dk_at dksX4_givesCard_0 21 rfl rfl)
theorem dX4_givesCard_23 : decode cX4_givesCard 23 = .ok (.iload 5, 2) := dk_21 5 (dk_at dksX4_givesCard_1 0 rfl rfl)
theorem dX4_givesCard_25 : decode cX4_givesCard 25 = .ok (.iadd, 1) := dk_96 (dk_at dksX4_givesCard_1 2 rfl rfl)
theorem dX4_givesCard_26 : decode cX4_givesCard 26 = .ok (.dup2, 1) := dk_92 (dk_at dksX4_givesCard_1 3 rfl rfl)
theorem dX4_givesCard_27 : decode cX4_givesCard 27 = .ok (.iaload, 1) := dk_46 (dk_at dksX4_givesCard_1 4 rfl rfl)
theorem dX4_givesCard_28 : decode cX4_givesCard 28 = .ok (.iconst 1, 1) := dk_4 (dk_at dksX4_givesCard_1 5 rfl rfl)
theorem dX4_givesCard_29 : decode cX4_givesCard 29 = .ok (.iload 4, 2) := dk_21 4 (dk_at dksX4_givesCard_1 6 rfl rfl)
theorem dX4_givesCard_31 : decode cX4_givesCard 31 = .ok (.ishl, 1) := dk_120 (dk_at dksX4_givesCard_1 8 rfl rfl)
theorem dX4_givesCard_32 : decode cX4_givesCard 32 = .ok (.ior, 1) := dk_128 (dk_at dksX4_givesCard_1 9 rfl rfl)
theorem dX4_givesCard_33 : decode cX4_givesCard 33 = .ok (.iastore, 1) := dk_79 (dk_at dksX4_givesCard_1 10 rfl rfl)
theorem dX4_givesCard_34 : decode cX4_givesCard 34 = .ok (.iload 4, 2) := dk_21 4 (dk_at dksX4_givesCard_1 11 rfl rfl)
theorem dX4_givesCard_36 : decode cX4_givesCard 36 = .ok (.ifCond .le 70, 3) := dk_158 0 70 (dk_at dksX4_givesCard_1 13 rfl rfl)
theorem dX4_givesCard_39 : decode cX4_givesCard 39 = .ok (.aload_n 0, 1) := dk_42 (dk_at dksX4_givesCard_1 16 rfl rfl)
theorem dX4_givesCard_40 : decode cX4_givesCard 40 = .ok (.getfield 41, 3) := dk_180 0 41 (dk_at dksX4_givesCard_1 17 rfl rfl)
theorem dX4_givesCard_43 : decode cX4_givesCard 43 = .ok (.iload 5, 2) := dk_21 5 (dk_at dksX4_givesCard_1 20 rfl rfl)
theorem dX4_givesCard_45 : decode cX4_givesCard 45 = .ok (.iload 4, 2) := dk_21 4 (dk_at dksX4_givesCard_1 22 rfl rfl)
theorem dX4_givesCard_47 : decode cX4_givesCard 47 = .ok (.iconst 1, 1) := dk_4 (dk_at dksX4_givesCard_2 0 rfl rfl)
theorem dX4_givesCard_48 : decode cX4_givesCard 48 = .ok (.if_icmp .ne 7, 3) := dk_160 0 7 (dk_at dksX4_givesCard_2 1 rfl rfl)
theorem dX4_givesCard_51 : decode cX4_givesCard 51 = .ok (.iconst 3, 1) := dk_6 (dk_at dksX4_givesCard_2 4 rfl rfl)
theorem dX4_givesCard_52 : decode cX4_givesCard 52 = .ok (.goto 4, 3) := dk_167 0 4 (dk_at dksX4_givesCard_2 5 rfl rfl)
theorem dX4_givesCard_55 : decode cX4_givesCard 55 = .ok (.iconst 4, 1) := dk_7 (dk_at dksX4_givesCard_2 8 rfl rfl)
theorem dX4_givesCard_56 : decode cX4_givesCard 56 = .ok (.iastore, 1) := dk_79 (dk_at dksX4_givesCard_2 9 rfl rfl)
theorem dX4_givesCard_57 : decode cX4_givesCard 57 = .ok (.aload_n 0, 1) := dk_42 (dk_at dksX4_givesCard_2 10 rfl rfl)
theorem dX4_givesCard_58 : decode cX4_givesCard 58 = .ok (.getfield 41, 3) := dk_180 0 41 (dk_at dksX4_givesCard_2 11 rfl rfl)
theorem dX4_givesCard_61 : decode cX4_givesCard 61 = .ok (.bipush 20, 2) := dk_16 20 (dk_at dksX4_givesCard_2 14 rfl rfl)
theorem dX4_givesCard_63 : decode cX4_givesCard 63 = .ok (.iload 5, 2) := dk_21 5 (dk_at dksX4_givesCard_2 16 rfl rfl)
theorem dX4_givesCard_65 : decode cX4_givesCard 65 = .ok (.iadd, 1) := dk_96 (dk_at dksX4_givesCard_2 18 rfl rfl)
theorem dX4_givesCard_66 : decode cX4_givesCard 66 = .ok (.aload_n 0, 1) := dk_42 (dk_at dksX4_givesCard_2 19 rfl rfl)
theorem dX4_givesCard_67 : decode cX4_givesCard 67 = .ok (.getfield 41, 3) := dk_180 0 41 (dk_at dksX4_givesCard_2 20 rfl rfl)
theorem dX4_givesCard_70 : decode cX4_givesCard 70 = .ok (.bipush 108, 2) := dk_16 108 (dk_at dksX4_givesCard_3 0 rfl rfl)
theorem dX4_givesCard_72 : decode cX4_givesCard 72 = .ok (.iaload, 1) := dk_46 (dk_at dksX4_givesCard_3 2 rfl rfl)
theorem dX4_givesCard_73 : decode cX4_givesCard 73 = .ok (.sipush 1200, 3) := dk_17 4 176 (dk_at dksX4_givesCard_3 3 rfl rfl)
theorem dX4_givesCard_76 : decode cX4_givesCard 76 = .ok (.iadd, 1) := dk_96 (dk_at dksX4_givesCard_3 6 rfl rfl)
theorem dX4_givesCard_77 : decode cX4_givesCard 77 = .ok (.iastore, 1) := dk_79 (dk_at dksX4_givesCard_3 7 rfl rfl)
theorem dX4_givesCard_78 : decode cX4_givesCard 78 = .ok (.aload_n 0, 1) := dk_42 (dk_at dksX4_givesCard_3 8 rfl rfl)
theorem dX4_givesCard_79 : decode cX4_givesCard 79 = .ok (.getfield 41, 3) := dk_180 0 41 (dk_at dksX4_givesCard_3 9 rfl rfl)
theorem dX4_givesCard_82 : decode cX4_givesCard 82 = .ok (.bipush 105, 2) := dk_16 105 (dk_at dksX4_givesCard_3 12 rfl rfl)
theorem dX4_givesCard_84 : decode cX4_givesCard 84 = .ok (.iload_n 1, 1) := dk_27 (dk_at dksX4_givesCard_3 14 rfl rfl)
theorem dX4_givesCard_85 : decode cX4_givesCard 85 = .ok (.isub, 1) := dk_100 (dk_at dksX4_givesCard_3 15 rfl rfl)
theorem dX4_givesCard_86 : decode cX4_givesCard 86 = .ok (.dup2, 1) := dk_92 (dk_at dksX4_givesCard_3 16 rfl rfl)
theorem dX4_givesCard_87 : decode cX4_givesCard 87 = .ok (.iaload, 1) := dk_46 (dk_at dksX4_givesCard_3 17 rfl rfl)
theorem dX4_givesCard_88 : decode cX4_givesCard 88 = .ok (.iload 4, 2) := dk_21 4 (dk_at dksX4_givesCard_3 18 rfl rfl)
theorem dX4_givesCard_90 : decode cX4_givesCard 90 = .ok (.iconst 2, 1) := dk_5 (dk_at dksX4_givesCard_3 20 rfl rfl)
theorem dX4_givesCard_91 : decode cX4_givesCard 91 = .ok (.if_icmp .ne 7, 3) := dk_160 0 7 (dk_at dksX4_givesCard_3 21 rfl rfl)
theorem dX4_givesCard_94 : decode cX4_givesCard 94 = .ok (.iconst 1, 1) := dk_4 (dk_at dksX4_givesCard_4 0 rfl rfl)
theorem dX4_givesCard_95 : decode cX4_givesCard 95 = .ok (.goto 4, 3) := dk_167 0 4 (dk_at dksX4_givesCard_4 1 rfl rfl)
theorem dX4_givesCard_98 : decode cX4_givesCard 98 = .ok (.iconst 0, 1) := dk_3 (dk_at dksX4_givesCard_4 4 rfl rfl)
theorem dX4_givesCard_99 : decode cX4_givesCard 99 = .ok (.iadd, 1) := dk_96 (dk_at dksX4_givesCard_4 5 rfl rfl)
theorem dX4_givesCard_100 : decode cX4_givesCard 100 = .ok (.iastore, 1) := dk_79 (dk_at dksX4_givesCard_4 6 rfl rfl)
theorem dX4_givesCard_101 : decode cX4_givesCard 101 = .ok (.aload_n 0, 1) := dk_42 (dk_at dksX4_givesCard_4 7 rfl rfl)
theorem dX4_givesCard_102 : decode cX4_givesCard 102 = .ok (.iload_n 1, 1) := dk_27 (dk_at dksX4_givesCard_4 8 rfl rfl)
theorem dX4_givesCard_103 : decode cX4_givesCard 103 = .ok (.invokevirtual 115, 3) := dk_182 0 115 (dk_at dksX4_givesCard_4 9 rfl rfl)
theorem dX4_givesCard_106 : decode cX4_givesCard 106 = .ok (.return_, 1) := dk_177 (dk_at dksX4_givesCard_4 12 rfl rfl)
abbrev cX4_canChange : ByteArray := prog_14_method_24_code
def yX4_canChange : MethodName := ⟨RX4, "canChange", "(III)Z"⟩
def dkwX4_canChange_1 : List UInt8 := [16, 102, 27, 96, 46, 8, 162, 0, 7, 4, 167, 0, 4, 3, 172]
abbrev dktX4_canChange_1 : List UInt8 := dkwX4_canChange_1 ++ []
def dkwX4_canChange_0 : List UInt8 := [42, 27, 28, 3, 182, 0, 85, 153, 0, 30, 42, 27, 29, 4, 182, 0, 85, 153, 0, 20, 42, 180, 0, 41]
abbrev dktX4_canChange_0 : List UInt8 := dkwX4_canChange_0 ++ dktX4_canChange_1
theorem dksX4_canChange_0 : cX4_canChange.data.toList.drop 0 = dktX4_canChange_0 := by decide +kernel
theorem dksX4_canChange_1 : cX4_canChange.data.toList.drop 24 = dktX4_canChange_1 := dk_seg dksX4_canChange_0 24 rfl rfl
theorem dX4_canChange_0 : decode cX4_canChange 0 = .ok (.aload_n 0, 1) := dk_42 (dk_at dksX4_canChange_0 0 rfl rfl)
theorem dX4_canChange_1 : decode cX4_canChange 1 = .ok (.iload_n 1, 1) := dk_27 (dk_at dksX4_canChange_0 1 rfl rfl)
theorem dX4_canChange_2 : decode cX4_canChange 2 = .ok (.iload_n 2, 1) := dk_28 (dk_at dksX4_canChange_0 2 rfl rfl)
theorem dX4_canChange_3 : decode cX4_canChange 3 = .ok (.iconst 0, 1) := dk_3 (dk_at dksX4_canChange_0 3 rfl rfl)
theorem dX4_canChange_4 : decode cX4_canChange 4 = .ok (.invokevirtual 85, 3) := dk_182 0 85 (dk_at dksX4_canChange_0 4 rfl rfl)
theorem dX4_canChange_7 : decode cX4_canChange 7 = .ok (.ifCond .eq 30, 3) := dk_153 0 30 (dk_at dksX4_canChange_0 7 rfl rfl)
theorem dX4_canChange_10 : decode cX4_canChange 10 = .ok (.aload_n 0, 1) := dk_42 (dk_at dksX4_canChange_0 10 rfl rfl)
theorem dX4_canChange_11 : decode cX4_canChange 11 = .ok (.iload_n 1, 1) := dk_27 (dk_at dksX4_canChange_0 11 rfl rfl)
theorem dX4_canChange_12 : decode cX4_canChange 12 = .ok (.iload_n 3, 1) := dk_29 (dk_at dksX4_canChange_0 12 rfl rfl)
theorem dX4_canChange_13 : decode cX4_canChange 13 = .ok (.iconst 1, 1) := dk_4 (dk_at dksX4_canChange_0 13 rfl rfl)
theorem dX4_canChange_14 : decode cX4_canChange 14 = .ok (.invokevirtual 85, 3) := dk_182 0 85 (dk_at dksX4_canChange_0 14 rfl rfl)
theorem dX4_canChange_17 : decode cX4_canChange 17 = .ok (.ifCond .eq 20, 3) := dk_153 0 20 (dk_at dksX4_canChange_0 17 rfl rfl)
theorem dX4_canChange_20 : decode cX4_canChange 20 = .ok (.aload_n 0, 1) := dk_42 (dk_at dksX4_canChange_0 20 rfl rfl)
theorem dX4_canChange_21 : decode cX4_canChange 21 = .ok (.getfield 41, 3) := dk_180 0 41 (dk_at dksX4_canChange_0 21 rfl rfl)
theorem dX4_canChange_24 : decode cX4_canChange 24 = .ok (.bipush 102, 2) := dk_16 102 (dk_at dksX4_canChange_1 0 rfl rfl)
theorem dX4_canChange_26 : decode cX4_canChange 26 = .ok (.iload_n 1, 1) := dk_27 (dk_at dksX4_canChange_1 2 rfl rfl)
theorem dX4_canChange_27 : decode cX4_canChange 27 = .ok (.iadd, 1) := dk_96 (dk_at dksX4_canChange_1 3 rfl rfl)
theorem dX4_canChange_28 : decode cX4_canChange 28 = .ok (.iaload, 1) := dk_46 (dk_at dksX4_canChange_1 4 rfl rfl)
theorem dX4_canChange_29 : decode cX4_canChange 29 = .ok (.iconst 5, 1) := dk_8 (dk_at dksX4_canChange_1 5 rfl rfl)
theorem dX4_canChange_30 : decode cX4_canChange 30 = .ok (.if_icmp .ge 7, 3) := dk_162 0 7 (dk_at dksX4_canChange_1 6 rfl rfl)
theorem dX4_canChange_33 : decode cX4_canChange 33 = .ok (.iconst 1, 1) := dk_4 (dk_at dksX4_canChange_1 9 rfl rfl)
theorem dX4_canChange_34 : decode cX4_canChange 34 = .ok (.goto 4, 3) := dk_167 0 4 (dk_at dksX4_canChange_1 10 rfl rfl)
theorem dX4_canChange_37 : decode cX4_canChange 37 = .ok (.iconst 0, 1) := dk_3 (dk_at dksX4_canChange_1 13 rfl rfl)
theorem dX4_canChange_38 : decode cX4_canChange 38 = .ok (.ireturn, 1) := dk_172 (dk_at dksX4_canChange_1 14 rfl rfl)
abbrev cX4_change : ByteArray := prog_14_method_38_code
def yX4_change : MethodName := ⟨RX4, "change", "(III)I"⟩
def dkwX4_change_4 : List UInt8 := [96, 46, 167, 0, 4, 3, 172]
abbrev dktX4_change_4 : List UInt8 := dkwX4_change_4 ++ []
def dkwX4_change_3 : List UInt8 := [27, 28, 29, 182, 0, 182, 54, 5, 42, 21, 5, 182, 0, 160, 153, 0, 15, 42, 180, 0, 41, 16, 102, 27]
abbrev dktX4_change_3 : List UInt8 := dkwX4_change_3 ++ dktX4_change_4
def dkwX4_change_2 : List UInt8 := [27, 28, 29, 182, 0, 141, 154, 0, 7, 5, 167, 0, 4, 3, 182, 0, 169, 154, 0, 5, 3, 172, 42, 5]
abbrev dktX4_change_2 : List UInt8 := dkwX4_change_2 ++ dktX4_change_3
def dkwX4_change_1 : List UInt8 := [167, 0, 4, 3, 54, 4, 42, 21, 4, 154, 0, 7, 4, 167, 0, 25, 42, 182, 0, 178, 153, 0, 13, 42]
abbrev dktX4_change_1 : List UInt8 := dkwX4_change_1 ++ dktX4_change_2
def dkwX4_change_0 : List UInt8 := [27, 184, 0, 192, 153, 0, 21, 28, 184, 0, 175, 153, 0, 14, 29, 184, 0, 175, 153, 0, 7, 4]
abbrev dktX4_change_0 : List UInt8 := dkwX4_change_0 ++ dktX4_change_1
theorem dksX4_change_0 : cX4_change.data.toList.drop 0 = dktX4_change_0 := by decide +kernel
theorem dksX4_change_1 : cX4_change.data.toList.drop 22 = dktX4_change_1 := dk_seg dksX4_change_0 22 rfl rfl
theorem dksX4_change_2 : cX4_change.data.toList.drop 46 = dktX4_change_2 := dk_seg dksX4_change_1 24 rfl rfl
theorem dksX4_change_3 : cX4_change.data.toList.drop 70 = dktX4_change_3 := dk_seg dksX4_change_2 24 rfl rfl
theorem dksX4_change_4 : cX4_change.data.toList.drop 94 = dktX4_change_4 := dk_seg dksX4_change_3 24 rfl rfl
theorem dX4_change_0 : decode cX4_change 0 = .ok (.iload_n 1, 1) := dk_27 (dk_at dksX4_change_0 0 rfl rfl)
theorem dX4_change_1 : decode cX4_change 1 = .ok (.invokestatic 192, 3) := dk_184 0 192 (dk_at dksX4_change_0 1 rfl rfl)
theorem dX4_change_4 : decode cX4_change 4 = .ok (.ifCond .eq 21, 3) := dk_153 0 21 (dk_at dksX4_change_0 4 rfl rfl)
theorem dX4_change_7 : decode cX4_change 7 = .ok (.iload_n 2, 1) := dk_28 (dk_at dksX4_change_0 7 rfl rfl)
theorem dX4_change_8 : decode cX4_change 8 = .ok (.invokestatic 175, 3) := dk_184 0 175 (dk_at dksX4_change_0 8 rfl rfl)
theorem dX4_change_11 : decode cX4_change 11 = .ok (.ifCond .eq 14, 3) := dk_153 0 14 (dk_at dksX4_change_0 11 rfl rfl)
theorem dX4_change_14 : decode cX4_change 14 = .ok (.iload_n 3, 1) := dk_29 (dk_at dksX4_change_0 14 rfl rfl)
theorem dX4_change_15 : decode cX4_change 15 = .ok (.invokestatic 175, 3) := dk_184 0 175 (dk_at dksX4_change_0 15 rfl rfl)
theorem dX4_change_18 : decode cX4_change 18 = .ok (.ifCond .eq 7, 3) := dk_153 0 7 (dk_at dksX4_change_0 18 rfl rfl)
theorem dX4_change_21 : decode cX4_change 21 = .ok (.iconst 1, 1) := dk_4 (dk_at dksX4_change_0 21 rfl rfl)
theorem dX4_change_22 : decode cX4_change 22 = .ok (.goto 4, 3) := dk_167 0 4 (dk_at dksX4_change_1 0 rfl rfl)
theorem dX4_change_25 : decode cX4_change 25 = .ok (.iconst 0, 1) := dk_3 (dk_at dksX4_change_1 3 rfl rfl)
theorem dX4_change_26 : decode cX4_change 26 = .ok (.istore 4, 2) := dk_54 4 (dk_at dksX4_change_1 4 rfl rfl)
theorem dX4_change_28 : decode cX4_change 28 = .ok (.aload_n 0, 1) := dk_42 (dk_at dksX4_change_1 6 rfl rfl)
theorem dX4_change_29 : decode cX4_change 29 = .ok (.iload 4, 2) := dk_21 4 (dk_at dksX4_change_1 7 rfl rfl)
theorem dX4_change_31 : decode cX4_change 31 = .ok (.ifCond .ne 7, 3) := dk_154 0 7 (dk_at dksX4_change_1 9 rfl rfl)
theorem dX4_change_34 : decode cX4_change 34 = .ok (.iconst 1, 1) := dk_4 (dk_at dksX4_change_1 12 rfl rfl)
theorem dX4_change_35 : decode cX4_change 35 = .ok (.goto 25, 3) := dk_167 0 25 (dk_at dksX4_change_1 13 rfl rfl)
theorem dX4_change_38 : decode cX4_change 38 = .ok (.aload_n 0, 1) := dk_42 (dk_at dksX4_change_1 16 rfl rfl)
theorem dX4_change_39 : decode cX4_change 39 = .ok (.invokevirtual 178, 3) := dk_182 0 178 (dk_at dksX4_change_1 17 rfl rfl)
theorem dX4_change_42 : decode cX4_change 42 = .ok (.ifCond .eq 13, 3) := dk_153 0 13 (dk_at dksX4_change_1 20 rfl rfl)
theorem dX4_change_45 : decode cX4_change 45 = .ok (.aload_n 0, 1) := dk_42 (dk_at dksX4_change_1 23 rfl rfl)
theorem dX4_change_46 : decode cX4_change 46 = .ok (.iload_n 1, 1) := dk_27 (dk_at dksX4_change_2 0 rfl rfl)
theorem dX4_change_47 : decode cX4_change 47 = .ok (.iload_n 2, 1) := dk_28 (dk_at dksX4_change_2 1 rfl rfl)
theorem dX4_change_48 : decode cX4_change 48 = .ok (.iload_n 3, 1) := dk_29 (dk_at dksX4_change_2 2 rfl rfl)
theorem dX4_change_49 : decode cX4_change 49 = .ok (.invokevirtual 141, 3) := dk_182 0 141 (dk_at dksX4_change_2 3 rfl rfl)
theorem dX4_change_52 : decode cX4_change 52 = .ok (.ifCond .ne 7, 3) := dk_154 0 7 (dk_at dksX4_change_2 6 rfl rfl)
theorem dX4_change_55 : decode cX4_change 55 = .ok (.iconst 2, 1) := dk_5 (dk_at dksX4_change_2 9 rfl rfl)
theorem dX4_change_56 : decode cX4_change 56 = .ok (.goto 4, 3) := dk_167 0 4 (dk_at dksX4_change_2 10 rfl rfl)
theorem dX4_change_59 : decode cX4_change 59 = .ok (.iconst 0, 1) := dk_3 (dk_at dksX4_change_2 13 rfl rfl)
theorem dX4_change_60 : decode cX4_change 60 = .ok (.invokevirtual 169, 3) := dk_182 0 169 (dk_at dksX4_change_2 14 rfl rfl)
theorem dX4_change_63 : decode cX4_change 63 = .ok (.ifCond .ne 5, 3) := dk_154 0 5 (dk_at dksX4_change_2 17 rfl rfl)
theorem dX4_change_66 : decode cX4_change 66 = .ok (.iconst 0, 1) := dk_3 (dk_at dksX4_change_2 20 rfl rfl)
theorem dX4_change_67 : decode cX4_change 67 = .ok (.ireturn, 1) := dk_172 (dk_at dksX4_change_2 21 rfl rfl)
theorem dX4_change_68 : decode cX4_change 68 = .ok (.aload_n 0, 1) := dk_42 (dk_at dksX4_change_2 22 rfl rfl)
theorem dX4_change_69 : decode cX4_change 69 = .ok (.iconst 2, 1) := dk_5 (dk_at dksX4_change_2 23 rfl rfl)
theorem dX4_change_70 : decode cX4_change 70 = .ok (.iload_n 1, 1) := dk_27 (dk_at dksX4_change_3 0 rfl rfl)
theorem dX4_change_71 : decode cX4_change 71 = .ok (.iload_n 2, 1) := dk_28 (dk_at dksX4_change_3 1 rfl rfl)
theorem dX4_change_72 : decode cX4_change 72 = .ok (.iload_n 3, 1) := dk_29 (dk_at dksX4_change_3 2 rfl rfl)
theorem dX4_change_73 : decode cX4_change 73 = .ok (.invokevirtual 182, 3) := dk_182 0 182 (dk_at dksX4_change_3 3 rfl rfl)
theorem dX4_change_76 : decode cX4_change 76 = .ok (.istore 5, 2) := dk_54 5 (dk_at dksX4_change_3 6 rfl rfl)
theorem dX4_change_78 : decode cX4_change 78 = .ok (.aload_n 0, 1) := dk_42 (dk_at dksX4_change_3 8 rfl rfl)
theorem dX4_change_79 : decode cX4_change 79 = .ok (.iload 5, 2) := dk_21 5 (dk_at dksX4_change_3 9 rfl rfl)
theorem dX4_change_81 : decode cX4_change 81 = .ok (.invokevirtual 160, 3) := dk_182 0 160 (dk_at dksX4_change_3 11 rfl rfl)
theorem dX4_change_84 : decode cX4_change 84 = .ok (.ifCond .eq 15, 3) := dk_153 0 15 (dk_at dksX4_change_3 14 rfl rfl)
theorem dX4_change_87 : decode cX4_change 87 = .ok (.aload_n 0, 1) := dk_42 (dk_at dksX4_change_3 17 rfl rfl)
theorem dX4_change_88 : decode cX4_change 88 = .ok (.getfield 41, 3) := dk_180 0 41 (dk_at dksX4_change_3 18 rfl rfl)
theorem dX4_change_91 : decode cX4_change 91 = .ok (.bipush 102, 2) := dk_16 102 (dk_at dksX4_change_3 21 rfl rfl)
theorem dX4_change_93 : decode cX4_change 93 = .ok (.iload_n 1, 1) := dk_27 (dk_at dksX4_change_3 23 rfl rfl)
theorem dX4_change_94 : decode cX4_change 94 = .ok (.iadd, 1) := dk_96 (dk_at dksX4_change_4 0 rfl rfl)
theorem dX4_change_95 : decode cX4_change 95 = .ok (.iaload, 1) := dk_46 (dk_at dksX4_change_4 1 rfl rfl)
theorem dX4_change_96 : decode cX4_change 96 = .ok (.goto 4, 3) := dk_167 0 4 (dk_at dksX4_change_4 2 rfl rfl)
theorem dX4_change_99 : decode cX4_change 99 = .ok (.iconst 0, 1) := dk_3 (dk_at dksX4_change_4 5 rfl rfl)
theorem dX4_change_100 : decode cX4_change 100 = .ok (.ireturn, 1) := dk_172 (dk_at dksX4_change_4 6 rfl rfl)
abbrev cX4_review : ByteArray := prog_14_method_43_code
def yX4_review : MethodName := ⟨RX4, "review", "(IIIII)I"⟩
def dkwX4_review_8 : List UInt8 := [4, 167, 0, 4, 3, 84, 21, 10, 172]
abbrev dktX4_review_8 : List UInt8 := dkwX4_review_8 ++ []
def dkwX4_review_7 : List UInt8 := [180, 0, 41, 16, 105, 27, 100, 46, 100, 21, 8, 100, 54, 10, 42, 180, 0, 13, 27, 21, 10, 157, 0, 7]
abbrev dktX4_review_7 : List UInt8 := dkwX4_review_7 ++ dktX4_review_8
def dkwX4_review_6 : List UInt8 := [21, 4, 21, 5, 182, 0, 198, 42, 182, 0, 201, 54, 9, 42, 180, 0, 41, 16, 104, 27, 96, 46, 42]
abbrev dktX4_review_6 : List UInt8 := dkwX4_review_6 ++ dktX4_review_7
def dkwX4_review_5 : List UInt8 := [16, 104, 27, 96, 46, 42, 180, 0, 41, 16, 105, 27, 100, 46, 100, 54, 8, 42, 16, 14, 28, 104, 29, 96]
abbrev dktX4_review_5 : List UInt8 := dkwX4_review_5 ++ dktX4_review_6
def dkwX4_review_4 : List UInt8 := [182, 0, 207, 2, 159, 0, 7, 6, 167, 0, 4, 3, 182, 0, 169, 154, 0, 5, 3, 172, 42, 180, 0, 41]
abbrev dktX4_review_4 : List UInt8 := dkwX4_review_4 ++ dktX4_review_5
def dkwX4_review_3 : List UInt8 := [180, 0, 147, 154, 0, 26, 42, 180, 0, 13, 27, 51, 154, 0, 17, 42, 28, 29, 21, 4, 21, 5]
abbrev dktX4_review_3 : List UInt8 := dkwX4_review_3 ++ dktX4_review_4
def dkwX4_review_2 : List UInt8 := [3, 54, 7, 42, 21, 6, 154, 0, 7, 4, 167, 0, 47, 21, 7, 154, 0, 7, 5, 167, 0, 38, 42]
abbrev dktX4_review_2 : List UInt8 := dkwX4_review_2 ++ dktX4_review_3
def dkwX4_review_1 : List UInt8 := [21, 4, 3, 8, 184, 0, 81, 153, 0, 17, 21, 4, 21, 5, 184, 0, 186, 153, 0, 7, 4, 167, 0, 4]
abbrev dktX4_review_1 : List UInt8 := dkwX4_review_1 ++ dktX4_review_2
def dkwX4_review_0 : List UInt8 := [27, 184, 0, 192, 153, 0, 16, 42, 28, 29, 182, 0, 204, 153, 0, 7, 4, 167, 0, 4, 3, 54, 6]
abbrev dktX4_review_0 : List UInt8 := dkwX4_review_0 ++ dktX4_review_1
theorem dksX4_review_0 : cX4_review.data.toList.drop 0 = dktX4_review_0 := by decide +kernel
theorem dksX4_review_1 : cX4_review.data.toList.drop 23 = dktX4_review_1 := dk_seg dksX4_review_0 23 rfl rfl
theorem dksX4_review_2 : cX4_review.data.toList.drop 47 = dktX4_review_2 := dk_seg dksX4_review_1 24 rfl rfl
theorem dksX4_review_3 : cX4_review.data.toList.drop 70 = dktX4_review_3 := dk_seg dksX4_review_2 23 rfl rfl
theorem dksX4_review_4 : cX4_review.data.toList.drop 92 = dktX4_review_4 := dk_seg dksX4_review_3 22 rfl rfl
theorem dksX4_review_5 : cX4_review.data.toList.drop 116 = dktX4_review_5 := dk_seg dksX4_review_4 24 rfl rfl
theorem dksX4_review_6 : cX4_review.data.toList.drop 140 = dktX4_review_6 := dk_seg dksX4_review_5 24 rfl rfl
theorem dksX4_review_7 : cX4_review.data.toList.drop 163 = dktX4_review_7 := dk_seg dksX4_review_6 23 rfl rfl
theorem dksX4_review_8 : cX4_review.data.toList.drop 187 = dktX4_review_8 := dk_seg dksX4_review_7 24 rfl rfl
theorem dX4_review_0 : decode cX4_review 0 = .ok (.iload_n 1, 1) := dk_27 (dk_at dksX4_review_0 0 rfl rfl)
theorem dX4_review_1 : decode cX4_review 1 = .ok (.invokestatic 192, 3) := dk_184 0 192 (dk_at dksX4_review_0 1 rfl rfl)
theorem dX4_review_4 : decode cX4_review 4 = .ok (.ifCond .eq 16, 3) := dk_153 0 16 (dk_at dksX4_review_0 4 rfl rfl)
theorem dX4_review_7 : decode cX4_review 7 = .ok (.aload_n 0, 1) := dk_42 (dk_at dksX4_review_0 7 rfl rfl)
theorem dX4_review_8 : decode cX4_review 8 = .ok (.iload_n 2, 1) := dk_28 (dk_at dksX4_review_0 8 rfl rfl)
theorem dX4_review_9 : decode cX4_review 9 = .ok (.iload_n 3, 1) := dk_29 (dk_at dksX4_review_0 9 rfl rfl)
theorem dX4_review_10 : decode cX4_review 10 = .ok (.invokevirtual 204, 3) := dk_182 0 204 (dk_at dksX4_review_0 10 rfl rfl)
theorem dX4_review_13 : decode cX4_review 13 = .ok (.ifCond .eq 7, 3) := dk_153 0 7 (dk_at dksX4_review_0 13 rfl rfl)
theorem dX4_review_16 : decode cX4_review 16 = .ok (.iconst 1, 1) := dk_4 (dk_at dksX4_review_0 16 rfl rfl)
theorem dX4_review_17 : decode cX4_review 17 = .ok (.goto 4, 3) := dk_167 0 4 (dk_at dksX4_review_0 17 rfl rfl)
theorem dX4_review_20 : decode cX4_review 20 = .ok (.iconst 0, 1) := dk_3 (dk_at dksX4_review_0 20 rfl rfl)
theorem dX4_review_21 : decode cX4_review 21 = .ok (.istore 6, 2) := dk_54 6 (dk_at dksX4_review_0 21 rfl rfl)
theorem dX4_review_23 : decode cX4_review 23 = .ok (.iload 4, 2) := dk_21 4 (dk_at dksX4_review_1 0 rfl rfl)
theorem dX4_review_25 : decode cX4_review 25 = .ok (.iconst 0, 1) := dk_3 (dk_at dksX4_review_1 2 rfl rfl)
theorem dX4_review_26 : decode cX4_review 26 = .ok (.iconst 5, 1) := dk_8 (dk_at dksX4_review_1 3 rfl rfl)
theorem dX4_review_27 : decode cX4_review 27 = .ok (.invokestatic 81, 3) := dk_184 0 81 (dk_at dksX4_review_1 4 rfl rfl)
theorem dX4_review_30 : decode cX4_review 30 = .ok (.ifCond .eq 17, 3) := dk_153 0 17 (dk_at dksX4_review_1 7 rfl rfl)
theorem dX4_review_33 : decode cX4_review 33 = .ok (.iload 4, 2) := dk_21 4 (dk_at dksX4_review_1 10 rfl rfl)
theorem dX4_review_35 : decode cX4_review 35 = .ok (.iload 5, 2) := dk_21 5 (dk_at dksX4_review_1 12 rfl rfl)
theorem dX4_review_37 : decode cX4_review 37 = .ok (.invokestatic 186, 3) := dk_184 0 186 (dk_at dksX4_review_1 14 rfl rfl)
theorem dX4_review_40 : decode cX4_review 40 = .ok (.ifCond .eq 7, 3) := dk_153 0 7 (dk_at dksX4_review_1 17 rfl rfl)
theorem dX4_review_43 : decode cX4_review 43 = .ok (.iconst 1, 1) := dk_4 (dk_at dksX4_review_1 20 rfl rfl)
theorem dX4_review_44 : decode cX4_review 44 = .ok (.goto 4, 3) := dk_167 0 4 (dk_at dksX4_review_1 21 rfl rfl)
theorem dX4_review_47 : decode cX4_review 47 = .ok (.iconst 0, 1) := dk_3 (dk_at dksX4_review_2 0 rfl rfl)
theorem dX4_review_48 : decode cX4_review 48 = .ok (.istore 7, 2) := dk_54 7 (dk_at dksX4_review_2 1 rfl rfl)
theorem dX4_review_50 : decode cX4_review 50 = .ok (.aload_n 0, 1) := dk_42 (dk_at dksX4_review_2 3 rfl rfl)
theorem dX4_review_51 : decode cX4_review 51 = .ok (.iload 6, 2) := dk_21 6 (dk_at dksX4_review_2 4 rfl rfl)
theorem dX4_review_53 : decode cX4_review 53 = .ok (.ifCond .ne 7, 3) := dk_154 0 7 (dk_at dksX4_review_2 6 rfl rfl)
theorem dX4_review_56 : decode cX4_review 56 = .ok (.iconst 1, 1) := dk_4 (dk_at dksX4_review_2 9 rfl rfl)
theorem dX4_review_57 : decode cX4_review 57 = .ok (.goto 47, 3) := dk_167 0 47 (dk_at dksX4_review_2 10 rfl rfl)
theorem dX4_review_60 : decode cX4_review 60 = .ok (.iload 7, 2) := dk_21 7 (dk_at dksX4_review_2 13 rfl rfl)
theorem dX4_review_62 : decode cX4_review 62 = .ok (.ifCond .ne 7, 3) := dk_154 0 7 (dk_at dksX4_review_2 15 rfl rfl)
theorem dX4_review_65 : decode cX4_review 65 = .ok (.iconst 2, 1) := dk_5 (dk_at dksX4_review_2 18 rfl rfl)
theorem dX4_review_66 : decode cX4_review 66 = .ok (.goto 38, 3) := dk_167 0 38 (dk_at dksX4_review_2 19 rfl rfl)
theorem dX4_review_69 : decode cX4_review 69 = .ok (.aload_n 0, 1) := dk_42 (dk_at dksX4_review_2 22 rfl rfl)
theorem dX4_review_70 : decode cX4_review 70 = .ok (.getfield 147, 3) := dk_180 0 147 (dk_at dksX4_review_3 0 rfl rfl)
theorem dX4_review_73 : decode cX4_review 73 = .ok (.ifCond .ne 26, 3) := dk_154 0 26 (dk_at dksX4_review_3 3 rfl rfl)
theorem dX4_review_76 : decode cX4_review 76 = .ok (.aload_n 0, 1) := dk_42 (dk_at dksX4_review_3 6 rfl rfl)
theorem dX4_review_77 : decode cX4_review 77 = .ok (.getfield 13, 3) := dk_180 0 13 (dk_at dksX4_review_3 7 rfl rfl)
theorem dX4_review_80 : decode cX4_review 80 = .ok (.iload_n 1, 1) := dk_27 (dk_at dksX4_review_3 10 rfl rfl)
theorem dX4_review_81 : decode cX4_review 81 = .ok (.baload, 1) := dk_51 (dk_at dksX4_review_3 11 rfl rfl)
theorem dX4_review_82 : decode cX4_review 82 = .ok (.ifCond .ne 17, 3) := dk_154 0 17 (dk_at dksX4_review_3 12 rfl rfl)
theorem dX4_review_85 : decode cX4_review 85 = .ok (.aload_n 0, 1) := dk_42 (dk_at dksX4_review_3 15 rfl rfl)
theorem dX4_review_86 : decode cX4_review 86 = .ok (.iload_n 2, 1) := dk_28 (dk_at dksX4_review_3 16 rfl rfl)
theorem dX4_review_87 : decode cX4_review 87 = .ok (.iload_n 3, 1) := dk_29 (dk_at dksX4_review_3 17 rfl rfl)
theorem dX4_review_88 : decode cX4_review 88 = .ok (.iload 4, 2) := dk_21 4 (dk_at dksX4_review_3 18 rfl rfl)
theorem dX4_review_90 : decode cX4_review 90 = .ok (.iload 5, 2) := dk_21 5 (dk_at dksX4_review_3 20 rfl rfl)
theorem dX4_review_92 : decode cX4_review 92 = .ok (.invokevirtual 207, 3) := dk_182 0 207 (dk_at dksX4_review_4 0 rfl rfl)
theorem dX4_review_95 : decode cX4_review 95 = .ok (.iconst (-1), 1) := dk_2 (dk_at dksX4_review_4 3 rfl rfl)
theorem dX4_review_96 : decode cX4_review 96 = .ok (.if_icmp .eq 7, 3) := dk_159 0 7 (dk_at dksX4_review_4 4 rfl rfl)
theorem dX4_review_99 : decode cX4_review 99 = .ok (.iconst 3, 1) := dk_6 (dk_at dksX4_review_4 7 rfl rfl)
theorem dX4_review_100 : decode cX4_review 100 = .ok (.goto 4, 3) := dk_167 0 4 (dk_at dksX4_review_4 8 rfl rfl)
theorem dX4_review_103 : decode cX4_review 103 = .ok (.iconst 0, 1) := dk_3 (dk_at dksX4_review_4 11 rfl rfl)
theorem dX4_review_104 : decode cX4_review 104 = .ok (.invokevirtual 169, 3) := dk_182 0 169 (dk_at dksX4_review_4 12 rfl rfl)
theorem dX4_review_107 : decode cX4_review 107 = .ok (.ifCond .ne 5, 3) := dk_154 0 5 (dk_at dksX4_review_4 15 rfl rfl)
theorem dX4_review_110 : decode cX4_review 110 = .ok (.iconst 0, 1) := dk_3 (dk_at dksX4_review_4 18 rfl rfl)
theorem dX4_review_111 : decode cX4_review 111 = .ok (.ireturn, 1) := dk_172 (dk_at dksX4_review_4 19 rfl rfl)
theorem dX4_review_112 : decode cX4_review 112 = .ok (.aload_n 0, 1) := dk_42 (dk_at dksX4_review_4 20 rfl rfl)
theorem dX4_review_113 : decode cX4_review 113 = .ok (.getfield 41, 3) := dk_180 0 41 (dk_at dksX4_review_4 21 rfl rfl)
theorem dX4_review_116 : decode cX4_review 116 = .ok (.bipush 104, 2) := dk_16 104 (dk_at dksX4_review_5 0 rfl rfl)
theorem dX4_review_118 : decode cX4_review 118 = .ok (.iload_n 1, 1) := dk_27 (dk_at dksX4_review_5 2 rfl rfl)
theorem dX4_review_119 : decode cX4_review 119 = .ok (.iadd, 1) := dk_96 (dk_at dksX4_review_5 3 rfl rfl)
theorem dX4_review_120 : decode cX4_review 120 = .ok (.iaload, 1) := dk_46 (dk_at dksX4_review_5 4 rfl rfl)
theorem dX4_review_121 : decode cX4_review 121 = .ok (.aload_n 0, 1) := dk_42 (dk_at dksX4_review_5 5 rfl rfl)
theorem dX4_review_122 : decode cX4_review 122 = .ok (.getfield 41, 3) := dk_180 0 41 (dk_at dksX4_review_5 6 rfl rfl)
theorem dX4_review_125 : decode cX4_review 125 = .ok (.bipush 105, 2) := dk_16 105 (dk_at dksX4_review_5 9 rfl rfl)
theorem dX4_review_127 : decode cX4_review 127 = .ok (.iload_n 1, 1) := dk_27 (dk_at dksX4_review_5 11 rfl rfl)
theorem dX4_review_128 : decode cX4_review 128 = .ok (.isub, 1) := dk_100 (dk_at dksX4_review_5 12 rfl rfl)
theorem dX4_review_129 : decode cX4_review 129 = .ok (.iaload, 1) := dk_46 (dk_at dksX4_review_5 13 rfl rfl)
theorem dX4_review_130 : decode cX4_review 130 = .ok (.isub, 1) := dk_100 (dk_at dksX4_review_5 14 rfl rfl)
theorem dX4_review_131 : decode cX4_review 131 = .ok (.istore 8, 2) := dk_54 8 (dk_at dksX4_review_5 15 rfl rfl)
theorem dX4_review_133 : decode cX4_review 133 = .ok (.aload_n 0, 1) := dk_42 (dk_at dksX4_review_5 17 rfl rfl)
theorem dX4_review_134 : decode cX4_review 134 = .ok (.bipush 14, 2) := dk_16 14 (dk_at dksX4_review_5 18 rfl rfl)
theorem dX4_review_136 : decode cX4_review 136 = .ok (.iload_n 2, 1) := dk_28 (dk_at dksX4_review_5 20 rfl rfl)
theorem dX4_review_137 : decode cX4_review 137 = .ok (.imul, 1) := dk_104 (dk_at dksX4_review_5 21 rfl rfl)
theorem dX4_review_138 : decode cX4_review 138 = .ok (.iload_n 3, 1) := dk_29 (dk_at dksX4_review_5 22 rfl rfl)
theorem dX4_review_139 : decode cX4_review 139 = .ok (.iadd, 1) := dk_96 (dk_at dksX4_review_5 23 rfl rfl)
theorem dX4_review_140 : decode cX4_review 140 = .ok (.iload 4, 2) := dk_21 4 (dk_at dksX4_review_6 0 rfl rfl)
theorem dX4_review_142 : decode cX4_review 142 = .ok (.iload 5, 2) := dk_21 5 (dk_at dksX4_review_6 2 rfl rfl)
theorem dX4_review_144 : decode cX4_review 144 = .ok (.invokevirtual 198, 3) := dk_182 0 198 (dk_at dksX4_review_6 4 rfl rfl)
theorem dX4_review_147 : decode cX4_review 147 = .ok (.aload_n 0, 1) := dk_42 (dk_at dksX4_review_6 7 rfl rfl)
theorem dX4_review_148 : decode cX4_review 148 = .ok (.invokevirtual 201, 3) := dk_182 0 201 (dk_at dksX4_review_6 8 rfl rfl)
theorem dX4_review_151 : decode cX4_review 151 = .ok (.istore 9, 2) := dk_54 9 (dk_at dksX4_review_6 11 rfl rfl)
theorem dX4_review_153 : decode cX4_review 153 = .ok (.aload_n 0, 1) := dk_42 (dk_at dksX4_review_6 13 rfl rfl)
theorem dX4_review_154 : decode cX4_review 154 = .ok (.getfield 41, 3) := dk_180 0 41 (dk_at dksX4_review_6 14 rfl rfl)
theorem dX4_review_157 : decode cX4_review 157 = .ok (.bipush 104, 2) := dk_16 104 (dk_at dksX4_review_6 17 rfl rfl)
theorem dX4_review_159 : decode cX4_review 159 = .ok (.iload_n 1, 1) := dk_27 (dk_at dksX4_review_6 19 rfl rfl)
theorem dX4_review_160 : decode cX4_review 160 = .ok (.iadd, 1) := dk_96 (dk_at dksX4_review_6 20 rfl rfl)
theorem dX4_review_161 : decode cX4_review 161 = .ok (.iaload, 1) := dk_46 (dk_at dksX4_review_6 21 rfl rfl)
theorem dX4_review_162 : decode cX4_review 162 = .ok (.aload_n 0, 1) := dk_42 (dk_at dksX4_review_6 22 rfl rfl)
theorem dX4_review_163 : decode cX4_review 163 = .ok (.getfield 41, 3) := dk_180 0 41 (dk_at dksX4_review_7 0 rfl rfl)
theorem dX4_review_166 : decode cX4_review 166 = .ok (.bipush 105, 2) := dk_16 105 (dk_at dksX4_review_7 3 rfl rfl)
theorem dX4_review_168 : decode cX4_review 168 = .ok (.iload_n 1, 1) := dk_27 (dk_at dksX4_review_7 5 rfl rfl)
theorem dX4_review_169 : decode cX4_review 169 = .ok (.isub, 1) := dk_100 (dk_at dksX4_review_7 6 rfl rfl)
theorem dX4_review_170 : decode cX4_review 170 = .ok (.iaload, 1) := dk_46 (dk_at dksX4_review_7 7 rfl rfl)
theorem dX4_review_171 : decode cX4_review 171 = .ok (.isub, 1) := dk_100 (dk_at dksX4_review_7 8 rfl rfl)
theorem dX4_review_172 : decode cX4_review 172 = .ok (.iload 8, 2) := dk_21 8 (dk_at dksX4_review_7 9 rfl rfl)
theorem dX4_review_174 : decode cX4_review 174 = .ok (.isub, 1) := dk_100 (dk_at dksX4_review_7 11 rfl rfl)
theorem dX4_review_175 : decode cX4_review 175 = .ok (.istore 10, 2) := dk_54 10 (dk_at dksX4_review_7 12 rfl rfl)
theorem dX4_review_177 : decode cX4_review 177 = .ok (.aload_n 0, 1) := dk_42 (dk_at dksX4_review_7 14 rfl rfl)
theorem dX4_review_178 : decode cX4_review 178 = .ok (.getfield 13, 3) := dk_180 0 13 (dk_at dksX4_review_7 15 rfl rfl)
theorem dX4_review_181 : decode cX4_review 181 = .ok (.iload_n 1, 1) := dk_27 (dk_at dksX4_review_7 18 rfl rfl)
theorem dX4_review_182 : decode cX4_review 182 = .ok (.iload 10, 2) := dk_21 10 (dk_at dksX4_review_7 19 rfl rfl)
theorem dX4_review_184 : decode cX4_review 184 = .ok (.ifCond .gt 7, 3) := dk_157 0 7 (dk_at dksX4_review_7 21 rfl rfl)
theorem dX4_review_187 : decode cX4_review 187 = .ok (.iconst 1, 1) := dk_4 (dk_at dksX4_review_8 0 rfl rfl)
theorem dX4_review_188 : decode cX4_review 188 = .ok (.goto 4, 3) := dk_167 0 4 (dk_at dksX4_review_8 1 rfl rfl)
theorem dX4_review_191 : decode cX4_review 191 = .ok (.iconst 0, 1) := dk_3 (dk_at dksX4_review_8 4 rfl rfl)
theorem dX4_review_192 : decode cX4_review 192 = .ok (.bastore, 1) := dk_84 (dk_at dksX4_review_8 5 rfl rfl)
theorem dX4_review_193 : decode cX4_review 193 = .ok (.iload 10, 2) := dk_21 10 (dk_at dksX4_review_8 6 rfl rfl)
theorem dX4_review_195 : decode cX4_review 195 = .ok (.ireturn, 1) := dk_172 (dk_at dksX4_review_8 8 rfl rfl)
abbrev cX4_isStep : ByteArray := prog_14_method_39_code
def yX4_isStep : MethodName := ⟨RX4, "isStep", "(II)Z"⟩
def dkwX4_isStep_2 : List UInt8 := [4, 167, 0, 4, 3, 172]
abbrev dktX4_isStep_2 : List UInt8 := dkwX4_isStep_2 ++ []
def dkwX4_isStep_1 : List UInt8 := [180, 0, 17, 27, 46, 154, 0, 23, 28, 3, 42, 180, 0, 29, 27, 46, 4, 100, 184, 0, 81, 153, 0, 7]
abbrev dktX4_isStep_1 : List UInt8 := dkwX4_isStep_1 ++ dktX4_isStep_2
def dkwX4_isStep_0 : List UInt8 := [42, 180, 0, 166, 153, 0, 46, 27, 3, 42, 182, 0, 157, 4, 100, 184, 0, 81, 153, 0, 32, 42]
abbrev dktX4_isStep_0 : List UInt8 := dkwX4_isStep_0 ++ dktX4_isStep_1
theorem dksX4_isStep_0 : cX4_isStep.data.toList.drop 0 = dktX4_isStep_0 := by decide +kernel
theorem dksX4_isStep_1 : cX4_isStep.data.toList.drop 22 = dktX4_isStep_1 := dk_seg dksX4_isStep_0 22 rfl rfl
theorem dksX4_isStep_2 : cX4_isStep.data.toList.drop 46 = dktX4_isStep_2 := dk_seg dksX4_isStep_1 24 rfl rfl
theorem dX4_isStep_0 : decode cX4_isStep 0 = .ok (.aload_n 0, 1) := dk_42 (dk_at dksX4_isStep_0 0 rfl rfl)
theorem dX4_isStep_1 : decode cX4_isStep 1 = .ok (.getfield 166, 3) := dk_180 0 166 (dk_at dksX4_isStep_0 1 rfl rfl)
theorem dX4_isStep_4 : decode cX4_isStep 4 = .ok (.ifCond .eq 46, 3) := dk_153 0 46 (dk_at dksX4_isStep_0 4 rfl rfl)
theorem dX4_isStep_7 : decode cX4_isStep 7 = .ok (.iload_n 1, 1) := dk_27 (dk_at dksX4_isStep_0 7 rfl rfl)
theorem dX4_isStep_8 : decode cX4_isStep 8 = .ok (.iconst 0, 1) := dk_3 (dk_at dksX4_isStep_0 8 rfl rfl)
theorem dX4_isStep_9 : decode cX4_isStep 9 = .ok (.aload_n 0, 1) := dk_42 (dk_at dksX4_isStep_0 9 rfl rfl)
theorem dX4_isStep_10 : decode cX4_isStep 10 = .ok (.invokevirtual 157, 3) := dk_182 0 157 (dk_at dksX4_isStep_0 10 rfl rfl)
theorem dX4_isStep_13 : decode cX4_isStep 13 = .ok (.iconst 1, 1) := dk_4 (dk_at dksX4_isStep_0 13 rfl rfl)
theorem dX4_isStep_14 : decode cX4_isStep 14 = .ok (.isub, 1) := dk_100 (dk_at dksX4_isStep_0 14 rfl rfl)
theorem dX4_isStep_15 : decode cX4_isStep 15 = .ok (.invokestatic 81, 3) := dk_184 0 81 (dk_at dksX4_isStep_0 15 rfl rfl)
theorem dX4_isStep_18 : decode cX4_isStep 18 = .ok (.ifCond .eq 32, 3) := dk_153 0 32 (dk_at dksX4_isStep_0 18 rfl rfl)
theorem dX4_isStep_21 : decode cX4_isStep 21 = .ok (.aload_n 0, 1) := dk_42 (dk_at dksX4_isStep_0 21 rfl rfl)
theorem dX4_isStep_22 : decode cX4_isStep 22 = .ok (.getfield 17, 3) := dk_180 0 17 (dk_at dksX4_isStep_1 0 rfl rfl)
theorem dX4_isStep_25 : decode cX4_isStep 25 = .ok (.iload_n 1, 1) := dk_27 (dk_at dksX4_isStep_1 3 rfl rfl)
theorem dX4_isStep_26 : decode cX4_isStep 26 = .ok (.iaload, 1) := dk_46 (dk_at dksX4_isStep_1 4 rfl rfl)
theorem dX4_isStep_27 : decode cX4_isStep 27 = .ok (.ifCond .ne 23, 3) := dk_154 0 23 (dk_at dksX4_isStep_1 5 rfl rfl)
theorem dX4_isStep_30 : decode cX4_isStep 30 = .ok (.iload_n 2, 1) := dk_28 (dk_at dksX4_isStep_1 8 rfl rfl)
theorem dX4_isStep_31 : decode cX4_isStep 31 = .ok (.iconst 0, 1) := dk_3 (dk_at dksX4_isStep_1 9 rfl rfl)
theorem dX4_isStep_32 : decode cX4_isStep 32 = .ok (.aload_n 0, 1) := dk_42 (dk_at dksX4_isStep_1 10 rfl rfl)
theorem dX4_isStep_33 : decode cX4_isStep 33 = .ok (.getfield 29, 3) := dk_180 0 29 (dk_at dksX4_isStep_1 11 rfl rfl)
theorem dX4_isStep_36 : decode cX4_isStep 36 = .ok (.iload_n 1, 1) := dk_27 (dk_at dksX4_isStep_1 14 rfl rfl)
theorem dX4_isStep_37 : decode cX4_isStep 37 = .ok (.iaload, 1) := dk_46 (dk_at dksX4_isStep_1 15 rfl rfl)
theorem dX4_isStep_38 : decode cX4_isStep 38 = .ok (.iconst 1, 1) := dk_4 (dk_at dksX4_isStep_1 16 rfl rfl)
theorem dX4_isStep_39 : decode cX4_isStep 39 = .ok (.isub, 1) := dk_100 (dk_at dksX4_isStep_1 17 rfl rfl)
theorem dX4_isStep_40 : decode cX4_isStep 40 = .ok (.invokestatic 81, 3) := dk_184 0 81 (dk_at dksX4_isStep_1 18 rfl rfl)
theorem dX4_isStep_43 : decode cX4_isStep 43 = .ok (.ifCond .eq 7, 3) := dk_153 0 7 (dk_at dksX4_isStep_1 21 rfl rfl)
theorem dX4_isStep_46 : decode cX4_isStep 46 = .ok (.iconst 1, 1) := dk_4 (dk_at dksX4_isStep_2 0 rfl rfl)
theorem dX4_isStep_47 : decode cX4_isStep 47 = .ok (.goto 4, 3) := dk_167 0 4 (dk_at dksX4_isStep_2 1 rfl rfl)
theorem dX4_isStep_50 : decode cX4_isStep 50 = .ok (.iconst 0, 1) := dk_3 (dk_at dksX4_isStep_2 4 rfl rfl)
theorem dX4_isStep_51 : decode cX4_isStep 51 = .ok (.ireturn, 1) := dk_172 (dk_at dksX4_isStep_2 5 rfl rfl)
abbrev cX4_ended : ByteArray := prog_14_method_28_code
def yX4_ended : MethodName := ⟨RX4, "ended", "()I"⟩
def dkwX4_ended_0 : List UInt8 := [42, 180, 0, 147, 153, 0, 12, 42, 180, 0, 151, 4, 100, 167, 0, 7, 42, 180, 0, 151, 172]
abbrev dktX4_ended_0 : List UInt8 := dkwX4_ended_0 ++ []
theorem dksX4_ended_0 : cX4_ended.data.toList.drop 0 = dktX4_ended_0 := by decide +kernel
theorem dX4_ended_0 : decode cX4_ended 0 = .ok (.aload_n 0, 1) := dk_42 (dk_at dksX4_ended_0 0 rfl rfl)
theorem dX4_ended_1 : decode cX4_ended 1 = .ok (.getfield 147, 3) := dk_180 0 147 (dk_at dksX4_ended_0 1 rfl rfl)
theorem dX4_ended_4 : decode cX4_ended 4 = .ok (.ifCond .eq 12, 3) := dk_153 0 12 (dk_at dksX4_ended_0 4 rfl rfl)
theorem dX4_ended_7 : decode cX4_ended 7 = .ok (.aload_n 0, 1) := dk_42 (dk_at dksX4_ended_0 7 rfl rfl)
theorem dX4_ended_8 : decode cX4_ended 8 = .ok (.getfield 151, 3) := dk_180 0 151 (dk_at dksX4_ended_0 8 rfl rfl)
theorem dX4_ended_11 : decode cX4_ended 11 = .ok (.iconst 1, 1) := dk_4 (dk_at dksX4_ended_0 11 rfl rfl)
theorem dX4_ended_12 : decode cX4_ended 12 = .ok (.isub, 1) := dk_100 (dk_at dksX4_ended_0 12 rfl rfl)
theorem dX4_ended_13 : decode cX4_ended 13 = .ok (.goto 7, 3) := dk_167 0 7 (dk_at dksX4_ended_0 13 rfl rfl)
theorem dX4_ended_16 : decode cX4_ended 16 = .ok (.aload_n 0, 1) := dk_42 (dk_at dksX4_ended_0 16 rfl rfl)
theorem dX4_ended_17 : decode cX4_ended 17 = .ok (.getfield 151, 3) := dk_180 0 151 (dk_at dksX4_ended_0 17 rfl rfl)
theorem dX4_ended_20 : decode cX4_ended 20 = .ok (.ireturn, 1) := dk_172 (dk_at dksX4_ended_0 20 rfl rfl)
abbrev cX4_falls : ByteArray := prog_14_method_42_code
def yX4_falls : MethodName := ⟨RX4, "falls", "(IIII)I"⟩
def dkwX4_falls_2 : List UInt8 := [182, 0, 201, 54, 8, 42, 21, 5, 21, 6, 21, 7, 182, 0, 198, 42, 182, 0, 201, 54, 9, 21, 8, 172]
abbrev dktX4_falls_2 : List UInt8 := dkwX4_falls_2 ++ []
def dkwX4_falls_1 : List UInt8 := [21, 5, 46, 54, 6, 42, 180, 0, 35, 21, 5, 46, 54, 7, 42, 21, 5, 29, 21, 4, 182, 0, 198, 42]
abbrev dktX4_falls_1 : List UInt8 := dkwX4_falls_1 ++ dktX4_falls_2
def dkwX4_falls_0 : List UInt8 := [42, 27, 28, 29, 182, 0, 195, 154, 0, 5, 27, 172, 16, 14, 27, 104, 28, 96, 54, 5, 42, 180, 0, 32]
abbrev dktX4_falls_0 : List UInt8 := dkwX4_falls_0 ++ dktX4_falls_1
theorem dksX4_falls_0 : cX4_falls.data.toList.drop 0 = dktX4_falls_0 := by decide +kernel
theorem dksX4_falls_1 : cX4_falls.data.toList.drop 24 = dktX4_falls_1 := dk_seg dksX4_falls_0 24 rfl rfl
theorem dksX4_falls_2 : cX4_falls.data.toList.drop 48 = dktX4_falls_2 := dk_seg dksX4_falls_1 24 rfl rfl
theorem dX4_falls_0 : decode cX4_falls 0 = .ok (.aload_n 0, 1) := dk_42 (dk_at dksX4_falls_0 0 rfl rfl)
theorem dX4_falls_1 : decode cX4_falls 1 = .ok (.iload_n 1, 1) := dk_27 (dk_at dksX4_falls_0 1 rfl rfl)
theorem dX4_falls_2 : decode cX4_falls 2 = .ok (.iload_n 2, 1) := dk_28 (dk_at dksX4_falls_0 2 rfl rfl)
theorem dX4_falls_3 : decode cX4_falls 3 = .ok (.iload_n 3, 1) := dk_29 (dk_at dksX4_falls_0 3 rfl rfl)
theorem dX4_falls_4 : decode cX4_falls 4 = .ok (.invokevirtual 195, 3) := dk_182 0 195 (dk_at dksX4_falls_0 4 rfl rfl)
theorem dX4_falls_7 : decode cX4_falls 7 = .ok (.ifCond .ne 5, 3) := dk_154 0 5 (dk_at dksX4_falls_0 7 rfl rfl)
theorem dX4_falls_10 : decode cX4_falls 10 = .ok (.iload_n 1, 1) := dk_27 (dk_at dksX4_falls_0 10 rfl rfl)
theorem dX4_falls_11 : decode cX4_falls 11 = .ok (.ireturn, 1) := dk_172 (dk_at dksX4_falls_0 11 rfl rfl)
theorem dX4_falls_12 : decode cX4_falls 12 = .ok (.bipush 14, 2) := dk_16 14 (dk_at dksX4_falls_0 12 rfl rfl)
theorem dX4_falls_14 : decode cX4_falls 14 = .ok (.iload_n 1, 1) := dk_27 (dk_at dksX4_falls_0 14 rfl rfl)
theorem dX4_falls_15 : decode cX4_falls 15 = .ok (.imul, 1) := dk_104 (dk_at dksX4_falls_0 15 rfl rfl)
theorem dX4_falls_16 : decode cX4_falls 16 = .ok (.iload_n 2, 1) := dk_28 (dk_at dksX4_falls_0 16 rfl rfl)
theorem dX4_falls_17 : decode cX4_falls 17 = .ok (.iadd, 1) := dk_96 (dk_at dksX4_falls_0 17 rfl rfl)
theorem dX4_falls_18 : decode cX4_falls 18 = .ok (.istore 5, 2) := dk_54 5 (dk_at dksX4_falls_0 18 rfl rfl)
theorem dX4_falls_20 : decode cX4_falls 20 = .ok (.aload_n 0, 1) := dk_42 (dk_at dksX4_falls_0 20 rfl rfl)
theorem dX4_falls_21 : decode cX4_falls 21 = .ok (.getfield 32, 3) := dk_180 0 32 (dk_at dksX4_falls_0 21 rfl rfl)
theorem dX4_falls_24 : decode cX4_falls 24 = .ok (.iload 5, 2) := dk_21 5 (dk_at dksX4_falls_1 0 rfl rfl)
theorem dX4_falls_26 : decode cX4_falls 26 = .ok (.iaload, 1) := dk_46 (dk_at dksX4_falls_1 2 rfl rfl)
theorem dX4_falls_27 : decode cX4_falls 27 = .ok (.istore 6, 2) := dk_54 6 (dk_at dksX4_falls_1 3 rfl rfl)
theorem dX4_falls_29 : decode cX4_falls 29 = .ok (.aload_n 0, 1) := dk_42 (dk_at dksX4_falls_1 5 rfl rfl)
theorem dX4_falls_30 : decode cX4_falls 30 = .ok (.getfield 35, 3) := dk_180 0 35 (dk_at dksX4_falls_1 6 rfl rfl)
theorem dX4_falls_33 : decode cX4_falls 33 = .ok (.iload 5, 2) := dk_21 5 (dk_at dksX4_falls_1 9 rfl rfl)
theorem dX4_falls_35 : decode cX4_falls 35 = .ok (.iaload, 1) := dk_46 (dk_at dksX4_falls_1 11 rfl rfl)
theorem dX4_falls_36 : decode cX4_falls 36 = .ok (.istore 7, 2) := dk_54 7 (dk_at dksX4_falls_1 12 rfl rfl)
theorem dX4_falls_38 : decode cX4_falls 38 = .ok (.aload_n 0, 1) := dk_42 (dk_at dksX4_falls_1 14 rfl rfl)
theorem dX4_falls_39 : decode cX4_falls 39 = .ok (.iload 5, 2) := dk_21 5 (dk_at dksX4_falls_1 15 rfl rfl)
theorem dX4_falls_41 : decode cX4_falls 41 = .ok (.iload_n 3, 1) := dk_29 (dk_at dksX4_falls_1 17 rfl rfl)
theorem dX4_falls_42 : decode cX4_falls 42 = .ok (.iload 4, 2) := dk_21 4 (dk_at dksX4_falls_1 18 rfl rfl)
theorem dX4_falls_44 : decode cX4_falls 44 = .ok (.invokevirtual 198, 3) := dk_182 0 198 (dk_at dksX4_falls_1 20 rfl rfl)
theorem dX4_falls_47 : decode cX4_falls 47 = .ok (.aload_n 0, 1) := dk_42 (dk_at dksX4_falls_1 23 rfl rfl)
theorem dX4_falls_48 : decode cX4_falls 48 = .ok (.invokevirtual 201, 3) := dk_182 0 201 (dk_at dksX4_falls_2 0 rfl rfl)
theorem dX4_falls_51 : decode cX4_falls 51 = .ok (.istore 8, 2) := dk_54 8 (dk_at dksX4_falls_2 3 rfl rfl)
theorem dX4_falls_53 : decode cX4_falls 53 = .ok (.aload_n 0, 1) := dk_42 (dk_at dksX4_falls_2 5 rfl rfl)
theorem dX4_falls_54 : decode cX4_falls 54 = .ok (.iload 5, 2) := dk_21 5 (dk_at dksX4_falls_2 6 rfl rfl)
theorem dX4_falls_56 : decode cX4_falls 56 = .ok (.iload 6, 2) := dk_21 6 (dk_at dksX4_falls_2 8 rfl rfl)
theorem dX4_falls_58 : decode cX4_falls 58 = .ok (.iload 7, 2) := dk_21 7 (dk_at dksX4_falls_2 10 rfl rfl)
theorem dX4_falls_60 : decode cX4_falls 60 = .ok (.invokevirtual 198, 3) := dk_182 0 198 (dk_at dksX4_falls_2 12 rfl rfl)
theorem dX4_falls_63 : decode cX4_falls 63 = .ok (.aload_n 0, 1) := dk_42 (dk_at dksX4_falls_2 15 rfl rfl)
theorem dX4_falls_64 : decode cX4_falls 64 = .ok (.invokevirtual 201, 3) := dk_182 0 201 (dk_at dksX4_falls_2 16 rfl rfl)
theorem dX4_falls_67 : decode cX4_falls 67 = .ok (.istore 9, 2) := dk_54 9 (dk_at dksX4_falls_2 19 rfl rfl)
theorem dX4_falls_69 : decode cX4_falls 69 = .ok (.iload 8, 2) := dk_21 8 (dk_at dksX4_falls_2 21 rfl rfl)
theorem dX4_falls_71 : decode cX4_falls 71 = .ok (.ireturn, 1) := dk_172 (dk_at dksX4_falls_2 23 rfl rfl)
abbrev cX4_canBeSaid : ByteArray := prog_14_method_40_code
def yX4_canBeSaid : MethodName := ⟨RX4, "canBeSaid", "(III)Z"⟩
def dkwX4_canBeSaid_1 : List UInt8 := [161, 0, 7, 4, 167, 0, 4, 3, 160, 0, 7, 4, 167, 0, 4, 3, 172]
abbrev dktX4_canBeSaid_1 : List UInt8 := dkwX4_canBeSaid_1 ++ []
def dkwX4_canBeSaid_0 : List UInt8 := [28, 42, 180, 0, 29, 27, 46, 4, 100, 160, 0, 7, 4, 167, 0, 4, 3, 54, 4, 21, 4, 29, 6]
abbrev dktX4_canBeSaid_0 : List UInt8 := dkwX4_canBeSaid_0 ++ dktX4_canBeSaid_1
theorem dksX4_canBeSaid_0 : cX4_canBeSaid.data.toList.drop 0 = dktX4_canBeSaid_0 := by decide +kernel
theorem dksX4_canBeSaid_1 : cX4_canBeSaid.data.toList.drop 23 = dktX4_canBeSaid_1 := dk_seg dksX4_canBeSaid_0 23 rfl rfl
theorem dX4_canBeSaid_0 : decode cX4_canBeSaid 0 = .ok (.iload_n 2, 1) := dk_28 (dk_at dksX4_canBeSaid_0 0 rfl rfl)
theorem dX4_canBeSaid_1 : decode cX4_canBeSaid 1 = .ok (.aload_n 0, 1) := dk_42 (dk_at dksX4_canBeSaid_0 1 rfl rfl)
theorem dX4_canBeSaid_2 : decode cX4_canBeSaid 2 = .ok (.getfield 29, 3) := dk_180 0 29 (dk_at dksX4_canBeSaid_0 2 rfl rfl)
theorem dX4_canBeSaid_5 : decode cX4_canBeSaid 5 = .ok (.iload_n 1, 1) := dk_27 (dk_at dksX4_canBeSaid_0 5 rfl rfl)
theorem dX4_canBeSaid_6 : decode cX4_canBeSaid 6 = .ok (.iaload, 1) := dk_46 (dk_at dksX4_canBeSaid_0 6 rfl rfl)
theorem dX4_canBeSaid_7 : decode cX4_canBeSaid 7 = .ok (.iconst 1, 1) := dk_4 (dk_at dksX4_canBeSaid_0 7 rfl rfl)
theorem dX4_canBeSaid_8 : decode cX4_canBeSaid 8 = .ok (.isub, 1) := dk_100 (dk_at dksX4_canBeSaid_0 8 rfl rfl)
theorem dX4_canBeSaid_9 : decode cX4_canBeSaid 9 = .ok (.if_icmp .ne 7, 3) := dk_160 0 7 (dk_at dksX4_canBeSaid_0 9 rfl rfl)
theorem dX4_canBeSaid_12 : decode cX4_canBeSaid 12 = .ok (.iconst 1, 1) := dk_4 (dk_at dksX4_canBeSaid_0 12 rfl rfl)
theorem dX4_canBeSaid_13 : decode cX4_canBeSaid 13 = .ok (.goto 4, 3) := dk_167 0 4 (dk_at dksX4_canBeSaid_0 13 rfl rfl)
theorem dX4_canBeSaid_16 : decode cX4_canBeSaid 16 = .ok (.iconst 0, 1) := dk_3 (dk_at dksX4_canBeSaid_0 16 rfl rfl)
theorem dX4_canBeSaid_17 : decode cX4_canBeSaid 17 = .ok (.istore 4, 2) := dk_54 4 (dk_at dksX4_canBeSaid_0 17 rfl rfl)
theorem dX4_canBeSaid_19 : decode cX4_canBeSaid 19 = .ok (.iload 4, 2) := dk_21 4 (dk_at dksX4_canBeSaid_0 19 rfl rfl)
theorem dX4_canBeSaid_21 : decode cX4_canBeSaid 21 = .ok (.iload_n 3, 1) := dk_29 (dk_at dksX4_canBeSaid_0 21 rfl rfl)
theorem dX4_canBeSaid_22 : decode cX4_canBeSaid 22 = .ok (.iconst 3, 1) := dk_6 (dk_at dksX4_canBeSaid_0 22 rfl rfl)
theorem dX4_canBeSaid_23 : decode cX4_canBeSaid 23 = .ok (.if_icmp .lt 7, 3) := dk_161 0 7 (dk_at dksX4_canBeSaid_1 0 rfl rfl)
theorem dX4_canBeSaid_26 : decode cX4_canBeSaid 26 = .ok (.iconst 1, 1) := dk_4 (dk_at dksX4_canBeSaid_1 3 rfl rfl)
theorem dX4_canBeSaid_27 : decode cX4_canBeSaid 27 = .ok (.goto 4, 3) := dk_167 0 4 (dk_at dksX4_canBeSaid_1 4 rfl rfl)
theorem dX4_canBeSaid_30 : decode cX4_canBeSaid 30 = .ok (.iconst 0, 1) := dk_3 (dk_at dksX4_canBeSaid_1 7 rfl rfl)
theorem dX4_canBeSaid_31 : decode cX4_canBeSaid 31 = .ok (.if_icmp .ne 7, 3) := dk_160 0 7 (dk_at dksX4_canBeSaid_1 8 rfl rfl)
theorem dX4_canBeSaid_34 : decode cX4_canBeSaid 34 = .ok (.iconst 1, 1) := dk_4 (dk_at dksX4_canBeSaid_1 11 rfl rfl)
theorem dX4_canBeSaid_35 : decode cX4_canBeSaid 35 = .ok (.goto 4, 3) := dk_167 0 4 (dk_at dksX4_canBeSaid_1 12 rfl rfl)
theorem dX4_canBeSaid_38 : decode cX4_canBeSaid 38 = .ok (.iconst 0, 1) := dk_3 (dk_at dksX4_canBeSaid_1 15 rfl rfl)
theorem dX4_canBeSaid_39 : decode cX4_canBeSaid 39 = .ok (.ireturn, 1) := dk_172 (dk_at dksX4_canBeSaid_1 16 rfl rfl)
abbrev cX4_says : ByteArray := prog_14_method_41_code
def yX4_says : MethodName := ⟨RX4, "says", "(III)V"⟩
def dkwX4_says_0 : List UInt8 := [42, 180, 0, 32, 27, 28, 79, 42, 180, 0, 35, 27, 29, 79, 177]
abbrev dktX4_says_0 : List UInt8 := dkwX4_says_0 ++ []
theorem dksX4_says_0 : cX4_says.data.toList.drop 0 = dktX4_says_0 := by decide +kernel
theorem dX4_says_0 : decode cX4_says 0 = .ok (.aload_n 0, 1) := dk_42 (dk_at dksX4_says_0 0 rfl rfl)
theorem dX4_says_1 : decode cX4_says 1 = .ok (.getfield 32, 3) := dk_180 0 32 (dk_at dksX4_says_0 1 rfl rfl)
theorem dX4_says_4 : decode cX4_says 4 = .ok (.iload_n 1, 1) := dk_27 (dk_at dksX4_says_0 4 rfl rfl)
theorem dX4_says_5 : decode cX4_says 5 = .ok (.iload_n 2, 1) := dk_28 (dk_at dksX4_says_0 5 rfl rfl)
theorem dX4_says_6 : decode cX4_says 6 = .ok (.iastore, 1) := dk_79 (dk_at dksX4_says_0 6 rfl rfl)
theorem dX4_says_7 : decode cX4_says 7 = .ok (.aload_n 0, 1) := dk_42 (dk_at dksX4_says_0 7 rfl rfl)
theorem dX4_says_8 : decode cX4_says 8 = .ok (.getfield 35, 3) := dk_180 0 35 (dk_at dksX4_says_0 8 rfl rfl)
theorem dX4_says_11 : decode cX4_says 11 = .ok (.iload_n 1, 1) := dk_27 (dk_at dksX4_says_0 11 rfl rfl)
theorem dX4_says_12 : decode cX4_says 12 = .ok (.iload_n 3, 1) := dk_29 (dk_at dksX4_says_0 12 rfl rfl)
theorem dX4_says_13 : decode cX4_says 13 = .ok (.iastore, 1) := dk_79 (dk_at dksX4_says_0 13 rfl rfl)
theorem dX4_says_14 : decode cX4_says 14 = .ok (.return_, 1) := dk_177 (dk_at dksX4_says_0 14 rfl rfl)
abbrev cX4_plays : ByteArray := prog_14_method_29_code
def yX4_plays : MethodName := ⟨RX4, "plays", "()I"⟩
def dkwX4_plays_1 : List UInt8 := [132, 1, 1, 167, 255, 235, 2, 172]
abbrev dktX4_plays_1 : List UInt8 := dkwX4_plays_1 ++ []
def dkwX4_plays_0 : List UInt8 := [42, 182, 0, 154, 3, 60, 27, 42, 182, 0, 157, 162, 0, 19, 42, 27, 182, 0, 160, 154, 0, 5, 27, 172]
abbrev dktX4_plays_0 : List UInt8 := dkwX4_plays_0 ++ dktX4_plays_1
theorem dksX4_plays_0 : cX4_plays.data.toList.drop 0 = dktX4_plays_0 := by decide +kernel
theorem dksX4_plays_1 : cX4_plays.data.toList.drop 24 = dktX4_plays_1 := dk_seg dksX4_plays_0 24 rfl rfl
theorem dX4_plays_0 : decode cX4_plays 0 = .ok (.aload_n 0, 1) := dk_42 (dk_at dksX4_plays_0 0 rfl rfl)
theorem dX4_plays_1 : decode cX4_plays 1 = .ok (.invokevirtual 154, 3) := dk_182 0 154 (dk_at dksX4_plays_0 1 rfl rfl)
theorem dX4_plays_4 : decode cX4_plays 4 = .ok (.iconst 0, 1) := dk_3 (dk_at dksX4_plays_0 4 rfl rfl)
theorem dX4_plays_5 : decode cX4_plays 5 = .ok (.istore_n 1, 1) := dk_60 (dk_at dksX4_plays_0 5 rfl rfl)
theorem dX4_plays_6 : decode cX4_plays 6 = .ok (.iload_n 1, 1) := dk_27 (dk_at dksX4_plays_0 6 rfl rfl)
theorem dX4_plays_7 : decode cX4_plays 7 = .ok (.aload_n 0, 1) := dk_42 (dk_at dksX4_plays_0 7 rfl rfl)
theorem dX4_plays_8 : decode cX4_plays 8 = .ok (.invokevirtual 157, 3) := dk_182 0 157 (dk_at dksX4_plays_0 8 rfl rfl)
theorem dX4_plays_11 : decode cX4_plays 11 = .ok (.if_icmp .ge 19, 3) := dk_162 0 19 (dk_at dksX4_plays_0 11 rfl rfl)
theorem dX4_plays_14 : decode cX4_plays 14 = .ok (.aload_n 0, 1) := dk_42 (dk_at dksX4_plays_0 14 rfl rfl)
theorem dX4_plays_15 : decode cX4_plays 15 = .ok (.iload_n 1, 1) := dk_27 (dk_at dksX4_plays_0 15 rfl rfl)
theorem dX4_plays_16 : decode cX4_plays 16 = .ok (.invokevirtual 160, 3) := dk_182 0 160 (dk_at dksX4_plays_0 16 rfl rfl)
theorem dX4_plays_19 : decode cX4_plays 19 = .ok (.ifCond .ne 5, 3) := dk_154 0 5 (dk_at dksX4_plays_0 19 rfl rfl)
theorem dX4_plays_22 : decode cX4_plays 22 = .ok (.iload_n 1, 1) := dk_27 (dk_at dksX4_plays_0 22 rfl rfl)
theorem dX4_plays_23 : decode cX4_plays 23 = .ok (.ireturn, 1) := dk_172 (dk_at dksX4_plays_0 23 rfl rfl)
theorem dX4_plays_24 : decode cX4_plays 24 = .ok (.iinc 1 1, 3) := dk_132 1 1 (dk_at dksX4_plays_1 0 rfl rfl)
theorem dX4_plays_27 : decode cX4_plays 27 = .ok (.goto (-21), 3) := dk_167 255 235 (dk_at dksX4_plays_1 3 rfl rfl)
theorem dX4_plays_30 : decode cX4_plays 30 = .ok (.iconst (-1), 1) := dk_2 (dk_at dksX4_plays_1 6 rfl rfl)
theorem dX4_plays_31 : decode cX4_plays 31 = .ok (.ireturn, 1) := dk_172 (dk_at dksX4_plays_1 7 rfl rfl)
abbrev cX4_wouldFall : ByteArray := prog_14_method_44_code
def yX4_wouldFall : MethodName := ⟨RX4, "wouldFall", "(IIII)I"⟩
def dkwX4_wouldFall_2 : List UInt8 := [167, 0, 4, 5, 182, 0, 169, 154, 0, 5, 3, 172, 42, 27, 28, 29, 21, 4, 182, 0, 207, 172]
abbrev dktX4_wouldFall_2 : List UInt8 := dkwX4_wouldFall_2 ++ []
def dkwX4_wouldFall_1 : List UInt8 := [54, 5, 42, 42, 27, 28, 182, 0, 204, 154, 0, 7, 4, 167, 0, 13, 21, 5, 153, 0, 7, 3]
abbrev dktX4_wouldFall_1 : List UInt8 := dkwX4_wouldFall_1 ++ dktX4_wouldFall_2
def dkwX4_wouldFall_0 : List UInt8 := [29, 3, 8, 184, 0, 81, 153, 0, 16, 29, 21, 4, 184, 0, 186, 153, 0, 7, 4, 167, 0, 4, 3]
abbrev dktX4_wouldFall_0 : List UInt8 := dkwX4_wouldFall_0 ++ dktX4_wouldFall_1
theorem dksX4_wouldFall_0 : cX4_wouldFall.data.toList.drop 0 = dktX4_wouldFall_0 := by decide +kernel
theorem dksX4_wouldFall_1 : cX4_wouldFall.data.toList.drop 23 = dktX4_wouldFall_1 := dk_seg dksX4_wouldFall_0 23 rfl rfl
theorem dksX4_wouldFall_2 : cX4_wouldFall.data.toList.drop 45 = dktX4_wouldFall_2 := dk_seg dksX4_wouldFall_1 22 rfl rfl
theorem dX4_wouldFall_0 : decode cX4_wouldFall 0 = .ok (.iload_n 3, 1) := dk_29 (dk_at dksX4_wouldFall_0 0 rfl rfl)
theorem dX4_wouldFall_1 : decode cX4_wouldFall 1 = .ok (.iconst 0, 1) := dk_3 (dk_at dksX4_wouldFall_0 1 rfl rfl)
theorem dX4_wouldFall_2 : decode cX4_wouldFall 2 = .ok (.iconst 5, 1) := dk_8 (dk_at dksX4_wouldFall_0 2 rfl rfl)
theorem dX4_wouldFall_3 : decode cX4_wouldFall 3 = .ok (.invokestatic 81, 3) := dk_184 0 81 (dk_at dksX4_wouldFall_0 3 rfl rfl)
theorem dX4_wouldFall_6 : decode cX4_wouldFall 6 = .ok (.ifCond .eq 16, 3) := dk_153 0 16 (dk_at dksX4_wouldFall_0 6 rfl rfl)
theorem dX4_wouldFall_9 : decode cX4_wouldFall 9 = .ok (.iload_n 3, 1) := dk_29 (dk_at dksX4_wouldFall_0 9 rfl rfl)
theorem dX4_wouldFall_10 : decode cX4_wouldFall 10 = .ok (.iload 4, 2) := dk_21 4 (dk_at dksX4_wouldFall_0 10 rfl rfl)
theorem dX4_wouldFall_12 : decode cX4_wouldFall 12 = .ok (.invokestatic 186, 3) := dk_184 0 186 (dk_at dksX4_wouldFall_0 12 rfl rfl)
theorem dX4_wouldFall_15 : decode cX4_wouldFall 15 = .ok (.ifCond .eq 7, 3) := dk_153 0 7 (dk_at dksX4_wouldFall_0 15 rfl rfl)
theorem dX4_wouldFall_18 : decode cX4_wouldFall 18 = .ok (.iconst 1, 1) := dk_4 (dk_at dksX4_wouldFall_0 18 rfl rfl)
theorem dX4_wouldFall_19 : decode cX4_wouldFall 19 = .ok (.goto 4, 3) := dk_167 0 4 (dk_at dksX4_wouldFall_0 19 rfl rfl)
theorem dX4_wouldFall_22 : decode cX4_wouldFall 22 = .ok (.iconst 0, 1) := dk_3 (dk_at dksX4_wouldFall_0 22 rfl rfl)
theorem dX4_wouldFall_23 : decode cX4_wouldFall 23 = .ok (.istore 5, 2) := dk_54 5 (dk_at dksX4_wouldFall_1 0 rfl rfl)
theorem dX4_wouldFall_25 : decode cX4_wouldFall 25 = .ok (.aload_n 0, 1) := dk_42 (dk_at dksX4_wouldFall_1 2 rfl rfl)
theorem dX4_wouldFall_26 : decode cX4_wouldFall 26 = .ok (.aload_n 0, 1) := dk_42 (dk_at dksX4_wouldFall_1 3 rfl rfl)
theorem dX4_wouldFall_27 : decode cX4_wouldFall 27 = .ok (.iload_n 1, 1) := dk_27 (dk_at dksX4_wouldFall_1 4 rfl rfl)
theorem dX4_wouldFall_28 : decode cX4_wouldFall 28 = .ok (.iload_n 2, 1) := dk_28 (dk_at dksX4_wouldFall_1 5 rfl rfl)
theorem dX4_wouldFall_29 : decode cX4_wouldFall 29 = .ok (.invokevirtual 204, 3) := dk_182 0 204 (dk_at dksX4_wouldFall_1 6 rfl rfl)
theorem dX4_wouldFall_32 : decode cX4_wouldFall 32 = .ok (.ifCond .ne 7, 3) := dk_154 0 7 (dk_at dksX4_wouldFall_1 9 rfl rfl)
theorem dX4_wouldFall_35 : decode cX4_wouldFall 35 = .ok (.iconst 1, 1) := dk_4 (dk_at dksX4_wouldFall_1 12 rfl rfl)
theorem dX4_wouldFall_36 : decode cX4_wouldFall 36 = .ok (.goto 13, 3) := dk_167 0 13 (dk_at dksX4_wouldFall_1 13 rfl rfl)
theorem dX4_wouldFall_39 : decode cX4_wouldFall 39 = .ok (.iload 5, 2) := dk_21 5 (dk_at dksX4_wouldFall_1 16 rfl rfl)
theorem dX4_wouldFall_41 : decode cX4_wouldFall 41 = .ok (.ifCond .eq 7, 3) := dk_153 0 7 (dk_at dksX4_wouldFall_1 18 rfl rfl)
theorem dX4_wouldFall_44 : decode cX4_wouldFall 44 = .ok (.iconst 0, 1) := dk_3 (dk_at dksX4_wouldFall_1 21 rfl rfl)
theorem dX4_wouldFall_45 : decode cX4_wouldFall 45 = .ok (.goto 4, 3) := dk_167 0 4 (dk_at dksX4_wouldFall_2 0 rfl rfl)
theorem dX4_wouldFall_48 : decode cX4_wouldFall 48 = .ok (.iconst 2, 1) := dk_5 (dk_at dksX4_wouldFall_2 3 rfl rfl)
theorem dX4_wouldFall_49 : decode cX4_wouldFall 49 = .ok (.invokevirtual 169, 3) := dk_182 0 169 (dk_at dksX4_wouldFall_2 4 rfl rfl)
theorem dX4_wouldFall_52 : decode cX4_wouldFall 52 = .ok (.ifCond .ne 5, 3) := dk_154 0 5 (dk_at dksX4_wouldFall_2 7 rfl rfl)
theorem dX4_wouldFall_55 : decode cX4_wouldFall 55 = .ok (.iconst 0, 1) := dk_3 (dk_at dksX4_wouldFall_2 10 rfl rfl)
theorem dX4_wouldFall_56 : decode cX4_wouldFall 56 = .ok (.ireturn, 1) := dk_172 (dk_at dksX4_wouldFall_2 11 rfl rfl)
theorem dX4_wouldFall_57 : decode cX4_wouldFall 57 = .ok (.aload_n 0, 1) := dk_42 (dk_at dksX4_wouldFall_2 12 rfl rfl)
theorem dX4_wouldFall_58 : decode cX4_wouldFall 58 = .ok (.iload_n 1, 1) := dk_27 (dk_at dksX4_wouldFall_2 13 rfl rfl)
theorem dX4_wouldFall_59 : decode cX4_wouldFall 59 = .ok (.iload_n 2, 1) := dk_28 (dk_at dksX4_wouldFall_2 14 rfl rfl)
theorem dX4_wouldFall_60 : decode cX4_wouldFall 60 = .ok (.iload_n 3, 1) := dk_29 (dk_at dksX4_wouldFall_2 15 rfl rfl)
theorem dX4_wouldFall_61 : decode cX4_wouldFall 61 = .ok (.iload 4, 2) := dk_21 4 (dk_at dksX4_wouldFall_2 16 rfl rfl)
theorem dX4_wouldFall_63 : decode cX4_wouldFall 63 = .ok (.invokevirtual 207, 3) := dk_182 0 207 (dk_at dksX4_wouldFall_2 18 rfl rfl)
theorem dX4_wouldFall_66 : decode cX4_wouldFall 66 = .ok (.ireturn, 1) := dk_172 (dk_at dksX4_wouldFall_2 21 rfl rfl)
abbrev cX4_takeBack : ByteArray := prog_14_method_45_code
def yX4_takeBack : MethodName := ⟨RX4, "takeBack", "(I)I"⟩
def dkwX4_takeBack_2 : List UInt8 := [180, 0, 151, 27, 100, 62, 42, 3, 181, 0, 147, 42, 27, 181, 0, 151, 42, 182, 0, 201, 54, 4, 29, 172]
abbrev dktX4_takeBack_2 : List UInt8 := dkwX4_takeBack_2 ++ []
def dkwX4_takeBack_1 : List UInt8 := [167, 0, 4, 3, 61, 42, 28, 153, 0, 7, 3, 167, 0, 4, 4, 182, 0, 169, 154, 0, 5, 3, 172, 42]
abbrev dktX4_takeBack_1 : List UInt8 := dkwX4_takeBack_1 ++ dktX4_takeBack_2
def dkwX4_takeBack_0 : List UInt8 := [42, 180, 0, 166, 153, 0, 21, 27, 3, 42, 180, 0, 151, 4, 100, 184, 0, 81, 153, 0, 7, 4]
abbrev dktX4_takeBack_0 : List UInt8 := dkwX4_takeBack_0 ++ dktX4_takeBack_1
theorem dksX4_takeBack_0 : cX4_takeBack.data.toList.drop 0 = dktX4_takeBack_0 := by decide +kernel
theorem dksX4_takeBack_1 : cX4_takeBack.data.toList.drop 22 = dktX4_takeBack_1 := dk_seg dksX4_takeBack_0 22 rfl rfl
theorem dksX4_takeBack_2 : cX4_takeBack.data.toList.drop 46 = dktX4_takeBack_2 := dk_seg dksX4_takeBack_1 24 rfl rfl
theorem dX4_takeBack_0 : decode cX4_takeBack 0 = .ok (.aload_n 0, 1) := dk_42 (dk_at dksX4_takeBack_0 0 rfl rfl)
theorem dX4_takeBack_1 : decode cX4_takeBack 1 = .ok (.getfield 166, 3) := dk_180 0 166 (dk_at dksX4_takeBack_0 1 rfl rfl)
theorem dX4_takeBack_4 : decode cX4_takeBack 4 = .ok (.ifCond .eq 21, 3) := dk_153 0 21 (dk_at dksX4_takeBack_0 4 rfl rfl)
theorem dX4_takeBack_7 : decode cX4_takeBack 7 = .ok (.iload_n 1, 1) := dk_27 (dk_at dksX4_takeBack_0 7 rfl rfl)
theorem dX4_takeBack_8 : decode cX4_takeBack 8 = .ok (.iconst 0, 1) := dk_3 (dk_at dksX4_takeBack_0 8 rfl rfl)
theorem dX4_takeBack_9 : decode cX4_takeBack 9 = .ok (.aload_n 0, 1) := dk_42 (dk_at dksX4_takeBack_0 9 rfl rfl)
theorem dX4_takeBack_10 : decode cX4_takeBack 10 = .ok (.getfield 151, 3) := dk_180 0 151 (dk_at dksX4_takeBack_0 10 rfl rfl)
theorem dX4_takeBack_13 : decode cX4_takeBack 13 = .ok (.iconst 1, 1) := dk_4 (dk_at dksX4_takeBack_0 13 rfl rfl)
theorem dX4_takeBack_14 : decode cX4_takeBack 14 = .ok (.isub, 1) := dk_100 (dk_at dksX4_takeBack_0 14 rfl rfl)
theorem dX4_takeBack_15 : decode cX4_takeBack 15 = .ok (.invokestatic 81, 3) := dk_184 0 81 (dk_at dksX4_takeBack_0 15 rfl rfl)
theorem dX4_takeBack_18 : decode cX4_takeBack 18 = .ok (.ifCond .eq 7, 3) := dk_153 0 7 (dk_at dksX4_takeBack_0 18 rfl rfl)
theorem dX4_takeBack_21 : decode cX4_takeBack 21 = .ok (.iconst 1, 1) := dk_4 (dk_at dksX4_takeBack_0 21 rfl rfl)
theorem dX4_takeBack_22 : decode cX4_takeBack 22 = .ok (.goto 4, 3) := dk_167 0 4 (dk_at dksX4_takeBack_1 0 rfl rfl)
theorem dX4_takeBack_25 : decode cX4_takeBack 25 = .ok (.iconst 0, 1) := dk_3 (dk_at dksX4_takeBack_1 3 rfl rfl)
theorem dX4_takeBack_26 : decode cX4_takeBack 26 = .ok (.istore_n 2, 1) := dk_61 (dk_at dksX4_takeBack_1 4 rfl rfl)
theorem dX4_takeBack_27 : decode cX4_takeBack 27 = .ok (.aload_n 0, 1) := dk_42 (dk_at dksX4_takeBack_1 5 rfl rfl)
theorem dX4_takeBack_28 : decode cX4_takeBack 28 = .ok (.iload_n 2, 1) := dk_28 (dk_at dksX4_takeBack_1 6 rfl rfl)
theorem dX4_takeBack_29 : decode cX4_takeBack 29 = .ok (.ifCond .eq 7, 3) := dk_153 0 7 (dk_at dksX4_takeBack_1 7 rfl rfl)
theorem dX4_takeBack_32 : decode cX4_takeBack 32 = .ok (.iconst 0, 1) := dk_3 (dk_at dksX4_takeBack_1 10 rfl rfl)
theorem dX4_takeBack_33 : decode cX4_takeBack 33 = .ok (.goto 4, 3) := dk_167 0 4 (dk_at dksX4_takeBack_1 11 rfl rfl)
theorem dX4_takeBack_36 : decode cX4_takeBack 36 = .ok (.iconst 1, 1) := dk_4 (dk_at dksX4_takeBack_1 14 rfl rfl)
theorem dX4_takeBack_37 : decode cX4_takeBack 37 = .ok (.invokevirtual 169, 3) := dk_182 0 169 (dk_at dksX4_takeBack_1 15 rfl rfl)
theorem dX4_takeBack_40 : decode cX4_takeBack 40 = .ok (.ifCond .ne 5, 3) := dk_154 0 5 (dk_at dksX4_takeBack_1 18 rfl rfl)
theorem dX4_takeBack_43 : decode cX4_takeBack 43 = .ok (.iconst 0, 1) := dk_3 (dk_at dksX4_takeBack_1 21 rfl rfl)
theorem dX4_takeBack_44 : decode cX4_takeBack 44 = .ok (.ireturn, 1) := dk_172 (dk_at dksX4_takeBack_1 22 rfl rfl)
theorem dX4_takeBack_45 : decode cX4_takeBack 45 = .ok (.aload_n 0, 1) := dk_42 (dk_at dksX4_takeBack_1 23 rfl rfl)
theorem dX4_takeBack_46 : decode cX4_takeBack 46 = .ok (.getfield 151, 3) := dk_180 0 151 (dk_at dksX4_takeBack_2 0 rfl rfl)
theorem dX4_takeBack_49 : decode cX4_takeBack 49 = .ok (.iload_n 1, 1) := dk_27 (dk_at dksX4_takeBack_2 3 rfl rfl)
theorem dX4_takeBack_50 : decode cX4_takeBack 50 = .ok (.isub, 1) := dk_100 (dk_at dksX4_takeBack_2 4 rfl rfl)
theorem dX4_takeBack_51 : decode cX4_takeBack 51 = .ok (.istore_n 3, 1) := dk_62 (dk_at dksX4_takeBack_2 5 rfl rfl)
theorem dX4_takeBack_52 : decode cX4_takeBack 52 = .ok (.aload_n 0, 1) := dk_42 (dk_at dksX4_takeBack_2 6 rfl rfl)
theorem dX4_takeBack_53 : decode cX4_takeBack 53 = .ok (.iconst 0, 1) := dk_3 (dk_at dksX4_takeBack_2 7 rfl rfl)
theorem dX4_takeBack_54 : decode cX4_takeBack 54 = .ok (.putfield 147, 3) := dk_181 0 147 (dk_at dksX4_takeBack_2 8 rfl rfl)
theorem dX4_takeBack_57 : decode cX4_takeBack 57 = .ok (.aload_n 0, 1) := dk_42 (dk_at dksX4_takeBack_2 11 rfl rfl)
theorem dX4_takeBack_58 : decode cX4_takeBack 58 = .ok (.iload_n 1, 1) := dk_27 (dk_at dksX4_takeBack_2 12 rfl rfl)
theorem dX4_takeBack_59 : decode cX4_takeBack 59 = .ok (.putfield 151, 3) := dk_181 0 151 (dk_at dksX4_takeBack_2 13 rfl rfl)
theorem dX4_takeBack_62 : decode cX4_takeBack 62 = .ok (.aload_n 0, 1) := dk_42 (dk_at dksX4_takeBack_2 16 rfl rfl)
theorem dX4_takeBack_63 : decode cX4_takeBack 63 = .ok (.invokevirtual 201, 3) := dk_182 0 201 (dk_at dksX4_takeBack_2 17 rfl rfl)
theorem dX4_takeBack_66 : decode cX4_takeBack 66 = .ok (.istore 4, 2) := dk_54 4 (dk_at dksX4_takeBack_2 20 rfl rfl)
theorem dX4_takeBack_68 : decode cX4_takeBack 68 = .ok (.iload_n 3, 1) := dk_29 (dk_at dksX4_takeBack_2 22 rfl rfl)
theorem dX4_takeBack_69 : decode cX4_takeBack 69 = .ok (.ireturn, 1) := dk_172 (dk_at dksX4_takeBack_2 23 rfl rfl)
abbrev cX4_enter : ByteArray := prog_14_method_46_code
def yX4_enter : MethodName := ⟨RX4, "enter", "()I"⟩
def dkwX4_enter_11 : List UInt8 := [167, 0, 4, 2, 172]
abbrev dktX4_enter_11 : List UInt8 := dkwX4_enter_11 ++ []
def dkwX4_enter_10 : List UInt8 := [158, 0, 12, 42, 180, 0, 7, 3, 46, 167, 0, 17, 27, 156, 0, 12, 42, 180, 0, 7, 4, 46]
abbrev dktX4_enter_10 : List UInt8 := dkwX4_enter_10 ++ dktX4_enter_11
def dkwX4_enter_9 : List UInt8 := [180, 0, 41, 16, 105, 28, 100, 46, 96, 79, 132, 2, 1, 167, 255, 93, 42, 3, 181, 0, 166, 27]
abbrev dktX4_enter_9 : List UInt8 := dkwX4_enter_9 ++ dktX4_enter_10
def dkwX4_enter_8 : List UInt8 := [92, 46, 42, 180, 0, 41, 16, 104, 28, 96, 46, 96, 79, 42, 180, 0, 53, 29, 8, 96, 92, 46, 42]
abbrev dktX4_enter_8 : List UInt8 := dkwX4_enter_8 ++ dktX4_enter_9
def dkwX4_enter_7 : List UInt8 := [167, 0, 15, 21, 4, 16, 249, 161, 0, 7, 4, 167, 0, 4, 3, 96, 79, 42, 180, 0, 53, 29, 7, 96]
abbrev dktX4_enter_7 : List UInt8 := dkwX4_enter_7 ++ dktX4_enter_8
def dkwX4_enter_6 : List UInt8 := [180, 0, 53, 29, 6, 96, 92, 46, 21, 4, 158, 0, 7, 8, 167, 0, 24, 21, 4, 154, 0, 7, 6]
abbrev dktX4_enter_6 : List UInt8 := dkwX4_enter_6 ++ dktX4_enter_7
def dkwX4_enter_5 : List UInt8 := [96, 79, 42, 180, 0, 53, 29, 5, 96, 92, 46, 21, 4, 154, 0, 7, 4, 167, 0, 4, 3, 96, 79, 42]
abbrev dktX4_enter_5 : List UInt8 := dkwX4_enter_5 ++ dktX4_enter_6
def dkwX4_enter_4 : List UInt8 := [92, 46, 4, 96, 79, 42, 180, 0, 53, 29, 4, 96, 92, 46, 21, 4, 158, 0, 7, 4, 167, 0, 4, 3]
abbrev dktX4_enter_4 : List UInt8 := dkwX4_enter_4 ++ dktX4_enter_5
def dkwX4_enter_3 : List UInt8 := [180, 0, 7, 28, 46, 104, 62, 28, 154, 0, 7, 27, 167, 0, 5, 27, 116, 54, 4, 42, 180, 0, 53, 29]
abbrev dktX4_enter_3 : List UInt8 := dkwX4_enter_3 ++ dktX4_enter_4
def dkwX4_enter_2 : List UInt8 := [16, 104, 46, 42, 180, 0, 41, 16, 105, 46, 100, 60, 3, 61, 28, 5, 162, 0, 164, 16, 6, 42]
abbrev dktX4_enter_2 : List UInt8 := dkwX4_enter_2 ++ dktX4_enter_3
def dkwX4_enter_1 : List UInt8 := [180, 0, 118, 161, 0, 7, 3, 167, 0, 4, 4, 182, 0, 169, 154, 0, 5, 3, 172, 42, 180, 0, 41]
abbrev dktX4_enter_1 : List UInt8 := dkwX4_enter_1 ++ dktX4_enter_2
def dkwX4_enter_0 : List UInt8 := [42, 42, 180, 0, 166, 153, 0, 28, 42, 180, 0, 147, 154, 0, 21, 42, 180, 0, 41, 16, 108, 46, 42]
abbrev dktX4_enter_0 : List UInt8 := dkwX4_enter_0 ++ dktX4_enter_1
theorem dksX4_enter_0 : cX4_enter.data.toList.drop 0 = dktX4_enter_0 := by decide +kernel
theorem dksX4_enter_1 : cX4_enter.data.toList.drop 23 = dktX4_enter_1 := dk_seg dksX4_enter_0 23 rfl rfl
theorem dksX4_enter_2 : cX4_enter.data.toList.drop 46 = dktX4_enter_2 := dk_seg dksX4_enter_1 23 rfl rfl
theorem dksX4_enter_3 : cX4_enter.data.toList.drop 68 = dktX4_enter_3 := dk_seg dksX4_enter_2 22 rfl rfl
theorem dksX4_enter_4 : cX4_enter.data.toList.drop 92 = dktX4_enter_4 := dk_seg dksX4_enter_3 24 rfl rfl
theorem dksX4_enter_5 : cX4_enter.data.toList.drop 116 = dktX4_enter_5 := dk_seg dksX4_enter_4 24 rfl rfl
theorem dksX4_enter_6 : cX4_enter.data.toList.drop 140 = dktX4_enter_6 := dk_seg dksX4_enter_5 24 rfl rfl
theorem dksX4_enter_7 : cX4_enter.data.toList.drop 163 = dktX4_enter_7 := dk_seg dksX4_enter_6 23 rfl rfl
theorem dksX4_enter_8 : cX4_enter.data.toList.drop 187 = dktX4_enter_8 := dk_seg dksX4_enter_7 24 rfl rfl
theorem dksX4_enter_9 : cX4_enter.data.toList.drop 210 = dktX4_enter_9 := dk_seg dksX4_enter_8 23 rfl rfl
theorem dksX4_enter_10 : cX4_enter.data.toList.drop 232 = dktX4_enter_10 := dk_seg dksX4_enter_9 22 rfl rfl
theorem dksX4_enter_11 : cX4_enter.data.toList.drop 254 = dktX4_enter_11 := dk_seg dksX4_enter_10 22 rfl rfl
theorem dX4_enter_0 : decode cX4_enter 0 = .ok (.aload_n 0, 1) := dk_42 (dk_at dksX4_enter_0 0 rfl rfl)
theorem dX4_enter_1 : decode cX4_enter 1 = .ok (.aload_n 0, 1) := dk_42 (dk_at dksX4_enter_0 1 rfl rfl)
theorem dX4_enter_2 : decode cX4_enter 2 = .ok (.getfield 166, 3) := dk_180 0 166 (dk_at dksX4_enter_0 2 rfl rfl)
theorem dX4_enter_5 : decode cX4_enter 5 = .ok (.ifCond .eq 28, 3) := dk_153 0 28 (dk_at dksX4_enter_0 5 rfl rfl)
theorem dX4_enter_8 : decode cX4_enter 8 = .ok (.aload_n 0, 1) := dk_42 (dk_at dksX4_enter_0 8 rfl rfl)
theorem dX4_enter_9 : decode cX4_enter 9 = .ok (.getfield 147, 3) := dk_180 0 147 (dk_at dksX4_enter_0 9 rfl rfl)
theorem dX4_enter_12 : decode cX4_enter 12 = .ok (.ifCond .ne 21, 3) := dk_154 0 21 (dk_at dksX4_enter_0 12 rfl rfl)
theorem dX4_enter_15 : decode cX4_enter 15 = .ok (.aload_n 0, 1) := dk_42 (dk_at dksX4_enter_0 15 rfl rfl)
theorem dX4_enter_16 : decode cX4_enter 16 = .ok (.getfield 41, 3) := dk_180 0 41 (dk_at dksX4_enter_0 16 rfl rfl)
theorem dX4_enter_19 : decode cX4_enter 19 = .ok (.bipush 108, 2) := dk_16 108 (dk_at dksX4_enter_0 19 rfl rfl)
theorem dX4_enter_21 : decode cX4_enter 21 = .ok (.iaload, 1) := dk_46 (dk_at dksX4_enter_0 21 rfl rfl)
theorem dX4_enter_22 : decode cX4_enter 22 = .ok (.aload_n 0, 1) := dk_42 (dk_at dksX4_enter_0 22 rfl rfl)
theorem dX4_enter_23 : decode cX4_enter 23 = .ok (.getfield 118, 3) := dk_180 0 118 (dk_at dksX4_enter_1 0 rfl rfl)
theorem dX4_enter_26 : decode cX4_enter 26 = .ok (.if_icmp .lt 7, 3) := dk_161 0 7 (dk_at dksX4_enter_1 3 rfl rfl)
theorem dX4_enter_29 : decode cX4_enter 29 = .ok (.iconst 0, 1) := dk_3 (dk_at dksX4_enter_1 6 rfl rfl)
theorem dX4_enter_30 : decode cX4_enter 30 = .ok (.goto 4, 3) := dk_167 0 4 (dk_at dksX4_enter_1 7 rfl rfl)
theorem dX4_enter_33 : decode cX4_enter 33 = .ok (.iconst 1, 1) := dk_4 (dk_at dksX4_enter_1 10 rfl rfl)
theorem dX4_enter_34 : decode cX4_enter 34 = .ok (.invokevirtual 169, 3) := dk_182 0 169 (dk_at dksX4_enter_1 11 rfl rfl)
theorem dX4_enter_37 : decode cX4_enter 37 = .ok (.ifCond .ne 5, 3) := dk_154 0 5 (dk_at dksX4_enter_1 14 rfl rfl)
theorem dX4_enter_40 : decode cX4_enter 40 = .ok (.iconst 0, 1) := dk_3 (dk_at dksX4_enter_1 17 rfl rfl)
theorem dX4_enter_41 : decode cX4_enter 41 = .ok (.ireturn, 1) := dk_172 (dk_at dksX4_enter_1 18 rfl rfl)
theorem dX4_enter_42 : decode cX4_enter 42 = .ok (.aload_n 0, 1) := dk_42 (dk_at dksX4_enter_1 19 rfl rfl)
theorem dX4_enter_43 : decode cX4_enter 43 = .ok (.getfield 41, 3) := dk_180 0 41 (dk_at dksX4_enter_1 20 rfl rfl)
theorem dX4_enter_46 : decode cX4_enter 46 = .ok (.bipush 104, 2) := dk_16 104 (dk_at dksX4_enter_2 0 rfl rfl)
theorem dX4_enter_48 : decode cX4_enter 48 = .ok (.iaload, 1) := dk_46 (dk_at dksX4_enter_2 2 rfl rfl)
theorem dX4_enter_49 : decode cX4_enter 49 = .ok (.aload_n 0, 1) := dk_42 (dk_at dksX4_enter_2 3 rfl rfl)
theorem dX4_enter_50 : decode cX4_enter 50 = .ok (.getfield 41, 3) := dk_180 0 41 (dk_at dksX4_enter_2 4 rfl rfl)
theorem dX4_enter_53 : decode cX4_enter 53 = .ok (.bipush 105, 2) := dk_16 105 (dk_at dksX4_enter_2 7 rfl rfl)
theorem dX4_enter_55 : decode cX4_enter 55 = .ok (.iaload, 1) := dk_46 (dk_at dksX4_enter_2 9 rfl rfl)
theorem dX4_enter_56 : decode cX4_enter 56 = .ok (.isub, 1) := dk_100 (dk_at dksX4_enter_2 10 rfl rfl)
theorem dX4_enter_57 : decode cX4_enter 57 = .ok (.istore_n 1, 1) := dk_60 (dk_at dksX4_enter_2 11 rfl rfl)
theorem dX4_enter_58 : decode cX4_enter 58 = .ok (.iconst 0, 1) := dk_3 (dk_at dksX4_enter_2 12 rfl rfl)
theorem dX4_enter_59 : decode cX4_enter 59 = .ok (.istore_n 2, 1) := dk_61 (dk_at dksX4_enter_2 13 rfl rfl)
theorem dX4_enter_60 : decode cX4_enter 60 = .ok (.iload_n 2, 1) := dk_28 (dk_at dksX4_enter_2 14 rfl rfl)
theorem dX4_enter_61 : decode cX4_enter 61 = .ok (.iconst 2, 1) := dk_5 (dk_at dksX4_enter_2 15 rfl rfl)
theorem dX4_enter_62 : decode cX4_enter 62 = .ok (.if_icmp .ge 164, 3) := dk_162 0 164 (dk_at dksX4_enter_2 16 rfl rfl)
theorem dX4_enter_65 : decode cX4_enter 65 = .ok (.bipush 6, 2) := dk_16 6 (dk_at dksX4_enter_2 19 rfl rfl)
theorem dX4_enter_67 : decode cX4_enter 67 = .ok (.aload_n 0, 1) := dk_42 (dk_at dksX4_enter_2 21 rfl rfl)
theorem dX4_enter_68 : decode cX4_enter 68 = .ok (.getfield 7, 3) := dk_180 0 7 (dk_at dksX4_enter_3 0 rfl rfl)
theorem dX4_enter_71 : decode cX4_enter 71 = .ok (.iload_n 2, 1) := dk_28 (dk_at dksX4_enter_3 3 rfl rfl)
theorem dX4_enter_72 : decode cX4_enter 72 = .ok (.iaload, 1) := dk_46 (dk_at dksX4_enter_3 4 rfl rfl)
theorem dX4_enter_73 : decode cX4_enter 73 = .ok (.imul, 1) := dk_104 (dk_at dksX4_enter_3 5 rfl rfl)
theorem dX4_enter_74 : decode cX4_enter 74 = .ok (.istore_n 3, 1) := dk_62 (dk_at dksX4_enter_3 6 rfl rfl)
theorem dX4_enter_75 : decode cX4_enter 75 = .ok (.iload_n 2, 1) := dk_28 (dk_at dksX4_enter_3 7 rfl rfl)
theorem dX4_enter_76 : decode cX4_enter 76 = .ok (.ifCond .ne 7, 3) := dk_154 0 7 (dk_at dksX4_enter_3 8 rfl rfl)
theorem dX4_enter_79 : decode cX4_enter 79 = .ok (.iload_n 1, 1) := dk_27 (dk_at dksX4_enter_3 11 rfl rfl)
theorem dX4_enter_80 : decode cX4_enter 80 = .ok (.goto 5, 3) := dk_167 0 5 (dk_at dksX4_enter_3 12 rfl rfl)
theorem dX4_enter_83 : decode cX4_enter 83 = .ok (.iload_n 1, 1) := dk_27 (dk_at dksX4_enter_3 15 rfl rfl)
theorem dX4_enter_84 : decode cX4_enter 84 = .ok (.ineg, 1) := dk_116 (dk_at dksX4_enter_3 16 rfl rfl)
theorem dX4_enter_85 : decode cX4_enter 85 = .ok (.istore 4, 2) := dk_54 4 (dk_at dksX4_enter_3 17 rfl rfl)
theorem dX4_enter_87 : decode cX4_enter 87 = .ok (.aload_n 0, 1) := dk_42 (dk_at dksX4_enter_3 19 rfl rfl)
theorem dX4_enter_88 : decode cX4_enter 88 = .ok (.getfield 53, 3) := dk_180 0 53 (dk_at dksX4_enter_3 20 rfl rfl)
theorem dX4_enter_91 : decode cX4_enter 91 = .ok (.iload_n 3, 1) := dk_29 (dk_at dksX4_enter_3 23 rfl rfl)
theorem dX4_enter_92 : decode cX4_enter 92 = .ok (.dup2, 1) := dk_92 (dk_at dksX4_enter_4 0 rfl rfl)
theorem dX4_enter_93 : decode cX4_enter 93 = .ok (.iaload, 1) := dk_46 (dk_at dksX4_enter_4 1 rfl rfl)
theorem dX4_enter_94 : decode cX4_enter 94 = .ok (.iconst 1, 1) := dk_4 (dk_at dksX4_enter_4 2 rfl rfl)
theorem dX4_enter_95 : decode cX4_enter 95 = .ok (.iadd, 1) := dk_96 (dk_at dksX4_enter_4 3 rfl rfl)
theorem dX4_enter_96 : decode cX4_enter 96 = .ok (.iastore, 1) := dk_79 (dk_at dksX4_enter_4 4 rfl rfl)
theorem dX4_enter_97 : decode cX4_enter 97 = .ok (.aload_n 0, 1) := dk_42 (dk_at dksX4_enter_4 5 rfl rfl)
theorem dX4_enter_98 : decode cX4_enter 98 = .ok (.getfield 53, 3) := dk_180 0 53 (dk_at dksX4_enter_4 6 rfl rfl)
theorem dX4_enter_101 : decode cX4_enter 101 = .ok (.iload_n 3, 1) := dk_29 (dk_at dksX4_enter_4 9 rfl rfl)
theorem dX4_enter_102 : decode cX4_enter 102 = .ok (.iconst 1, 1) := dk_4 (dk_at dksX4_enter_4 10 rfl rfl)
theorem dX4_enter_103 : decode cX4_enter 103 = .ok (.iadd, 1) := dk_96 (dk_at dksX4_enter_4 11 rfl rfl)
theorem dX4_enter_104 : decode cX4_enter 104 = .ok (.dup2, 1) := dk_92 (dk_at dksX4_enter_4 12 rfl rfl)
theorem dX4_enter_105 : decode cX4_enter 105 = .ok (.iaload, 1) := dk_46 (dk_at dksX4_enter_4 13 rfl rfl)
theorem dX4_enter_106 : decode cX4_enter 106 = .ok (.iload 4, 2) := dk_21 4 (dk_at dksX4_enter_4 14 rfl rfl)
theorem dX4_enter_108 : decode cX4_enter 108 = .ok (.ifCond .le 7, 3) := dk_158 0 7 (dk_at dksX4_enter_4 16 rfl rfl)
theorem dX4_enter_111 : decode cX4_enter 111 = .ok (.iconst 1, 1) := dk_4 (dk_at dksX4_enter_4 19 rfl rfl)
theorem dX4_enter_112 : decode cX4_enter 112 = .ok (.goto 4, 3) := dk_167 0 4 (dk_at dksX4_enter_4 20 rfl rfl)
theorem dX4_enter_115 : decode cX4_enter 115 = .ok (.iconst 0, 1) := dk_3 (dk_at dksX4_enter_4 23 rfl rfl)
theorem dX4_enter_116 : decode cX4_enter 116 = .ok (.iadd, 1) := dk_96 (dk_at dksX4_enter_5 0 rfl rfl)
theorem dX4_enter_117 : decode cX4_enter 117 = .ok (.iastore, 1) := dk_79 (dk_at dksX4_enter_5 1 rfl rfl)
theorem dX4_enter_118 : decode cX4_enter 118 = .ok (.aload_n 0, 1) := dk_42 (dk_at dksX4_enter_5 2 rfl rfl)
theorem dX4_enter_119 : decode cX4_enter 119 = .ok (.getfield 53, 3) := dk_180 0 53 (dk_at dksX4_enter_5 3 rfl rfl)
theorem dX4_enter_122 : decode cX4_enter 122 = .ok (.iload_n 3, 1) := dk_29 (dk_at dksX4_enter_5 6 rfl rfl)
theorem dX4_enter_123 : decode cX4_enter 123 = .ok (.iconst 2, 1) := dk_5 (dk_at dksX4_enter_5 7 rfl rfl)
theorem dX4_enter_124 : decode cX4_enter 124 = .ok (.iadd, 1) := dk_96 (dk_at dksX4_enter_5 8 rfl rfl)
theorem dX4_enter_125 : decode cX4_enter 125 = .ok (.dup2, 1) := dk_92 (dk_at dksX4_enter_5 9 rfl rfl)
theorem dX4_enter_126 : decode cX4_enter 126 = .ok (.iaload, 1) := dk_46 (dk_at dksX4_enter_5 10 rfl rfl)
theorem dX4_enter_127 : decode cX4_enter 127 = .ok (.iload 4, 2) := dk_21 4 (dk_at dksX4_enter_5 11 rfl rfl)
theorem dX4_enter_129 : decode cX4_enter 129 = .ok (.ifCond .ne 7, 3) := dk_154 0 7 (dk_at dksX4_enter_5 13 rfl rfl)
theorem dX4_enter_132 : decode cX4_enter 132 = .ok (.iconst 1, 1) := dk_4 (dk_at dksX4_enter_5 16 rfl rfl)
theorem dX4_enter_133 : decode cX4_enter 133 = .ok (.goto 4, 3) := dk_167 0 4 (dk_at dksX4_enter_5 17 rfl rfl)
theorem dX4_enter_136 : decode cX4_enter 136 = .ok (.iconst 0, 1) := dk_3 (dk_at dksX4_enter_5 20 rfl rfl)
theorem dX4_enter_137 : decode cX4_enter 137 = .ok (.iadd, 1) := dk_96 (dk_at dksX4_enter_5 21 rfl rfl)
theorem dX4_enter_138 : decode cX4_enter 138 = .ok (.iastore, 1) := dk_79 (dk_at dksX4_enter_5 22 rfl rfl)
theorem dX4_enter_139 : decode cX4_enter 139 = .ok (.aload_n 0, 1) := dk_42 (dk_at dksX4_enter_5 23 rfl rfl)
theorem dX4_enter_140 : decode cX4_enter 140 = .ok (.getfield 53, 3) := dk_180 0 53 (dk_at dksX4_enter_6 0 rfl rfl)
theorem dX4_enter_143 : decode cX4_enter 143 = .ok (.iload_n 3, 1) := dk_29 (dk_at dksX4_enter_6 3 rfl rfl)
theorem dX4_enter_144 : decode cX4_enter 144 = .ok (.iconst 3, 1) := dk_6 (dk_at dksX4_enter_6 4 rfl rfl)
theorem dX4_enter_145 : decode cX4_enter 145 = .ok (.iadd, 1) := dk_96 (dk_at dksX4_enter_6 5 rfl rfl)
theorem dX4_enter_146 : decode cX4_enter 146 = .ok (.dup2, 1) := dk_92 (dk_at dksX4_enter_6 6 rfl rfl)
theorem dX4_enter_147 : decode cX4_enter 147 = .ok (.iaload, 1) := dk_46 (dk_at dksX4_enter_6 7 rfl rfl)
theorem dX4_enter_148 : decode cX4_enter 148 = .ok (.iload 4, 2) := dk_21 4 (dk_at dksX4_enter_6 8 rfl rfl)
theorem dX4_enter_150 : decode cX4_enter 150 = .ok (.ifCond .le 7, 3) := dk_158 0 7 (dk_at dksX4_enter_6 10 rfl rfl)
theorem dX4_enter_153 : decode cX4_enter 153 = .ok (.iconst 5, 1) := dk_8 (dk_at dksX4_enter_6 13 rfl rfl)
theorem dX4_enter_154 : decode cX4_enter 154 = .ok (.goto 24, 3) := dk_167 0 24 (dk_at dksX4_enter_6 14 rfl rfl)
theorem dX4_enter_157 : decode cX4_enter 157 = .ok (.iload 4, 2) := dk_21 4 (dk_at dksX4_enter_6 17 rfl rfl)
theorem dX4_enter_159 : decode cX4_enter 159 = .ok (.ifCond .ne 7, 3) := dk_154 0 7 (dk_at dksX4_enter_6 19 rfl rfl)
theorem dX4_enter_162 : decode cX4_enter 162 = .ok (.iconst 3, 1) := dk_6 (dk_at dksX4_enter_6 22 rfl rfl)
theorem dX4_enter_163 : decode cX4_enter 163 = .ok (.goto 15, 3) := dk_167 0 15 (dk_at dksX4_enter_7 0 rfl rfl)
theorem dX4_enter_166 : decode cX4_enter 166 = .ok (.iload 4, 2) := dk_21 4 (dk_at dksX4_enter_7 3 rfl rfl)
theorem dX4_enter_168 : decode cX4_enter 168 = .ok (.bipush (-7), 2) := dk_16 249 (dk_at dksX4_enter_7 5 rfl rfl)
theorem dX4_enter_170 : decode cX4_enter 170 = .ok (.if_icmp .lt 7, 3) := dk_161 0 7 (dk_at dksX4_enter_7 7 rfl rfl)
theorem dX4_enter_173 : decode cX4_enter 173 = .ok (.iconst 1, 1) := dk_4 (dk_at dksX4_enter_7 10 rfl rfl)
theorem dX4_enter_174 : decode cX4_enter 174 = .ok (.goto 4, 3) := dk_167 0 4 (dk_at dksX4_enter_7 11 rfl rfl)
theorem dX4_enter_177 : decode cX4_enter 177 = .ok (.iconst 0, 1) := dk_3 (dk_at dksX4_enter_7 14 rfl rfl)
theorem dX4_enter_178 : decode cX4_enter 178 = .ok (.iadd, 1) := dk_96 (dk_at dksX4_enter_7 15 rfl rfl)
theorem dX4_enter_179 : decode cX4_enter 179 = .ok (.iastore, 1) := dk_79 (dk_at dksX4_enter_7 16 rfl rfl)
theorem dX4_enter_180 : decode cX4_enter 180 = .ok (.aload_n 0, 1) := dk_42 (dk_at dksX4_enter_7 17 rfl rfl)
theorem dX4_enter_181 : decode cX4_enter 181 = .ok (.getfield 53, 3) := dk_180 0 53 (dk_at dksX4_enter_7 18 rfl rfl)
theorem dX4_enter_184 : decode cX4_enter 184 = .ok (.iload_n 3, 1) := dk_29 (dk_at dksX4_enter_7 21 rfl rfl)
theorem dX4_enter_185 : decode cX4_enter 185 = .ok (.iconst 4, 1) := dk_7 (dk_at dksX4_enter_7 22 rfl rfl)
theorem dX4_enter_186 : decode cX4_enter 186 = .ok (.iadd, 1) := dk_96 (dk_at dksX4_enter_7 23 rfl rfl)
theorem dX4_enter_187 : decode cX4_enter 187 = .ok (.dup2, 1) := dk_92 (dk_at dksX4_enter_8 0 rfl rfl)
theorem dX4_enter_188 : decode cX4_enter 188 = .ok (.iaload, 1) := dk_46 (dk_at dksX4_enter_8 1 rfl rfl)
theorem dX4_enter_189 : decode cX4_enter 189 = .ok (.aload_n 0, 1) := dk_42 (dk_at dksX4_enter_8 2 rfl rfl)
theorem dX4_enter_190 : decode cX4_enter 190 = .ok (.getfield 41, 3) := dk_180 0 41 (dk_at dksX4_enter_8 3 rfl rfl)
theorem dX4_enter_193 : decode cX4_enter 193 = .ok (.bipush 104, 2) := dk_16 104 (dk_at dksX4_enter_8 6 rfl rfl)
theorem dX4_enter_195 : decode cX4_enter 195 = .ok (.iload_n 2, 1) := dk_28 (dk_at dksX4_enter_8 8 rfl rfl)
theorem dX4_enter_196 : decode cX4_enter 196 = .ok (.iadd, 1) := dk_96 (dk_at dksX4_enter_8 9 rfl rfl)
theorem dX4_enter_197 : decode cX4_enter 197 = .ok (.iaload, 1) := dk_46 (dk_at dksX4_enter_8 10 rfl rfl)
theorem dX4_enter_198 : decode cX4_enter 198 = .ok (.iadd, 1) := dk_96 (dk_at dksX4_enter_8 11 rfl rfl)
theorem dX4_enter_199 : decode cX4_enter 199 = .ok (.iastore, 1) := dk_79 (dk_at dksX4_enter_8 12 rfl rfl)
theorem dX4_enter_200 : decode cX4_enter 200 = .ok (.aload_n 0, 1) := dk_42 (dk_at dksX4_enter_8 13 rfl rfl)
theorem dX4_enter_201 : decode cX4_enter 201 = .ok (.getfield 53, 3) := dk_180 0 53 (dk_at dksX4_enter_8 14 rfl rfl)
theorem dX4_enter_204 : decode cX4_enter 204 = .ok (.iload_n 3, 1) := dk_29 (dk_at dksX4_enter_8 17 rfl rfl)
theorem dX4_enter_205 : decode cX4_enter 205 = .ok (.iconst 5, 1) := dk_8 (dk_at dksX4_enter_8 18 rfl rfl)
theorem dX4_enter_206 : decode cX4_enter 206 = .ok (.iadd, 1) := dk_96 (dk_at dksX4_enter_8 19 rfl rfl)
theorem dX4_enter_207 : decode cX4_enter 207 = .ok (.dup2, 1) := dk_92 (dk_at dksX4_enter_8 20 rfl rfl)
theorem dX4_enter_208 : decode cX4_enter 208 = .ok (.iaload, 1) := dk_46 (dk_at dksX4_enter_8 21 rfl rfl)
theorem dX4_enter_209 : decode cX4_enter 209 = .ok (.aload_n 0, 1) := dk_42 (dk_at dksX4_enter_8 22 rfl rfl)
theorem dX4_enter_210 : decode cX4_enter 210 = .ok (.getfield 41, 3) := dk_180 0 41 (dk_at dksX4_enter_9 0 rfl rfl)
theorem dX4_enter_213 : decode cX4_enter 213 = .ok (.bipush 105, 2) := dk_16 105 (dk_at dksX4_enter_9 3 rfl rfl)
theorem dX4_enter_215 : decode cX4_enter 215 = .ok (.iload_n 2, 1) := dk_28 (dk_at dksX4_enter_9 5 rfl rfl)
theorem dX4_enter_216 : decode cX4_enter 216 = .ok (.isub, 1) := dk_100 (dk_at dksX4_enter_9 6 rfl rfl)
theorem dX4_enter_217 : decode cX4_enter 217 = .ok (.iaload, 1) := dk_46 (dk_at dksX4_enter_9 7 rfl rfl)
theorem dX4_enter_218 : decode cX4_enter 218 = .ok (.iadd, 1) := dk_96 (dk_at dksX4_enter_9 8 rfl rfl)
theorem dX4_enter_219 : decode cX4_enter 219 = .ok (.iastore, 1) := dk_79 (dk_at dksX4_enter_9 9 rfl rfl)
theorem dX4_enter_220 : decode cX4_enter 220 = .ok (.iinc 2 1, 3) := dk_132 2 1 (dk_at dksX4_enter_9 10 rfl rfl)
theorem dX4_enter_223 : decode cX4_enter 223 = .ok (.goto (-163), 3) := dk_167 255 93 (dk_at dksX4_enter_9 13 rfl rfl)
theorem dX4_enter_226 : decode cX4_enter 226 = .ok (.aload_n 0, 1) := dk_42 (dk_at dksX4_enter_9 16 rfl rfl)
theorem dX4_enter_227 : decode cX4_enter 227 = .ok (.iconst 0, 1) := dk_3 (dk_at dksX4_enter_9 17 rfl rfl)
theorem dX4_enter_228 : decode cX4_enter 228 = .ok (.putfield 166, 3) := dk_181 0 166 (dk_at dksX4_enter_9 18 rfl rfl)
theorem dX4_enter_231 : decode cX4_enter 231 = .ok (.iload_n 1, 1) := dk_27 (dk_at dksX4_enter_9 21 rfl rfl)
theorem dX4_enter_232 : decode cX4_enter 232 = .ok (.ifCond .le 12, 3) := dk_158 0 12 (dk_at dksX4_enter_10 0 rfl rfl)
theorem dX4_enter_235 : decode cX4_enter 235 = .ok (.aload_n 0, 1) := dk_42 (dk_at dksX4_enter_10 3 rfl rfl)
theorem dX4_enter_236 : decode cX4_enter 236 = .ok (.getfield 7, 3) := dk_180 0 7 (dk_at dksX4_enter_10 4 rfl rfl)
theorem dX4_enter_239 : decode cX4_enter 239 = .ok (.iconst 0, 1) := dk_3 (dk_at dksX4_enter_10 7 rfl rfl)
theorem dX4_enter_240 : decode cX4_enter 240 = .ok (.iaload, 1) := dk_46 (dk_at dksX4_enter_10 8 rfl rfl)
theorem dX4_enter_241 : decode cX4_enter 241 = .ok (.goto 17, 3) := dk_167 0 17 (dk_at dksX4_enter_10 9 rfl rfl)
theorem dX4_enter_244 : decode cX4_enter 244 = .ok (.iload_n 1, 1) := dk_27 (dk_at dksX4_enter_10 12 rfl rfl)
theorem dX4_enter_245 : decode cX4_enter 245 = .ok (.ifCond .ge 12, 3) := dk_156 0 12 (dk_at dksX4_enter_10 13 rfl rfl)
theorem dX4_enter_248 : decode cX4_enter 248 = .ok (.aload_n 0, 1) := dk_42 (dk_at dksX4_enter_10 16 rfl rfl)
theorem dX4_enter_249 : decode cX4_enter 249 = .ok (.getfield 7, 3) := dk_180 0 7 (dk_at dksX4_enter_10 17 rfl rfl)
theorem dX4_enter_252 : decode cX4_enter 252 = .ok (.iconst 1, 1) := dk_4 (dk_at dksX4_enter_10 20 rfl rfl)
theorem dX4_enter_253 : decode cX4_enter 253 = .ok (.iaload, 1) := dk_46 (dk_at dksX4_enter_10 21 rfl rfl)
theorem dX4_enter_254 : decode cX4_enter 254 = .ok (.goto 4, 3) := dk_167 0 4 (dk_at dksX4_enter_11 0 rfl rfl)
theorem dX4_enter_257 : decode cX4_enter 257 = .ok (.iconst (-1), 1) := dk_2 (dk_at dksX4_enter_11 3 rfl rfl)
theorem dX4_enter_258 : decode cX4_enter 258 = .ok (.ireturn, 1) := dk_172 (dk_at dksX4_enter_11 4 rfl rfl)
abbrev cX4_type : ByteArray := prog_14_method_47_code
def yX4_type : MethodName := ⟨RX4, "type", "(I)I"⟩
def dkwX4_type_2 : List UInt8 := [27, 79, 42, 89, 180, 0, 210, 4, 96, 181, 0, 210, 42, 180, 0, 210, 172]
abbrev dktX4_type_2 : List UInt8 := dkwX4_type_2 ++ []
def dkwX4_type_1 : List UInt8 := [160, 0, 7, 5, 167, 0, 4, 3, 182, 0, 169, 154, 0, 5, 3, 172, 42, 180, 0, 50, 42, 180, 0, 210]
abbrev dktX4_type_1 : List UInt8 := dkwX4_type_1 ++ dktX4_type_2
def dkwX4_type_0 : List UInt8 := [42, 27, 16, 32, 16, 126, 184, 0, 81, 154, 0, 7, 4, 167, 0, 17, 42, 180, 0, 210, 16, 60]
abbrev dktX4_type_0 : List UInt8 := dkwX4_type_0 ++ dktX4_type_1
theorem dksX4_type_0 : cX4_type.data.toList.drop 0 = dktX4_type_0 := by decide +kernel
theorem dksX4_type_1 : cX4_type.data.toList.drop 22 = dktX4_type_1 := dk_seg dksX4_type_0 22 rfl rfl
theorem dksX4_type_2 : cX4_type.data.toList.drop 46 = dktX4_type_2 := dk_seg dksX4_type_1 24 rfl rfl
theorem dX4_type_0 : decode cX4_type 0 = .ok (.aload_n 0, 1) := dk_42 (dk_at dksX4_type_0 0 rfl rfl)
theorem dX4_type_1 : decode cX4_type 1 = .ok (.iload_n 1, 1) := dk_27 (dk_at dksX4_type_0 1 rfl rfl)
theorem dX4_type_2 : decode cX4_type 2 = .ok (.bipush 32, 2) := dk_16 32 (dk_at dksX4_type_0 2 rfl rfl)
theorem dX4_type_4 : decode cX4_type 4 = .ok (.bipush 126, 2) := dk_16 126 (dk_at dksX4_type_0 4 rfl rfl)
theorem dX4_type_6 : decode cX4_type 6 = .ok (.invokestatic 81, 3) := dk_184 0 81 (dk_at dksX4_type_0 6 rfl rfl)
theorem dX4_type_9 : decode cX4_type 9 = .ok (.ifCond .ne 7, 3) := dk_154 0 7 (dk_at dksX4_type_0 9 rfl rfl)
theorem dX4_type_12 : decode cX4_type 12 = .ok (.iconst 1, 1) := dk_4 (dk_at dksX4_type_0 12 rfl rfl)
theorem dX4_type_13 : decode cX4_type 13 = .ok (.goto 17, 3) := dk_167 0 17 (dk_at dksX4_type_0 13 rfl rfl)
theorem dX4_type_16 : decode cX4_type 16 = .ok (.aload_n 0, 1) := dk_42 (dk_at dksX4_type_0 16 rfl rfl)
theorem dX4_type_17 : decode cX4_type 17 = .ok (.getfield 210, 3) := dk_180 0 210 (dk_at dksX4_type_0 17 rfl rfl)
theorem dX4_type_20 : decode cX4_type 20 = .ok (.bipush 60, 2) := dk_16 60 (dk_at dksX4_type_0 20 rfl rfl)
theorem dX4_type_22 : decode cX4_type 22 = .ok (.if_icmp .ne 7, 3) := dk_160 0 7 (dk_at dksX4_type_1 0 rfl rfl)
theorem dX4_type_25 : decode cX4_type 25 = .ok (.iconst 2, 1) := dk_5 (dk_at dksX4_type_1 3 rfl rfl)
theorem dX4_type_26 : decode cX4_type 26 = .ok (.goto 4, 3) := dk_167 0 4 (dk_at dksX4_type_1 4 rfl rfl)
theorem dX4_type_29 : decode cX4_type 29 = .ok (.iconst 0, 1) := dk_3 (dk_at dksX4_type_1 7 rfl rfl)
theorem dX4_type_30 : decode cX4_type 30 = .ok (.invokevirtual 169, 3) := dk_182 0 169 (dk_at dksX4_type_1 8 rfl rfl)
theorem dX4_type_33 : decode cX4_type 33 = .ok (.ifCond .ne 5, 3) := dk_154 0 5 (dk_at dksX4_type_1 11 rfl rfl)
theorem dX4_type_36 : decode cX4_type 36 = .ok (.iconst 0, 1) := dk_3 (dk_at dksX4_type_1 14 rfl rfl)
theorem dX4_type_37 : decode cX4_type 37 = .ok (.ireturn, 1) := dk_172 (dk_at dksX4_type_1 15 rfl rfl)
theorem dX4_type_38 : decode cX4_type 38 = .ok (.aload_n 0, 1) := dk_42 (dk_at dksX4_type_1 16 rfl rfl)
theorem dX4_type_39 : decode cX4_type 39 = .ok (.getfield 50, 3) := dk_180 0 50 (dk_at dksX4_type_1 17 rfl rfl)
theorem dX4_type_42 : decode cX4_type 42 = .ok (.aload_n 0, 1) := dk_42 (dk_at dksX4_type_1 20 rfl rfl)
theorem dX4_type_43 : decode cX4_type 43 = .ok (.getfield 210, 3) := dk_180 0 210 (dk_at dksX4_type_1 21 rfl rfl)
theorem dX4_type_46 : decode cX4_type 46 = .ok (.iload_n 1, 1) := dk_27 (dk_at dksX4_type_2 0 rfl rfl)
theorem dX4_type_47 : decode cX4_type 47 = .ok (.iastore, 1) := dk_79 (dk_at dksX4_type_2 1 rfl rfl)
theorem dX4_type_48 : decode cX4_type 48 = .ok (.aload_n 0, 1) := dk_42 (dk_at dksX4_type_2 2 rfl rfl)
theorem dX4_type_49 : decode cX4_type 49 = .ok (.dup, 1) := dk_89 (dk_at dksX4_type_2 3 rfl rfl)
theorem dX4_type_50 : decode cX4_type 50 = .ok (.getfield 210, 3) := dk_180 0 210 (dk_at dksX4_type_2 4 rfl rfl)
theorem dX4_type_53 : decode cX4_type 53 = .ok (.iconst 1, 1) := dk_4 (dk_at dksX4_type_2 7 rfl rfl)
theorem dX4_type_54 : decode cX4_type 54 = .ok (.iadd, 1) := dk_96 (dk_at dksX4_type_2 8 rfl rfl)
theorem dX4_type_55 : decode cX4_type 55 = .ok (.putfield 210, 3) := dk_181 0 210 (dk_at dksX4_type_2 9 rfl rfl)
theorem dX4_type_58 : decode cX4_type 58 = .ok (.aload_n 0, 1) := dk_42 (dk_at dksX4_type_2 12 rfl rfl)
theorem dX4_type_59 : decode cX4_type 59 = .ok (.getfield 210, 3) := dk_180 0 210 (dk_at dksX4_type_2 13 rfl rfl)
theorem dX4_type_62 : decode cX4_type 62 = .ok (.ireturn, 1) := dk_172 (dk_at dksX4_type_2 16 rfl rfl)
abbrev cX4_clear : ByteArray := prog_14_method_48_code
def yX4_clear : MethodName := ⟨RX4, "clear", "()I"⟩
def dkwX4_clear_0 : List UInt8 := [42, 3, 181, 0, 78, 42, 180, 0, 210, 60, 42, 3, 181, 0, 210, 27, 172]
abbrev dktX4_clear_0 : List UInt8 := dkwX4_clear_0 ++ []
theorem dksX4_clear_0 : cX4_clear.data.toList.drop 0 = dktX4_clear_0 := by decide +kernel
theorem dX4_clear_0 : decode cX4_clear 0 = .ok (.aload_n 0, 1) := dk_42 (dk_at dksX4_clear_0 0 rfl rfl)
theorem dX4_clear_1 : decode cX4_clear 1 = .ok (.iconst 0, 1) := dk_3 (dk_at dksX4_clear_0 1 rfl rfl)
theorem dX4_clear_2 : decode cX4_clear 2 = .ok (.putfield 78, 3) := dk_181 0 78 (dk_at dksX4_clear_0 2 rfl rfl)
theorem dX4_clear_5 : decode cX4_clear 5 = .ok (.aload_n 0, 1) := dk_42 (dk_at dksX4_clear_0 5 rfl rfl)
theorem dX4_clear_6 : decode cX4_clear 6 = .ok (.getfield 210, 3) := dk_180 0 210 (dk_at dksX4_clear_0 6 rfl rfl)
theorem dX4_clear_9 : decode cX4_clear 9 = .ok (.istore_n 1, 1) := dk_60 (dk_at dksX4_clear_0 9 rfl rfl)
theorem dX4_clear_10 : decode cX4_clear 10 = .ok (.aload_n 0, 1) := dk_42 (dk_at dksX4_clear_0 10 rfl rfl)
theorem dX4_clear_11 : decode cX4_clear 11 = .ok (.iconst 0, 1) := dk_3 (dk_at dksX4_clear_0 11 rfl rfl)
theorem dX4_clear_12 : decode cX4_clear 12 = .ok (.putfield 210, 3) := dk_181 0 210 (dk_at dksX4_clear_0 12 rfl rfl)
theorem dX4_clear_15 : decode cX4_clear 15 = .ok (.iload_n 1, 1) := dk_27 (dk_at dksX4_clear_0 15 rfl rfl)
theorem dX4_clear_16 : decode cX4_clear 16 = .ok (.ireturn, 1) := dk_172 (dk_at dksX4_clear_0 16 rfl rfl)
abbrev cX4_fault : ByteArray := prog_14_method_55_code
def yX4_fault : MethodName := ⟨RX4, "fault", "()I"⟩
def dkwX4_fault_0 : List UInt8 := [42, 3, 181, 0, 78, 42, 182, 0, 244, 172]
abbrev dktX4_fault_0 : List UInt8 := dkwX4_fault_0 ++ []
theorem dksX4_fault_0 : cX4_fault.data.toList.drop 0 = dktX4_fault_0 := by decide +kernel
theorem dX4_fault_0 : decode cX4_fault 0 = .ok (.aload_n 0, 1) := dk_42 (dk_at dksX4_fault_0 0 rfl rfl)
theorem dX4_fault_1 : decode cX4_fault 1 = .ok (.iconst 0, 1) := dk_3 (dk_at dksX4_fault_0 1 rfl rfl)
theorem dX4_fault_2 : decode cX4_fault 2 = .ok (.putfield 78, 3) := dk_181 0 78 (dk_at dksX4_fault_0 2 rfl rfl)
theorem dX4_fault_5 : decode cX4_fault 5 = .ok (.aload_n 0, 1) := dk_42 (dk_at dksX4_fault_0 5 rfl rfl)
theorem dX4_fault_6 : decode cX4_fault 6 = .ok (.invokevirtual 244, 3) := dk_182 0 244 (dk_at dksX4_fault_0 6 rfl rfl)
theorem dX4_fault_9 : decode cX4_fault 9 = .ok (.ireturn, 1) := dk_172 (dk_at dksX4_fault_0 9 rfl rfl)
abbrev cX4_faultOf : ByteArray := prog_14_method_54_code
def yX4_faultOf : MethodName := ⟨RX4, "faultOf", "()I"⟩
def dkwX4_faultOf_2 : List UInt8 := [167, 0, 4, 2, 172]
abbrev dktX4_faultOf_2 : List UInt8 := dkwX4_faultOf_2 ++ []
def dkwX4_faultOf_1 : List UInt8 := [180, 0, 210, 162, 0, 10, 42, 182, 0, 241, 167, 255, 234, 42, 180, 0, 213, 153, 0, 10, 42, 180, 0, 216]
abbrev dktX4_faultOf_1 : List UInt8 := dkwX4_faultOf_1 ++ dktX4_faultOf_2
def dkwX4_faultOf_0 : List UInt8 := [42, 3, 181, 0, 216, 42, 3, 181, 0, 213, 42, 180, 0, 213, 154, 0, 21, 42, 180, 0, 216, 42]
abbrev dktX4_faultOf_0 : List UInt8 := dkwX4_faultOf_0 ++ dktX4_faultOf_1
theorem dksX4_faultOf_0 : cX4_faultOf.data.toList.drop 0 = dktX4_faultOf_0 := by decide +kernel
theorem dksX4_faultOf_1 : cX4_faultOf.data.toList.drop 22 = dktX4_faultOf_1 := dk_seg dksX4_faultOf_0 22 rfl rfl
theorem dksX4_faultOf_2 : cX4_faultOf.data.toList.drop 46 = dktX4_faultOf_2 := dk_seg dksX4_faultOf_1 24 rfl rfl
theorem dX4_faultOf_0 : decode cX4_faultOf 0 = .ok (.aload_n 0, 1) := dk_42 (dk_at dksX4_faultOf_0 0 rfl rfl)
theorem dX4_faultOf_1 : decode cX4_faultOf 1 = .ok (.iconst 0, 1) := dk_3 (dk_at dksX4_faultOf_0 1 rfl rfl)
theorem dX4_faultOf_2 : decode cX4_faultOf 2 = .ok (.putfield 216, 3) := dk_181 0 216 (dk_at dksX4_faultOf_0 2 rfl rfl)
theorem dX4_faultOf_5 : decode cX4_faultOf 5 = .ok (.aload_n 0, 1) := dk_42 (dk_at dksX4_faultOf_0 5 rfl rfl)
theorem dX4_faultOf_6 : decode cX4_faultOf 6 = .ok (.iconst 0, 1) := dk_3 (dk_at dksX4_faultOf_0 6 rfl rfl)
theorem dX4_faultOf_7 : decode cX4_faultOf 7 = .ok (.putfield 213, 3) := dk_181 0 213 (dk_at dksX4_faultOf_0 7 rfl rfl)
theorem dX4_faultOf_10 : decode cX4_faultOf 10 = .ok (.aload_n 0, 1) := dk_42 (dk_at dksX4_faultOf_0 10 rfl rfl)
theorem dX4_faultOf_11 : decode cX4_faultOf 11 = .ok (.getfield 213, 3) := dk_180 0 213 (dk_at dksX4_faultOf_0 11 rfl rfl)
theorem dX4_faultOf_14 : decode cX4_faultOf 14 = .ok (.ifCond .ne 21, 3) := dk_154 0 21 (dk_at dksX4_faultOf_0 14 rfl rfl)
theorem dX4_faultOf_17 : decode cX4_faultOf 17 = .ok (.aload_n 0, 1) := dk_42 (dk_at dksX4_faultOf_0 17 rfl rfl)
theorem dX4_faultOf_18 : decode cX4_faultOf 18 = .ok (.getfield 216, 3) := dk_180 0 216 (dk_at dksX4_faultOf_0 18 rfl rfl)
theorem dX4_faultOf_21 : decode cX4_faultOf 21 = .ok (.aload_n 0, 1) := dk_42 (dk_at dksX4_faultOf_0 21 rfl rfl)
theorem dX4_faultOf_22 : decode cX4_faultOf 22 = .ok (.getfield 210, 3) := dk_180 0 210 (dk_at dksX4_faultOf_1 0 rfl rfl)
theorem dX4_faultOf_25 : decode cX4_faultOf 25 = .ok (.if_icmp .ge 10, 3) := dk_162 0 10 (dk_at dksX4_faultOf_1 3 rfl rfl)
theorem dX4_faultOf_28 : decode cX4_faultOf 28 = .ok (.aload_n 0, 1) := dk_42 (dk_at dksX4_faultOf_1 6 rfl rfl)
theorem dX4_faultOf_29 : decode cX4_faultOf 29 = .ok (.invokevirtual 241, 3) := dk_182 0 241 (dk_at dksX4_faultOf_1 7 rfl rfl)
theorem dX4_faultOf_32 : decode cX4_faultOf 32 = .ok (.goto (-22), 3) := dk_167 255 234 (dk_at dksX4_faultOf_1 10 rfl rfl)
theorem dX4_faultOf_35 : decode cX4_faultOf 35 = .ok (.aload_n 0, 1) := dk_42 (dk_at dksX4_faultOf_1 13 rfl rfl)
theorem dX4_faultOf_36 : decode cX4_faultOf 36 = .ok (.getfield 213, 3) := dk_180 0 213 (dk_at dksX4_faultOf_1 14 rfl rfl)
theorem dX4_faultOf_39 : decode cX4_faultOf 39 = .ok (.ifCond .eq 10, 3) := dk_153 0 10 (dk_at dksX4_faultOf_1 17 rfl rfl)
theorem dX4_faultOf_42 : decode cX4_faultOf 42 = .ok (.aload_n 0, 1) := dk_42 (dk_at dksX4_faultOf_1 20 rfl rfl)
theorem dX4_faultOf_43 : decode cX4_faultOf 43 = .ok (.getfield 216, 3) := dk_180 0 216 (dk_at dksX4_faultOf_1 21 rfl rfl)
theorem dX4_faultOf_46 : decode cX4_faultOf 46 = .ok (.goto 4, 3) := dk_167 0 4 (dk_at dksX4_faultOf_2 0 rfl rfl)
theorem dX4_faultOf_49 : decode cX4_faultOf 49 = .ok (.iconst (-1), 1) := dk_2 (dk_at dksX4_faultOf_2 3 rfl rfl)
theorem dX4_faultOf_50 : decode cX4_faultOf 50 = .ok (.ireturn, 1) := dk_172 (dk_at dksX4_faultOf_2 4 rfl rfl)
abbrev cX4_readOrder : ByteArray := prog_14_method_53_code
def yX4_readOrder : MethodName := ⟨RX4, "readOrder", "()V"⟩
def dkwX4_readOrder_7 : List UInt8 := [167, 0, 7, 42, 180, 0, 238, 181, 0, 238, 42, 16, 59, 16, 59, 182, 0, 222, 60, 177]
abbrev dktX4_readOrder_7 : List UInt8 := dkwX4_readOrder_7 ++ []
def dkwX4_readOrder_6 : List UInt8 := [16, 57, 184, 0, 81, 153, 0, 22, 16, 10, 42, 180, 0, 238, 104, 42, 16, 48, 16, 57, 182, 0, 222, 96]
abbrev dktX4_readOrder_6 : List UInt8 := dkwX4_readOrder_6 ++ dktX4_readOrder_7
def dkwX4_readOrder_5 : List UInt8 := [153, 0, 51, 42, 180, 0, 216, 4, 164, 0, 43, 42, 180, 0, 50, 42, 180, 0, 216, 5, 100, 46, 16, 48]
abbrev dktX4_readOrder_5 : List UInt8 := dkwX4_readOrder_5 ++ dktX4_readOrder_6
def dkwX4_readOrder_4 : List UInt8 := [182, 0, 222, 96, 167, 0, 7, 42, 180, 0, 238, 181, 0, 238, 42, 42, 16, 48, 16, 57, 182, 0, 219]
abbrev dktX4_readOrder_4 : List UInt8 := dkwX4_readOrder_4 ++ dktX4_readOrder_5
def dkwX4_readOrder_3 : List UInt8 := [42, 42, 16, 48, 16, 57, 182, 0, 219, 153, 0, 22, 16, 10, 42, 180, 0, 238, 104, 42, 16, 48, 16, 57]
abbrev dktX4_readOrder_3 : List UInt8 := dkwX4_readOrder_3 ++ dktX4_readOrder_4
def dkwX4_readOrder_2 : List UInt8 := [159, 0, 129, 42, 16, 64, 16, 64, 182, 0, 222, 60, 42, 42, 16, 48, 16, 57, 182, 0, 222, 181, 0, 238]
abbrev dktX4_readOrder_2 : List UInt8 := dkwX4_readOrder_2 ++ dktX4_readOrder_3
def dkwX4_readOrder_1 : List UInt8 := [16, 57, 182, 0, 222, 167, 0, 4, 2, 181, 0, 235, 42, 3, 181, 0, 238, 42, 180, 0, 225, 2]
abbrev dktX4_readOrder_1 : List UInt8 := dkwX4_readOrder_1 ++ dktX4_readOrder_2
def dkwX4_readOrder_0 : List UInt8 := [42, 182, 0, 232, 42, 42, 180, 0, 225, 2, 159, 0, 10, 42, 180, 0, 225, 154, 0, 14, 42, 16, 48]
abbrev dktX4_readOrder_0 : List UInt8 := dkwX4_readOrder_0 ++ dktX4_readOrder_1
theorem dksX4_readOrder_0 : cX4_readOrder.data.toList.drop 0 = dktX4_readOrder_0 := by decide +kernel
theorem dksX4_readOrder_1 : cX4_readOrder.data.toList.drop 23 = dktX4_readOrder_1 := dk_seg dksX4_readOrder_0 23 rfl rfl
theorem dksX4_readOrder_2 : cX4_readOrder.data.toList.drop 45 = dktX4_readOrder_2 := dk_seg dksX4_readOrder_1 22 rfl rfl
theorem dksX4_readOrder_3 : cX4_readOrder.data.toList.drop 69 = dktX4_readOrder_3 := dk_seg dksX4_readOrder_2 24 rfl rfl
theorem dksX4_readOrder_4 : cX4_readOrder.data.toList.drop 93 = dktX4_readOrder_4 := dk_seg dksX4_readOrder_3 24 rfl rfl
theorem dksX4_readOrder_5 : cX4_readOrder.data.toList.drop 116 = dktX4_readOrder_5 := dk_seg dksX4_readOrder_4 23 rfl rfl
theorem dksX4_readOrder_6 : cX4_readOrder.data.toList.drop 140 = dktX4_readOrder_6 := dk_seg dksX4_readOrder_5 24 rfl rfl
theorem dksX4_readOrder_7 : cX4_readOrder.data.toList.drop 164 = dktX4_readOrder_7 := dk_seg dksX4_readOrder_6 24 rfl rfl
theorem dX4_readOrder_0 : decode cX4_readOrder 0 = .ok (.aload_n 0, 1) := dk_42 (dk_at dksX4_readOrder_0 0 rfl rfl)
theorem dX4_readOrder_1 : decode cX4_readOrder 1 = .ok (.invokevirtual 232, 3) := dk_182 0 232 (dk_at dksX4_readOrder_0 1 rfl rfl)
theorem dX4_readOrder_4 : decode cX4_readOrder 4 = .ok (.aload_n 0, 1) := dk_42 (dk_at dksX4_readOrder_0 4 rfl rfl)
theorem dX4_readOrder_5 : decode cX4_readOrder 5 = .ok (.aload_n 0, 1) := dk_42 (dk_at dksX4_readOrder_0 5 rfl rfl)
theorem dX4_readOrder_6 : decode cX4_readOrder 6 = .ok (.getfield 225, 3) := dk_180 0 225 (dk_at dksX4_readOrder_0 6 rfl rfl)
theorem dX4_readOrder_9 : decode cX4_readOrder 9 = .ok (.iconst (-1), 1) := dk_2 (dk_at dksX4_readOrder_0 9 rfl rfl)
theorem dX4_readOrder_10 : decode cX4_readOrder 10 = .ok (.if_icmp .eq 10, 3) := dk_159 0 10 (dk_at dksX4_readOrder_0 10 rfl rfl)
theorem dX4_readOrder_13 : decode cX4_readOrder 13 = .ok (.aload_n 0, 1) := dk_42 (dk_at dksX4_readOrder_0 13 rfl rfl)
theorem dX4_readOrder_14 : decode cX4_readOrder 14 = .ok (.getfield 225, 3) := dk_180 0 225 (dk_at dksX4_readOrder_0 14 rfl rfl)
theorem dX4_readOrder_17 : decode cX4_readOrder 17 = .ok (.ifCond .ne 14, 3) := dk_154 0 14 (dk_at dksX4_readOrder_0 17 rfl rfl)
theorem dX4_readOrder_20 : decode cX4_readOrder 20 = .ok (.aload_n 0, 1) := dk_42 (dk_at dksX4_readOrder_0 20 rfl rfl)
theorem dX4_readOrder_21 : decode cX4_readOrder 21 = .ok (.bipush 48, 2) := dk_16 48 (dk_at dksX4_readOrder_0 21 rfl rfl)
theorem dX4_readOrder_23 : decode cX4_readOrder 23 = .ok (.bipush 57, 2) := dk_16 57 (dk_at dksX4_readOrder_1 0 rfl rfl)
theorem dX4_readOrder_25 : decode cX4_readOrder 25 = .ok (.invokevirtual 222, 3) := dk_182 0 222 (dk_at dksX4_readOrder_1 2 rfl rfl)
theorem dX4_readOrder_28 : decode cX4_readOrder 28 = .ok (.goto 4, 3) := dk_167 0 4 (dk_at dksX4_readOrder_1 5 rfl rfl)
theorem dX4_readOrder_31 : decode cX4_readOrder 31 = .ok (.iconst (-1), 1) := dk_2 (dk_at dksX4_readOrder_1 8 rfl rfl)
theorem dX4_readOrder_32 : decode cX4_readOrder 32 = .ok (.putfield 235, 3) := dk_181 0 235 (dk_at dksX4_readOrder_1 9 rfl rfl)
theorem dX4_readOrder_35 : decode cX4_readOrder 35 = .ok (.aload_n 0, 1) := dk_42 (dk_at dksX4_readOrder_1 12 rfl rfl)
theorem dX4_readOrder_36 : decode cX4_readOrder 36 = .ok (.iconst 0, 1) := dk_3 (dk_at dksX4_readOrder_1 13 rfl rfl)
theorem dX4_readOrder_37 : decode cX4_readOrder 37 = .ok (.putfield 238, 3) := dk_181 0 238 (dk_at dksX4_readOrder_1 14 rfl rfl)
theorem dX4_readOrder_40 : decode cX4_readOrder 40 = .ok (.aload_n 0, 1) := dk_42 (dk_at dksX4_readOrder_1 17 rfl rfl)
theorem dX4_readOrder_41 : decode cX4_readOrder 41 = .ok (.getfield 225, 3) := dk_180 0 225 (dk_at dksX4_readOrder_1 18 rfl rfl)
theorem dX4_readOrder_44 : decode cX4_readOrder 44 = .ok (.iconst (-1), 1) := dk_2 (dk_at dksX4_readOrder_1 21 rfl rfl)
theorem dX4_readOrder_45 : decode cX4_readOrder 45 = .ok (.if_icmp .eq 129, 3) := dk_159 0 129 (dk_at dksX4_readOrder_2 0 rfl rfl)
theorem dX4_readOrder_48 : decode cX4_readOrder 48 = .ok (.aload_n 0, 1) := dk_42 (dk_at dksX4_readOrder_2 3 rfl rfl)
theorem dX4_readOrder_49 : decode cX4_readOrder 49 = .ok (.bipush 64, 2) := dk_16 64 (dk_at dksX4_readOrder_2 4 rfl rfl)
theorem dX4_readOrder_51 : decode cX4_readOrder 51 = .ok (.bipush 64, 2) := dk_16 64 (dk_at dksX4_readOrder_2 6 rfl rfl)
theorem dX4_readOrder_53 : decode cX4_readOrder 53 = .ok (.invokevirtual 222, 3) := dk_182 0 222 (dk_at dksX4_readOrder_2 8 rfl rfl)
theorem dX4_readOrder_56 : decode cX4_readOrder 56 = .ok (.istore_n 1, 1) := dk_60 (dk_at dksX4_readOrder_2 11 rfl rfl)
theorem dX4_readOrder_57 : decode cX4_readOrder 57 = .ok (.aload_n 0, 1) := dk_42 (dk_at dksX4_readOrder_2 12 rfl rfl)
theorem dX4_readOrder_58 : decode cX4_readOrder 58 = .ok (.aload_n 0, 1) := dk_42 (dk_at dksX4_readOrder_2 13 rfl rfl)
theorem dX4_readOrder_59 : decode cX4_readOrder 59 = .ok (.bipush 48, 2) := dk_16 48 (dk_at dksX4_readOrder_2 14 rfl rfl)
theorem dX4_readOrder_61 : decode cX4_readOrder 61 = .ok (.bipush 57, 2) := dk_16 57 (dk_at dksX4_readOrder_2 16 rfl rfl)
theorem dX4_readOrder_63 : decode cX4_readOrder 63 = .ok (.invokevirtual 222, 3) := dk_182 0 222 (dk_at dksX4_readOrder_2 18 rfl rfl)
theorem dX4_readOrder_66 : decode cX4_readOrder 66 = .ok (.putfield 238, 3) := dk_181 0 238 (dk_at dksX4_readOrder_2 21 rfl rfl)
theorem dX4_readOrder_69 : decode cX4_readOrder 69 = .ok (.aload_n 0, 1) := dk_42 (dk_at dksX4_readOrder_3 0 rfl rfl)
theorem dX4_readOrder_70 : decode cX4_readOrder 70 = .ok (.aload_n 0, 1) := dk_42 (dk_at dksX4_readOrder_3 1 rfl rfl)
theorem dX4_readOrder_71 : decode cX4_readOrder 71 = .ok (.bipush 48, 2) := dk_16 48 (dk_at dksX4_readOrder_3 2 rfl rfl)
theorem dX4_readOrder_73 : decode cX4_readOrder 73 = .ok (.bipush 57, 2) := dk_16 57 (dk_at dksX4_readOrder_3 4 rfl rfl)
theorem dX4_readOrder_75 : decode cX4_readOrder 75 = .ok (.invokevirtual 219, 3) := dk_182 0 219 (dk_at dksX4_readOrder_3 6 rfl rfl)
theorem dX4_readOrder_78 : decode cX4_readOrder 78 = .ok (.ifCond .eq 22, 3) := dk_153 0 22 (dk_at dksX4_readOrder_3 9 rfl rfl)
theorem dX4_readOrder_81 : decode cX4_readOrder 81 = .ok (.bipush 10, 2) := dk_16 10 (dk_at dksX4_readOrder_3 12 rfl rfl)
theorem dX4_readOrder_83 : decode cX4_readOrder 83 = .ok (.aload_n 0, 1) := dk_42 (dk_at dksX4_readOrder_3 14 rfl rfl)
theorem dX4_readOrder_84 : decode cX4_readOrder 84 = .ok (.getfield 238, 3) := dk_180 0 238 (dk_at dksX4_readOrder_3 15 rfl rfl)
theorem dX4_readOrder_87 : decode cX4_readOrder 87 = .ok (.imul, 1) := dk_104 (dk_at dksX4_readOrder_3 18 rfl rfl)
theorem dX4_readOrder_88 : decode cX4_readOrder 88 = .ok (.aload_n 0, 1) := dk_42 (dk_at dksX4_readOrder_3 19 rfl rfl)
theorem dX4_readOrder_89 : decode cX4_readOrder 89 = .ok (.bipush 48, 2) := dk_16 48 (dk_at dksX4_readOrder_3 20 rfl rfl)
theorem dX4_readOrder_91 : decode cX4_readOrder 91 = .ok (.bipush 57, 2) := dk_16 57 (dk_at dksX4_readOrder_3 22 rfl rfl)
theorem dX4_readOrder_93 : decode cX4_readOrder 93 = .ok (.invokevirtual 222, 3) := dk_182 0 222 (dk_at dksX4_readOrder_4 0 rfl rfl)
theorem dX4_readOrder_96 : decode cX4_readOrder 96 = .ok (.iadd, 1) := dk_96 (dk_at dksX4_readOrder_4 3 rfl rfl)
theorem dX4_readOrder_97 : decode cX4_readOrder 97 = .ok (.goto 7, 3) := dk_167 0 7 (dk_at dksX4_readOrder_4 4 rfl rfl)
theorem dX4_readOrder_100 : decode cX4_readOrder 100 = .ok (.aload_n 0, 1) := dk_42 (dk_at dksX4_readOrder_4 7 rfl rfl)
theorem dX4_readOrder_101 : decode cX4_readOrder 101 = .ok (.getfield 238, 3) := dk_180 0 238 (dk_at dksX4_readOrder_4 8 rfl rfl)
theorem dX4_readOrder_104 : decode cX4_readOrder 104 = .ok (.putfield 238, 3) := dk_181 0 238 (dk_at dksX4_readOrder_4 11 rfl rfl)
theorem dX4_readOrder_107 : decode cX4_readOrder 107 = .ok (.aload_n 0, 1) := dk_42 (dk_at dksX4_readOrder_4 14 rfl rfl)
theorem dX4_readOrder_108 : decode cX4_readOrder 108 = .ok (.aload_n 0, 1) := dk_42 (dk_at dksX4_readOrder_4 15 rfl rfl)
theorem dX4_readOrder_109 : decode cX4_readOrder 109 = .ok (.bipush 48, 2) := dk_16 48 (dk_at dksX4_readOrder_4 16 rfl rfl)
theorem dX4_readOrder_111 : decode cX4_readOrder 111 = .ok (.bipush 57, 2) := dk_16 57 (dk_at dksX4_readOrder_4 18 rfl rfl)
theorem dX4_readOrder_113 : decode cX4_readOrder 113 = .ok (.invokevirtual 219, 3) := dk_182 0 219 (dk_at dksX4_readOrder_4 20 rfl rfl)
theorem dX4_readOrder_116 : decode cX4_readOrder 116 = .ok (.ifCond .eq 51, 3) := dk_153 0 51 (dk_at dksX4_readOrder_5 0 rfl rfl)
theorem dX4_readOrder_119 : decode cX4_readOrder 119 = .ok (.aload_n 0, 1) := dk_42 (dk_at dksX4_readOrder_5 3 rfl rfl)
theorem dX4_readOrder_120 : decode cX4_readOrder 120 = .ok (.getfield 216, 3) := dk_180 0 216 (dk_at dksX4_readOrder_5 4 rfl rfl)
theorem dX4_readOrder_123 : decode cX4_readOrder 123 = .ok (.iconst 1, 1) := dk_4 (dk_at dksX4_readOrder_5 7 rfl rfl)
theorem dX4_readOrder_124 : decode cX4_readOrder 124 = .ok (.if_icmp .le 43, 3) := dk_164 0 43 (dk_at dksX4_readOrder_5 8 rfl rfl)
theorem dX4_readOrder_127 : decode cX4_readOrder 127 = .ok (.aload_n 0, 1) := dk_42 (dk_at dksX4_readOrder_5 11 rfl rfl)
theorem dX4_readOrder_128 : decode cX4_readOrder 128 = .ok (.getfield 50, 3) := dk_180 0 50 (dk_at dksX4_readOrder_5 12 rfl rfl)
theorem dX4_readOrder_131 : decode cX4_readOrder 131 = .ok (.aload_n 0, 1) := dk_42 (dk_at dksX4_readOrder_5 15 rfl rfl)
theorem dX4_readOrder_132 : decode cX4_readOrder 132 = .ok (.getfield 216, 3) := dk_180 0 216 (dk_at dksX4_readOrder_5 16 rfl rfl)
theorem dX4_readOrder_135 : decode cX4_readOrder 135 = .ok (.iconst 2, 1) := dk_5 (dk_at dksX4_readOrder_5 19 rfl rfl)
theorem dX4_readOrder_136 : decode cX4_readOrder 136 = .ok (.isub, 1) := dk_100 (dk_at dksX4_readOrder_5 20 rfl rfl)
theorem dX4_readOrder_137 : decode cX4_readOrder 137 = .ok (.iaload, 1) := dk_46 (dk_at dksX4_readOrder_5 21 rfl rfl)
theorem dX4_readOrder_138 : decode cX4_readOrder 138 = .ok (.bipush 48, 2) := dk_16 48 (dk_at dksX4_readOrder_5 22 rfl rfl)
theorem dX4_readOrder_140 : decode cX4_readOrder 140 = .ok (.bipush 57, 2) := dk_16 57 (dk_at dksX4_readOrder_6 0 rfl rfl)
theorem dX4_readOrder_142 : decode cX4_readOrder 142 = .ok (.invokestatic 81, 3) := dk_184 0 81 (dk_at dksX4_readOrder_6 2 rfl rfl)
theorem dX4_readOrder_145 : decode cX4_readOrder 145 = .ok (.ifCond .eq 22, 3) := dk_153 0 22 (dk_at dksX4_readOrder_6 5 rfl rfl)
theorem dX4_readOrder_148 : decode cX4_readOrder 148 = .ok (.bipush 10, 2) := dk_16 10 (dk_at dksX4_readOrder_6 8 rfl rfl)
theorem dX4_readOrder_150 : decode cX4_readOrder 150 = .ok (.aload_n 0, 1) := dk_42 (dk_at dksX4_readOrder_6 10 rfl rfl)
theorem dX4_readOrder_151 : decode cX4_readOrder 151 = .ok (.getfield 238, 3) := dk_180 0 238 (dk_at dksX4_readOrder_6 11 rfl rfl)
theorem dX4_readOrder_154 : decode cX4_readOrder 154 = .ok (.imul, 1) := dk_104 (dk_at dksX4_readOrder_6 14 rfl rfl)
theorem dX4_readOrder_155 : decode cX4_readOrder 155 = .ok (.aload_n 0, 1) := dk_42 (dk_at dksX4_readOrder_6 15 rfl rfl)
theorem dX4_readOrder_156 : decode cX4_readOrder 156 = .ok (.bipush 48, 2) := dk_16 48 (dk_at dksX4_readOrder_6 16 rfl rfl)
theorem dX4_readOrder_158 : decode cX4_readOrder 158 = .ok (.bipush 57, 2) := dk_16 57 (dk_at dksX4_readOrder_6 18 rfl rfl)
theorem dX4_readOrder_160 : decode cX4_readOrder 160 = .ok (.invokevirtual 222, 3) := dk_182 0 222 (dk_at dksX4_readOrder_6 20 rfl rfl)
theorem dX4_readOrder_163 : decode cX4_readOrder 163 = .ok (.iadd, 1) := dk_96 (dk_at dksX4_readOrder_6 23 rfl rfl)
theorem dX4_readOrder_164 : decode cX4_readOrder 164 = .ok (.goto 7, 3) := dk_167 0 7 (dk_at dksX4_readOrder_7 0 rfl rfl)
theorem dX4_readOrder_167 : decode cX4_readOrder 167 = .ok (.aload_n 0, 1) := dk_42 (dk_at dksX4_readOrder_7 3 rfl rfl)
theorem dX4_readOrder_168 : decode cX4_readOrder 168 = .ok (.getfield 238, 3) := dk_180 0 238 (dk_at dksX4_readOrder_7 4 rfl rfl)
theorem dX4_readOrder_171 : decode cX4_readOrder 171 = .ok (.putfield 238, 3) := dk_181 0 238 (dk_at dksX4_readOrder_7 7 rfl rfl)
theorem dX4_readOrder_174 : decode cX4_readOrder 174 = .ok (.aload_n 0, 1) := dk_42 (dk_at dksX4_readOrder_7 10 rfl rfl)
theorem dX4_readOrder_175 : decode cX4_readOrder 175 = .ok (.bipush 59, 2) := dk_16 59 (dk_at dksX4_readOrder_7 11 rfl rfl)
theorem dX4_readOrder_177 : decode cX4_readOrder 177 = .ok (.bipush 59, 2) := dk_16 59 (dk_at dksX4_readOrder_7 13 rfl rfl)
theorem dX4_readOrder_179 : decode cX4_readOrder 179 = .ok (.invokevirtual 222, 3) := dk_182 0 222 (dk_at dksX4_readOrder_7 15 rfl rfl)
theorem dX4_readOrder_182 : decode cX4_readOrder 182 = .ok (.istore_n 1, 1) := dk_60 (dk_at dksX4_readOrder_7 18 rfl rfl)
theorem dX4_readOrder_183 : decode cX4_readOrder 183 = .ok (.return_, 1) := dk_177 (dk_at dksX4_readOrder_7 19 rfl rfl)
abbrev cX4_readWord : ByteArray := prog_14_method_52_code
def yX4_readWord : MethodName := ⟨RX4, "readWord", "()V"⟩
def dkwX4_readWord_13 : List UInt8 := [3, 182, 0, 228, 167, 0, 18, 42, 4, 181, 0, 213, 42, 89, 180, 0, 216, 4, 100, 181, 0, 216, 177]
abbrev dktX4_readWord_13 : List UInt8 := dkwX4_readWord_13 ++ []
def dkwX4_readWord_12 : List UInt8 := [160, 0, 8, 16, 108, 167, 0, 5, 16, 107, 42, 180, 0, 225, 5, 160, 0, 8, 16, 107, 167, 0, 4, 3]
abbrev dktX4_readWord_12 : List UInt8 := dkwX4_readWord_12 ++ dktX4_readWord_13
def dkwX4_readWord_11 : List UInt8 := [181, 0, 225, 42, 42, 180, 0, 225, 5, 160, 0, 8, 16, 117, 167, 0, 5, 16, 99, 42, 180, 0, 225, 5]
abbrev dktX4_readWord_11 : List UInt8 := dkwX4_readWord_11 ++ dktX4_readWord_12
def dkwX4_readWord_10 : List UInt8 := [16, 97, 182, 0, 222, 62, 42, 42, 16, 117, 16, 117, 182, 0, 219, 153, 0, 7, 5, 167, 0, 4, 6]
abbrev dktX4_readWord_10 : List UInt8 := dkwX4_readWord_10 ++ dktX4_readWord_11
def dkwX4_readWord_9 : List UInt8 := [16, 111, 16, 110, 16, 117, 16, 115, 182, 0, 228, 167, 0, 105, 27, 16, 98, 160, 0, 84, 42, 16, 97]
abbrev dktX4_readWord_9 : List UInt8 := dkwX4_readWord_9 ++ dktX4_readWord_10
def dkwX4_readWord_8 : List UInt8 := [182, 0, 228, 167, 0, 137, 27, 16, 98, 160, 0, 29, 28, 16, 111, 160, 0, 23, 42, 4, 181, 0, 225, 42]
abbrev dktX4_readWord_8 : List UInt8 := dkwX4_readWord_8 ++ dktX4_readWord_9
def dkwX4_readWord_7 : List UInt8 := [167, 0, 163, 27, 16, 116, 160, 0, 23, 42, 3, 181, 0, 225, 42, 16, 111, 16, 117, 16, 99, 16, 104]
abbrev dktX4_readWord_7 : List UInt8 := dkwX4_readWord_7 ++ dktX4_readWord_8
def dkwX4_readWord_6 : List UInt8 := [28, 16, 105, 160, 0, 23, 42, 16, 6, 181, 0, 225, 42, 16, 105, 16, 109, 16, 101, 3, 182, 0, 228]
abbrev dktX4_readWord_6 : List UInt8 := dkwX4_readWord_6 ++ dktX4_readWord_7
def dkwX4_readWord_5 : List UInt8 := [8, 181, 0, 225, 42, 16, 105, 16, 110, 16, 101, 3, 182, 0, 228, 167, 0, 195, 27, 16, 116, 160, 0, 29]
abbrev dktX4_readWord_5 : List UInt8 := dkwX4_readWord_5 ++ dktX4_readWord_6
def dkwX4_readWord_4 : List UInt8 := [181, 0, 225, 42, 16, 97, 16, 108, 16, 108, 3, 182, 0, 228, 167, 0, 220, 27, 16, 108, 160, 0, 22, 42]
abbrev dktX4_readWord_4 : List UInt8 := dkwX4_readWord_4 ++ dktX4_readWord_5
def dkwX4_readWord_3 : List UInt8 := [42, 16, 97, 16, 105, 16, 100, 3, 182, 0, 228, 167, 0, 245, 27, 16, 102, 160, 0, 22, 42, 7]
abbrev dktX4_readWord_3 : List UInt8 := dkwX4_readWord_3 ++ dktX4_readWord_4
def dkwX4_readWord_2 : List UInt8 := [180, 0, 50, 42, 180, 0, 216, 46, 167, 0, 4, 3, 61, 42, 2, 181, 0, 225, 27, 16, 114, 160, 0, 17]
abbrev dktX4_readWord_2 : List UInt8 := dkwX4_readWord_2 ++ dktX4_readWord_3
def dkwX4_readWord_1 : List UInt8 := [60, 42, 89, 180, 0, 216, 4, 96, 181, 0, 216, 42, 180, 0, 216, 42, 180, 0, 210, 162, 0, 15, 42]
abbrev dktX4_readWord_1 : List UInt8 := dkwX4_readWord_1 ++ dktX4_readWord_2
def dkwX4_readWord_0 : List UInt8 := [42, 180, 0, 216, 42, 180, 0, 210, 162, 0, 15, 42, 180, 0, 50, 42, 180, 0, 216, 46, 167, 0, 4, 3]
abbrev dktX4_readWord_0 : List UInt8 := dkwX4_readWord_0 ++ dktX4_readWord_1
theorem dksX4_readWord_0 : cX4_readWord.data.toList.drop 0 = dktX4_readWord_0 := by decide +kernel
theorem dksX4_readWord_1 : cX4_readWord.data.toList.drop 24 = dktX4_readWord_1 := dk_seg dksX4_readWord_0 24 rfl rfl
theorem dksX4_readWord_2 : cX4_readWord.data.toList.drop 47 = dktX4_readWord_2 := dk_seg dksX4_readWord_1 23 rfl rfl
theorem dksX4_readWord_3 : cX4_readWord.data.toList.drop 71 = dktX4_readWord_3 := dk_seg dksX4_readWord_2 24 rfl rfl
theorem dksX4_readWord_4 : cX4_readWord.data.toList.drop 93 = dktX4_readWord_4 := dk_seg dksX4_readWord_3 22 rfl rfl
theorem dksX4_readWord_5 : cX4_readWord.data.toList.drop 117 = dktX4_readWord_5 := dk_seg dksX4_readWord_4 24 rfl rfl
theorem dksX4_readWord_6 : cX4_readWord.data.toList.drop 141 = dktX4_readWord_6 := dk_seg dksX4_readWord_5 24 rfl rfl
theorem dksX4_readWord_7 : cX4_readWord.data.toList.drop 164 = dktX4_readWord_7 := dk_seg dksX4_readWord_6 23 rfl rfl
theorem dksX4_readWord_8 : cX4_readWord.data.toList.drop 187 = dktX4_readWord_8 := dk_seg dksX4_readWord_7 23 rfl rfl
theorem dksX4_readWord_9 : cX4_readWord.data.toList.drop 211 = dktX4_readWord_9 := dk_seg dksX4_readWord_8 24 rfl rfl
theorem dksX4_readWord_10 : cX4_readWord.data.toList.drop 234 = dktX4_readWord_10 := dk_seg dksX4_readWord_9 23 rfl rfl
theorem dksX4_readWord_11 : cX4_readWord.data.toList.drop 257 = dktX4_readWord_11 := dk_seg dksX4_readWord_10 23 rfl rfl
theorem dksX4_readWord_12 : cX4_readWord.data.toList.drop 281 = dktX4_readWord_12 := dk_seg dksX4_readWord_11 24 rfl rfl
theorem dksX4_readWord_13 : cX4_readWord.data.toList.drop 305 = dktX4_readWord_13 := dk_seg dksX4_readWord_12 24 rfl rfl
theorem dX4_readWord_0 : decode cX4_readWord 0 = .ok (.aload_n 0, 1) := dk_42 (dk_at dksX4_readWord_0 0 rfl rfl)
theorem dX4_readWord_1 : decode cX4_readWord 1 = .ok (.getfield 216, 3) := dk_180 0 216 (dk_at dksX4_readWord_0 1 rfl rfl)
theorem dX4_readWord_4 : decode cX4_readWord 4 = .ok (.aload_n 0, 1) := dk_42 (dk_at dksX4_readWord_0 4 rfl rfl)
theorem dX4_readWord_5 : decode cX4_readWord 5 = .ok (.getfield 210, 3) := dk_180 0 210 (dk_at dksX4_readWord_0 5 rfl rfl)
theorem dX4_readWord_8 : decode cX4_readWord 8 = .ok (.if_icmp .ge 15, 3) := dk_162 0 15 (dk_at dksX4_readWord_0 8 rfl rfl)
theorem dX4_readWord_11 : decode cX4_readWord 11 = .ok (.aload_n 0, 1) := dk_42 (dk_at dksX4_readWord_0 11 rfl rfl)
theorem dX4_readWord_12 : decode cX4_readWord 12 = .ok (.getfield 50, 3) := dk_180 0 50 (dk_at dksX4_readWord_0 12 rfl rfl)
theorem dX4_readWord_15 : decode cX4_readWord 15 = .ok (.aload_n 0, 1) := dk_42 (dk_at dksX4_readWord_0 15 rfl rfl)
theorem dX4_readWord_16 : decode cX4_readWord 16 = .ok (.getfield 216, 3) := dk_180 0 216 (dk_at dksX4_readWord_0 16 rfl rfl)
theorem dX4_readWord_19 : decode cX4_readWord 19 = .ok (.iaload, 1) := dk_46 (dk_at dksX4_readWord_0 19 rfl rfl)
theorem dX4_readWord_20 : decode cX4_readWord 20 = .ok (.goto 4, 3) := dk_167 0 4 (dk_at dksX4_readWord_0 20 rfl rfl)
theorem dX4_readWord_23 : decode cX4_readWord 23 = .ok (.iconst 0, 1) := dk_3 (dk_at dksX4_readWord_0 23 rfl rfl)
theorem dX4_readWord_24 : decode cX4_readWord 24 = .ok (.istore_n 1, 1) := dk_60 (dk_at dksX4_readWord_1 0 rfl rfl)
theorem dX4_readWord_25 : decode cX4_readWord 25 = .ok (.aload_n 0, 1) := dk_42 (dk_at dksX4_readWord_1 1 rfl rfl)
theorem dX4_readWord_26 : decode cX4_readWord 26 = .ok (.dup, 1) := dk_89 (dk_at dksX4_readWord_1 2 rfl rfl)
theorem dX4_readWord_27 : decode cX4_readWord 27 = .ok (.getfield 216, 3) := dk_180 0 216 (dk_at dksX4_readWord_1 3 rfl rfl)
theorem dX4_readWord_30 : decode cX4_readWord 30 = .ok (.iconst 1, 1) := dk_4 (dk_at dksX4_readWord_1 6 rfl rfl)
theorem dX4_readWord_31 : decode cX4_readWord 31 = .ok (.iadd, 1) := dk_96 (dk_at dksX4_readWord_1 7 rfl rfl)
theorem dX4_readWord_32 : decode cX4_readWord 32 = .ok (.putfield 216, 3) := dk_181 0 216 (dk_at dksX4_readWord_1 8 rfl rfl)
theorem dX4_readWord_35 : decode cX4_readWord 35 = .ok (.aload_n 0, 1) := dk_42 (dk_at dksX4_readWord_1 11 rfl rfl)
theorem dX4_readWord_36 : decode cX4_readWord 36 = .ok (.getfield 216, 3) := dk_180 0 216 (dk_at dksX4_readWord_1 12 rfl rfl)
theorem dX4_readWord_39 : decode cX4_readWord 39 = .ok (.aload_n 0, 1) := dk_42 (dk_at dksX4_readWord_1 15 rfl rfl)
theorem dX4_readWord_40 : decode cX4_readWord 40 = .ok (.getfield 210, 3) := dk_180 0 210 (dk_at dksX4_readWord_1 16 rfl rfl)
theorem dX4_readWord_43 : decode cX4_readWord 43 = .ok (.if_icmp .ge 15, 3) := dk_162 0 15 (dk_at dksX4_readWord_1 19 rfl rfl)
theorem dX4_readWord_46 : decode cX4_readWord 46 = .ok (.aload_n 0, 1) := dk_42 (dk_at dksX4_readWord_1 22 rfl rfl)
theorem dX4_readWord_47 : decode cX4_readWord 47 = .ok (.getfield 50, 3) := dk_180 0 50 (dk_at dksX4_readWord_2 0 rfl rfl)
theorem dX4_readWord_50 : decode cX4_readWord 50 = .ok (.aload_n 0, 1) := dk_42 (dk_at dksX4_readWord_2 3 rfl rfl)
theorem dX4_readWord_51 : decode cX4_readWord 51 = .ok (.getfield 216, 3) := dk_180 0 216 (dk_at dksX4_readWord_2 4 rfl rfl)
theorem dX4_readWord_54 : decode cX4_readWord 54 = .ok (.iaload, 1) := dk_46 (dk_at dksX4_readWord_2 7 rfl rfl)
theorem dX4_readWord_55 : decode cX4_readWord 55 = .ok (.goto 4, 3) := dk_167 0 4 (dk_at dksX4_readWord_2 8 rfl rfl)
theorem dX4_readWord_58 : decode cX4_readWord 58 = .ok (.iconst 0, 1) := dk_3 (dk_at dksX4_readWord_2 11 rfl rfl)
theorem dX4_readWord_59 : decode cX4_readWord 59 = .ok (.istore_n 2, 1) := dk_61 (dk_at dksX4_readWord_2 12 rfl rfl)
theorem dX4_readWord_60 : decode cX4_readWord 60 = .ok (.aload_n 0, 1) := dk_42 (dk_at dksX4_readWord_2 13 rfl rfl)
theorem dX4_readWord_61 : decode cX4_readWord 61 = .ok (.iconst (-1), 1) := dk_2 (dk_at dksX4_readWord_2 14 rfl rfl)
theorem dX4_readWord_62 : decode cX4_readWord 62 = .ok (.putfield 225, 3) := dk_181 0 225 (dk_at dksX4_readWord_2 15 rfl rfl)
theorem dX4_readWord_65 : decode cX4_readWord 65 = .ok (.iload_n 1, 1) := dk_27 (dk_at dksX4_readWord_2 18 rfl rfl)
theorem dX4_readWord_66 : decode cX4_readWord 66 = .ok (.bipush 114, 2) := dk_16 114 (dk_at dksX4_readWord_2 19 rfl rfl)
theorem dX4_readWord_68 : decode cX4_readWord 68 = .ok (.if_icmp .ne 17, 3) := dk_160 0 17 (dk_at dksX4_readWord_2 21 rfl rfl)
theorem dX4_readWord_71 : decode cX4_readWord 71 = .ok (.aload_n 0, 1) := dk_42 (dk_at dksX4_readWord_3 0 rfl rfl)
theorem dX4_readWord_72 : decode cX4_readWord 72 = .ok (.bipush 97, 2) := dk_16 97 (dk_at dksX4_readWord_3 1 rfl rfl)
theorem dX4_readWord_74 : decode cX4_readWord 74 = .ok (.bipush 105, 2) := dk_16 105 (dk_at dksX4_readWord_3 3 rfl rfl)
theorem dX4_readWord_76 : decode cX4_readWord 76 = .ok (.bipush 100, 2) := dk_16 100 (dk_at dksX4_readWord_3 5 rfl rfl)
theorem dX4_readWord_78 : decode cX4_readWord 78 = .ok (.iconst 0, 1) := dk_3 (dk_at dksX4_readWord_3 7 rfl rfl)
theorem dX4_readWord_79 : decode cX4_readWord 79 = .ok (.invokevirtual 228, 3) := dk_182 0 228 (dk_at dksX4_readWord_3 8 rfl rfl)
theorem dX4_readWord_82 : decode cX4_readWord 82 = .ok (.goto 245, 3) := dk_167 0 245 (dk_at dksX4_readWord_3 11 rfl rfl)
theorem dX4_readWord_85 : decode cX4_readWord 85 = .ok (.iload_n 1, 1) := dk_27 (dk_at dksX4_readWord_3 14 rfl rfl)
theorem dX4_readWord_86 : decode cX4_readWord 86 = .ok (.bipush 102, 2) := dk_16 102 (dk_at dksX4_readWord_3 15 rfl rfl)
theorem dX4_readWord_88 : decode cX4_readWord 88 = .ok (.if_icmp .ne 22, 3) := dk_160 0 22 (dk_at dksX4_readWord_3 17 rfl rfl)
theorem dX4_readWord_91 : decode cX4_readWord 91 = .ok (.aload_n 0, 1) := dk_42 (dk_at dksX4_readWord_3 20 rfl rfl)
theorem dX4_readWord_92 : decode cX4_readWord 92 = .ok (.iconst 4, 1) := dk_7 (dk_at dksX4_readWord_3 21 rfl rfl)
theorem dX4_readWord_93 : decode cX4_readWord 93 = .ok (.putfield 225, 3) := dk_181 0 225 (dk_at dksX4_readWord_4 0 rfl rfl)
theorem dX4_readWord_96 : decode cX4_readWord 96 = .ok (.aload_n 0, 1) := dk_42 (dk_at dksX4_readWord_4 3 rfl rfl)
theorem dX4_readWord_97 : decode cX4_readWord 97 = .ok (.bipush 97, 2) := dk_16 97 (dk_at dksX4_readWord_4 4 rfl rfl)
theorem dX4_readWord_99 : decode cX4_readWord 99 = .ok (.bipush 108, 2) := dk_16 108 (dk_at dksX4_readWord_4 6 rfl rfl)
theorem dX4_readWord_101 : decode cX4_readWord 101 = .ok (.bipush 108, 2) := dk_16 108 (dk_at dksX4_readWord_4 8 rfl rfl)
theorem dX4_readWord_103 : decode cX4_readWord 103 = .ok (.iconst 0, 1) := dk_3 (dk_at dksX4_readWord_4 10 rfl rfl)
theorem dX4_readWord_104 : decode cX4_readWord 104 = .ok (.invokevirtual 228, 3) := dk_182 0 228 (dk_at dksX4_readWord_4 11 rfl rfl)
theorem dX4_readWord_107 : decode cX4_readWord 107 = .ok (.goto 220, 3) := dk_167 0 220 (dk_at dksX4_readWord_4 14 rfl rfl)
theorem dX4_readWord_110 : decode cX4_readWord 110 = .ok (.iload_n 1, 1) := dk_27 (dk_at dksX4_readWord_4 17 rfl rfl)
theorem dX4_readWord_111 : decode cX4_readWord 111 = .ok (.bipush 108, 2) := dk_16 108 (dk_at dksX4_readWord_4 18 rfl rfl)
theorem dX4_readWord_113 : decode cX4_readWord 113 = .ok (.if_icmp .ne 22, 3) := dk_160 0 22 (dk_at dksX4_readWord_4 20 rfl rfl)
theorem dX4_readWord_116 : decode cX4_readWord 116 = .ok (.aload_n 0, 1) := dk_42 (dk_at dksX4_readWord_4 23 rfl rfl)
theorem dX4_readWord_117 : decode cX4_readWord 117 = .ok (.iconst 5, 1) := dk_8 (dk_at dksX4_readWord_5 0 rfl rfl)
theorem dX4_readWord_118 : decode cX4_readWord 118 = .ok (.putfield 225, 3) := dk_181 0 225 (dk_at dksX4_readWord_5 1 rfl rfl)
theorem dX4_readWord_121 : decode cX4_readWord 121 = .ok (.aload_n 0, 1) := dk_42 (dk_at dksX4_readWord_5 4 rfl rfl)
theorem dX4_readWord_122 : decode cX4_readWord 122 = .ok (.bipush 105, 2) := dk_16 105 (dk_at dksX4_readWord_5 5 rfl rfl)
theorem dX4_readWord_124 : decode cX4_readWord 124 = .ok (.bipush 110, 2) := dk_16 110 (dk_at dksX4_readWord_5 7 rfl rfl)
theorem dX4_readWord_126 : decode cX4_readWord 126 = .ok (.bipush 101, 2) := dk_16 101 (dk_at dksX4_readWord_5 9 rfl rfl)
theorem dX4_readWord_128 : decode cX4_readWord 128 = .ok (.iconst 0, 1) := dk_3 (dk_at dksX4_readWord_5 11 rfl rfl)
theorem dX4_readWord_129 : decode cX4_readWord 129 = .ok (.invokevirtual 228, 3) := dk_182 0 228 (dk_at dksX4_readWord_5 12 rfl rfl)
theorem dX4_readWord_132 : decode cX4_readWord 132 = .ok (.goto 195, 3) := dk_167 0 195 (dk_at dksX4_readWord_5 15 rfl rfl)
theorem dX4_readWord_135 : decode cX4_readWord 135 = .ok (.iload_n 1, 1) := dk_27 (dk_at dksX4_readWord_5 18 rfl rfl)
theorem dX4_readWord_136 : decode cX4_readWord 136 = .ok (.bipush 116, 2) := dk_16 116 (dk_at dksX4_readWord_5 19 rfl rfl)
theorem dX4_readWord_138 : decode cX4_readWord 138 = .ok (.if_icmp .ne 29, 3) := dk_160 0 29 (dk_at dksX4_readWord_5 21 rfl rfl)
theorem dX4_readWord_141 : decode cX4_readWord 141 = .ok (.iload_n 2, 1) := dk_28 (dk_at dksX4_readWord_6 0 rfl rfl)
theorem dX4_readWord_142 : decode cX4_readWord 142 = .ok (.bipush 105, 2) := dk_16 105 (dk_at dksX4_readWord_6 1 rfl rfl)
theorem dX4_readWord_144 : decode cX4_readWord 144 = .ok (.if_icmp .ne 23, 3) := dk_160 0 23 (dk_at dksX4_readWord_6 3 rfl rfl)
theorem dX4_readWord_147 : decode cX4_readWord 147 = .ok (.aload_n 0, 1) := dk_42 (dk_at dksX4_readWord_6 6 rfl rfl)
theorem dX4_readWord_148 : decode cX4_readWord 148 = .ok (.bipush 6, 2) := dk_16 6 (dk_at dksX4_readWord_6 7 rfl rfl)
theorem dX4_readWord_150 : decode cX4_readWord 150 = .ok (.putfield 225, 3) := dk_181 0 225 (dk_at dksX4_readWord_6 9 rfl rfl)
theorem dX4_readWord_153 : decode cX4_readWord 153 = .ok (.aload_n 0, 1) := dk_42 (dk_at dksX4_readWord_6 12 rfl rfl)
theorem dX4_readWord_154 : decode cX4_readWord 154 = .ok (.bipush 105, 2) := dk_16 105 (dk_at dksX4_readWord_6 13 rfl rfl)
theorem dX4_readWord_156 : decode cX4_readWord 156 = .ok (.bipush 109, 2) := dk_16 109 (dk_at dksX4_readWord_6 15 rfl rfl)
theorem dX4_readWord_158 : decode cX4_readWord 158 = .ok (.bipush 101, 2) := dk_16 101 (dk_at dksX4_readWord_6 17 rfl rfl)
theorem dX4_readWord_160 : decode cX4_readWord 160 = .ok (.iconst 0, 1) := dk_3 (dk_at dksX4_readWord_6 19 rfl rfl)
theorem dX4_readWord_161 : decode cX4_readWord 161 = .ok (.invokevirtual 228, 3) := dk_182 0 228 (dk_at dksX4_readWord_6 20 rfl rfl)
theorem dX4_readWord_164 : decode cX4_readWord 164 = .ok (.goto 163, 3) := dk_167 0 163 (dk_at dksX4_readWord_7 0 rfl rfl)
theorem dX4_readWord_167 : decode cX4_readWord 167 = .ok (.iload_n 1, 1) := dk_27 (dk_at dksX4_readWord_7 3 rfl rfl)
theorem dX4_readWord_168 : decode cX4_readWord 168 = .ok (.bipush 116, 2) := dk_16 116 (dk_at dksX4_readWord_7 4 rfl rfl)
theorem dX4_readWord_170 : decode cX4_readWord 170 = .ok (.if_icmp .ne 23, 3) := dk_160 0 23 (dk_at dksX4_readWord_7 6 rfl rfl)
theorem dX4_readWord_173 : decode cX4_readWord 173 = .ok (.aload_n 0, 1) := dk_42 (dk_at dksX4_readWord_7 9 rfl rfl)
theorem dX4_readWord_174 : decode cX4_readWord 174 = .ok (.iconst 0, 1) := dk_3 (dk_at dksX4_readWord_7 10 rfl rfl)
theorem dX4_readWord_175 : decode cX4_readWord 175 = .ok (.putfield 225, 3) := dk_181 0 225 (dk_at dksX4_readWord_7 11 rfl rfl)
theorem dX4_readWord_178 : decode cX4_readWord 178 = .ok (.aload_n 0, 1) := dk_42 (dk_at dksX4_readWord_7 14 rfl rfl)
theorem dX4_readWord_179 : decode cX4_readWord 179 = .ok (.bipush 111, 2) := dk_16 111 (dk_at dksX4_readWord_7 15 rfl rfl)
theorem dX4_readWord_181 : decode cX4_readWord 181 = .ok (.bipush 117, 2) := dk_16 117 (dk_at dksX4_readWord_7 17 rfl rfl)
theorem dX4_readWord_183 : decode cX4_readWord 183 = .ok (.bipush 99, 2) := dk_16 99 (dk_at dksX4_readWord_7 19 rfl rfl)
theorem dX4_readWord_185 : decode cX4_readWord 185 = .ok (.bipush 104, 2) := dk_16 104 (dk_at dksX4_readWord_7 21 rfl rfl)
theorem dX4_readWord_187 : decode cX4_readWord 187 = .ok (.invokevirtual 228, 3) := dk_182 0 228 (dk_at dksX4_readWord_8 0 rfl rfl)
theorem dX4_readWord_190 : decode cX4_readWord 190 = .ok (.goto 137, 3) := dk_167 0 137 (dk_at dksX4_readWord_8 3 rfl rfl)
theorem dX4_readWord_193 : decode cX4_readWord 193 = .ok (.iload_n 1, 1) := dk_27 (dk_at dksX4_readWord_8 6 rfl rfl)
theorem dX4_readWord_194 : decode cX4_readWord 194 = .ok (.bipush 98, 2) := dk_16 98 (dk_at dksX4_readWord_8 7 rfl rfl)
theorem dX4_readWord_196 : decode cX4_readWord 196 = .ok (.if_icmp .ne 29, 3) := dk_160 0 29 (dk_at dksX4_readWord_8 9 rfl rfl)
theorem dX4_readWord_199 : decode cX4_readWord 199 = .ok (.iload_n 2, 1) := dk_28 (dk_at dksX4_readWord_8 12 rfl rfl)
theorem dX4_readWord_200 : decode cX4_readWord 200 = .ok (.bipush 111, 2) := dk_16 111 (dk_at dksX4_readWord_8 13 rfl rfl)
theorem dX4_readWord_202 : decode cX4_readWord 202 = .ok (.if_icmp .ne 23, 3) := dk_160 0 23 (dk_at dksX4_readWord_8 15 rfl rfl)
theorem dX4_readWord_205 : decode cX4_readWord 205 = .ok (.aload_n 0, 1) := dk_42 (dk_at dksX4_readWord_8 18 rfl rfl)
theorem dX4_readWord_206 : decode cX4_readWord 206 = .ok (.iconst 1, 1) := dk_4 (dk_at dksX4_readWord_8 19 rfl rfl)
theorem dX4_readWord_207 : decode cX4_readWord 207 = .ok (.putfield 225, 3) := dk_181 0 225 (dk_at dksX4_readWord_8 20 rfl rfl)
theorem dX4_readWord_210 : decode cX4_readWord 210 = .ok (.aload_n 0, 1) := dk_42 (dk_at dksX4_readWord_8 23 rfl rfl)
theorem dX4_readWord_211 : decode cX4_readWord 211 = .ok (.bipush 111, 2) := dk_16 111 (dk_at dksX4_readWord_9 0 rfl rfl)
theorem dX4_readWord_213 : decode cX4_readWord 213 = .ok (.bipush 110, 2) := dk_16 110 (dk_at dksX4_readWord_9 2 rfl rfl)
theorem dX4_readWord_215 : decode cX4_readWord 215 = .ok (.bipush 117, 2) := dk_16 117 (dk_at dksX4_readWord_9 4 rfl rfl)
theorem dX4_readWord_217 : decode cX4_readWord 217 = .ok (.bipush 115, 2) := dk_16 115 (dk_at dksX4_readWord_9 6 rfl rfl)
theorem dX4_readWord_219 : decode cX4_readWord 219 = .ok (.invokevirtual 228, 3) := dk_182 0 228 (dk_at dksX4_readWord_9 8 rfl rfl)
theorem dX4_readWord_222 : decode cX4_readWord 222 = .ok (.goto 105, 3) := dk_167 0 105 (dk_at dksX4_readWord_9 11 rfl rfl)
theorem dX4_readWord_225 : decode cX4_readWord 225 = .ok (.iload_n 1, 1) := dk_27 (dk_at dksX4_readWord_9 14 rfl rfl)
theorem dX4_readWord_226 : decode cX4_readWord 226 = .ok (.bipush 98, 2) := dk_16 98 (dk_at dksX4_readWord_9 15 rfl rfl)
theorem dX4_readWord_228 : decode cX4_readWord 228 = .ok (.if_icmp .ne 84, 3) := dk_160 0 84 (dk_at dksX4_readWord_9 17 rfl rfl)
theorem dX4_readWord_231 : decode cX4_readWord 231 = .ok (.aload_n 0, 1) := dk_42 (dk_at dksX4_readWord_9 20 rfl rfl)
theorem dX4_readWord_232 : decode cX4_readWord 232 = .ok (.bipush 97, 2) := dk_16 97 (dk_at dksX4_readWord_9 21 rfl rfl)
theorem dX4_readWord_234 : decode cX4_readWord 234 = .ok (.bipush 97, 2) := dk_16 97 (dk_at dksX4_readWord_10 0 rfl rfl)
theorem dX4_readWord_236 : decode cX4_readWord 236 = .ok (.invokevirtual 222, 3) := dk_182 0 222 (dk_at dksX4_readWord_10 2 rfl rfl)
theorem dX4_readWord_239 : decode cX4_readWord 239 = .ok (.istore_n 3, 1) := dk_62 (dk_at dksX4_readWord_10 5 rfl rfl)
theorem dX4_readWord_240 : decode cX4_readWord 240 = .ok (.aload_n 0, 1) := dk_42 (dk_at dksX4_readWord_10 6 rfl rfl)
theorem dX4_readWord_241 : decode cX4_readWord 241 = .ok (.aload_n 0, 1) := dk_42 (dk_at dksX4_readWord_10 7 rfl rfl)
theorem dX4_readWord_242 : decode cX4_readWord 242 = .ok (.bipush 117, 2) := dk_16 117 (dk_at dksX4_readWord_10 8 rfl rfl)
theorem dX4_readWord_244 : decode cX4_readWord 244 = .ok (.bipush 117, 2) := dk_16 117 (dk_at dksX4_readWord_10 10 rfl rfl)
theorem dX4_readWord_246 : decode cX4_readWord 246 = .ok (.invokevirtual 219, 3) := dk_182 0 219 (dk_at dksX4_readWord_10 12 rfl rfl)
theorem dX4_readWord_249 : decode cX4_readWord 249 = .ok (.ifCond .eq 7, 3) := dk_153 0 7 (dk_at dksX4_readWord_10 15 rfl rfl)
theorem dX4_readWord_252 : decode cX4_readWord 252 = .ok (.iconst 2, 1) := dk_5 (dk_at dksX4_readWord_10 18 rfl rfl)
theorem dX4_readWord_253 : decode cX4_readWord 253 = .ok (.goto 4, 3) := dk_167 0 4 (dk_at dksX4_readWord_10 19 rfl rfl)
theorem dX4_readWord_256 : decode cX4_readWord 256 = .ok (.iconst 3, 1) := dk_6 (dk_at dksX4_readWord_10 22 rfl rfl)
theorem dX4_readWord_257 : decode cX4_readWord 257 = .ok (.putfield 225, 3) := dk_181 0 225 (dk_at dksX4_readWord_11 0 rfl rfl)
theorem dX4_readWord_260 : decode cX4_readWord 260 = .ok (.aload_n 0, 1) := dk_42 (dk_at dksX4_readWord_11 3 rfl rfl)
theorem dX4_readWord_261 : decode cX4_readWord 261 = .ok (.aload_n 0, 1) := dk_42 (dk_at dksX4_readWord_11 4 rfl rfl)
theorem dX4_readWord_262 : decode cX4_readWord 262 = .ok (.getfield 225, 3) := dk_180 0 225 (dk_at dksX4_readWord_11 5 rfl rfl)
theorem dX4_readWord_265 : decode cX4_readWord 265 = .ok (.iconst 2, 1) := dk_5 (dk_at dksX4_readWord_11 8 rfl rfl)
theorem dX4_readWord_266 : decode cX4_readWord 266 = .ok (.if_icmp .ne 8, 3) := dk_160 0 8 (dk_at dksX4_readWord_11 9 rfl rfl)
theorem dX4_readWord_269 : decode cX4_readWord 269 = .ok (.bipush 117, 2) := dk_16 117 (dk_at dksX4_readWord_11 12 rfl rfl)
theorem dX4_readWord_271 : decode cX4_readWord 271 = .ok (.goto 5, 3) := dk_167 0 5 (dk_at dksX4_readWord_11 14 rfl rfl)
theorem dX4_readWord_274 : decode cX4_readWord 274 = .ok (.bipush 99, 2) := dk_16 99 (dk_at dksX4_readWord_11 17 rfl rfl)
theorem dX4_readWord_276 : decode cX4_readWord 276 = .ok (.aload_n 0, 1) := dk_42 (dk_at dksX4_readWord_11 19 rfl rfl)
theorem dX4_readWord_277 : decode cX4_readWord 277 = .ok (.getfield 225, 3) := dk_180 0 225 (dk_at dksX4_readWord_11 20 rfl rfl)
theorem dX4_readWord_280 : decode cX4_readWord 280 = .ok (.iconst 2, 1) := dk_5 (dk_at dksX4_readWord_11 23 rfl rfl)
theorem dX4_readWord_281 : decode cX4_readWord 281 = .ok (.if_icmp .ne 8, 3) := dk_160 0 8 (dk_at dksX4_readWord_12 0 rfl rfl)
theorem dX4_readWord_284 : decode cX4_readWord 284 = .ok (.bipush 108, 2) := dk_16 108 (dk_at dksX4_readWord_12 3 rfl rfl)
theorem dX4_readWord_286 : decode cX4_readWord 286 = .ok (.goto 5, 3) := dk_167 0 5 (dk_at dksX4_readWord_12 5 rfl rfl)
theorem dX4_readWord_289 : decode cX4_readWord 289 = .ok (.bipush 107, 2) := dk_16 107 (dk_at dksX4_readWord_12 8 rfl rfl)
theorem dX4_readWord_291 : decode cX4_readWord 291 = .ok (.aload_n 0, 1) := dk_42 (dk_at dksX4_readWord_12 10 rfl rfl)
theorem dX4_readWord_292 : decode cX4_readWord 292 = .ok (.getfield 225, 3) := dk_180 0 225 (dk_at dksX4_readWord_12 11 rfl rfl)
theorem dX4_readWord_295 : decode cX4_readWord 295 = .ok (.iconst 2, 1) := dk_5 (dk_at dksX4_readWord_12 14 rfl rfl)
theorem dX4_readWord_296 : decode cX4_readWord 296 = .ok (.if_icmp .ne 8, 3) := dk_160 0 8 (dk_at dksX4_readWord_12 15 rfl rfl)
theorem dX4_readWord_299 : decode cX4_readWord 299 = .ok (.bipush 107, 2) := dk_16 107 (dk_at dksX4_readWord_12 18 rfl rfl)
theorem dX4_readWord_301 : decode cX4_readWord 301 = .ok (.goto 4, 3) := dk_167 0 4 (dk_at dksX4_readWord_12 20 rfl rfl)
theorem dX4_readWord_304 : decode cX4_readWord 304 = .ok (.iconst 0, 1) := dk_3 (dk_at dksX4_readWord_12 23 rfl rfl)
theorem dX4_readWord_305 : decode cX4_readWord 305 = .ok (.iconst 0, 1) := dk_3 (dk_at dksX4_readWord_13 0 rfl rfl)
theorem dX4_readWord_306 : decode cX4_readWord 306 = .ok (.invokevirtual 228, 3) := dk_182 0 228 (dk_at dksX4_readWord_13 1 rfl rfl)
theorem dX4_readWord_309 : decode cX4_readWord 309 = .ok (.goto 18, 3) := dk_167 0 18 (dk_at dksX4_readWord_13 4 rfl rfl)
theorem dX4_readWord_312 : decode cX4_readWord 312 = .ok (.aload_n 0, 1) := dk_42 (dk_at dksX4_readWord_13 7 rfl rfl)
theorem dX4_readWord_313 : decode cX4_readWord 313 = .ok (.iconst 1, 1) := dk_4 (dk_at dksX4_readWord_13 8 rfl rfl)
theorem dX4_readWord_314 : decode cX4_readWord 314 = .ok (.putfield 213, 3) := dk_181 0 213 (dk_at dksX4_readWord_13 9 rfl rfl)
theorem dX4_readWord_317 : decode cX4_readWord 317 = .ok (.aload_n 0, 1) := dk_42 (dk_at dksX4_readWord_13 12 rfl rfl)
theorem dX4_readWord_318 : decode cX4_readWord 318 = .ok (.dup, 1) := dk_89 (dk_at dksX4_readWord_13 13 rfl rfl)
theorem dX4_readWord_319 : decode cX4_readWord 319 = .ok (.getfield 216, 3) := dk_180 0 216 (dk_at dksX4_readWord_13 14 rfl rfl)
theorem dX4_readWord_322 : decode cX4_readWord 322 = .ok (.iconst 1, 1) := dk_4 (dk_at dksX4_readWord_13 17 rfl rfl)
theorem dX4_readWord_323 : decode cX4_readWord 323 = .ok (.isub, 1) := dk_100 (dk_at dksX4_readWord_13 18 rfl rfl)
theorem dX4_readWord_324 : decode cX4_readWord 324 = .ok (.putfield 216, 3) := dk_181 0 216 (dk_at dksX4_readWord_13 19 rfl rfl)
theorem dX4_readWord_327 : decode cX4_readWord 327 = .ok (.return_, 1) := dk_177 (dk_at dksX4_readWord_13 22 rfl rfl)
abbrev cX4_takesAll : ByteArray := prog_14_method_51_code
def yX4_takesAll : MethodName := ⟨RX4, "takesAll", "(IIII)V"⟩
def dkwX4_takesAll_2 : List UInt8 := [167, 0, 11, 42, 21, 4, 21, 4, 182, 0, 222, 54, 5, 177]
abbrev dktX4_takesAll_2 : List UInt8 := dkwX4_takesAll_2 ++ []
def dkwX4_takesAll_1 : List UInt8 := [29, 154, 0, 7, 3, 167, 0, 9, 42, 29, 29, 182, 0, 222, 54, 5, 21, 4, 154, 0, 7, 3]
abbrev dktX4_takesAll_1 : List UInt8 := dkwX4_takesAll_1 ++ dktX4_takesAll_2
def dkwX4_takesAll_0 : List UInt8 := [42, 27, 27, 182, 0, 222, 54, 5, 28, 154, 0, 7, 3, 167, 0, 9, 42, 28, 28, 182, 0, 222, 54, 5]
abbrev dktX4_takesAll_0 : List UInt8 := dkwX4_takesAll_0 ++ dktX4_takesAll_1
theorem dksX4_takesAll_0 : cX4_takesAll.data.toList.drop 0 = dktX4_takesAll_0 := by decide +kernel
theorem dksX4_takesAll_1 : cX4_takesAll.data.toList.drop 24 = dktX4_takesAll_1 := dk_seg dksX4_takesAll_0 24 rfl rfl
theorem dksX4_takesAll_2 : cX4_takesAll.data.toList.drop 46 = dktX4_takesAll_2 := dk_seg dksX4_takesAll_1 22 rfl rfl
theorem dX4_takesAll_0 : decode cX4_takesAll 0 = .ok (.aload_n 0, 1) := dk_42 (dk_at dksX4_takesAll_0 0 rfl rfl)
theorem dX4_takesAll_1 : decode cX4_takesAll 1 = .ok (.iload_n 1, 1) := dk_27 (dk_at dksX4_takesAll_0 1 rfl rfl)
theorem dX4_takesAll_2 : decode cX4_takesAll 2 = .ok (.iload_n 1, 1) := dk_27 (dk_at dksX4_takesAll_0 2 rfl rfl)
theorem dX4_takesAll_3 : decode cX4_takesAll 3 = .ok (.invokevirtual 222, 3) := dk_182 0 222 (dk_at dksX4_takesAll_0 3 rfl rfl)
theorem dX4_takesAll_6 : decode cX4_takesAll 6 = .ok (.istore 5, 2) := dk_54 5 (dk_at dksX4_takesAll_0 6 rfl rfl)
theorem dX4_takesAll_8 : decode cX4_takesAll 8 = .ok (.iload_n 2, 1) := dk_28 (dk_at dksX4_takesAll_0 8 rfl rfl)
theorem dX4_takesAll_9 : decode cX4_takesAll 9 = .ok (.ifCond .ne 7, 3) := dk_154 0 7 (dk_at dksX4_takesAll_0 9 rfl rfl)
theorem dX4_takesAll_12 : decode cX4_takesAll 12 = .ok (.iconst 0, 1) := dk_3 (dk_at dksX4_takesAll_0 12 rfl rfl)
theorem dX4_takesAll_13 : decode cX4_takesAll 13 = .ok (.goto 9, 3) := dk_167 0 9 (dk_at dksX4_takesAll_0 13 rfl rfl)
theorem dX4_takesAll_16 : decode cX4_takesAll 16 = .ok (.aload_n 0, 1) := dk_42 (dk_at dksX4_takesAll_0 16 rfl rfl)
theorem dX4_takesAll_17 : decode cX4_takesAll 17 = .ok (.iload_n 2, 1) := dk_28 (dk_at dksX4_takesAll_0 17 rfl rfl)
theorem dX4_takesAll_18 : decode cX4_takesAll 18 = .ok (.iload_n 2, 1) := dk_28 (dk_at dksX4_takesAll_0 18 rfl rfl)
theorem dX4_takesAll_19 : decode cX4_takesAll 19 = .ok (.invokevirtual 222, 3) := dk_182 0 222 (dk_at dksX4_takesAll_0 19 rfl rfl)
theorem dX4_takesAll_22 : decode cX4_takesAll 22 = .ok (.istore 5, 2) := dk_54 5 (dk_at dksX4_takesAll_0 22 rfl rfl)
theorem dX4_takesAll_24 : decode cX4_takesAll 24 = .ok (.iload_n 3, 1) := dk_29 (dk_at dksX4_takesAll_1 0 rfl rfl)
theorem dX4_takesAll_25 : decode cX4_takesAll 25 = .ok (.ifCond .ne 7, 3) := dk_154 0 7 (dk_at dksX4_takesAll_1 1 rfl rfl)
theorem dX4_takesAll_28 : decode cX4_takesAll 28 = .ok (.iconst 0, 1) := dk_3 (dk_at dksX4_takesAll_1 4 rfl rfl)
theorem dX4_takesAll_29 : decode cX4_takesAll 29 = .ok (.goto 9, 3) := dk_167 0 9 (dk_at dksX4_takesAll_1 5 rfl rfl)
theorem dX4_takesAll_32 : decode cX4_takesAll 32 = .ok (.aload_n 0, 1) := dk_42 (dk_at dksX4_takesAll_1 8 rfl rfl)
theorem dX4_takesAll_33 : decode cX4_takesAll 33 = .ok (.iload_n 3, 1) := dk_29 (dk_at dksX4_takesAll_1 9 rfl rfl)
theorem dX4_takesAll_34 : decode cX4_takesAll 34 = .ok (.iload_n 3, 1) := dk_29 (dk_at dksX4_takesAll_1 10 rfl rfl)
theorem dX4_takesAll_35 : decode cX4_takesAll 35 = .ok (.invokevirtual 222, 3) := dk_182 0 222 (dk_at dksX4_takesAll_1 11 rfl rfl)
theorem dX4_takesAll_38 : decode cX4_takesAll 38 = .ok (.istore 5, 2) := dk_54 5 (dk_at dksX4_takesAll_1 14 rfl rfl)
theorem dX4_takesAll_40 : decode cX4_takesAll 40 = .ok (.iload 4, 2) := dk_21 4 (dk_at dksX4_takesAll_1 16 rfl rfl)
theorem dX4_takesAll_42 : decode cX4_takesAll 42 = .ok (.ifCond .ne 7, 3) := dk_154 0 7 (dk_at dksX4_takesAll_1 18 rfl rfl)
theorem dX4_takesAll_45 : decode cX4_takesAll 45 = .ok (.iconst 0, 1) := dk_3 (dk_at dksX4_takesAll_1 21 rfl rfl)
theorem dX4_takesAll_46 : decode cX4_takesAll 46 = .ok (.goto 11, 3) := dk_167 0 11 (dk_at dksX4_takesAll_2 0 rfl rfl)
theorem dX4_takesAll_49 : decode cX4_takesAll 49 = .ok (.aload_n 0, 1) := dk_42 (dk_at dksX4_takesAll_2 3 rfl rfl)
theorem dX4_takesAll_50 : decode cX4_takesAll 50 = .ok (.iload 4, 2) := dk_21 4 (dk_at dksX4_takesAll_2 4 rfl rfl)
theorem dX4_takesAll_52 : decode cX4_takesAll 52 = .ok (.iload 4, 2) := dk_21 4 (dk_at dksX4_takesAll_2 6 rfl rfl)
theorem dX4_takesAll_54 : decode cX4_takesAll 54 = .ok (.invokevirtual 222, 3) := dk_182 0 222 (dk_at dksX4_takesAll_2 8 rfl rfl)
theorem dX4_takesAll_57 : decode cX4_takesAll 57 = .ok (.istore 5, 2) := dk_54 5 (dk_at dksX4_takesAll_2 11 rfl rfl)
theorem dX4_takesAll_59 : decode cX4_takesAll 59 = .ok (.return_, 1) := dk_177 (dk_at dksX4_takesAll_2 13 rfl rfl)
abbrev cX4_takes : ByteArray := prog_14_method_50_code
def yX4_takes : MethodName := ⟨RX4, "takes", "(II)I"⟩
def dkwX4_takes_2 : List UInt8 := [42, 42, 180, 0, 213, 154, 0, 7, 29, 154, 0, 7, 4, 167, 0, 4, 3, 181, 0, 213, 21, 4, 172]
abbrev dktX4_takes_2 : List UInt8 := dkwX4_takes_2 ++ []
def dkwX4_takes_1 : List UInt8 := [167, 0, 4, 3, 54, 4, 42, 89, 180, 0, 216, 29, 153, 0, 7, 4, 167, 0, 4, 3, 96, 181, 0, 216]
abbrev dktX4_takes_1 : List UInt8 := dkwX4_takes_1 ++ dktX4_takes_2
def dkwX4_takes_0 : List UInt8 := [42, 27, 28, 182, 0, 219, 62, 29, 153, 0, 17, 42, 180, 0, 50, 42, 180, 0, 216, 46, 27, 100]
abbrev dktX4_takes_0 : List UInt8 := dkwX4_takes_0 ++ dktX4_takes_1
theorem dksX4_takes_0 : cX4_takes.data.toList.drop 0 = dktX4_takes_0 := by decide +kernel
theorem dksX4_takes_1 : cX4_takes.data.toList.drop 22 = dktX4_takes_1 := dk_seg dksX4_takes_0 22 rfl rfl
theorem dksX4_takes_2 : cX4_takes.data.toList.drop 46 = dktX4_takes_2 := dk_seg dksX4_takes_1 24 rfl rfl
theorem dX4_takes_0 : decode cX4_takes 0 = .ok (.aload_n 0, 1) := dk_42 (dk_at dksX4_takes_0 0 rfl rfl)
theorem dX4_takes_1 : decode cX4_takes 1 = .ok (.iload_n 1, 1) := dk_27 (dk_at dksX4_takes_0 1 rfl rfl)
theorem dX4_takes_2 : decode cX4_takes 2 = .ok (.iload_n 2, 1) := dk_28 (dk_at dksX4_takes_0 2 rfl rfl)
theorem dX4_takes_3 : decode cX4_takes 3 = .ok (.invokevirtual 219, 3) := dk_182 0 219 (dk_at dksX4_takes_0 3 rfl rfl)
theorem dX4_takes_6 : decode cX4_takes 6 = .ok (.istore_n 3, 1) := dk_62 (dk_at dksX4_takes_0 6 rfl rfl)
theorem dX4_takes_7 : decode cX4_takes 7 = .ok (.iload_n 3, 1) := dk_29 (dk_at dksX4_takes_0 7 rfl rfl)
theorem dX4_takes_8 : decode cX4_takes 8 = .ok (.ifCond .eq 17, 3) := dk_153 0 17 (dk_at dksX4_takes_0 8 rfl rfl)
theorem dX4_takes_11 : decode cX4_takes 11 = .ok (.aload_n 0, 1) := dk_42 (dk_at dksX4_takes_0 11 rfl rfl)
theorem dX4_takes_12 : decode cX4_takes 12 = .ok (.getfield 50, 3) := dk_180 0 50 (dk_at dksX4_takes_0 12 rfl rfl)
theorem dX4_takes_15 : decode cX4_takes 15 = .ok (.aload_n 0, 1) := dk_42 (dk_at dksX4_takes_0 15 rfl rfl)
theorem dX4_takes_16 : decode cX4_takes 16 = .ok (.getfield 216, 3) := dk_180 0 216 (dk_at dksX4_takes_0 16 rfl rfl)
theorem dX4_takes_19 : decode cX4_takes 19 = .ok (.iaload, 1) := dk_46 (dk_at dksX4_takes_0 19 rfl rfl)
theorem dX4_takes_20 : decode cX4_takes 20 = .ok (.iload_n 1, 1) := dk_27 (dk_at dksX4_takes_0 20 rfl rfl)
theorem dX4_takes_21 : decode cX4_takes 21 = .ok (.isub, 1) := dk_100 (dk_at dksX4_takes_0 21 rfl rfl)
theorem dX4_takes_22 : decode cX4_takes 22 = .ok (.goto 4, 3) := dk_167 0 4 (dk_at dksX4_takes_1 0 rfl rfl)
theorem dX4_takes_25 : decode cX4_takes 25 = .ok (.iconst 0, 1) := dk_3 (dk_at dksX4_takes_1 3 rfl rfl)
theorem dX4_takes_26 : decode cX4_takes 26 = .ok (.istore 4, 2) := dk_54 4 (dk_at dksX4_takes_1 4 rfl rfl)
theorem dX4_takes_28 : decode cX4_takes 28 = .ok (.aload_n 0, 1) := dk_42 (dk_at dksX4_takes_1 6 rfl rfl)
theorem dX4_takes_29 : decode cX4_takes 29 = .ok (.dup, 1) := dk_89 (dk_at dksX4_takes_1 7 rfl rfl)
theorem dX4_takes_30 : decode cX4_takes 30 = .ok (.getfield 216, 3) := dk_180 0 216 (dk_at dksX4_takes_1 8 rfl rfl)
theorem dX4_takes_33 : decode cX4_takes 33 = .ok (.iload_n 3, 1) := dk_29 (dk_at dksX4_takes_1 11 rfl rfl)
theorem dX4_takes_34 : decode cX4_takes 34 = .ok (.ifCond .eq 7, 3) := dk_153 0 7 (dk_at dksX4_takes_1 12 rfl rfl)
theorem dX4_takes_37 : decode cX4_takes 37 = .ok (.iconst 1, 1) := dk_4 (dk_at dksX4_takes_1 15 rfl rfl)
theorem dX4_takes_38 : decode cX4_takes 38 = .ok (.goto 4, 3) := dk_167 0 4 (dk_at dksX4_takes_1 16 rfl rfl)
theorem dX4_takes_41 : decode cX4_takes 41 = .ok (.iconst 0, 1) := dk_3 (dk_at dksX4_takes_1 19 rfl rfl)
theorem dX4_takes_42 : decode cX4_takes 42 = .ok (.iadd, 1) := dk_96 (dk_at dksX4_takes_1 20 rfl rfl)
theorem dX4_takes_43 : decode cX4_takes 43 = .ok (.putfield 216, 3) := dk_181 0 216 (dk_at dksX4_takes_1 21 rfl rfl)
theorem dX4_takes_46 : decode cX4_takes 46 = .ok (.aload_n 0, 1) := dk_42 (dk_at dksX4_takes_2 0 rfl rfl)
theorem dX4_takes_47 : decode cX4_takes 47 = .ok (.aload_n 0, 1) := dk_42 (dk_at dksX4_takes_2 1 rfl rfl)
theorem dX4_takes_48 : decode cX4_takes 48 = .ok (.getfield 213, 3) := dk_180 0 213 (dk_at dksX4_takes_2 2 rfl rfl)
theorem dX4_takes_51 : decode cX4_takes 51 = .ok (.ifCond .ne 7, 3) := dk_154 0 7 (dk_at dksX4_takes_2 5 rfl rfl)
theorem dX4_takes_54 : decode cX4_takes 54 = .ok (.iload_n 3, 1) := dk_29 (dk_at dksX4_takes_2 8 rfl rfl)
theorem dX4_takes_55 : decode cX4_takes 55 = .ok (.ifCond .ne 7, 3) := dk_154 0 7 (dk_at dksX4_takes_2 9 rfl rfl)
theorem dX4_takes_58 : decode cX4_takes 58 = .ok (.iconst 1, 1) := dk_4 (dk_at dksX4_takes_2 12 rfl rfl)
theorem dX4_takes_59 : decode cX4_takes 59 = .ok (.goto 4, 3) := dk_167 0 4 (dk_at dksX4_takes_2 13 rfl rfl)
theorem dX4_takes_62 : decode cX4_takes 62 = .ok (.iconst 0, 1) := dk_3 (dk_at dksX4_takes_2 16 rfl rfl)
theorem dX4_takes_63 : decode cX4_takes 63 = .ok (.putfield 213, 3) := dk_181 0 213 (dk_at dksX4_takes_2 17 rfl rfl)
theorem dX4_takes_66 : decode cX4_takes 66 = .ok (.iload 4, 2) := dk_21 4 (dk_at dksX4_takes_2 20 rfl rfl)
theorem dX4_takes_68 : decode cX4_takes 68 = .ok (.ireturn, 1) := dk_172 (dk_at dksX4_takes_2 22 rfl rfl)
abbrev cX4_isNext : ByteArray := prog_14_method_49_code
def yX4_isNext : MethodName := ⟨RX4, "isNext", "(II)Z"⟩
def dkwX4_isNext_1 : List UInt8 := [180, 0, 216, 46, 27, 28, 184, 0, 81, 153, 0, 7, 4, 167, 0, 4, 3, 172]
abbrev dktX4_isNext_1 : List UInt8 := dkwX4_isNext_1 ++ []
def dkwX4_isNext_0 : List UInt8 := [42, 180, 0, 213, 154, 0, 35, 42, 180, 0, 216, 42, 180, 0, 210, 162, 0, 24, 42, 180, 0, 50, 42]
abbrev dktX4_isNext_0 : List UInt8 := dkwX4_isNext_0 ++ dktX4_isNext_1
theorem dksX4_isNext_0 : cX4_isNext.data.toList.drop 0 = dktX4_isNext_0 := by decide +kernel
theorem dksX4_isNext_1 : cX4_isNext.data.toList.drop 23 = dktX4_isNext_1 := dk_seg dksX4_isNext_0 23 rfl rfl
theorem dX4_isNext_0 : decode cX4_isNext 0 = .ok (.aload_n 0, 1) := dk_42 (dk_at dksX4_isNext_0 0 rfl rfl)
theorem dX4_isNext_1 : decode cX4_isNext 1 = .ok (.getfield 213, 3) := dk_180 0 213 (dk_at dksX4_isNext_0 1 rfl rfl)
theorem dX4_isNext_4 : decode cX4_isNext 4 = .ok (.ifCond .ne 35, 3) := dk_154 0 35 (dk_at dksX4_isNext_0 4 rfl rfl)
theorem dX4_isNext_7 : decode cX4_isNext 7 = .ok (.aload_n 0, 1) := dk_42 (dk_at dksX4_isNext_0 7 rfl rfl)
theorem dX4_isNext_8 : decode cX4_isNext 8 = .ok (.getfield 216, 3) := dk_180 0 216 (dk_at dksX4_isNext_0 8 rfl rfl)
theorem dX4_isNext_11 : decode cX4_isNext 11 = .ok (.aload_n 0, 1) := dk_42 (dk_at dksX4_isNext_0 11 rfl rfl)
theorem dX4_isNext_12 : decode cX4_isNext 12 = .ok (.getfield 210, 3) := dk_180 0 210 (dk_at dksX4_isNext_0 12 rfl rfl)
theorem dX4_isNext_15 : decode cX4_isNext 15 = .ok (.if_icmp .ge 24, 3) := dk_162 0 24 (dk_at dksX4_isNext_0 15 rfl rfl)
theorem dX4_isNext_18 : decode cX4_isNext 18 = .ok (.aload_n 0, 1) := dk_42 (dk_at dksX4_isNext_0 18 rfl rfl)
theorem dX4_isNext_19 : decode cX4_isNext 19 = .ok (.getfield 50, 3) := dk_180 0 50 (dk_at dksX4_isNext_0 19 rfl rfl)
theorem dX4_isNext_22 : decode cX4_isNext 22 = .ok (.aload_n 0, 1) := dk_42 (dk_at dksX4_isNext_0 22 rfl rfl)
theorem dX4_isNext_23 : decode cX4_isNext 23 = .ok (.getfield 216, 3) := dk_180 0 216 (dk_at dksX4_isNext_1 0 rfl rfl)
theorem dX4_isNext_26 : decode cX4_isNext 26 = .ok (.iaload, 1) := dk_46 (dk_at dksX4_isNext_1 3 rfl rfl)
theorem dX4_isNext_27 : decode cX4_isNext 27 = .ok (.iload_n 1, 1) := dk_27 (dk_at dksX4_isNext_1 4 rfl rfl)
theorem dX4_isNext_28 : decode cX4_isNext 28 = .ok (.iload_n 2, 1) := dk_28 (dk_at dksX4_isNext_1 5 rfl rfl)
theorem dX4_isNext_29 : decode cX4_isNext 29 = .ok (.invokestatic 81, 3) := dk_184 0 81 (dk_at dksX4_isNext_1 6 rfl rfl)
theorem dX4_isNext_32 : decode cX4_isNext 32 = .ok (.ifCond .eq 7, 3) := dk_153 0 7 (dk_at dksX4_isNext_1 9 rfl rfl)
theorem dX4_isNext_35 : decode cX4_isNext 35 = .ok (.iconst 1, 1) := dk_4 (dk_at dksX4_isNext_1 12 rfl rfl)
theorem dX4_isNext_36 : decode cX4_isNext 36 = .ok (.goto 4, 3) := dk_167 0 4 (dk_at dksX4_isNext_1 13 rfl rfl)
theorem dX4_isNext_39 : decode cX4_isNext 39 = .ok (.iconst 0, 1) := dk_3 (dk_at dksX4_isNext_1 16 rfl rfl)
theorem dX4_isNext_40 : decode cX4_isNext 40 = .ok (.ireturn, 1) := dk_172 (dk_at dksX4_isNext_1 17 rfl rfl)
abbrev cX4_run : ByteArray := prog_14_method_56_code
def yX4_run : MethodName := ⟨RX4, "run", "()I"⟩
def dkwX4_run_5 : List UInt8 := [42, 3, 181, 0, 78, 27, 172]
abbrev dktX4_run_5 : List UInt8 := dkwX4_run_5 ++ []
def dkwX4_run_4 : List UInt8 := [154, 0, 7, 4, 167, 0, 4, 3, 61, 27, 28, 153, 0, 7, 4, 167, 0, 4, 3, 96, 60, 167, 255, 176]
abbrev dktX4_run_4 : List UInt8 := dkwX4_run_4 ++ dktX4_run_5
def dkwX4_run_3 : List UInt8 := [167, 0, 19, 42, 42, 180, 0, 225, 42, 180, 0, 235, 42, 180, 0, 238, 182, 0, 251, 62, 42, 180, 0, 78]
abbrev dktX4_run_3 : List UInt8 := dkwX4_run_3 ++ dktX4_run_4
def dkwX4_run_2 : List UInt8 := [162, 0, 71, 42, 182, 0, 241, 42, 180, 0, 225, 2, 160, 0, 14, 42, 42, 180, 0, 235, 182, 0, 247]
abbrev dktX4_run_2 : List UInt8 := dkwX4_run_2 ++ dktX4_run_3
def dkwX4_run_1 : List UInt8 := [181, 0, 216, 42, 3, 181, 0, 213, 3, 60, 4, 61, 28, 153, 0, 82, 42, 180, 0, 216, 42, 180, 0, 210]
abbrev dktX4_run_1 : List UInt8 := dkwX4_run_1 ++ dktX4_run_2
def dkwX4_run_0 : List UInt8 := [42, 42, 182, 0, 244, 2, 160, 0, 7, 3, 167, 0, 4, 4, 182, 0, 169, 154, 0, 5, 3, 172, 42, 3]
abbrev dktX4_run_0 : List UInt8 := dkwX4_run_0 ++ dktX4_run_1
theorem dksX4_run_0 : cX4_run.data.toList.drop 0 = dktX4_run_0 := by decide +kernel
theorem dksX4_run_1 : cX4_run.data.toList.drop 24 = dktX4_run_1 := dk_seg dksX4_run_0 24 rfl rfl
theorem dksX4_run_2 : cX4_run.data.toList.drop 48 = dktX4_run_2 := dk_seg dksX4_run_1 24 rfl rfl
theorem dksX4_run_3 : cX4_run.data.toList.drop 71 = dktX4_run_3 := dk_seg dksX4_run_2 23 rfl rfl
theorem dksX4_run_4 : cX4_run.data.toList.drop 95 = dktX4_run_4 := dk_seg dksX4_run_3 24 rfl rfl
theorem dksX4_run_5 : cX4_run.data.toList.drop 119 = dktX4_run_5 := dk_seg dksX4_run_4 24 rfl rfl
theorem dX4_run_0 : decode cX4_run 0 = .ok (.aload_n 0, 1) := dk_42 (dk_at dksX4_run_0 0 rfl rfl)
theorem dX4_run_1 : decode cX4_run 1 = .ok (.aload_n 0, 1) := dk_42 (dk_at dksX4_run_0 1 rfl rfl)
theorem dX4_run_2 : decode cX4_run 2 = .ok (.invokevirtual 244, 3) := dk_182 0 244 (dk_at dksX4_run_0 2 rfl rfl)
theorem dX4_run_5 : decode cX4_run 5 = .ok (.iconst (-1), 1) := dk_2 (dk_at dksX4_run_0 5 rfl rfl)
theorem dX4_run_6 : decode cX4_run 6 = .ok (.if_icmp .ne 7, 3) := dk_160 0 7 (dk_at dksX4_run_0 6 rfl rfl)
theorem dX4_run_9 : decode cX4_run 9 = .ok (.iconst 0, 1) := dk_3 (dk_at dksX4_run_0 9 rfl rfl)
theorem dX4_run_10 : decode cX4_run 10 = .ok (.goto 4, 3) := dk_167 0 4 (dk_at dksX4_run_0 10 rfl rfl)
theorem dX4_run_13 : decode cX4_run 13 = .ok (.iconst 1, 1) := dk_4 (dk_at dksX4_run_0 13 rfl rfl)
theorem dX4_run_14 : decode cX4_run 14 = .ok (.invokevirtual 169, 3) := dk_182 0 169 (dk_at dksX4_run_0 14 rfl rfl)
theorem dX4_run_17 : decode cX4_run 17 = .ok (.ifCond .ne 5, 3) := dk_154 0 5 (dk_at dksX4_run_0 17 rfl rfl)
theorem dX4_run_20 : decode cX4_run 20 = .ok (.iconst 0, 1) := dk_3 (dk_at dksX4_run_0 20 rfl rfl)
theorem dX4_run_21 : decode cX4_run 21 = .ok (.ireturn, 1) := dk_172 (dk_at dksX4_run_0 21 rfl rfl)
theorem dX4_run_22 : decode cX4_run 22 = .ok (.aload_n 0, 1) := dk_42 (dk_at dksX4_run_0 22 rfl rfl)
theorem dX4_run_23 : decode cX4_run 23 = .ok (.iconst 0, 1) := dk_3 (dk_at dksX4_run_0 23 rfl rfl)
theorem dX4_run_24 : decode cX4_run 24 = .ok (.putfield 216, 3) := dk_181 0 216 (dk_at dksX4_run_1 0 rfl rfl)
theorem dX4_run_27 : decode cX4_run 27 = .ok (.aload_n 0, 1) := dk_42 (dk_at dksX4_run_1 3 rfl rfl)
theorem dX4_run_28 : decode cX4_run 28 = .ok (.iconst 0, 1) := dk_3 (dk_at dksX4_run_1 4 rfl rfl)
theorem dX4_run_29 : decode cX4_run 29 = .ok (.putfield 213, 3) := dk_181 0 213 (dk_at dksX4_run_1 5 rfl rfl)
theorem dX4_run_32 : decode cX4_run 32 = .ok (.iconst 0, 1) := dk_3 (dk_at dksX4_run_1 8 rfl rfl)
theorem dX4_run_33 : decode cX4_run 33 = .ok (.istore_n 1, 1) := dk_60 (dk_at dksX4_run_1 9 rfl rfl)
theorem dX4_run_34 : decode cX4_run 34 = .ok (.iconst 1, 1) := dk_4 (dk_at dksX4_run_1 10 rfl rfl)
theorem dX4_run_35 : decode cX4_run 35 = .ok (.istore_n 2, 1) := dk_61 (dk_at dksX4_run_1 11 rfl rfl)
theorem dX4_run_36 : decode cX4_run 36 = .ok (.iload_n 2, 1) := dk_28 (dk_at dksX4_run_1 12 rfl rfl)
theorem dX4_run_37 : decode cX4_run 37 = .ok (.ifCond .eq 82, 3) := dk_153 0 82 (dk_at dksX4_run_1 13 rfl rfl)
theorem dX4_run_40 : decode cX4_run 40 = .ok (.aload_n 0, 1) := dk_42 (dk_at dksX4_run_1 16 rfl rfl)
theorem dX4_run_41 : decode cX4_run 41 = .ok (.getfield 216, 3) := dk_180 0 216 (dk_at dksX4_run_1 17 rfl rfl)
theorem dX4_run_44 : decode cX4_run 44 = .ok (.aload_n 0, 1) := dk_42 (dk_at dksX4_run_1 20 rfl rfl)
theorem dX4_run_45 : decode cX4_run 45 = .ok (.getfield 210, 3) := dk_180 0 210 (dk_at dksX4_run_1 21 rfl rfl)
theorem dX4_run_48 : decode cX4_run 48 = .ok (.if_icmp .ge 71, 3) := dk_162 0 71 (dk_at dksX4_run_2 0 rfl rfl)
theorem dX4_run_51 : decode cX4_run 51 = .ok (.aload_n 0, 1) := dk_42 (dk_at dksX4_run_2 3 rfl rfl)
theorem dX4_run_52 : decode cX4_run 52 = .ok (.invokevirtual 241, 3) := dk_182 0 241 (dk_at dksX4_run_2 4 rfl rfl)
theorem dX4_run_55 : decode cX4_run 55 = .ok (.aload_n 0, 1) := dk_42 (dk_at dksX4_run_2 7 rfl rfl)
theorem dX4_run_56 : decode cX4_run 56 = .ok (.getfield 225, 3) := dk_180 0 225 (dk_at dksX4_run_2 8 rfl rfl)
theorem dX4_run_59 : decode cX4_run 59 = .ok (.iconst (-1), 1) := dk_2 (dk_at dksX4_run_2 11 rfl rfl)
theorem dX4_run_60 : decode cX4_run 60 = .ok (.if_icmp .ne 14, 3) := dk_160 0 14 (dk_at dksX4_run_2 12 rfl rfl)
theorem dX4_run_63 : decode cX4_run 63 = .ok (.aload_n 0, 1) := dk_42 (dk_at dksX4_run_2 15 rfl rfl)
theorem dX4_run_64 : decode cX4_run 64 = .ok (.aload_n 0, 1) := dk_42 (dk_at dksX4_run_2 16 rfl rfl)
theorem dX4_run_65 : decode cX4_run 65 = .ok (.getfield 235, 3) := dk_180 0 235 (dk_at dksX4_run_2 17 rfl rfl)
theorem dX4_run_68 : decode cX4_run 68 = .ok (.invokevirtual 247, 3) := dk_182 0 247 (dk_at dksX4_run_2 20 rfl rfl)
theorem dX4_run_71 : decode cX4_run 71 = .ok (.goto 19, 3) := dk_167 0 19 (dk_at dksX4_run_3 0 rfl rfl)
theorem dX4_run_74 : decode cX4_run 74 = .ok (.aload_n 0, 1) := dk_42 (dk_at dksX4_run_3 3 rfl rfl)
theorem dX4_run_75 : decode cX4_run 75 = .ok (.aload_n 0, 1) := dk_42 (dk_at dksX4_run_3 4 rfl rfl)
theorem dX4_run_76 : decode cX4_run 76 = .ok (.getfield 225, 3) := dk_180 0 225 (dk_at dksX4_run_3 5 rfl rfl)
theorem dX4_run_79 : decode cX4_run 79 = .ok (.aload_n 0, 1) := dk_42 (dk_at dksX4_run_3 8 rfl rfl)
theorem dX4_run_80 : decode cX4_run 80 = .ok (.getfield 235, 3) := dk_180 0 235 (dk_at dksX4_run_3 9 rfl rfl)
theorem dX4_run_83 : decode cX4_run 83 = .ok (.aload_n 0, 1) := dk_42 (dk_at dksX4_run_3 12 rfl rfl)
theorem dX4_run_84 : decode cX4_run 84 = .ok (.getfield 238, 3) := dk_180 0 238 (dk_at dksX4_run_3 13 rfl rfl)
theorem dX4_run_87 : decode cX4_run 87 = .ok (.invokevirtual 251, 3) := dk_182 0 251 (dk_at dksX4_run_3 16 rfl rfl)
theorem dX4_run_90 : decode cX4_run 90 = .ok (.istore_n 3, 1) := dk_62 (dk_at dksX4_run_3 19 rfl rfl)
theorem dX4_run_91 : decode cX4_run 91 = .ok (.aload_n 0, 1) := dk_42 (dk_at dksX4_run_3 20 rfl rfl)
theorem dX4_run_92 : decode cX4_run 92 = .ok (.getfield 78, 3) := dk_180 0 78 (dk_at dksX4_run_3 21 rfl rfl)
theorem dX4_run_95 : decode cX4_run 95 = .ok (.ifCond .ne 7, 3) := dk_154 0 7 (dk_at dksX4_run_4 0 rfl rfl)
theorem dX4_run_98 : decode cX4_run 98 = .ok (.iconst 1, 1) := dk_4 (dk_at dksX4_run_4 3 rfl rfl)
theorem dX4_run_99 : decode cX4_run 99 = .ok (.goto 4, 3) := dk_167 0 4 (dk_at dksX4_run_4 4 rfl rfl)
theorem dX4_run_102 : decode cX4_run 102 = .ok (.iconst 0, 1) := dk_3 (dk_at dksX4_run_4 7 rfl rfl)
theorem dX4_run_103 : decode cX4_run 103 = .ok (.istore_n 2, 1) := dk_61 (dk_at dksX4_run_4 8 rfl rfl)
theorem dX4_run_104 : decode cX4_run 104 = .ok (.iload_n 1, 1) := dk_27 (dk_at dksX4_run_4 9 rfl rfl)
theorem dX4_run_105 : decode cX4_run 105 = .ok (.iload_n 2, 1) := dk_28 (dk_at dksX4_run_4 10 rfl rfl)
theorem dX4_run_106 : decode cX4_run 106 = .ok (.ifCond .eq 7, 3) := dk_153 0 7 (dk_at dksX4_run_4 11 rfl rfl)
theorem dX4_run_109 : decode cX4_run 109 = .ok (.iconst 1, 1) := dk_4 (dk_at dksX4_run_4 14 rfl rfl)
theorem dX4_run_110 : decode cX4_run 110 = .ok (.goto 4, 3) := dk_167 0 4 (dk_at dksX4_run_4 15 rfl rfl)
theorem dX4_run_113 : decode cX4_run 113 = .ok (.iconst 0, 1) := dk_3 (dk_at dksX4_run_4 18 rfl rfl)
theorem dX4_run_114 : decode cX4_run 114 = .ok (.iadd, 1) := dk_96 (dk_at dksX4_run_4 19 rfl rfl)
theorem dX4_run_115 : decode cX4_run 115 = .ok (.istore_n 1, 1) := dk_60 (dk_at dksX4_run_4 20 rfl rfl)
theorem dX4_run_116 : decode cX4_run 116 = .ok (.goto (-80), 3) := dk_167 255 176 (dk_at dksX4_run_4 21 rfl rfl)
theorem dX4_run_119 : decode cX4_run 119 = .ok (.aload_n 0, 1) := dk_42 (dk_at dksX4_run_5 0 rfl rfl)
theorem dX4_run_120 : decode cX4_run 120 = .ok (.iconst 0, 1) := dk_3 (dk_at dksX4_run_5 1 rfl rfl)
theorem dX4_run_121 : decode cX4_run 121 = .ok (.putfield 78, 3) := dk_181 0 78 (dk_at dksX4_run_5 2 rfl rfl)
theorem dX4_run_124 : decode cX4_run 124 = .ok (.iload_n 1, 1) := dk_27 (dk_at dksX4_run_5 5 rfl rfl)
theorem dX4_run_125 : decode cX4_run 125 = .ok (.ireturn, 1) := dk_172 (dk_at dksX4_run_5 6 rfl rfl)
abbrev cX4_player : ByteArray := prog_14_method_58_code
def yX4_player : MethodName := ⟨RX4, "player", "(II)I"⟩
def dkwX4_player_1 : List UInt8 := [182, 0, 169, 153, 0, 17, 42, 180, 0, 41, 16, 10, 27, 104, 28, 96, 46, 167, 0, 4, 3, 172]
abbrev dktX4_player_1 : List UInt8 := dkwX4_player_1 ++ []
def dkwX4_player_0 : List UInt8 := [42, 42, 27, 184, 0, 192, 153, 0, 14, 28, 184, 0, 175, 153, 0, 7, 4, 167, 0, 4, 3, 182, 0, 254]
abbrev dktX4_player_0 : List UInt8 := dkwX4_player_0 ++ dktX4_player_1
theorem dksX4_player_0 : cX4_player.data.toList.drop 0 = dktX4_player_0 := by decide +kernel
theorem dksX4_player_1 : cX4_player.data.toList.drop 24 = dktX4_player_1 := dk_seg dksX4_player_0 24 rfl rfl
theorem dX4_player_0 : decode cX4_player 0 = .ok (.aload_n 0, 1) := dk_42 (dk_at dksX4_player_0 0 rfl rfl)
theorem dX4_player_1 : decode cX4_player 1 = .ok (.aload_n 0, 1) := dk_42 (dk_at dksX4_player_0 1 rfl rfl)
theorem dX4_player_2 : decode cX4_player 2 = .ok (.iload_n 1, 1) := dk_27 (dk_at dksX4_player_0 2 rfl rfl)
theorem dX4_player_3 : decode cX4_player 3 = .ok (.invokestatic 192, 3) := dk_184 0 192 (dk_at dksX4_player_0 3 rfl rfl)
theorem dX4_player_6 : decode cX4_player 6 = .ok (.ifCond .eq 14, 3) := dk_153 0 14 (dk_at dksX4_player_0 6 rfl rfl)
theorem dX4_player_9 : decode cX4_player 9 = .ok (.iload_n 2, 1) := dk_28 (dk_at dksX4_player_0 9 rfl rfl)
theorem dX4_player_10 : decode cX4_player 10 = .ok (.invokestatic 175, 3) := dk_184 0 175 (dk_at dksX4_player_0 10 rfl rfl)
theorem dX4_player_13 : decode cX4_player 13 = .ok (.ifCond .eq 7, 3) := dk_153 0 7 (dk_at dksX4_player_0 13 rfl rfl)
theorem dX4_player_16 : decode cX4_player 16 = .ok (.iconst 1, 1) := dk_4 (dk_at dksX4_player_0 16 rfl rfl)
theorem dX4_player_17 : decode cX4_player 17 = .ok (.goto 4, 3) := dk_167 0 4 (dk_at dksX4_player_0 17 rfl rfl)
theorem dX4_player_20 : decode cX4_player 20 = .ok (.iconst 0, 1) := dk_3 (dk_at dksX4_player_0 20 rfl rfl)
theorem dX4_player_21 : decode cX4_player 21 = .ok (.invokevirtual 254, 3) := dk_182 0 254 (dk_at dksX4_player_0 21 rfl rfl)
theorem dX4_player_24 : decode cX4_player 24 = .ok (.invokevirtual 169, 3) := dk_182 0 169 (dk_at dksX4_player_1 0 rfl rfl)
theorem dX4_player_27 : decode cX4_player 27 = .ok (.ifCond .eq 17, 3) := dk_153 0 17 (dk_at dksX4_player_1 3 rfl rfl)
theorem dX4_player_30 : decode cX4_player 30 = .ok (.aload_n 0, 1) := dk_42 (dk_at dksX4_player_1 6 rfl rfl)
theorem dX4_player_31 : decode cX4_player 31 = .ok (.getfield 41, 3) := dk_180 0 41 (dk_at dksX4_player_1 7 rfl rfl)
theorem dX4_player_34 : decode cX4_player 34 = .ok (.bipush 10, 2) := dk_16 10 (dk_at dksX4_player_1 10 rfl rfl)
theorem dX4_player_36 : decode cX4_player 36 = .ok (.iload_n 1, 1) := dk_27 (dk_at dksX4_player_1 12 rfl rfl)
theorem dX4_player_37 : decode cX4_player 37 = .ok (.imul, 1) := dk_104 (dk_at dksX4_player_1 13 rfl rfl)
theorem dX4_player_38 : decode cX4_player 38 = .ok (.iload_n 2, 1) := dk_28 (dk_at dksX4_player_1 14 rfl rfl)
theorem dX4_player_39 : decode cX4_player 39 = .ok (.iadd, 1) := dk_96 (dk_at dksX4_player_1 15 rfl rfl)
theorem dX4_player_40 : decode cX4_player 40 = .ok (.iaload, 1) := dk_46 (dk_at dksX4_player_1 16 rfl rfl)
theorem dX4_player_41 : decode cX4_player 41 = .ok (.goto 4, 3) := dk_167 0 4 (dk_at dksX4_player_1 17 rfl rfl)
theorem dX4_player_44 : decode cX4_player 44 = .ok (.iconst 0, 1) := dk_3 (dk_at dksX4_player_1 20 rfl rfl)
theorem dX4_player_45 : decode cX4_player 45 = .ok (.ireturn, 1) := dk_172 (dk_at dksX4_player_1 21 rfl rfl)
abbrev cX4_errorOfMatch : ByteArray := prog_14_method_57_code
def yX4_errorOfMatch : MethodName := ⟨RX4, "errorOfMatch", "(Z)I"⟩
def dkwX4_errorOfMatch_0 : List UInt8 := [27, 154, 0, 7, 4, 167, 0, 15, 42, 180, 0, 166, 153, 0, 7, 3, 167, 0, 4, 5, 172]
abbrev dktX4_errorOfMatch_0 : List UInt8 := dkwX4_errorOfMatch_0 ++ []
theorem dksX4_errorOfMatch_0 : cX4_errorOfMatch.data.toList.drop 0 = dktX4_errorOfMatch_0 := by decide +kernel
theorem dX4_errorOfMatch_0 : decode cX4_errorOfMatch 0 = .ok (.iload_n 1, 1) := dk_27 (dk_at dksX4_errorOfMatch_0 0 rfl rfl)
theorem dX4_errorOfMatch_1 : decode cX4_errorOfMatch 1 = .ok (.ifCond .ne 7, 3) := dk_154 0 7 (dk_at dksX4_errorOfMatch_0 1 rfl rfl)
theorem dX4_errorOfMatch_4 : decode cX4_errorOfMatch 4 = .ok (.iconst 1, 1) := dk_4 (dk_at dksX4_errorOfMatch_0 4 rfl rfl)
theorem dX4_errorOfMatch_5 : decode cX4_errorOfMatch 5 = .ok (.goto 15, 3) := dk_167 0 15 (dk_at dksX4_errorOfMatch_0 5 rfl rfl)
theorem dX4_errorOfMatch_8 : decode cX4_errorOfMatch 8 = .ok (.aload_n 0, 1) := dk_42 (dk_at dksX4_errorOfMatch_0 8 rfl rfl)
theorem dX4_errorOfMatch_9 : decode cX4_errorOfMatch 9 = .ok (.getfield 166, 3) := dk_180 0 166 (dk_at dksX4_errorOfMatch_0 9 rfl rfl)
theorem dX4_errorOfMatch_12 : decode cX4_errorOfMatch 12 = .ok (.ifCond .eq 7, 3) := dk_153 0 7 (dk_at dksX4_errorOfMatch_0 12 rfl rfl)
theorem dX4_errorOfMatch_15 : decode cX4_errorOfMatch 15 = .ok (.iconst 0, 1) := dk_3 (dk_at dksX4_errorOfMatch_0 15 rfl rfl)
theorem dX4_errorOfMatch_16 : decode cX4_errorOfMatch 16 = .ok (.goto 4, 3) := dk_167 0 4 (dk_at dksX4_errorOfMatch_0 16 rfl rfl)
theorem dX4_errorOfMatch_19 : decode cX4_errorOfMatch 19 = .ok (.iconst 2, 1) := dk_5 (dk_at dksX4_errorOfMatch_0 19 rfl rfl)
theorem dX4_errorOfMatch_20 : decode cX4_errorOfMatch 20 = .ok (.ireturn, 1) := dk_172 (dk_at dksX4_errorOfMatch_0 20 rfl rfl)
abbrev cX4_out : ByteArray := prog_14_method_60_code
def yX4_out : MethodName := ⟨RX4, "out", "(II)I"⟩
def dkwX4_out_1 : List UInt8 := [153, 0, 12, 42, 27, 28, 182, 1, 2, 167, 0, 4, 3, 172]
abbrev dktX4_out_1 : List UInt8 := dkwX4_out_1 ++ []
def dkwX4_out_0 : List UInt8 := [42, 42, 27, 184, 0, 192, 153, 0, 11, 28, 155, 0, 7, 4, 167, 0, 4, 3, 182, 0, 254, 182, 0, 169]
abbrev dktX4_out_0 : List UInt8 := dkwX4_out_0 ++ dktX4_out_1
theorem dksX4_out_0 : cX4_out.data.toList.drop 0 = dktX4_out_0 := by decide +kernel
theorem dksX4_out_1 : cX4_out.data.toList.drop 24 = dktX4_out_1 := dk_seg dksX4_out_0 24 rfl rfl
theorem dX4_out_0 : decode cX4_out 0 = .ok (.aload_n 0, 1) := dk_42 (dk_at dksX4_out_0 0 rfl rfl)
theorem dX4_out_1 : decode cX4_out 1 = .ok (.aload_n 0, 1) := dk_42 (dk_at dksX4_out_0 1 rfl rfl)
theorem dX4_out_2 : decode cX4_out 2 = .ok (.iload_n 1, 1) := dk_27 (dk_at dksX4_out_0 2 rfl rfl)
theorem dX4_out_3 : decode cX4_out 3 = .ok (.invokestatic 192, 3) := dk_184 0 192 (dk_at dksX4_out_0 3 rfl rfl)
theorem dX4_out_6 : decode cX4_out 6 = .ok (.ifCond .eq 11, 3) := dk_153 0 11 (dk_at dksX4_out_0 6 rfl rfl)
theorem dX4_out_9 : decode cX4_out 9 = .ok (.iload_n 2, 1) := dk_28 (dk_at dksX4_out_0 9 rfl rfl)
theorem dX4_out_10 : decode cX4_out 10 = .ok (.ifCond .lt 7, 3) := dk_155 0 7 (dk_at dksX4_out_0 10 rfl rfl)
theorem dX4_out_13 : decode cX4_out 13 = .ok (.iconst 1, 1) := dk_4 (dk_at dksX4_out_0 13 rfl rfl)
theorem dX4_out_14 : decode cX4_out 14 = .ok (.goto 4, 3) := dk_167 0 4 (dk_at dksX4_out_0 14 rfl rfl)
theorem dX4_out_17 : decode cX4_out 17 = .ok (.iconst 0, 1) := dk_3 (dk_at dksX4_out_0 17 rfl rfl)
theorem dX4_out_18 : decode cX4_out 18 = .ok (.invokevirtual 254, 3) := dk_182 0 254 (dk_at dksX4_out_0 18 rfl rfl)
theorem dX4_out_21 : decode cX4_out 21 = .ok (.invokevirtual 169, 3) := dk_182 0 169 (dk_at dksX4_out_0 21 rfl rfl)
theorem dX4_out_24 : decode cX4_out 24 = .ok (.ifCond .eq 12, 3) := dk_153 0 12 (dk_at dksX4_out_1 0 rfl rfl)
theorem dX4_out_27 : decode cX4_out 27 = .ok (.aload_n 0, 1) := dk_42 (dk_at dksX4_out_1 3 rfl rfl)
theorem dX4_out_28 : decode cX4_out 28 = .ok (.iload_n 1, 1) := dk_27 (dk_at dksX4_out_1 4 rfl rfl)
theorem dX4_out_29 : decode cX4_out 29 = .ok (.iload_n 2, 1) := dk_28 (dk_at dksX4_out_1 5 rfl rfl)
theorem dX4_out_30 : decode cX4_out 30 = .ok (.invokevirtual 258, 3) := dk_182 1 2 (dk_at dksX4_out_1 6 rfl rfl)
theorem dX4_out_33 : decode cX4_out 33 = .ok (.goto 4, 3) := dk_167 0 4 (dk_at dksX4_out_1 9 rfl rfl)
theorem dX4_out_36 : decode cX4_out 36 = .ok (.iconst 0, 1) := dk_3 (dk_at dksX4_out_1 12 rfl rfl)
theorem dX4_out_37 : decode cX4_out 37 = .ok (.ireturn, 1) := dk_172 (dk_at dksX4_out_1 13 rfl rfl)
abbrev cX4_outAt : ByteArray := prog_14_method_59_code
def yX4_outAt : MethodName := ⟨RX4, "outAt", "(II)I"⟩
def dkwX4_outAt_1 : List UInt8 := [28, 96, 46, 167, 0, 4, 2, 172]
abbrev dktX4_outAt_1 : List UInt8 := dkwX4_outAt_1 ++ []
def dkwX4_outAt_0 : List UInt8 := [28, 42, 180, 0, 41, 16, 100, 27, 96, 46, 162, 0, 20, 42, 180, 0, 41, 16, 80, 16, 10, 27, 104, 96]
abbrev dktX4_outAt_0 : List UInt8 := dkwX4_outAt_0 ++ dktX4_outAt_1
theorem dksX4_outAt_0 : cX4_outAt.data.toList.drop 0 = dktX4_outAt_0 := by decide +kernel
theorem dksX4_outAt_1 : cX4_outAt.data.toList.drop 24 = dktX4_outAt_1 := dk_seg dksX4_outAt_0 24 rfl rfl
theorem dX4_outAt_0 : decode cX4_outAt 0 = .ok (.iload_n 2, 1) := dk_28 (dk_at dksX4_outAt_0 0 rfl rfl)
theorem dX4_outAt_1 : decode cX4_outAt 1 = .ok (.aload_n 0, 1) := dk_42 (dk_at dksX4_outAt_0 1 rfl rfl)
theorem dX4_outAt_2 : decode cX4_outAt 2 = .ok (.getfield 41, 3) := dk_180 0 41 (dk_at dksX4_outAt_0 2 rfl rfl)
theorem dX4_outAt_5 : decode cX4_outAt 5 = .ok (.bipush 100, 2) := dk_16 100 (dk_at dksX4_outAt_0 5 rfl rfl)
theorem dX4_outAt_7 : decode cX4_outAt 7 = .ok (.iload_n 1, 1) := dk_27 (dk_at dksX4_outAt_0 7 rfl rfl)
theorem dX4_outAt_8 : decode cX4_outAt 8 = .ok (.iadd, 1) := dk_96 (dk_at dksX4_outAt_0 8 rfl rfl)
theorem dX4_outAt_9 : decode cX4_outAt 9 = .ok (.iaload, 1) := dk_46 (dk_at dksX4_outAt_0 9 rfl rfl)
theorem dX4_outAt_10 : decode cX4_outAt 10 = .ok (.if_icmp .ge 20, 3) := dk_162 0 20 (dk_at dksX4_outAt_0 10 rfl rfl)
theorem dX4_outAt_13 : decode cX4_outAt 13 = .ok (.aload_n 0, 1) := dk_42 (dk_at dksX4_outAt_0 13 rfl rfl)
theorem dX4_outAt_14 : decode cX4_outAt 14 = .ok (.getfield 41, 3) := dk_180 0 41 (dk_at dksX4_outAt_0 14 rfl rfl)
theorem dX4_outAt_17 : decode cX4_outAt 17 = .ok (.bipush 80, 2) := dk_16 80 (dk_at dksX4_outAt_0 17 rfl rfl)
theorem dX4_outAt_19 : decode cX4_outAt 19 = .ok (.bipush 10, 2) := dk_16 10 (dk_at dksX4_outAt_0 19 rfl rfl)
theorem dX4_outAt_21 : decode cX4_outAt 21 = .ok (.iload_n 1, 1) := dk_27 (dk_at dksX4_outAt_0 21 rfl rfl)
theorem dX4_outAt_22 : decode cX4_outAt 22 = .ok (.imul, 1) := dk_104 (dk_at dksX4_outAt_0 22 rfl rfl)
theorem dX4_outAt_23 : decode cX4_outAt 23 = .ok (.iadd, 1) := dk_96 (dk_at dksX4_outAt_0 23 rfl rfl)
theorem dX4_outAt_24 : decode cX4_outAt 24 = .ok (.iload_n 2, 1) := dk_28 (dk_at dksX4_outAt_1 0 rfl rfl)
theorem dX4_outAt_25 : decode cX4_outAt 25 = .ok (.iadd, 1) := dk_96 (dk_at dksX4_outAt_1 1 rfl rfl)
theorem dX4_outAt_26 : decode cX4_outAt 26 = .ok (.iaload, 1) := dk_46 (dk_at dksX4_outAt_1 2 rfl rfl)
theorem dX4_outAt_27 : decode cX4_outAt 27 = .ok (.goto 4, 3) := dk_167 0 4 (dk_at dksX4_outAt_1 3 rfl rfl)
theorem dX4_outAt_30 : decode cX4_outAt 30 = .ok (.iconst (-1), 1) := dk_2 (dk_at dksX4_outAt_1 6 rfl rfl)
theorem dX4_outAt_31 : decode cX4_outAt 31 = .ok (.ireturn, 1) := dk_172 (dk_at dksX4_outAt_1 7 rfl rfl)
abbrev cX4_next : ByteArray := prog_14_method_61_code
def yX4_next : MethodName := ⟨RX4, "next", "(I)I"⟩
def dkwX4_next_1 : List UInt8 := [3, 172]
abbrev dktX4_next_1 : List UInt8 := dkwX4_next_1 ++ []
def dkwX4_next_0 : List UInt8 := [42, 42, 27, 184, 0, 192, 182, 0, 254, 182, 0, 169, 153, 0, 12, 42, 27, 3, 182, 1, 2, 167, 0, 4]
abbrev dktX4_next_0 : List UInt8 := dkwX4_next_0 ++ dktX4_next_1
theorem dksX4_next_0 : cX4_next.data.toList.drop 0 = dktX4_next_0 := by decide +kernel
theorem dksX4_next_1 : cX4_next.data.toList.drop 24 = dktX4_next_1 := dk_seg dksX4_next_0 24 rfl rfl
theorem dX4_next_0 : decode cX4_next 0 = .ok (.aload_n 0, 1) := dk_42 (dk_at dksX4_next_0 0 rfl rfl)
theorem dX4_next_1 : decode cX4_next 1 = .ok (.aload_n 0, 1) := dk_42 (dk_at dksX4_next_0 1 rfl rfl)
theorem dX4_next_2 : decode cX4_next 2 = .ok (.iload_n 1, 1) := dk_27 (dk_at dksX4_next_0 2 rfl rfl)
theorem dX4_next_3 : decode cX4_next 3 = .ok (.invokestatic 192, 3) := dk_184 0 192 (dk_at dksX4_next_0 3 rfl rfl)
theorem dX4_next_6 : decode cX4_next 6 = .ok (.invokevirtual 254, 3) := dk_182 0 254 (dk_at dksX4_next_0 6 rfl rfl)
theorem dX4_next_9 : decode cX4_next 9 = .ok (.invokevirtual 169, 3) := dk_182 0 169 (dk_at dksX4_next_0 9 rfl rfl)
theorem dX4_next_12 : decode cX4_next 12 = .ok (.ifCond .eq 12, 3) := dk_153 0 12 (dk_at dksX4_next_0 12 rfl rfl)
theorem dX4_next_15 : decode cX4_next 15 = .ok (.aload_n 0, 1) := dk_42 (dk_at dksX4_next_0 15 rfl rfl)
theorem dX4_next_16 : decode cX4_next 16 = .ok (.iload_n 1, 1) := dk_27 (dk_at dksX4_next_0 16 rfl rfl)
theorem dX4_next_17 : decode cX4_next 17 = .ok (.iconst 0, 1) := dk_3 (dk_at dksX4_next_0 17 rfl rfl)
theorem dX4_next_18 : decode cX4_next 18 = .ok (.invokevirtual 258, 3) := dk_182 1 2 (dk_at dksX4_next_0 18 rfl rfl)
theorem dX4_next_21 : decode cX4_next 21 = .ok (.goto 4, 3) := dk_167 0 4 (dk_at dksX4_next_0 21 rfl rfl)
theorem dX4_next_24 : decode cX4_next 24 = .ok (.iconst 0, 1) := dk_3 (dk_at dksX4_next_1 0 rfl rfl)
theorem dX4_next_25 : decode cX4_next 25 = .ok (.ireturn, 1) := dk_172 (dk_at dksX4_next_1 1 rfl rfl)
abbrev cX4_points : ByteArray := prog_14_method_62_code
def yX4_points : MethodName := ⟨RX4, "points", "(I)I"⟩
def dkwX4_points_1 : List UInt8 := [167, 0, 4, 3, 172]
abbrev dktX4_points_1 : List UInt8 := dkwX4_points_1 ++ []
def dkwX4_points_0 : List UInt8 := [42, 42, 27, 184, 0, 192, 182, 0, 254, 182, 0, 169, 153, 0, 15, 42, 180, 0, 41, 16, 104, 27, 96, 46]
abbrev dktX4_points_0 : List UInt8 := dkwX4_points_0 ++ dktX4_points_1
theorem dksX4_points_0 : cX4_points.data.toList.drop 0 = dktX4_points_0 := by decide +kernel
theorem dksX4_points_1 : cX4_points.data.toList.drop 24 = dktX4_points_1 := dk_seg dksX4_points_0 24 rfl rfl
theorem dX4_points_0 : decode cX4_points 0 = .ok (.aload_n 0, 1) := dk_42 (dk_at dksX4_points_0 0 rfl rfl)
theorem dX4_points_1 : decode cX4_points 1 = .ok (.aload_n 0, 1) := dk_42 (dk_at dksX4_points_0 1 rfl rfl)
theorem dX4_points_2 : decode cX4_points 2 = .ok (.iload_n 1, 1) := dk_27 (dk_at dksX4_points_0 2 rfl rfl)
theorem dX4_points_3 : decode cX4_points 3 = .ok (.invokestatic 192, 3) := dk_184 0 192 (dk_at dksX4_points_0 3 rfl rfl)
theorem dX4_points_6 : decode cX4_points 6 = .ok (.invokevirtual 254, 3) := dk_182 0 254 (dk_at dksX4_points_0 6 rfl rfl)
theorem dX4_points_9 : decode cX4_points 9 = .ok (.invokevirtual 169, 3) := dk_182 0 169 (dk_at dksX4_points_0 9 rfl rfl)
theorem dX4_points_12 : decode cX4_points 12 = .ok (.ifCond .eq 15, 3) := dk_153 0 15 (dk_at dksX4_points_0 12 rfl rfl)
theorem dX4_points_15 : decode cX4_points 15 = .ok (.aload_n 0, 1) := dk_42 (dk_at dksX4_points_0 15 rfl rfl)
theorem dX4_points_16 : decode cX4_points 16 = .ok (.getfield 41, 3) := dk_180 0 41 (dk_at dksX4_points_0 16 rfl rfl)
theorem dX4_points_19 : decode cX4_points 19 = .ok (.bipush 104, 2) := dk_16 104 (dk_at dksX4_points_0 19 rfl rfl)
theorem dX4_points_21 : decode cX4_points 21 = .ok (.iload_n 1, 1) := dk_27 (dk_at dksX4_points_0 21 rfl rfl)
theorem dX4_points_22 : decode cX4_points 22 = .ok (.iadd, 1) := dk_96 (dk_at dksX4_points_0 22 rfl rfl)
theorem dX4_points_23 : decode cX4_points 23 = .ok (.iaload, 1) := dk_46 (dk_at dksX4_points_0 23 rfl rfl)
theorem dX4_points_24 : decode cX4_points 24 = .ok (.goto 4, 3) := dk_167 0 4 (dk_at dksX4_points_1 0 rfl rfl)
theorem dX4_points_27 : decode cX4_points 27 = .ok (.iconst 0, 1) := dk_3 (dk_at dksX4_points_1 3 rfl rfl)
theorem dX4_points_28 : decode cX4_points 28 = .ok (.ireturn, 1) := dk_172 (dk_at dksX4_points_1 4 rfl rfl)
abbrev cX4_match : ByteArray := prog_14_method_63_code
def yX4_match : MethodName := ⟨RX4, "match", "(I)I"⟩
def dkwX4_match_5 : List UInt8 := [180, 0, 118, 161, 0, 7, 4, 167, 0, 4, 3, 172, 42, 180, 0, 7, 27, 16, 6, 100, 46, 172]
abbrev dktX4_match_5 : List UInt8 := dkwX4_match_5 ++ []
def dkwX4_match_4 : List UInt8 := [160, 0, 7, 4, 167, 0, 4, 3, 172, 42, 180, 0, 147, 154, 0, 21, 42, 180, 0, 41, 16, 108, 46, 42]
abbrev dktX4_match_4 : List UInt8 := dkwX4_match_4 ++ dktX4_match_5
def dkwX4_match_3 : List UInt8 := [153, 0, 7, 4, 167, 0, 4, 3, 172, 42, 180, 0, 41, 16, 106, 42, 182, 0, 108, 96, 46, 5]
abbrev dktX4_match_3 : List UInt8 := dkwX4_match_3 ++ dktX4_match_4
def dkwX4_match_2 : List UInt8 := [42, 180, 0, 41, 16, 108, 46, 172, 42, 182, 0, 108, 172, 42, 180, 0, 151, 172, 42, 180, 0, 147]
abbrev dktX4_match_2 : List UInt8 := dkwX4_match_2 ++ dktX4_match_3
def dkwX4_match_1 : List UInt8 := [170, 0, 0, 0, 0, 0, 119, 0, 0, 0, 0, 0, 0, 0, 5, 0, 0, 0, 39, 0, 0, 0, 47, 0, 0, 0, 52, 0, 0, 0, 57, 0, 0, 0, 70, 0, 0, 0, 92]
abbrev dktX4_match_1 : List UInt8 := dkwX4_match_1 ++ dktX4_match_2
def dkwX4_match_0 : List UInt8 := [42, 42, 27, 3, 16, 7, 184, 0, 81, 182, 0, 254, 182, 0, 169, 154, 0, 5, 3, 172, 27]
abbrev dktX4_match_0 : List UInt8 := dkwX4_match_0 ++ dktX4_match_1
theorem dksX4_match_0 : cX4_match.data.toList.drop 0 = dktX4_match_0 := by decide +kernel
theorem dksX4_match_1 : cX4_match.data.toList.drop 21 = dktX4_match_1 := dk_seg dksX4_match_0 21 rfl rfl
theorem dksX4_match_2 : cX4_match.data.toList.drop 60 = dktX4_match_2 := dk_seg dksX4_match_1 39 rfl rfl
theorem dksX4_match_3 : cX4_match.data.toList.drop 82 = dktX4_match_3 := dk_seg dksX4_match_2 22 rfl rfl
theorem dksX4_match_4 : cX4_match.data.toList.drop 104 = dktX4_match_4 := dk_seg dksX4_match_3 22 rfl rfl
theorem dksX4_match_5 : cX4_match.data.toList.drop 128 = dktX4_match_5 := dk_seg dksX4_match_4 24 rfl rfl
theorem dX4_match_0 : decode cX4_match 0 = .ok (.aload_n 0, 1) := dk_42 (dk_at dksX4_match_0 0 rfl rfl)
theorem dX4_match_1 : decode cX4_match 1 = .ok (.aload_n 0, 1) := dk_42 (dk_at dksX4_match_0 1 rfl rfl)
theorem dX4_match_2 : decode cX4_match 2 = .ok (.iload_n 1, 1) := dk_27 (dk_at dksX4_match_0 2 rfl rfl)
theorem dX4_match_3 : decode cX4_match 3 = .ok (.iconst 0, 1) := dk_3 (dk_at dksX4_match_0 3 rfl rfl)
theorem dX4_match_4 : decode cX4_match 4 = .ok (.bipush 7, 2) := dk_16 7 (dk_at dksX4_match_0 4 rfl rfl)
theorem dX4_match_6 : decode cX4_match 6 = .ok (.invokestatic 81, 3) := dk_184 0 81 (dk_at dksX4_match_0 6 rfl rfl)
theorem dX4_match_9 : decode cX4_match 9 = .ok (.invokevirtual 254, 3) := dk_182 0 254 (dk_at dksX4_match_0 9 rfl rfl)
theorem dX4_match_12 : decode cX4_match 12 = .ok (.invokevirtual 169, 3) := dk_182 0 169 (dk_at dksX4_match_0 12 rfl rfl)
theorem dX4_match_15 : decode cX4_match 15 = .ok (.ifCond .ne 5, 3) := dk_154 0 5 (dk_at dksX4_match_0 15 rfl rfl)
theorem dX4_match_18 : decode cX4_match 18 = .ok (.iconst 0, 1) := dk_3 (dk_at dksX4_match_0 18 rfl rfl)
theorem dX4_match_19 : decode cX4_match 19 = .ok (.ireturn, 1) := dk_172 (dk_at dksX4_match_0 19 rfl rfl)
theorem dX4_match_20 : decode cX4_match 20 = .ok (.iload_n 1, 1) := dk_27 (dk_at dksX4_match_0 20 rfl rfl)
theorem dX4_match_21 : decode cX4_match 21 = .ok (.tableswitch 119 0 5 #[39, 47, 52, 57, 70, 92], 39) := by decide +kernel
theorem dX4_match_60 : decode cX4_match 60 = .ok (.aload_n 0, 1) := dk_42 (dk_at dksX4_match_2 0 rfl rfl)
theorem dX4_match_61 : decode cX4_match 61 = .ok (.getfield 41, 3) := dk_180 0 41 (dk_at dksX4_match_2 1 rfl rfl)
theorem dX4_match_64 : decode cX4_match 64 = .ok (.bipush 108, 2) := dk_16 108 (dk_at dksX4_match_2 4 rfl rfl)
theorem dX4_match_66 : decode cX4_match 66 = .ok (.iaload, 1) := dk_46 (dk_at dksX4_match_2 6 rfl rfl)
theorem dX4_match_67 : decode cX4_match 67 = .ok (.ireturn, 1) := dk_172 (dk_at dksX4_match_2 7 rfl rfl)
theorem dX4_match_68 : decode cX4_match 68 = .ok (.aload_n 0, 1) := dk_42 (dk_at dksX4_match_2 8 rfl rfl)
theorem dX4_match_69 : decode cX4_match 69 = .ok (.invokevirtual 108, 3) := dk_182 0 108 (dk_at dksX4_match_2 9 rfl rfl)
theorem dX4_match_72 : decode cX4_match 72 = .ok (.ireturn, 1) := dk_172 (dk_at dksX4_match_2 12 rfl rfl)
theorem dX4_match_73 : decode cX4_match 73 = .ok (.aload_n 0, 1) := dk_42 (dk_at dksX4_match_2 13 rfl rfl)
theorem dX4_match_74 : decode cX4_match 74 = .ok (.getfield 151, 3) := dk_180 0 151 (dk_at dksX4_match_2 14 rfl rfl)
theorem dX4_match_77 : decode cX4_match 77 = .ok (.ireturn, 1) := dk_172 (dk_at dksX4_match_2 17 rfl rfl)
theorem dX4_match_78 : decode cX4_match 78 = .ok (.aload_n 0, 1) := dk_42 (dk_at dksX4_match_2 18 rfl rfl)
theorem dX4_match_79 : decode cX4_match 79 = .ok (.getfield 147, 3) := dk_180 0 147 (dk_at dksX4_match_2 19 rfl rfl)
theorem dX4_match_82 : decode cX4_match 82 = .ok (.ifCond .eq 7, 3) := dk_153 0 7 (dk_at dksX4_match_3 0 rfl rfl)
theorem dX4_match_85 : decode cX4_match 85 = .ok (.iconst 1, 1) := dk_4 (dk_at dksX4_match_3 3 rfl rfl)
theorem dX4_match_86 : decode cX4_match 86 = .ok (.goto 4, 3) := dk_167 0 4 (dk_at dksX4_match_3 4 rfl rfl)
theorem dX4_match_89 : decode cX4_match 89 = .ok (.iconst 0, 1) := dk_3 (dk_at dksX4_match_3 7 rfl rfl)
theorem dX4_match_90 : decode cX4_match 90 = .ok (.ireturn, 1) := dk_172 (dk_at dksX4_match_3 8 rfl rfl)
theorem dX4_match_91 : decode cX4_match 91 = .ok (.aload_n 0, 1) := dk_42 (dk_at dksX4_match_3 9 rfl rfl)
theorem dX4_match_92 : decode cX4_match 92 = .ok (.getfield 41, 3) := dk_180 0 41 (dk_at dksX4_match_3 10 rfl rfl)
theorem dX4_match_95 : decode cX4_match 95 = .ok (.bipush 106, 2) := dk_16 106 (dk_at dksX4_match_3 13 rfl rfl)
theorem dX4_match_97 : decode cX4_match 97 = .ok (.aload_n 0, 1) := dk_42 (dk_at dksX4_match_3 15 rfl rfl)
theorem dX4_match_98 : decode cX4_match 98 = .ok (.invokevirtual 108, 3) := dk_182 0 108 (dk_at dksX4_match_3 16 rfl rfl)
theorem dX4_match_101 : decode cX4_match 101 = .ok (.iadd, 1) := dk_96 (dk_at dksX4_match_3 19 rfl rfl)
theorem dX4_match_102 : decode cX4_match 102 = .ok (.iaload, 1) := dk_46 (dk_at dksX4_match_3 20 rfl rfl)
theorem dX4_match_103 : decode cX4_match 103 = .ok (.iconst 2, 1) := dk_5 (dk_at dksX4_match_3 21 rfl rfl)
theorem dX4_match_104 : decode cX4_match 104 = .ok (.if_icmp .ne 7, 3) := dk_160 0 7 (dk_at dksX4_match_4 0 rfl rfl)
theorem dX4_match_107 : decode cX4_match 107 = .ok (.iconst 1, 1) := dk_4 (dk_at dksX4_match_4 3 rfl rfl)
theorem dX4_match_108 : decode cX4_match 108 = .ok (.goto 4, 3) := dk_167 0 4 (dk_at dksX4_match_4 4 rfl rfl)
theorem dX4_match_111 : decode cX4_match 111 = .ok (.iconst 0, 1) := dk_3 (dk_at dksX4_match_4 7 rfl rfl)
theorem dX4_match_112 : decode cX4_match 112 = .ok (.ireturn, 1) := dk_172 (dk_at dksX4_match_4 8 rfl rfl)
theorem dX4_match_113 : decode cX4_match 113 = .ok (.aload_n 0, 1) := dk_42 (dk_at dksX4_match_4 9 rfl rfl)
theorem dX4_match_114 : decode cX4_match 114 = .ok (.getfield 147, 3) := dk_180 0 147 (dk_at dksX4_match_4 10 rfl rfl)
theorem dX4_match_117 : decode cX4_match 117 = .ok (.ifCond .ne 21, 3) := dk_154 0 21 (dk_at dksX4_match_4 13 rfl rfl)
theorem dX4_match_120 : decode cX4_match 120 = .ok (.aload_n 0, 1) := dk_42 (dk_at dksX4_match_4 16 rfl rfl)
theorem dX4_match_121 : decode cX4_match 121 = .ok (.getfield 41, 3) := dk_180 0 41 (dk_at dksX4_match_4 17 rfl rfl)
theorem dX4_match_124 : decode cX4_match 124 = .ok (.bipush 108, 2) := dk_16 108 (dk_at dksX4_match_4 20 rfl rfl)
theorem dX4_match_126 : decode cX4_match 126 = .ok (.iaload, 1) := dk_46 (dk_at dksX4_match_4 22 rfl rfl)
theorem dX4_match_127 : decode cX4_match 127 = .ok (.aload_n 0, 1) := dk_42 (dk_at dksX4_match_4 23 rfl rfl)
theorem dX4_match_128 : decode cX4_match 128 = .ok (.getfield 118, 3) := dk_180 0 118 (dk_at dksX4_match_5 0 rfl rfl)
theorem dX4_match_131 : decode cX4_match 131 = .ok (.if_icmp .lt 7, 3) := dk_161 0 7 (dk_at dksX4_match_5 3 rfl rfl)
theorem dX4_match_134 : decode cX4_match 134 = .ok (.iconst 1, 1) := dk_4 (dk_at dksX4_match_5 6 rfl rfl)
theorem dX4_match_135 : decode cX4_match 135 = .ok (.goto 4, 3) := dk_167 0 4 (dk_at dksX4_match_5 7 rfl rfl)
theorem dX4_match_138 : decode cX4_match 138 = .ok (.iconst 0, 1) := dk_3 (dk_at dksX4_match_5 10 rfl rfl)
theorem dX4_match_139 : decode cX4_match 139 = .ok (.ireturn, 1) := dk_172 (dk_at dksX4_match_5 11 rfl rfl)
theorem dX4_match_140 : decode cX4_match 140 = .ok (.aload_n 0, 1) := dk_42 (dk_at dksX4_match_5 12 rfl rfl)
theorem dX4_match_141 : decode cX4_match 141 = .ok (.getfield 7, 3) := dk_180 0 7 (dk_at dksX4_match_5 13 rfl rfl)
theorem dX4_match_144 : decode cX4_match 144 = .ok (.iload_n 1, 1) := dk_27 (dk_at dksX4_match_5 16 rfl rfl)
theorem dX4_match_145 : decode cX4_match 145 = .ok (.bipush 6, 2) := dk_16 6 (dk_at dksX4_match_5 17 rfl rfl)
theorem dX4_match_147 : decode cX4_match 147 = .ok (.isub, 1) := dk_100 (dk_at dksX4_match_5 19 rfl rfl)
theorem dX4_match_148 : decode cX4_match 148 = .ok (.iaload, 1) := dk_46 (dk_at dksX4_match_5 20 rfl rfl)
theorem dX4_match_149 : decode cX4_match 149 = .ok (.ireturn, 1) := dk_172 (dk_at dksX4_match_5 21 rfl rfl)
abbrev cX4_hasReview : ByteArray := prog_14_method_64_code
def yX4_hasReview : MethodName := ⟨RX4, "hasReview", "(I)Z"⟩
def dkwX4_hasReview_1 : List UInt8 := [4, 167, 0, 4, 3, 172]
abbrev dktX4_hasReview_1 : List UInt8 := dkwX4_hasReview_1 ++ []
def dkwX4_hasReview_0 : List UInt8 := [42, 42, 27, 184, 0, 192, 182, 0, 254, 182, 0, 169, 153, 0, 16, 42, 180, 0, 13, 27, 51, 154, 0, 7]
abbrev dktX4_hasReview_0 : List UInt8 := dkwX4_hasReview_0 ++ dktX4_hasReview_1
theorem dksX4_hasReview_0 : cX4_hasReview.data.toList.drop 0 = dktX4_hasReview_0 := by decide +kernel
theorem dksX4_hasReview_1 : cX4_hasReview.data.toList.drop 24 = dktX4_hasReview_1 := dk_seg dksX4_hasReview_0 24 rfl rfl
theorem dX4_hasReview_0 : decode cX4_hasReview 0 = .ok (.aload_n 0, 1) := dk_42 (dk_at dksX4_hasReview_0 0 rfl rfl)
theorem dX4_hasReview_1 : decode cX4_hasReview 1 = .ok (.aload_n 0, 1) := dk_42 (dk_at dksX4_hasReview_0 1 rfl rfl)
theorem dX4_hasReview_2 : decode cX4_hasReview 2 = .ok (.iload_n 1, 1) := dk_27 (dk_at dksX4_hasReview_0 2 rfl rfl)
theorem dX4_hasReview_3 : decode cX4_hasReview 3 = .ok (.invokestatic 192, 3) := dk_184 0 192 (dk_at dksX4_hasReview_0 3 rfl rfl)
theorem dX4_hasReview_6 : decode cX4_hasReview 6 = .ok (.invokevirtual 254, 3) := dk_182 0 254 (dk_at dksX4_hasReview_0 6 rfl rfl)
theorem dX4_hasReview_9 : decode cX4_hasReview 9 = .ok (.invokevirtual 169, 3) := dk_182 0 169 (dk_at dksX4_hasReview_0 9 rfl rfl)
theorem dX4_hasReview_12 : decode cX4_hasReview 12 = .ok (.ifCond .eq 16, 3) := dk_153 0 16 (dk_at dksX4_hasReview_0 12 rfl rfl)
theorem dX4_hasReview_15 : decode cX4_hasReview 15 = .ok (.aload_n 0, 1) := dk_42 (dk_at dksX4_hasReview_0 15 rfl rfl)
theorem dX4_hasReview_16 : decode cX4_hasReview 16 = .ok (.getfield 13, 3) := dk_180 0 13 (dk_at dksX4_hasReview_0 16 rfl rfl)
theorem dX4_hasReview_19 : decode cX4_hasReview 19 = .ok (.iload_n 1, 1) := dk_27 (dk_at dksX4_hasReview_0 19 rfl rfl)
theorem dX4_hasReview_20 : decode cX4_hasReview 20 = .ok (.baload, 1) := dk_51 (dk_at dksX4_hasReview_0 20 rfl rfl)
theorem dX4_hasReview_21 : decode cX4_hasReview 21 = .ok (.ifCond .ne 7, 3) := dk_154 0 7 (dk_at dksX4_hasReview_0 21 rfl rfl)
theorem dX4_hasReview_24 : decode cX4_hasReview 24 = .ok (.iconst 1, 1) := dk_4 (dk_at dksX4_hasReview_1 0 rfl rfl)
theorem dX4_hasReview_25 : decode cX4_hasReview 25 = .ok (.goto 4, 3) := dk_167 0 4 (dk_at dksX4_hasReview_1 1 rfl rfl)
theorem dX4_hasReview_28 : decode cX4_hasReview 28 = .ok (.iconst 0, 1) := dk_3 (dk_at dksX4_hasReview_1 4 rfl rfl)
theorem dX4_hasReview_29 : decode cX4_hasReview 29 = .ok (.ireturn, 1) := dk_172 (dk_at dksX4_hasReview_1 5 rfl rfl)
abbrev cX4_matAfter : ByteArray := prog_14_method_66_code
def yX4_matAfter : MethodName := ⟨RX4, "matAfter", "(II)I"⟩
def dkwX4_matAfter_1 : List UInt8 := [180, 0, 44, 5, 27, 104, 28, 96, 46, 167, 0, 4, 3, 172]
abbrev dktX4_matAfter_1 : List UInt8 := dkwX4_matAfter_1 ++ []
def dkwX4_matAfter_0 : List UInt8 := [42, 42, 27, 28, 182, 1, 5, 153, 0, 7, 3, 167, 0, 4, 4, 182, 0, 169, 153, 0, 16, 42]
abbrev dktX4_matAfter_0 : List UInt8 := dkwX4_matAfter_0 ++ dktX4_matAfter_1
theorem dksX4_matAfter_0 : cX4_matAfter.data.toList.drop 0 = dktX4_matAfter_0 := by decide +kernel
theorem dksX4_matAfter_1 : cX4_matAfter.data.toList.drop 22 = dktX4_matAfter_1 := dk_seg dksX4_matAfter_0 22 rfl rfl
theorem dX4_matAfter_0 : decode cX4_matAfter 0 = .ok (.aload_n 0, 1) := dk_42 (dk_at dksX4_matAfter_0 0 rfl rfl)
theorem dX4_matAfter_1 : decode cX4_matAfter 1 = .ok (.aload_n 0, 1) := dk_42 (dk_at dksX4_matAfter_0 1 rfl rfl)
theorem dX4_matAfter_2 : decode cX4_matAfter 2 = .ok (.iload_n 1, 1) := dk_27 (dk_at dksX4_matAfter_0 2 rfl rfl)
theorem dX4_matAfter_3 : decode cX4_matAfter 3 = .ok (.iload_n 2, 1) := dk_28 (dk_at dksX4_matAfter_0 3 rfl rfl)
theorem dX4_matAfter_4 : decode cX4_matAfter 4 = .ok (.invokevirtual 261, 3) := dk_182 1 5 (dk_at dksX4_matAfter_0 4 rfl rfl)
theorem dX4_matAfter_7 : decode cX4_matAfter 7 = .ok (.ifCond .eq 7, 3) := dk_153 0 7 (dk_at dksX4_matAfter_0 7 rfl rfl)
theorem dX4_matAfter_10 : decode cX4_matAfter 10 = .ok (.iconst 0, 1) := dk_3 (dk_at dksX4_matAfter_0 10 rfl rfl)
theorem dX4_matAfter_11 : decode cX4_matAfter 11 = .ok (.goto 4, 3) := dk_167 0 4 (dk_at dksX4_matAfter_0 11 rfl rfl)
theorem dX4_matAfter_14 : decode cX4_matAfter 14 = .ok (.iconst 1, 1) := dk_4 (dk_at dksX4_matAfter_0 14 rfl rfl)
theorem dX4_matAfter_15 : decode cX4_matAfter 15 = .ok (.invokevirtual 169, 3) := dk_182 0 169 (dk_at dksX4_matAfter_0 15 rfl rfl)
theorem dX4_matAfter_18 : decode cX4_matAfter 18 = .ok (.ifCond .eq 16, 3) := dk_153 0 16 (dk_at dksX4_matAfter_0 18 rfl rfl)
theorem dX4_matAfter_21 : decode cX4_matAfter 21 = .ok (.aload_n 0, 1) := dk_42 (dk_at dksX4_matAfter_0 21 rfl rfl)
theorem dX4_matAfter_22 : decode cX4_matAfter 22 = .ok (.getfield 44, 3) := dk_180 0 44 (dk_at dksX4_matAfter_1 0 rfl rfl)
theorem dX4_matAfter_25 : decode cX4_matAfter 25 = .ok (.iconst 2, 1) := dk_5 (dk_at dksX4_matAfter_1 3 rfl rfl)
theorem dX4_matAfter_26 : decode cX4_matAfter 26 = .ok (.iload_n 1, 1) := dk_27 (dk_at dksX4_matAfter_1 4 rfl rfl)
theorem dX4_matAfter_27 : decode cX4_matAfter 27 = .ok (.imul, 1) := dk_104 (dk_at dksX4_matAfter_1 5 rfl rfl)
theorem dX4_matAfter_28 : decode cX4_matAfter 28 = .ok (.iload_n 2, 1) := dk_28 (dk_at dksX4_matAfter_1 6 rfl rfl)
theorem dX4_matAfter_29 : decode cX4_matAfter 29 = .ok (.iadd, 1) := dk_96 (dk_at dksX4_matAfter_1 7 rfl rfl)
theorem dX4_matAfter_30 : decode cX4_matAfter 30 = .ok (.iaload, 1) := dk_46 (dk_at dksX4_matAfter_1 8 rfl rfl)
theorem dX4_matAfter_31 : decode cX4_matAfter 31 = .ok (.goto 4, 3) := dk_167 0 4 (dk_at dksX4_matAfter_1 9 rfl rfl)
theorem dX4_matAfter_34 : decode cX4_matAfter 34 = .ok (.iconst 0, 1) := dk_3 (dk_at dksX4_matAfter_1 12 rfl rfl)
theorem dX4_matAfter_35 : decode cX4_matAfter 35 = .ok (.ireturn, 1) := dk_172 (dk_at dksX4_matAfter_1 13 rfl rfl)
abbrev cX4_hasEnded : ByteArray := prog_14_method_65_code
def yX4_hasEnded : MethodName := ⟨RX4, "hasEnded", "(II)Z"⟩
def dkwX4_hasEnded_1 : List UInt8 := [184, 0, 192, 153, 0, 7, 4, 167, 0, 4, 3, 172]
abbrev dktX4_hasEnded_1 : List UInt8 := dkwX4_hasEnded_1 ++ []
def dkwX4_hasEnded_0 : List UInt8 := [42, 180, 0, 166, 153, 0, 28, 27, 3, 42, 182, 0, 157, 4, 100, 184, 0, 81, 153, 0, 14, 28]
abbrev dktX4_hasEnded_0 : List UInt8 := dkwX4_hasEnded_0 ++ dktX4_hasEnded_1
theorem dksX4_hasEnded_0 : cX4_hasEnded.data.toList.drop 0 = dktX4_hasEnded_0 := by decide +kernel
theorem dksX4_hasEnded_1 : cX4_hasEnded.data.toList.drop 22 = dktX4_hasEnded_1 := dk_seg dksX4_hasEnded_0 22 rfl rfl
theorem dX4_hasEnded_0 : decode cX4_hasEnded 0 = .ok (.aload_n 0, 1) := dk_42 (dk_at dksX4_hasEnded_0 0 rfl rfl)
theorem dX4_hasEnded_1 : decode cX4_hasEnded 1 = .ok (.getfield 166, 3) := dk_180 0 166 (dk_at dksX4_hasEnded_0 1 rfl rfl)
theorem dX4_hasEnded_4 : decode cX4_hasEnded 4 = .ok (.ifCond .eq 28, 3) := dk_153 0 28 (dk_at dksX4_hasEnded_0 4 rfl rfl)
theorem dX4_hasEnded_7 : decode cX4_hasEnded 7 = .ok (.iload_n 1, 1) := dk_27 (dk_at dksX4_hasEnded_0 7 rfl rfl)
theorem dX4_hasEnded_8 : decode cX4_hasEnded 8 = .ok (.iconst 0, 1) := dk_3 (dk_at dksX4_hasEnded_0 8 rfl rfl)
theorem dX4_hasEnded_9 : decode cX4_hasEnded 9 = .ok (.aload_n 0, 1) := dk_42 (dk_at dksX4_hasEnded_0 9 rfl rfl)
theorem dX4_hasEnded_10 : decode cX4_hasEnded 10 = .ok (.invokevirtual 157, 3) := dk_182 0 157 (dk_at dksX4_hasEnded_0 10 rfl rfl)
theorem dX4_hasEnded_13 : decode cX4_hasEnded 13 = .ok (.iconst 1, 1) := dk_4 (dk_at dksX4_hasEnded_0 13 rfl rfl)
theorem dX4_hasEnded_14 : decode cX4_hasEnded 14 = .ok (.isub, 1) := dk_100 (dk_at dksX4_hasEnded_0 14 rfl rfl)
theorem dX4_hasEnded_15 : decode cX4_hasEnded 15 = .ok (.invokestatic 81, 3) := dk_184 0 81 (dk_at dksX4_hasEnded_0 15 rfl rfl)
theorem dX4_hasEnded_18 : decode cX4_hasEnded 18 = .ok (.ifCond .eq 14, 3) := dk_153 0 14 (dk_at dksX4_hasEnded_0 18 rfl rfl)
theorem dX4_hasEnded_21 : decode cX4_hasEnded 21 = .ok (.iload_n 2, 1) := dk_28 (dk_at dksX4_hasEnded_0 21 rfl rfl)
theorem dX4_hasEnded_22 : decode cX4_hasEnded 22 = .ok (.invokestatic 192, 3) := dk_184 0 192 (dk_at dksX4_hasEnded_1 0 rfl rfl)
theorem dX4_hasEnded_25 : decode cX4_hasEnded 25 = .ok (.ifCond .eq 7, 3) := dk_153 0 7 (dk_at dksX4_hasEnded_1 3 rfl rfl)
theorem dX4_hasEnded_28 : decode cX4_hasEnded 28 = .ok (.iconst 1, 1) := dk_4 (dk_at dksX4_hasEnded_1 6 rfl rfl)
theorem dX4_hasEnded_29 : decode cX4_hasEnded 29 = .ok (.goto 4, 3) := dk_167 0 4 (dk_at dksX4_hasEnded_1 7 rfl rfl)
theorem dX4_hasEnded_32 : decode cX4_hasEnded 32 = .ok (.iconst 0, 1) := dk_3 (dk_at dksX4_hasEnded_1 10 rfl rfl)
theorem dX4_hasEnded_33 : decode cX4_hasEnded 33 = .ok (.ireturn, 1) := dk_172 (dk_at dksX4_hasEnded_1 11 rfl rfl)
abbrev cX4_matAnew : ByteArray := prog_14_method_67_code
def yX4_matAnew : MethodName := ⟨RX4, "matAnew", "(II)I"⟩
def dkwX4_matAnew_0 : List UInt8 := [42, 27, 28, 182, 1, 8, 172]
abbrev dktX4_matAnew_0 : List UInt8 := dkwX4_matAnew_0 ++ []
theorem dksX4_matAnew_0 : cX4_matAnew.data.toList.drop 0 = dktX4_matAnew_0 := by decide +kernel
theorem dX4_matAnew_0 : decode cX4_matAnew 0 = .ok (.aload_n 0, 1) := dk_42 (dk_at dksX4_matAnew_0 0 rfl rfl)
theorem dX4_matAnew_1 : decode cX4_matAnew 1 = .ok (.iload_n 1, 1) := dk_27 (dk_at dksX4_matAnew_0 1 rfl rfl)
theorem dX4_matAnew_2 : decode cX4_matAnew 2 = .ok (.iload_n 2, 1) := dk_28 (dk_at dksX4_matAnew_0 2 rfl rfl)
theorem dX4_matAnew_3 : decode cX4_matAnew 3 = .ok (.invokevirtual 264, 3) := dk_182 1 8 (dk_at dksX4_matAnew_0 3 rfl rfl)
theorem dX4_matAnew_6 : decode cX4_matAnew 6 = .ok (.ireturn, 1) := dk_172 (dk_at dksX4_matAnew_0 6 rfl rfl)
abbrev cX4_pointsAfter : ByteArray := prog_14_method_68_code
def yX4_pointsAfter : MethodName := ⟨RX4, "pointsAfter", "(II)I"⟩
def dkwX4_pointsAfter_1 : List UInt8 := [180, 0, 47, 5, 27, 104, 28, 96, 46, 167, 0, 4, 3, 172]
abbrev dktX4_pointsAfter_1 : List UInt8 := dkwX4_pointsAfter_1 ++ []
def dkwX4_pointsAfter_0 : List UInt8 := [42, 42, 27, 28, 182, 1, 5, 153, 0, 7, 3, 167, 0, 4, 4, 182, 0, 169, 153, 0, 16, 42]
abbrev dktX4_pointsAfter_0 : List UInt8 := dkwX4_pointsAfter_0 ++ dktX4_pointsAfter_1
theorem dksX4_pointsAfter_0 : cX4_pointsAfter.data.toList.drop 0 = dktX4_pointsAfter_0 := by decide +kernel
theorem dksX4_pointsAfter_1 : cX4_pointsAfter.data.toList.drop 22 = dktX4_pointsAfter_1 := dk_seg dksX4_pointsAfter_0 22 rfl rfl
theorem dX4_pointsAfter_0 : decode cX4_pointsAfter 0 = .ok (.aload_n 0, 1) := dk_42 (dk_at dksX4_pointsAfter_0 0 rfl rfl)
theorem dX4_pointsAfter_1 : decode cX4_pointsAfter 1 = .ok (.aload_n 0, 1) := dk_42 (dk_at dksX4_pointsAfter_0 1 rfl rfl)
theorem dX4_pointsAfter_2 : decode cX4_pointsAfter 2 = .ok (.iload_n 1, 1) := dk_27 (dk_at dksX4_pointsAfter_0 2 rfl rfl)
theorem dX4_pointsAfter_3 : decode cX4_pointsAfter 3 = .ok (.iload_n 2, 1) := dk_28 (dk_at dksX4_pointsAfter_0 3 rfl rfl)
theorem dX4_pointsAfter_4 : decode cX4_pointsAfter 4 = .ok (.invokevirtual 261, 3) := dk_182 1 5 (dk_at dksX4_pointsAfter_0 4 rfl rfl)
theorem dX4_pointsAfter_7 : decode cX4_pointsAfter 7 = .ok (.ifCond .eq 7, 3) := dk_153 0 7 (dk_at dksX4_pointsAfter_0 7 rfl rfl)
theorem dX4_pointsAfter_10 : decode cX4_pointsAfter 10 = .ok (.iconst 0, 1) := dk_3 (dk_at dksX4_pointsAfter_0 10 rfl rfl)
theorem dX4_pointsAfter_11 : decode cX4_pointsAfter 11 = .ok (.goto 4, 3) := dk_167 0 4 (dk_at dksX4_pointsAfter_0 11 rfl rfl)
theorem dX4_pointsAfter_14 : decode cX4_pointsAfter 14 = .ok (.iconst 1, 1) := dk_4 (dk_at dksX4_pointsAfter_0 14 rfl rfl)
theorem dX4_pointsAfter_15 : decode cX4_pointsAfter 15 = .ok (.invokevirtual 169, 3) := dk_182 0 169 (dk_at dksX4_pointsAfter_0 15 rfl rfl)
theorem dX4_pointsAfter_18 : decode cX4_pointsAfter 18 = .ok (.ifCond .eq 16, 3) := dk_153 0 16 (dk_at dksX4_pointsAfter_0 18 rfl rfl)
theorem dX4_pointsAfter_21 : decode cX4_pointsAfter 21 = .ok (.aload_n 0, 1) := dk_42 (dk_at dksX4_pointsAfter_0 21 rfl rfl)
theorem dX4_pointsAfter_22 : decode cX4_pointsAfter 22 = .ok (.getfield 47, 3) := dk_180 0 47 (dk_at dksX4_pointsAfter_1 0 rfl rfl)
theorem dX4_pointsAfter_25 : decode cX4_pointsAfter 25 = .ok (.iconst 2, 1) := dk_5 (dk_at dksX4_pointsAfter_1 3 rfl rfl)
theorem dX4_pointsAfter_26 : decode cX4_pointsAfter 26 = .ok (.iload_n 1, 1) := dk_27 (dk_at dksX4_pointsAfter_1 4 rfl rfl)
theorem dX4_pointsAfter_27 : decode cX4_pointsAfter 27 = .ok (.imul, 1) := dk_104 (dk_at dksX4_pointsAfter_1 5 rfl rfl)
theorem dX4_pointsAfter_28 : decode cX4_pointsAfter 28 = .ok (.iload_n 2, 1) := dk_28 (dk_at dksX4_pointsAfter_1 6 rfl rfl)
theorem dX4_pointsAfter_29 : decode cX4_pointsAfter 29 = .ok (.iadd, 1) := dk_96 (dk_at dksX4_pointsAfter_1 7 rfl rfl)
theorem dX4_pointsAfter_30 : decode cX4_pointsAfter 30 = .ok (.iaload, 1) := dk_46 (dk_at dksX4_pointsAfter_1 8 rfl rfl)
theorem dX4_pointsAfter_31 : decode cX4_pointsAfter 31 = .ok (.goto 4, 3) := dk_167 0 4 (dk_at dksX4_pointsAfter_1 9 rfl rfl)
theorem dX4_pointsAfter_34 : decode cX4_pointsAfter 34 = .ok (.iconst 0, 1) := dk_3 (dk_at dksX4_pointsAfter_1 12 rfl rfl)
theorem dX4_pointsAfter_35 : decode cX4_pointsAfter 35 = .ok (.ireturn, 1) := dk_172 (dk_at dksX4_pointsAfter_1 13 rfl rfl)
abbrev cX4_raidPoints : ByteArray := prog_14_method_69_code
def yX4_raidPoints : MethodName := ⟨RX4, "raidPoints", "(II)I"⟩
def dkwX4_raidPoints_2 : List UInt8 := [172]
abbrev dktX4_raidPoints_2 : List UInt8 := dkwX4_raidPoints_2 ++ []
def dkwX4_raidPoints_1 : List UInt8 := [182, 0, 169, 153, 0, 20, 42, 180, 0, 41, 16, 60, 16, 10, 27, 104, 96, 28, 96, 46, 167, 0, 4, 3]
abbrev dktX4_raidPoints_1 : List UInt8 := dkwX4_raidPoints_1 ++ dktX4_raidPoints_2
def dkwX4_raidPoints_0 : List UInt8 := [42, 42, 27, 184, 0, 192, 153, 0, 14, 28, 184, 0, 175, 153, 0, 7, 4, 167, 0, 4, 3, 182, 0, 254]
abbrev dktX4_raidPoints_0 : List UInt8 := dkwX4_raidPoints_0 ++ dktX4_raidPoints_1
theorem dksX4_raidPoints_0 : cX4_raidPoints.data.toList.drop 0 = dktX4_raidPoints_0 := by decide +kernel
theorem dksX4_raidPoints_1 : cX4_raidPoints.data.toList.drop 24 = dktX4_raidPoints_1 := dk_seg dksX4_raidPoints_0 24 rfl rfl
theorem dksX4_raidPoints_2 : cX4_raidPoints.data.toList.drop 48 = dktX4_raidPoints_2 := dk_seg dksX4_raidPoints_1 24 rfl rfl
theorem dX4_raidPoints_0 : decode cX4_raidPoints 0 = .ok (.aload_n 0, 1) := dk_42 (dk_at dksX4_raidPoints_0 0 rfl rfl)
theorem dX4_raidPoints_1 : decode cX4_raidPoints 1 = .ok (.aload_n 0, 1) := dk_42 (dk_at dksX4_raidPoints_0 1 rfl rfl)
theorem dX4_raidPoints_2 : decode cX4_raidPoints 2 = .ok (.iload_n 1, 1) := dk_27 (dk_at dksX4_raidPoints_0 2 rfl rfl)
theorem dX4_raidPoints_3 : decode cX4_raidPoints 3 = .ok (.invokestatic 192, 3) := dk_184 0 192 (dk_at dksX4_raidPoints_0 3 rfl rfl)
theorem dX4_raidPoints_6 : decode cX4_raidPoints 6 = .ok (.ifCond .eq 14, 3) := dk_153 0 14 (dk_at dksX4_raidPoints_0 6 rfl rfl)
theorem dX4_raidPoints_9 : decode cX4_raidPoints 9 = .ok (.iload_n 2, 1) := dk_28 (dk_at dksX4_raidPoints_0 9 rfl rfl)
theorem dX4_raidPoints_10 : decode cX4_raidPoints 10 = .ok (.invokestatic 175, 3) := dk_184 0 175 (dk_at dksX4_raidPoints_0 10 rfl rfl)
theorem dX4_raidPoints_13 : decode cX4_raidPoints 13 = .ok (.ifCond .eq 7, 3) := dk_153 0 7 (dk_at dksX4_raidPoints_0 13 rfl rfl)
theorem dX4_raidPoints_16 : decode cX4_raidPoints 16 = .ok (.iconst 1, 1) := dk_4 (dk_at dksX4_raidPoints_0 16 rfl rfl)
theorem dX4_raidPoints_17 : decode cX4_raidPoints 17 = .ok (.goto 4, 3) := dk_167 0 4 (dk_at dksX4_raidPoints_0 17 rfl rfl)
theorem dX4_raidPoints_20 : decode cX4_raidPoints 20 = .ok (.iconst 0, 1) := dk_3 (dk_at dksX4_raidPoints_0 20 rfl rfl)
theorem dX4_raidPoints_21 : decode cX4_raidPoints 21 = .ok (.invokevirtual 254, 3) := dk_182 0 254 (dk_at dksX4_raidPoints_0 21 rfl rfl)
theorem dX4_raidPoints_24 : decode cX4_raidPoints 24 = .ok (.invokevirtual 169, 3) := dk_182 0 169 (dk_at dksX4_raidPoints_1 0 rfl rfl)
theorem dX4_raidPoints_27 : decode cX4_raidPoints 27 = .ok (.ifCond .eq 20, 3) := dk_153 0 20 (dk_at dksX4_raidPoints_1 3 rfl rfl)
theorem dX4_raidPoints_30 : decode cX4_raidPoints 30 = .ok (.aload_n 0, 1) := dk_42 (dk_at dksX4_raidPoints_1 6 rfl rfl)
theorem dX4_raidPoints_31 : decode cX4_raidPoints 31 = .ok (.getfield 41, 3) := dk_180 0 41 (dk_at dksX4_raidPoints_1 7 rfl rfl)
theorem dX4_raidPoints_34 : decode cX4_raidPoints 34 = .ok (.bipush 60, 2) := dk_16 60 (dk_at dksX4_raidPoints_1 10 rfl rfl)
theorem dX4_raidPoints_36 : decode cX4_raidPoints 36 = .ok (.bipush 10, 2) := dk_16 10 (dk_at dksX4_raidPoints_1 12 rfl rfl)
theorem dX4_raidPoints_38 : decode cX4_raidPoints 38 = .ok (.iload_n 1, 1) := dk_27 (dk_at dksX4_raidPoints_1 14 rfl rfl)
theorem dX4_raidPoints_39 : decode cX4_raidPoints 39 = .ok (.imul, 1) := dk_104 (dk_at dksX4_raidPoints_1 15 rfl rfl)
theorem dX4_raidPoints_40 : decode cX4_raidPoints 40 = .ok (.iadd, 1) := dk_96 (dk_at dksX4_raidPoints_1 16 rfl rfl)
theorem dX4_raidPoints_41 : decode cX4_raidPoints 41 = .ok (.iload_n 2, 1) := dk_28 (dk_at dksX4_raidPoints_1 17 rfl rfl)
theorem dX4_raidPoints_42 : decode cX4_raidPoints 42 = .ok (.iadd, 1) := dk_96 (dk_at dksX4_raidPoints_1 18 rfl rfl)
theorem dX4_raidPoints_43 : decode cX4_raidPoints 43 = .ok (.iaload, 1) := dk_46 (dk_at dksX4_raidPoints_1 19 rfl rfl)
theorem dX4_raidPoints_44 : decode cX4_raidPoints 44 = .ok (.goto 4, 3) := dk_167 0 4 (dk_at dksX4_raidPoints_1 20 rfl rfl)
theorem dX4_raidPoints_47 : decode cX4_raidPoints 47 = .ok (.iconst 0, 1) := dk_3 (dk_at dksX4_raidPoints_1 23 rfl rfl)
theorem dX4_raidPoints_48 : decode cX4_raidPoints 48 = .ok (.ireturn, 1) := dk_172 (dk_at dksX4_raidPoints_2 0 rfl rfl)
abbrev cX4_club : ByteArray := prog_14_method_72_code
def yX4_club : MethodName := ⟨RX4, "club", "(II)I"⟩
def dkwX4_club_2 : List UInt8 := [27, 104, 28, 96, 46, 167, 0, 8, 42, 27, 182, 1, 14, 172]
abbrev dktX4_club_2 : List UInt8 := dkwX4_club_2 ++ []
def dkwX4_club_1 : List UInt8 := [167, 0, 4, 5, 182, 0, 169, 154, 0, 5, 3, 172, 28, 16, 6, 162, 0, 17, 42, 180, 0, 53, 16, 6]
abbrev dktX4_club_1 : List UInt8 := dkwX4_club_1 ++ dktX4_club_2
def dkwX4_club_0 : List UInt8 := [42, 27, 184, 0, 163, 154, 0, 7, 4, 167, 0, 18, 28, 3, 16, 6, 184, 0, 81, 153, 0, 7, 3]
abbrev dktX4_club_0 : List UInt8 := dkwX4_club_0 ++ dktX4_club_1
theorem dksX4_club_0 : cX4_club.data.toList.drop 0 = dktX4_club_0 := by decide +kernel
theorem dksX4_club_1 : cX4_club.data.toList.drop 23 = dktX4_club_1 := dk_seg dksX4_club_0 23 rfl rfl
theorem dksX4_club_2 : cX4_club.data.toList.drop 47 = dktX4_club_2 := dk_seg dksX4_club_1 24 rfl rfl
theorem dX4_club_0 : decode cX4_club 0 = .ok (.aload_n 0, 1) := dk_42 (dk_at dksX4_club_0 0 rfl rfl)
theorem dX4_club_1 : decode cX4_club 1 = .ok (.iload_n 1, 1) := dk_27 (dk_at dksX4_club_0 1 rfl rfl)
theorem dX4_club_2 : decode cX4_club 2 = .ok (.invokestatic 163, 3) := dk_184 0 163 (dk_at dksX4_club_0 2 rfl rfl)
theorem dX4_club_5 : decode cX4_club 5 = .ok (.ifCond .ne 7, 3) := dk_154 0 7 (dk_at dksX4_club_0 5 rfl rfl)
theorem dX4_club_8 : decode cX4_club 8 = .ok (.iconst 1, 1) := dk_4 (dk_at dksX4_club_0 8 rfl rfl)
theorem dX4_club_9 : decode cX4_club 9 = .ok (.goto 18, 3) := dk_167 0 18 (dk_at dksX4_club_0 9 rfl rfl)
theorem dX4_club_12 : decode cX4_club 12 = .ok (.iload_n 2, 1) := dk_28 (dk_at dksX4_club_0 12 rfl rfl)
theorem dX4_club_13 : decode cX4_club 13 = .ok (.iconst 0, 1) := dk_3 (dk_at dksX4_club_0 13 rfl rfl)
theorem dX4_club_14 : decode cX4_club 14 = .ok (.bipush 6, 2) := dk_16 6 (dk_at dksX4_club_0 14 rfl rfl)
theorem dX4_club_16 : decode cX4_club 16 = .ok (.invokestatic 81, 3) := dk_184 0 81 (dk_at dksX4_club_0 16 rfl rfl)
theorem dX4_club_19 : decode cX4_club 19 = .ok (.ifCond .eq 7, 3) := dk_153 0 7 (dk_at dksX4_club_0 19 rfl rfl)
theorem dX4_club_22 : decode cX4_club 22 = .ok (.iconst 0, 1) := dk_3 (dk_at dksX4_club_0 22 rfl rfl)
theorem dX4_club_23 : decode cX4_club 23 = .ok (.goto 4, 3) := dk_167 0 4 (dk_at dksX4_club_1 0 rfl rfl)
theorem dX4_club_26 : decode cX4_club 26 = .ok (.iconst 2, 1) := dk_5 (dk_at dksX4_club_1 3 rfl rfl)
theorem dX4_club_27 : decode cX4_club 27 = .ok (.invokevirtual 169, 3) := dk_182 0 169 (dk_at dksX4_club_1 4 rfl rfl)
theorem dX4_club_30 : decode cX4_club 30 = .ok (.ifCond .ne 5, 3) := dk_154 0 5 (dk_at dksX4_club_1 7 rfl rfl)
theorem dX4_club_33 : decode cX4_club 33 = .ok (.iconst 0, 1) := dk_3 (dk_at dksX4_club_1 10 rfl rfl)
theorem dX4_club_34 : decode cX4_club 34 = .ok (.ireturn, 1) := dk_172 (dk_at dksX4_club_1 11 rfl rfl)
theorem dX4_club_35 : decode cX4_club 35 = .ok (.iload_n 2, 1) := dk_28 (dk_at dksX4_club_1 12 rfl rfl)
theorem dX4_club_36 : decode cX4_club 36 = .ok (.bipush 6, 2) := dk_16 6 (dk_at dksX4_club_1 13 rfl rfl)
theorem dX4_club_38 : decode cX4_club 38 = .ok (.if_icmp .ge 17, 3) := dk_162 0 17 (dk_at dksX4_club_1 15 rfl rfl)
theorem dX4_club_41 : decode cX4_club 41 = .ok (.aload_n 0, 1) := dk_42 (dk_at dksX4_club_1 18 rfl rfl)
theorem dX4_club_42 : decode cX4_club 42 = .ok (.getfield 53, 3) := dk_180 0 53 (dk_at dksX4_club_1 19 rfl rfl)
theorem dX4_club_45 : decode cX4_club 45 = .ok (.bipush 6, 2) := dk_16 6 (dk_at dksX4_club_1 22 rfl rfl)
theorem dX4_club_47 : decode cX4_club 47 = .ok (.iload_n 1, 1) := dk_27 (dk_at dksX4_club_2 0 rfl rfl)
theorem dX4_club_48 : decode cX4_club 48 = .ok (.imul, 1) := dk_104 (dk_at dksX4_club_2 1 rfl rfl)
theorem dX4_club_49 : decode cX4_club 49 = .ok (.iload_n 2, 1) := dk_28 (dk_at dksX4_club_2 2 rfl rfl)
theorem dX4_club_50 : decode cX4_club 50 = .ok (.iadd, 1) := dk_96 (dk_at dksX4_club_2 3 rfl rfl)
theorem dX4_club_51 : decode cX4_club 51 = .ok (.iaload, 1) := dk_46 (dk_at dksX4_club_2 4 rfl rfl)
theorem dX4_club_52 : decode cX4_club 52 = .ok (.goto 8, 3) := dk_167 0 8 (dk_at dksX4_club_2 5 rfl rfl)
theorem dX4_club_55 : decode cX4_club 55 = .ok (.aload_n 0, 1) := dk_42 (dk_at dksX4_club_2 8 rfl rfl)
theorem dX4_club_56 : decode cX4_club 56 = .ok (.iload_n 1, 1) := dk_27 (dk_at dksX4_club_2 9 rfl rfl)
theorem dX4_club_57 : decode cX4_club 57 = .ok (.invokevirtual 270, 3) := dk_182 1 14 (dk_at dksX4_club_2 10 rfl rfl)
theorem dX4_club_60 : decode cX4_club 60 = .ok (.ireturn, 1) := dk_172 (dk_at dksX4_club_2 13 rfl rfl)
abbrev cX4_rankOf : ByteArray := prog_14_method_71_code
def yX4_rankOf : MethodName := ⟨RX4, "rankOf", "(I)I"⟩
def dkwX4_rankOf_1 : List UInt8 := [153, 0, 7, 4, 167, 0, 4, 3, 96, 61, 132, 3, 1, 167, 255, 225, 28, 172]
abbrev dktX4_rankOf_1 : List UInt8 := dkwX4_rankOf_1 ++ []
def dkwX4_rankOf_0 : List UInt8 := [3, 61, 3, 62, 29, 16, 8, 162, 0, 31, 28, 29, 27, 159, 0, 16, 42, 29, 27, 182, 1, 11]
abbrev dktX4_rankOf_0 : List UInt8 := dkwX4_rankOf_0 ++ dktX4_rankOf_1
theorem dksX4_rankOf_0 : cX4_rankOf.data.toList.drop 0 = dktX4_rankOf_0 := by decide +kernel
theorem dksX4_rankOf_1 : cX4_rankOf.data.toList.drop 22 = dktX4_rankOf_1 := dk_seg dksX4_rankOf_0 22 rfl rfl
theorem dX4_rankOf_0 : decode cX4_rankOf 0 = .ok (.iconst 0, 1) := dk_3 (dk_at dksX4_rankOf_0 0 rfl rfl)
theorem dX4_rankOf_1 : decode cX4_rankOf 1 = .ok (.istore_n 2, 1) := dk_61 (dk_at dksX4_rankOf_0 1 rfl rfl)
theorem dX4_rankOf_2 : decode cX4_rankOf 2 = .ok (.iconst 0, 1) := dk_3 (dk_at dksX4_rankOf_0 2 rfl rfl)
theorem dX4_rankOf_3 : decode cX4_rankOf 3 = .ok (.istore_n 3, 1) := dk_62 (dk_at dksX4_rankOf_0 3 rfl rfl)
theorem dX4_rankOf_4 : decode cX4_rankOf 4 = .ok (.iload_n 3, 1) := dk_29 (dk_at dksX4_rankOf_0 4 rfl rfl)
theorem dX4_rankOf_5 : decode cX4_rankOf 5 = .ok (.bipush 8, 2) := dk_16 8 (dk_at dksX4_rankOf_0 5 rfl rfl)
theorem dX4_rankOf_7 : decode cX4_rankOf 7 = .ok (.if_icmp .ge 31, 3) := dk_162 0 31 (dk_at dksX4_rankOf_0 7 rfl rfl)
theorem dX4_rankOf_10 : decode cX4_rankOf 10 = .ok (.iload_n 2, 1) := dk_28 (dk_at dksX4_rankOf_0 10 rfl rfl)
theorem dX4_rankOf_11 : decode cX4_rankOf 11 = .ok (.iload_n 3, 1) := dk_29 (dk_at dksX4_rankOf_0 11 rfl rfl)
theorem dX4_rankOf_12 : decode cX4_rankOf 12 = .ok (.iload_n 1, 1) := dk_27 (dk_at dksX4_rankOf_0 12 rfl rfl)
theorem dX4_rankOf_13 : decode cX4_rankOf 13 = .ok (.if_icmp .eq 16, 3) := dk_159 0 16 (dk_at dksX4_rankOf_0 13 rfl rfl)
theorem dX4_rankOf_16 : decode cX4_rankOf 16 = .ok (.aload_n 0, 1) := dk_42 (dk_at dksX4_rankOf_0 16 rfl rfl)
theorem dX4_rankOf_17 : decode cX4_rankOf 17 = .ok (.iload_n 3, 1) := dk_29 (dk_at dksX4_rankOf_0 17 rfl rfl)
theorem dX4_rankOf_18 : decode cX4_rankOf 18 = .ok (.iload_n 1, 1) := dk_27 (dk_at dksX4_rankOf_0 18 rfl rfl)
theorem dX4_rankOf_19 : decode cX4_rankOf 19 = .ok (.invokevirtual 267, 3) := dk_182 1 11 (dk_at dksX4_rankOf_0 19 rfl rfl)
theorem dX4_rankOf_22 : decode cX4_rankOf 22 = .ok (.ifCond .eq 7, 3) := dk_153 0 7 (dk_at dksX4_rankOf_1 0 rfl rfl)
theorem dX4_rankOf_25 : decode cX4_rankOf 25 = .ok (.iconst 1, 1) := dk_4 (dk_at dksX4_rankOf_1 3 rfl rfl)
theorem dX4_rankOf_26 : decode cX4_rankOf 26 = .ok (.goto 4, 3) := dk_167 0 4 (dk_at dksX4_rankOf_1 4 rfl rfl)
theorem dX4_rankOf_29 : decode cX4_rankOf 29 = .ok (.iconst 0, 1) := dk_3 (dk_at dksX4_rankOf_1 7 rfl rfl)
theorem dX4_rankOf_30 : decode cX4_rankOf 30 = .ok (.iadd, 1) := dk_96 (dk_at dksX4_rankOf_1 8 rfl rfl)
theorem dX4_rankOf_31 : decode cX4_rankOf 31 = .ok (.istore_n 2, 1) := dk_61 (dk_at dksX4_rankOf_1 9 rfl rfl)
theorem dX4_rankOf_32 : decode cX4_rankOf 32 = .ok (.iinc 3 1, 3) := dk_132 3 1 (dk_at dksX4_rankOf_1 10 rfl rfl)
theorem dX4_rankOf_35 : decode cX4_rankOf 35 = .ok (.goto (-31), 3) := dk_167 255 225 (dk_at dksX4_rankOf_1 13 rfl rfl)
theorem dX4_rankOf_38 : decode cX4_rankOf 38 = .ok (.iload_n 2, 1) := dk_28 (dk_at dksX4_rankOf_1 16 rfl rfl)
theorem dX4_rankOf_39 : decode cX4_rankOf 39 = .ok (.ireturn, 1) := dk_172 (dk_at dksX4_rankOf_1 17 rfl rfl)
abbrev cX4_isAhead : ByteArray := prog_14_method_70_code
def yX4_isAhead : MethodName := ⟨RX4, "isAhead", "(II)Z"⟩
def dkwX4_isAhead_9 : List UInt8 := [162, 0, 7, 4, 167, 0, 4, 3, 172, 29, 158, 0, 7, 4, 167, 0, 4, 3, 172]
abbrev dktX4_isAhead_9 : List UInt8 := dkwX4_isAhead_9 ++ []
def dkwX4_isAhead_8 : List UInt8 := [21, 5, 133, 105, 101, 55, 8, 22, 8, 9, 148, 157, 0, 15, 22, 8, 9, 148, 154, 0, 12, 27, 28]
abbrev dktX4_isAhead_8 : List UInt8 := dkwX4_isAhead_8 ++ dktX4_isAhead_9
def dkwX4_isAhead_7 : List UInt8 := [21, 7, 96, 154, 0, 7, 4, 167, 0, 5, 21, 7, 54, 7, 21, 4, 133, 21, 7, 133, 105, 21, 6, 133]
abbrev dktX4_isAhead_7 : List UInt8 := dkwX4_isAhead_7 ++ dktX4_isAhead_8
def dkwX4_isAhead_6 : List UInt8 := [21, 7, 154, 0, 7, 4, 167, 0, 5, 21, 6, 54, 6, 42, 180, 0, 53, 16, 6, 28, 104, 7, 96, 46]
abbrev dktX4_isAhead_6 : List UInt8 := dkwX4_isAhead_6 ++ dktX4_isAhead_7
def dkwX4_isAhead_5 : List UInt8 := [96, 154, 0, 7, 4, 167, 0, 5, 21, 5, 54, 5, 21, 6, 21, 7, 96, 154, 0, 7, 4, 167, 0, 14]
abbrev dktX4_isAhead_5 : List UInt8 := dkwX4_isAhead_5 ++ dktX4_isAhead_6
def dkwX4_isAhead_4 : List UInt8 := [154, 0, 7, 4, 167, 0, 5, 21, 4, 54, 4, 42, 180, 0, 53, 16, 6, 27, 104, 7, 96, 46, 21, 5]
abbrev dktX4_isAhead_4 : List UInt8 := dkwX4_isAhead_4 ++ dktX4_isAhead_5
def dkwX4_isAhead_3 : List UInt8 := [16, 6, 28, 104, 8, 96, 46, 54, 7, 21, 4, 21, 5, 96, 154, 0, 7, 4, 167, 0, 14, 21, 5]
abbrev dktX4_isAhead_3 : List UInt8 := dkwX4_isAhead_3 ++ dktX4_isAhead_4
def dkwX4_isAhead_2 : List UInt8 := [104, 8, 96, 46, 54, 5, 42, 180, 0, 53, 16, 6, 28, 104, 7, 96, 46, 54, 6, 42, 180, 0, 53]
abbrev dktX4_isAhead_2 : List UInt8 := dkwX4_isAhead_2 ++ dktX4_isAhead_3
def dkwX4_isAhead_1 : List UInt8 := [29, 154, 0, 197, 42, 180, 0, 53, 16, 6, 27, 104, 7, 96, 46, 54, 4, 42, 180, 0, 53, 16, 6, 27]
abbrev dktX4_isAhead_1 : List UInt8 := dkwX4_isAhead_1 ++ dktX4_isAhead_2
def dkwX4_isAhead_0 : List UInt8 := [42, 180, 0, 53, 16, 6, 27, 104, 6, 96, 46, 42, 180, 0, 53, 16, 6, 28, 104, 6, 96, 46, 100, 62]
abbrev dktX4_isAhead_0 : List UInt8 := dkwX4_isAhead_0 ++ dktX4_isAhead_1
theorem dksX4_isAhead_0 : cX4_isAhead.data.toList.drop 0 = dktX4_isAhead_0 := by decide +kernel
theorem dksX4_isAhead_1 : cX4_isAhead.data.toList.drop 24 = dktX4_isAhead_1 := dk_seg dksX4_isAhead_0 24 rfl rfl
theorem dksX4_isAhead_2 : cX4_isAhead.data.toList.drop 48 = dktX4_isAhead_2 := dk_seg dksX4_isAhead_1 24 rfl rfl
theorem dksX4_isAhead_3 : cX4_isAhead.data.toList.drop 71 = dktX4_isAhead_3 := dk_seg dksX4_isAhead_2 23 rfl rfl
theorem dksX4_isAhead_4 : cX4_isAhead.data.toList.drop 94 = dktX4_isAhead_4 := dk_seg dksX4_isAhead_3 23 rfl rfl
theorem dksX4_isAhead_5 : cX4_isAhead.data.toList.drop 118 = dktX4_isAhead_5 := dk_seg dksX4_isAhead_4 24 rfl rfl
theorem dksX4_isAhead_6 : cX4_isAhead.data.toList.drop 142 = dktX4_isAhead_6 := dk_seg dksX4_isAhead_5 24 rfl rfl
theorem dksX4_isAhead_7 : cX4_isAhead.data.toList.drop 166 = dktX4_isAhead_7 := dk_seg dksX4_isAhead_6 24 rfl rfl
theorem dksX4_isAhead_8 : cX4_isAhead.data.toList.drop 190 = dktX4_isAhead_8 := dk_seg dksX4_isAhead_7 24 rfl rfl
theorem dksX4_isAhead_9 : cX4_isAhead.data.toList.drop 213 = dktX4_isAhead_9 := dk_seg dksX4_isAhead_8 23 rfl rfl
theorem dX4_isAhead_0 : decode cX4_isAhead 0 = .ok (.aload_n 0, 1) := dk_42 (dk_at dksX4_isAhead_0 0 rfl rfl)
theorem dX4_isAhead_1 : decode cX4_isAhead 1 = .ok (.getfield 53, 3) := dk_180 0 53 (dk_at dksX4_isAhead_0 1 rfl rfl)
theorem dX4_isAhead_4 : decode cX4_isAhead 4 = .ok (.bipush 6, 2) := dk_16 6 (dk_at dksX4_isAhead_0 4 rfl rfl)
theorem dX4_isAhead_6 : decode cX4_isAhead 6 = .ok (.iload_n 1, 1) := dk_27 (dk_at dksX4_isAhead_0 6 rfl rfl)
theorem dX4_isAhead_7 : decode cX4_isAhead 7 = .ok (.imul, 1) := dk_104 (dk_at dksX4_isAhead_0 7 rfl rfl)
theorem dX4_isAhead_8 : decode cX4_isAhead 8 = .ok (.iconst 3, 1) := dk_6 (dk_at dksX4_isAhead_0 8 rfl rfl)
theorem dX4_isAhead_9 : decode cX4_isAhead 9 = .ok (.iadd, 1) := dk_96 (dk_at dksX4_isAhead_0 9 rfl rfl)
theorem dX4_isAhead_10 : decode cX4_isAhead 10 = .ok (.iaload, 1) := dk_46 (dk_at dksX4_isAhead_0 10 rfl rfl)
theorem dX4_isAhead_11 : decode cX4_isAhead 11 = .ok (.aload_n 0, 1) := dk_42 (dk_at dksX4_isAhead_0 11 rfl rfl)
theorem dX4_isAhead_12 : decode cX4_isAhead 12 = .ok (.getfield 53, 3) := dk_180 0 53 (dk_at dksX4_isAhead_0 12 rfl rfl)
theorem dX4_isAhead_15 : decode cX4_isAhead 15 = .ok (.bipush 6, 2) := dk_16 6 (dk_at dksX4_isAhead_0 15 rfl rfl)
theorem dX4_isAhead_17 : decode cX4_isAhead 17 = .ok (.iload_n 2, 1) := dk_28 (dk_at dksX4_isAhead_0 17 rfl rfl)
theorem dX4_isAhead_18 : decode cX4_isAhead 18 = .ok (.imul, 1) := dk_104 (dk_at dksX4_isAhead_0 18 rfl rfl)
theorem dX4_isAhead_19 : decode cX4_isAhead 19 = .ok (.iconst 3, 1) := dk_6 (dk_at dksX4_isAhead_0 19 rfl rfl)
theorem dX4_isAhead_20 : decode cX4_isAhead 20 = .ok (.iadd, 1) := dk_96 (dk_at dksX4_isAhead_0 20 rfl rfl)
theorem dX4_isAhead_21 : decode cX4_isAhead 21 = .ok (.iaload, 1) := dk_46 (dk_at dksX4_isAhead_0 21 rfl rfl)
theorem dX4_isAhead_22 : decode cX4_isAhead 22 = .ok (.isub, 1) := dk_100 (dk_at dksX4_isAhead_0 22 rfl rfl)
theorem dX4_isAhead_23 : decode cX4_isAhead 23 = .ok (.istore_n 3, 1) := dk_62 (dk_at dksX4_isAhead_0 23 rfl rfl)
theorem dX4_isAhead_24 : decode cX4_isAhead 24 = .ok (.iload_n 3, 1) := dk_29 (dk_at dksX4_isAhead_1 0 rfl rfl)
theorem dX4_isAhead_25 : decode cX4_isAhead 25 = .ok (.ifCond .ne 197, 3) := dk_154 0 197 (dk_at dksX4_isAhead_1 1 rfl rfl)
theorem dX4_isAhead_28 : decode cX4_isAhead 28 = .ok (.aload_n 0, 1) := dk_42 (dk_at dksX4_isAhead_1 4 rfl rfl)
theorem dX4_isAhead_29 : decode cX4_isAhead 29 = .ok (.getfield 53, 3) := dk_180 0 53 (dk_at dksX4_isAhead_1 5 rfl rfl)
theorem dX4_isAhead_32 : decode cX4_isAhead 32 = .ok (.bipush 6, 2) := dk_16 6 (dk_at dksX4_isAhead_1 8 rfl rfl)
theorem dX4_isAhead_34 : decode cX4_isAhead 34 = .ok (.iload_n 1, 1) := dk_27 (dk_at dksX4_isAhead_1 10 rfl rfl)
theorem dX4_isAhead_35 : decode cX4_isAhead 35 = .ok (.imul, 1) := dk_104 (dk_at dksX4_isAhead_1 11 rfl rfl)
theorem dX4_isAhead_36 : decode cX4_isAhead 36 = .ok (.iconst 4, 1) := dk_7 (dk_at dksX4_isAhead_1 12 rfl rfl)
theorem dX4_isAhead_37 : decode cX4_isAhead 37 = .ok (.iadd, 1) := dk_96 (dk_at dksX4_isAhead_1 13 rfl rfl)
theorem dX4_isAhead_38 : decode cX4_isAhead 38 = .ok (.iaload, 1) := dk_46 (dk_at dksX4_isAhead_1 14 rfl rfl)
theorem dX4_isAhead_39 : decode cX4_isAhead 39 = .ok (.istore 4, 2) := dk_54 4 (dk_at dksX4_isAhead_1 15 rfl rfl)
theorem dX4_isAhead_41 : decode cX4_isAhead 41 = .ok (.aload_n 0, 1) := dk_42 (dk_at dksX4_isAhead_1 17 rfl rfl)
theorem dX4_isAhead_42 : decode cX4_isAhead 42 = .ok (.getfield 53, 3) := dk_180 0 53 (dk_at dksX4_isAhead_1 18 rfl rfl)
theorem dX4_isAhead_45 : decode cX4_isAhead 45 = .ok (.bipush 6, 2) := dk_16 6 (dk_at dksX4_isAhead_1 21 rfl rfl)
theorem dX4_isAhead_47 : decode cX4_isAhead 47 = .ok (.iload_n 1, 1) := dk_27 (dk_at dksX4_isAhead_1 23 rfl rfl)
theorem dX4_isAhead_48 : decode cX4_isAhead 48 = .ok (.imul, 1) := dk_104 (dk_at dksX4_isAhead_2 0 rfl rfl)
theorem dX4_isAhead_49 : decode cX4_isAhead 49 = .ok (.iconst 5, 1) := dk_8 (dk_at dksX4_isAhead_2 1 rfl rfl)
theorem dX4_isAhead_50 : decode cX4_isAhead 50 = .ok (.iadd, 1) := dk_96 (dk_at dksX4_isAhead_2 2 rfl rfl)
theorem dX4_isAhead_51 : decode cX4_isAhead 51 = .ok (.iaload, 1) := dk_46 (dk_at dksX4_isAhead_2 3 rfl rfl)
theorem dX4_isAhead_52 : decode cX4_isAhead 52 = .ok (.istore 5, 2) := dk_54 5 (dk_at dksX4_isAhead_2 4 rfl rfl)
theorem dX4_isAhead_54 : decode cX4_isAhead 54 = .ok (.aload_n 0, 1) := dk_42 (dk_at dksX4_isAhead_2 6 rfl rfl)
theorem dX4_isAhead_55 : decode cX4_isAhead 55 = .ok (.getfield 53, 3) := dk_180 0 53 (dk_at dksX4_isAhead_2 7 rfl rfl)
theorem dX4_isAhead_58 : decode cX4_isAhead 58 = .ok (.bipush 6, 2) := dk_16 6 (dk_at dksX4_isAhead_2 10 rfl rfl)
theorem dX4_isAhead_60 : decode cX4_isAhead 60 = .ok (.iload_n 2, 1) := dk_28 (dk_at dksX4_isAhead_2 12 rfl rfl)
theorem dX4_isAhead_61 : decode cX4_isAhead 61 = .ok (.imul, 1) := dk_104 (dk_at dksX4_isAhead_2 13 rfl rfl)
theorem dX4_isAhead_62 : decode cX4_isAhead 62 = .ok (.iconst 4, 1) := dk_7 (dk_at dksX4_isAhead_2 14 rfl rfl)
theorem dX4_isAhead_63 : decode cX4_isAhead 63 = .ok (.iadd, 1) := dk_96 (dk_at dksX4_isAhead_2 15 rfl rfl)
theorem dX4_isAhead_64 : decode cX4_isAhead 64 = .ok (.iaload, 1) := dk_46 (dk_at dksX4_isAhead_2 16 rfl rfl)
theorem dX4_isAhead_65 : decode cX4_isAhead 65 = .ok (.istore 6, 2) := dk_54 6 (dk_at dksX4_isAhead_2 17 rfl rfl)
theorem dX4_isAhead_67 : decode cX4_isAhead 67 = .ok (.aload_n 0, 1) := dk_42 (dk_at dksX4_isAhead_2 19 rfl rfl)
theorem dX4_isAhead_68 : decode cX4_isAhead 68 = .ok (.getfield 53, 3) := dk_180 0 53 (dk_at dksX4_isAhead_2 20 rfl rfl)
theorem dX4_isAhead_71 : decode cX4_isAhead 71 = .ok (.bipush 6, 2) := dk_16 6 (dk_at dksX4_isAhead_3 0 rfl rfl)
theorem dX4_isAhead_73 : decode cX4_isAhead 73 = .ok (.iload_n 2, 1) := dk_28 (dk_at dksX4_isAhead_3 2 rfl rfl)
theorem dX4_isAhead_74 : decode cX4_isAhead 74 = .ok (.imul, 1) := dk_104 (dk_at dksX4_isAhead_3 3 rfl rfl)
theorem dX4_isAhead_75 : decode cX4_isAhead 75 = .ok (.iconst 5, 1) := dk_8 (dk_at dksX4_isAhead_3 4 rfl rfl)
theorem dX4_isAhead_76 : decode cX4_isAhead 76 = .ok (.iadd, 1) := dk_96 (dk_at dksX4_isAhead_3 5 rfl rfl)
theorem dX4_isAhead_77 : decode cX4_isAhead 77 = .ok (.iaload, 1) := dk_46 (dk_at dksX4_isAhead_3 6 rfl rfl)
theorem dX4_isAhead_78 : decode cX4_isAhead 78 = .ok (.istore 7, 2) := dk_54 7 (dk_at dksX4_isAhead_3 7 rfl rfl)
theorem dX4_isAhead_80 : decode cX4_isAhead 80 = .ok (.iload 4, 2) := dk_21 4 (dk_at dksX4_isAhead_3 9 rfl rfl)
theorem dX4_isAhead_82 : decode cX4_isAhead 82 = .ok (.iload 5, 2) := dk_21 5 (dk_at dksX4_isAhead_3 11 rfl rfl)
theorem dX4_isAhead_84 : decode cX4_isAhead 84 = .ok (.iadd, 1) := dk_96 (dk_at dksX4_isAhead_3 13 rfl rfl)
theorem dX4_isAhead_85 : decode cX4_isAhead 85 = .ok (.ifCond .ne 7, 3) := dk_154 0 7 (dk_at dksX4_isAhead_3 14 rfl rfl)
theorem dX4_isAhead_88 : decode cX4_isAhead 88 = .ok (.iconst 1, 1) := dk_4 (dk_at dksX4_isAhead_3 17 rfl rfl)
theorem dX4_isAhead_89 : decode cX4_isAhead 89 = .ok (.goto 14, 3) := dk_167 0 14 (dk_at dksX4_isAhead_3 18 rfl rfl)
theorem dX4_isAhead_92 : decode cX4_isAhead 92 = .ok (.iload 5, 2) := dk_21 5 (dk_at dksX4_isAhead_3 21 rfl rfl)
theorem dX4_isAhead_94 : decode cX4_isAhead 94 = .ok (.ifCond .ne 7, 3) := dk_154 0 7 (dk_at dksX4_isAhead_4 0 rfl rfl)
theorem dX4_isAhead_97 : decode cX4_isAhead 97 = .ok (.iconst 1, 1) := dk_4 (dk_at dksX4_isAhead_4 3 rfl rfl)
theorem dX4_isAhead_98 : decode cX4_isAhead 98 = .ok (.goto 5, 3) := dk_167 0 5 (dk_at dksX4_isAhead_4 4 rfl rfl)
theorem dX4_isAhead_101 : decode cX4_isAhead 101 = .ok (.iload 4, 2) := dk_21 4 (dk_at dksX4_isAhead_4 7 rfl rfl)
theorem dX4_isAhead_103 : decode cX4_isAhead 103 = .ok (.istore 4, 2) := dk_54 4 (dk_at dksX4_isAhead_4 9 rfl rfl)
theorem dX4_isAhead_105 : decode cX4_isAhead 105 = .ok (.aload_n 0, 1) := dk_42 (dk_at dksX4_isAhead_4 11 rfl rfl)
theorem dX4_isAhead_106 : decode cX4_isAhead 106 = .ok (.getfield 53, 3) := dk_180 0 53 (dk_at dksX4_isAhead_4 12 rfl rfl)
theorem dX4_isAhead_109 : decode cX4_isAhead 109 = .ok (.bipush 6, 2) := dk_16 6 (dk_at dksX4_isAhead_4 15 rfl rfl)
theorem dX4_isAhead_111 : decode cX4_isAhead 111 = .ok (.iload_n 1, 1) := dk_27 (dk_at dksX4_isAhead_4 17 rfl rfl)
theorem dX4_isAhead_112 : decode cX4_isAhead 112 = .ok (.imul, 1) := dk_104 (dk_at dksX4_isAhead_4 18 rfl rfl)
theorem dX4_isAhead_113 : decode cX4_isAhead 113 = .ok (.iconst 4, 1) := dk_7 (dk_at dksX4_isAhead_4 19 rfl rfl)
theorem dX4_isAhead_114 : decode cX4_isAhead 114 = .ok (.iadd, 1) := dk_96 (dk_at dksX4_isAhead_4 20 rfl rfl)
theorem dX4_isAhead_115 : decode cX4_isAhead 115 = .ok (.iaload, 1) := dk_46 (dk_at dksX4_isAhead_4 21 rfl rfl)
theorem dX4_isAhead_116 : decode cX4_isAhead 116 = .ok (.iload 5, 2) := dk_21 5 (dk_at dksX4_isAhead_4 22 rfl rfl)
theorem dX4_isAhead_118 : decode cX4_isAhead 118 = .ok (.iadd, 1) := dk_96 (dk_at dksX4_isAhead_5 0 rfl rfl)
theorem dX4_isAhead_119 : decode cX4_isAhead 119 = .ok (.ifCond .ne 7, 3) := dk_154 0 7 (dk_at dksX4_isAhead_5 1 rfl rfl)
theorem dX4_isAhead_122 : decode cX4_isAhead 122 = .ok (.iconst 1, 1) := dk_4 (dk_at dksX4_isAhead_5 4 rfl rfl)
theorem dX4_isAhead_123 : decode cX4_isAhead 123 = .ok (.goto 5, 3) := dk_167 0 5 (dk_at dksX4_isAhead_5 5 rfl rfl)
theorem dX4_isAhead_126 : decode cX4_isAhead 126 = .ok (.iload 5, 2) := dk_21 5 (dk_at dksX4_isAhead_5 8 rfl rfl)
theorem dX4_isAhead_128 : decode cX4_isAhead 128 = .ok (.istore 5, 2) := dk_54 5 (dk_at dksX4_isAhead_5 10 rfl rfl)
theorem dX4_isAhead_130 : decode cX4_isAhead 130 = .ok (.iload 6, 2) := dk_21 6 (dk_at dksX4_isAhead_5 12 rfl rfl)
theorem dX4_isAhead_132 : decode cX4_isAhead 132 = .ok (.iload 7, 2) := dk_21 7 (dk_at dksX4_isAhead_5 14 rfl rfl)
theorem dX4_isAhead_134 : decode cX4_isAhead 134 = .ok (.iadd, 1) := dk_96 (dk_at dksX4_isAhead_5 16 rfl rfl)
theorem dX4_isAhead_135 : decode cX4_isAhead 135 = .ok (.ifCond .ne 7, 3) := dk_154 0 7 (dk_at dksX4_isAhead_5 17 rfl rfl)
theorem dX4_isAhead_138 : decode cX4_isAhead 138 = .ok (.iconst 1, 1) := dk_4 (dk_at dksX4_isAhead_5 20 rfl rfl)
theorem dX4_isAhead_139 : decode cX4_isAhead 139 = .ok (.goto 14, 3) := dk_167 0 14 (dk_at dksX4_isAhead_5 21 rfl rfl)
theorem dX4_isAhead_142 : decode cX4_isAhead 142 = .ok (.iload 7, 2) := dk_21 7 (dk_at dksX4_isAhead_6 0 rfl rfl)
theorem dX4_isAhead_144 : decode cX4_isAhead 144 = .ok (.ifCond .ne 7, 3) := dk_154 0 7 (dk_at dksX4_isAhead_6 2 rfl rfl)
theorem dX4_isAhead_147 : decode cX4_isAhead 147 = .ok (.iconst 1, 1) := dk_4 (dk_at dksX4_isAhead_6 5 rfl rfl)
theorem dX4_isAhead_148 : decode cX4_isAhead 148 = .ok (.goto 5, 3) := dk_167 0 5 (dk_at dksX4_isAhead_6 6 rfl rfl)
theorem dX4_isAhead_151 : decode cX4_isAhead 151 = .ok (.iload 6, 2) := dk_21 6 (dk_at dksX4_isAhead_6 9 rfl rfl)
theorem dX4_isAhead_153 : decode cX4_isAhead 153 = .ok (.istore 6, 2) := dk_54 6 (dk_at dksX4_isAhead_6 11 rfl rfl)
theorem dX4_isAhead_155 : decode cX4_isAhead 155 = .ok (.aload_n 0, 1) := dk_42 (dk_at dksX4_isAhead_6 13 rfl rfl)
theorem dX4_isAhead_156 : decode cX4_isAhead 156 = .ok (.getfield 53, 3) := dk_180 0 53 (dk_at dksX4_isAhead_6 14 rfl rfl)
theorem dX4_isAhead_159 : decode cX4_isAhead 159 = .ok (.bipush 6, 2) := dk_16 6 (dk_at dksX4_isAhead_6 17 rfl rfl)
theorem dX4_isAhead_161 : decode cX4_isAhead 161 = .ok (.iload_n 2, 1) := dk_28 (dk_at dksX4_isAhead_6 19 rfl rfl)
theorem dX4_isAhead_162 : decode cX4_isAhead 162 = .ok (.imul, 1) := dk_104 (dk_at dksX4_isAhead_6 20 rfl rfl)
theorem dX4_isAhead_163 : decode cX4_isAhead 163 = .ok (.iconst 4, 1) := dk_7 (dk_at dksX4_isAhead_6 21 rfl rfl)
theorem dX4_isAhead_164 : decode cX4_isAhead 164 = .ok (.iadd, 1) := dk_96 (dk_at dksX4_isAhead_6 22 rfl rfl)
theorem dX4_isAhead_165 : decode cX4_isAhead 165 = .ok (.iaload, 1) := dk_46 (dk_at dksX4_isAhead_6 23 rfl rfl)
theorem dX4_isAhead_166 : decode cX4_isAhead 166 = .ok (.iload 7, 2) := dk_21 7 (dk_at dksX4_isAhead_7 0 rfl rfl)
theorem dX4_isAhead_168 : decode cX4_isAhead 168 = .ok (.iadd, 1) := dk_96 (dk_at dksX4_isAhead_7 2 rfl rfl)
theorem dX4_isAhead_169 : decode cX4_isAhead 169 = .ok (.ifCond .ne 7, 3) := dk_154 0 7 (dk_at dksX4_isAhead_7 3 rfl rfl)
theorem dX4_isAhead_172 : decode cX4_isAhead 172 = .ok (.iconst 1, 1) := dk_4 (dk_at dksX4_isAhead_7 6 rfl rfl)
theorem dX4_isAhead_173 : decode cX4_isAhead 173 = .ok (.goto 5, 3) := dk_167 0 5 (dk_at dksX4_isAhead_7 7 rfl rfl)
theorem dX4_isAhead_176 : decode cX4_isAhead 176 = .ok (.iload 7, 2) := dk_21 7 (dk_at dksX4_isAhead_7 10 rfl rfl)
theorem dX4_isAhead_178 : decode cX4_isAhead 178 = .ok (.istore 7, 2) := dk_54 7 (dk_at dksX4_isAhead_7 12 rfl rfl)
theorem dX4_isAhead_180 : decode cX4_isAhead 180 = .ok (.iload 4, 2) := dk_21 4 (dk_at dksX4_isAhead_7 14 rfl rfl)
theorem dX4_isAhead_182 : decode cX4_isAhead 182 = .ok (.i2l, 1) := dk_133 (dk_at dksX4_isAhead_7 16 rfl rfl)
theorem dX4_isAhead_183 : decode cX4_isAhead 183 = .ok (.iload 7, 2) := dk_21 7 (dk_at dksX4_isAhead_7 17 rfl rfl)
theorem dX4_isAhead_185 : decode cX4_isAhead 185 = .ok (.i2l, 1) := dk_133 (dk_at dksX4_isAhead_7 19 rfl rfl)
theorem dX4_isAhead_186 : decode cX4_isAhead 186 = .ok (.lmul, 1) := dk_105 (dk_at dksX4_isAhead_7 20 rfl rfl)
theorem dX4_isAhead_187 : decode cX4_isAhead 187 = .ok (.iload 6, 2) := dk_21 6 (dk_at dksX4_isAhead_7 21 rfl rfl)
theorem dX4_isAhead_189 : decode cX4_isAhead 189 = .ok (.i2l, 1) := dk_133 (dk_at dksX4_isAhead_7 23 rfl rfl)
theorem dX4_isAhead_190 : decode cX4_isAhead 190 = .ok (.iload 5, 2) := dk_21 5 (dk_at dksX4_isAhead_8 0 rfl rfl)
theorem dX4_isAhead_192 : decode cX4_isAhead 192 = .ok (.i2l, 1) := dk_133 (dk_at dksX4_isAhead_8 2 rfl rfl)
theorem dX4_isAhead_193 : decode cX4_isAhead 193 = .ok (.lmul, 1) := dk_105 (dk_at dksX4_isAhead_8 3 rfl rfl)
theorem dX4_isAhead_194 : decode cX4_isAhead 194 = .ok (.lsub, 1) := dk_101 (dk_at dksX4_isAhead_8 4 rfl rfl)
theorem dX4_isAhead_195 : decode cX4_isAhead 195 = .ok (.lstore 8, 2) := dk_55 8 (dk_at dksX4_isAhead_8 5 rfl rfl)
theorem dX4_isAhead_197 : decode cX4_isAhead 197 = .ok (.lload 8, 2) := dk_22 8 (dk_at dksX4_isAhead_8 7 rfl rfl)
theorem dX4_isAhead_199 : decode cX4_isAhead 199 = .ok (.lconst 0, 1) := dk_9 (dk_at dksX4_isAhead_8 9 rfl rfl)
theorem dX4_isAhead_200 : decode cX4_isAhead 200 = .ok (.lcmp, 1) := dk_148 (dk_at dksX4_isAhead_8 10 rfl rfl)
theorem dX4_isAhead_201 : decode cX4_isAhead 201 = .ok (.ifCond .gt 15, 3) := dk_157 0 15 (dk_at dksX4_isAhead_8 11 rfl rfl)
theorem dX4_isAhead_204 : decode cX4_isAhead 204 = .ok (.lload 8, 2) := dk_22 8 (dk_at dksX4_isAhead_8 14 rfl rfl)
theorem dX4_isAhead_206 : decode cX4_isAhead 206 = .ok (.lconst 0, 1) := dk_9 (dk_at dksX4_isAhead_8 16 rfl rfl)
theorem dX4_isAhead_207 : decode cX4_isAhead 207 = .ok (.lcmp, 1) := dk_148 (dk_at dksX4_isAhead_8 17 rfl rfl)
theorem dX4_isAhead_208 : decode cX4_isAhead 208 = .ok (.ifCond .ne 12, 3) := dk_154 0 12 (dk_at dksX4_isAhead_8 18 rfl rfl)
theorem dX4_isAhead_211 : decode cX4_isAhead 211 = .ok (.iload_n 1, 1) := dk_27 (dk_at dksX4_isAhead_8 21 rfl rfl)
theorem dX4_isAhead_212 : decode cX4_isAhead 212 = .ok (.iload_n 2, 1) := dk_28 (dk_at dksX4_isAhead_8 22 rfl rfl)
theorem dX4_isAhead_213 : decode cX4_isAhead 213 = .ok (.if_icmp .ge 7, 3) := dk_162 0 7 (dk_at dksX4_isAhead_9 0 rfl rfl)
theorem dX4_isAhead_216 : decode cX4_isAhead 216 = .ok (.iconst 1, 1) := dk_4 (dk_at dksX4_isAhead_9 3 rfl rfl)
theorem dX4_isAhead_217 : decode cX4_isAhead 217 = .ok (.goto 4, 3) := dk_167 0 4 (dk_at dksX4_isAhead_9 4 rfl rfl)
theorem dX4_isAhead_220 : decode cX4_isAhead 220 = .ok (.iconst 0, 1) := dk_3 (dk_at dksX4_isAhead_9 7 rfl rfl)
theorem dX4_isAhead_221 : decode cX4_isAhead 221 = .ok (.ireturn, 1) := dk_172 (dk_at dksX4_isAhead_9 8 rfl rfl)
theorem dX4_isAhead_222 : decode cX4_isAhead 222 = .ok (.iload_n 3, 1) := dk_29 (dk_at dksX4_isAhead_9 9 rfl rfl)
theorem dX4_isAhead_223 : decode cX4_isAhead 223 = .ok (.ifCond .le 7, 3) := dk_158 0 7 (dk_at dksX4_isAhead_9 10 rfl rfl)
theorem dX4_isAhead_226 : decode cX4_isAhead 226 = .ok (.iconst 1, 1) := dk_4 (dk_at dksX4_isAhead_9 13 rfl rfl)
theorem dX4_isAhead_227 : decode cX4_isAhead 227 = .ok (.goto 4, 3) := dk_167 0 4 (dk_at dksX4_isAhead_9 14 rfl rfl)
theorem dX4_isAhead_230 : decode cX4_isAhead 230 = .ok (.iconst 0, 1) := dk_3 (dk_at dksX4_isAhead_9 17 rfl rfl)
theorem dX4_isAhead_231 : decode cX4_isAhead 231 = .ok (.ireturn, 1) := dk_172 (dk_at dksX4_isAhead_9 18 rfl rfl)
abbrev cX4_right : ByteArray := prog_14_method_76_code
def yX4_right : MethodName := ⟨RX4, "right", "(II)I"⟩
def dkwX4_right_3 : List UInt8 := [42, 180, 0, 71, 28, 27, 79, 21, 4, 172]
abbrev dktX4_right_3 : List UInt8 := dkwX4_right_3 ++ []
def dkwX4_right_2 : List UInt8 := [159, 0, 7, 5, 167, 0, 4, 3, 182, 0, 169, 154, 0, 5, 3, 172, 42, 180, 0, 71, 28, 46, 54, 4]
abbrev dktX4_right_2 : List UInt8 := dkwX4_right_2 ++ dktX4_right_3
def dkwX4_right_1 : List UInt8 := [154, 0, 7, 4, 167, 0, 26, 42, 180, 0, 74, 28, 159, 0, 13, 42, 180, 0, 65, 28, 46, 2]
abbrev dktX4_right_1 : List UInt8 := dkwX4_right_1 ++ dktX4_right_2
def dkwX4_right_0 : List UInt8 := [27, 184, 0, 163, 153, 0, 14, 28, 184, 1, 20, 153, 0, 7, 4, 167, 0, 4, 3, 62, 42, 29]
abbrev dktX4_right_0 : List UInt8 := dkwX4_right_0 ++ dktX4_right_1
theorem dksX4_right_0 : cX4_right.data.toList.drop 0 = dktX4_right_0 := by decide +kernel
theorem dksX4_right_1 : cX4_right.data.toList.drop 22 = dktX4_right_1 := dk_seg dksX4_right_0 22 rfl rfl
theorem dksX4_right_2 : cX4_right.data.toList.drop 44 = dktX4_right_2 := dk_seg dksX4_right_1 22 rfl rfl
theorem dksX4_right_3 : cX4_right.data.toList.drop 68 = dktX4_right_3 := dk_seg dksX4_right_2 24 rfl rfl
theorem dX4_right_0 : decode cX4_right 0 = .ok (.iload_n 1, 1) := dk_27 (dk_at dksX4_right_0 0 rfl rfl)
theorem dX4_right_1 : decode cX4_right 1 = .ok (.invokestatic 163, 3) := dk_184 0 163 (dk_at dksX4_right_0 1 rfl rfl)
theorem dX4_right_4 : decode cX4_right 4 = .ok (.ifCond .eq 14, 3) := dk_153 0 14 (dk_at dksX4_right_0 4 rfl rfl)
theorem dX4_right_7 : decode cX4_right 7 = .ok (.iload_n 2, 1) := dk_28 (dk_at dksX4_right_0 7 rfl rfl)
theorem dX4_right_8 : decode cX4_right 8 = .ok (.invokestatic 276, 3) := dk_184 1 20 (dk_at dksX4_right_0 8 rfl rfl)
theorem dX4_right_11 : decode cX4_right 11 = .ok (.ifCond .eq 7, 3) := dk_153 0 7 (dk_at dksX4_right_0 11 rfl rfl)
theorem dX4_right_14 : decode cX4_right 14 = .ok (.iconst 1, 1) := dk_4 (dk_at dksX4_right_0 14 rfl rfl)
theorem dX4_right_15 : decode cX4_right 15 = .ok (.goto 4, 3) := dk_167 0 4 (dk_at dksX4_right_0 15 rfl rfl)
theorem dX4_right_18 : decode cX4_right 18 = .ok (.iconst 0, 1) := dk_3 (dk_at dksX4_right_0 18 rfl rfl)
theorem dX4_right_19 : decode cX4_right 19 = .ok (.istore_n 3, 1) := dk_62 (dk_at dksX4_right_0 19 rfl rfl)
theorem dX4_right_20 : decode cX4_right 20 = .ok (.aload_n 0, 1) := dk_42 (dk_at dksX4_right_0 20 rfl rfl)
theorem dX4_right_21 : decode cX4_right 21 = .ok (.iload_n 3, 1) := dk_29 (dk_at dksX4_right_0 21 rfl rfl)
theorem dX4_right_22 : decode cX4_right 22 = .ok (.ifCond .ne 7, 3) := dk_154 0 7 (dk_at dksX4_right_1 0 rfl rfl)
theorem dX4_right_25 : decode cX4_right 25 = .ok (.iconst 1, 1) := dk_4 (dk_at dksX4_right_1 3 rfl rfl)
theorem dX4_right_26 : decode cX4_right 26 = .ok (.goto 26, 3) := dk_167 0 26 (dk_at dksX4_right_1 4 rfl rfl)
theorem dX4_right_29 : decode cX4_right 29 = .ok (.aload_n 0, 1) := dk_42 (dk_at dksX4_right_1 7 rfl rfl)
theorem dX4_right_30 : decode cX4_right 30 = .ok (.getfield 74, 3) := dk_180 0 74 (dk_at dksX4_right_1 8 rfl rfl)
theorem dX4_right_33 : decode cX4_right 33 = .ok (.iload_n 2, 1) := dk_28 (dk_at dksX4_right_1 11 rfl rfl)
theorem dX4_right_34 : decode cX4_right 34 = .ok (.if_icmp .eq 13, 3) := dk_159 0 13 (dk_at dksX4_right_1 12 rfl rfl)
theorem dX4_right_37 : decode cX4_right 37 = .ok (.aload_n 0, 1) := dk_42 (dk_at dksX4_right_1 15 rfl rfl)
theorem dX4_right_38 : decode cX4_right 38 = .ok (.getfield 65, 3) := dk_180 0 65 (dk_at dksX4_right_1 16 rfl rfl)
theorem dX4_right_41 : decode cX4_right 41 = .ok (.iload_n 2, 1) := dk_28 (dk_at dksX4_right_1 19 rfl rfl)
theorem dX4_right_42 : decode cX4_right 42 = .ok (.iaload, 1) := dk_46 (dk_at dksX4_right_1 20 rfl rfl)
theorem dX4_right_43 : decode cX4_right 43 = .ok (.iconst (-1), 1) := dk_2 (dk_at dksX4_right_1 21 rfl rfl)
theorem dX4_right_44 : decode cX4_right 44 = .ok (.if_icmp .eq 7, 3) := dk_159 0 7 (dk_at dksX4_right_2 0 rfl rfl)
theorem dX4_right_47 : decode cX4_right 47 = .ok (.iconst 2, 1) := dk_5 (dk_at dksX4_right_2 3 rfl rfl)
theorem dX4_right_48 : decode cX4_right 48 = .ok (.goto 4, 3) := dk_167 0 4 (dk_at dksX4_right_2 4 rfl rfl)
theorem dX4_right_51 : decode cX4_right 51 = .ok (.iconst 0, 1) := dk_3 (dk_at dksX4_right_2 7 rfl rfl)
theorem dX4_right_52 : decode cX4_right 52 = .ok (.invokevirtual 169, 3) := dk_182 0 169 (dk_at dksX4_right_2 8 rfl rfl)
theorem dX4_right_55 : decode cX4_right 55 = .ok (.ifCond .ne 5, 3) := dk_154 0 5 (dk_at dksX4_right_2 11 rfl rfl)
theorem dX4_right_58 : decode cX4_right 58 = .ok (.iconst 0, 1) := dk_3 (dk_at dksX4_right_2 14 rfl rfl)
theorem dX4_right_59 : decode cX4_right 59 = .ok (.ireturn, 1) := dk_172 (dk_at dksX4_right_2 15 rfl rfl)
theorem dX4_right_60 : decode cX4_right 60 = .ok (.aload_n 0, 1) := dk_42 (dk_at dksX4_right_2 16 rfl rfl)
theorem dX4_right_61 : decode cX4_right 61 = .ok (.getfield 71, 3) := dk_180 0 71 (dk_at dksX4_right_2 17 rfl rfl)
theorem dX4_right_64 : decode cX4_right 64 = .ok (.iload_n 2, 1) := dk_28 (dk_at dksX4_right_2 20 rfl rfl)
theorem dX4_right_65 : decode cX4_right 65 = .ok (.iaload, 1) := dk_46 (dk_at dksX4_right_2 21 rfl rfl)
theorem dX4_right_66 : decode cX4_right 66 = .ok (.istore 4, 2) := dk_54 4 (dk_at dksX4_right_2 22 rfl rfl)
theorem dX4_right_68 : decode cX4_right 68 = .ok (.aload_n 0, 1) := dk_42 (dk_at dksX4_right_3 0 rfl rfl)
theorem dX4_right_69 : decode cX4_right 69 = .ok (.getfield 71, 3) := dk_180 0 71 (dk_at dksX4_right_3 1 rfl rfl)
theorem dX4_right_72 : decode cX4_right 72 = .ok (.iload_n 2, 1) := dk_28 (dk_at dksX4_right_3 4 rfl rfl)
theorem dX4_right_73 : decode cX4_right 73 = .ok (.iload_n 1, 1) := dk_27 (dk_at dksX4_right_3 5 rfl rfl)
theorem dX4_right_74 : decode cX4_right 74 = .ok (.iastore, 1) := dk_79 (dk_at dksX4_right_3 6 rfl rfl)
theorem dX4_right_75 : decode cX4_right 75 = .ok (.iload 4, 2) := dk_21 4 (dk_at dksX4_right_3 7 rfl rfl)
theorem dX4_right_77 : decode cX4_right 77 = .ok (.ireturn, 1) := dk_172 (dk_at dksX4_right_3 9 rfl rfl)
abbrev cX4_isLot : ByteArray := prog_14_method_8_code
def yX4_isLot : MethodName := ⟨RX4, "isLot", "(I)Z"⟩
def dkwX4_isLot_0 : List UInt8 := [26, 3, 16, 23, 184, 0, 81, 172]
abbrev dktX4_isLot_0 : List UInt8 := dkwX4_isLot_0 ++ []
theorem dksX4_isLot_0 : cX4_isLot.data.toList.drop 0 = dktX4_isLot_0 := by decide +kernel
theorem dX4_isLot_0 : decode cX4_isLot 0 = .ok (.iload_n 0, 1) := dk_26 (dk_at dksX4_isLot_0 0 rfl rfl)
theorem dX4_isLot_1 : decode cX4_isLot 1 = .ok (.iconst 0, 1) := dk_3 (dk_at dksX4_isLot_0 1 rfl rfl)
theorem dX4_isLot_2 : decode cX4_isLot 2 = .ok (.bipush 23, 2) := dk_16 23 (dk_at dksX4_isLot_0 2 rfl rfl)
theorem dX4_isLot_4 : decode cX4_isLot 4 = .ok (.invokestatic 81, 3) := dk_184 0 81 (dk_at dksX4_isLot_0 4 rfl rfl)
theorem dX4_isLot_7 : decode cX4_isLot 7 = .ok (.ireturn, 1) := dk_172 (dk_at dksX4_isLot_0 7 rfl rfl)
abbrev cX4_call : ByteArray := prog_14_method_77_code
def yX4_call : MethodName := ⟨RX4, "call", "(I)I"⟩
def dkwX4_call_3 : List UInt8 := [184, 1, 35, 172]
abbrev dktX4_call_3 : List UInt8 := dkwX4_call_3 ++ []
def dkwX4_call_2 : List UInt8 := [181, 0, 74, 42, 3, 181, 1, 23, 42, 3, 181, 1, 26, 42, 2, 181, 1, 29, 42, 3, 181, 1, 32, 27]
abbrev dktX4_call_2 : List UInt8 := dkwX4_call_2 ++ dktX4_call_3
def dkwX4_call_1 : List UInt8 := [180, 0, 65, 27, 46, 2, 159, 0, 7, 5, 167, 0, 4, 3, 182, 0, 169, 154, 0, 5, 3, 172, 42, 27]
abbrev dktX4_call_1 : List UInt8 := dkwX4_call_1 ++ dktX4_call_2
def dkwX4_call_0 : List UInt8 := [27, 184, 1, 20, 61, 42, 28, 154, 0, 7, 4, 167, 0, 26, 42, 180, 0, 74, 2, 160, 0, 13, 42]
abbrev dktX4_call_0 : List UInt8 := dkwX4_call_0 ++ dktX4_call_1
theorem dksX4_call_0 : cX4_call.data.toList.drop 0 = dktX4_call_0 := by decide +kernel
theorem dksX4_call_1 : cX4_call.data.toList.drop 23 = dktX4_call_1 := dk_seg dksX4_call_0 23 rfl rfl
theorem dksX4_call_2 : cX4_call.data.toList.drop 47 = dktX4_call_2 := dk_seg dksX4_call_1 24 rfl rfl
theorem dksX4_call_3 : cX4_call.data.toList.drop 71 = dktX4_call_3 := dk_seg dksX4_call_2 24 rfl rfl
theorem dX4_call_0 : decode cX4_call 0 = .ok (.iload_n 1, 1) := dk_27 (dk_at dksX4_call_0 0 rfl rfl)
theorem dX4_call_1 : decode cX4_call 1 = .ok (.invokestatic 276, 3) := dk_184 1 20 (dk_at dksX4_call_0 1 rfl rfl)
theorem dX4_call_4 : decode cX4_call 4 = .ok (.istore_n 2, 1) := dk_61 (dk_at dksX4_call_0 4 rfl rfl)
theorem dX4_call_5 : decode cX4_call 5 = .ok (.aload_n 0, 1) := dk_42 (dk_at dksX4_call_0 5 rfl rfl)
theorem dX4_call_6 : decode cX4_call 6 = .ok (.iload_n 2, 1) := dk_28 (dk_at dksX4_call_0 6 rfl rfl)
theorem dX4_call_7 : decode cX4_call 7 = .ok (.ifCond .ne 7, 3) := dk_154 0 7 (dk_at dksX4_call_0 7 rfl rfl)
theorem dX4_call_10 : decode cX4_call 10 = .ok (.iconst 1, 1) := dk_4 (dk_at dksX4_call_0 10 rfl rfl)
theorem dX4_call_11 : decode cX4_call 11 = .ok (.goto 26, 3) := dk_167 0 26 (dk_at dksX4_call_0 11 rfl rfl)
theorem dX4_call_14 : decode cX4_call 14 = .ok (.aload_n 0, 1) := dk_42 (dk_at dksX4_call_0 14 rfl rfl)
theorem dX4_call_15 : decode cX4_call 15 = .ok (.getfield 74, 3) := dk_180 0 74 (dk_at dksX4_call_0 15 rfl rfl)
theorem dX4_call_18 : decode cX4_call 18 = .ok (.iconst (-1), 1) := dk_2 (dk_at dksX4_call_0 18 rfl rfl)
theorem dX4_call_19 : decode cX4_call 19 = .ok (.if_icmp .ne 13, 3) := dk_160 0 13 (dk_at dksX4_call_0 19 rfl rfl)
theorem dX4_call_22 : decode cX4_call 22 = .ok (.aload_n 0, 1) := dk_42 (dk_at dksX4_call_0 22 rfl rfl)
theorem dX4_call_23 : decode cX4_call 23 = .ok (.getfield 65, 3) := dk_180 0 65 (dk_at dksX4_call_1 0 rfl rfl)
theorem dX4_call_26 : decode cX4_call 26 = .ok (.iload_n 1, 1) := dk_27 (dk_at dksX4_call_1 3 rfl rfl)
theorem dX4_call_27 : decode cX4_call 27 = .ok (.iaload, 1) := dk_46 (dk_at dksX4_call_1 4 rfl rfl)
theorem dX4_call_28 : decode cX4_call 28 = .ok (.iconst (-1), 1) := dk_2 (dk_at dksX4_call_1 5 rfl rfl)
theorem dX4_call_29 : decode cX4_call 29 = .ok (.if_icmp .eq 7, 3) := dk_159 0 7 (dk_at dksX4_call_1 6 rfl rfl)
theorem dX4_call_32 : decode cX4_call 32 = .ok (.iconst 2, 1) := dk_5 (dk_at dksX4_call_1 9 rfl rfl)
theorem dX4_call_33 : decode cX4_call 33 = .ok (.goto 4, 3) := dk_167 0 4 (dk_at dksX4_call_1 10 rfl rfl)
theorem dX4_call_36 : decode cX4_call 36 = .ok (.iconst 0, 1) := dk_3 (dk_at dksX4_call_1 13 rfl rfl)
theorem dX4_call_37 : decode cX4_call 37 = .ok (.invokevirtual 169, 3) := dk_182 0 169 (dk_at dksX4_call_1 14 rfl rfl)
theorem dX4_call_40 : decode cX4_call 40 = .ok (.ifCond .ne 5, 3) := dk_154 0 5 (dk_at dksX4_call_1 17 rfl rfl)
theorem dX4_call_43 : decode cX4_call 43 = .ok (.iconst 0, 1) := dk_3 (dk_at dksX4_call_1 20 rfl rfl)
theorem dX4_call_44 : decode cX4_call 44 = .ok (.ireturn, 1) := dk_172 (dk_at dksX4_call_1 21 rfl rfl)
theorem dX4_call_45 : decode cX4_call 45 = .ok (.aload_n 0, 1) := dk_42 (dk_at dksX4_call_1 22 rfl rfl)
theorem dX4_call_46 : decode cX4_call 46 = .ok (.iload_n 1, 1) := dk_27 (dk_at dksX4_call_1 23 rfl rfl)
theorem dX4_call_47 : decode cX4_call 47 = .ok (.putfield 74, 3) := dk_181 0 74 (dk_at dksX4_call_2 0 rfl rfl)
theorem dX4_call_50 : decode cX4_call 50 = .ok (.aload_n 0, 1) := dk_42 (dk_at dksX4_call_2 3 rfl rfl)
theorem dX4_call_51 : decode cX4_call 51 = .ok (.iconst 0, 1) := dk_3 (dk_at dksX4_call_2 4 rfl rfl)
theorem dX4_call_52 : decode cX4_call 52 = .ok (.putfield 279, 3) := dk_181 1 23 (dk_at dksX4_call_2 5 rfl rfl)
theorem dX4_call_55 : decode cX4_call 55 = .ok (.aload_n 0, 1) := dk_42 (dk_at dksX4_call_2 8 rfl rfl)
theorem dX4_call_56 : decode cX4_call 56 = .ok (.iconst 0, 1) := dk_3 (dk_at dksX4_call_2 9 rfl rfl)
theorem dX4_call_57 : decode cX4_call 57 = .ok (.putfield 282, 3) := dk_181 1 26 (dk_at dksX4_call_2 10 rfl rfl)
theorem dX4_call_60 : decode cX4_call 60 = .ok (.aload_n 0, 1) := dk_42 (dk_at dksX4_call_2 13 rfl rfl)
theorem dX4_call_61 : decode cX4_call 61 = .ok (.iconst (-1), 1) := dk_2 (dk_at dksX4_call_2 14 rfl rfl)
theorem dX4_call_62 : decode cX4_call 62 = .ok (.putfield 285, 3) := dk_181 1 29 (dk_at dksX4_call_2 15 rfl rfl)
theorem dX4_call_65 : decode cX4_call 65 = .ok (.aload_n 0, 1) := dk_42 (dk_at dksX4_call_2 18 rfl rfl)
theorem dX4_call_66 : decode cX4_call 66 = .ok (.iconst 0, 1) := dk_3 (dk_at dksX4_call_2 19 rfl rfl)
theorem dX4_call_67 : decode cX4_call 67 = .ok (.putfield 288, 3) := dk_181 1 32 (dk_at dksX4_call_2 20 rfl rfl)
theorem dX4_call_70 : decode cX4_call 70 = .ok (.iload_n 1, 1) := dk_27 (dk_at dksX4_call_2 23 rfl rfl)
theorem dX4_call_71 : decode cX4_call 71 = .ok (.invokestatic 291, 3) := dk_184 1 35 (dk_at dksX4_call_3 0 rfl rfl)
theorem dX4_call_74 : decode cX4_call 74 = .ok (.ireturn, 1) := dk_172 (dk_at dksX4_call_3 3 rfl rfl)
abbrev cX4_baseOf : ByteArray := prog_14_method_73_code
def yX4_baseOf : MethodName := ⟨RX4, "baseOf", "(I)I"⟩
def dkwX4_baseOf_1 : List UInt8 := [16, 10, 172]
abbrev dktX4_baseOf_1 : List UInt8 := dkwX4_baseOf_1 ++ []
def dkwX4_baseOf_0 : List UInt8 := [26, 6, 112, 154, 0, 8, 16, 50, 167, 0, 17, 26, 6, 112, 4, 160, 0, 8, 16, 30, 167, 0, 5]
abbrev dktX4_baseOf_0 : List UInt8 := dkwX4_baseOf_0 ++ dktX4_baseOf_1
theorem dksX4_baseOf_0 : cX4_baseOf.data.toList.drop 0 = dktX4_baseOf_0 := by decide +kernel
theorem dksX4_baseOf_1 : cX4_baseOf.data.toList.drop 23 = dktX4_baseOf_1 := dk_seg dksX4_baseOf_0 23 rfl rfl
theorem dX4_baseOf_0 : decode cX4_baseOf 0 = .ok (.iload_n 0, 1) := dk_26 (dk_at dksX4_baseOf_0 0 rfl rfl)
theorem dX4_baseOf_1 : decode cX4_baseOf 1 = .ok (.iconst 3, 1) := dk_6 (dk_at dksX4_baseOf_0 1 rfl rfl)
theorem dX4_baseOf_2 : decode cX4_baseOf 2 = .ok (.irem, 1) := dk_112 (dk_at dksX4_baseOf_0 2 rfl rfl)
theorem dX4_baseOf_3 : decode cX4_baseOf 3 = .ok (.ifCond .ne 8, 3) := dk_154 0 8 (dk_at dksX4_baseOf_0 3 rfl rfl)
theorem dX4_baseOf_6 : decode cX4_baseOf 6 = .ok (.bipush 50, 2) := dk_16 50 (dk_at dksX4_baseOf_0 6 rfl rfl)
theorem dX4_baseOf_8 : decode cX4_baseOf 8 = .ok (.goto 17, 3) := dk_167 0 17 (dk_at dksX4_baseOf_0 8 rfl rfl)
theorem dX4_baseOf_11 : decode cX4_baseOf 11 = .ok (.iload_n 0, 1) := dk_26 (dk_at dksX4_baseOf_0 11 rfl rfl)
theorem dX4_baseOf_12 : decode cX4_baseOf 12 = .ok (.iconst 3, 1) := dk_6 (dk_at dksX4_baseOf_0 12 rfl rfl)
theorem dX4_baseOf_13 : decode cX4_baseOf 13 = .ok (.irem, 1) := dk_112 (dk_at dksX4_baseOf_0 13 rfl rfl)
theorem dX4_baseOf_14 : decode cX4_baseOf 14 = .ok (.iconst 1, 1) := dk_4 (dk_at dksX4_baseOf_0 14 rfl rfl)
theorem dX4_baseOf_15 : decode cX4_baseOf 15 = .ok (.if_icmp .ne 8, 3) := dk_160 0 8 (dk_at dksX4_baseOf_0 15 rfl rfl)
theorem dX4_baseOf_18 : decode cX4_baseOf 18 = .ok (.bipush 30, 2) := dk_16 30 (dk_at dksX4_baseOf_0 18 rfl rfl)
theorem dX4_baseOf_20 : decode cX4_baseOf 20 = .ok (.goto 5, 3) := dk_167 0 5 (dk_at dksX4_baseOf_0 20 rfl rfl)
theorem dX4_baseOf_23 : decode cX4_baseOf 23 = .ok (.bipush 10, 2) := dk_16 10 (dk_at dksX4_baseOf_1 0 rfl rfl)
theorem dX4_baseOf_25 : decode cX4_baseOf 25 = .ok (.ireturn, 1) := dk_172 (dk_at dksX4_baseOf_1 2 rfl rfl)
abbrev cX4_bid : ByteArray := prog_14_method_78_code
def yX4_bid : MethodName := ⟨RX4, "bid", "(II)I"⟩
def dkwX4_bid_5 : List UInt8 := [28, 181, 1, 26, 42, 27, 181, 1, 29, 42, 89, 180, 1, 23, 4, 96, 181, 1, 23, 42, 180, 1, 23, 172]
abbrev dktX4_bid_5 : List UInt8 := dkwX4_bid_5 ++ []
def dkwX4_bid_4 : List UInt8 := [167, 0, 4, 3, 62, 42, 29, 153, 0, 7, 6, 167, 0, 4, 3, 182, 0, 169, 154, 0, 5, 3, 172, 42]
abbrev dktX4_bid_4 : List UInt8 := dkwX4_bid_4 ++ dktX4_bid_5
def dkwX4_bid_3 : List UInt8 := [180, 1, 26, 8, 96, 161, 0, 16, 42, 27, 42, 180, 0, 74, 28, 182, 1, 38, 154, 0, 7, 4]
abbrev dktX4_bid_3 : List UInt8 := dkwX4_bid_3 ++ dktX4_bid_4
def dkwX4_bid_2 : List UInt8 := [154, 0, 44, 28, 42, 180, 0, 74, 184, 1, 35, 161, 0, 33, 42, 180, 1, 23, 158, 0, 13, 28, 42]
abbrev dktX4_bid_2 : List UInt8 := dkwX4_bid_2 ++ dktX4_bid_3
def dkwX4_bid_1 : List UInt8 := [167, 0, 4, 3, 182, 0, 169, 154, 0, 5, 3, 172, 42, 180, 0, 74, 2, 159, 0, 51, 42, 180, 1, 32]
abbrev dktX4_bid_1 : List UInt8 := dkwX4_bid_1 ++ dktX4_bid_2
def dkwX4_bid_0 : List UInt8 := [42, 27, 184, 0, 163, 154, 0, 7, 4, 167, 0, 19, 28, 4, 17, 3, 232, 184, 0, 81, 154, 0, 7, 5]
abbrev dktX4_bid_0 : List UInt8 := dkwX4_bid_0 ++ dktX4_bid_1
theorem dksX4_bid_0 : cX4_bid.data.toList.drop 0 = dktX4_bid_0 := by decide +kernel
theorem dksX4_bid_1 : cX4_bid.data.toList.drop 24 = dktX4_bid_1 := dk_seg dksX4_bid_0 24 rfl rfl
theorem dksX4_bid_2 : cX4_bid.data.toList.drop 48 = dktX4_bid_2 := dk_seg dksX4_bid_1 24 rfl rfl
theorem dksX4_bid_3 : cX4_bid.data.toList.drop 71 = dktX4_bid_3 := dk_seg dksX4_bid_2 23 rfl rfl
theorem dksX4_bid_4 : cX4_bid.data.toList.drop 93 = dktX4_bid_4 := dk_seg dksX4_bid_3 22 rfl rfl
theorem dksX4_bid_5 : cX4_bid.data.toList.drop 117 = dktX4_bid_5 := dk_seg dksX4_bid_4 24 rfl rfl
theorem dX4_bid_0 : decode cX4_bid 0 = .ok (.aload_n 0, 1) := dk_42 (dk_at dksX4_bid_0 0 rfl rfl)
theorem dX4_bid_1 : decode cX4_bid 1 = .ok (.iload_n 1, 1) := dk_27 (dk_at dksX4_bid_0 1 rfl rfl)
theorem dX4_bid_2 : decode cX4_bid 2 = .ok (.invokestatic 163, 3) := dk_184 0 163 (dk_at dksX4_bid_0 2 rfl rfl)
theorem dX4_bid_5 : decode cX4_bid 5 = .ok (.ifCond .ne 7, 3) := dk_154 0 7 (dk_at dksX4_bid_0 5 rfl rfl)
theorem dX4_bid_8 : decode cX4_bid 8 = .ok (.iconst 1, 1) := dk_4 (dk_at dksX4_bid_0 8 rfl rfl)
theorem dX4_bid_9 : decode cX4_bid 9 = .ok (.goto 19, 3) := dk_167 0 19 (dk_at dksX4_bid_0 9 rfl rfl)
theorem dX4_bid_12 : decode cX4_bid 12 = .ok (.iload_n 2, 1) := dk_28 (dk_at dksX4_bid_0 12 rfl rfl)
theorem dX4_bid_13 : decode cX4_bid 13 = .ok (.iconst 1, 1) := dk_4 (dk_at dksX4_bid_0 13 rfl rfl)
theorem dX4_bid_14 : decode cX4_bid 14 = .ok (.sipush 1000, 3) := dk_17 3 232 (dk_at dksX4_bid_0 14 rfl rfl)
theorem dX4_bid_17 : decode cX4_bid 17 = .ok (.invokestatic 81, 3) := dk_184 0 81 (dk_at dksX4_bid_0 17 rfl rfl)
theorem dX4_bid_20 : decode cX4_bid 20 = .ok (.ifCond .ne 7, 3) := dk_154 0 7 (dk_at dksX4_bid_0 20 rfl rfl)
theorem dX4_bid_23 : decode cX4_bid 23 = .ok (.iconst 2, 1) := dk_5 (dk_at dksX4_bid_0 23 rfl rfl)
theorem dX4_bid_24 : decode cX4_bid 24 = .ok (.goto 4, 3) := dk_167 0 4 (dk_at dksX4_bid_1 0 rfl rfl)
theorem dX4_bid_27 : decode cX4_bid 27 = .ok (.iconst 0, 1) := dk_3 (dk_at dksX4_bid_1 3 rfl rfl)
theorem dX4_bid_28 : decode cX4_bid 28 = .ok (.invokevirtual 169, 3) := dk_182 0 169 (dk_at dksX4_bid_1 4 rfl rfl)
theorem dX4_bid_31 : decode cX4_bid 31 = .ok (.ifCond .ne 5, 3) := dk_154 0 5 (dk_at dksX4_bid_1 7 rfl rfl)
theorem dX4_bid_34 : decode cX4_bid 34 = .ok (.iconst 0, 1) := dk_3 (dk_at dksX4_bid_1 10 rfl rfl)
theorem dX4_bid_35 : decode cX4_bid 35 = .ok (.ireturn, 1) := dk_172 (dk_at dksX4_bid_1 11 rfl rfl)
theorem dX4_bid_36 : decode cX4_bid 36 = .ok (.aload_n 0, 1) := dk_42 (dk_at dksX4_bid_1 12 rfl rfl)
theorem dX4_bid_37 : decode cX4_bid 37 = .ok (.getfield 74, 3) := dk_180 0 74 (dk_at dksX4_bid_1 13 rfl rfl)
theorem dX4_bid_40 : decode cX4_bid 40 = .ok (.iconst (-1), 1) := dk_2 (dk_at dksX4_bid_1 16 rfl rfl)
theorem dX4_bid_41 : decode cX4_bid 41 = .ok (.if_icmp .eq 51, 3) := dk_159 0 51 (dk_at dksX4_bid_1 17 rfl rfl)
theorem dX4_bid_44 : decode cX4_bid 44 = .ok (.aload_n 0, 1) := dk_42 (dk_at dksX4_bid_1 20 rfl rfl)
theorem dX4_bid_45 : decode cX4_bid 45 = .ok (.getfield 288, 3) := dk_180 1 32 (dk_at dksX4_bid_1 21 rfl rfl)
theorem dX4_bid_48 : decode cX4_bid 48 = .ok (.ifCond .ne 44, 3) := dk_154 0 44 (dk_at dksX4_bid_2 0 rfl rfl)
theorem dX4_bid_51 : decode cX4_bid 51 = .ok (.iload_n 2, 1) := dk_28 (dk_at dksX4_bid_2 3 rfl rfl)
theorem dX4_bid_52 : decode cX4_bid 52 = .ok (.aload_n 0, 1) := dk_42 (dk_at dksX4_bid_2 4 rfl rfl)
theorem dX4_bid_53 : decode cX4_bid 53 = .ok (.getfield 74, 3) := dk_180 0 74 (dk_at dksX4_bid_2 5 rfl rfl)
theorem dX4_bid_56 : decode cX4_bid 56 = .ok (.invokestatic 291, 3) := dk_184 1 35 (dk_at dksX4_bid_2 8 rfl rfl)
theorem dX4_bid_59 : decode cX4_bid 59 = .ok (.if_icmp .lt 33, 3) := dk_161 0 33 (dk_at dksX4_bid_2 11 rfl rfl)
theorem dX4_bid_62 : decode cX4_bid 62 = .ok (.aload_n 0, 1) := dk_42 (dk_at dksX4_bid_2 14 rfl rfl)
theorem dX4_bid_63 : decode cX4_bid 63 = .ok (.getfield 279, 3) := dk_180 1 23 (dk_at dksX4_bid_2 15 rfl rfl)
theorem dX4_bid_66 : decode cX4_bid 66 = .ok (.ifCond .le 13, 3) := dk_158 0 13 (dk_at dksX4_bid_2 18 rfl rfl)
theorem dX4_bid_69 : decode cX4_bid 69 = .ok (.iload_n 2, 1) := dk_28 (dk_at dksX4_bid_2 21 rfl rfl)
theorem dX4_bid_70 : decode cX4_bid 70 = .ok (.aload_n 0, 1) := dk_42 (dk_at dksX4_bid_2 22 rfl rfl)
theorem dX4_bid_71 : decode cX4_bid 71 = .ok (.getfield 282, 3) := dk_180 1 26 (dk_at dksX4_bid_3 0 rfl rfl)
theorem dX4_bid_74 : decode cX4_bid 74 = .ok (.iconst 5, 1) := dk_8 (dk_at dksX4_bid_3 3 rfl rfl)
theorem dX4_bid_75 : decode cX4_bid 75 = .ok (.iadd, 1) := dk_96 (dk_at dksX4_bid_3 4 rfl rfl)
theorem dX4_bid_76 : decode cX4_bid 76 = .ok (.if_icmp .lt 16, 3) := dk_161 0 16 (dk_at dksX4_bid_3 5 rfl rfl)
theorem dX4_bid_79 : decode cX4_bid 79 = .ok (.aload_n 0, 1) := dk_42 (dk_at dksX4_bid_3 8 rfl rfl)
theorem dX4_bid_80 : decode cX4_bid 80 = .ok (.iload_n 1, 1) := dk_27 (dk_at dksX4_bid_3 9 rfl rfl)
theorem dX4_bid_81 : decode cX4_bid 81 = .ok (.aload_n 0, 1) := dk_42 (dk_at dksX4_bid_3 10 rfl rfl)
theorem dX4_bid_82 : decode cX4_bid 82 = .ok (.getfield 74, 3) := dk_180 0 74 (dk_at dksX4_bid_3 11 rfl rfl)
theorem dX4_bid_85 : decode cX4_bid 85 = .ok (.iload_n 2, 1) := dk_28 (dk_at dksX4_bid_3 14 rfl rfl)
theorem dX4_bid_86 : decode cX4_bid 86 = .ok (.invokevirtual 294, 3) := dk_182 1 38 (dk_at dksX4_bid_3 15 rfl rfl)
theorem dX4_bid_89 : decode cX4_bid 89 = .ok (.ifCond .ne 7, 3) := dk_154 0 7 (dk_at dksX4_bid_3 18 rfl rfl)
theorem dX4_bid_92 : decode cX4_bid 92 = .ok (.iconst 1, 1) := dk_4 (dk_at dksX4_bid_3 21 rfl rfl)
theorem dX4_bid_93 : decode cX4_bid 93 = .ok (.goto 4, 3) := dk_167 0 4 (dk_at dksX4_bid_4 0 rfl rfl)
theorem dX4_bid_96 : decode cX4_bid 96 = .ok (.iconst 0, 1) := dk_3 (dk_at dksX4_bid_4 3 rfl rfl)
theorem dX4_bid_97 : decode cX4_bid 97 = .ok (.istore_n 3, 1) := dk_62 (dk_at dksX4_bid_4 4 rfl rfl)
theorem dX4_bid_98 : decode cX4_bid 98 = .ok (.aload_n 0, 1) := dk_42 (dk_at dksX4_bid_4 5 rfl rfl)
theorem dX4_bid_99 : decode cX4_bid 99 = .ok (.iload_n 3, 1) := dk_29 (dk_at dksX4_bid_4 6 rfl rfl)
theorem dX4_bid_100 : decode cX4_bid 100 = .ok (.ifCond .eq 7, 3) := dk_153 0 7 (dk_at dksX4_bid_4 7 rfl rfl)
theorem dX4_bid_103 : decode cX4_bid 103 = .ok (.iconst 3, 1) := dk_6 (dk_at dksX4_bid_4 10 rfl rfl)
theorem dX4_bid_104 : decode cX4_bid 104 = .ok (.goto 4, 3) := dk_167 0 4 (dk_at dksX4_bid_4 11 rfl rfl)
theorem dX4_bid_107 : decode cX4_bid 107 = .ok (.iconst 0, 1) := dk_3 (dk_at dksX4_bid_4 14 rfl rfl)
theorem dX4_bid_108 : decode cX4_bid 108 = .ok (.invokevirtual 169, 3) := dk_182 0 169 (dk_at dksX4_bid_4 15 rfl rfl)
theorem dX4_bid_111 : decode cX4_bid 111 = .ok (.ifCond .ne 5, 3) := dk_154 0 5 (dk_at dksX4_bid_4 18 rfl rfl)
theorem dX4_bid_114 : decode cX4_bid 114 = .ok (.iconst 0, 1) := dk_3 (dk_at dksX4_bid_4 21 rfl rfl)
theorem dX4_bid_115 : decode cX4_bid 115 = .ok (.ireturn, 1) := dk_172 (dk_at dksX4_bid_4 22 rfl rfl)
theorem dX4_bid_116 : decode cX4_bid 116 = .ok (.aload_n 0, 1) := dk_42 (dk_at dksX4_bid_4 23 rfl rfl)
theorem dX4_bid_117 : decode cX4_bid 117 = .ok (.iload_n 2, 1) := dk_28 (dk_at dksX4_bid_5 0 rfl rfl)
theorem dX4_bid_118 : decode cX4_bid 118 = .ok (.putfield 282, 3) := dk_181 1 26 (dk_at dksX4_bid_5 1 rfl rfl)
theorem dX4_bid_121 : decode cX4_bid 121 = .ok (.aload_n 0, 1) := dk_42 (dk_at dksX4_bid_5 4 rfl rfl)
theorem dX4_bid_122 : decode cX4_bid 122 = .ok (.iload_n 1, 1) := dk_27 (dk_at dksX4_bid_5 5 rfl rfl)
theorem dX4_bid_123 : decode cX4_bid 123 = .ok (.putfield 285, 3) := dk_181 1 29 (dk_at dksX4_bid_5 6 rfl rfl)
theorem dX4_bid_126 : decode cX4_bid 126 = .ok (.aload_n 0, 1) := dk_42 (dk_at dksX4_bid_5 9 rfl rfl)
theorem dX4_bid_127 : decode cX4_bid 127 = .ok (.dup, 1) := dk_89 (dk_at dksX4_bid_5 10 rfl rfl)
theorem dX4_bid_128 : decode cX4_bid 128 = .ok (.getfield 279, 3) := dk_180 1 23 (dk_at dksX4_bid_5 11 rfl rfl)
theorem dX4_bid_131 : decode cX4_bid 131 = .ok (.iconst 1, 1) := dk_4 (dk_at dksX4_bid_5 14 rfl rfl)
theorem dX4_bid_132 : decode cX4_bid 132 = .ok (.iadd, 1) := dk_96 (dk_at dksX4_bid_5 15 rfl rfl)
theorem dX4_bid_133 : decode cX4_bid 133 = .ok (.putfield 279, 3) := dk_181 1 23 (dk_at dksX4_bid_5 16 rfl rfl)
theorem dX4_bid_136 : decode cX4_bid 136 = .ok (.aload_n 0, 1) := dk_42 (dk_at dksX4_bid_5 19 rfl rfl)
theorem dX4_bid_137 : decode cX4_bid 137 = .ok (.getfield 279, 3) := dk_180 1 23 (dk_at dksX4_bid_5 20 rfl rfl)
theorem dX4_bid_140 : decode cX4_bid 140 = .ok (.ireturn, 1) := dk_172 (dk_at dksX4_bid_5 23 rfl rfl)
abbrev cX4_canBid : ByteArray := prog_14_method_75_code
def yX4_canBid : MethodName := ⟨RX4, "canBid", "(III)Z"⟩
def dkwX4_canBid_1 : List UInt8 := [184, 1, 17, 153, 0, 13, 42, 180, 0, 62, 27, 46, 5, 162, 0, 7, 4, 167, 0, 4, 3, 172]
abbrev dktX4_canBid_1 : List UInt8 := dkwX4_canBid_1 ++ []
def dkwX4_canBid_0 : List UInt8 := [42, 180, 0, 56, 27, 46, 29, 161, 0, 35, 42, 180, 0, 59, 27, 46, 16, 6, 162, 0, 24, 28]
abbrev dktX4_canBid_0 : List UInt8 := dkwX4_canBid_0 ++ dktX4_canBid_1
theorem dksX4_canBid_0 : cX4_canBid.data.toList.drop 0 = dktX4_canBid_0 := by decide +kernel
theorem dksX4_canBid_1 : cX4_canBid.data.toList.drop 22 = dktX4_canBid_1 := dk_seg dksX4_canBid_0 22 rfl rfl
theorem dX4_canBid_0 : decode cX4_canBid 0 = .ok (.aload_n 0, 1) := dk_42 (dk_at dksX4_canBid_0 0 rfl rfl)
theorem dX4_canBid_1 : decode cX4_canBid 1 = .ok (.getfield 56, 3) := dk_180 0 56 (dk_at dksX4_canBid_0 1 rfl rfl)
theorem dX4_canBid_4 : decode cX4_canBid 4 = .ok (.iload_n 1, 1) := dk_27 (dk_at dksX4_canBid_0 4 rfl rfl)
theorem dX4_canBid_5 : decode cX4_canBid 5 = .ok (.iaload, 1) := dk_46 (dk_at dksX4_canBid_0 5 rfl rfl)
theorem dX4_canBid_6 : decode cX4_canBid 6 = .ok (.iload_n 3, 1) := dk_29 (dk_at dksX4_canBid_0 6 rfl rfl)
theorem dX4_canBid_7 : decode cX4_canBid 7 = .ok (.if_icmp .lt 35, 3) := dk_161 0 35 (dk_at dksX4_canBid_0 7 rfl rfl)
theorem dX4_canBid_10 : decode cX4_canBid 10 = .ok (.aload_n 0, 1) := dk_42 (dk_at dksX4_canBid_0 10 rfl rfl)
theorem dX4_canBid_11 : decode cX4_canBid 11 = .ok (.getfield 59, 3) := dk_180 0 59 (dk_at dksX4_canBid_0 11 rfl rfl)
theorem dX4_canBid_14 : decode cX4_canBid 14 = .ok (.iload_n 1, 1) := dk_27 (dk_at dksX4_canBid_0 14 rfl rfl)
theorem dX4_canBid_15 : decode cX4_canBid 15 = .ok (.iaload, 1) := dk_46 (dk_at dksX4_canBid_0 15 rfl rfl)
theorem dX4_canBid_16 : decode cX4_canBid 16 = .ok (.bipush 6, 2) := dk_16 6 (dk_at dksX4_canBid_0 16 rfl rfl)
theorem dX4_canBid_18 : decode cX4_canBid 18 = .ok (.if_icmp .ge 24, 3) := dk_162 0 24 (dk_at dksX4_canBid_0 18 rfl rfl)
theorem dX4_canBid_21 : decode cX4_canBid 21 = .ok (.iload_n 2, 1) := dk_28 (dk_at dksX4_canBid_0 21 rfl rfl)
theorem dX4_canBid_22 : decode cX4_canBid 22 = .ok (.invokestatic 273, 3) := dk_184 1 17 (dk_at dksX4_canBid_1 0 rfl rfl)
theorem dX4_canBid_25 : decode cX4_canBid 25 = .ok (.ifCond .eq 13, 3) := dk_153 0 13 (dk_at dksX4_canBid_1 3 rfl rfl)
theorem dX4_canBid_28 : decode cX4_canBid 28 = .ok (.aload_n 0, 1) := dk_42 (dk_at dksX4_canBid_1 6 rfl rfl)
theorem dX4_canBid_29 : decode cX4_canBid 29 = .ok (.getfield 62, 3) := dk_180 0 62 (dk_at dksX4_canBid_1 7 rfl rfl)
theorem dX4_canBid_32 : decode cX4_canBid 32 = .ok (.iload_n 1, 1) := dk_27 (dk_at dksX4_canBid_1 10 rfl rfl)
theorem dX4_canBid_33 : decode cX4_canBid 33 = .ok (.iaload, 1) := dk_46 (dk_at dksX4_canBid_1 11 rfl rfl)
theorem dX4_canBid_34 : decode cX4_canBid 34 = .ok (.iconst 2, 1) := dk_5 (dk_at dksX4_canBid_1 12 rfl rfl)
theorem dX4_canBid_35 : decode cX4_canBid 35 = .ok (.if_icmp .ge 7, 3) := dk_162 0 7 (dk_at dksX4_canBid_1 13 rfl rfl)
theorem dX4_canBid_38 : decode cX4_canBid 38 = .ok (.iconst 1, 1) := dk_4 (dk_at dksX4_canBid_1 16 rfl rfl)
theorem dX4_canBid_39 : decode cX4_canBid 39 = .ok (.goto 4, 3) := dk_167 0 4 (dk_at dksX4_canBid_1 17 rfl rfl)
theorem dX4_canBid_42 : decode cX4_canBid 42 = .ok (.iconst 0, 1) := dk_3 (dk_at dksX4_canBid_1 20 rfl rfl)
theorem dX4_canBid_43 : decode cX4_canBid 43 = .ok (.ireturn, 1) := dk_172 (dk_at dksX4_canBid_1 21 rfl rfl)
abbrev cX4_isForeign : ByteArray := prog_14_method_74_code
def yX4_isForeign : MethodName := ⟨RX4, "isForeign", "(I)Z"⟩
def dkwX4_isForeign_0 : List UInt8 := [26, 7, 112, 154, 0, 7, 4, 167, 0, 4, 3, 172]
abbrev dktX4_isForeign_0 : List UInt8 := dkwX4_isForeign_0 ++ []
theorem dksX4_isForeign_0 : cX4_isForeign.data.toList.drop 0 = dktX4_isForeign_0 := by decide +kernel
theorem dX4_isForeign_0 : decode cX4_isForeign 0 = .ok (.iload_n 0, 1) := dk_26 (dk_at dksX4_isForeign_0 0 rfl rfl)
theorem dX4_isForeign_1 : decode cX4_isForeign 1 = .ok (.iconst 4, 1) := dk_7 (dk_at dksX4_isForeign_0 1 rfl rfl)
theorem dX4_isForeign_2 : decode cX4_isForeign 2 = .ok (.irem, 1) := dk_112 (dk_at dksX4_isForeign_0 2 rfl rfl)
theorem dX4_isForeign_3 : decode cX4_isForeign 3 = .ok (.ifCond .ne 7, 3) := dk_154 0 7 (dk_at dksX4_isForeign_0 3 rfl rfl)
theorem dX4_isForeign_6 : decode cX4_isForeign 6 = .ok (.iconst 1, 1) := dk_4 (dk_at dksX4_isForeign_0 6 rfl rfl)
theorem dX4_isForeign_7 : decode cX4_isForeign 7 = .ok (.goto 4, 3) := dk_167 0 4 (dk_at dksX4_isForeign_0 7 rfl rfl)
theorem dX4_isForeign_10 : decode cX4_isForeign 10 = .ok (.iconst 0, 1) := dk_3 (dk_at dksX4_isForeign_0 10 rfl rfl)
theorem dX4_isForeign_11 : decode cX4_isForeign 11 = .ok (.ireturn, 1) := dk_172 (dk_at dksX4_isForeign_0 11 rfl rfl)
abbrev cX4_hammer : ByteArray := prog_14_method_80_code
def yX4_hammer : MethodName := ⟨RX4, "hammer", "()I"⟩
def dkwX4_hammer_4 : List UInt8 := [182, 1, 41, 172]
abbrev dktX4_hammer_4 : List UInt8 := dkwX4_hammer_4 ++ []
def dkwX4_hammer_3 : List UInt8 := [42, 180, 1, 26, 182, 1, 38, 153, 0, 10, 42, 4, 181, 1, 32, 2, 172, 42, 42, 180, 1, 29]
abbrev dktX4_hammer_3 : List UInt8 := dkwX4_hammer_3 ++ dktX4_hammer_4
def dkwX4_hammer_2 : List UInt8 := [180, 0, 74, 46, 60, 27, 2, 159, 0, 34, 27, 42, 180, 1, 29, 159, 0, 26, 42, 27, 42, 180, 0, 74]
abbrev dktX4_hammer_2 : List UInt8 := dkwX4_hammer_2 ++ dktX4_hammer_3
def dkwX4_hammer_1 : List UInt8 := [154, 0, 5, 3, 172, 42, 180, 1, 23, 154, 0, 10, 42, 2, 181, 0, 74, 2, 172, 42, 180, 0, 71, 42]
abbrev dktX4_hammer_1 : List UInt8 := dkwX4_hammer_1 ++ dktX4_hammer_2
def dkwX4_hammer_0 : List UInt8 := [42, 42, 180, 0, 74, 2, 159, 0, 10, 42, 180, 1, 32, 153, 0, 7, 4, 167, 0, 4, 3, 182, 0, 169]
abbrev dktX4_hammer_0 : List UInt8 := dkwX4_hammer_0 ++ dktX4_hammer_1
theorem dksX4_hammer_0 : cX4_hammer.data.toList.drop 0 = dktX4_hammer_0 := by decide +kernel
theorem dksX4_hammer_1 : cX4_hammer.data.toList.drop 24 = dktX4_hammer_1 := dk_seg dksX4_hammer_0 24 rfl rfl
theorem dksX4_hammer_2 : cX4_hammer.data.toList.drop 48 = dktX4_hammer_2 := dk_seg dksX4_hammer_1 24 rfl rfl
theorem dksX4_hammer_3 : cX4_hammer.data.toList.drop 72 = dktX4_hammer_3 := dk_seg dksX4_hammer_2 24 rfl rfl
theorem dksX4_hammer_4 : cX4_hammer.data.toList.drop 94 = dktX4_hammer_4 := dk_seg dksX4_hammer_3 22 rfl rfl
theorem dX4_hammer_0 : decode cX4_hammer 0 = .ok (.aload_n 0, 1) := dk_42 (dk_at dksX4_hammer_0 0 rfl rfl)
theorem dX4_hammer_1 : decode cX4_hammer 1 = .ok (.aload_n 0, 1) := dk_42 (dk_at dksX4_hammer_0 1 rfl rfl)
theorem dX4_hammer_2 : decode cX4_hammer 2 = .ok (.getfield 74, 3) := dk_180 0 74 (dk_at dksX4_hammer_0 2 rfl rfl)
theorem dX4_hammer_5 : decode cX4_hammer 5 = .ok (.iconst (-1), 1) := dk_2 (dk_at dksX4_hammer_0 5 rfl rfl)
theorem dX4_hammer_6 : decode cX4_hammer 6 = .ok (.if_icmp .eq 10, 3) := dk_159 0 10 (dk_at dksX4_hammer_0 6 rfl rfl)
theorem dX4_hammer_9 : decode cX4_hammer 9 = .ok (.aload_n 0, 1) := dk_42 (dk_at dksX4_hammer_0 9 rfl rfl)
theorem dX4_hammer_10 : decode cX4_hammer 10 = .ok (.getfield 288, 3) := dk_180 1 32 (dk_at dksX4_hammer_0 10 rfl rfl)
theorem dX4_hammer_13 : decode cX4_hammer 13 = .ok (.ifCond .eq 7, 3) := dk_153 0 7 (dk_at dksX4_hammer_0 13 rfl rfl)
theorem dX4_hammer_16 : decode cX4_hammer 16 = .ok (.iconst 1, 1) := dk_4 (dk_at dksX4_hammer_0 16 rfl rfl)
theorem dX4_hammer_17 : decode cX4_hammer 17 = .ok (.goto 4, 3) := dk_167 0 4 (dk_at dksX4_hammer_0 17 rfl rfl)
theorem dX4_hammer_20 : decode cX4_hammer 20 = .ok (.iconst 0, 1) := dk_3 (dk_at dksX4_hammer_0 20 rfl rfl)
theorem dX4_hammer_21 : decode cX4_hammer 21 = .ok (.invokevirtual 169, 3) := dk_182 0 169 (dk_at dksX4_hammer_0 21 rfl rfl)
theorem dX4_hammer_24 : decode cX4_hammer 24 = .ok (.ifCond .ne 5, 3) := dk_154 0 5 (dk_at dksX4_hammer_1 0 rfl rfl)
theorem dX4_hammer_27 : decode cX4_hammer 27 = .ok (.iconst 0, 1) := dk_3 (dk_at dksX4_hammer_1 3 rfl rfl)
theorem dX4_hammer_28 : decode cX4_hammer 28 = .ok (.ireturn, 1) := dk_172 (dk_at dksX4_hammer_1 4 rfl rfl)
theorem dX4_hammer_29 : decode cX4_hammer 29 = .ok (.aload_n 0, 1) := dk_42 (dk_at dksX4_hammer_1 5 rfl rfl)
theorem dX4_hammer_30 : decode cX4_hammer 30 = .ok (.getfield 279, 3) := dk_180 1 23 (dk_at dksX4_hammer_1 6 rfl rfl)
theorem dX4_hammer_33 : decode cX4_hammer 33 = .ok (.ifCond .ne 10, 3) := dk_154 0 10 (dk_at dksX4_hammer_1 9 rfl rfl)
theorem dX4_hammer_36 : decode cX4_hammer 36 = .ok (.aload_n 0, 1) := dk_42 (dk_at dksX4_hammer_1 12 rfl rfl)
theorem dX4_hammer_37 : decode cX4_hammer 37 = .ok (.iconst (-1), 1) := dk_2 (dk_at dksX4_hammer_1 13 rfl rfl)
theorem dX4_hammer_38 : decode cX4_hammer 38 = .ok (.putfield 74, 3) := dk_181 0 74 (dk_at dksX4_hammer_1 14 rfl rfl)
theorem dX4_hammer_41 : decode cX4_hammer 41 = .ok (.iconst (-1), 1) := dk_2 (dk_at dksX4_hammer_1 17 rfl rfl)
theorem dX4_hammer_42 : decode cX4_hammer 42 = .ok (.ireturn, 1) := dk_172 (dk_at dksX4_hammer_1 18 rfl rfl)
theorem dX4_hammer_43 : decode cX4_hammer 43 = .ok (.aload_n 0, 1) := dk_42 (dk_at dksX4_hammer_1 19 rfl rfl)
theorem dX4_hammer_44 : decode cX4_hammer 44 = .ok (.getfield 71, 3) := dk_180 0 71 (dk_at dksX4_hammer_1 20 rfl rfl)
theorem dX4_hammer_47 : decode cX4_hammer 47 = .ok (.aload_n 0, 1) := dk_42 (dk_at dksX4_hammer_1 23 rfl rfl)
theorem dX4_hammer_48 : decode cX4_hammer 48 = .ok (.getfield 74, 3) := dk_180 0 74 (dk_at dksX4_hammer_2 0 rfl rfl)
theorem dX4_hammer_51 : decode cX4_hammer 51 = .ok (.iaload, 1) := dk_46 (dk_at dksX4_hammer_2 3 rfl rfl)
theorem dX4_hammer_52 : decode cX4_hammer 52 = .ok (.istore_n 1, 1) := dk_60 (dk_at dksX4_hammer_2 4 rfl rfl)
theorem dX4_hammer_53 : decode cX4_hammer 53 = .ok (.iload_n 1, 1) := dk_27 (dk_at dksX4_hammer_2 5 rfl rfl)
theorem dX4_hammer_54 : decode cX4_hammer 54 = .ok (.iconst (-1), 1) := dk_2 (dk_at dksX4_hammer_2 6 rfl rfl)
theorem dX4_hammer_55 : decode cX4_hammer 55 = .ok (.if_icmp .eq 34, 3) := dk_159 0 34 (dk_at dksX4_hammer_2 7 rfl rfl)
theorem dX4_hammer_58 : decode cX4_hammer 58 = .ok (.iload_n 1, 1) := dk_27 (dk_at dksX4_hammer_2 10 rfl rfl)
theorem dX4_hammer_59 : decode cX4_hammer 59 = .ok (.aload_n 0, 1) := dk_42 (dk_at dksX4_hammer_2 11 rfl rfl)
theorem dX4_hammer_60 : decode cX4_hammer 60 = .ok (.getfield 285, 3) := dk_180 1 29 (dk_at dksX4_hammer_2 12 rfl rfl)
theorem dX4_hammer_63 : decode cX4_hammer 63 = .ok (.if_icmp .eq 26, 3) := dk_159 0 26 (dk_at dksX4_hammer_2 15 rfl rfl)
theorem dX4_hammer_66 : decode cX4_hammer 66 = .ok (.aload_n 0, 1) := dk_42 (dk_at dksX4_hammer_2 18 rfl rfl)
theorem dX4_hammer_67 : decode cX4_hammer 67 = .ok (.iload_n 1, 1) := dk_27 (dk_at dksX4_hammer_2 19 rfl rfl)
theorem dX4_hammer_68 : decode cX4_hammer 68 = .ok (.aload_n 0, 1) := dk_42 (dk_at dksX4_hammer_2 20 rfl rfl)
theorem dX4_hammer_69 : decode cX4_hammer 69 = .ok (.getfield 74, 3) := dk_180 0 74 (dk_at dksX4_hammer_2 21 rfl rfl)
theorem dX4_hammer_72 : decode cX4_hammer 72 = .ok (.aload_n 0, 1) := dk_42 (dk_at dksX4_hammer_3 0 rfl rfl)
theorem dX4_hammer_73 : decode cX4_hammer 73 = .ok (.getfield 282, 3) := dk_180 1 26 (dk_at dksX4_hammer_3 1 rfl rfl)
theorem dX4_hammer_76 : decode cX4_hammer 76 = .ok (.invokevirtual 294, 3) := dk_182 1 38 (dk_at dksX4_hammer_3 4 rfl rfl)
theorem dX4_hammer_79 : decode cX4_hammer 79 = .ok (.ifCond .eq 10, 3) := dk_153 0 10 (dk_at dksX4_hammer_3 7 rfl rfl)
theorem dX4_hammer_82 : decode cX4_hammer 82 = .ok (.aload_n 0, 1) := dk_42 (dk_at dksX4_hammer_3 10 rfl rfl)
theorem dX4_hammer_83 : decode cX4_hammer 83 = .ok (.iconst 1, 1) := dk_4 (dk_at dksX4_hammer_3 11 rfl rfl)
theorem dX4_hammer_84 : decode cX4_hammer 84 = .ok (.putfield 288, 3) := dk_181 1 32 (dk_at dksX4_hammer_3 12 rfl rfl)
theorem dX4_hammer_87 : decode cX4_hammer 87 = .ok (.iconst (-1), 1) := dk_2 (dk_at dksX4_hammer_3 15 rfl rfl)
theorem dX4_hammer_88 : decode cX4_hammer 88 = .ok (.ireturn, 1) := dk_172 (dk_at dksX4_hammer_3 16 rfl rfl)
theorem dX4_hammer_89 : decode cX4_hammer 89 = .ok (.aload_n 0, 1) := dk_42 (dk_at dksX4_hammer_3 17 rfl rfl)
theorem dX4_hammer_90 : decode cX4_hammer 90 = .ok (.aload_n 0, 1) := dk_42 (dk_at dksX4_hammer_3 18 rfl rfl)
theorem dX4_hammer_91 : decode cX4_hammer 91 = .ok (.getfield 285, 3) := dk_180 1 29 (dk_at dksX4_hammer_3 19 rfl rfl)
theorem dX4_hammer_94 : decode cX4_hammer 94 = .ok (.invokevirtual 297, 3) := dk_182 1 41 (dk_at dksX4_hammer_4 0 rfl rfl)
theorem dX4_hammer_97 : decode cX4_hammer 97 = .ok (.ireturn, 1) := dk_172 (dk_at dksX4_hammer_4 3 rfl rfl)
abbrev cX4_sells : ByteArray := prog_14_method_79_code
def yX4_sells : MethodName := ⟨RX4, "sells", "(I)I"⟩
def dkwX4_sells_3 : List UInt8 := [2, 181, 0, 74, 42, 3, 181, 1, 32, 27, 172]
abbrev dktX4_sells_3 : List UInt8 := dkwX4_sells_3 ++ []
def dkwX4_sells_2 : List UInt8 := [180, 0, 62, 27, 92, 46, 42, 180, 0, 74, 184, 1, 17, 153, 0, 7, 4, 167, 0, 4, 3, 96, 79, 42]
abbrev dktX4_sells_2 : List UInt8 := dkwX4_sells_2 ++ dktX4_sells_3
def dkwX4_sells_1 : List UInt8 := [180, 0, 56, 27, 92, 46, 42, 180, 1, 26, 100, 79, 42, 180, 0, 59, 27, 92, 46, 4, 96, 79, 42]
abbrev dktX4_sells_1 : List UInt8 := dkwX4_sells_1 ++ dktX4_sells_2
def dkwX4_sells_0 : List UInt8 := [42, 180, 0, 65, 42, 180, 0, 74, 27, 79, 42, 180, 0, 68, 42, 180, 0, 74, 42, 180, 1, 26, 79, 42]
abbrev dktX4_sells_0 : List UInt8 := dkwX4_sells_0 ++ dktX4_sells_1
theorem dksX4_sells_0 : cX4_sells.data.toList.drop 0 = dktX4_sells_0 := by decide +kernel
theorem dksX4_sells_1 : cX4_sells.data.toList.drop 24 = dktX4_sells_1 := dk_seg dksX4_sells_0 24 rfl rfl
theorem dksX4_sells_2 : cX4_sells.data.toList.drop 47 = dktX4_sells_2 := dk_seg dksX4_sells_1 23 rfl rfl
theorem dksX4_sells_3 : cX4_sells.data.toList.drop 71 = dktX4_sells_3 := dk_seg dksX4_sells_2 24 rfl rfl
theorem dX4_sells_0 : decode cX4_sells 0 = .ok (.aload_n 0, 1) := dk_42 (dk_at dksX4_sells_0 0 rfl rfl)
theorem dX4_sells_1 : decode cX4_sells 1 = .ok (.getfield 65, 3) := dk_180 0 65 (dk_at dksX4_sells_0 1 rfl rfl)
theorem dX4_sells_4 : decode cX4_sells 4 = .ok (.aload_n 0, 1) := dk_42 (dk_at dksX4_sells_0 4 rfl rfl)
theorem dX4_sells_5 : decode cX4_sells 5 = .ok (.getfield 74, 3) := dk_180 0 74 (dk_at dksX4_sells_0 5 rfl rfl)
theorem dX4_sells_8 : decode cX4_sells 8 = .ok (.iload_n 1, 1) := dk_27 (dk_at dksX4_sells_0 8 rfl rfl)
theorem dX4_sells_9 : decode cX4_sells 9 = .ok (.iastore, 1) := dk_79 (dk_at dksX4_sells_0 9 rfl rfl)
theorem dX4_sells_10 : decode cX4_sells 10 = .ok (.aload_n 0, 1) := dk_42 (dk_at dksX4_sells_0 10 rfl rfl)
theorem dX4_sells_11 : decode cX4_sells 11 = .ok (.getfield 68, 3) := dk_180 0 68 (dk_at dksX4_sells_0 11 rfl rfl)
theorem dX4_sells_14 : decode cX4_sells 14 = .ok (.aload_n 0, 1) := dk_42 (dk_at dksX4_sells_0 14 rfl rfl)
theorem dX4_sells_15 : decode cX4_sells 15 = .ok (.getfield 74, 3) := dk_180 0 74 (dk_at dksX4_sells_0 15 rfl rfl)
theorem dX4_sells_18 : decode cX4_sells 18 = .ok (.aload_n 0, 1) := dk_42 (dk_at dksX4_sells_0 18 rfl rfl)
theorem dX4_sells_19 : decode cX4_sells 19 = .ok (.getfield 282, 3) := dk_180 1 26 (dk_at dksX4_sells_0 19 rfl rfl)
theorem dX4_sells_22 : decode cX4_sells 22 = .ok (.iastore, 1) := dk_79 (dk_at dksX4_sells_0 22 rfl rfl)
theorem dX4_sells_23 : decode cX4_sells 23 = .ok (.aload_n 0, 1) := dk_42 (dk_at dksX4_sells_0 23 rfl rfl)
theorem dX4_sells_24 : decode cX4_sells 24 = .ok (.getfield 56, 3) := dk_180 0 56 (dk_at dksX4_sells_1 0 rfl rfl)
theorem dX4_sells_27 : decode cX4_sells 27 = .ok (.iload_n 1, 1) := dk_27 (dk_at dksX4_sells_1 3 rfl rfl)
theorem dX4_sells_28 : decode cX4_sells 28 = .ok (.dup2, 1) := dk_92 (dk_at dksX4_sells_1 4 rfl rfl)
theorem dX4_sells_29 : decode cX4_sells 29 = .ok (.iaload, 1) := dk_46 (dk_at dksX4_sells_1 5 rfl rfl)
theorem dX4_sells_30 : decode cX4_sells 30 = .ok (.aload_n 0, 1) := dk_42 (dk_at dksX4_sells_1 6 rfl rfl)
theorem dX4_sells_31 : decode cX4_sells 31 = .ok (.getfield 282, 3) := dk_180 1 26 (dk_at dksX4_sells_1 7 rfl rfl)
theorem dX4_sells_34 : decode cX4_sells 34 = .ok (.isub, 1) := dk_100 (dk_at dksX4_sells_1 10 rfl rfl)
theorem dX4_sells_35 : decode cX4_sells 35 = .ok (.iastore, 1) := dk_79 (dk_at dksX4_sells_1 11 rfl rfl)
theorem dX4_sells_36 : decode cX4_sells 36 = .ok (.aload_n 0, 1) := dk_42 (dk_at dksX4_sells_1 12 rfl rfl)
theorem dX4_sells_37 : decode cX4_sells 37 = .ok (.getfield 59, 3) := dk_180 0 59 (dk_at dksX4_sells_1 13 rfl rfl)
theorem dX4_sells_40 : decode cX4_sells 40 = .ok (.iload_n 1, 1) := dk_27 (dk_at dksX4_sells_1 16 rfl rfl)
theorem dX4_sells_41 : decode cX4_sells 41 = .ok (.dup2, 1) := dk_92 (dk_at dksX4_sells_1 17 rfl rfl)
theorem dX4_sells_42 : decode cX4_sells 42 = .ok (.iaload, 1) := dk_46 (dk_at dksX4_sells_1 18 rfl rfl)
theorem dX4_sells_43 : decode cX4_sells 43 = .ok (.iconst 1, 1) := dk_4 (dk_at dksX4_sells_1 19 rfl rfl)
theorem dX4_sells_44 : decode cX4_sells 44 = .ok (.iadd, 1) := dk_96 (dk_at dksX4_sells_1 20 rfl rfl)
theorem dX4_sells_45 : decode cX4_sells 45 = .ok (.iastore, 1) := dk_79 (dk_at dksX4_sells_1 21 rfl rfl)
theorem dX4_sells_46 : decode cX4_sells 46 = .ok (.aload_n 0, 1) := dk_42 (dk_at dksX4_sells_1 22 rfl rfl)
theorem dX4_sells_47 : decode cX4_sells 47 = .ok (.getfield 62, 3) := dk_180 0 62 (dk_at dksX4_sells_2 0 rfl rfl)
theorem dX4_sells_50 : decode cX4_sells 50 = .ok (.iload_n 1, 1) := dk_27 (dk_at dksX4_sells_2 3 rfl rfl)
theorem dX4_sells_51 : decode cX4_sells 51 = .ok (.dup2, 1) := dk_92 (dk_at dksX4_sells_2 4 rfl rfl)
theorem dX4_sells_52 : decode cX4_sells 52 = .ok (.iaload, 1) := dk_46 (dk_at dksX4_sells_2 5 rfl rfl)
theorem dX4_sells_53 : decode cX4_sells 53 = .ok (.aload_n 0, 1) := dk_42 (dk_at dksX4_sells_2 6 rfl rfl)
theorem dX4_sells_54 : decode cX4_sells 54 = .ok (.getfield 74, 3) := dk_180 0 74 (dk_at dksX4_sells_2 7 rfl rfl)
theorem dX4_sells_57 : decode cX4_sells 57 = .ok (.invokestatic 273, 3) := dk_184 1 17 (dk_at dksX4_sells_2 10 rfl rfl)
theorem dX4_sells_60 : decode cX4_sells 60 = .ok (.ifCond .eq 7, 3) := dk_153 0 7 (dk_at dksX4_sells_2 13 rfl rfl)
theorem dX4_sells_63 : decode cX4_sells 63 = .ok (.iconst 1, 1) := dk_4 (dk_at dksX4_sells_2 16 rfl rfl)
theorem dX4_sells_64 : decode cX4_sells 64 = .ok (.goto 4, 3) := dk_167 0 4 (dk_at dksX4_sells_2 17 rfl rfl)
theorem dX4_sells_67 : decode cX4_sells 67 = .ok (.iconst 0, 1) := dk_3 (dk_at dksX4_sells_2 20 rfl rfl)
theorem dX4_sells_68 : decode cX4_sells 68 = .ok (.iadd, 1) := dk_96 (dk_at dksX4_sells_2 21 rfl rfl)
theorem dX4_sells_69 : decode cX4_sells 69 = .ok (.iastore, 1) := dk_79 (dk_at dksX4_sells_2 22 rfl rfl)
theorem dX4_sells_70 : decode cX4_sells 70 = .ok (.aload_n 0, 1) := dk_42 (dk_at dksX4_sells_2 23 rfl rfl)
theorem dX4_sells_71 : decode cX4_sells 71 = .ok (.iconst (-1), 1) := dk_2 (dk_at dksX4_sells_3 0 rfl rfl)
theorem dX4_sells_72 : decode cX4_sells 72 = .ok (.putfield 74, 3) := dk_181 0 74 (dk_at dksX4_sells_3 1 rfl rfl)
theorem dX4_sells_75 : decode cX4_sells 75 = .ok (.aload_n 0, 1) := dk_42 (dk_at dksX4_sells_3 4 rfl rfl)
theorem dX4_sells_76 : decode cX4_sells 76 = .ok (.iconst 0, 1) := dk_3 (dk_at dksX4_sells_3 5 rfl rfl)
theorem dX4_sells_77 : decode cX4_sells 77 = .ok (.putfield 288, 3) := dk_181 1 32 (dk_at dksX4_sells_3 6 rfl rfl)
theorem dX4_sells_80 : decode cX4_sells 80 = .ok (.iload_n 1, 1) := dk_27 (dk_at dksX4_sells_3 9 rfl rfl)
theorem dX4_sells_81 : decode cX4_sells 81 = .ok (.ireturn, 1) := dk_172 (dk_at dksX4_sells_3 10 rfl rfl)
abbrev cX4_answer : ByteArray := prog_14_method_81_code
def yX4_answer : MethodName := ⟨RX4, "answer", "(Z)I"⟩
def dkwX4_answer_2 : List UInt8 := [79, 42, 27, 153, 0, 7, 28, 167, 0, 7, 42, 180, 1, 29, 182, 1, 41, 172]
abbrev dktX4_answer_2 : List UInt8 := dkwX4_answer_2 ++ []
def dkwX4_answer_1 : List UInt8 := [154, 0, 5, 3, 172, 42, 180, 0, 71, 42, 180, 0, 74, 46, 61, 42, 180, 0, 71, 42, 180, 0, 74, 2]
abbrev dktX4_answer_1 : List UInt8 := dkwX4_answer_1 ++ dktX4_answer_2
def dkwX4_answer_0 : List UInt8 := [42, 42, 180, 0, 74, 2, 159, 0, 14, 42, 180, 1, 32, 153, 0, 7, 3, 167, 0, 4, 4, 182, 0, 169]
abbrev dktX4_answer_0 : List UInt8 := dkwX4_answer_0 ++ dktX4_answer_1
theorem dksX4_answer_0 : cX4_answer.data.toList.drop 0 = dktX4_answer_0 := by decide +kernel
theorem dksX4_answer_1 : cX4_answer.data.toList.drop 24 = dktX4_answer_1 := dk_seg dksX4_answer_0 24 rfl rfl
theorem dksX4_answer_2 : cX4_answer.data.toList.drop 48 = dktX4_answer_2 := dk_seg dksX4_answer_1 24 rfl rfl
theorem dX4_answer_0 : decode cX4_answer 0 = .ok (.aload_n 0, 1) := dk_42 (dk_at dksX4_answer_0 0 rfl rfl)
theorem dX4_answer_1 : decode cX4_answer 1 = .ok (.aload_n 0, 1) := dk_42 (dk_at dksX4_answer_0 1 rfl rfl)
theorem dX4_answer_2 : decode cX4_answer 2 = .ok (.getfield 74, 3) := dk_180 0 74 (dk_at dksX4_answer_0 2 rfl rfl)
theorem dX4_answer_5 : decode cX4_answer 5 = .ok (.iconst (-1), 1) := dk_2 (dk_at dksX4_answer_0 5 rfl rfl)
theorem dX4_answer_6 : decode cX4_answer 6 = .ok (.if_icmp .eq 14, 3) := dk_159 0 14 (dk_at dksX4_answer_0 6 rfl rfl)
theorem dX4_answer_9 : decode cX4_answer 9 = .ok (.aload_n 0, 1) := dk_42 (dk_at dksX4_answer_0 9 rfl rfl)
theorem dX4_answer_10 : decode cX4_answer 10 = .ok (.getfield 288, 3) := dk_180 1 32 (dk_at dksX4_answer_0 10 rfl rfl)
theorem dX4_answer_13 : decode cX4_answer 13 = .ok (.ifCond .eq 7, 3) := dk_153 0 7 (dk_at dksX4_answer_0 13 rfl rfl)
theorem dX4_answer_16 : decode cX4_answer 16 = .ok (.iconst 0, 1) := dk_3 (dk_at dksX4_answer_0 16 rfl rfl)
theorem dX4_answer_17 : decode cX4_answer 17 = .ok (.goto 4, 3) := dk_167 0 4 (dk_at dksX4_answer_0 17 rfl rfl)
theorem dX4_answer_20 : decode cX4_answer 20 = .ok (.iconst 1, 1) := dk_4 (dk_at dksX4_answer_0 20 rfl rfl)
theorem dX4_answer_21 : decode cX4_answer 21 = .ok (.invokevirtual 169, 3) := dk_182 0 169 (dk_at dksX4_answer_0 21 rfl rfl)
theorem dX4_answer_24 : decode cX4_answer 24 = .ok (.ifCond .ne 5, 3) := dk_154 0 5 (dk_at dksX4_answer_1 0 rfl rfl)
theorem dX4_answer_27 : decode cX4_answer 27 = .ok (.iconst 0, 1) := dk_3 (dk_at dksX4_answer_1 3 rfl rfl)
theorem dX4_answer_28 : decode cX4_answer 28 = .ok (.ireturn, 1) := dk_172 (dk_at dksX4_answer_1 4 rfl rfl)
theorem dX4_answer_29 : decode cX4_answer 29 = .ok (.aload_n 0, 1) := dk_42 (dk_at dksX4_answer_1 5 rfl rfl)
theorem dX4_answer_30 : decode cX4_answer 30 = .ok (.getfield 71, 3) := dk_180 0 71 (dk_at dksX4_answer_1 6 rfl rfl)
theorem dX4_answer_33 : decode cX4_answer 33 = .ok (.aload_n 0, 1) := dk_42 (dk_at dksX4_answer_1 9 rfl rfl)
theorem dX4_answer_34 : decode cX4_answer 34 = .ok (.getfield 74, 3) := dk_180 0 74 (dk_at dksX4_answer_1 10 rfl rfl)
theorem dX4_answer_37 : decode cX4_answer 37 = .ok (.iaload, 1) := dk_46 (dk_at dksX4_answer_1 13 rfl rfl)
theorem dX4_answer_38 : decode cX4_answer 38 = .ok (.istore_n 2, 1) := dk_61 (dk_at dksX4_answer_1 14 rfl rfl)
theorem dX4_answer_39 : decode cX4_answer 39 = .ok (.aload_n 0, 1) := dk_42 (dk_at dksX4_answer_1 15 rfl rfl)
theorem dX4_answer_40 : decode cX4_answer 40 = .ok (.getfield 71, 3) := dk_180 0 71 (dk_at dksX4_answer_1 16 rfl rfl)
theorem dX4_answer_43 : decode cX4_answer 43 = .ok (.aload_n 0, 1) := dk_42 (dk_at dksX4_answer_1 19 rfl rfl)
theorem dX4_answer_44 : decode cX4_answer 44 = .ok (.getfield 74, 3) := dk_180 0 74 (dk_at dksX4_answer_1 20 rfl rfl)
theorem dX4_answer_47 : decode cX4_answer 47 = .ok (.iconst (-1), 1) := dk_2 (dk_at dksX4_answer_1 23 rfl rfl)
theorem dX4_answer_48 : decode cX4_answer 48 = .ok (.iastore, 1) := dk_79 (dk_at dksX4_answer_2 0 rfl rfl)
theorem dX4_answer_49 : decode cX4_answer 49 = .ok (.aload_n 0, 1) := dk_42 (dk_at dksX4_answer_2 1 rfl rfl)
theorem dX4_answer_50 : decode cX4_answer 50 = .ok (.iload_n 1, 1) := dk_27 (dk_at dksX4_answer_2 2 rfl rfl)
theorem dX4_answer_51 : decode cX4_answer 51 = .ok (.ifCond .eq 7, 3) := dk_153 0 7 (dk_at dksX4_answer_2 3 rfl rfl)
theorem dX4_answer_54 : decode cX4_answer 54 = .ok (.iload_n 2, 1) := dk_28 (dk_at dksX4_answer_2 6 rfl rfl)
theorem dX4_answer_55 : decode cX4_answer 55 = .ok (.goto 7, 3) := dk_167 0 7 (dk_at dksX4_answer_2 7 rfl rfl)
theorem dX4_answer_58 : decode cX4_answer 58 = .ok (.aload_n 0, 1) := dk_42 (dk_at dksX4_answer_2 10 rfl rfl)
theorem dX4_answer_59 : decode cX4_answer 59 = .ok (.getfield 285, 3) := dk_180 1 29 (dk_at dksX4_answer_2 11 rfl rfl)
theorem dX4_answer_62 : decode cX4_answer 62 = .ok (.invokevirtual 297, 3) := dk_182 1 41 (dk_at dksX4_answer_2 14 rfl rfl)
theorem dX4_answer_65 : decode cX4_answer 65 = .ok (.ireturn, 1) := dk_172 (dk_at dksX4_answer_2 17 rfl rfl)
abbrev cX4_lot : ByteArray := prog_14_method_82_code
def yX4_lot : MethodName := ⟨RX4, "lot", "(II)I"⟩
def dkwX4_lot_4 : List UInt8 := [180, 1, 26, 167, 0, 4, 2, 172]
abbrev dktX4_lot_4 : List UInt8 := dkwX4_lot_4 ++ []
def dkwX4_lot_3 : List UInt8 := [180, 0, 71, 27, 46, 167, 0, 26, 42, 180, 0, 74, 27, 160, 0, 17, 42, 180, 1, 23, 158, 0, 10, 42]
abbrev dktX4_lot_3 : List UInt8 := dkwX4_lot_3 ++ dktX4_lot_4
def dkwX4_lot_2 : List UInt8 := [167, 0, 54, 28, 4, 160, 0, 12, 42, 180, 0, 68, 27, 46, 167, 0, 40, 28, 5, 160, 0, 12, 42]
abbrev dktX4_lot_2 : List UInt8 := dkwX4_lot_2 ++ dktX4_lot_3
def dkwX4_lot_1 : List UInt8 := [167, 0, 4, 5, 182, 0, 169, 154, 0, 5, 3, 172, 28, 154, 0, 12, 42, 180, 0, 65, 27, 46]
abbrev dktX4_lot_1 : List UInt8 := dkwX4_lot_1 ++ dktX4_lot_2
def dkwX4_lot_0 : List UInt8 := [42, 27, 184, 1, 20, 154, 0, 7, 4, 167, 0, 17, 28, 3, 6, 184, 0, 81, 153, 0, 7, 3]
abbrev dktX4_lot_0 : List UInt8 := dkwX4_lot_0 ++ dktX4_lot_1
theorem dksX4_lot_0 : cX4_lot.data.toList.drop 0 = dktX4_lot_0 := by decide +kernel
theorem dksX4_lot_1 : cX4_lot.data.toList.drop 22 = dktX4_lot_1 := dk_seg dksX4_lot_0 22 rfl rfl
theorem dksX4_lot_2 : cX4_lot.data.toList.drop 44 = dktX4_lot_2 := dk_seg dksX4_lot_1 22 rfl rfl
theorem dksX4_lot_3 : cX4_lot.data.toList.drop 67 = dktX4_lot_3 := dk_seg dksX4_lot_2 23 rfl rfl
theorem dksX4_lot_4 : cX4_lot.data.toList.drop 91 = dktX4_lot_4 := dk_seg dksX4_lot_3 24 rfl rfl
theorem dX4_lot_0 : decode cX4_lot 0 = .ok (.aload_n 0, 1) := dk_42 (dk_at dksX4_lot_0 0 rfl rfl)
theorem dX4_lot_1 : decode cX4_lot 1 = .ok (.iload_n 1, 1) := dk_27 (dk_at dksX4_lot_0 1 rfl rfl)
theorem dX4_lot_2 : decode cX4_lot 2 = .ok (.invokestatic 276, 3) := dk_184 1 20 (dk_at dksX4_lot_0 2 rfl rfl)
theorem dX4_lot_5 : decode cX4_lot 5 = .ok (.ifCond .ne 7, 3) := dk_154 0 7 (dk_at dksX4_lot_0 5 rfl rfl)
theorem dX4_lot_8 : decode cX4_lot 8 = .ok (.iconst 1, 1) := dk_4 (dk_at dksX4_lot_0 8 rfl rfl)
theorem dX4_lot_9 : decode cX4_lot 9 = .ok (.goto 17, 3) := dk_167 0 17 (dk_at dksX4_lot_0 9 rfl rfl)
theorem dX4_lot_12 : decode cX4_lot 12 = .ok (.iload_n 2, 1) := dk_28 (dk_at dksX4_lot_0 12 rfl rfl)
theorem dX4_lot_13 : decode cX4_lot 13 = .ok (.iconst 0, 1) := dk_3 (dk_at dksX4_lot_0 13 rfl rfl)
theorem dX4_lot_14 : decode cX4_lot 14 = .ok (.iconst 3, 1) := dk_6 (dk_at dksX4_lot_0 14 rfl rfl)
theorem dX4_lot_15 : decode cX4_lot 15 = .ok (.invokestatic 81, 3) := dk_184 0 81 (dk_at dksX4_lot_0 15 rfl rfl)
theorem dX4_lot_18 : decode cX4_lot 18 = .ok (.ifCond .eq 7, 3) := dk_153 0 7 (dk_at dksX4_lot_0 18 rfl rfl)
theorem dX4_lot_21 : decode cX4_lot 21 = .ok (.iconst 0, 1) := dk_3 (dk_at dksX4_lot_0 21 rfl rfl)
theorem dX4_lot_22 : decode cX4_lot 22 = .ok (.goto 4, 3) := dk_167 0 4 (dk_at dksX4_lot_1 0 rfl rfl)
theorem dX4_lot_25 : decode cX4_lot 25 = .ok (.iconst 2, 1) := dk_5 (dk_at dksX4_lot_1 3 rfl rfl)
theorem dX4_lot_26 : decode cX4_lot 26 = .ok (.invokevirtual 169, 3) := dk_182 0 169 (dk_at dksX4_lot_1 4 rfl rfl)
theorem dX4_lot_29 : decode cX4_lot 29 = .ok (.ifCond .ne 5, 3) := dk_154 0 5 (dk_at dksX4_lot_1 7 rfl rfl)
theorem dX4_lot_32 : decode cX4_lot 32 = .ok (.iconst 0, 1) := dk_3 (dk_at dksX4_lot_1 10 rfl rfl)
theorem dX4_lot_33 : decode cX4_lot 33 = .ok (.ireturn, 1) := dk_172 (dk_at dksX4_lot_1 11 rfl rfl)
theorem dX4_lot_34 : decode cX4_lot 34 = .ok (.iload_n 2, 1) := dk_28 (dk_at dksX4_lot_1 12 rfl rfl)
theorem dX4_lot_35 : decode cX4_lot 35 = .ok (.ifCond .ne 12, 3) := dk_154 0 12 (dk_at dksX4_lot_1 13 rfl rfl)
theorem dX4_lot_38 : decode cX4_lot 38 = .ok (.aload_n 0, 1) := dk_42 (dk_at dksX4_lot_1 16 rfl rfl)
theorem dX4_lot_39 : decode cX4_lot 39 = .ok (.getfield 65, 3) := dk_180 0 65 (dk_at dksX4_lot_1 17 rfl rfl)
theorem dX4_lot_42 : decode cX4_lot 42 = .ok (.iload_n 1, 1) := dk_27 (dk_at dksX4_lot_1 20 rfl rfl)
theorem dX4_lot_43 : decode cX4_lot 43 = .ok (.iaload, 1) := dk_46 (dk_at dksX4_lot_1 21 rfl rfl)
theorem dX4_lot_44 : decode cX4_lot 44 = .ok (.goto 54, 3) := dk_167 0 54 (dk_at dksX4_lot_2 0 rfl rfl)
theorem dX4_lot_47 : decode cX4_lot 47 = .ok (.iload_n 2, 1) := dk_28 (dk_at dksX4_lot_2 3 rfl rfl)
theorem dX4_lot_48 : decode cX4_lot 48 = .ok (.iconst 1, 1) := dk_4 (dk_at dksX4_lot_2 4 rfl rfl)
theorem dX4_lot_49 : decode cX4_lot 49 = .ok (.if_icmp .ne 12, 3) := dk_160 0 12 (dk_at dksX4_lot_2 5 rfl rfl)
theorem dX4_lot_52 : decode cX4_lot 52 = .ok (.aload_n 0, 1) := dk_42 (dk_at dksX4_lot_2 8 rfl rfl)
theorem dX4_lot_53 : decode cX4_lot 53 = .ok (.getfield 68, 3) := dk_180 0 68 (dk_at dksX4_lot_2 9 rfl rfl)
theorem dX4_lot_56 : decode cX4_lot 56 = .ok (.iload_n 1, 1) := dk_27 (dk_at dksX4_lot_2 12 rfl rfl)
theorem dX4_lot_57 : decode cX4_lot 57 = .ok (.iaload, 1) := dk_46 (dk_at dksX4_lot_2 13 rfl rfl)
theorem dX4_lot_58 : decode cX4_lot 58 = .ok (.goto 40, 3) := dk_167 0 40 (dk_at dksX4_lot_2 14 rfl rfl)
theorem dX4_lot_61 : decode cX4_lot 61 = .ok (.iload_n 2, 1) := dk_28 (dk_at dksX4_lot_2 17 rfl rfl)
theorem dX4_lot_62 : decode cX4_lot 62 = .ok (.iconst 2, 1) := dk_5 (dk_at dksX4_lot_2 18 rfl rfl)
theorem dX4_lot_63 : decode cX4_lot 63 = .ok (.if_icmp .ne 12, 3) := dk_160 0 12 (dk_at dksX4_lot_2 19 rfl rfl)
theorem dX4_lot_66 : decode cX4_lot 66 = .ok (.aload_n 0, 1) := dk_42 (dk_at dksX4_lot_2 22 rfl rfl)
theorem dX4_lot_67 : decode cX4_lot 67 = .ok (.getfield 71, 3) := dk_180 0 71 (dk_at dksX4_lot_3 0 rfl rfl)
theorem dX4_lot_70 : decode cX4_lot 70 = .ok (.iload_n 1, 1) := dk_27 (dk_at dksX4_lot_3 3 rfl rfl)
theorem dX4_lot_71 : decode cX4_lot 71 = .ok (.iaload, 1) := dk_46 (dk_at dksX4_lot_3 4 rfl rfl)
theorem dX4_lot_72 : decode cX4_lot 72 = .ok (.goto 26, 3) := dk_167 0 26 (dk_at dksX4_lot_3 5 rfl rfl)
theorem dX4_lot_75 : decode cX4_lot 75 = .ok (.aload_n 0, 1) := dk_42 (dk_at dksX4_lot_3 8 rfl rfl)
theorem dX4_lot_76 : decode cX4_lot 76 = .ok (.getfield 74, 3) := dk_180 0 74 (dk_at dksX4_lot_3 9 rfl rfl)
theorem dX4_lot_79 : decode cX4_lot 79 = .ok (.iload_n 1, 1) := dk_27 (dk_at dksX4_lot_3 12 rfl rfl)
theorem dX4_lot_80 : decode cX4_lot 80 = .ok (.if_icmp .ne 17, 3) := dk_160 0 17 (dk_at dksX4_lot_3 13 rfl rfl)
theorem dX4_lot_83 : decode cX4_lot 83 = .ok (.aload_n 0, 1) := dk_42 (dk_at dksX4_lot_3 16 rfl rfl)
theorem dX4_lot_84 : decode cX4_lot 84 = .ok (.getfield 279, 3) := dk_180 1 23 (dk_at dksX4_lot_3 17 rfl rfl)
theorem dX4_lot_87 : decode cX4_lot 87 = .ok (.ifCond .le 10, 3) := dk_158 0 10 (dk_at dksX4_lot_3 20 rfl rfl)
theorem dX4_lot_90 : decode cX4_lot 90 = .ok (.aload_n 0, 1) := dk_42 (dk_at dksX4_lot_3 23 rfl rfl)
theorem dX4_lot_91 : decode cX4_lot 91 = .ok (.getfield 282, 3) := dk_180 1 26 (dk_at dksX4_lot_4 0 rfl rfl)
theorem dX4_lot_94 : decode cX4_lot 94 = .ok (.goto 4, 3) := dk_167 0 4 (dk_at dksX4_lot_4 3 rfl rfl)
theorem dX4_lot_97 : decode cX4_lot 97 = .ok (.iconst (-1), 1) := dk_2 (dk_at dksX4_lot_4 6 rfl rfl)
theorem dX4_lot_98 : decode cX4_lot 98 = .ok (.ireturn, 1) := dk_172 (dk_at dksX4_lot_4 7 rfl rfl)
abbrev cX4_squad : ByteArray := prog_14_method_83_code
def yX4_squad : MethodName := ⟨RX4, "squad", "(II)I"⟩
def dkwX4_squad_2 : List UInt8 := [167, 0, 23, 28, 4, 160, 0, 12, 42, 180, 0, 59, 27, 46, 167, 0, 9, 42, 180, 0, 62, 27, 46, 172]
abbrev dktX4_squad_2 : List UInt8 := dkwX4_squad_2 ++ []
def dkwX4_squad_1 : List UInt8 := [167, 0, 4, 5, 182, 0, 169, 154, 0, 5, 3, 172, 28, 154, 0, 12, 42, 180, 0, 56, 27, 46]
abbrev dktX4_squad_1 : List UInt8 := dkwX4_squad_1 ++ dktX4_squad_2
def dkwX4_squad_0 : List UInt8 := [42, 27, 184, 0, 163, 154, 0, 7, 4, 167, 0, 17, 28, 3, 5, 184, 0, 81, 153, 0, 7, 3]
abbrev dktX4_squad_0 : List UInt8 := dkwX4_squad_0 ++ dktX4_squad_1
theorem dksX4_squad_0 : cX4_squad.data.toList.drop 0 = dktX4_squad_0 := by decide +kernel
theorem dksX4_squad_1 : cX4_squad.data.toList.drop 22 = dktX4_squad_1 := dk_seg dksX4_squad_0 22 rfl rfl
theorem dksX4_squad_2 : cX4_squad.data.toList.drop 44 = dktX4_squad_2 := dk_seg dksX4_squad_1 22 rfl rfl
theorem dX4_squad_0 : decode cX4_squad 0 = .ok (.aload_n 0, 1) := dk_42 (dk_at dksX4_squad_0 0 rfl rfl)
theorem dX4_squad_1 : decode cX4_squad 1 = .ok (.iload_n 1, 1) := dk_27 (dk_at dksX4_squad_0 1 rfl rfl)
theorem dX4_squad_2 : decode cX4_squad 2 = .ok (.invokestatic 163, 3) := dk_184 0 163 (dk_at dksX4_squad_0 2 rfl rfl)
theorem dX4_squad_5 : decode cX4_squad 5 = .ok (.ifCond .ne 7, 3) := dk_154 0 7 (dk_at dksX4_squad_0 5 rfl rfl)
theorem dX4_squad_8 : decode cX4_squad 8 = .ok (.iconst 1, 1) := dk_4 (dk_at dksX4_squad_0 8 rfl rfl)
theorem dX4_squad_9 : decode cX4_squad 9 = .ok (.goto 17, 3) := dk_167 0 17 (dk_at dksX4_squad_0 9 rfl rfl)
theorem dX4_squad_12 : decode cX4_squad 12 = .ok (.iload_n 2, 1) := dk_28 (dk_at dksX4_squad_0 12 rfl rfl)
theorem dX4_squad_13 : decode cX4_squad 13 = .ok (.iconst 0, 1) := dk_3 (dk_at dksX4_squad_0 13 rfl rfl)
theorem dX4_squad_14 : decode cX4_squad 14 = .ok (.iconst 2, 1) := dk_5 (dk_at dksX4_squad_0 14 rfl rfl)
theorem dX4_squad_15 : decode cX4_squad 15 = .ok (.invokestatic 81, 3) := dk_184 0 81 (dk_at dksX4_squad_0 15 rfl rfl)
theorem dX4_squad_18 : decode cX4_squad 18 = .ok (.ifCond .eq 7, 3) := dk_153 0 7 (dk_at dksX4_squad_0 18 rfl rfl)
theorem dX4_squad_21 : decode cX4_squad 21 = .ok (.iconst 0, 1) := dk_3 (dk_at dksX4_squad_0 21 rfl rfl)
theorem dX4_squad_22 : decode cX4_squad 22 = .ok (.goto 4, 3) := dk_167 0 4 (dk_at dksX4_squad_1 0 rfl rfl)
theorem dX4_squad_25 : decode cX4_squad 25 = .ok (.iconst 2, 1) := dk_5 (dk_at dksX4_squad_1 3 rfl rfl)
theorem dX4_squad_26 : decode cX4_squad 26 = .ok (.invokevirtual 169, 3) := dk_182 0 169 (dk_at dksX4_squad_1 4 rfl rfl)
theorem dX4_squad_29 : decode cX4_squad 29 = .ok (.ifCond .ne 5, 3) := dk_154 0 5 (dk_at dksX4_squad_1 7 rfl rfl)
theorem dX4_squad_32 : decode cX4_squad 32 = .ok (.iconst 0, 1) := dk_3 (dk_at dksX4_squad_1 10 rfl rfl)
theorem dX4_squad_33 : decode cX4_squad 33 = .ok (.ireturn, 1) := dk_172 (dk_at dksX4_squad_1 11 rfl rfl)
theorem dX4_squad_34 : decode cX4_squad 34 = .ok (.iload_n 2, 1) := dk_28 (dk_at dksX4_squad_1 12 rfl rfl)
theorem dX4_squad_35 : decode cX4_squad 35 = .ok (.ifCond .ne 12, 3) := dk_154 0 12 (dk_at dksX4_squad_1 13 rfl rfl)
theorem dX4_squad_38 : decode cX4_squad 38 = .ok (.aload_n 0, 1) := dk_42 (dk_at dksX4_squad_1 16 rfl rfl)
theorem dX4_squad_39 : decode cX4_squad 39 = .ok (.getfield 56, 3) := dk_180 0 56 (dk_at dksX4_squad_1 17 rfl rfl)
theorem dX4_squad_42 : decode cX4_squad 42 = .ok (.iload_n 1, 1) := dk_27 (dk_at dksX4_squad_1 20 rfl rfl)
theorem dX4_squad_43 : decode cX4_squad 43 = .ok (.iaload, 1) := dk_46 (dk_at dksX4_squad_1 21 rfl rfl)
theorem dX4_squad_44 : decode cX4_squad 44 = .ok (.goto 23, 3) := dk_167 0 23 (dk_at dksX4_squad_2 0 rfl rfl)
theorem dX4_squad_47 : decode cX4_squad 47 = .ok (.iload_n 2, 1) := dk_28 (dk_at dksX4_squad_2 3 rfl rfl)
theorem dX4_squad_48 : decode cX4_squad 48 = .ok (.iconst 1, 1) := dk_4 (dk_at dksX4_squad_2 4 rfl rfl)
theorem dX4_squad_49 : decode cX4_squad 49 = .ok (.if_icmp .ne 12, 3) := dk_160 0 12 (dk_at dksX4_squad_2 5 rfl rfl)
theorem dX4_squad_52 : decode cX4_squad 52 = .ok (.aload_n 0, 1) := dk_42 (dk_at dksX4_squad_2 8 rfl rfl)
theorem dX4_squad_53 : decode cX4_squad 53 = .ok (.getfield 59, 3) := dk_180 0 59 (dk_at dksX4_squad_2 9 rfl rfl)
theorem dX4_squad_56 : decode cX4_squad 56 = .ok (.iload_n 1, 1) := dk_27 (dk_at dksX4_squad_2 12 rfl rfl)
theorem dX4_squad_57 : decode cX4_squad 57 = .ok (.iaload, 1) := dk_46 (dk_at dksX4_squad_2 13 rfl rfl)
theorem dX4_squad_58 : decode cX4_squad 58 = .ok (.goto 9, 3) := dk_167 0 9 (dk_at dksX4_squad_2 14 rfl rfl)
theorem dX4_squad_61 : decode cX4_squad 61 = .ok (.aload_n 0, 1) := dk_42 (dk_at dksX4_squad_2 17 rfl rfl)
theorem dX4_squad_62 : decode cX4_squad 62 = .ok (.getfield 62, 3) := dk_180 0 62 (dk_at dksX4_squad_2 18 rfl rfl)
theorem dX4_squad_65 : decode cX4_squad 65 = .ok (.iload_n 1, 1) := dk_27 (dk_at dksX4_squad_2 21 rfl rfl)
theorem dX4_squad_66 : decode cX4_squad 66 = .ok (.iaload, 1) := dk_46 (dk_at dksX4_squad_2 22 rfl rfl)
theorem dX4_squad_67 : decode cX4_squad 67 = .ok (.ireturn, 1) := dk_172 (dk_at dksX4_squad_2 23 rfl rfl)
theorem q72 : (Jvm.Cond.initialized "RaidhallModel") ∈ lw_all := lw_g (lw_at lw_m1 8 rfl) rfl
theorem q979 : (Jvm.Cond.selects "RaidhallModel" ({ cls := "java/lang/Object", name := "getClass", desc := "()Ljava/lang/Class;" } : Jvm.MethodName) ({ cls := "java/lang/Object", name := "getClass", desc := "()Ljava/lang/Class;" } : Jvm.MethodName)) ∈ lw_all := lw_g (lw_at lw_m4 195 rfl) rfl
theorem q1898 : (Jvm.Cond.instantiable "RaidhallModel" (38 : Nat)) ∈ lw_all := lw_g (lw_at lw_m8 154 rfl) rfl
theorem q1900 : (Jvm.Cond.instanceMethod ({ cls := "RaidhallModel", name := "<init>", desc := "()V" } : Jvm.MethodName)) ∈ lw_all := lw_g (lw_at lw_m8 156 rfl) rfl
theorem q1901 : (Jvm.Cond.code ({ cls := "RaidhallModel", name := "<init>", desc := "()V" } : Jvm.MethodName) prog_14_method_1_code (2 : Nat) (Option.none : Option Jvm.ClassFile.FieldType)) ∈ lw_all := lw_g (lw_at lw_m8 157 rfl) rfl
theorem q1902 : (Jvm.Cond.methodLink "RaidhallModel" (1 : Nat) ({ cls := "java/lang/Object", name := "<init>", desc := "()V" } : Jvm.MethodName)) ∈ lw_all := lw_g (lw_at lw_m8 158 rfl) rfl
theorem q1903 : (Jvm.Cond.fieldLink "RaidhallModel" (78 : Nat) "RaidhallModel" "thrown" "I") ∈ lw_all := lw_g (lw_at lw_m8 159 rfl) rfl
theorem q1904 : (Jvm.Cond.fieldLink "RaidhallModel" (172 : Nat) "RaidhallModel" "begun" "I") ∈ lw_all := lw_g (lw_at lw_m8 160 rfl) rfl
theorem q1905 : (Jvm.Cond.fieldLink "RaidhallModel" (166 : Nat) "RaidhallModel" "isMatch" "Z") ∈ lw_all := lw_g (lw_at lw_m8 161 rfl) rfl
theorem q1906 : (Jvm.Cond.fieldLink "RaidhallModel" (147 : Nat) "RaidhallModel" "isRaid" "Z") ∈ lw_all := lw_g (lw_at lw_m8 162 rfl) rfl
theorem q1907 : (Jvm.Cond.fieldLink "RaidhallModel" (7 : Nat) "RaidhallModel" "clubs" "[I") ∈ lw_all := lw_g (lw_at lw_m8 163 rfl) rfl
theorem q1908 : (Jvm.Cond.fieldLink "RaidhallModel" (118 : Nat) "RaidhallModel" "lasts" "I") ∈ lw_all := lw_g (lw_at lw_m8 164 rfl) rfl
theorem q1909 : (Jvm.Cond.fieldLink "RaidhallModel" (13 : Nat) "RaidhallModel" "areLost" "[Z") ∈ lw_all := lw_g (lw_at lw_m8 165 rfl) rfl
theorem q1910 : (Jvm.Cond.fieldLink "RaidhallModel" (151 : Nat) "RaidhallModel" "events" "I") ∈ lw_all := lw_g (lw_at lw_m8 166 rfl) rfl
theorem q1911 : (Jvm.Cond.fieldLink "RaidhallModel" (17 : Nat) "RaidhallModel" "kinds" "[I") ∈ lw_all := lw_g (lw_at lw_m8 167 rfl) rfl
theorem q1912 : (Jvm.Cond.fieldLink "RaidhallModel" (20 : Nat) "RaidhallModel" "first" "[I") ∈ lw_all := lw_g (lw_at lw_m8 168 rfl) rfl
theorem q1913 : (Jvm.Cond.fieldLink "RaidhallModel" (23 : Nat) "RaidhallModel" "second" "[I") ∈ lw_all := lw_g (lw_at lw_m8 169 rfl) rfl
theorem q1914 : (Jvm.Cond.fieldLink "RaidhallModel" (26 : Nat) "RaidhallModel" "third" "[I") ∈ lw_all := lw_g (lw_at lw_m8 170 rfl) rfl
theorem q1915 : (Jvm.Cond.fieldLink "RaidhallModel" (29 : Nat) "RaidhallModel" "stepMany" "[I") ∈ lw_all := lw_g (lw_at lw_m8 171 rfl) rfl
theorem q1916 : (Jvm.Cond.fieldLink "RaidhallModel" (32 : Nat) "RaidhallModel" "stepKind" "[I") ∈ lw_all := lw_g (lw_at lw_m8 172 rfl) rfl
theorem q1917 : (Jvm.Cond.fieldLink "RaidhallModel" (35 : Nat) "RaidhallModel" "stepWho" "[I") ∈ lw_all := lw_g (lw_at lw_m8 173 rfl) rfl
theorem q1918 : (Jvm.Cond.fieldLink "RaidhallModel" (38 : Nat) "RaidhallModel" "stepTenth" "[I") ∈ lw_all := lw_g (lw_at lw_m8 174 rfl) rfl
theorem q1919 : (Jvm.Cond.fieldLink "RaidhallModel" (41 : Nat) "RaidhallModel" "s" "[I") ∈ lw_all := lw_g (lw_at lw_m8 175 rfl) rfl
theorem q1920 : (Jvm.Cond.fieldLink "RaidhallModel" (44 : Nat) "RaidhallModel" "mats" "[I") ∈ lw_all := lw_g (lw_at lw_m8 176 rfl) rfl
theorem q1921 : (Jvm.Cond.fieldLink "RaidhallModel" (47 : Nat) "RaidhallModel" "pointsThen" "[I") ∈ lw_all := lw_g (lw_at lw_m8 177 rfl) rfl
theorem q1922 : (Jvm.Cond.fieldLink "RaidhallModel" (50 : Nat) "RaidhallModel" "pad" "[I") ∈ lw_all := lw_g (lw_at lw_m8 178 rfl) rfl
theorem q1923 : (Jvm.Cond.fieldLink "RaidhallModel" (210 : Nat) "RaidhallModel" "length" "I") ∈ lw_all := lw_g (lw_at lw_m8 179 rfl) rfl
theorem q1924 : (Jvm.Cond.fieldLink "RaidhallModel" (216 : Nat) "RaidhallModel" "spot" "I") ∈ lw_all := lw_g (lw_at lw_m8 180 rfl) rfl
theorem q1925 : (Jvm.Cond.fieldLink "RaidhallModel" (213 : Nat) "RaidhallModel" "isBad" "Z") ∈ lw_all := lw_g (lw_at lw_m8 181 rfl) rfl
theorem q1926 : (Jvm.Cond.fieldLink "RaidhallModel" (225 : Nat) "RaidhallModel" "readKind" "I") ∈ lw_all := lw_g (lw_at lw_m8 182 rfl) rfl
theorem q1927 : (Jvm.Cond.fieldLink "RaidhallModel" (235 : Nat) "RaidhallModel" "readWho" "I") ∈ lw_all := lw_g (lw_at lw_m8 183 rfl) rfl
theorem q1928 : (Jvm.Cond.fieldLink "RaidhallModel" (238 : Nat) "RaidhallModel" "readTenth" "I") ∈ lw_all := lw_g (lw_at lw_m8 184 rfl) rfl
theorem q1929 : (Jvm.Cond.fieldLink "RaidhallModel" (53 : Nat) "RaidhallModel" "league" "[I") ∈ lw_all := lw_g (lw_at lw_m8 185 rfl) rfl
theorem q1930 : (Jvm.Cond.fieldLink "RaidhallModel" (56 : Nat) "RaidhallModel" "purses" "[I") ∈ lw_all := lw_g (lw_at lw_m8 186 rfl) rfl
theorem q1931 : (Jvm.Cond.fieldLink "RaidhallModel" (59 : Nat) "RaidhallModel" "squads" "[I") ∈ lw_all := lw_g (lw_at lw_m8 187 rfl) rfl
theorem q1932 : (Jvm.Cond.fieldLink "RaidhallModel" (62 : Nat) "RaidhallModel" "foreigners" "[I") ∈ lw_all := lw_g (lw_at lw_m8 188 rfl) rfl
theorem q1933 : (Jvm.Cond.fieldLink "RaidhallModel" (65 : Nat) "RaidhallModel" "owners" "[I") ∈ lw_all := lw_g (lw_at lw_m8 189 rfl) rfl
theorem q1934 : (Jvm.Cond.fieldLink "RaidhallModel" (68 : Nat) "RaidhallModel" "prices" "[I") ∈ lw_all := lw_g (lw_at lw_m8 190 rfl) rfl
theorem q1935 : (Jvm.Cond.fieldLink "RaidhallModel" (71 : Nat) "RaidhallModel" "rights" "[I") ∈ lw_all := lw_g (lw_at lw_m8 191 rfl) rfl
theorem q1936 : (Jvm.Cond.fieldLink "RaidhallModel" (74 : Nat) "RaidhallModel" "called" "I") ∈ lw_all := lw_g (lw_at lw_m8 192 rfl) rfl
theorem q1937 : (Jvm.Cond.fieldLink "RaidhallModel" (279 : Nat) "RaidhallModel" "bids" "I") ∈ lw_all := lw_g (lw_at lw_m8 193 rfl) rfl
theorem q1938 : (Jvm.Cond.fieldLink "RaidhallModel" (282 : Nat) "RaidhallModel" "best" "I") ∈ lw_all := lw_g (lw_at lw_m8 194 rfl) rfl
theorem q1939 : (Jvm.Cond.fieldLink "RaidhallModel" (285 : Nat) "RaidhallModel" "bidder" "I") ∈ lw_all := lw_g (lw_at lw_m8 195 rfl) rfl
theorem q1940 : (Jvm.Cond.fieldLink "RaidhallModel" (288 : Nat) "RaidhallModel" "isAsked" "Z") ∈ lw_all := lw_g (lw_at lw_m8 196 rfl) rfl
theorem q1941 : (Jvm.Cond.lays "RaidhallModel" "RaidhallModel" "thrown" "I") ∈ lw_all := lw_g (lw_at lw_m8 197 rfl) rfl
theorem q1942 : (Jvm.Cond.soleField "RaidhallModel" "thrown") ∈ lw_all := lw_g (lw_at lw_m8 198 rfl) rfl
theorem q1943 : (Jvm.Cond.lays "RaidhallModel" "RaidhallModel" "begun" "I") ∈ lw_all := lw_g (lw_at lw_m8 199 rfl) rfl
theorem q1944 : (Jvm.Cond.soleField "RaidhallModel" "begun") ∈ lw_all := lw_g (lw_at lw_m8 200 rfl) rfl
theorem q1945 : (Jvm.Cond.lays "RaidhallModel" "RaidhallModel" "isMatch" "Z") ∈ lw_all := lw_g (lw_at lw_m8 201 rfl) rfl
theorem q1946 : (Jvm.Cond.soleField "RaidhallModel" "isMatch") ∈ lw_all := lw_g (lw_at lw_m8 202 rfl) rfl
theorem q1947 : (Jvm.Cond.lays "RaidhallModel" "RaidhallModel" "isRaid" "Z") ∈ lw_all := lw_g (lw_at lw_m8 203 rfl) rfl
theorem q1948 : (Jvm.Cond.soleField "RaidhallModel" "isRaid") ∈ lw_all := lw_g (lw_at lw_m8 204 rfl) rfl
theorem q1949 : (Jvm.Cond.laysFinal "RaidhallModel" "RaidhallModel" "clubs" "[I") ∈ lw_all := lw_g (lw_at lw_m8 205 rfl) rfl
theorem q1950 : (Jvm.Cond.soleField "RaidhallModel" "clubs") ∈ lw_all := lw_g (lw_at lw_m8 206 rfl) rfl
theorem q1951 : (Jvm.Cond.lays "RaidhallModel" "RaidhallModel" "lasts" "I") ∈ lw_all := lw_g (lw_at lw_m8 207 rfl) rfl
theorem q1952 : (Jvm.Cond.soleField "RaidhallModel" "lasts") ∈ lw_all := lw_g (lw_at lw_m8 208 rfl) rfl
theorem q1953 : (Jvm.Cond.laysFinal "RaidhallModel" "RaidhallModel" "areLost" "[Z") ∈ lw_all := lw_g (lw_at lw_m8 209 rfl) rfl
theorem q1954 : (Jvm.Cond.soleField "RaidhallModel" "areLost") ∈ lw_all := lw_g (lw_at lw_m8 210 rfl) rfl
theorem q1955 : (Jvm.Cond.lays "RaidhallModel" "RaidhallModel" "events" "I") ∈ lw_all := lw_g (lw_at lw_m8 211 rfl) rfl
theorem q1956 : (Jvm.Cond.soleField "RaidhallModel" "events") ∈ lw_all := lw_g (lw_at lw_m8 212 rfl) rfl
theorem q1957 : (Jvm.Cond.laysFinal "RaidhallModel" "RaidhallModel" "kinds" "[I") ∈ lw_all := lw_g (lw_at lw_m8 213 rfl) rfl
theorem q1958 : (Jvm.Cond.soleField "RaidhallModel" "kinds") ∈ lw_all := lw_g (lw_at lw_m8 214 rfl) rfl
theorem q1959 : (Jvm.Cond.laysFinal "RaidhallModel" "RaidhallModel" "first" "[I") ∈ lw_all := lw_g (lw_at lw_m8 215 rfl) rfl
theorem q1960 : (Jvm.Cond.soleField "RaidhallModel" "first") ∈ lw_all := lw_g (lw_at lw_m8 216 rfl) rfl
theorem q1961 : (Jvm.Cond.laysFinal "RaidhallModel" "RaidhallModel" "second" "[I") ∈ lw_all := lw_g (lw_at lw_m8 217 rfl) rfl
theorem q1962 : (Jvm.Cond.soleField "RaidhallModel" "second") ∈ lw_all := lw_g (lw_at lw_m8 218 rfl) rfl
theorem q1963 : (Jvm.Cond.laysFinal "RaidhallModel" "RaidhallModel" "third" "[I") ∈ lw_all := lw_g (lw_at lw_m8 219 rfl) rfl
theorem q1964 : (Jvm.Cond.soleField "RaidhallModel" "third") ∈ lw_all := lw_g (lw_at lw_m8 220 rfl) rfl
theorem q1965 : (Jvm.Cond.laysFinal "RaidhallModel" "RaidhallModel" "stepMany" "[I") ∈ lw_all := lw_g (lw_at lw_m8 221 rfl) rfl
theorem q1966 : (Jvm.Cond.soleField "RaidhallModel" "stepMany") ∈ lw_all := lw_g (lw_at lw_m8 222 rfl) rfl
theorem q1967 : (Jvm.Cond.laysFinal "RaidhallModel" "RaidhallModel" "stepKind" "[I") ∈ lw_all := lw_g (lw_at lw_m8 223 rfl) rfl
theorem q1968 : (Jvm.Cond.soleField "RaidhallModel" "stepKind") ∈ lw_all := lw_g (lw_at lw_m8 224 rfl) rfl
theorem q1969 : (Jvm.Cond.laysFinal "RaidhallModel" "RaidhallModel" "stepWho" "[I") ∈ lw_all := lw_g (lw_at lw_m8 225 rfl) rfl
theorem q1970 : (Jvm.Cond.soleField "RaidhallModel" "stepWho") ∈ lw_all := lw_g (lw_at lw_m8 226 rfl) rfl
theorem q1971 : (Jvm.Cond.laysFinal "RaidhallModel" "RaidhallModel" "stepTenth" "[I") ∈ lw_all := lw_g (lw_at lw_m8 227 rfl) rfl
theorem q1972 : (Jvm.Cond.soleField "RaidhallModel" "stepTenth") ∈ lw_all := lw_g (lw_at lw_m8 228 rfl) rfl
theorem q1973 : (Jvm.Cond.laysFinal "RaidhallModel" "RaidhallModel" "s" "[I") ∈ lw_all := lw_g (lw_at lw_m8 229 rfl) rfl
theorem q1974 : (Jvm.Cond.soleField "RaidhallModel" "s") ∈ lw_all := lw_g (lw_at lw_m8 230 rfl) rfl
theorem q1975 : (Jvm.Cond.laysFinal "RaidhallModel" "RaidhallModel" "mats" "[I") ∈ lw_all := lw_g (lw_at lw_m8 231 rfl) rfl
theorem q1976 : (Jvm.Cond.soleField "RaidhallModel" "mats") ∈ lw_all := lw_g (lw_at lw_m8 232 rfl) rfl
theorem q1977 : (Jvm.Cond.laysFinal "RaidhallModel" "RaidhallModel" "pointsThen" "[I") ∈ lw_all := lw_g (lw_at lw_m8 233 rfl) rfl
theorem q1978 : (Jvm.Cond.soleField "RaidhallModel" "pointsThen") ∈ lw_all := lw_g (lw_at lw_m8 234 rfl) rfl
theorem q1979 : (Jvm.Cond.laysFinal "RaidhallModel" "RaidhallModel" "pad" "[I") ∈ lw_all := lw_g (lw_at lw_m8 235 rfl) rfl
theorem q1980 : (Jvm.Cond.soleField "RaidhallModel" "pad") ∈ lw_all := lw_g (lw_at lw_m8 236 rfl) rfl
theorem q1981 : (Jvm.Cond.lays "RaidhallModel" "RaidhallModel" "length" "I") ∈ lw_all := lw_g (lw_at lw_m8 237 rfl) rfl
theorem q1982 : (Jvm.Cond.soleField "RaidhallModel" "length") ∈ lw_all := lw_g (lw_at lw_m8 238 rfl) rfl
theorem q1983 : (Jvm.Cond.lays "RaidhallModel" "RaidhallModel" "spot" "I") ∈ lw_all := lw_g (lw_at lw_m8 239 rfl) rfl
theorem q1984 : (Jvm.Cond.soleField "RaidhallModel" "spot") ∈ lw_all := lw_g (lw_at lw_m9 0 rfl) rfl
theorem q1985 : (Jvm.Cond.lays "RaidhallModel" "RaidhallModel" "isBad" "Z") ∈ lw_all := lw_g (lw_at lw_m9 1 rfl) rfl
theorem q1986 : (Jvm.Cond.soleField "RaidhallModel" "isBad") ∈ lw_all := lw_g (lw_at lw_m9 2 rfl) rfl
theorem q1987 : (Jvm.Cond.lays "RaidhallModel" "RaidhallModel" "readKind" "I") ∈ lw_all := lw_g (lw_at lw_m9 3 rfl) rfl
theorem q1988 : (Jvm.Cond.soleField "RaidhallModel" "readKind") ∈ lw_all := lw_g (lw_at lw_m9 4 rfl) rfl
theorem q1989 : (Jvm.Cond.lays "RaidhallModel" "RaidhallModel" "readWho" "I") ∈ lw_all := lw_g (lw_at lw_m9 5 rfl) rfl
theorem q1990 : (Jvm.Cond.soleField "RaidhallModel" "readWho") ∈ lw_all := lw_g (lw_at lw_m9 6 rfl) rfl
theorem q1991 : (Jvm.Cond.lays "RaidhallModel" "RaidhallModel" "readTenth" "I") ∈ lw_all := lw_g (lw_at lw_m9 7 rfl) rfl
theorem q1992 : (Jvm.Cond.soleField "RaidhallModel" "readTenth") ∈ lw_all := lw_g (lw_at lw_m9 8 rfl) rfl
theorem q1993 : (Jvm.Cond.laysFinal "RaidhallModel" "RaidhallModel" "league" "[I") ∈ lw_all := lw_g (lw_at lw_m9 9 rfl) rfl
theorem q1994 : (Jvm.Cond.soleField "RaidhallModel" "league") ∈ lw_all := lw_g (lw_at lw_m9 10 rfl) rfl
theorem q1995 : (Jvm.Cond.laysFinal "RaidhallModel" "RaidhallModel" "purses" "[I") ∈ lw_all := lw_g (lw_at lw_m9 11 rfl) rfl
theorem q1996 : (Jvm.Cond.soleField "RaidhallModel" "purses") ∈ lw_all := lw_g (lw_at lw_m9 12 rfl) rfl
theorem q1997 : (Jvm.Cond.laysFinal "RaidhallModel" "RaidhallModel" "squads" "[I") ∈ lw_all := lw_g (lw_at lw_m9 13 rfl) rfl
theorem q1998 : (Jvm.Cond.soleField "RaidhallModel" "squads") ∈ lw_all := lw_g (lw_at lw_m9 14 rfl) rfl
theorem q1999 : (Jvm.Cond.laysFinal "RaidhallModel" "RaidhallModel" "foreigners" "[I") ∈ lw_all := lw_g (lw_at lw_m9 15 rfl) rfl
theorem q2000 : (Jvm.Cond.soleField "RaidhallModel" "foreigners") ∈ lw_all := lw_g (lw_at lw_m9 16 rfl) rfl
theorem q2001 : (Jvm.Cond.laysFinal "RaidhallModel" "RaidhallModel" "owners" "[I") ∈ lw_all := lw_g (lw_at lw_m9 17 rfl) rfl
theorem q2002 : (Jvm.Cond.soleField "RaidhallModel" "owners") ∈ lw_all := lw_g (lw_at lw_m9 18 rfl) rfl
theorem q2003 : (Jvm.Cond.laysFinal "RaidhallModel" "RaidhallModel" "prices" "[I") ∈ lw_all := lw_g (lw_at lw_m9 19 rfl) rfl
theorem q2004 : (Jvm.Cond.soleField "RaidhallModel" "prices") ∈ lw_all := lw_g (lw_at lw_m9 20 rfl) rfl
theorem q2005 : (Jvm.Cond.laysFinal "RaidhallModel" "RaidhallModel" "rights" "[I") ∈ lw_all := lw_g (lw_at lw_m9 21 rfl) rfl
theorem q2006 : (Jvm.Cond.soleField "RaidhallModel" "rights") ∈ lw_all := lw_g (lw_at lw_m9 22 rfl) rfl
theorem q2007 : (Jvm.Cond.lays "RaidhallModel" "RaidhallModel" "called" "I") ∈ lw_all := lw_g (lw_at lw_m9 23 rfl) rfl
theorem q2008 : (Jvm.Cond.soleField "RaidhallModel" "called") ∈ lw_all := lw_g (lw_at lw_m9 24 rfl) rfl
theorem q2009 : (Jvm.Cond.lays "RaidhallModel" "RaidhallModel" "bids" "I") ∈ lw_all := lw_g (lw_at lw_m9 25 rfl) rfl
theorem q2010 : (Jvm.Cond.soleField "RaidhallModel" "bids") ∈ lw_all := lw_g (lw_at lw_m9 26 rfl) rfl
theorem q2011 : (Jvm.Cond.lays "RaidhallModel" "RaidhallModel" "best" "I") ∈ lw_all := lw_g (lw_at lw_m9 27 rfl) rfl
theorem q2012 : (Jvm.Cond.soleField "RaidhallModel" "best") ∈ lw_all := lw_g (lw_at lw_m9 28 rfl) rfl
theorem q2013 : (Jvm.Cond.lays "RaidhallModel" "RaidhallModel" "bidder" "I") ∈ lw_all := lw_g (lw_at lw_m9 29 rfl) rfl
theorem q2014 : (Jvm.Cond.soleField "RaidhallModel" "bidder") ∈ lw_all := lw_g (lw_at lw_m9 30 rfl) rfl
theorem q2015 : (Jvm.Cond.lays "RaidhallModel" "RaidhallModel" "isAsked" "Z") ∈ lw_all := lw_g (lw_at lw_m9 31 rfl) rfl
theorem q2016 : (Jvm.Cond.soleField "RaidhallModel" "isAsked") ∈ lw_all := lw_g (lw_at lw_m9 32 rfl) rfl
theorem q2017 : (Jvm.Cond.superclass "RaidhallModel" "java/lang/Object") ∈ lw_all := lw_g (lw_at lw_m9 33 rfl) rfl
theorem q2019 : (Jvm.Cond.instanceMethod ({ cls := "RaidhallModel", name := "thrown", desc := "()I" } : Jvm.MethodName)) ∈ lw_all := lw_g (lw_at lw_m9 35 rfl) rfl
theorem q2020 : (Jvm.Cond.selects "RaidhallModel" ({ cls := "RaidhallModel", name := "thrown", desc := "()I" } : Jvm.MethodName) ({ cls := "RaidhallModel", name := "thrown", desc := "()I" } : Jvm.MethodName)) ∈ lw_all := lw_g (lw_at lw_m9 36 rfl) rfl
theorem q2021 : (Jvm.Cond.code ({ cls := "RaidhallModel", name := "thrown", desc := "()I" } : Jvm.MethodName) prog_14_method_2_code (1 : Nat) (Option.some Jvm.ClassFile.FieldType.int)) ∈ lw_all := lw_g (lw_at lw_m9 37 rfl) rfl
theorem q2023 : (Jvm.Cond.instanceMethod ({ cls := "RaidhallModel", name := "begin", desc := "(III)I" } : Jvm.MethodName)) ∈ lw_all := lw_g (lw_at lw_m9 39 rfl) rfl
theorem q2024 : (Jvm.Cond.selects "RaidhallModel" ({ cls := "RaidhallModel", name := "begin", desc := "(III)I" } : Jvm.MethodName) ({ cls := "RaidhallModel", name := "begin", desc := "(III)I" } : Jvm.MethodName)) ∈ lw_all := lw_g (lw_at lw_m9 40 rfl) rfl
theorem q2025 : (Jvm.Cond.code ({ cls := "RaidhallModel", name := "begin", desc := "(III)I" } : Jvm.MethodName) prog_14_method_30_code (5 : Nat) (Option.some Jvm.ClassFile.FieldType.int)) ∈ lw_all := lw_g (lw_at lw_m9 41 rfl) rfl
theorem q2026 : (Jvm.Cond.methodLink "RaidhallModel" (163 : Nat) ({ cls := "RaidhallModel", name := "isClub", desc := "(I)Z" } : Jvm.MethodName)) ∈ lw_all := lw_g (lw_at lw_m9 42 rfl) rfl
theorem q2027 : (Jvm.Cond.static ({ cls := "RaidhallModel", name := "isClub", desc := "(I)Z" } : Jvm.MethodName)) ∈ lw_all := lw_g (lw_at lw_m9 43 rfl) rfl
theorem q2028 : (Jvm.Cond.code ({ cls := "RaidhallModel", name := "isClub", desc := "(I)Z" } : Jvm.MethodName) prog_14_method_5_code (1 : Nat) (Option.some Jvm.ClassFile.FieldType.boolean)) ∈ lw_all := lw_g (lw_at lw_m9 44 rfl) rfl
theorem q2029 : (Jvm.Cond.methodLink "RaidhallModel" (81 : Nat) ({ cls := "RaidhallModel", name := "in", desc := "(III)Z" } : Jvm.MethodName)) ∈ lw_all := lw_g (lw_at lw_m9 45 rfl) rfl
theorem q2030 : (Jvm.Cond.static ({ cls := "RaidhallModel", name := "in", desc := "(III)Z" } : Jvm.MethodName)) ∈ lw_all := lw_g (lw_at lw_m9 46 rfl) rfl
theorem q2031 : (Jvm.Cond.code ({ cls := "RaidhallModel", name := "in", desc := "(III)Z" } : Jvm.MethodName) prog_14_method_4_code (3 : Nat) (Option.some Jvm.ClassFile.FieldType.boolean)) ∈ lw_all := lw_g (lw_at lw_m9 47 rfl) rfl
theorem q2032 : (Jvm.Cond.methodLink "RaidhallModel" (169 : Nat) ({ cls := "RaidhallModel", name := "holds", desc := "(I)Z" } : Jvm.MethodName)) ∈ lw_all := lw_g (lw_at lw_m9 48 rfl) rfl
theorem q2033 : (Jvm.Cond.privateMethod ({ cls := "RaidhallModel", name := "holds", desc := "(I)Z" } : Jvm.MethodName)) ∈ lw_tbl := lw_at lw_m9 49 rfl
theorem q2034 : (Jvm.Cond.instanceMethod ({ cls := "RaidhallModel", name := "holds", desc := "(I)Z" } : Jvm.MethodName)) ∈ lw_all := lw_g (lw_at lw_m9 50 rfl) rfl
theorem q2035 : (Jvm.Cond.code ({ cls := "RaidhallModel", name := "holds", desc := "(I)Z" } : Jvm.MethodName) prog_14_method_3_code (2 : Nat) (Option.some Jvm.ClassFile.FieldType.boolean)) ∈ lw_all := lw_g (lw_at lw_m9 51 rfl) rfl
theorem q2036 : (Jvm.Cond.methodLink "RaidhallModel" (154 : Nat) ({ cls := "RaidhallModel", name := "starts", desc := "()V" } : Jvm.MethodName)) ∈ lw_all := lw_g (lw_at lw_m9 52 rfl) rfl
theorem q2037 : (Jvm.Cond.privateMethod ({ cls := "RaidhallModel", name := "starts", desc := "()V" } : Jvm.MethodName)) ∈ lw_tbl := lw_at lw_m9 53 rfl
theorem q2038 : (Jvm.Cond.instanceMethod ({ cls := "RaidhallModel", name := "starts", desc := "()V" } : Jvm.MethodName)) ∈ lw_all := lw_g (lw_at lw_m9 54 rfl) rfl
theorem q2039 : (Jvm.Cond.code ({ cls := "RaidhallModel", name := "starts", desc := "()V" } : Jvm.MethodName) prog_14_method_9_code (2 : Nat) (Option.none : Option Jvm.ClassFile.FieldType)) ∈ lw_all := lw_g (lw_at lw_m9 55 rfl) rfl
theorem q2041 : (Jvm.Cond.instanceMethod ({ cls := "RaidhallModel", name := "raid", desc := "(I)I" } : Jvm.MethodName)) ∈ lw_all := lw_g (lw_at lw_m9 57 rfl) rfl
theorem q2042 : (Jvm.Cond.selects "RaidhallModel" ({ cls := "RaidhallModel", name := "raid", desc := "(I)I" } : Jvm.MethodName) ({ cls := "RaidhallModel", name := "raid", desc := "(I)I" } : Jvm.MethodName)) ∈ lw_all := lw_g (lw_at lw_m9 58 rfl) rfl
theorem q2043 : (Jvm.Cond.code ({ cls := "RaidhallModel", name := "raid", desc := "(I)I" } : Jvm.MethodName) prog_14_method_33_code (3 : Nat) (Option.some Jvm.ClassFile.FieldType.int)) ∈ lw_all := lw_g (lw_at lw_m9 59 rfl) rfl
theorem q2044 : (Jvm.Cond.methodLink "RaidhallModel" (175 : Nat) ({ cls := "RaidhallModel", name := "isPlayer", desc := "(I)Z" } : Jvm.MethodName)) ∈ lw_all := lw_g (lw_at lw_m9 60 rfl) rfl
theorem q2045 : (Jvm.Cond.static ({ cls := "RaidhallModel", name := "isPlayer", desc := "(I)Z" } : Jvm.MethodName)) ∈ lw_all := lw_g (lw_at lw_m9 61 rfl) rfl
theorem q2046 : (Jvm.Cond.code ({ cls := "RaidhallModel", name := "isPlayer", desc := "(I)Z" } : Jvm.MethodName) prog_14_method_7_code (1 : Nat) (Option.some Jvm.ClassFile.FieldType.boolean)) ∈ lw_all := lw_g (lw_at lw_m9 62 rfl) rfl
theorem q2047 : (Jvm.Cond.methodLink "RaidhallModel" (178 : Nat) ({ cls := "RaidhallModel", name := "isBetween", desc := "()Z" } : Jvm.MethodName)) ∈ lw_all := lw_g (lw_at lw_m9 63 rfl) rfl
theorem q2048 : (Jvm.Cond.privateMethod ({ cls := "RaidhallModel", name := "isBetween", desc := "()Z" } : Jvm.MethodName)) ∈ lw_tbl := lw_at lw_m9 64 rfl
theorem q2049 : (Jvm.Cond.instanceMethod ({ cls := "RaidhallModel", name := "isBetween", desc := "()Z" } : Jvm.MethodName)) ∈ lw_all := lw_g (lw_at lw_m9 65 rfl) rfl
theorem q2050 : (Jvm.Cond.code ({ cls := "RaidhallModel", name := "isBetween", desc := "()Z" } : Jvm.MethodName) prog_14_method_31_code (1 : Nat) (Option.some Jvm.ClassFile.FieldType.boolean)) ∈ lw_all := lw_g (lw_at lw_m9 66 rfl) rfl
theorem q2051 : (Jvm.Cond.methodLink "RaidhallModel" (124 : Nat) ({ cls := "RaidhallModel", name := "canRaid", desc := "(I)Z" } : Jvm.MethodName)) ∈ lw_all := lw_g (lw_at lw_m9 67 rfl) rfl
theorem q2052 : (Jvm.Cond.privateMethod ({ cls := "RaidhallModel", name := "canRaid", desc := "(I)Z" } : Jvm.MethodName)) ∈ lw_tbl := lw_at lw_m9 68 rfl
theorem q2053 : (Jvm.Cond.instanceMethod ({ cls := "RaidhallModel", name := "canRaid", desc := "(I)Z" } : Jvm.MethodName)) ∈ lw_all := lw_g (lw_at lw_m9 69 rfl) rfl
theorem q2054 : (Jvm.Cond.code ({ cls := "RaidhallModel", name := "canRaid", desc := "(I)Z" } : Jvm.MethodName) prog_14_method_21_code (2 : Nat) (Option.some Jvm.ClassFile.FieldType.boolean)) ∈ lw_all := lw_g (lw_at lw_m9 70 rfl) rfl
theorem q2055 : (Jvm.Cond.methodLink "RaidhallModel" (108 : Nat) ({ cls := "RaidhallModel", name := "turn", desc := "()I" } : Jvm.MethodName)) ∈ lw_all := lw_g (lw_at lw_m9 71 rfl) rfl
theorem q2056 : (Jvm.Cond.privateMethod ({ cls := "RaidhallModel", name := "turn", desc := "()I" } : Jvm.MethodName)) ∈ lw_tbl := lw_at lw_m9 72 rfl
theorem q2057 : (Jvm.Cond.instanceMethod ({ cls := "RaidhallModel", name := "turn", desc := "()I" } : Jvm.MethodName)) ∈ lw_all := lw_g (lw_at lw_m9 73 rfl) rfl
theorem q2058 : (Jvm.Cond.code ({ cls := "RaidhallModel", name := "turn", desc := "()I" } : Jvm.MethodName) prog_14_method_12_code (1 : Nat) (Option.some Jvm.ClassFile.FieldType.int)) ∈ lw_all := lw_g (lw_at lw_m9 74 rfl) rfl
theorem q2059 : (Jvm.Cond.methodLink "RaidhallModel" (85 : Nat) ({ cls := "RaidhallModel", name := "is", desc := "(III)Z" } : Jvm.MethodName)) ∈ lw_all := lw_g (lw_at lw_m9 75 rfl) rfl
theorem q2060 : (Jvm.Cond.privateMethod ({ cls := "RaidhallModel", name := "is", desc := "(III)Z" } : Jvm.MethodName)) ∈ lw_tbl := lw_at lw_m9 76 rfl
theorem q2061 : (Jvm.Cond.instanceMethod ({ cls := "RaidhallModel", name := "is", desc := "(III)Z" } : Jvm.MethodName)) ∈ lw_all := lw_g (lw_at lw_m9 77 rfl) rfl
theorem q2062 : (Jvm.Cond.code ({ cls := "RaidhallModel", name := "is", desc := "(III)Z" } : Jvm.MethodName) prog_14_method_10_code (4 : Nat) (Option.some Jvm.ClassFile.FieldType.boolean)) ∈ lw_all := lw_g (lw_at lw_m9 78 rfl) rfl
theorem q2063 : (Jvm.Cond.methodLink "RaidhallModel" (182 : Nat) ({ cls := "RaidhallModel", name := "adds", desc := "(IIII)I" } : Jvm.MethodName)) ∈ lw_all := lw_g (lw_at lw_m9 79 rfl) rfl
theorem q2064 : (Jvm.Cond.privateMethod ({ cls := "RaidhallModel", name := "adds", desc := "(IIII)I" } : Jvm.MethodName)) ∈ lw_tbl := lw_at lw_m9 80 rfl
theorem q2065 : (Jvm.Cond.instanceMethod ({ cls := "RaidhallModel", name := "adds", desc := "(IIII)I" } : Jvm.MethodName)) ∈ lw_all := lw_g (lw_at lw_m9 81 rfl) rfl
theorem q2066 : (Jvm.Cond.code ({ cls := "RaidhallModel", name := "adds", desc := "(IIII)I" } : Jvm.MethodName) prog_14_method_32_code (5 : Nat) (Option.some Jvm.ClassFile.FieldType.int)) ∈ lw_all := lw_g (lw_at lw_m9 82 rfl) rfl
theorem q2068 : (Jvm.Cond.instanceMethod ({ cls := "RaidhallModel", name := "step", desc := "(III)I" } : Jvm.MethodName)) ∈ lw_all := lw_g (lw_at lw_m9 84 rfl) rfl
theorem q2069 : (Jvm.Cond.selects "RaidhallModel" ({ cls := "RaidhallModel", name := "step", desc := "(III)I" } : Jvm.MethodName) ({ cls := "RaidhallModel", name := "step", desc := "(III)I" } : Jvm.MethodName)) ∈ lw_all := lw_g (lw_at lw_m9 85 rfl) rfl
theorem q2070 : (Jvm.Cond.code ({ cls := "RaidhallModel", name := "step", desc := "(III)I" } : Jvm.MethodName) prog_14_method_36_code (9 : Nat) (Option.some Jvm.ClassFile.FieldType.int)) ∈ lw_all := lw_g (lw_at lw_m9 86 rfl) rfl
theorem q2071 : (Jvm.Cond.methodLink "RaidhallModel" (186 : Nat) ({ cls := "RaidhallModel", name := "isWho", desc := "(II)Z" } : Jvm.MethodName)) ∈ lw_all := lw_g (lw_at lw_m9 87 rfl) rfl
theorem q2072 : (Jvm.Cond.static ({ cls := "RaidhallModel", name := "isWho", desc := "(II)Z" } : Jvm.MethodName)) ∈ lw_all := lw_g (lw_at lw_m9 88 rfl) rfl
theorem q2073 : (Jvm.Cond.code ({ cls := "RaidhallModel", name := "isWho", desc := "(II)Z" } : Jvm.MethodName) prog_14_method_34_code (2 : Nat) (Option.some Jvm.ClassFile.FieldType.boolean)) ∈ lw_all := lw_g (lw_at lw_m9 89 rfl) rfl
theorem q2074 : (Jvm.Cond.methodLink "RaidhallModel" (189 : Nat) ({ cls := "RaidhallModel", name := "canTell", desc := "(III)Z" } : Jvm.MethodName)) ∈ lw_all := lw_g (lw_at lw_m9 90 rfl) rfl
theorem q2075 : (Jvm.Cond.privateMethod ({ cls := "RaidhallModel", name := "canTell", desc := "(III)Z" } : Jvm.MethodName)) ∈ lw_tbl := lw_at lw_m9 91 rfl
theorem q2076 : (Jvm.Cond.instanceMethod ({ cls := "RaidhallModel", name := "canTell", desc := "(III)Z" } : Jvm.MethodName)) ∈ lw_all := lw_g (lw_at lw_m9 92 rfl) rfl
theorem q2077 : (Jvm.Cond.code ({ cls := "RaidhallModel", name := "canTell", desc := "(III)Z" } : Jvm.MethodName) prog_14_method_35_code (6 : Nat) (Option.some Jvm.ClassFile.FieldType.boolean)) ∈ lw_all := lw_g (lw_at lw_m9 93 rfl) rfl
theorem q2078 : (Jvm.Cond.methodLink "RaidhallModel" (128 : Nat) ({ cls := "RaidhallModel", name := "canStep", desc := "(II)Z" } : Jvm.MethodName)) ∈ lw_all := lw_g (lw_at lw_m9 94 rfl) rfl
theorem q2079 : (Jvm.Cond.privateMethod ({ cls := "RaidhallModel", name := "canStep", desc := "(II)Z" } : Jvm.MethodName)) ∈ lw_tbl := lw_at lw_m9 95 rfl
theorem q2080 : (Jvm.Cond.instanceMethod ({ cls := "RaidhallModel", name := "canStep", desc := "(II)Z" } : Jvm.MethodName)) ∈ lw_all := lw_g (lw_at lw_m9 96 rfl) rfl
theorem q2081 : (Jvm.Cond.code ({ cls := "RaidhallModel", name := "canStep", desc := "(II)Z" } : Jvm.MethodName) prog_14_method_20_code (8 : Nat) (Option.some Jvm.ClassFile.FieldType.boolean)) ∈ lw_all := lw_g (lw_at lw_m9 97 rfl) rfl
theorem q2082 : (Jvm.Cond.methodLink "RaidhallModel" (132 : Nat) ({ cls := "RaidhallModel", name := "endsRaid", desc := "(I)V" } : Jvm.MethodName)) ∈ lw_all := lw_g (lw_at lw_m9 98 rfl) rfl
theorem q2083 : (Jvm.Cond.privateMethod ({ cls := "RaidhallModel", name := "endsRaid", desc := "(I)V" } : Jvm.MethodName)) ∈ lw_tbl := lw_at lw_m9 99 rfl
theorem q2084 : (Jvm.Cond.instanceMethod ({ cls := "RaidhallModel", name := "endsRaid", desc := "(I)V" } : Jvm.MethodName)) ∈ lw_all := lw_g (lw_at lw_m9 100 rfl) rfl
theorem q2085 : (Jvm.Cond.code ({ cls := "RaidhallModel", name := "endsRaid", desc := "(I)V" } : Jvm.MethodName) prog_14_method_19_code (7 : Nat) (Option.none : Option Jvm.ClassFile.FieldType)) ∈ lw_all := lw_g (lw_at lw_m9 101 rfl) rfl
theorem q2086 : (Jvm.Cond.methodLink "RaidhallModel" (88 : Nat) ({ cls := "RaidhallModel", name := "manyThat", desc := "(III)I" } : Jvm.MethodName)) ∈ lw_all := lw_g (lw_at lw_m9 102 rfl) rfl
theorem q2087 : (Jvm.Cond.privateMethod ({ cls := "RaidhallModel", name := "manyThat", desc := "(III)I" } : Jvm.MethodName)) ∈ lw_tbl := lw_at lw_m9 103 rfl
theorem q2088 : (Jvm.Cond.instanceMethod ({ cls := "RaidhallModel", name := "manyThat", desc := "(III)I" } : Jvm.MethodName)) ∈ lw_all := lw_g (lw_at lw_m9 104 rfl) rfl
theorem q2089 : (Jvm.Cond.code ({ cls := "RaidhallModel", name := "manyThat", desc := "(III)I" } : Jvm.MethodName) prog_14_method_11_code (6 : Nat) (Option.some Jvm.ClassFile.FieldType.int)) ∈ lw_all := lw_g (lw_at lw_m9 105 rfl) rfl
theorem q2090 : (Jvm.Cond.methodLink "RaidhallModel" (100 : Nat) ({ cls := "RaidhallModel", name := "stepsThat", desc := "(II)I" } : Jvm.MethodName)) ∈ lw_all := lw_g (lw_at lw_m9 106 rfl) rfl
theorem q2091 : (Jvm.Cond.privateMethod ({ cls := "RaidhallModel", name := "stepsThat", desc := "(II)I" } : Jvm.MethodName)) ∈ lw_tbl := lw_at lw_m9 107 rfl
theorem q2092 : (Jvm.Cond.instanceMethod ({ cls := "RaidhallModel", name := "stepsThat", desc := "(II)I" } : Jvm.MethodName)) ∈ lw_all := lw_g (lw_at lw_m9 108 rfl) rfl
theorem q2093 : (Jvm.Cond.code ({ cls := "RaidhallModel", name := "stepsThat", desc := "(II)I" } : Jvm.MethodName) prog_14_method_16_code (5 : Nat) (Option.some Jvm.ClassFile.FieldType.int)) ∈ lw_all := lw_g (lw_at lw_m9 109 rfl) rfl
theorem q2094 : (Jvm.Cond.methodLink "RaidhallModel" (112 : Nat) ({ cls := "RaidhallModel", name := "comesHome", desc := "(III)V" } : Jvm.MethodName)) ∈ lw_all := lw_g (lw_at lw_m9 110 rfl) rfl
theorem q2095 : (Jvm.Cond.privateMethod ({ cls := "RaidhallModel", name := "comesHome", desc := "(III)V" } : Jvm.MethodName)) ∈ lw_tbl := lw_at lw_m9 111 rfl
theorem q2096 : (Jvm.Cond.instanceMethod ({ cls := "RaidhallModel", name := "comesHome", desc := "(III)V" } : Jvm.MethodName)) ∈ lw_all := lw_g (lw_at lw_m9 112 rfl) rfl
theorem q2097 : (Jvm.Cond.code ({ cls := "RaidhallModel", name := "comesHome", desc := "(III)V" } : Jvm.MethodName) prog_14_method_18_code (9 : Nat) (Option.none : Option Jvm.ClassFile.FieldType)) ∈ lw_all := lw_g (lw_at lw_m9 113 rfl) rfl
theorem q2098 : (Jvm.Cond.methodLink "RaidhallModel" (104 : Nat) ({ cls := "RaidhallModel", name := "raiderIsOut", desc := "(III)V" } : Jvm.MethodName)) ∈ lw_all := lw_g (lw_at lw_m9 114 rfl) rfl
theorem q2099 : (Jvm.Cond.privateMethod ({ cls := "RaidhallModel", name := "raiderIsOut", desc := "(III)V" } : Jvm.MethodName)) ∈ lw_tbl := lw_at lw_m9 115 rfl
theorem q2100 : (Jvm.Cond.instanceMethod ({ cls := "RaidhallModel", name := "raiderIsOut", desc := "(III)V" } : Jvm.MethodName)) ∈ lw_all := lw_g (lw_at lw_m9 116 rfl) rfl
theorem q2101 : (Jvm.Cond.code ({ cls := "RaidhallModel", name := "raiderIsOut", desc := "(III)V" } : Jvm.MethodName) prog_14_method_17_code (4 : Nat) (Option.none : Option Jvm.ClassFile.FieldType)) ∈ lw_all := lw_g (lw_at lw_m9 117 rfl) rfl
theorem q2102 : (Jvm.Cond.methodLink "RaidhallModel" (96 : Nat) ({ cls := "RaidhallModel", name := "goesOut", desc := "(II)V" } : Jvm.MethodName)) ∈ lw_all := lw_g (lw_at lw_m9 118 rfl) rfl
theorem q2103 : (Jvm.Cond.privateMethod ({ cls := "RaidhallModel", name := "goesOut", desc := "(II)V" } : Jvm.MethodName)) ∈ lw_tbl := lw_at lw_m9 119 rfl
theorem q2104 : (Jvm.Cond.instanceMethod ({ cls := "RaidhallModel", name := "goesOut", desc := "(II)V" } : Jvm.MethodName)) ∈ lw_all := lw_g (lw_at lw_m9 120 rfl) rfl
theorem q2105 : (Jvm.Cond.code ({ cls := "RaidhallModel", name := "goesOut", desc := "(II)V" } : Jvm.MethodName) prog_14_method_13_code (3 : Nat) (Option.none : Option Jvm.ClassFile.FieldType)) ∈ lw_all := lw_g (lw_at lw_m9 121 rfl) rfl
theorem q2106 : (Jvm.Cond.methodLink "RaidhallModel" (92 : Nat) ({ cls := "RaidhallModel", name := "comesBack", desc := "(I)V" } : Jvm.MethodName)) ∈ lw_all := lw_g (lw_at lw_m9 122 rfl) rfl
theorem q2107 : (Jvm.Cond.privateMethod ({ cls := "RaidhallModel", name := "comesBack", desc := "(I)V" } : Jvm.MethodName)) ∈ lw_tbl := lw_at lw_m9 123 rfl
theorem q2108 : (Jvm.Cond.instanceMethod ({ cls := "RaidhallModel", name := "comesBack", desc := "(I)V" } : Jvm.MethodName)) ∈ lw_all := lw_g (lw_at lw_m9 124 rfl) rfl
theorem q2109 : (Jvm.Cond.code ({ cls := "RaidhallModel", name := "comesBack", desc := "(I)V" } : Jvm.MethodName) prog_14_method_14_code (3 : Nat) (Option.none : Option Jvm.ClassFile.FieldType)) ∈ lw_all := lw_g (lw_at lw_m9 125 rfl) rfl
theorem q2110 : (Jvm.Cond.methodLink "RaidhallModel" (115 : Nat) ({ cls := "RaidhallModel", name := "looksAtMat", desc := "(I)V" } : Jvm.MethodName)) ∈ lw_all := lw_g (lw_at lw_m9 126 rfl) rfl
theorem q2111 : (Jvm.Cond.privateMethod ({ cls := "RaidhallModel", name := "looksAtMat", desc := "(I)V" } : Jvm.MethodName)) ∈ lw_tbl := lw_at lw_m9 127 rfl
theorem q2112 : (Jvm.Cond.instanceMethod ({ cls := "RaidhallModel", name := "looksAtMat", desc := "(I)V" } : Jvm.MethodName)) ∈ lw_all := lw_g (lw_at lw_m9 128 rfl) rfl
theorem q2113 : (Jvm.Cond.code ({ cls := "RaidhallModel", name := "looksAtMat", desc := "(I)V" } : Jvm.MethodName) prog_14_method_15_code (2 : Nat) (Option.none : Option Jvm.ClassFile.FieldType)) ∈ lw_all := lw_g (lw_at lw_m9 129 rfl) rfl
theorem q2114 : (Jvm.Cond.methodLink "RaidhallModel" (144 : Nat) ({ cls := "RaidhallModel", name := "notes", desc := "(I)V" } : Jvm.MethodName)) ∈ lw_all := lw_g (lw_at lw_m9 130 rfl) rfl
theorem q2115 : (Jvm.Cond.privateMethod ({ cls := "RaidhallModel", name := "notes", desc := "(I)V" } : Jvm.MethodName)) ∈ lw_tbl := lw_at lw_m9 131 rfl
theorem q2116 : (Jvm.Cond.instanceMethod ({ cls := "RaidhallModel", name := "notes", desc := "(I)V" } : Jvm.MethodName)) ∈ lw_all := lw_g (lw_at lw_m9 132 rfl) rfl
theorem q2117 : (Jvm.Cond.code ({ cls := "RaidhallModel", name := "notes", desc := "(I)V" } : Jvm.MethodName) prog_14_method_27_code (5 : Nat) (Option.none : Option Jvm.ClassFile.FieldType)) ∈ lw_all := lw_g (lw_at lw_m9 133 rfl) rfl
theorem q2119 : (Jvm.Cond.instanceMethod ({ cls := "RaidhallModel", name := "card", desc := "(III)I" } : Jvm.MethodName)) ∈ lw_all := lw_g (lw_at lw_m9 135 rfl) rfl
theorem q2120 : (Jvm.Cond.selects "RaidhallModel" ({ cls := "RaidhallModel", name := "card", desc := "(III)I" } : Jvm.MethodName) ({ cls := "RaidhallModel", name := "card", desc := "(III)I" } : Jvm.MethodName)) ∈ lw_all := lw_g (lw_at lw_m9 136 rfl) rfl
theorem q2121 : (Jvm.Cond.code ({ cls := "RaidhallModel", name := "card", desc := "(III)I" } : Jvm.MethodName) prog_14_method_37_code (7 : Nat) (Option.some Jvm.ClassFile.FieldType.int)) ∈ lw_all := lw_g (lw_at lw_m9 137 rfl) rfl
theorem q2122 : (Jvm.Cond.methodLink "RaidhallModel" (192 : Nat) ({ cls := "RaidhallModel", name := "isSide", desc := "(I)Z" } : Jvm.MethodName)) ∈ lw_all := lw_g (lw_at lw_m9 138 rfl) rfl
theorem q2123 : (Jvm.Cond.static ({ cls := "RaidhallModel", name := "isSide", desc := "(I)Z" } : Jvm.MethodName)) ∈ lw_all := lw_g (lw_at lw_m9 139 rfl) rfl
theorem q2124 : (Jvm.Cond.code ({ cls := "RaidhallModel", name := "isSide", desc := "(I)Z" } : Jvm.MethodName) prog_14_method_6_code (1 : Nat) (Option.some Jvm.ClassFile.FieldType.boolean)) ∈ lw_all := lw_g (lw_at lw_m9 140 rfl) rfl
theorem q2125 : (Jvm.Cond.methodLink "RaidhallModel" (135 : Nat) ({ cls := "RaidhallModel", name := "canCard", desc := "(III)Z" } : Jvm.MethodName)) ∈ lw_all := lw_g (lw_at lw_m9 141 rfl) rfl
theorem q2126 : (Jvm.Cond.privateMethod ({ cls := "RaidhallModel", name := "canCard", desc := "(III)Z" } : Jvm.MethodName)) ∈ lw_tbl := lw_at lw_m9 142 rfl
theorem q2127 : (Jvm.Cond.instanceMethod ({ cls := "RaidhallModel", name := "canCard", desc := "(III)Z" } : Jvm.MethodName)) ∈ lw_all := lw_g (lw_at lw_m9 143 rfl) rfl
theorem q2128 : (Jvm.Cond.code ({ cls := "RaidhallModel", name := "canCard", desc := "(III)Z" } : Jvm.MethodName) prog_14_method_23_code (4 : Nat) (Option.some Jvm.ClassFile.FieldType.boolean)) ∈ lw_all := lw_g (lw_at lw_m9 144 rfl) rfl
theorem q2129 : (Jvm.Cond.methodLink "RaidhallModel" (121 : Nat) ({ cls := "RaidhallModel", name := "colourFor", desc := "(III)I" } : Jvm.MethodName)) ∈ lw_all := lw_g (lw_at lw_m9 145 rfl) rfl
theorem q2130 : (Jvm.Cond.privateMethod ({ cls := "RaidhallModel", name := "colourFor", desc := "(III)I" } : Jvm.MethodName)) ∈ lw_tbl := lw_at lw_m9 146 rfl
theorem q2131 : (Jvm.Cond.instanceMethod ({ cls := "RaidhallModel", name := "colourFor", desc := "(III)I" } : Jvm.MethodName)) ∈ lw_all := lw_g (lw_at lw_m9 147 rfl) rfl
theorem q2132 : (Jvm.Cond.code ({ cls := "RaidhallModel", name := "colourFor", desc := "(III)I" } : Jvm.MethodName) prog_14_method_22_code (5 : Nat) (Option.some Jvm.ClassFile.FieldType.int)) ∈ lw_all := lw_g (lw_at lw_m9 148 rfl) rfl
theorem q2133 : (Jvm.Cond.methodLink "RaidhallModel" (160 : Nat) ({ cls := "RaidhallModel", name := "follows", desc := "(I)Z" } : Jvm.MethodName)) ∈ lw_all := lw_g (lw_at lw_m9 149 rfl) rfl
theorem q2134 : (Jvm.Cond.privateMethod ({ cls := "RaidhallModel", name := "follows", desc := "(I)Z" } : Jvm.MethodName)) ∈ lw_tbl := lw_at lw_m9 150 rfl
theorem q2135 : (Jvm.Cond.instanceMethod ({ cls := "RaidhallModel", name := "follows", desc := "(I)Z" } : Jvm.MethodName)) ∈ lw_all := lw_g (lw_at lw_m9 151 rfl) rfl
theorem q2136 : (Jvm.Cond.code ({ cls := "RaidhallModel", name := "follows", desc := "(I)Z" } : Jvm.MethodName) prog_14_method_26_code (4 : Nat) (Option.some Jvm.ClassFile.FieldType.boolean)) ∈ lw_all := lw_g (lw_at lw_m9 152 rfl) rfl
theorem q2137 : (Jvm.Cond.methodLink "RaidhallModel" (138 : Nat) ({ cls := "RaidhallModel", name := "givesCard", desc := "(III)V" } : Jvm.MethodName)) ∈ lw_all := lw_g (lw_at lw_m9 153 rfl) rfl
theorem q2138 : (Jvm.Cond.privateMethod ({ cls := "RaidhallModel", name := "givesCard", desc := "(III)V" } : Jvm.MethodName)) ∈ lw_tbl := lw_at lw_m9 154 rfl
theorem q2139 : (Jvm.Cond.instanceMethod ({ cls := "RaidhallModel", name := "givesCard", desc := "(III)V" } : Jvm.MethodName)) ∈ lw_all := lw_g (lw_at lw_m9 155 rfl) rfl
theorem q2140 : (Jvm.Cond.code ({ cls := "RaidhallModel", name := "givesCard", desc := "(III)V" } : Jvm.MethodName) prog_14_method_25_code (6 : Nat) (Option.none : Option Jvm.ClassFile.FieldType)) ∈ lw_all := lw_g (lw_at lw_m9 156 rfl) rfl
theorem q2141 : (Jvm.Cond.methodLink "RaidhallModel" (141 : Nat) ({ cls := "RaidhallModel", name := "canChange", desc := "(III)Z" } : Jvm.MethodName)) ∈ lw_all := lw_g (lw_at lw_m9 157 rfl) rfl
theorem q2142 : (Jvm.Cond.privateMethod ({ cls := "RaidhallModel", name := "canChange", desc := "(III)Z" } : Jvm.MethodName)) ∈ lw_tbl := lw_at lw_m9 158 rfl
theorem q2143 : (Jvm.Cond.instanceMethod ({ cls := "RaidhallModel", name := "canChange", desc := "(III)Z" } : Jvm.MethodName)) ∈ lw_all := lw_g (lw_at lw_m9 159 rfl) rfl
theorem q2144 : (Jvm.Cond.code ({ cls := "RaidhallModel", name := "canChange", desc := "(III)Z" } : Jvm.MethodName) prog_14_method_24_code (4 : Nat) (Option.some Jvm.ClassFile.FieldType.boolean)) ∈ lw_all := lw_g (lw_at lw_m9 160 rfl) rfl
theorem q2146 : (Jvm.Cond.instanceMethod ({ cls := "RaidhallModel", name := "change", desc := "(III)I" } : Jvm.MethodName)) ∈ lw_all := lw_g (lw_at lw_m9 162 rfl) rfl
theorem q2147 : (Jvm.Cond.selects "RaidhallModel" ({ cls := "RaidhallModel", name := "change", desc := "(III)I" } : Jvm.MethodName) ({ cls := "RaidhallModel", name := "change", desc := "(III)I" } : Jvm.MethodName)) ∈ lw_all := lw_g (lw_at lw_m9 163 rfl) rfl
theorem q2148 : (Jvm.Cond.code ({ cls := "RaidhallModel", name := "change", desc := "(III)I" } : Jvm.MethodName) prog_14_method_38_code (6 : Nat) (Option.some Jvm.ClassFile.FieldType.int)) ∈ lw_all := lw_g (lw_at lw_m9 164 rfl) rfl
theorem q2150 : (Jvm.Cond.instanceMethod ({ cls := "RaidhallModel", name := "review", desc := "(IIIII)I" } : Jvm.MethodName)) ∈ lw_all := lw_g (lw_at lw_m9 166 rfl) rfl
theorem q2151 : (Jvm.Cond.selects "RaidhallModel" ({ cls := "RaidhallModel", name := "review", desc := "(IIIII)I" } : Jvm.MethodName) ({ cls := "RaidhallModel", name := "review", desc := "(IIIII)I" } : Jvm.MethodName)) ∈ lw_all := lw_g (lw_at lw_m9 167 rfl) rfl
theorem q2152 : (Jvm.Cond.code ({ cls := "RaidhallModel", name := "review", desc := "(IIIII)I" } : Jvm.MethodName) prog_14_method_43_code (11 : Nat) (Option.some Jvm.ClassFile.FieldType.int)) ∈ lw_all := lw_g (lw_at lw_m9 168 rfl) rfl
theorem q2153 : (Jvm.Cond.methodLink "RaidhallModel" (204 : Nat) ({ cls := "RaidhallModel", name := "isStep", desc := "(II)Z" } : Jvm.MethodName)) ∈ lw_all := lw_g (lw_at lw_m9 169 rfl) rfl
theorem q2154 : (Jvm.Cond.privateMethod ({ cls := "RaidhallModel", name := "isStep", desc := "(II)Z" } : Jvm.MethodName)) ∈ lw_tbl := lw_at lw_m9 170 rfl
theorem q2155 : (Jvm.Cond.instanceMethod ({ cls := "RaidhallModel", name := "isStep", desc := "(II)Z" } : Jvm.MethodName)) ∈ lw_all := lw_g (lw_at lw_m9 171 rfl) rfl
theorem q2156 : (Jvm.Cond.code ({ cls := "RaidhallModel", name := "isStep", desc := "(II)Z" } : Jvm.MethodName) prog_14_method_39_code (3 : Nat) (Option.some Jvm.ClassFile.FieldType.boolean)) ∈ lw_all := lw_g (lw_at lw_m9 172 rfl) rfl
theorem q2157 : (Jvm.Cond.methodLink "RaidhallModel" (157 : Nat) ({ cls := "RaidhallModel", name := "ended", desc := "()I" } : Jvm.MethodName)) ∈ lw_all := lw_g (lw_at lw_m9 173 rfl) rfl
theorem q2158 : (Jvm.Cond.privateMethod ({ cls := "RaidhallModel", name := "ended", desc := "()I" } : Jvm.MethodName)) ∈ lw_tbl := lw_at lw_m9 174 rfl
theorem q2159 : (Jvm.Cond.instanceMethod ({ cls := "RaidhallModel", name := "ended", desc := "()I" } : Jvm.MethodName)) ∈ lw_all := lw_g (lw_at lw_m9 175 rfl) rfl
theorem q2160 : (Jvm.Cond.code ({ cls := "RaidhallModel", name := "ended", desc := "()I" } : Jvm.MethodName) prog_14_method_28_code (1 : Nat) (Option.some Jvm.ClassFile.FieldType.int)) ∈ lw_all := lw_g (lw_at lw_m9 176 rfl) rfl
theorem q2161 : (Jvm.Cond.methodLink "RaidhallModel" (207 : Nat) ({ cls := "RaidhallModel", name := "falls", desc := "(IIII)I" } : Jvm.MethodName)) ∈ lw_all := lw_g (lw_at lw_m9 177 rfl) rfl
theorem q2162 : (Jvm.Cond.privateMethod ({ cls := "RaidhallModel", name := "falls", desc := "(IIII)I" } : Jvm.MethodName)) ∈ lw_tbl := lw_at lw_m9 178 rfl
theorem q2163 : (Jvm.Cond.instanceMethod ({ cls := "RaidhallModel", name := "falls", desc := "(IIII)I" } : Jvm.MethodName)) ∈ lw_all := lw_g (lw_at lw_m9 179 rfl) rfl
theorem q2164 : (Jvm.Cond.code ({ cls := "RaidhallModel", name := "falls", desc := "(IIII)I" } : Jvm.MethodName) prog_14_method_42_code (10 : Nat) (Option.some Jvm.ClassFile.FieldType.int)) ∈ lw_all := lw_g (lw_at lw_m9 180 rfl) rfl
theorem q2165 : (Jvm.Cond.methodLink "RaidhallModel" (195 : Nat) ({ cls := "RaidhallModel", name := "canBeSaid", desc := "(III)Z" } : Jvm.MethodName)) ∈ lw_all := lw_g (lw_at lw_m9 181 rfl) rfl
theorem q2166 : (Jvm.Cond.privateMethod ({ cls := "RaidhallModel", name := "canBeSaid", desc := "(III)Z" } : Jvm.MethodName)) ∈ lw_tbl := lw_at lw_m9 182 rfl
theorem q2167 : (Jvm.Cond.instanceMethod ({ cls := "RaidhallModel", name := "canBeSaid", desc := "(III)Z" } : Jvm.MethodName)) ∈ lw_all := lw_g (lw_at lw_m9 183 rfl) rfl
theorem q2168 : (Jvm.Cond.code ({ cls := "RaidhallModel", name := "canBeSaid", desc := "(III)Z" } : Jvm.MethodName) prog_14_method_40_code (5 : Nat) (Option.some Jvm.ClassFile.FieldType.boolean)) ∈ lw_all := lw_g (lw_at lw_m9 184 rfl) rfl
theorem q2169 : (Jvm.Cond.methodLink "RaidhallModel" (198 : Nat) ({ cls := "RaidhallModel", name := "says", desc := "(III)V" } : Jvm.MethodName)) ∈ lw_all := lw_g (lw_at lw_m9 185 rfl) rfl
theorem q2170 : (Jvm.Cond.privateMethod ({ cls := "RaidhallModel", name := "says", desc := "(III)V" } : Jvm.MethodName)) ∈ lw_tbl := lw_at lw_m9 186 rfl
theorem q2171 : (Jvm.Cond.instanceMethod ({ cls := "RaidhallModel", name := "says", desc := "(III)V" } : Jvm.MethodName)) ∈ lw_all := lw_g (lw_at lw_m9 187 rfl) rfl
theorem q2172 : (Jvm.Cond.code ({ cls := "RaidhallModel", name := "says", desc := "(III)V" } : Jvm.MethodName) prog_14_method_41_code (4 : Nat) (Option.none : Option Jvm.ClassFile.FieldType)) ∈ lw_all := lw_g (lw_at lw_m9 188 rfl) rfl
theorem q2173 : (Jvm.Cond.methodLink "RaidhallModel" (201 : Nat) ({ cls := "RaidhallModel", name := "plays", desc := "()I" } : Jvm.MethodName)) ∈ lw_all := lw_g (lw_at lw_m9 189 rfl) rfl
theorem q2174 : (Jvm.Cond.privateMethod ({ cls := "RaidhallModel", name := "plays", desc := "()I" } : Jvm.MethodName)) ∈ lw_tbl := lw_at lw_m9 190 rfl
theorem q2175 : (Jvm.Cond.instanceMethod ({ cls := "RaidhallModel", name := "plays", desc := "()I" } : Jvm.MethodName)) ∈ lw_all := lw_g (lw_at lw_m9 191 rfl) rfl
theorem q2176 : (Jvm.Cond.code ({ cls := "RaidhallModel", name := "plays", desc := "()I" } : Jvm.MethodName) prog_14_method_29_code (2 : Nat) (Option.some Jvm.ClassFile.FieldType.int)) ∈ lw_all := lw_g (lw_at lw_m9 192 rfl) rfl
theorem q2178 : (Jvm.Cond.instanceMethod ({ cls := "RaidhallModel", name := "wouldFall", desc := "(IIII)I" } : Jvm.MethodName)) ∈ lw_all := lw_g (lw_at lw_m9 194 rfl) rfl
theorem q2179 : (Jvm.Cond.selects "RaidhallModel" ({ cls := "RaidhallModel", name := "wouldFall", desc := "(IIII)I" } : Jvm.MethodName) ({ cls := "RaidhallModel", name := "wouldFall", desc := "(IIII)I" } : Jvm.MethodName)) ∈ lw_all := lw_g (lw_at lw_m9 195 rfl) rfl
theorem q2180 : (Jvm.Cond.code ({ cls := "RaidhallModel", name := "wouldFall", desc := "(IIII)I" } : Jvm.MethodName) prog_14_method_44_code (6 : Nat) (Option.some Jvm.ClassFile.FieldType.int)) ∈ lw_all := lw_g (lw_at lw_m9 196 rfl) rfl
theorem q2182 : (Jvm.Cond.instanceMethod ({ cls := "RaidhallModel", name := "takeBack", desc := "(I)I" } : Jvm.MethodName)) ∈ lw_all := lw_g (lw_at lw_m9 198 rfl) rfl
theorem q2183 : (Jvm.Cond.selects "RaidhallModel" ({ cls := "RaidhallModel", name := "takeBack", desc := "(I)I" } : Jvm.MethodName) ({ cls := "RaidhallModel", name := "takeBack", desc := "(I)I" } : Jvm.MethodName)) ∈ lw_all := lw_g (lw_at lw_m9 199 rfl) rfl
theorem q2184 : (Jvm.Cond.code ({ cls := "RaidhallModel", name := "takeBack", desc := "(I)I" } : Jvm.MethodName) prog_14_method_45_code (5 : Nat) (Option.some Jvm.ClassFile.FieldType.int)) ∈ lw_all := lw_g (lw_at lw_m9 200 rfl) rfl
theorem q2186 : (Jvm.Cond.instanceMethod ({ cls := "RaidhallModel", name := "enter", desc := "()I" } : Jvm.MethodName)) ∈ lw_all := lw_g (lw_at lw_m9 202 rfl) rfl
theorem q2187 : (Jvm.Cond.selects "RaidhallModel" ({ cls := "RaidhallModel", name := "enter", desc := "()I" } : Jvm.MethodName) ({ cls := "RaidhallModel", name := "enter", desc := "()I" } : Jvm.MethodName)) ∈ lw_all := lw_g (lw_at lw_m9 203 rfl) rfl
theorem q2188 : (Jvm.Cond.code ({ cls := "RaidhallModel", name := "enter", desc := "()I" } : Jvm.MethodName) prog_14_method_46_code (5 : Nat) (Option.some Jvm.ClassFile.FieldType.int)) ∈ lw_all := lw_g (lw_at lw_m9 204 rfl) rfl
theorem q2190 : (Jvm.Cond.instanceMethod ({ cls := "RaidhallModel", name := "type", desc := "(I)I" } : Jvm.MethodName)) ∈ lw_all := lw_g (lw_at lw_m9 206 rfl) rfl
theorem q2191 : (Jvm.Cond.selects "RaidhallModel" ({ cls := "RaidhallModel", name := "type", desc := "(I)I" } : Jvm.MethodName) ({ cls := "RaidhallModel", name := "type", desc := "(I)I" } : Jvm.MethodName)) ∈ lw_all := lw_g (lw_at lw_m9 207 rfl) rfl
theorem q2192 : (Jvm.Cond.code ({ cls := "RaidhallModel", name := "type", desc := "(I)I" } : Jvm.MethodName) prog_14_method_47_code (2 : Nat) (Option.some Jvm.ClassFile.FieldType.int)) ∈ lw_all := lw_g (lw_at lw_m9 208 rfl) rfl
theorem q2194 : (Jvm.Cond.instanceMethod ({ cls := "RaidhallModel", name := "clear", desc := "()I" } : Jvm.MethodName)) ∈ lw_all := lw_g (lw_at lw_m9 210 rfl) rfl
theorem q2195 : (Jvm.Cond.selects "RaidhallModel" ({ cls := "RaidhallModel", name := "clear", desc := "()I" } : Jvm.MethodName) ({ cls := "RaidhallModel", name := "clear", desc := "()I" } : Jvm.MethodName)) ∈ lw_all := lw_g (lw_at lw_m9 211 rfl) rfl
theorem q2196 : (Jvm.Cond.code ({ cls := "RaidhallModel", name := "clear", desc := "()I" } : Jvm.MethodName) prog_14_method_48_code (2 : Nat) (Option.some Jvm.ClassFile.FieldType.int)) ∈ lw_all := lw_g (lw_at lw_m9 212 rfl) rfl
theorem q2198 : (Jvm.Cond.instanceMethod ({ cls := "RaidhallModel", name := "fault", desc := "()I" } : Jvm.MethodName)) ∈ lw_all := lw_g (lw_at lw_m9 214 rfl) rfl
theorem q2199 : (Jvm.Cond.selects "RaidhallModel" ({ cls := "RaidhallModel", name := "fault", desc := "()I" } : Jvm.MethodName) ({ cls := "RaidhallModel", name := "fault", desc := "()I" } : Jvm.MethodName)) ∈ lw_all := lw_g (lw_at lw_m9 215 rfl) rfl
theorem q2200 : (Jvm.Cond.code ({ cls := "RaidhallModel", name := "fault", desc := "()I" } : Jvm.MethodName) prog_14_method_55_code (1 : Nat) (Option.some Jvm.ClassFile.FieldType.int)) ∈ lw_all := lw_g (lw_at lw_m9 216 rfl) rfl
theorem q2201 : (Jvm.Cond.methodLink "RaidhallModel" (244 : Nat) ({ cls := "RaidhallModel", name := "faultOf", desc := "()I" } : Jvm.MethodName)) ∈ lw_all := lw_g (lw_at lw_m9 217 rfl) rfl
theorem q2202 : (Jvm.Cond.privateMethod ({ cls := "RaidhallModel", name := "faultOf", desc := "()I" } : Jvm.MethodName)) ∈ lw_tbl := lw_at lw_m9 218 rfl
theorem q2203 : (Jvm.Cond.instanceMethod ({ cls := "RaidhallModel", name := "faultOf", desc := "()I" } : Jvm.MethodName)) ∈ lw_all := lw_g (lw_at lw_m9 219 rfl) rfl
theorem q2204 : (Jvm.Cond.code ({ cls := "RaidhallModel", name := "faultOf", desc := "()I" } : Jvm.MethodName) prog_14_method_54_code (1 : Nat) (Option.some Jvm.ClassFile.FieldType.int)) ∈ lw_all := lw_g (lw_at lw_m9 220 rfl) rfl
theorem q2205 : (Jvm.Cond.methodLink "RaidhallModel" (241 : Nat) ({ cls := "RaidhallModel", name := "readOrder", desc := "()V" } : Jvm.MethodName)) ∈ lw_all := lw_g (lw_at lw_m9 221 rfl) rfl
theorem q2206 : (Jvm.Cond.privateMethod ({ cls := "RaidhallModel", name := "readOrder", desc := "()V" } : Jvm.MethodName)) ∈ lw_tbl := lw_at lw_m9 222 rfl
theorem q2207 : (Jvm.Cond.instanceMethod ({ cls := "RaidhallModel", name := "readOrder", desc := "()V" } : Jvm.MethodName)) ∈ lw_all := lw_g (lw_at lw_m9 223 rfl) rfl
theorem q2208 : (Jvm.Cond.code ({ cls := "RaidhallModel", name := "readOrder", desc := "()V" } : Jvm.MethodName) prog_14_method_53_code (2 : Nat) (Option.none : Option Jvm.ClassFile.FieldType)) ∈ lw_all := lw_g (lw_at lw_m9 224 rfl) rfl
theorem q2209 : (Jvm.Cond.methodLink "RaidhallModel" (232 : Nat) ({ cls := "RaidhallModel", name := "readWord", desc := "()V" } : Jvm.MethodName)) ∈ lw_all := lw_g (lw_at lw_m9 225 rfl) rfl
theorem q2210 : (Jvm.Cond.privateMethod ({ cls := "RaidhallModel", name := "readWord", desc := "()V" } : Jvm.MethodName)) ∈ lw_tbl := lw_at lw_m9 226 rfl
theorem q2211 : (Jvm.Cond.instanceMethod ({ cls := "RaidhallModel", name := "readWord", desc := "()V" } : Jvm.MethodName)) ∈ lw_all := lw_g (lw_at lw_m9 227 rfl) rfl
theorem q2212 : (Jvm.Cond.code ({ cls := "RaidhallModel", name := "readWord", desc := "()V" } : Jvm.MethodName) prog_14_method_52_code (4 : Nat) (Option.none : Option Jvm.ClassFile.FieldType)) ∈ lw_all := lw_g (lw_at lw_m9 228 rfl) rfl
theorem q2213 : (Jvm.Cond.methodLink "RaidhallModel" (228 : Nat) ({ cls := "RaidhallModel", name := "takesAll", desc := "(IIII)V" } : Jvm.MethodName)) ∈ lw_all := lw_g (lw_at lw_m9 229 rfl) rfl
theorem q2214 : (Jvm.Cond.privateMethod ({ cls := "RaidhallModel", name := "takesAll", desc := "(IIII)V" } : Jvm.MethodName)) ∈ lw_tbl := lw_at lw_m9 230 rfl
theorem q2215 : (Jvm.Cond.instanceMethod ({ cls := "RaidhallModel", name := "takesAll", desc := "(IIII)V" } : Jvm.MethodName)) ∈ lw_all := lw_g (lw_at lw_m9 231 rfl) rfl
theorem q2216 : (Jvm.Cond.code ({ cls := "RaidhallModel", name := "takesAll", desc := "(IIII)V" } : Jvm.MethodName) prog_14_method_51_code (6 : Nat) (Option.none : Option Jvm.ClassFile.FieldType)) ∈ lw_all := lw_g (lw_at lw_m9 232 rfl) rfl
theorem q2217 : (Jvm.Cond.methodLink "RaidhallModel" (222 : Nat) ({ cls := "RaidhallModel", name := "takes", desc := "(II)I" } : Jvm.MethodName)) ∈ lw_all := lw_g (lw_at lw_m9 233 rfl) rfl
theorem q2218 : (Jvm.Cond.privateMethod ({ cls := "RaidhallModel", name := "takes", desc := "(II)I" } : Jvm.MethodName)) ∈ lw_tbl := lw_at lw_m9 234 rfl
theorem q2219 : (Jvm.Cond.instanceMethod ({ cls := "RaidhallModel", name := "takes", desc := "(II)I" } : Jvm.MethodName)) ∈ lw_all := lw_g (lw_at lw_m9 235 rfl) rfl
theorem q2220 : (Jvm.Cond.code ({ cls := "RaidhallModel", name := "takes", desc := "(II)I" } : Jvm.MethodName) prog_14_method_50_code (5 : Nat) (Option.some Jvm.ClassFile.FieldType.int)) ∈ lw_all := lw_g (lw_at lw_m9 236 rfl) rfl
theorem q2221 : (Jvm.Cond.methodLink "RaidhallModel" (219 : Nat) ({ cls := "RaidhallModel", name := "isNext", desc := "(II)Z" } : Jvm.MethodName)) ∈ lw_all := lw_g (lw_at lw_m9 237 rfl) rfl
theorem q2222 : (Jvm.Cond.privateMethod ({ cls := "RaidhallModel", name := "isNext", desc := "(II)Z" } : Jvm.MethodName)) ∈ lw_tbl := lw_at lw_m9 238 rfl
theorem q2223 : (Jvm.Cond.instanceMethod ({ cls := "RaidhallModel", name := "isNext", desc := "(II)Z" } : Jvm.MethodName)) ∈ lw_all := lw_g (lw_at lw_m9 239 rfl) rfl
theorem q2224 : (Jvm.Cond.code ({ cls := "RaidhallModel", name := "isNext", desc := "(II)Z" } : Jvm.MethodName) prog_14_method_49_code (3 : Nat) (Option.some Jvm.ClassFile.FieldType.boolean)) ∈ lw_all := lw_g (lw_at lw_m10 0 rfl) rfl
theorem q2226 : (Jvm.Cond.instanceMethod ({ cls := "RaidhallModel", name := "run", desc := "()I" } : Jvm.MethodName)) ∈ lw_all := lw_g (lw_at lw_m10 2 rfl) rfl
theorem q2227 : (Jvm.Cond.selects "RaidhallModel" ({ cls := "RaidhallModel", name := "run", desc := "()I" } : Jvm.MethodName) ({ cls := "RaidhallModel", name := "run", desc := "()I" } : Jvm.MethodName)) ∈ lw_all := lw_g (lw_at lw_m10 3 rfl) rfl
theorem q2228 : (Jvm.Cond.code ({ cls := "RaidhallModel", name := "run", desc := "()I" } : Jvm.MethodName) prog_14_method_56_code (4 : Nat) (Option.some Jvm.ClassFile.FieldType.int)) ∈ lw_all := lw_g (lw_at lw_m10 4 rfl) rfl
theorem q2229 : (Jvm.Cond.methodLink "RaidhallModel" (247 : Nat) ({ cls := "RaidhallModel", name := "raid", desc := "(I)I" } : Jvm.MethodName)) ∈ lw_all := lw_g (lw_at lw_m10 5 rfl) rfl
theorem q2230 : (Jvm.Cond.methodLink "RaidhallModel" (251 : Nat) ({ cls := "RaidhallModel", name := "step", desc := "(III)I" } : Jvm.MethodName)) ∈ lw_all := lw_g (lw_at lw_m10 6 rfl) rfl
theorem q2232 : (Jvm.Cond.instanceMethod ({ cls := "RaidhallModel", name := "player", desc := "(II)I" } : Jvm.MethodName)) ∈ lw_all := lw_g (lw_at lw_m10 8 rfl) rfl
theorem q2233 : (Jvm.Cond.selects "RaidhallModel" ({ cls := "RaidhallModel", name := "player", desc := "(II)I" } : Jvm.MethodName) ({ cls := "RaidhallModel", name := "player", desc := "(II)I" } : Jvm.MethodName)) ∈ lw_all := lw_g (lw_at lw_m10 9 rfl) rfl
theorem q2234 : (Jvm.Cond.code ({ cls := "RaidhallModel", name := "player", desc := "(II)I" } : Jvm.MethodName) prog_14_method_58_code (3 : Nat) (Option.some Jvm.ClassFile.FieldType.int)) ∈ lw_all := lw_g (lw_at lw_m10 10 rfl) rfl
theorem q2235 : (Jvm.Cond.methodLink "RaidhallModel" (254 : Nat) ({ cls := "RaidhallModel", name := "errorOfMatch", desc := "(Z)I" } : Jvm.MethodName)) ∈ lw_all := lw_g (lw_at lw_m10 11 rfl) rfl
theorem q2236 : (Jvm.Cond.privateMethod ({ cls := "RaidhallModel", name := "errorOfMatch", desc := "(Z)I" } : Jvm.MethodName)) ∈ lw_tbl := lw_at lw_m10 12 rfl
theorem q2237 : (Jvm.Cond.instanceMethod ({ cls := "RaidhallModel", name := "errorOfMatch", desc := "(Z)I" } : Jvm.MethodName)) ∈ lw_all := lw_g (lw_at lw_m10 13 rfl) rfl
theorem q2238 : (Jvm.Cond.code ({ cls := "RaidhallModel", name := "errorOfMatch", desc := "(Z)I" } : Jvm.MethodName) prog_14_method_57_code (2 : Nat) (Option.some Jvm.ClassFile.FieldType.int)) ∈ lw_all := lw_g (lw_at lw_m10 14 rfl) rfl
theorem q2240 : (Jvm.Cond.instanceMethod ({ cls := "RaidhallModel", name := "out", desc := "(II)I" } : Jvm.MethodName)) ∈ lw_all := lw_g (lw_at lw_m10 16 rfl) rfl
theorem q2241 : (Jvm.Cond.selects "RaidhallModel" ({ cls := "RaidhallModel", name := "out", desc := "(II)I" } : Jvm.MethodName) ({ cls := "RaidhallModel", name := "out", desc := "(II)I" } : Jvm.MethodName)) ∈ lw_all := lw_g (lw_at lw_m10 17 rfl) rfl
theorem q2242 : (Jvm.Cond.code ({ cls := "RaidhallModel", name := "out", desc := "(II)I" } : Jvm.MethodName) prog_14_method_60_code (3 : Nat) (Option.some Jvm.ClassFile.FieldType.int)) ∈ lw_all := lw_g (lw_at lw_m10 18 rfl) rfl
theorem q2243 : (Jvm.Cond.methodLink "RaidhallModel" (258 : Nat) ({ cls := "RaidhallModel", name := "outAt", desc := "(II)I" } : Jvm.MethodName)) ∈ lw_all := lw_g (lw_at lw_m10 19 rfl) rfl
theorem q2244 : (Jvm.Cond.privateMethod ({ cls := "RaidhallModel", name := "outAt", desc := "(II)I" } : Jvm.MethodName)) ∈ lw_tbl := lw_at lw_m10 20 rfl
theorem q2245 : (Jvm.Cond.instanceMethod ({ cls := "RaidhallModel", name := "outAt", desc := "(II)I" } : Jvm.MethodName)) ∈ lw_all := lw_g (lw_at lw_m10 21 rfl) rfl
theorem q2246 : (Jvm.Cond.code ({ cls := "RaidhallModel", name := "outAt", desc := "(II)I" } : Jvm.MethodName) prog_14_method_59_code (3 : Nat) (Option.some Jvm.ClassFile.FieldType.int)) ∈ lw_all := lw_g (lw_at lw_m10 22 rfl) rfl
theorem q2248 : (Jvm.Cond.instanceMethod ({ cls := "RaidhallModel", name := "next", desc := "(I)I" } : Jvm.MethodName)) ∈ lw_all := lw_g (lw_at lw_m10 24 rfl) rfl
theorem q2249 : (Jvm.Cond.selects "RaidhallModel" ({ cls := "RaidhallModel", name := "next", desc := "(I)I" } : Jvm.MethodName) ({ cls := "RaidhallModel", name := "next", desc := "(I)I" } : Jvm.MethodName)) ∈ lw_all := lw_g (lw_at lw_m10 25 rfl) rfl
theorem q2250 : (Jvm.Cond.code ({ cls := "RaidhallModel", name := "next", desc := "(I)I" } : Jvm.MethodName) prog_14_method_61_code (2 : Nat) (Option.some Jvm.ClassFile.FieldType.int)) ∈ lw_all := lw_g (lw_at lw_m10 26 rfl) rfl
theorem q2252 : (Jvm.Cond.instanceMethod ({ cls := "RaidhallModel", name := "points", desc := "(I)I" } : Jvm.MethodName)) ∈ lw_all := lw_g (lw_at lw_m10 28 rfl) rfl
theorem q2253 : (Jvm.Cond.selects "RaidhallModel" ({ cls := "RaidhallModel", name := "points", desc := "(I)I" } : Jvm.MethodName) ({ cls := "RaidhallModel", name := "points", desc := "(I)I" } : Jvm.MethodName)) ∈ lw_all := lw_g (lw_at lw_m10 29 rfl) rfl
theorem q2254 : (Jvm.Cond.code ({ cls := "RaidhallModel", name := "points", desc := "(I)I" } : Jvm.MethodName) prog_14_method_62_code (2 : Nat) (Option.some Jvm.ClassFile.FieldType.int)) ∈ lw_all := lw_g (lw_at lw_m10 30 rfl) rfl
theorem q2256 : (Jvm.Cond.instanceMethod ({ cls := "RaidhallModel", name := "match", desc := "(I)I" } : Jvm.MethodName)) ∈ lw_all := lw_g (lw_at lw_m10 32 rfl) rfl
theorem q2257 : (Jvm.Cond.selects "RaidhallModel" ({ cls := "RaidhallModel", name := "match", desc := "(I)I" } : Jvm.MethodName) ({ cls := "RaidhallModel", name := "match", desc := "(I)I" } : Jvm.MethodName)) ∈ lw_all := lw_g (lw_at lw_m10 33 rfl) rfl
theorem q2258 : (Jvm.Cond.code ({ cls := "RaidhallModel", name := "match", desc := "(I)I" } : Jvm.MethodName) prog_14_method_63_code (2 : Nat) (Option.some Jvm.ClassFile.FieldType.int)) ∈ lw_all := lw_g (lw_at lw_m10 34 rfl) rfl
theorem q2260 : (Jvm.Cond.instanceMethod ({ cls := "RaidhallModel", name := "hasReview", desc := "(I)Z" } : Jvm.MethodName)) ∈ lw_all := lw_g (lw_at lw_m10 36 rfl) rfl
theorem q2261 : (Jvm.Cond.selects "RaidhallModel" ({ cls := "RaidhallModel", name := "hasReview", desc := "(I)Z" } : Jvm.MethodName) ({ cls := "RaidhallModel", name := "hasReview", desc := "(I)Z" } : Jvm.MethodName)) ∈ lw_all := lw_g (lw_at lw_m10 37 rfl) rfl
theorem q2262 : (Jvm.Cond.code ({ cls := "RaidhallModel", name := "hasReview", desc := "(I)Z" } : Jvm.MethodName) prog_14_method_64_code (2 : Nat) (Option.some Jvm.ClassFile.FieldType.boolean)) ∈ lw_all := lw_g (lw_at lw_m10 38 rfl) rfl
theorem q2264 : (Jvm.Cond.instanceMethod ({ cls := "RaidhallModel", name := "matAfter", desc := "(II)I" } : Jvm.MethodName)) ∈ lw_all := lw_g (lw_at lw_m10 40 rfl) rfl
theorem q2265 : (Jvm.Cond.selects "RaidhallModel" ({ cls := "RaidhallModel", name := "matAfter", desc := "(II)I" } : Jvm.MethodName) ({ cls := "RaidhallModel", name := "matAfter", desc := "(II)I" } : Jvm.MethodName)) ∈ lw_all := lw_g (lw_at lw_m10 41 rfl) rfl
theorem q2266 : (Jvm.Cond.code ({ cls := "RaidhallModel", name := "matAfter", desc := "(II)I" } : Jvm.MethodName) prog_14_method_66_code (3 : Nat) (Option.some Jvm.ClassFile.FieldType.int)) ∈ lw_all := lw_g (lw_at lw_m10 42 rfl) rfl
theorem q2267 : (Jvm.Cond.methodLink "RaidhallModel" (261 : Nat) ({ cls := "RaidhallModel", name := "hasEnded", desc := "(II)Z" } : Jvm.MethodName)) ∈ lw_all := lw_g (lw_at lw_m10 43 rfl) rfl
theorem q2268 : (Jvm.Cond.privateMethod ({ cls := "RaidhallModel", name := "hasEnded", desc := "(II)Z" } : Jvm.MethodName)) ∈ lw_tbl := lw_at lw_m10 44 rfl
theorem q2269 : (Jvm.Cond.instanceMethod ({ cls := "RaidhallModel", name := "hasEnded", desc := "(II)Z" } : Jvm.MethodName)) ∈ lw_all := lw_g (lw_at lw_m10 45 rfl) rfl
theorem q2270 : (Jvm.Cond.code ({ cls := "RaidhallModel", name := "hasEnded", desc := "(II)Z" } : Jvm.MethodName) prog_14_method_65_code (3 : Nat) (Option.some Jvm.ClassFile.FieldType.boolean)) ∈ lw_all := lw_g (lw_at lw_m10 46 rfl) rfl
theorem q2272 : (Jvm.Cond.instanceMethod ({ cls := "RaidhallModel", name := "matAnew", desc := "(II)I" } : Jvm.MethodName)) ∈ lw_all := lw_g (lw_at lw_m10 48 rfl) rfl
theorem q2273 : (Jvm.Cond.selects "RaidhallModel" ({ cls := "RaidhallModel", name := "matAnew", desc := "(II)I" } : Jvm.MethodName) ({ cls := "RaidhallModel", name := "matAnew", desc := "(II)I" } : Jvm.MethodName)) ∈ lw_all := lw_g (lw_at lw_m10 49 rfl) rfl
theorem q2274 : (Jvm.Cond.code ({ cls := "RaidhallModel", name := "matAnew", desc := "(II)I" } : Jvm.MethodName) prog_14_method_67_code (3 : Nat) (Option.some Jvm.ClassFile.FieldType.int)) ∈ lw_all := lw_g (lw_at lw_m10 50 rfl) rfl
theorem q2275 : (Jvm.Cond.methodLink "RaidhallModel" (264 : Nat) ({ cls := "RaidhallModel", name := "matAfter", desc := "(II)I" } : Jvm.MethodName)) ∈ lw_all := lw_g (lw_at lw_m10 51 rfl) rfl
theorem q2277 : (Jvm.Cond.instanceMethod ({ cls := "RaidhallModel", name := "pointsAfter", desc := "(II)I" } : Jvm.MethodName)) ∈ lw_all := lw_g (lw_at lw_m10 53 rfl) rfl
theorem q2278 : (Jvm.Cond.selects "RaidhallModel" ({ cls := "RaidhallModel", name := "pointsAfter", desc := "(II)I" } : Jvm.MethodName) ({ cls := "RaidhallModel", name := "pointsAfter", desc := "(II)I" } : Jvm.MethodName)) ∈ lw_all := lw_g (lw_at lw_m10 54 rfl) rfl
theorem q2279 : (Jvm.Cond.code ({ cls := "RaidhallModel", name := "pointsAfter", desc := "(II)I" } : Jvm.MethodName) prog_14_method_68_code (3 : Nat) (Option.some Jvm.ClassFile.FieldType.int)) ∈ lw_all := lw_g (lw_at lw_m10 55 rfl) rfl
theorem q2281 : (Jvm.Cond.instanceMethod ({ cls := "RaidhallModel", name := "raidPoints", desc := "(II)I" } : Jvm.MethodName)) ∈ lw_all := lw_g (lw_at lw_m10 57 rfl) rfl
theorem q2282 : (Jvm.Cond.selects "RaidhallModel" ({ cls := "RaidhallModel", name := "raidPoints", desc := "(II)I" } : Jvm.MethodName) ({ cls := "RaidhallModel", name := "raidPoints", desc := "(II)I" } : Jvm.MethodName)) ∈ lw_all := lw_g (lw_at lw_m10 58 rfl) rfl
theorem q2283 : (Jvm.Cond.code ({ cls := "RaidhallModel", name := "raidPoints", desc := "(II)I" } : Jvm.MethodName) prog_14_method_69_code (3 : Nat) (Option.some Jvm.ClassFile.FieldType.int)) ∈ lw_all := lw_g (lw_at lw_m10 59 rfl) rfl
theorem q2285 : (Jvm.Cond.instanceMethod ({ cls := "RaidhallModel", name := "club", desc := "(II)I" } : Jvm.MethodName)) ∈ lw_all := lw_g (lw_at lw_m10 61 rfl) rfl
theorem q2286 : (Jvm.Cond.selects "RaidhallModel" ({ cls := "RaidhallModel", name := "club", desc := "(II)I" } : Jvm.MethodName) ({ cls := "RaidhallModel", name := "club", desc := "(II)I" } : Jvm.MethodName)) ∈ lw_all := lw_g (lw_at lw_m10 62 rfl) rfl
theorem q2287 : (Jvm.Cond.code ({ cls := "RaidhallModel", name := "club", desc := "(II)I" } : Jvm.MethodName) prog_14_method_72_code (3 : Nat) (Option.some Jvm.ClassFile.FieldType.int)) ∈ lw_all := lw_g (lw_at lw_m10 63 rfl) rfl
theorem q2288 : (Jvm.Cond.methodLink "RaidhallModel" (270 : Nat) ({ cls := "RaidhallModel", name := "rankOf", desc := "(I)I" } : Jvm.MethodName)) ∈ lw_all := lw_g (lw_at lw_m10 64 rfl) rfl
theorem q2289 : (Jvm.Cond.privateMethod ({ cls := "RaidhallModel", name := "rankOf", desc := "(I)I" } : Jvm.MethodName)) ∈ lw_tbl := lw_at lw_m10 65 rfl
theorem q2290 : (Jvm.Cond.instanceMethod ({ cls := "RaidhallModel", name := "rankOf", desc := "(I)I" } : Jvm.MethodName)) ∈ lw_all := lw_g (lw_at lw_m10 66 rfl) rfl
theorem q2291 : (Jvm.Cond.code ({ cls := "RaidhallModel", name := "rankOf", desc := "(I)I" } : Jvm.MethodName) prog_14_method_71_code (4 : Nat) (Option.some Jvm.ClassFile.FieldType.int)) ∈ lw_all := lw_g (lw_at lw_m10 67 rfl) rfl
theorem q2292 : (Jvm.Cond.methodLink "RaidhallModel" (267 : Nat) ({ cls := "RaidhallModel", name := "isAhead", desc := "(II)Z" } : Jvm.MethodName)) ∈ lw_all := lw_g (lw_at lw_m10 68 rfl) rfl
theorem q2293 : (Jvm.Cond.privateMethod ({ cls := "RaidhallModel", name := "isAhead", desc := "(II)Z" } : Jvm.MethodName)) ∈ lw_tbl := lw_at lw_m10 69 rfl
theorem q2294 : (Jvm.Cond.instanceMethod ({ cls := "RaidhallModel", name := "isAhead", desc := "(II)Z" } : Jvm.MethodName)) ∈ lw_all := lw_g (lw_at lw_m10 70 rfl) rfl
theorem q2295 : (Jvm.Cond.code ({ cls := "RaidhallModel", name := "isAhead", desc := "(II)Z" } : Jvm.MethodName) prog_14_method_70_code (10 : Nat) (Option.some Jvm.ClassFile.FieldType.boolean)) ∈ lw_all := lw_g (lw_at lw_m10 71 rfl) rfl
theorem q2297 : (Jvm.Cond.instanceMethod ({ cls := "RaidhallModel", name := "right", desc := "(II)I" } : Jvm.MethodName)) ∈ lw_all := lw_g (lw_at lw_m10 73 rfl) rfl
theorem q2298 : (Jvm.Cond.selects "RaidhallModel" ({ cls := "RaidhallModel", name := "right", desc := "(II)I" } : Jvm.MethodName) ({ cls := "RaidhallModel", name := "right", desc := "(II)I" } : Jvm.MethodName)) ∈ lw_all := lw_g (lw_at lw_m10 74 rfl) rfl
theorem q2299 : (Jvm.Cond.code ({ cls := "RaidhallModel", name := "right", desc := "(II)I" } : Jvm.MethodName) prog_14_method_76_code (5 : Nat) (Option.some Jvm.ClassFile.FieldType.int)) ∈ lw_all := lw_g (lw_at lw_m10 75 rfl) rfl
theorem q2300 : (Jvm.Cond.methodLink "RaidhallModel" (276 : Nat) ({ cls := "RaidhallModel", name := "isLot", desc := "(I)Z" } : Jvm.MethodName)) ∈ lw_all := lw_g (lw_at lw_m10 76 rfl) rfl
theorem q2301 : (Jvm.Cond.static ({ cls := "RaidhallModel", name := "isLot", desc := "(I)Z" } : Jvm.MethodName)) ∈ lw_all := lw_g (lw_at lw_m10 77 rfl) rfl
theorem q2302 : (Jvm.Cond.code ({ cls := "RaidhallModel", name := "isLot", desc := "(I)Z" } : Jvm.MethodName) prog_14_method_8_code (1 : Nat) (Option.some Jvm.ClassFile.FieldType.boolean)) ∈ lw_all := lw_g (lw_at lw_m10 78 rfl) rfl
theorem q2304 : (Jvm.Cond.instanceMethod ({ cls := "RaidhallModel", name := "call", desc := "(I)I" } : Jvm.MethodName)) ∈ lw_all := lw_g (lw_at lw_m10 80 rfl) rfl
theorem q2305 : (Jvm.Cond.selects "RaidhallModel" ({ cls := "RaidhallModel", name := "call", desc := "(I)I" } : Jvm.MethodName) ({ cls := "RaidhallModel", name := "call", desc := "(I)I" } : Jvm.MethodName)) ∈ lw_all := lw_g (lw_at lw_m10 81 rfl) rfl
theorem q2306 : (Jvm.Cond.code ({ cls := "RaidhallModel", name := "call", desc := "(I)I" } : Jvm.MethodName) prog_14_method_77_code (3 : Nat) (Option.some Jvm.ClassFile.FieldType.int)) ∈ lw_all := lw_g (lw_at lw_m10 82 rfl) rfl
theorem q2307 : (Jvm.Cond.methodLink "RaidhallModel" (291 : Nat) ({ cls := "RaidhallModel", name := "baseOf", desc := "(I)I" } : Jvm.MethodName)) ∈ lw_all := lw_g (lw_at lw_m10 83 rfl) rfl
theorem q2308 : (Jvm.Cond.static ({ cls := "RaidhallModel", name := "baseOf", desc := "(I)I" } : Jvm.MethodName)) ∈ lw_all := lw_g (lw_at lw_m10 84 rfl) rfl
theorem q2309 : (Jvm.Cond.code ({ cls := "RaidhallModel", name := "baseOf", desc := "(I)I" } : Jvm.MethodName) prog_14_method_73_code (1 : Nat) (Option.some Jvm.ClassFile.FieldType.int)) ∈ lw_all := lw_g (lw_at lw_m10 85 rfl) rfl
theorem q2311 : (Jvm.Cond.instanceMethod ({ cls := "RaidhallModel", name := "bid", desc := "(II)I" } : Jvm.MethodName)) ∈ lw_all := lw_g (lw_at lw_m10 87 rfl) rfl
theorem q2312 : (Jvm.Cond.selects "RaidhallModel" ({ cls := "RaidhallModel", name := "bid", desc := "(II)I" } : Jvm.MethodName) ({ cls := "RaidhallModel", name := "bid", desc := "(II)I" } : Jvm.MethodName)) ∈ lw_all := lw_g (lw_at lw_m10 88 rfl) rfl
theorem q2313 : (Jvm.Cond.code ({ cls := "RaidhallModel", name := "bid", desc := "(II)I" } : Jvm.MethodName) prog_14_method_78_code (4 : Nat) (Option.some Jvm.ClassFile.FieldType.int)) ∈ lw_all := lw_g (lw_at lw_m10 89 rfl) rfl
theorem q2314 : (Jvm.Cond.methodLink "RaidhallModel" (294 : Nat) ({ cls := "RaidhallModel", name := "canBid", desc := "(III)Z" } : Jvm.MethodName)) ∈ lw_all := lw_g (lw_at lw_m10 90 rfl) rfl
theorem q2315 : (Jvm.Cond.privateMethod ({ cls := "RaidhallModel", name := "canBid", desc := "(III)Z" } : Jvm.MethodName)) ∈ lw_tbl := lw_at lw_m10 91 rfl
theorem q2316 : (Jvm.Cond.instanceMethod ({ cls := "RaidhallModel", name := "canBid", desc := "(III)Z" } : Jvm.MethodName)) ∈ lw_all := lw_g (lw_at lw_m10 92 rfl) rfl
theorem q2317 : (Jvm.Cond.code ({ cls := "RaidhallModel", name := "canBid", desc := "(III)Z" } : Jvm.MethodName) prog_14_method_75_code (4 : Nat) (Option.some Jvm.ClassFile.FieldType.boolean)) ∈ lw_all := lw_g (lw_at lw_m10 93 rfl) rfl
theorem q2318 : (Jvm.Cond.methodLink "RaidhallModel" (273 : Nat) ({ cls := "RaidhallModel", name := "isForeign", desc := "(I)Z" } : Jvm.MethodName)) ∈ lw_all := lw_g (lw_at lw_m10 94 rfl) rfl
theorem q2319 : (Jvm.Cond.static ({ cls := "RaidhallModel", name := "isForeign", desc := "(I)Z" } : Jvm.MethodName)) ∈ lw_all := lw_g (lw_at lw_m10 95 rfl) rfl
theorem q2320 : (Jvm.Cond.code ({ cls := "RaidhallModel", name := "isForeign", desc := "(I)Z" } : Jvm.MethodName) prog_14_method_74_code (1 : Nat) (Option.some Jvm.ClassFile.FieldType.boolean)) ∈ lw_all := lw_g (lw_at lw_m10 96 rfl) rfl
theorem q2322 : (Jvm.Cond.instanceMethod ({ cls := "RaidhallModel", name := "hammer", desc := "()I" } : Jvm.MethodName)) ∈ lw_all := lw_g (lw_at lw_m10 98 rfl) rfl
theorem q2323 : (Jvm.Cond.selects "RaidhallModel" ({ cls := "RaidhallModel", name := "hammer", desc := "()I" } : Jvm.MethodName) ({ cls := "RaidhallModel", name := "hammer", desc := "()I" } : Jvm.MethodName)) ∈ lw_all := lw_g (lw_at lw_m10 99 rfl) rfl
theorem q2324 : (Jvm.Cond.code ({ cls := "RaidhallModel", name := "hammer", desc := "()I" } : Jvm.MethodName) prog_14_method_80_code (2 : Nat) (Option.some Jvm.ClassFile.FieldType.int)) ∈ lw_all := lw_g (lw_at lw_m10 100 rfl) rfl
theorem q2325 : (Jvm.Cond.methodLink "RaidhallModel" (297 : Nat) ({ cls := "RaidhallModel", name := "sells", desc := "(I)I" } : Jvm.MethodName)) ∈ lw_all := lw_g (lw_at lw_m10 101 rfl) rfl
theorem q2326 : (Jvm.Cond.privateMethod ({ cls := "RaidhallModel", name := "sells", desc := "(I)I" } : Jvm.MethodName)) ∈ lw_tbl := lw_at lw_m10 102 rfl
theorem q2327 : (Jvm.Cond.instanceMethod ({ cls := "RaidhallModel", name := "sells", desc := "(I)I" } : Jvm.MethodName)) ∈ lw_all := lw_g (lw_at lw_m10 103 rfl) rfl
theorem q2328 : (Jvm.Cond.code ({ cls := "RaidhallModel", name := "sells", desc := "(I)I" } : Jvm.MethodName) prog_14_method_79_code (2 : Nat) (Option.some Jvm.ClassFile.FieldType.int)) ∈ lw_all := lw_g (lw_at lw_m10 104 rfl) rfl
theorem q2330 : (Jvm.Cond.instanceMethod ({ cls := "RaidhallModel", name := "answer", desc := "(Z)I" } : Jvm.MethodName)) ∈ lw_all := lw_g (lw_at lw_m10 106 rfl) rfl
theorem q2331 : (Jvm.Cond.selects "RaidhallModel" ({ cls := "RaidhallModel", name := "answer", desc := "(Z)I" } : Jvm.MethodName) ({ cls := "RaidhallModel", name := "answer", desc := "(Z)I" } : Jvm.MethodName)) ∈ lw_all := lw_g (lw_at lw_m10 107 rfl) rfl
theorem q2332 : (Jvm.Cond.code ({ cls := "RaidhallModel", name := "answer", desc := "(Z)I" } : Jvm.MethodName) prog_14_method_81_code (3 : Nat) (Option.some Jvm.ClassFile.FieldType.int)) ∈ lw_all := lw_g (lw_at lw_m10 108 rfl) rfl
theorem q2334 : (Jvm.Cond.instanceMethod ({ cls := "RaidhallModel", name := "lot", desc := "(II)I" } : Jvm.MethodName)) ∈ lw_all := lw_g (lw_at lw_m10 110 rfl) rfl
theorem q2335 : (Jvm.Cond.selects "RaidhallModel" ({ cls := "RaidhallModel", name := "lot", desc := "(II)I" } : Jvm.MethodName) ({ cls := "RaidhallModel", name := "lot", desc := "(II)I" } : Jvm.MethodName)) ∈ lw_all := lw_g (lw_at lw_m10 111 rfl) rfl
theorem q2336 : (Jvm.Cond.code ({ cls := "RaidhallModel", name := "lot", desc := "(II)I" } : Jvm.MethodName) prog_14_method_82_code (3 : Nat) (Option.some Jvm.ClassFile.FieldType.int)) ∈ lw_all := lw_g (lw_at lw_m10 112 rfl) rfl
theorem q2338 : (Jvm.Cond.instanceMethod ({ cls := "RaidhallModel", name := "squad", desc := "(II)I" } : Jvm.MethodName)) ∈ lw_all := lw_g (lw_at lw_m10 114 rfl) rfl
theorem q2339 : (Jvm.Cond.selects "RaidhallModel" ({ cls := "RaidhallModel", name := "squad", desc := "(II)I" } : Jvm.MethodName) ({ cls := "RaidhallModel", name := "squad", desc := "(II)I" } : Jvm.MethodName)) ∈ lw_all := lw_g (lw_at lw_m10 115 rfl) rfl
theorem q2340 : (Jvm.Cond.code ({ cls := "RaidhallModel", name := "squad", desc := "(II)I" } : Jvm.MethodName) prog_14_method_83_code (3 : Nat) (Option.some Jvm.ClassFile.FieldType.int)) ∈ lw_all := lw_g (lw_at lw_m10 116 rfl) rfl
theorem q2364 : (Jvm.Cond.castable "RaidhallModel" "java/lang/Object") ∈ lw_tbl := lw_at lw_m10 140 rfl
theorem in_X4 : ∀ w ∈ wsX40, w ∈ lw_all := lw_in wsX40 [1941, 1943, 1945, 1947, 1949, 1951, 1953, 1955, 1957, 1959, 1961, 1963, 1965, 1967, 1969, 1971, 1973, 1975, 1977, 1979, 1981, 1983, 1985, 1987, 1989, 1991, 1993, 1995, 1997, 1999, 2001, 2003, 2005, 2007, 2009, 2011, 2013, 2015] (by decide +kernel) (by decide +kernel)

