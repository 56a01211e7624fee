/-! BallotFoundryModel -/
set_option maxRecDepth 100000
def RX2 : String := "BallotFoundryModel"
def TX2 : u_T := fun k => match k with
  | 0 => ("BallotFoundryModel", "today", "I", false)
  | 1 => ("BallotFoundryModel", "barred", "[Z", true)
  | 2 => ("BallotFoundryModel", "far", "[I", true)
  | 3 => ("BallotFoundryModel", "row", "[I", true)
  | 4 => ("BallotFoundryModel", "stationAt", "[I", true)
  | 5 => ("BallotFoundryModel", "room", "[I", true)
  | 6 => ("BallotFoundryModel", "stations", "I", false)
  | 7 => ("BallotFoundryModel", "ofAge", "[I", true)
  | 8 => ("BallotFoundryModel", "died", "[Z", true)
  | 9 => ("BallotFoundryModel", "people", "I", false)
  | 10 => ("BallotFoundryModel", "who", "[I", true)
  | 11 => ("BallotFoundryModel", "when", "[I", true)
  | 12 => ("BallotFoundryModel", "where", "[I", true)
  | 13 => ("BallotFoundryModel", "moves", "I", false)
  | 14 => ("BallotFoundryModel", "stage", "I", false)
  | 15 => ("BallotFoundryModel", "day", "I", false)
  | 16 => ("BallotFoundryModel", "seats", "I", false)
  | 17 => ("BallotFoundryModel", "odd", "Z", false)
  | 18 => ("BallotFoundryModel", "seed", "[I", true)
  | 19 => ("BallotFoundryModel", "inElection", "I", false)
  | 20 => ("BallotFoundryModel", "ownStation", "[I", true)
  | 21 => ("BallotFoundryModel", "crowd", "[I", true)
  | 22 => ("BallotFoundryModel", "voted", "[Z", true)
  | 23 => ("BallotFoundryModel", "envelopeOf", "[I", true)
  | 24 => ("BallotFoundryModel", "vote", "[I", true)
  | 25 => ("BallotFoundryModel", "state", "[I", true)
  | 26 => ("BallotFoundryModel", "envelopes", "I", false)
  | 27 => ("BallotFoundryModel", "box", "[I", true)
  | 28 => ("BallotFoundryModel", "ballots", "[I", true)
  | 29 => ("BallotFoundryModel", "number", "[I", true)
  | 30 => ("BallotFoundryModel", "counter", "[I", true)
  | 31 => ("BallotFoundryModel", "counts", "[I", true)
  | 32 => ("BallotFoundryModel", "settled", "[I", true)
  | 33 => ("BallotFoundryModel", "slip", "[I", true)
  | 34 => ("BallotFoundryModel", "sum", "[I", true)
  | 35 => ("BallotFoundryModel", "given", "[I", true)
  | 36 => ("BallotFoundryModel", "order", "[I", true)
  | 37 => ("BallotFoundryModel", "givenAll", "I", false)
  | 38 => ("BallotFoundryModel", "lots", "I", false)
  | 39 => ("BallotFoundryModel", "noteDay", "[I", true)
  | 40 => ("BallotFoundryModel", "noteSign", "[I", true)
  | 41 => ("BallotFoundryModel", "noteNumber", "[I", true)
  | 42 => ("BallotFoundryModel", "notes", "I", false)
  | _ => ("BallotFoundryModel", "thrown", "I", false)
def tyX2 : Nat → FieldType := fun k => match k with
  | 0 => .int
  | 1 => .array .boolean
  | 2 => .array .int
  | 3 => .array .int
  | 4 => .array .int
  | 5 => .array .int
  | 6 => .int
  | 7 => .array .int
  | 8 => .array .boolean
  | 9 => .int
  | 10 => .array .int
  | 11 => .array .int
  | 12 => .array .int
  | 13 => .int
  | 14 => .int
  | 15 => .int
  | 16 => .int
  | 17 => .boolean
  | 18 => .array .int
  | 19 => .int
  | 20 => .array .int
  | 21 => .array .int
  | 22 => .array .boolean
  | 23 => .array .int
  | 24 => .array .int
  | 25 => .array .int
  | 26 => .int
  | 27 => .array .int
  | 28 => .array .int
  | 29 => .array .int
  | 30 => .array .int
  | 31 => .array .int
  | 32 => .array .int
  | 33 => .array .int
  | 34 => .array .int
  | 35 => .array .int
  | 36 => .array .int
  | 37 => .int
  | 38 => .int
  | 39 => .array .int
  | 40 => .array .int
  | 41 => .array .int
  | 42 => .int
  | _ => .int
abbrev wsX20 : List Cond := u_ws RX2 TX2 44
set_option maxRecDepth 100000 in
theorem nmX2 : ∀ a, a < 44 → ∀ b, b < 44 → a ≠ b → (TX2 a).2.1 ≠ (TX2 b).2.1 := by decide +kernel
set_option maxRecDepth 100000 in
theorem tyX2_ok : ∀ k, k < 44 → parseFieldDescriptor (TX2 k).2.2.1 = some (tyX2 k) := by decide +kernel
abbrev cX2_init : ByteArray := prog_14_method_1_code
def yX2_init : MethodName := ⟨RX2, "<init>", "()V"⟩
def dkwX2_init_10 : List UInt8 := [181, 0, 99, 42, 17, 3, 232, 188, 10, 181, 0, 102, 42, 182, 0, 105, 177]
abbrev dktX2_init_10 : List UInt8 := dkwX2_init_10 ++ []
def dkwX2_init_9 : List UInt8 := [42, 16, 30, 188, 10, 181, 0, 93, 42, 17, 3, 232, 188, 10, 181, 0, 96, 42, 17, 3, 232, 188, 10]
abbrev dktX2_init_9 : List UInt8 := dkwX2_init_9 ++ dktX2_init_10
def dkwX2_init_8 : List UInt8 := [181, 0, 81, 42, 7, 188, 10, 181, 0, 84, 42, 8, 188, 10, 181, 0, 87, 42, 8, 188, 10, 181, 0, 90]
abbrev dktX2_init_8 : List UInt8 := dkwX2_init_8 ++ dktX2_init_9
def dkwX2_init_7 : List UInt8 := [181, 0, 72, 42, 16, 40, 188, 10, 181, 0, 75, 42, 8, 188, 10, 181, 0, 78, 42, 8, 188, 10]
abbrev dktX2_init_7 : List UInt8 := dkwX2_init_7 ++ dktX2_init_8
def dkwX2_init_6 : List UInt8 := [181, 0, 63, 42, 16, 100, 188, 10, 181, 0, 66, 42, 8, 188, 10, 181, 0, 69, 42, 17, 0, 240, 188, 10]
abbrev dktX2_init_6 : List UInt8 := dkwX2_init_6 ++ dktX2_init_7
def dkwX2_init_5 : List UInt8 := [181, 0, 54, 42, 16, 60, 188, 10, 181, 0, 57, 42, 16, 60, 188, 10, 181, 0, 60, 42, 16, 60, 188, 10]
abbrev dktX2_init_5 : List UInt8 := dkwX2_init_5 ++ dktX2_init_6
def dkwX2_init_4 : List UInt8 := [181, 0, 45, 42, 16, 20, 188, 10, 181, 0, 48, 42, 8, 188, 10, 181, 0, 51, 42, 16, 20, 188, 4]
abbrev dktX2_init_4 : List UInt8 := dkwX2_init_4 ++ dktX2_init_5
def dkwX2_init_3 : List UInt8 := [188, 10, 181, 0, 35, 42, 17, 2, 28, 188, 10, 181, 0, 38, 42, 3, 181, 0, 41, 42, 8, 188, 10]
abbrev dktX2_init_3 : List UInt8 := dkwX2_init_3 ++ dktX2_init_4
def dkwX2_init_2 : List UInt8 := [181, 0, 26, 42, 16, 20, 188, 4, 181, 0, 29, 42, 17, 2, 28, 188, 10, 181, 0, 32, 42, 17, 2, 28]
abbrev dktX2_init_2 : List UInt8 := dkwX2_init_2 ++ dktX2_init_3
def dkwX2_init_1 : List UInt8 := [188, 10, 181, 0, 17, 42, 8, 188, 10, 181, 0, 20, 42, 8, 188, 10, 181, 0, 23, 42, 16, 20, 188, 10]
abbrev dktX2_init_1 : List UInt8 := dkwX2_init_1 ++ dktX2_init_2
def dkwX2_init_0 : List UInt8 := [42, 183, 0, 1, 42, 16, 72, 188, 4, 181, 0, 7, 42, 16, 36, 188, 10, 181, 0, 13, 42, 16, 36]
abbrev dktX2_init_0 : List UInt8 := dkwX2_init_0 ++ dktX2_init_1
theorem dksX2_init_0 : cX2_init.data.toList.drop 0 = dktX2_init_0 := by decide +kernel
theorem dksX2_init_1 : cX2_init.data.toList.drop 23 = dktX2_init_1 := dk_seg dksX2_init_0 23 rfl rfl
theorem dksX2_init_2 : cX2_init.data.toList.drop 47 = dktX2_init_2 := dk_seg dksX2_init_1 24 rfl rfl
theorem dksX2_init_3 : cX2_init.data.toList.drop 71 = dktX2_init_3 := dk_seg dksX2_init_2 24 rfl rfl
theorem dksX2_init_4 : cX2_init.data.toList.drop 94 = dktX2_init_4 := dk_seg dksX2_init_3 23 rfl rfl
theorem dksX2_init_5 : cX2_init.data.toList.drop 117 = dktX2_init_5 := dk_seg dksX2_init_4 23 rfl rfl
theorem dksX2_init_6 : cX2_init.data.toList.drop 141 = dktX2_init_6 := dk_seg dksX2_init_5 24 rfl rfl
theorem dksX2_init_7 : cX2_init.data.toList.drop 165 = dktX2_init_7 := dk_seg dksX2_init_6 24 rfl rfl
theorem dksX2_init_8 : cX2_init.data.toList.drop 187 = dktX2_init_8 := dk_seg dksX2_init_7 22 rfl rfl
theorem dksX2_init_9 : cX2_init.data.toList.drop 211 = dktX2_init_9 := dk_seg dksX2_init_8 24 rfl rfl
theorem dksX2_init_10 : cX2_init.data.toList.drop 234 = dktX2_init_10 := dk_seg dksX2_init_9 23 rfl rfl
theorem dX2_init_0 : decode cX2_init 0 = .ok (.aload_n 0, 1) := dk_42 (dk_at dksX2_init_0 0 rfl rfl)
theorem dX2_init_1 : decode cX2_init 1 = .ok (.invokespecial 1, 3) := dk_183 0 1 (dk_at dksX2_init_0 1 rfl rfl)
theorem dX2_init_4 : decode cX2_init 4 = .ok (.aload_n 0, 1) := dk_42 (dk_at dksX2_init_0 4 rfl rfl)
theorem dX2_init_5 : decode cX2_init 5 = .ok (.bipush 72, 2) := dk_16 72 (dk_at dksX2_init_0 5 rfl rfl)
theorem dX2_init_7 : decode cX2_init 7 = .ok (.newarray .boolean, 2) := dk_188_4 (dk_at dksX2_init_0 7 rfl rfl)
theorem dX2_init_9 : decode cX2_init 9 = .ok (.putfield 7, 3) := dk_181 0 7 (dk_at dksX2_init_0 9 rfl rfl)
theorem dX2_init_12 : decode cX2_init 12 = .ok (.aload_n 0, 1) := dk_42 (dk_at dksX2_init_0 12 rfl rfl)
theorem dX2_init_13 : decode cX2_init 13 = .ok (.bipush 36, 2) := dk_16 36 (dk_at dksX2_init_0 13 rfl rfl)
theorem dX2_init_15 : decode cX2_init 15 = .ok (.newarray .int, 2) := dk_188_10 (dk_at dksX2_init_0 15 rfl rfl)
theorem dX2_init_17 : decode cX2_init 17 = .ok (.putfield 13, 3) := dk_181 0 13 (dk_at dksX2_init_0 17 rfl rfl)
theorem dX2_init_20 : decode cX2_init 20 = .ok (.aload_n 0, 1) := dk_42 (dk_at dksX2_init_0 20 rfl rfl)
theorem dX2_init_21 : decode cX2_init 21 = .ok (.bipush 36, 2) := dk_16 36 (dk_at dksX2_init_0 21 rfl rfl)
theorem dX2_init_23 : decode cX2_init 23 = .ok (.newarray .int, 2) := dk_188_10 (dk_at dksX2_init_1 0 rfl rfl)
theorem dX2_init_25 : decode cX2_init 25 = .ok (.putfield 17, 3) := dk_181 0 17 (dk_at dksX2_init_1 2 rfl rfl)
theorem dX2_init_28 : decode cX2_init 28 = .ok (.aload_n 0, 1) := dk_42 (dk_at dksX2_init_1 5 rfl rfl)
theorem dX2_init_29 : decode cX2_init 29 = .ok (.iconst 5, 1) := dk_8 (dk_at dksX2_init_1 6 rfl rfl)
theorem dX2_init_30 : decode cX2_init 30 = .ok (.newarray .int, 2) := dk_188_10 (dk_at dksX2_init_1 7 rfl rfl)
theorem dX2_init_32 : decode cX2_init 32 = .ok (.putfield 20, 3) := dk_181 0 20 (dk_at dksX2_init_1 9 rfl rfl)
theorem dX2_init_35 : decode cX2_init 35 = .ok (.aload_n 0, 1) := dk_42 (dk_at dksX2_init_1 12 rfl rfl)
theorem dX2_init_36 : decode cX2_init 36 = .ok (.iconst 5, 1) := dk_8 (dk_at dksX2_init_1 13 rfl rfl)
theorem dX2_init_37 : decode cX2_init 37 = .ok (.newarray .int, 2) := dk_188_10 (dk_at dksX2_init_1 14 rfl rfl)
theorem dX2_init_39 : decode cX2_init 39 = .ok (.putfield 23, 3) := dk_181 0 23 (dk_at dksX2_init_1 16 rfl rfl)
theorem dX2_init_42 : decode cX2_init 42 = .ok (.aload_n 0, 1) := dk_42 (dk_at dksX2_init_1 19 rfl rfl)
theorem dX2_init_43 : decode cX2_init 43 = .ok (.bipush 20, 2) := dk_16 20 (dk_at dksX2_init_1 20 rfl rfl)
theorem dX2_init_45 : decode cX2_init 45 = .ok (.newarray .int, 2) := dk_188_10 (dk_at dksX2_init_1 22 rfl rfl)
theorem dX2_init_47 : decode cX2_init 47 = .ok (.putfield 26, 3) := dk_181 0 26 (dk_at dksX2_init_2 0 rfl rfl)
theorem dX2_init_50 : decode cX2_init 50 = .ok (.aload_n 0, 1) := dk_42 (dk_at dksX2_init_2 3 rfl rfl)
theorem dX2_init_51 : decode cX2_init 51 = .ok (.bipush 20, 2) := dk_16 20 (dk_at dksX2_init_2 4 rfl rfl)
theorem dX2_init_53 : decode cX2_init 53 = .ok (.newarray .boolean, 2) := dk_188_4 (dk_at dksX2_init_2 6 rfl rfl)
theorem dX2_init_55 : decode cX2_init 55 = .ok (.putfield 29, 3) := dk_181 0 29 (dk_at dksX2_init_2 8 rfl rfl)
theorem dX2_init_58 : decode cX2_init 58 = .ok (.aload_n 0, 1) := dk_42 (dk_at dksX2_init_2 11 rfl rfl)
theorem dX2_init_59 : decode cX2_init 59 = .ok (.sipush 540, 3) := dk_17 2 28 (dk_at dksX2_init_2 12 rfl rfl)
theorem dX2_init_62 : decode cX2_init 62 = .ok (.newarray .int, 2) := dk_188_10 (dk_at dksX2_init_2 15 rfl rfl)
theorem dX2_init_64 : decode cX2_init 64 = .ok (.putfield 32, 3) := dk_181 0 32 (dk_at dksX2_init_2 17 rfl rfl)
theorem dX2_init_67 : decode cX2_init 67 = .ok (.aload_n 0, 1) := dk_42 (dk_at dksX2_init_2 20 rfl rfl)
theorem dX2_init_68 : decode cX2_init 68 = .ok (.sipush 540, 3) := dk_17 2 28 (dk_at dksX2_init_2 21 rfl rfl)
theorem dX2_init_71 : decode cX2_init 71 = .ok (.newarray .int, 2) := dk_188_10 (dk_at dksX2_init_3 0 rfl rfl)
theorem dX2_init_73 : decode cX2_init 73 = .ok (.putfield 35, 3) := dk_181 0 35 (dk_at dksX2_init_3 2 rfl rfl)
theorem dX2_init_76 : decode cX2_init 76 = .ok (.aload_n 0, 1) := dk_42 (dk_at dksX2_init_3 5 rfl rfl)
theorem dX2_init_77 : decode cX2_init 77 = .ok (.sipush 540, 3) := dk_17 2 28 (dk_at dksX2_init_3 6 rfl rfl)
theorem dX2_init_80 : decode cX2_init 80 = .ok (.newarray .int, 2) := dk_188_10 (dk_at dksX2_init_3 9 rfl rfl)
theorem dX2_init_82 : decode cX2_init 82 = .ok (.putfield 38, 3) := dk_181 0 38 (dk_at dksX2_init_3 11 rfl rfl)
theorem dX2_init_85 : decode cX2_init 85 = .ok (.aload_n 0, 1) := dk_42 (dk_at dksX2_init_3 14 rfl rfl)
theorem dX2_init_86 : decode cX2_init 86 = .ok (.iconst 0, 1) := dk_3 (dk_at dksX2_init_3 15 rfl rfl)
theorem dX2_init_87 : decode cX2_init 87 = .ok (.putfield 41, 3) := dk_181 0 41 (dk_at dksX2_init_3 16 rfl rfl)
theorem dX2_init_90 : decode cX2_init 90 = .ok (.aload_n 0, 1) := dk_42 (dk_at dksX2_init_3 19 rfl rfl)
theorem dX2_init_91 : decode cX2_init 91 = .ok (.iconst 5, 1) := dk_8 (dk_at dksX2_init_3 20 rfl rfl)
theorem dX2_init_92 : decode cX2_init 92 = .ok (.newarray .int, 2) := dk_188_10 (dk_at dksX2_init_3 21 rfl rfl)
theorem dX2_init_94 : decode cX2_init 94 = .ok (.putfield 45, 3) := dk_181 0 45 (dk_at dksX2_init_4 0 rfl rfl)
theorem dX2_init_97 : decode cX2_init 97 = .ok (.aload_n 0, 1) := dk_42 (dk_at dksX2_init_4 3 rfl rfl)
theorem dX2_init_98 : decode cX2_init 98 = .ok (.bipush 20, 2) := dk_16 20 (dk_at dksX2_init_4 4 rfl rfl)
theorem dX2_init_100 : decode cX2_init 100 = .ok (.newarray .int, 2) := dk_188_10 (dk_at dksX2_init_4 6 rfl rfl)
theorem dX2_init_102 : decode cX2_init 102 = .ok (.putfield 48, 3) := dk_181 0 48 (dk_at dksX2_init_4 8 rfl rfl)
theorem dX2_init_105 : decode cX2_init 105 = .ok (.aload_n 0, 1) := dk_42 (dk_at dksX2_init_4 11 rfl rfl)
theorem dX2_init_106 : decode cX2_init 106 = .ok (.iconst 5, 1) := dk_8 (dk_at dksX2_init_4 12 rfl rfl)
theorem dX2_init_107 : decode cX2_init 107 = .ok (.newarray .int, 2) := dk_188_10 (dk_at dksX2_init_4 13 rfl rfl)
theorem dX2_init_109 : decode cX2_init 109 = .ok (.putfield 51, 3) := dk_181 0 51 (dk_at dksX2_init_4 15 rfl rfl)
theorem dX2_init_112 : decode cX2_init 112 = .ok (.aload_n 0, 1) := dk_42 (dk_at dksX2_init_4 18 rfl rfl)
theorem dX2_init_113 : decode cX2_init 113 = .ok (.bipush 20, 2) := dk_16 20 (dk_at dksX2_init_4 19 rfl rfl)
theorem dX2_init_115 : decode cX2_init 115 = .ok (.newarray .boolean, 2) := dk_188_4 (dk_at dksX2_init_4 21 rfl rfl)
theorem dX2_init_117 : decode cX2_init 117 = .ok (.putfield 54, 3) := dk_181 0 54 (dk_at dksX2_init_5 0 rfl rfl)
theorem dX2_init_120 : decode cX2_init 120 = .ok (.aload_n 0, 1) := dk_42 (dk_at dksX2_init_5 3 rfl rfl)
theorem dX2_init_121 : decode cX2_init 121 = .ok (.bipush 60, 2) := dk_16 60 (dk_at dksX2_init_5 4 rfl rfl)
theorem dX2_init_123 : decode cX2_init 123 = .ok (.newarray .int, 2) := dk_188_10 (dk_at dksX2_init_5 6 rfl rfl)
theorem dX2_init_125 : decode cX2_init 125 = .ok (.putfield 57, 3) := dk_181 0 57 (dk_at dksX2_init_5 8 rfl rfl)
theorem dX2_init_128 : decode cX2_init 128 = .ok (.aload_n 0, 1) := dk_42 (dk_at dksX2_init_5 11 rfl rfl)
theorem dX2_init_129 : decode cX2_init 129 = .ok (.bipush 60, 2) := dk_16 60 (dk_at dksX2_init_5 12 rfl rfl)
theorem dX2_init_131 : decode cX2_init 131 = .ok (.newarray .int, 2) := dk_188_10 (dk_at dksX2_init_5 14 rfl rfl)
theorem dX2_init_133 : decode cX2_init 133 = .ok (.putfield 60, 3) := dk_181 0 60 (dk_at dksX2_init_5 16 rfl rfl)
theorem dX2_init_136 : decode cX2_init 136 = .ok (.aload_n 0, 1) := dk_42 (dk_at dksX2_init_5 19 rfl rfl)
theorem dX2_init_137 : decode cX2_init 137 = .ok (.bipush 60, 2) := dk_16 60 (dk_at dksX2_init_5 20 rfl rfl)
theorem dX2_init_139 : decode cX2_init 139 = .ok (.newarray .int, 2) := dk_188_10 (dk_at dksX2_init_5 22 rfl rfl)
theorem dX2_init_141 : decode cX2_init 141 = .ok (.putfield 63, 3) := dk_181 0 63 (dk_at dksX2_init_6 0 rfl rfl)
theorem dX2_init_144 : decode cX2_init 144 = .ok (.aload_n 0, 1) := dk_42 (dk_at dksX2_init_6 3 rfl rfl)
theorem dX2_init_145 : decode cX2_init 145 = .ok (.bipush 100, 2) := dk_16 100 (dk_at dksX2_init_6 4 rfl rfl)
theorem dX2_init_147 : decode cX2_init 147 = .ok (.newarray .int, 2) := dk_188_10 (dk_at dksX2_init_6 6 rfl rfl)
theorem dX2_init_149 : decode cX2_init 149 = .ok (.putfield 66, 3) := dk_181 0 66 (dk_at dksX2_init_6 8 rfl rfl)
theorem dX2_init_152 : decode cX2_init 152 = .ok (.aload_n 0, 1) := dk_42 (dk_at dksX2_init_6 11 rfl rfl)
theorem dX2_init_153 : decode cX2_init 153 = .ok (.iconst 5, 1) := dk_8 (dk_at dksX2_init_6 12 rfl rfl)
theorem dX2_init_154 : decode cX2_init 154 = .ok (.newarray .int, 2) := dk_188_10 (dk_at dksX2_init_6 13 rfl rfl)
theorem dX2_init_156 : decode cX2_init 156 = .ok (.putfield 69, 3) := dk_181 0 69 (dk_at dksX2_init_6 15 rfl rfl)
theorem dX2_init_159 : decode cX2_init 159 = .ok (.aload_n 0, 1) := dk_42 (dk_at dksX2_init_6 18 rfl rfl)
theorem dX2_init_160 : decode cX2_init 160 = .ok (.sipush 240, 3) := dk_17 0 240 (dk_at dksX2_init_6 19 rfl rfl)
theorem dX2_init_163 : decode cX2_init 163 = .ok (.newarray .int, 2) := dk_188_10 (dk_at dksX2_init_6 22 rfl rfl)
theorem dX2_init_165 : decode cX2_init 165 = .ok (.putfield 72, 3) := dk_181 0 72 (dk_at dksX2_init_7 0 rfl rfl)
theorem dX2_init_168 : decode cX2_init 168 = .ok (.aload_n 0, 1) := dk_42 (dk_at dksX2_init_7 3 rfl rfl)
theorem dX2_init_169 : decode cX2_init 169 = .ok (.bipush 40, 2) := dk_16 40 (dk_at dksX2_init_7 4 rfl rfl)
theorem dX2_init_171 : decode cX2_init 171 = .ok (.newarray .int, 2) := dk_188_10 (dk_at dksX2_init_7 6 rfl rfl)
theorem dX2_init_173 : decode cX2_init 173 = .ok (.putfield 75, 3) := dk_181 0 75 (dk_at dksX2_init_7 8 rfl rfl)
theorem dX2_init_176 : decode cX2_init 176 = .ok (.aload_n 0, 1) := dk_42 (dk_at dksX2_init_7 11 rfl rfl)
theorem dX2_init_177 : decode cX2_init 177 = .ok (.iconst 5, 1) := dk_8 (dk_at dksX2_init_7 12 rfl rfl)
theorem dX2_init_178 : decode cX2_init 178 = .ok (.newarray .int, 2) := dk_188_10 (dk_at dksX2_init_7 13 rfl rfl)
theorem dX2_init_180 : decode cX2_init 180 = .ok (.putfield 78, 3) := dk_181 0 78 (dk_at dksX2_init_7 15 rfl rfl)
theorem dX2_init_183 : decode cX2_init 183 = .ok (.aload_n 0, 1) := dk_42 (dk_at dksX2_init_7 18 rfl rfl)
theorem dX2_init_184 : decode cX2_init 184 = .ok (.iconst 5, 1) := dk_8 (dk_at dksX2_init_7 19 rfl rfl)
theorem dX2_init_185 : decode cX2_init 185 = .ok (.newarray .int, 2) := dk_188_10 (dk_at dksX2_init_7 20 rfl rfl)
theorem dX2_init_187 : decode cX2_init 187 = .ok (.putfield 81, 3) := dk_181 0 81 (dk_at dksX2_init_8 0 rfl rfl)
theorem dX2_init_190 : decode cX2_init 190 = .ok (.aload_n 0, 1) := dk_42 (dk_at dksX2_init_8 3 rfl rfl)
theorem dX2_init_191 : decode cX2_init 191 = .ok (.iconst 4, 1) := dk_7 (dk_at dksX2_init_8 4 rfl rfl)
theorem dX2_init_192 : decode cX2_init 192 = .ok (.newarray .int, 2) := dk_188_10 (dk_at dksX2_init_8 5 rfl rfl)
theorem dX2_init_194 : decode cX2_init 194 = .ok (.putfield 84, 3) := dk_181 0 84 (dk_at dksX2_init_8 7 rfl rfl)
theorem dX2_init_197 : decode cX2_init 197 = .ok (.aload_n 0, 1) := dk_42 (dk_at dksX2_init_8 10 rfl rfl)
theorem dX2_init_198 : decode cX2_init 198 = .ok (.iconst 5, 1) := dk_8 (dk_at dksX2_init_8 11 rfl rfl)
theorem dX2_init_199 : decode cX2_init 199 = .ok (.newarray .int, 2) := dk_188_10 (dk_at dksX2_init_8 12 rfl rfl)
theorem dX2_init_201 : decode cX2_init 201 = .ok (.putfield 87, 3) := dk_181 0 87 (dk_at dksX2_init_8 14 rfl rfl)
theorem dX2_init_204 : decode cX2_init 204 = .ok (.aload_n 0, 1) := dk_42 (dk_at dksX2_init_8 17 rfl rfl)
theorem dX2_init_205 : decode cX2_init 205 = .ok (.iconst 5, 1) := dk_8 (dk_at dksX2_init_8 18 rfl rfl)
theorem dX2_init_206 : decode cX2_init 206 = .ok (.newarray .int, 2) := dk_188_10 (dk_at dksX2_init_8 19 rfl rfl)
theorem dX2_init_208 : decode cX2_init 208 = .ok (.putfield 90, 3) := dk_181 0 90 (dk_at dksX2_init_8 21 rfl rfl)
theorem dX2_init_211 : decode cX2_init 211 = .ok (.aload_n 0, 1) := dk_42 (dk_at dksX2_init_9 0 rfl rfl)
theorem dX2_init_212 : decode cX2_init 212 = .ok (.bipush 30, 2) := dk_16 30 (dk_at dksX2_init_9 1 rfl rfl)
theorem dX2_init_214 : decode cX2_init 214 = .ok (.newarray .int, 2) := dk_188_10 (dk_at dksX2_init_9 3 rfl rfl)
theorem dX2_init_216 : decode cX2_init 216 = .ok (.putfield 93, 3) := dk_181 0 93 (dk_at dksX2_init_9 5 rfl rfl)
theorem dX2_init_219 : decode cX2_init 219 = .ok (.aload_n 0, 1) := dk_42 (dk_at dksX2_init_9 8 rfl rfl)
theorem dX2_init_220 : decode cX2_init 220 = .ok (.sipush 1000, 3) := dk_17 3 232 (dk_at dksX2_init_9 9 rfl rfl)
theorem dX2_init_223 : decode cX2_init 223 = .ok (.newarray .int, 2) := dk_188_10 (dk_at dksX2_init_9 12 rfl rfl)
theorem dX2_init_225 : decode cX2_init 225 = .ok (.putfield 96, 3) := dk_181 0 96 (dk_at dksX2_init_9 14 rfl rfl)
theorem dX2_init_228 : decode cX2_init 228 = .ok (.aload_n 0, 1) := dk_42 (dk_at dksX2_init_9 17 rfl rfl)
theorem dX2_init_229 : decode cX2_init 229 = .ok (.sipush 1000, 3) := dk_17 3 232 (dk_at dksX2_init_9 18 rfl rfl)
theorem dX2_init_232 : decode cX2_init 232 = .ok (.newarray .int, 2) := dk_188_10 (dk_at dksX2_init_9 21 rfl rfl)
theorem dX2_init_234 : decode cX2_init 234 = .ok (.putfield 99, 3) := dk_181 0 99 (dk_at dksX2_init_10 0 rfl rfl)
theorem dX2_init_237 : decode cX2_init 237 = .ok (.aload_n 0, 1) := dk_42 (dk_at dksX2_init_10 3 rfl rfl)
theorem dX2_init_238 : decode cX2_init 238 = .ok (.sipush 1000, 3) := dk_17 3 232 (dk_at dksX2_init_10 4 rfl rfl)
theorem dX2_init_241 : decode cX2_init 241 = .ok (.newarray .int, 2) := dk_188_10 (dk_at dksX2_init_10 7 rfl rfl)
theorem dX2_init_243 : decode cX2_init 243 = .ok (.putfield 102, 3) := dk_181 0 102 (dk_at dksX2_init_10 9 rfl rfl)
theorem dX2_init_246 : decode cX2_init 246 = .ok (.aload_n 0, 1) := dk_42 (dk_at dksX2_init_10 12 rfl rfl)
theorem dX2_init_247 : decode cX2_init 247 = .ok (.invokevirtual 105, 3) := dk_182 0 105 (dk_at dksX2_init_10 13 rfl rfl)
theorem dX2_init_250 : decode cX2_init 250 = .ok (.return_, 1) := dk_177 (dk_at dksX2_init_10 16 rfl rfl)
abbrev cX2_clears : ByteArray := prog_14_method_26_code
def yX2_clears : MethodName := ⟨RX2, "clears", "()V"⟩
def dkwX2_clears_3 : List UInt8 := [42, 180, 0, 78, 27, 3, 79, 42, 180, 0, 81, 27, 2, 79, 132, 1, 1, 167, 255, 213, 177]
abbrev dktX2_clears_3 : List UInt8 := dkwX2_clears_3 ++ []
def dkwX2_clears_2 : List UInt8 := [162, 0, 44, 42, 180, 0, 45, 27, 3, 79, 42, 180, 0, 51, 27, 3, 79, 42, 180, 0, 69, 27, 3, 79]
abbrev dktX2_clears_2 : List UInt8 := dkwX2_clears_2 ++ dktX2_clears_3
def dkwX2_clears_1 : List UInt8 := [180, 0, 48, 27, 2, 79, 42, 180, 0, 54, 27, 3, 84, 132, 1, 1, 167, 255, 233, 3, 60, 27, 8]
abbrev dktX2_clears_1 : List UInt8 := dkwX2_clears_1 ++ dktX2_clears_2
def dkwX2_clears_0 : List UInt8 := [42, 3, 181, 0, 178, 42, 3, 181, 0, 165, 42, 3, 181, 0, 162, 3, 60, 27, 16, 20, 162, 0, 23, 42]
abbrev dktX2_clears_0 : List UInt8 := dkwX2_clears_0 ++ dktX2_clears_1
theorem dksX2_clears_0 : cX2_clears.data.toList.drop 0 = dktX2_clears_0 := by decide +kernel
theorem dksX2_clears_1 : cX2_clears.data.toList.drop 24 = dktX2_clears_1 := dk_seg dksX2_clears_0 24 rfl rfl
theorem dksX2_clears_2 : cX2_clears.data.toList.drop 47 = dktX2_clears_2 := dk_seg dksX2_clears_1 23 rfl rfl
theorem dksX2_clears_3 : cX2_clears.data.toList.drop 71 = dktX2_clears_3 := dk_seg dksX2_clears_2 24 rfl rfl
theorem dX2_clears_0 : decode cX2_clears 0 = .ok (.aload_n 0, 1) := dk_42 (dk_at dksX2_clears_0 0 rfl rfl)
theorem dX2_clears_1 : decode cX2_clears 1 = .ok (.iconst 0, 1) := dk_3 (dk_at dksX2_clears_0 1 rfl rfl)
theorem dX2_clears_2 : decode cX2_clears 2 = .ok (.putfield 178, 3) := dk_181 0 178 (dk_at dksX2_clears_0 2 rfl rfl)
theorem dX2_clears_5 : decode cX2_clears 5 = .ok (.aload_n 0, 1) := dk_42 (dk_at dksX2_clears_0 5 rfl rfl)
theorem dX2_clears_6 : decode cX2_clears 6 = .ok (.iconst 0, 1) := dk_3 (dk_at dksX2_clears_0 6 rfl rfl)
theorem dX2_clears_7 : decode cX2_clears 7 = .ok (.putfield 165, 3) := dk_181 0 165 (dk_at dksX2_clears_0 7 rfl rfl)
theorem dX2_clears_10 : decode cX2_clears 10 = .ok (.aload_n 0, 1) := dk_42 (dk_at dksX2_clears_0 10 rfl rfl)
theorem dX2_clears_11 : decode cX2_clears 11 = .ok (.iconst 0, 1) := dk_3 (dk_at dksX2_clears_0 11 rfl rfl)
theorem dX2_clears_12 : decode cX2_clears 12 = .ok (.putfield 162, 3) := dk_181 0 162 (dk_at dksX2_clears_0 12 rfl rfl)
theorem dX2_clears_15 : decode cX2_clears 15 = .ok (.iconst 0, 1) := dk_3 (dk_at dksX2_clears_0 15 rfl rfl)
theorem dX2_clears_16 : decode cX2_clears 16 = .ok (.istore_n 1, 1) := dk_60 (dk_at dksX2_clears_0 16 rfl rfl)
theorem dX2_clears_17 : decode cX2_clears 17 = .ok (.iload_n 1, 1) := dk_27 (dk_at dksX2_clears_0 17 rfl rfl)
theorem dX2_clears_18 : decode cX2_clears 18 = .ok (.bipush 20, 2) := dk_16 20 (dk_at dksX2_clears_0 18 rfl rfl)
theorem dX2_clears_20 : decode cX2_clears 20 = .ok (.if_icmp .ge 23, 3) := dk_162 0 23 (dk_at dksX2_clears_0 20 rfl rfl)
theorem dX2_clears_23 : decode cX2_clears 23 = .ok (.aload_n 0, 1) := dk_42 (dk_at dksX2_clears_0 23 rfl rfl)
theorem dX2_clears_24 : decode cX2_clears 24 = .ok (.getfield 48, 3) := dk_180 0 48 (dk_at dksX2_clears_1 0 rfl rfl)
theorem dX2_clears_27 : decode cX2_clears 27 = .ok (.iload_n 1, 1) := dk_27 (dk_at dksX2_clears_1 3 rfl rfl)
theorem dX2_clears_28 : decode cX2_clears 28 = .ok (.iconst (-1), 1) := dk_2 (dk_at dksX2_clears_1 4 rfl rfl)
theorem dX2_clears_29 : decode cX2_clears 29 = .ok (.iastore, 1) := dk_79 (dk_at dksX2_clears_1 5 rfl rfl)
theorem dX2_clears_30 : decode cX2_clears 30 = .ok (.aload_n 0, 1) := dk_42 (dk_at dksX2_clears_1 6 rfl rfl)
theorem dX2_clears_31 : decode cX2_clears 31 = .ok (.getfield 54, 3) := dk_180 0 54 (dk_at dksX2_clears_1 7 rfl rfl)
theorem dX2_clears_34 : decode cX2_clears 34 = .ok (.iload_n 1, 1) := dk_27 (dk_at dksX2_clears_1 10 rfl rfl)
theorem dX2_clears_35 : decode cX2_clears 35 = .ok (.iconst 0, 1) := dk_3 (dk_at dksX2_clears_1 11 rfl rfl)
theorem dX2_clears_36 : decode cX2_clears 36 = .ok (.bastore, 1) := dk_84 (dk_at dksX2_clears_1 12 rfl rfl)
theorem dX2_clears_37 : decode cX2_clears 37 = .ok (.iinc 1 1, 3) := dk_132 1 1 (dk_at dksX2_clears_1 13 rfl rfl)
theorem dX2_clears_40 : decode cX2_clears 40 = .ok (.goto (-23), 3) := dk_167 255 233 (dk_at dksX2_clears_1 16 rfl rfl)
theorem dX2_clears_43 : decode cX2_clears 43 = .ok (.iconst 0, 1) := dk_3 (dk_at dksX2_clears_1 19 rfl rfl)
theorem dX2_clears_44 : decode cX2_clears 44 = .ok (.istore_n 1, 1) := dk_60 (dk_at dksX2_clears_1 20 rfl rfl)
theorem dX2_clears_45 : decode cX2_clears 45 = .ok (.iload_n 1, 1) := dk_27 (dk_at dksX2_clears_1 21 rfl rfl)
theorem dX2_clears_46 : decode cX2_clears 46 = .ok (.iconst 5, 1) := dk_8 (dk_at dksX2_clears_1 22 rfl rfl)
theorem dX2_clears_47 : decode cX2_clears 47 = .ok (.if_icmp .ge 44, 3) := dk_162 0 44 (dk_at dksX2_clears_2 0 rfl rfl)
theorem dX2_clears_50 : decode cX2_clears 50 = .ok (.aload_n 0, 1) := dk_42 (dk_at dksX2_clears_2 3 rfl rfl)
theorem dX2_clears_51 : decode cX2_clears 51 = .ok (.getfield 45, 3) := dk_180 0 45 (dk_at dksX2_clears_2 4 rfl rfl)
theorem dX2_clears_54 : decode cX2_clears 54 = .ok (.iload_n 1, 1) := dk_27 (dk_at dksX2_clears_2 7 rfl rfl)
theorem dX2_clears_55 : decode cX2_clears 55 = .ok (.iconst 0, 1) := dk_3 (dk_at dksX2_clears_2 8 rfl rfl)
theorem dX2_clears_56 : decode cX2_clears 56 = .ok (.iastore, 1) := dk_79 (dk_at dksX2_clears_2 9 rfl rfl)
theorem dX2_clears_57 : decode cX2_clears 57 = .ok (.aload_n 0, 1) := dk_42 (dk_at dksX2_clears_2 10 rfl rfl)
theorem dX2_clears_58 : decode cX2_clears 58 = .ok (.getfield 51, 3) := dk_180 0 51 (dk_at dksX2_clears_2 11 rfl rfl)
theorem dX2_clears_61 : decode cX2_clears 61 = .ok (.iload_n 1, 1) := dk_27 (dk_at dksX2_clears_2 14 rfl rfl)
theorem dX2_clears_62 : decode cX2_clears 62 = .ok (.iconst 0, 1) := dk_3 (dk_at dksX2_clears_2 15 rfl rfl)
theorem dX2_clears_63 : decode cX2_clears 63 = .ok (.iastore, 1) := dk_79 (dk_at dksX2_clears_2 16 rfl rfl)
theorem dX2_clears_64 : decode cX2_clears 64 = .ok (.aload_n 0, 1) := dk_42 (dk_at dksX2_clears_2 17 rfl rfl)
theorem dX2_clears_65 : decode cX2_clears 65 = .ok (.getfield 69, 3) := dk_180 0 69 (dk_at dksX2_clears_2 18 rfl rfl)
theorem dX2_clears_68 : decode cX2_clears 68 = .ok (.iload_n 1, 1) := dk_27 (dk_at dksX2_clears_2 21 rfl rfl)
theorem dX2_clears_69 : decode cX2_clears 69 = .ok (.iconst 0, 1) := dk_3 (dk_at dksX2_clears_2 22 rfl rfl)
theorem dX2_clears_70 : decode cX2_clears 70 = .ok (.iastore, 1) := dk_79 (dk_at dksX2_clears_2 23 rfl rfl)
theorem dX2_clears_71 : decode cX2_clears 71 = .ok (.aload_n 0, 1) := dk_42 (dk_at dksX2_clears_3 0 rfl rfl)
theorem dX2_clears_72 : decode cX2_clears 72 = .ok (.getfield 78, 3) := dk_180 0 78 (dk_at dksX2_clears_3 1 rfl rfl)
theorem dX2_clears_75 : decode cX2_clears 75 = .ok (.iload_n 1, 1) := dk_27 (dk_at dksX2_clears_3 4 rfl rfl)
theorem dX2_clears_76 : decode cX2_clears 76 = .ok (.iconst 0, 1) := dk_3 (dk_at dksX2_clears_3 5 rfl rfl)
theorem dX2_clears_77 : decode cX2_clears 77 = .ok (.iastore, 1) := dk_79 (dk_at dksX2_clears_3 6 rfl rfl)
theorem dX2_clears_78 : decode cX2_clears 78 = .ok (.aload_n 0, 1) := dk_42 (dk_at dksX2_clears_3 7 rfl rfl)
theorem dX2_clears_79 : decode cX2_clears 79 = .ok (.getfield 81, 3) := dk_180 0 81 (dk_at dksX2_clears_3 8 rfl rfl)
theorem dX2_clears_82 : decode cX2_clears 82 = .ok (.iload_n 1, 1) := dk_27 (dk_at dksX2_clears_3 11 rfl rfl)
theorem dX2_clears_83 : decode cX2_clears 83 = .ok (.iconst (-1), 1) := dk_2 (dk_at dksX2_clears_3 12 rfl rfl)
theorem dX2_clears_84 : decode cX2_clears 84 = .ok (.iastore, 1) := dk_79 (dk_at dksX2_clears_3 13 rfl rfl)
theorem dX2_clears_85 : decode cX2_clears 85 = .ok (.iinc 1 1, 3) := dk_132 1 1 (dk_at dksX2_clears_3 14 rfl rfl)
theorem dX2_clears_88 : decode cX2_clears 88 = .ok (.goto (-43), 3) := dk_167 255 213 (dk_at dksX2_clears_3 17 rfl rfl)
theorem dX2_clears_91 : decode cX2_clears 91 = .ok (.return_, 1) := dk_177 (dk_at dksX2_clears_3 20 rfl rfl)
abbrev cX2_thrown : ByteArray := prog_14_method_2_code
def yX2_thrown : MethodName := ⟨RX2, "thrown", "()I"⟩
theorem dX2_thrown_0 : decode cX2_thrown 0 = .ok (.aload_n 0, 1) := by decide +kernel
theorem dX2_thrown_1 : decode cX2_thrown 1 = .ok (.getfield 108, 3) := by decide +kernel
theorem dX2_thrown_4 : decode cX2_thrown 4 = .ok (.ireturn, 1) := by decide +kernel
abbrev cX2_bar : ByteArray := prog_14_method_12_code
def yX2_bar : MethodName := ⟨RX2, "bar", "(IIZ)Z"⟩
def dkwX2_bar_3 : List UInt8 := [180, 0, 7, 21, 5, 29, 84, 21, 6, 172]
abbrev dktX2_bar_3 : List UInt8 := dkwX2_bar_3 ++ []
def dkwX2_bar_2 : List UInt8 := [167, 0, 4, 3, 182, 0, 129, 154, 0, 5, 3, 172, 42, 180, 0, 7, 21, 5, 51, 54, 6, 42]
abbrev dktX2_bar_2 : List UInt8 := dkwX2_bar_2 ++ dktX2_bar_3
def dkwX2_bar_1 : List UInt8 := [153, 0, 11, 27, 28, 184, 0, 125, 167, 0, 4, 2, 54, 5, 42, 21, 4, 21, 5, 2, 159, 0, 7, 4]
abbrev dktX2_bar_1 : List UInt8 := dkwX2_bar_1 ++ dktX2_bar_2
def dkwX2_bar_0 : List UInt8 := [27, 184, 0, 121, 153, 0, 14, 28, 184, 0, 121, 153, 0, 7, 4, 167, 0, 4, 3, 54, 4, 21, 4]
abbrev dktX2_bar_0 : List UInt8 := dkwX2_bar_0 ++ dktX2_bar_1
theorem dksX2_bar_0 : cX2_bar.data.toList.drop 0 = dktX2_bar_0 := by decide +kernel
theorem dksX2_bar_1 : cX2_bar.data.toList.drop 23 = dktX2_bar_1 := dk_seg dksX2_bar_0 23 rfl rfl
theorem dksX2_bar_2 : cX2_bar.data.toList.drop 47 = dktX2_bar_2 := dk_seg dksX2_bar_1 24 rfl rfl
theorem dksX2_bar_3 : cX2_bar.data.toList.drop 69 = dktX2_bar_3 := dk_seg dksX2_bar_2 22 rfl rfl
theorem dX2_bar_0 : decode cX2_bar 0 = .ok (.iload_n 1, 1) := dk_27 (dk_at dksX2_bar_0 0 rfl rfl)
theorem dX2_bar_1 : decode cX2_bar 1 = .ok (.invokestatic 121, 3) := dk_184 0 121 (dk_at dksX2_bar_0 1 rfl rfl)
theorem dX2_bar_4 : decode cX2_bar 4 = .ok (.ifCond .eq 14, 3) := dk_153 0 14 (dk_at dksX2_bar_0 4 rfl rfl)
theorem dX2_bar_7 : decode cX2_bar 7 = .ok (.iload_n 2, 1) := dk_28 (dk_at dksX2_bar_0 7 rfl rfl)
theorem dX2_bar_8 : decode cX2_bar 8 = .ok (.invokestatic 121, 3) := dk_184 0 121 (dk_at dksX2_bar_0 8 rfl rfl)
theorem dX2_bar_11 : decode cX2_bar 11 = .ok (.ifCond .eq 7, 3) := dk_153 0 7 (dk_at dksX2_bar_0 11 rfl rfl)
theorem dX2_bar_14 : decode cX2_bar 14 = .ok (.iconst 1, 1) := dk_4 (dk_at dksX2_bar_0 14 rfl rfl)
theorem dX2_bar_15 : decode cX2_bar 15 = .ok (.goto 4, 3) := dk_167 0 4 (dk_at dksX2_bar_0 15 rfl rfl)
theorem dX2_bar_18 : decode cX2_bar 18 = .ok (.iconst 0, 1) := dk_3 (dk_at dksX2_bar_0 18 rfl rfl)
theorem dX2_bar_19 : decode cX2_bar 19 = .ok (.istore 4, 2) := dk_54 4 (dk_at dksX2_bar_0 19 rfl rfl)
theorem dX2_bar_21 : decode cX2_bar 21 = .ok (.iload 4, 2) := dk_21 4 (dk_at dksX2_bar_0 21 rfl rfl)
theorem dX2_bar_23 : decode cX2_bar 23 = .ok (.ifCond .eq 11, 3) := dk_153 0 11 (dk_at dksX2_bar_1 0 rfl rfl)
theorem dX2_bar_26 : decode cX2_bar 26 = .ok (.iload_n 1, 1) := dk_27 (dk_at dksX2_bar_1 3 rfl rfl)
theorem dX2_bar_27 : decode cX2_bar 27 = .ok (.iload_n 2, 1) := dk_28 (dk_at dksX2_bar_1 4 rfl rfl)
theorem dX2_bar_28 : decode cX2_bar 28 = .ok (.invokestatic 125, 3) := dk_184 0 125 (dk_at dksX2_bar_1 5 rfl rfl)
theorem dX2_bar_31 : decode cX2_bar 31 = .ok (.goto 4, 3) := dk_167 0 4 (dk_at dksX2_bar_1 8 rfl rfl)
theorem dX2_bar_34 : decode cX2_bar 34 = .ok (.iconst (-1), 1) := dk_2 (dk_at dksX2_bar_1 11 rfl rfl)
theorem dX2_bar_35 : decode cX2_bar 35 = .ok (.istore 5, 2) := dk_54 5 (dk_at dksX2_bar_1 12 rfl rfl)
theorem dX2_bar_37 : decode cX2_bar 37 = .ok (.aload_n 0, 1) := dk_42 (dk_at dksX2_bar_1 14 rfl rfl)
theorem dX2_bar_38 : decode cX2_bar 38 = .ok (.iload 4, 2) := dk_21 4 (dk_at dksX2_bar_1 15 rfl rfl)
theorem dX2_bar_40 : decode cX2_bar 40 = .ok (.iload 5, 2) := dk_21 5 (dk_at dksX2_bar_1 17 rfl rfl)
theorem dX2_bar_42 : decode cX2_bar 42 = .ok (.iconst (-1), 1) := dk_2 (dk_at dksX2_bar_1 19 rfl rfl)
theorem dX2_bar_43 : decode cX2_bar 43 = .ok (.if_icmp .eq 7, 3) := dk_159 0 7 (dk_at dksX2_bar_1 20 rfl rfl)
theorem dX2_bar_46 : decode cX2_bar 46 = .ok (.iconst 1, 1) := dk_4 (dk_at dksX2_bar_1 23 rfl rfl)
theorem dX2_bar_47 : decode cX2_bar 47 = .ok (.goto 4, 3) := dk_167 0 4 (dk_at dksX2_bar_2 0 rfl rfl)
theorem dX2_bar_50 : decode cX2_bar 50 = .ok (.iconst 0, 1) := dk_3 (dk_at dksX2_bar_2 3 rfl rfl)
theorem dX2_bar_51 : decode cX2_bar 51 = .ok (.invokevirtual 129, 3) := dk_182 0 129 (dk_at dksX2_bar_2 4 rfl rfl)
theorem dX2_bar_54 : decode cX2_bar 54 = .ok (.ifCond .ne 5, 3) := dk_154 0 5 (dk_at dksX2_bar_2 7 rfl rfl)
theorem dX2_bar_57 : decode cX2_bar 57 = .ok (.iconst 0, 1) := dk_3 (dk_at dksX2_bar_2 10 rfl rfl)
theorem dX2_bar_58 : decode cX2_bar 58 = .ok (.ireturn, 1) := dk_172 (dk_at dksX2_bar_2 11 rfl rfl)
theorem dX2_bar_59 : decode cX2_bar 59 = .ok (.aload_n 0, 1) := dk_42 (dk_at dksX2_bar_2 12 rfl rfl)
theorem dX2_bar_60 : decode cX2_bar 60 = .ok (.getfield 7, 3) := dk_180 0 7 (dk_at dksX2_bar_2 13 rfl rfl)
theorem dX2_bar_63 : decode cX2_bar 63 = .ok (.iload 5, 2) := dk_21 5 (dk_at dksX2_bar_2 16 rfl rfl)
theorem dX2_bar_65 : decode cX2_bar 65 = .ok (.baload, 1) := dk_51 (dk_at dksX2_bar_2 18 rfl rfl)
theorem dX2_bar_66 : decode cX2_bar 66 = .ok (.istore 6, 2) := dk_54 6 (dk_at dksX2_bar_2 19 rfl rfl)
theorem dX2_bar_68 : decode cX2_bar 68 = .ok (.aload_n 0, 1) := dk_42 (dk_at dksX2_bar_2 21 rfl rfl)
theorem dX2_bar_69 : decode cX2_bar 69 = .ok (.getfield 7, 3) := dk_180 0 7 (dk_at dksX2_bar_3 0 rfl rfl)
theorem dX2_bar_72 : decode cX2_bar 72 = .ok (.iload 5, 2) := dk_21 5 (dk_at dksX2_bar_3 3 rfl rfl)
theorem dX2_bar_74 : decode cX2_bar 74 = .ok (.iload_n 3, 1) := dk_29 (dk_at dksX2_bar_3 5 rfl rfl)
theorem dX2_bar_75 : decode cX2_bar 75 = .ok (.bastore, 1) := dk_84 (dk_at dksX2_bar_3 6 rfl rfl)
theorem dX2_bar_76 : decode cX2_bar 76 = .ok (.iload 6, 2) := dk_21 6 (dk_at dksX2_bar_3 7 rfl rfl)
theorem dX2_bar_78 : decode cX2_bar 78 = .ok (.ireturn, 1) := dk_172 (dk_at dksX2_bar_3 9 rfl rfl)
abbrev cX2_isCrossing : ByteArray := prog_14_method_8_code
def yX2_isCrossing : MethodName := ⟨RX2, "isCrossing", "(I)Z"⟩
def dkwX2_isCrossing_0 : List UInt8 := [26, 3, 16, 35, 184, 0, 111, 172]
abbrev dktX2_isCrossing_0 : List UInt8 := dkwX2_isCrossing_0 ++ []
theorem dksX2_isCrossing_0 : cX2_isCrossing.data.toList.drop 0 = dktX2_isCrossing_0 := by decide +kernel
theorem dX2_isCrossing_0 : decode cX2_isCrossing 0 = .ok (.iload_n 0, 1) := dk_26 (dk_at dksX2_isCrossing_0 0 rfl rfl)
theorem dX2_isCrossing_1 : decode cX2_isCrossing 1 = .ok (.iconst 0, 1) := dk_3 (dk_at dksX2_isCrossing_0 1 rfl rfl)
theorem dX2_isCrossing_2 : decode cX2_isCrossing 2 = .ok (.bipush 35, 2) := dk_16 35 (dk_at dksX2_isCrossing_0 2 rfl rfl)
theorem dX2_isCrossing_4 : decode cX2_isCrossing 4 = .ok (.invokestatic 111, 3) := dk_184 0 111 (dk_at dksX2_isCrossing_0 4 rfl rfl)
theorem dX2_isCrossing_7 : decode cX2_isCrossing 7 = .ok (.ireturn, 1) := dk_172 (dk_at dksX2_isCrossing_0 7 rfl rfl)
abbrev cX2_in : ByteArray := prog_14_method_3_code
def yX2_in : MethodName := ⟨RX2, "in", "(III)Z"⟩
def dkwX2_in_0 : List UInt8 := [26, 27, 161, 0, 12, 26, 28, 163, 0, 7, 4, 167, 0, 4, 3, 172]
abbrev dktX2_in_0 : List UInt8 := dkwX2_in_0 ++ []
theorem dksX2_in_0 : cX2_in.data.toList.drop 0 = dktX2_in_0 := by decide +kernel
theorem dX2_in_0 : decode cX2_in 0 = .ok (.iload_n 0, 1) := dk_26 (dk_at dksX2_in_0 0 rfl rfl)
theorem dX2_in_1 : decode cX2_in 1 = .ok (.iload_n 1, 1) := dk_27 (dk_at dksX2_in_0 1 rfl rfl)
theorem dX2_in_2 : decode cX2_in 2 = .ok (.if_icmp .lt 12, 3) := dk_161 0 12 (dk_at dksX2_in_0 2 rfl rfl)
theorem dX2_in_5 : decode cX2_in 5 = .ok (.iload_n 0, 1) := dk_26 (dk_at dksX2_in_0 5 rfl rfl)
theorem dX2_in_6 : decode cX2_in 6 = .ok (.iload_n 2, 1) := dk_28 (dk_at dksX2_in_0 6 rfl rfl)
theorem dX2_in_7 : decode cX2_in 7 = .ok (.if_icmp .gt 7, 3) := dk_163 0 7 (dk_at dksX2_in_0 7 rfl rfl)
theorem dX2_in_10 : decode cX2_in 10 = .ok (.iconst 1, 1) := dk_4 (dk_at dksX2_in_0 10 rfl rfl)
theorem dX2_in_11 : decode cX2_in 11 = .ok (.goto 4, 3) := dk_167 0 4 (dk_at dksX2_in_0 11 rfl rfl)
theorem dX2_in_14 : decode cX2_in 14 = .ok (.iconst 0, 1) := dk_3 (dk_at dksX2_in_0 14 rfl rfl)
theorem dX2_in_15 : decode cX2_in 15 = .ok (.ireturn, 1) := dk_172 (dk_at dksX2_in_0 15 rfl rfl)
abbrev cX2_street : ByteArray := prog_14_method_11_code
def yX2_street : MethodName := ⟨RX2, "street", "(II)I"⟩
def dkwX2_street_2 : List UInt8 := [16, 36, 28, 96, 167, 0, 4, 2, 172]
abbrev dktX2_street_2 : List UInt8 := dkwX2_street_2 ++ []
def dkwX2_street_1 : List UInt8 := [100, 4, 160, 0, 14, 29, 16, 6, 112, 158, 0, 7, 28, 167, 0, 19, 29, 28, 100, 16, 6, 160, 0, 10]
abbrev dktX2_street_1 : List UInt8 := dkwX2_street_1 ++ dktX2_street_2
def dkwX2_street_0 : List UInt8 := [26, 27, 162, 0, 7, 26, 167, 0, 4, 27, 61, 26, 27, 162, 0, 7, 27, 167, 0, 4, 26, 62, 29, 28]
abbrev dktX2_street_0 : List UInt8 := dkwX2_street_0 ++ dktX2_street_1
theorem dksX2_street_0 : cX2_street.data.toList.drop 0 = dktX2_street_0 := by decide +kernel
theorem dksX2_street_1 : cX2_street.data.toList.drop 24 = dktX2_street_1 := dk_seg dksX2_street_0 24 rfl rfl
theorem dksX2_street_2 : cX2_street.data.toList.drop 48 = dktX2_street_2 := dk_seg dksX2_street_1 24 rfl rfl
theorem dX2_street_0 : decode cX2_street 0 = .ok (.iload_n 0, 1) := dk_26 (dk_at dksX2_street_0 0 rfl rfl)
theorem dX2_street_1 : decode cX2_street 1 = .ok (.iload_n 1, 1) := dk_27 (dk_at dksX2_street_0 1 rfl rfl)
theorem dX2_street_2 : decode cX2_street 2 = .ok (.if_icmp .ge 7, 3) := dk_162 0 7 (dk_at dksX2_street_0 2 rfl rfl)
theorem dX2_street_5 : decode cX2_street 5 = .ok (.iload_n 0, 1) := dk_26 (dk_at dksX2_street_0 5 rfl rfl)
theorem dX2_street_6 : decode cX2_street 6 = .ok (.goto 4, 3) := dk_167 0 4 (dk_at dksX2_street_0 6 rfl rfl)
theorem dX2_street_9 : decode cX2_street 9 = .ok (.iload_n 1, 1) := dk_27 (dk_at dksX2_street_0 9 rfl rfl)
theorem dX2_street_10 : decode cX2_street 10 = .ok (.istore_n 2, 1) := dk_61 (dk_at dksX2_street_0 10 rfl rfl)
theorem dX2_street_11 : decode cX2_street 11 = .ok (.iload_n 0, 1) := dk_26 (dk_at dksX2_street_0 11 rfl rfl)
theorem dX2_street_12 : decode cX2_street 12 = .ok (.iload_n 1, 1) := dk_27 (dk_at dksX2_street_0 12 rfl rfl)
theorem dX2_street_13 : decode cX2_street 13 = .ok (.if_icmp .ge 7, 3) := dk_162 0 7 (dk_at dksX2_street_0 13 rfl rfl)
theorem dX2_street_16 : decode cX2_street 16 = .ok (.iload_n 1, 1) := dk_27 (dk_at dksX2_street_0 16 rfl rfl)
theorem dX2_street_17 : decode cX2_street 17 = .ok (.goto 4, 3) := dk_167 0 4 (dk_at dksX2_street_0 17 rfl rfl)
theorem dX2_street_20 : decode cX2_street 20 = .ok (.iload_n 0, 1) := dk_26 (dk_at dksX2_street_0 20 rfl rfl)
theorem dX2_street_21 : decode cX2_street 21 = .ok (.istore_n 3, 1) := dk_62 (dk_at dksX2_street_0 21 rfl rfl)
theorem dX2_street_22 : decode cX2_street 22 = .ok (.iload_n 3, 1) := dk_29 (dk_at dksX2_street_0 22 rfl rfl)
theorem dX2_street_23 : decode cX2_street 23 = .ok (.iload_n 2, 1) := dk_28 (dk_at dksX2_street_0 23 rfl rfl)
theorem dX2_street_24 : decode cX2_street 24 = .ok (.isub, 1) := dk_100 (dk_at dksX2_street_1 0 rfl rfl)
theorem dX2_street_25 : decode cX2_street 25 = .ok (.iconst 1, 1) := dk_4 (dk_at dksX2_street_1 1 rfl rfl)
theorem dX2_street_26 : decode cX2_street 26 = .ok (.if_icmp .ne 14, 3) := dk_160 0 14 (dk_at dksX2_street_1 2 rfl rfl)
theorem dX2_street_29 : decode cX2_street 29 = .ok (.iload_n 3, 1) := dk_29 (dk_at dksX2_street_1 5 rfl rfl)
theorem dX2_street_30 : decode cX2_street 30 = .ok (.bipush 6, 2) := dk_16 6 (dk_at dksX2_street_1 6 rfl rfl)
theorem dX2_street_32 : decode cX2_street 32 = .ok (.irem, 1) := dk_112 (dk_at dksX2_street_1 8 rfl rfl)
theorem dX2_street_33 : decode cX2_street 33 = .ok (.ifCond .le 7, 3) := dk_158 0 7 (dk_at dksX2_street_1 9 rfl rfl)
theorem dX2_street_36 : decode cX2_street 36 = .ok (.iload_n 2, 1) := dk_28 (dk_at dksX2_street_1 12 rfl rfl)
theorem dX2_street_37 : decode cX2_street 37 = .ok (.goto 19, 3) := dk_167 0 19 (dk_at dksX2_street_1 13 rfl rfl)
theorem dX2_street_40 : decode cX2_street 40 = .ok (.iload_n 3, 1) := dk_29 (dk_at dksX2_street_1 16 rfl rfl)
theorem dX2_street_41 : decode cX2_street 41 = .ok (.iload_n 2, 1) := dk_28 (dk_at dksX2_street_1 17 rfl rfl)
theorem dX2_street_42 : decode cX2_street 42 = .ok (.isub, 1) := dk_100 (dk_at dksX2_street_1 18 rfl rfl)
theorem dX2_street_43 : decode cX2_street 43 = .ok (.bipush 6, 2) := dk_16 6 (dk_at dksX2_street_1 19 rfl rfl)
theorem dX2_street_45 : decode cX2_street 45 = .ok (.if_icmp .ne 10, 3) := dk_160 0 10 (dk_at dksX2_street_1 21 rfl rfl)
theorem dX2_street_48 : decode cX2_street 48 = .ok (.bipush 36, 2) := dk_16 36 (dk_at dksX2_street_2 0 rfl rfl)
theorem dX2_street_50 : decode cX2_street 50 = .ok (.iload_n 2, 1) := dk_28 (dk_at dksX2_street_2 2 rfl rfl)
theorem dX2_street_51 : decode cX2_street 51 = .ok (.iadd, 1) := dk_96 (dk_at dksX2_street_2 3 rfl rfl)
theorem dX2_street_52 : decode cX2_street 52 = .ok (.goto 4, 3) := dk_167 0 4 (dk_at dksX2_street_2 4 rfl rfl)
theorem dX2_street_55 : decode cX2_street 55 = .ok (.iconst (-1), 1) := dk_2 (dk_at dksX2_street_2 7 rfl rfl)
theorem dX2_street_56 : decode cX2_street 56 = .ok (.ireturn, 1) := dk_172 (dk_at dksX2_street_2 8 rfl rfl)
abbrev cX2_asked : ByteArray := prog_14_method_5_code
def yX2_asked : MethodName := ⟨RX2, "asked", "(ZZ)Z"⟩
def dkwX2_asked_1 : List UInt8 := [180, 0, 108, 154, 0, 7, 4, 167, 0, 4, 3, 172]
abbrev dktX2_asked_1 : List UInt8 := dkwX2_asked_1 ++ []
def dkwX2_asked_0 : List UInt8 := [42, 27, 154, 0, 7, 4, 167, 0, 12, 28, 153, 0, 7, 3, 167, 0, 4, 5, 181, 0, 108, 42]
abbrev dktX2_asked_0 : List UInt8 := dkwX2_asked_0 ++ dktX2_asked_1
theorem dksX2_asked_0 : cX2_asked.data.toList.drop 0 = dktX2_asked_0 := by decide +kernel
theorem dksX2_asked_1 : cX2_asked.data.toList.drop 22 = dktX2_asked_1 := dk_seg dksX2_asked_0 22 rfl rfl
theorem dX2_asked_0 : decode cX2_asked 0 = .ok (.aload_n 0, 1) := dk_42 (dk_at dksX2_asked_0 0 rfl rfl)
theorem dX2_asked_1 : decode cX2_asked 1 = .ok (.iload_n 1, 1) := dk_27 (dk_at dksX2_asked_0 1 rfl rfl)
theorem dX2_asked_2 : decode cX2_asked 2 = .ok (.ifCond .ne 7, 3) := dk_154 0 7 (dk_at dksX2_asked_0 2 rfl rfl)
theorem dX2_asked_5 : decode cX2_asked 5 = .ok (.iconst 1, 1) := dk_4 (dk_at dksX2_asked_0 5 rfl rfl)
theorem dX2_asked_6 : decode cX2_asked 6 = .ok (.goto 12, 3) := dk_167 0 12 (dk_at dksX2_asked_0 6 rfl rfl)
theorem dX2_asked_9 : decode cX2_asked 9 = .ok (.iload_n 2, 1) := dk_28 (dk_at dksX2_asked_0 9 rfl rfl)
theorem dX2_asked_10 : decode cX2_asked 10 = .ok (.ifCond .eq 7, 3) := dk_153 0 7 (dk_at dksX2_asked_0 10 rfl rfl)
theorem dX2_asked_13 : decode cX2_asked 13 = .ok (.iconst 0, 1) := dk_3 (dk_at dksX2_asked_0 13 rfl rfl)
theorem dX2_asked_14 : decode cX2_asked 14 = .ok (.goto 4, 3) := dk_167 0 4 (dk_at dksX2_asked_0 14 rfl rfl)
theorem dX2_asked_17 : decode cX2_asked 17 = .ok (.iconst 2, 1) := dk_5 (dk_at dksX2_asked_0 17 rfl rfl)
theorem dX2_asked_18 : decode cX2_asked 18 = .ok (.putfield 108, 3) := dk_181 0 108 (dk_at dksX2_asked_0 18 rfl rfl)
theorem dX2_asked_21 : decode cX2_asked 21 = .ok (.aload_n 0, 1) := dk_42 (dk_at dksX2_asked_0 21 rfl rfl)
theorem dX2_asked_22 : decode cX2_asked 22 = .ok (.getfield 108, 3) := dk_180 0 108 (dk_at dksX2_asked_1 0 rfl rfl)
theorem dX2_asked_25 : decode cX2_asked 25 = .ok (.ifCond .ne 7, 3) := dk_154 0 7 (dk_at dksX2_asked_1 3 rfl rfl)
theorem dX2_asked_28 : decode cX2_asked 28 = .ok (.iconst 1, 1) := dk_4 (dk_at dksX2_asked_1 6 rfl rfl)
theorem dX2_asked_29 : decode cX2_asked 29 = .ok (.goto 4, 3) := dk_167 0 4 (dk_at dksX2_asked_1 7 rfl rfl)
theorem dX2_asked_32 : decode cX2_asked 32 = .ok (.iconst 0, 1) := dk_3 (dk_at dksX2_asked_1 10 rfl rfl)
theorem dX2_asked_33 : decode cX2_asked 33 = .ok (.ireturn, 1) := dk_172 (dk_at dksX2_asked_1 11 rfl rfl)
abbrev cX2_way : ByteArray := prog_14_method_14_code
def yX2_way : MethodName := ⟨RX2, "way", "(II)I"⟩
def dkwX2_way_1 : List UInt8 := [154, 0, 5, 3, 172, 42, 27, 182, 0, 136, 42, 180, 0, 13, 28, 46, 172]
abbrev dktX2_way_1 : List UInt8 := dkwX2_way_1 ++ []
def dkwX2_way_0 : List UInt8 := [42, 27, 184, 0, 121, 153, 0, 14, 28, 184, 0, 121, 153, 0, 7, 4, 167, 0, 4, 3, 182, 0, 133]
abbrev dktX2_way_0 : List UInt8 := dkwX2_way_0 ++ dktX2_way_1
theorem dksX2_way_0 : cX2_way.data.toList.drop 0 = dktX2_way_0 := by decide +kernel
theorem dksX2_way_1 : cX2_way.data.toList.drop 23 = dktX2_way_1 := dk_seg dksX2_way_0 23 rfl rfl
theorem dX2_way_0 : decode cX2_way 0 = .ok (.aload_n 0, 1) := dk_42 (dk_at dksX2_way_0 0 rfl rfl)
theorem dX2_way_1 : decode cX2_way 1 = .ok (.iload_n 1, 1) := dk_27 (dk_at dksX2_way_0 1 rfl rfl)
theorem dX2_way_2 : decode cX2_way 2 = .ok (.invokestatic 121, 3) := dk_184 0 121 (dk_at dksX2_way_0 2 rfl rfl)
theorem dX2_way_5 : decode cX2_way 5 = .ok (.ifCond .eq 14, 3) := dk_153 0 14 (dk_at dksX2_way_0 5 rfl rfl)
theorem dX2_way_8 : decode cX2_way 8 = .ok (.iload_n 2, 1) := dk_28 (dk_at dksX2_way_0 8 rfl rfl)
theorem dX2_way_9 : decode cX2_way 9 = .ok (.invokestatic 121, 3) := dk_184 0 121 (dk_at dksX2_way_0 9 rfl rfl)
theorem dX2_way_12 : decode cX2_way 12 = .ok (.ifCond .eq 7, 3) := dk_153 0 7 (dk_at dksX2_way_0 12 rfl rfl)
theorem dX2_way_15 : decode cX2_way 15 = .ok (.iconst 1, 1) := dk_4 (dk_at dksX2_way_0 15 rfl rfl)
theorem dX2_way_16 : decode cX2_way 16 = .ok (.goto 4, 3) := dk_167 0 4 (dk_at dksX2_way_0 16 rfl rfl)
theorem dX2_way_19 : decode cX2_way 19 = .ok (.iconst 0, 1) := dk_3 (dk_at dksX2_way_0 19 rfl rfl)
theorem dX2_way_20 : decode cX2_way 20 = .ok (.invokevirtual 133, 3) := dk_182 0 133 (dk_at dksX2_way_0 20 rfl rfl)
theorem dX2_way_23 : decode cX2_way 23 = .ok (.ifCond .ne 5, 3) := dk_154 0 5 (dk_at dksX2_way_1 0 rfl rfl)
theorem dX2_way_26 : decode cX2_way 26 = .ok (.iconst 0, 1) := dk_3 (dk_at dksX2_way_1 3 rfl rfl)
theorem dX2_way_27 : decode cX2_way 27 = .ok (.ireturn, 1) := dk_172 (dk_at dksX2_way_1 4 rfl rfl)
theorem dX2_way_28 : decode cX2_way 28 = .ok (.aload_n 0, 1) := dk_42 (dk_at dksX2_way_1 5 rfl rfl)
theorem dX2_way_29 : decode cX2_way 29 = .ok (.iload_n 1, 1) := dk_27 (dk_at dksX2_way_1 6 rfl rfl)
theorem dX2_way_30 : decode cX2_way 30 = .ok (.invokevirtual 136, 3) := dk_182 0 136 (dk_at dksX2_way_1 7 rfl rfl)
theorem dX2_way_33 : decode cX2_way 33 = .ok (.aload_n 0, 1) := dk_42 (dk_at dksX2_way_1 10 rfl rfl)
theorem dX2_way_34 : decode cX2_way 34 = .ok (.getfield 13, 3) := dk_180 0 13 (dk_at dksX2_way_1 11 rfl rfl)
theorem dX2_way_37 : decode cX2_way 37 = .ok (.iload_n 2, 1) := dk_28 (dk_at dksX2_way_1 14 rfl rfl)
theorem dX2_way_38 : decode cX2_way 38 = .ok (.iaload, 1) := dk_46 (dk_at dksX2_way_1 15 rfl rfl)
theorem dX2_way_39 : decode cX2_way 39 = .ok (.ireturn, 1) := dk_172 (dk_at dksX2_way_1 16 rfl rfl)
abbrev cX2_asked_2 : ByteArray := prog_14_method_4_code
def yX2_asked_2 : MethodName := ⟨RX2, "asked", "(Z)Z"⟩
def dkwX2_asked_2_0 : List UInt8 := [42, 27, 153, 0, 7, 3, 167, 0, 4, 4, 181, 0, 108, 27, 172]
abbrev dktX2_asked_2_0 : List UInt8 := dkwX2_asked_2_0 ++ []
theorem dksX2_asked_2_0 : cX2_asked_2.data.toList.drop 0 = dktX2_asked_2_0 := by decide +kernel
theorem dX2_asked_2_0 : decode cX2_asked_2 0 = .ok (.aload_n 0, 1) := dk_42 (dk_at dksX2_asked_2_0 0 rfl rfl)
theorem dX2_asked_2_1 : decode cX2_asked_2 1 = .ok (.iload_n 1, 1) := dk_27 (dk_at dksX2_asked_2_0 1 rfl rfl)
theorem dX2_asked_2_2 : decode cX2_asked_2 2 = .ok (.ifCond .eq 7, 3) := dk_153 0 7 (dk_at dksX2_asked_2_0 2 rfl rfl)
theorem dX2_asked_2_5 : decode cX2_asked_2 5 = .ok (.iconst 0, 1) := dk_3 (dk_at dksX2_asked_2_0 5 rfl rfl)
theorem dX2_asked_2_6 : decode cX2_asked_2 6 = .ok (.goto 4, 3) := dk_167 0 4 (dk_at dksX2_asked_2_0 6 rfl rfl)
theorem dX2_asked_2_9 : decode cX2_asked_2 9 = .ok (.iconst 1, 1) := dk_4 (dk_at dksX2_asked_2_0 9 rfl rfl)
theorem dX2_asked_2_10 : decode cX2_asked_2 10 = .ok (.putfield 108, 3) := dk_181 0 108 (dk_at dksX2_asked_2_0 10 rfl rfl)
theorem dX2_asked_2_13 : decode cX2_asked_2 13 = .ok (.iload_n 1, 1) := dk_27 (dk_at dksX2_asked_2_0 13 rfl rfl)
theorem dX2_asked_2_14 : decode cX2_asked_2 14 = .ok (.ireturn, 1) := dk_172 (dk_at dksX2_asked_2_0 14 rfl rfl)
abbrev cX2_finds : ByteArray := prog_14_method_13_code
def yX2_finds : MethodName := ⟨RX2, "finds", "(I)V"⟩
def dkwX2_finds_5 : List UInt8 := [180, 0, 17, 28, 21, 4, 79, 132, 2, 1, 132, 4, 1, 167, 255, 175, 132, 3, 1, 167, 255, 161, 177]
abbrev dktX2_finds_5 : List UInt8 := dkwX2_finds_5 ++ []
def dkwX2_finds_4 : List UInt8 := [160, 0, 34, 42, 180, 0, 13, 21, 4, 42, 180, 0, 13, 42, 180, 0, 17, 29, 46, 46, 4, 96, 79, 42]
abbrev dktX2_finds_4 : List UInt8 := dkwX2_finds_4 ++ dktX2_finds_5
def dkwX2_finds_3 : List UInt8 := [2, 159, 0, 55, 42, 180, 0, 7, 21, 5, 51, 154, 0, 45, 42, 180, 0, 13, 21, 4, 46, 2]
abbrev dktX2_finds_3 : List UInt8 := dkwX2_finds_3 ++ dktX2_finds_4
def dkwX2_finds_2 : List UInt8 := [54, 4, 21, 4, 16, 36, 162, 0, 80, 42, 180, 0, 17, 29, 46, 21, 4, 184, 0, 125, 54, 5, 21, 5]
abbrev dktX2_finds_2 : List UInt8 := dkwX2_finds_2 ++ dktX2_finds_3
def dkwX2_finds_1 : List UInt8 := [180, 0, 13, 27, 3, 79, 42, 180, 0, 17, 3, 27, 79, 4, 61, 3, 62, 29, 28, 162, 0, 96, 3]
abbrev dktX2_finds_1 : List UInt8 := dkwX2_finds_1 ++ dktX2_finds_2
def dkwX2_finds_0 : List UInt8 := [3, 61, 28, 16, 36, 162, 0, 16, 42, 180, 0, 13, 28, 2, 79, 132, 2, 1, 167, 255, 240, 42]
abbrev dktX2_finds_0 : List UInt8 := dkwX2_finds_0 ++ dktX2_finds_1
theorem dksX2_finds_0 : cX2_finds.data.toList.drop 0 = dktX2_finds_0 := by decide +kernel
theorem dksX2_finds_1 : cX2_finds.data.toList.drop 22 = dktX2_finds_1 := dk_seg dksX2_finds_0 22 rfl rfl
theorem dksX2_finds_2 : cX2_finds.data.toList.drop 45 = dktX2_finds_2 := dk_seg dksX2_finds_1 23 rfl rfl
theorem dksX2_finds_3 : cX2_finds.data.toList.drop 69 = dktX2_finds_3 := dk_seg dksX2_finds_2 24 rfl rfl
theorem dksX2_finds_4 : cX2_finds.data.toList.drop 91 = dktX2_finds_4 := dk_seg dksX2_finds_3 22 rfl rfl
theorem dksX2_finds_5 : cX2_finds.data.toList.drop 115 = dktX2_finds_5 := dk_seg dksX2_finds_4 24 rfl rfl
theorem dX2_finds_0 : decode cX2_finds 0 = .ok (.iconst 0, 1) := dk_3 (dk_at dksX2_finds_0 0 rfl rfl)
theorem dX2_finds_1 : decode cX2_finds 1 = .ok (.istore_n 2, 1) := dk_61 (dk_at dksX2_finds_0 1 rfl rfl)
theorem dX2_finds_2 : decode cX2_finds 2 = .ok (.iload_n 2, 1) := dk_28 (dk_at dksX2_finds_0 2 rfl rfl)
theorem dX2_finds_3 : decode cX2_finds 3 = .ok (.bipush 36, 2) := dk_16 36 (dk_at dksX2_finds_0 3 rfl rfl)
theorem dX2_finds_5 : decode cX2_finds 5 = .ok (.if_icmp .ge 16, 3) := dk_162 0 16 (dk_at dksX2_finds_0 5 rfl rfl)
theorem dX2_finds_8 : decode cX2_finds 8 = .ok (.aload_n 0, 1) := dk_42 (dk_at dksX2_finds_0 8 rfl rfl)
theorem dX2_finds_9 : decode cX2_finds 9 = .ok (.getfield 13, 3) := dk_180 0 13 (dk_at dksX2_finds_0 9 rfl rfl)
theorem dX2_finds_12 : decode cX2_finds 12 = .ok (.iload_n 2, 1) := dk_28 (dk_at dksX2_finds_0 12 rfl rfl)
theorem dX2_finds_13 : decode cX2_finds 13 = .ok (.iconst (-1), 1) := dk_2 (dk_at dksX2_finds_0 13 rfl rfl)
theorem dX2_finds_14 : decode cX2_finds 14 = .ok (.iastore, 1) := dk_79 (dk_at dksX2_finds_0 14 rfl rfl)
theorem dX2_finds_15 : decode cX2_finds 15 = .ok (.iinc 2 1, 3) := dk_132 2 1 (dk_at dksX2_finds_0 15 rfl rfl)
theorem dX2_finds_18 : decode cX2_finds 18 = .ok (.goto (-16), 3) := dk_167 255 240 (dk_at dksX2_finds_0 18 rfl rfl)
theorem dX2_finds_21 : decode cX2_finds 21 = .ok (.aload_n 0, 1) := dk_42 (dk_at dksX2_finds_0 21 rfl rfl)
theorem dX2_finds_22 : decode cX2_finds 22 = .ok (.getfield 13, 3) := dk_180 0 13 (dk_at dksX2_finds_1 0 rfl rfl)
theorem dX2_finds_25 : decode cX2_finds 25 = .ok (.iload_n 1, 1) := dk_27 (dk_at dksX2_finds_1 3 rfl rfl)
theorem dX2_finds_26 : decode cX2_finds 26 = .ok (.iconst 0, 1) := dk_3 (dk_at dksX2_finds_1 4 rfl rfl)
theorem dX2_finds_27 : decode cX2_finds 27 = .ok (.iastore, 1) := dk_79 (dk_at dksX2_finds_1 5 rfl rfl)
theorem dX2_finds_28 : decode cX2_finds 28 = .ok (.aload_n 0, 1) := dk_42 (dk_at dksX2_finds_1 6 rfl rfl)
theorem dX2_finds_29 : decode cX2_finds 29 = .ok (.getfield 17, 3) := dk_180 0 17 (dk_at dksX2_finds_1 7 rfl rfl)
theorem dX2_finds_32 : decode cX2_finds 32 = .ok (.iconst 0, 1) := dk_3 (dk_at dksX2_finds_1 10 rfl rfl)
theorem dX2_finds_33 : decode cX2_finds 33 = .ok (.iload_n 1, 1) := dk_27 (dk_at dksX2_finds_1 11 rfl rfl)
theorem dX2_finds_34 : decode cX2_finds 34 = .ok (.iastore, 1) := dk_79 (dk_at dksX2_finds_1 12 rfl rfl)
theorem dX2_finds_35 : decode cX2_finds 35 = .ok (.iconst 1, 1) := dk_4 (dk_at dksX2_finds_1 13 rfl rfl)
theorem dX2_finds_36 : decode cX2_finds 36 = .ok (.istore_n 2, 1) := dk_61 (dk_at dksX2_finds_1 14 rfl rfl)
theorem dX2_finds_37 : decode cX2_finds 37 = .ok (.iconst 0, 1) := dk_3 (dk_at dksX2_finds_1 15 rfl rfl)
theorem dX2_finds_38 : decode cX2_finds 38 = .ok (.istore_n 3, 1) := dk_62 (dk_at dksX2_finds_1 16 rfl rfl)
theorem dX2_finds_39 : decode cX2_finds 39 = .ok (.iload_n 3, 1) := dk_29 (dk_at dksX2_finds_1 17 rfl rfl)
theorem dX2_finds_40 : decode cX2_finds 40 = .ok (.iload_n 2, 1) := dk_28 (dk_at dksX2_finds_1 18 rfl rfl)
theorem dX2_finds_41 : decode cX2_finds 41 = .ok (.if_icmp .ge 96, 3) := dk_162 0 96 (dk_at dksX2_finds_1 19 rfl rfl)
theorem dX2_finds_44 : decode cX2_finds 44 = .ok (.iconst 0, 1) := dk_3 (dk_at dksX2_finds_1 22 rfl rfl)
theorem dX2_finds_45 : decode cX2_finds 45 = .ok (.istore 4, 2) := dk_54 4 (dk_at dksX2_finds_2 0 rfl rfl)
theorem dX2_finds_47 : decode cX2_finds 47 = .ok (.iload 4, 2) := dk_21 4 (dk_at dksX2_finds_2 2 rfl rfl)
theorem dX2_finds_49 : decode cX2_finds 49 = .ok (.bipush 36, 2) := dk_16 36 (dk_at dksX2_finds_2 4 rfl rfl)
theorem dX2_finds_51 : decode cX2_finds 51 = .ok (.if_icmp .ge 80, 3) := dk_162 0 80 (dk_at dksX2_finds_2 6 rfl rfl)
theorem dX2_finds_54 : decode cX2_finds 54 = .ok (.aload_n 0, 1) := dk_42 (dk_at dksX2_finds_2 9 rfl rfl)
theorem dX2_finds_55 : decode cX2_finds 55 = .ok (.getfield 17, 3) := dk_180 0 17 (dk_at dksX2_finds_2 10 rfl rfl)
theorem dX2_finds_58 : decode cX2_finds 58 = .ok (.iload_n 3, 1) := dk_29 (dk_at dksX2_finds_2 13 rfl rfl)
theorem dX2_finds_59 : decode cX2_finds 59 = .ok (.iaload, 1) := dk_46 (dk_at dksX2_finds_2 14 rfl rfl)
theorem dX2_finds_60 : decode cX2_finds 60 = .ok (.iload 4, 2) := dk_21 4 (dk_at dksX2_finds_2 15 rfl rfl)
theorem dX2_finds_62 : decode cX2_finds 62 = .ok (.invokestatic 125, 3) := dk_184 0 125 (dk_at dksX2_finds_2 17 rfl rfl)
theorem dX2_finds_65 : decode cX2_finds 65 = .ok (.istore 5, 2) := dk_54 5 (dk_at dksX2_finds_2 20 rfl rfl)
theorem dX2_finds_67 : decode cX2_finds 67 = .ok (.iload 5, 2) := dk_21 5 (dk_at dksX2_finds_2 22 rfl rfl)
theorem dX2_finds_69 : decode cX2_finds 69 = .ok (.iconst (-1), 1) := dk_2 (dk_at dksX2_finds_3 0 rfl rfl)
theorem dX2_finds_70 : decode cX2_finds 70 = .ok (.if_icmp .eq 55, 3) := dk_159 0 55 (dk_at dksX2_finds_3 1 rfl rfl)
theorem dX2_finds_73 : decode cX2_finds 73 = .ok (.aload_n 0, 1) := dk_42 (dk_at dksX2_finds_3 4 rfl rfl)
theorem dX2_finds_74 : decode cX2_finds 74 = .ok (.getfield 7, 3) := dk_180 0 7 (dk_at dksX2_finds_3 5 rfl rfl)
theorem dX2_finds_77 : decode cX2_finds 77 = .ok (.iload 5, 2) := dk_21 5 (dk_at dksX2_finds_3 8 rfl rfl)
theorem dX2_finds_79 : decode cX2_finds 79 = .ok (.baload, 1) := dk_51 (dk_at dksX2_finds_3 10 rfl rfl)
theorem dX2_finds_80 : decode cX2_finds 80 = .ok (.ifCond .ne 45, 3) := dk_154 0 45 (dk_at dksX2_finds_3 11 rfl rfl)
theorem dX2_finds_83 : decode cX2_finds 83 = .ok (.aload_n 0, 1) := dk_42 (dk_at dksX2_finds_3 14 rfl rfl)
theorem dX2_finds_84 : decode cX2_finds 84 = .ok (.getfield 13, 3) := dk_180 0 13 (dk_at dksX2_finds_3 15 rfl rfl)
theorem dX2_finds_87 : decode cX2_finds 87 = .ok (.iload 4, 2) := dk_21 4 (dk_at dksX2_finds_3 18 rfl rfl)
theorem dX2_finds_89 : decode cX2_finds 89 = .ok (.iaload, 1) := dk_46 (dk_at dksX2_finds_3 20 rfl rfl)
theorem dX2_finds_90 : decode cX2_finds 90 = .ok (.iconst (-1), 1) := dk_2 (dk_at dksX2_finds_3 21 rfl rfl)
theorem dX2_finds_91 : decode cX2_finds 91 = .ok (.if_icmp .ne 34, 3) := dk_160 0 34 (dk_at dksX2_finds_4 0 rfl rfl)
theorem dX2_finds_94 : decode cX2_finds 94 = .ok (.aload_n 0, 1) := dk_42 (dk_at dksX2_finds_4 3 rfl rfl)
theorem dX2_finds_95 : decode cX2_finds 95 = .ok (.getfield 13, 3) := dk_180 0 13 (dk_at dksX2_finds_4 4 rfl rfl)
theorem dX2_finds_98 : decode cX2_finds 98 = .ok (.iload 4, 2) := dk_21 4 (dk_at dksX2_finds_4 7 rfl rfl)
theorem dX2_finds_100 : decode cX2_finds 100 = .ok (.aload_n 0, 1) := dk_42 (dk_at dksX2_finds_4 9 rfl rfl)
theorem dX2_finds_101 : decode cX2_finds 101 = .ok (.getfield 13, 3) := dk_180 0 13 (dk_at dksX2_finds_4 10 rfl rfl)
theorem dX2_finds_104 : decode cX2_finds 104 = .ok (.aload_n 0, 1) := dk_42 (dk_at dksX2_finds_4 13 rfl rfl)
theorem dX2_finds_105 : decode cX2_finds 105 = .ok (.getfield 17, 3) := dk_180 0 17 (dk_at dksX2_finds_4 14 rfl rfl)
theorem dX2_finds_108 : decode cX2_finds 108 = .ok (.iload_n 3, 1) := dk_29 (dk_at dksX2_finds_4 17 rfl rfl)
theorem dX2_finds_109 : decode cX2_finds 109 = .ok (.iaload, 1) := dk_46 (dk_at dksX2_finds_4 18 rfl rfl)
theorem dX2_finds_110 : decode cX2_finds 110 = .ok (.iaload, 1) := dk_46 (dk_at dksX2_finds_4 19 rfl rfl)
theorem dX2_finds_111 : decode cX2_finds 111 = .ok (.iconst 1, 1) := dk_4 (dk_at dksX2_finds_4 20 rfl rfl)
theorem dX2_finds_112 : decode cX2_finds 112 = .ok (.iadd, 1) := dk_96 (dk_at dksX2_finds_4 21 rfl rfl)
theorem dX2_finds_113 : decode cX2_finds 113 = .ok (.iastore, 1) := dk_79 (dk_at dksX2_finds_4 22 rfl rfl)
theorem dX2_finds_114 : decode cX2_finds 114 = .ok (.aload_n 0, 1) := dk_42 (dk_at dksX2_finds_4 23 rfl rfl)
theorem dX2_finds_115 : decode cX2_finds 115 = .ok (.getfield 17, 3) := dk_180 0 17 (dk_at dksX2_finds_5 0 rfl rfl)
theorem dX2_finds_118 : decode cX2_finds 118 = .ok (.iload_n 2, 1) := dk_28 (dk_at dksX2_finds_5 3 rfl rfl)
theorem dX2_finds_119 : decode cX2_finds 119 = .ok (.iload 4, 2) := dk_21 4 (dk_at dksX2_finds_5 4 rfl rfl)
theorem dX2_finds_121 : decode cX2_finds 121 = .ok (.iastore, 1) := dk_79 (dk_at dksX2_finds_5 6 rfl rfl)
theorem dX2_finds_122 : decode cX2_finds 122 = .ok (.iinc 2 1, 3) := dk_132 2 1 (dk_at dksX2_finds_5 7 rfl rfl)
theorem dX2_finds_125 : decode cX2_finds 125 = .ok (.iinc 4 1, 3) := dk_132 4 1 (dk_at dksX2_finds_5 10 rfl rfl)
theorem dX2_finds_128 : decode cX2_finds 128 = .ok (.goto (-81), 3) := dk_167 255 175 (dk_at dksX2_finds_5 13 rfl rfl)
theorem dX2_finds_131 : decode cX2_finds 131 = .ok (.iinc 3 1, 3) := dk_132 3 1 (dk_at dksX2_finds_5 16 rfl rfl)
theorem dX2_finds_134 : decode cX2_finds 134 = .ok (.goto (-95), 3) := dk_167 255 161 (dk_at dksX2_finds_5 19 rfl rfl)
theorem dX2_finds_137 : decode cX2_finds 137 = .ok (.return_, 1) := dk_177 (dk_at dksX2_finds_5 22 rfl rfl)
abbrev cX2_station : ByteArray := prog_14_method_15_code
def yX2_station : MethodName := ⟨RX2, "station", "(II)I"⟩
def dkwX2_station_2 : List UInt8 := [180, 0, 115, 28, 79, 42, 89, 180, 0, 115, 4, 96, 181, 0, 115, 42, 180, 0, 115, 4, 100, 172]
abbrev dktX2_station_2 : List UInt8 := dkwX2_station_2 ++ []
def dkwX2_station_1 : List UInt8 := [3, 182, 0, 140, 154, 0, 5, 3, 172, 42, 180, 0, 20, 42, 180, 0, 115, 27, 79, 42, 180, 0, 23, 42]
abbrev dktX2_station_1 : List UInt8 := dkwX2_station_1 ++ dktX2_station_2
def dkwX2_station_0 : List UInt8 := [42, 27, 184, 0, 121, 28, 3, 16, 20, 184, 0, 111, 42, 180, 0, 115, 8, 162, 0, 7, 4, 167, 0, 4]
abbrev dktX2_station_0 : List UInt8 := dkwX2_station_0 ++ dktX2_station_1
theorem dksX2_station_0 : cX2_station.data.toList.drop 0 = dktX2_station_0 := by decide +kernel
theorem dksX2_station_1 : cX2_station.data.toList.drop 24 = dktX2_station_1 := dk_seg dksX2_station_0 24 rfl rfl
theorem dksX2_station_2 : cX2_station.data.toList.drop 48 = dktX2_station_2 := dk_seg dksX2_station_1 24 rfl rfl
theorem dX2_station_0 : decode cX2_station 0 = .ok (.aload_n 0, 1) := dk_42 (dk_at dksX2_station_0 0 rfl rfl)
theorem dX2_station_1 : decode cX2_station 1 = .ok (.iload_n 1, 1) := dk_27 (dk_at dksX2_station_0 1 rfl rfl)
theorem dX2_station_2 : decode cX2_station 2 = .ok (.invokestatic 121, 3) := dk_184 0 121 (dk_at dksX2_station_0 2 rfl rfl)
theorem dX2_station_5 : decode cX2_station 5 = .ok (.iload_n 2, 1) := dk_28 (dk_at dksX2_station_0 5 rfl rfl)
theorem dX2_station_6 : decode cX2_station 6 = .ok (.iconst 0, 1) := dk_3 (dk_at dksX2_station_0 6 rfl rfl)
theorem dX2_station_7 : decode cX2_station 7 = .ok (.bipush 20, 2) := dk_16 20 (dk_at dksX2_station_0 7 rfl rfl)
theorem dX2_station_9 : decode cX2_station 9 = .ok (.invokestatic 111, 3) := dk_184 0 111 (dk_at dksX2_station_0 9 rfl rfl)
theorem dX2_station_12 : decode cX2_station 12 = .ok (.aload_n 0, 1) := dk_42 (dk_at dksX2_station_0 12 rfl rfl)
theorem dX2_station_13 : decode cX2_station 13 = .ok (.getfield 115, 3) := dk_180 0 115 (dk_at dksX2_station_0 13 rfl rfl)
theorem dX2_station_16 : decode cX2_station 16 = .ok (.iconst 5, 1) := dk_8 (dk_at dksX2_station_0 16 rfl rfl)
theorem dX2_station_17 : decode cX2_station 17 = .ok (.if_icmp .ge 7, 3) := dk_162 0 7 (dk_at dksX2_station_0 17 rfl rfl)
theorem dX2_station_20 : decode cX2_station 20 = .ok (.iconst 1, 1) := dk_4 (dk_at dksX2_station_0 20 rfl rfl)
theorem dX2_station_21 : decode cX2_station 21 = .ok (.goto 4, 3) := dk_167 0 4 (dk_at dksX2_station_0 21 rfl rfl)
theorem dX2_station_24 : decode cX2_station 24 = .ok (.iconst 0, 1) := dk_3 (dk_at dksX2_station_1 0 rfl rfl)
theorem dX2_station_25 : decode cX2_station 25 = .ok (.invokevirtual 140, 3) := dk_182 0 140 (dk_at dksX2_station_1 1 rfl rfl)
theorem dX2_station_28 : decode cX2_station 28 = .ok (.ifCond .ne 5, 3) := dk_154 0 5 (dk_at dksX2_station_1 4 rfl rfl)
theorem dX2_station_31 : decode cX2_station 31 = .ok (.iconst 0, 1) := dk_3 (dk_at dksX2_station_1 7 rfl rfl)
theorem dX2_station_32 : decode cX2_station 32 = .ok (.ireturn, 1) := dk_172 (dk_at dksX2_station_1 8 rfl rfl)
theorem dX2_station_33 : decode cX2_station 33 = .ok (.aload_n 0, 1) := dk_42 (dk_at dksX2_station_1 9 rfl rfl)
theorem dX2_station_34 : decode cX2_station 34 = .ok (.getfield 20, 3) := dk_180 0 20 (dk_at dksX2_station_1 10 rfl rfl)
theorem dX2_station_37 : decode cX2_station 37 = .ok (.aload_n 0, 1) := dk_42 (dk_at dksX2_station_1 13 rfl rfl)
theorem dX2_station_38 : decode cX2_station 38 = .ok (.getfield 115, 3) := dk_180 0 115 (dk_at dksX2_station_1 14 rfl rfl)
theorem dX2_station_41 : decode cX2_station 41 = .ok (.iload_n 1, 1) := dk_27 (dk_at dksX2_station_1 17 rfl rfl)
theorem dX2_station_42 : decode cX2_station 42 = .ok (.iastore, 1) := dk_79 (dk_at dksX2_station_1 18 rfl rfl)
theorem dX2_station_43 : decode cX2_station 43 = .ok (.aload_n 0, 1) := dk_42 (dk_at dksX2_station_1 19 rfl rfl)
theorem dX2_station_44 : decode cX2_station 44 = .ok (.getfield 23, 3) := dk_180 0 23 (dk_at dksX2_station_1 20 rfl rfl)
theorem dX2_station_47 : decode cX2_station 47 = .ok (.aload_n 0, 1) := dk_42 (dk_at dksX2_station_1 23 rfl rfl)
theorem dX2_station_48 : decode cX2_station 48 = .ok (.getfield 115, 3) := dk_180 0 115 (dk_at dksX2_station_2 0 rfl rfl)
theorem dX2_station_51 : decode cX2_station 51 = .ok (.iload_n 2, 1) := dk_28 (dk_at dksX2_station_2 3 rfl rfl)
theorem dX2_station_52 : decode cX2_station 52 = .ok (.iastore, 1) := dk_79 (dk_at dksX2_station_2 4 rfl rfl)
theorem dX2_station_53 : decode cX2_station 53 = .ok (.aload_n 0, 1) := dk_42 (dk_at dksX2_station_2 5 rfl rfl)
theorem dX2_station_54 : decode cX2_station 54 = .ok (.dup, 1) := dk_89 (dk_at dksX2_station_2 6 rfl rfl)
theorem dX2_station_55 : decode cX2_station 55 = .ok (.getfield 115, 3) := dk_180 0 115 (dk_at dksX2_station_2 7 rfl rfl)
theorem dX2_station_58 : decode cX2_station 58 = .ok (.iconst 1, 1) := dk_4 (dk_at dksX2_station_2 10 rfl rfl)
theorem dX2_station_59 : decode cX2_station 59 = .ok (.iadd, 1) := dk_96 (dk_at dksX2_station_2 11 rfl rfl)
theorem dX2_station_60 : decode cX2_station 60 = .ok (.putfield 115, 3) := dk_181 0 115 (dk_at dksX2_station_2 12 rfl rfl)
theorem dX2_station_63 : decode cX2_station 63 = .ok (.aload_n 0, 1) := dk_42 (dk_at dksX2_station_2 15 rfl rfl)
theorem dX2_station_64 : decode cX2_station 64 = .ok (.getfield 115, 3) := dk_180 0 115 (dk_at dksX2_station_2 16 rfl rfl)
theorem dX2_station_67 : decode cX2_station 67 = .ok (.iconst 1, 1) := dk_4 (dk_at dksX2_station_2 19 rfl rfl)
theorem dX2_station_68 : decode cX2_station 68 = .ok (.isub, 1) := dk_100 (dk_at dksX2_station_2 20 rfl rfl)
theorem dX2_station_69 : decode cX2_station 69 = .ok (.ireturn, 1) := dk_172 (dk_at dksX2_station_2 21 rfl rfl)
abbrev cX2_asked_3 : ByteArray := prog_14_method_6_code
def yX2_asked_3 : MethodName := ⟨RX2, "asked", "(ZZZ)Z"⟩
def dkwX2_asked_3_1 : List UInt8 := [167, 0, 4, 6, 181, 0, 108, 42, 180, 0, 108, 154, 0, 7, 4, 167, 0, 4, 3, 172]
abbrev dktX2_asked_3_1 : List UInt8 := dkwX2_asked_3_1 ++ []
def dkwX2_asked_3_0 : List UInt8 := [42, 27, 154, 0, 7, 4, 167, 0, 20, 28, 154, 0, 7, 5, 167, 0, 12, 29, 153, 0, 7, 3]
abbrev dktX2_asked_3_0 : List UInt8 := dkwX2_asked_3_0 ++ dktX2_asked_3_1
theorem dksX2_asked_3_0 : cX2_asked_3.data.toList.drop 0 = dktX2_asked_3_0 := by decide +kernel
theorem dksX2_asked_3_1 : cX2_asked_3.data.toList.drop 22 = dktX2_asked_3_1 := dk_seg dksX2_asked_3_0 22 rfl rfl
theorem dX2_asked_3_0 : decode cX2_asked_3 0 = .ok (.aload_n 0, 1) := dk_42 (dk_at dksX2_asked_3_0 0 rfl rfl)
theorem dX2_asked_3_1 : decode cX2_asked_3 1 = .ok (.iload_n 1, 1) := dk_27 (dk_at dksX2_asked_3_0 1 rfl rfl)
theorem dX2_asked_3_2 : decode cX2_asked_3 2 = .ok (.ifCond .ne 7, 3) := dk_154 0 7 (dk_at dksX2_asked_3_0 2 rfl rfl)
theorem dX2_asked_3_5 : decode cX2_asked_3 5 = .ok (.iconst 1, 1) := dk_4 (dk_at dksX2_asked_3_0 5 rfl rfl)
theorem dX2_asked_3_6 : decode cX2_asked_3 6 = .ok (.goto 20, 3) := dk_167 0 20 (dk_at dksX2_asked_3_0 6 rfl rfl)
theorem dX2_asked_3_9 : decode cX2_asked_3 9 = .ok (.iload_n 2, 1) := dk_28 (dk_at dksX2_asked_3_0 9 rfl rfl)
theorem dX2_asked_3_10 : decode cX2_asked_3 10 = .ok (.ifCond .ne 7, 3) := dk_154 0 7 (dk_at dksX2_asked_3_0 10 rfl rfl)
theorem dX2_asked_3_13 : decode cX2_asked_3 13 = .ok (.iconst 2, 1) := dk_5 (dk_at dksX2_asked_3_0 13 rfl rfl)
theorem dX2_asked_3_14 : decode cX2_asked_3 14 = .ok (.goto 12, 3) := dk_167 0 12 (dk_at dksX2_asked_3_0 14 rfl rfl)
theorem dX2_asked_3_17 : decode cX2_asked_3 17 = .ok (.iload_n 3, 1) := dk_29 (dk_at dksX2_asked_3_0 17 rfl rfl)
theorem dX2_asked_3_18 : decode cX2_asked_3 18 = .ok (.ifCond .eq 7, 3) := dk_153 0 7 (dk_at dksX2_asked_3_0 18 rfl rfl)
theorem dX2_asked_3_21 : decode cX2_asked_3 21 = .ok (.iconst 0, 1) := dk_3 (dk_at dksX2_asked_3_0 21 rfl rfl)
theorem dX2_asked_3_22 : decode cX2_asked_3 22 = .ok (.goto 4, 3) := dk_167 0 4 (dk_at dksX2_asked_3_1 0 rfl rfl)
theorem dX2_asked_3_25 : decode cX2_asked_3 25 = .ok (.iconst 3, 1) := dk_6 (dk_at dksX2_asked_3_1 3 rfl rfl)
theorem dX2_asked_3_26 : decode cX2_asked_3 26 = .ok (.putfield 108, 3) := dk_181 0 108 (dk_at dksX2_asked_3_1 4 rfl rfl)
theorem dX2_asked_3_29 : decode cX2_asked_3 29 = .ok (.aload_n 0, 1) := dk_42 (dk_at dksX2_asked_3_1 7 rfl rfl)
theorem dX2_asked_3_30 : decode cX2_asked_3 30 = .ok (.getfield 108, 3) := dk_180 0 108 (dk_at dksX2_asked_3_1 8 rfl rfl)
theorem dX2_asked_3_33 : decode cX2_asked_3 33 = .ok (.ifCond .ne 7, 3) := dk_154 0 7 (dk_at dksX2_asked_3_1 11 rfl rfl)
theorem dX2_asked_3_36 : decode cX2_asked_3 36 = .ok (.iconst 1, 1) := dk_4 (dk_at dksX2_asked_3_1 14 rfl rfl)
theorem dX2_asked_3_37 : decode cX2_asked_3 37 = .ok (.goto 4, 3) := dk_167 0 4 (dk_at dksX2_asked_3_1 15 rfl rfl)
theorem dX2_asked_3_40 : decode cX2_asked_3 40 = .ok (.iconst 0, 1) := dk_3 (dk_at dksX2_asked_3_1 18 rfl rfl)
theorem dX2_asked_3_41 : decode cX2_asked_3 41 = .ok (.ireturn, 1) := dk_172 (dk_at dksX2_asked_3_1 19 rfl rfl)
abbrev cX2_setSeats : ByteArray := prog_14_method_16_code
def yX2_setSeats : MethodName := ⟨RX2, "setSeats", "(II)I"⟩
def dkwX2_setSeats_1 : List UInt8 := [180, 0, 23, 27, 46, 62, 42, 180, 0, 23, 27, 28, 79, 29, 172]
abbrev dktX2_setSeats_1 : List UInt8 := dkwX2_setSeats_1 ++ []
def dkwX2_setSeats_0 : List UInt8 := [42, 42, 27, 182, 0, 143, 28, 3, 16, 20, 184, 0, 111, 182, 0, 129, 154, 0, 5, 3, 172, 42]
abbrev dktX2_setSeats_0 : List UInt8 := dkwX2_setSeats_0 ++ dktX2_setSeats_1
theorem dksX2_setSeats_0 : cX2_setSeats.data.toList.drop 0 = dktX2_setSeats_0 := by decide +kernel
theorem dksX2_setSeats_1 : cX2_setSeats.data.toList.drop 22 = dktX2_setSeats_1 := dk_seg dksX2_setSeats_0 22 rfl rfl
theorem dX2_setSeats_0 : decode cX2_setSeats 0 = .ok (.aload_n 0, 1) := dk_42 (dk_at dksX2_setSeats_0 0 rfl rfl)
theorem dX2_setSeats_1 : decode cX2_setSeats 1 = .ok (.aload_n 0, 1) := dk_42 (dk_at dksX2_setSeats_0 1 rfl rfl)
theorem dX2_setSeats_2 : decode cX2_setSeats 2 = .ok (.iload_n 1, 1) := dk_27 (dk_at dksX2_setSeats_0 2 rfl rfl)
theorem dX2_setSeats_3 : decode cX2_setSeats 3 = .ok (.invokevirtual 143, 3) := dk_182 0 143 (dk_at dksX2_setSeats_0 3 rfl rfl)
theorem dX2_setSeats_6 : decode cX2_setSeats 6 = .ok (.iload_n 2, 1) := dk_28 (dk_at dksX2_setSeats_0 6 rfl rfl)
theorem dX2_setSeats_7 : decode cX2_setSeats 7 = .ok (.iconst 0, 1) := dk_3 (dk_at dksX2_setSeats_0 7 rfl rfl)
theorem dX2_setSeats_8 : decode cX2_setSeats 8 = .ok (.bipush 20, 2) := dk_16 20 (dk_at dksX2_setSeats_0 8 rfl rfl)
theorem dX2_setSeats_10 : decode cX2_setSeats 10 = .ok (.invokestatic 111, 3) := dk_184 0 111 (dk_at dksX2_setSeats_0 10 rfl rfl)
theorem dX2_setSeats_13 : decode cX2_setSeats 13 = .ok (.invokevirtual 129, 3) := dk_182 0 129 (dk_at dksX2_setSeats_0 13 rfl rfl)
theorem dX2_setSeats_16 : decode cX2_setSeats 16 = .ok (.ifCond .ne 5, 3) := dk_154 0 5 (dk_at dksX2_setSeats_0 16 rfl rfl)
theorem dX2_setSeats_19 : decode cX2_setSeats 19 = .ok (.iconst 0, 1) := dk_3 (dk_at dksX2_setSeats_0 19 rfl rfl)
theorem dX2_setSeats_20 : decode cX2_setSeats 20 = .ok (.ireturn, 1) := dk_172 (dk_at dksX2_setSeats_0 20 rfl rfl)
theorem dX2_setSeats_21 : decode cX2_setSeats 21 = .ok (.aload_n 0, 1) := dk_42 (dk_at dksX2_setSeats_0 21 rfl rfl)
theorem dX2_setSeats_22 : decode cX2_setSeats 22 = .ok (.getfield 23, 3) := dk_180 0 23 (dk_at dksX2_setSeats_1 0 rfl rfl)
theorem dX2_setSeats_25 : decode cX2_setSeats 25 = .ok (.iload_n 1, 1) := dk_27 (dk_at dksX2_setSeats_1 3 rfl rfl)
theorem dX2_setSeats_26 : decode cX2_setSeats 26 = .ok (.iaload, 1) := dk_46 (dk_at dksX2_setSeats_1 4 rfl rfl)
theorem dX2_setSeats_27 : decode cX2_setSeats 27 = .ok (.istore_n 3, 1) := dk_62 (dk_at dksX2_setSeats_1 5 rfl rfl)
theorem dX2_setSeats_28 : decode cX2_setSeats 28 = .ok (.aload_n 0, 1) := dk_42 (dk_at dksX2_setSeats_1 6 rfl rfl)
theorem dX2_setSeats_29 : decode cX2_setSeats 29 = .ok (.getfield 23, 3) := dk_180 0 23 (dk_at dksX2_setSeats_1 7 rfl rfl)
theorem dX2_setSeats_32 : decode cX2_setSeats 32 = .ok (.iload_n 1, 1) := dk_27 (dk_at dksX2_setSeats_1 10 rfl rfl)
theorem dX2_setSeats_33 : decode cX2_setSeats 33 = .ok (.iload_n 2, 1) := dk_28 (dk_at dksX2_setSeats_1 11 rfl rfl)
theorem dX2_setSeats_34 : decode cX2_setSeats 34 = .ok (.iastore, 1) := dk_79 (dk_at dksX2_setSeats_1 12 rfl rfl)
theorem dX2_setSeats_35 : decode cX2_setSeats 35 = .ok (.iload_n 3, 1) := dk_29 (dk_at dksX2_setSeats_1 13 rfl rfl)
theorem dX2_setSeats_36 : decode cX2_setSeats 36 = .ok (.ireturn, 1) := dk_172 (dk_at dksX2_setSeats_1 14 rfl rfl)
abbrev cX2_isStation : ByteArray := prog_14_method_9_code
def yX2_isStation : MethodName := ⟨RX2, "isStation", "(I)Z"⟩
def dkwX2_isStation_0 : List UInt8 := [27, 3, 42, 180, 0, 115, 4, 100, 184, 0, 111, 172]
abbrev dktX2_isStation_0 : List UInt8 := dkwX2_isStation_0 ++ []
theorem dksX2_isStation_0 : cX2_isStation.data.toList.drop 0 = dktX2_isStation_0 := by decide +kernel
theorem dX2_isStation_0 : decode cX2_isStation 0 = .ok (.iload_n 1, 1) := dk_27 (dk_at dksX2_isStation_0 0 rfl rfl)
theorem dX2_isStation_1 : decode cX2_isStation 1 = .ok (.iconst 0, 1) := dk_3 (dk_at dksX2_isStation_0 1 rfl rfl)
theorem dX2_isStation_2 : decode cX2_isStation 2 = .ok (.aload_n 0, 1) := dk_42 (dk_at dksX2_isStation_0 2 rfl rfl)
theorem dX2_isStation_3 : decode cX2_isStation 3 = .ok (.getfield 115, 3) := dk_180 0 115 (dk_at dksX2_isStation_0 3 rfl rfl)
theorem dX2_isStation_6 : decode cX2_isStation 6 = .ok (.iconst 1, 1) := dk_4 (dk_at dksX2_isStation_0 6 rfl rfl)
theorem dX2_isStation_7 : decode cX2_isStation 7 = .ok (.isub, 1) := dk_100 (dk_at dksX2_isStation_0 7 rfl rfl)
theorem dX2_isStation_8 : decode cX2_isStation 8 = .ok (.invokestatic 111, 3) := dk_184 0 111 (dk_at dksX2_isStation_0 8 rfl rfl)
theorem dX2_isStation_11 : decode cX2_isStation 11 = .ok (.ireturn, 1) := dk_172 (dk_at dksX2_isStation_0 11 rfl rfl)
abbrev cX2_person : ByteArray := prog_14_method_19_code
def yX2_person : MethodName := ⟨RX2, "person", "(II)I"⟩
def dkwX2_person_3 : List UInt8 := [100, 172]
abbrev dktX2_person_3 : List UInt8 := dkwX2_person_3 ++ []
def dkwX2_person_2 : List UInt8 := [180, 0, 118, 4, 96, 181, 0, 118, 42, 42, 180, 0, 118, 4, 100, 27, 182, 0, 152, 42, 180, 0, 118, 4]
abbrev dktX2_person_2 : List UInt8 := dkwX2_person_2 ++ dktX2_person_3
def dkwX2_person_1 : List UInt8 := [167, 0, 4, 3, 182, 0, 140, 154, 0, 5, 3, 172, 42, 180, 0, 26, 42, 180, 0, 118, 28, 79, 42, 89]
abbrev dktX2_person_1 : List UInt8 := dkwX2_person_1 ++ dktX2_person_2
def dkwX2_person_0 : List UInt8 := [42, 27, 184, 0, 121, 28, 3, 17, 7, 208, 184, 0, 111, 42, 180, 0, 118, 16, 20, 162, 0, 7, 4]
abbrev dktX2_person_0 : List UInt8 := dkwX2_person_0 ++ dktX2_person_1
theorem dksX2_person_0 : cX2_person.data.toList.drop 0 = dktX2_person_0 := by decide +kernel
theorem dksX2_person_1 : cX2_person.data.toList.drop 23 = dktX2_person_1 := dk_seg dksX2_person_0 23 rfl rfl
theorem dksX2_person_2 : cX2_person.data.toList.drop 47 = dktX2_person_2 := dk_seg dksX2_person_1 24 rfl rfl
theorem dksX2_person_3 : cX2_person.data.toList.drop 71 = dktX2_person_3 := dk_seg dksX2_person_2 24 rfl rfl
theorem dX2_person_0 : decode cX2_person 0 = .ok (.aload_n 0, 1) := dk_42 (dk_at dksX2_person_0 0 rfl rfl)
theorem dX2_person_1 : decode cX2_person 1 = .ok (.iload_n 1, 1) := dk_27 (dk_at dksX2_person_0 1 rfl rfl)
theorem dX2_person_2 : decode cX2_person 2 = .ok (.invokestatic 121, 3) := dk_184 0 121 (dk_at dksX2_person_0 2 rfl rfl)
theorem dX2_person_5 : decode cX2_person 5 = .ok (.iload_n 2, 1) := dk_28 (dk_at dksX2_person_0 5 rfl rfl)
theorem dX2_person_6 : decode cX2_person 6 = .ok (.iconst 0, 1) := dk_3 (dk_at dksX2_person_0 6 rfl rfl)
theorem dX2_person_7 : decode cX2_person 7 = .ok (.sipush 2000, 3) := dk_17 7 208 (dk_at dksX2_person_0 7 rfl rfl)
theorem dX2_person_10 : decode cX2_person 10 = .ok (.invokestatic 111, 3) := dk_184 0 111 (dk_at dksX2_person_0 10 rfl rfl)
theorem dX2_person_13 : decode cX2_person 13 = .ok (.aload_n 0, 1) := dk_42 (dk_at dksX2_person_0 13 rfl rfl)
theorem dX2_person_14 : decode cX2_person 14 = .ok (.getfield 118, 3) := dk_180 0 118 (dk_at dksX2_person_0 14 rfl rfl)
theorem dX2_person_17 : decode cX2_person 17 = .ok (.bipush 20, 2) := dk_16 20 (dk_at dksX2_person_0 17 rfl rfl)
theorem dX2_person_19 : decode cX2_person 19 = .ok (.if_icmp .ge 7, 3) := dk_162 0 7 (dk_at dksX2_person_0 19 rfl rfl)
theorem dX2_person_22 : decode cX2_person 22 = .ok (.iconst 1, 1) := dk_4 (dk_at dksX2_person_0 22 rfl rfl)
theorem dX2_person_23 : decode cX2_person 23 = .ok (.goto 4, 3) := dk_167 0 4 (dk_at dksX2_person_1 0 rfl rfl)
theorem dX2_person_26 : decode cX2_person 26 = .ok (.iconst 0, 1) := dk_3 (dk_at dksX2_person_1 3 rfl rfl)
theorem dX2_person_27 : decode cX2_person 27 = .ok (.invokevirtual 140, 3) := dk_182 0 140 (dk_at dksX2_person_1 4 rfl rfl)
theorem dX2_person_30 : decode cX2_person 30 = .ok (.ifCond .ne 5, 3) := dk_154 0 5 (dk_at dksX2_person_1 7 rfl rfl)
theorem dX2_person_33 : decode cX2_person 33 = .ok (.iconst 0, 1) := dk_3 (dk_at dksX2_person_1 10 rfl rfl)
theorem dX2_person_34 : decode cX2_person 34 = .ok (.ireturn, 1) := dk_172 (dk_at dksX2_person_1 11 rfl rfl)
theorem dX2_person_35 : decode cX2_person 35 = .ok (.aload_n 0, 1) := dk_42 (dk_at dksX2_person_1 12 rfl rfl)
theorem dX2_person_36 : decode cX2_person 36 = .ok (.getfield 26, 3) := dk_180 0 26 (dk_at dksX2_person_1 13 rfl rfl)
theorem dX2_person_39 : decode cX2_person 39 = .ok (.aload_n 0, 1) := dk_42 (dk_at dksX2_person_1 16 rfl rfl)
theorem dX2_person_40 : decode cX2_person 40 = .ok (.getfield 118, 3) := dk_180 0 118 (dk_at dksX2_person_1 17 rfl rfl)
theorem dX2_person_43 : decode cX2_person 43 = .ok (.iload_n 2, 1) := dk_28 (dk_at dksX2_person_1 20 rfl rfl)
theorem dX2_person_44 : decode cX2_person 44 = .ok (.iastore, 1) := dk_79 (dk_at dksX2_person_1 21 rfl rfl)
theorem dX2_person_45 : decode cX2_person 45 = .ok (.aload_n 0, 1) := dk_42 (dk_at dksX2_person_1 22 rfl rfl)
theorem dX2_person_46 : decode cX2_person 46 = .ok (.dup, 1) := dk_89 (dk_at dksX2_person_1 23 rfl rfl)
theorem dX2_person_47 : decode cX2_person 47 = .ok (.getfield 118, 3) := dk_180 0 118 (dk_at dksX2_person_2 0 rfl rfl)
theorem dX2_person_50 : decode cX2_person 50 = .ok (.iconst 1, 1) := dk_4 (dk_at dksX2_person_2 3 rfl rfl)
theorem dX2_person_51 : decode cX2_person 51 = .ok (.iadd, 1) := dk_96 (dk_at dksX2_person_2 4 rfl rfl)
theorem dX2_person_52 : decode cX2_person 52 = .ok (.putfield 118, 3) := dk_181 0 118 (dk_at dksX2_person_2 5 rfl rfl)
theorem dX2_person_55 : decode cX2_person 55 = .ok (.aload_n 0, 1) := dk_42 (dk_at dksX2_person_2 8 rfl rfl)
theorem dX2_person_56 : decode cX2_person 56 = .ok (.aload_n 0, 1) := dk_42 (dk_at dksX2_person_2 9 rfl rfl)
theorem dX2_person_57 : decode cX2_person 57 = .ok (.getfield 118, 3) := dk_180 0 118 (dk_at dksX2_person_2 10 rfl rfl)
theorem dX2_person_60 : decode cX2_person 60 = .ok (.iconst 1, 1) := dk_4 (dk_at dksX2_person_2 13 rfl rfl)
theorem dX2_person_61 : decode cX2_person 61 = .ok (.isub, 1) := dk_100 (dk_at dksX2_person_2 14 rfl rfl)
theorem dX2_person_62 : decode cX2_person 62 = .ok (.iload_n 1, 1) := dk_27 (dk_at dksX2_person_2 15 rfl rfl)
theorem dX2_person_63 : decode cX2_person 63 = .ok (.invokevirtual 152, 3) := dk_182 0 152 (dk_at dksX2_person_2 16 rfl rfl)
theorem dX2_person_66 : decode cX2_person 66 = .ok (.aload_n 0, 1) := dk_42 (dk_at dksX2_person_2 19 rfl rfl)
theorem dX2_person_67 : decode cX2_person 67 = .ok (.getfield 118, 3) := dk_180 0 118 (dk_at dksX2_person_2 20 rfl rfl)
theorem dX2_person_70 : decode cX2_person 70 = .ok (.iconst 1, 1) := dk_4 (dk_at dksX2_person_2 23 rfl rfl)
theorem dX2_person_71 : decode cX2_person 71 = .ok (.isub, 1) := dk_100 (dk_at dksX2_person_3 0 rfl rfl)
theorem dX2_person_72 : decode cX2_person 72 = .ok (.ireturn, 1) := dk_172 (dk_at dksX2_person_3 1 rfl rfl)
abbrev cX2_comes : ByteArray := prog_14_method_17_code
def yX2_comes : MethodName := ⟨RX2, "comes", "(II)V"⟩
def dkwX2_comes_1 : List UInt8 := [180, 0, 38, 42, 180, 0, 146, 28, 79, 42, 89, 180, 0, 146, 4, 96, 181, 0, 146, 177]
abbrev dktX2_comes_1 : List UInt8 := dkwX2_comes_1 ++ []
def dkwX2_comes_0 : List UInt8 := [42, 180, 0, 32, 42, 180, 0, 146, 27, 79, 42, 180, 0, 35, 42, 180, 0, 146, 42, 180, 0, 149, 79, 42]
abbrev dktX2_comes_0 : List UInt8 := dkwX2_comes_0 ++ dktX2_comes_1
theorem dksX2_comes_0 : cX2_comes.data.toList.drop 0 = dktX2_comes_0 := by decide +kernel
theorem dksX2_comes_1 : cX2_comes.data.toList.drop 24 = dktX2_comes_1 := dk_seg dksX2_comes_0 24 rfl rfl
theorem dX2_comes_0 : decode cX2_comes 0 = .ok (.aload_n 0, 1) := dk_42 (dk_at dksX2_comes_0 0 rfl rfl)
theorem dX2_comes_1 : decode cX2_comes 1 = .ok (.getfield 32, 3) := dk_180 0 32 (dk_at dksX2_comes_0 1 rfl rfl)
theorem dX2_comes_4 : decode cX2_comes 4 = .ok (.aload_n 0, 1) := dk_42 (dk_at dksX2_comes_0 4 rfl rfl)
theorem dX2_comes_5 : decode cX2_comes 5 = .ok (.getfield 146, 3) := dk_180 0 146 (dk_at dksX2_comes_0 5 rfl rfl)
theorem dX2_comes_8 : decode cX2_comes 8 = .ok (.iload_n 1, 1) := dk_27 (dk_at dksX2_comes_0 8 rfl rfl)
theorem dX2_comes_9 : decode cX2_comes 9 = .ok (.iastore, 1) := dk_79 (dk_at dksX2_comes_0 9 rfl rfl)
theorem dX2_comes_10 : decode cX2_comes 10 = .ok (.aload_n 0, 1) := dk_42 (dk_at dksX2_comes_0 10 rfl rfl)
theorem dX2_comes_11 : decode cX2_comes 11 = .ok (.getfield 35, 3) := dk_180 0 35 (dk_at dksX2_comes_0 11 rfl rfl)
theorem dX2_comes_14 : decode cX2_comes 14 = .ok (.aload_n 0, 1) := dk_42 (dk_at dksX2_comes_0 14 rfl rfl)
theorem dX2_comes_15 : decode cX2_comes 15 = .ok (.getfield 146, 3) := dk_180 0 146 (dk_at dksX2_comes_0 15 rfl rfl)
theorem dX2_comes_18 : decode cX2_comes 18 = .ok (.aload_n 0, 1) := dk_42 (dk_at dksX2_comes_0 18 rfl rfl)
theorem dX2_comes_19 : decode cX2_comes 19 = .ok (.getfield 149, 3) := dk_180 0 149 (dk_at dksX2_comes_0 19 rfl rfl)
theorem dX2_comes_22 : decode cX2_comes 22 = .ok (.iastore, 1) := dk_79 (dk_at dksX2_comes_0 22 rfl rfl)
theorem dX2_comes_23 : decode cX2_comes 23 = .ok (.aload_n 0, 1) := dk_42 (dk_at dksX2_comes_0 23 rfl rfl)
theorem dX2_comes_24 : decode cX2_comes 24 = .ok (.getfield 38, 3) := dk_180 0 38 (dk_at dksX2_comes_1 0 rfl rfl)
theorem dX2_comes_27 : decode cX2_comes 27 = .ok (.aload_n 0, 1) := dk_42 (dk_at dksX2_comes_1 3 rfl rfl)
theorem dX2_comes_28 : decode cX2_comes 28 = .ok (.getfield 146, 3) := dk_180 0 146 (dk_at dksX2_comes_1 4 rfl rfl)
theorem dX2_comes_31 : decode cX2_comes 31 = .ok (.iload_n 2, 1) := dk_28 (dk_at dksX2_comes_1 7 rfl rfl)
theorem dX2_comes_32 : decode cX2_comes 32 = .ok (.iastore, 1) := dk_79 (dk_at dksX2_comes_1 8 rfl rfl)
theorem dX2_comes_33 : decode cX2_comes 33 = .ok (.aload_n 0, 1) := dk_42 (dk_at dksX2_comes_1 9 rfl rfl)
theorem dX2_comes_34 : decode cX2_comes 34 = .ok (.dup, 1) := dk_89 (dk_at dksX2_comes_1 10 rfl rfl)
theorem dX2_comes_35 : decode cX2_comes 35 = .ok (.getfield 146, 3) := dk_180 0 146 (dk_at dksX2_comes_1 11 rfl rfl)
theorem dX2_comes_38 : decode cX2_comes 38 = .ok (.iconst 1, 1) := dk_4 (dk_at dksX2_comes_1 14 rfl rfl)
theorem dX2_comes_39 : decode cX2_comes 39 = .ok (.iadd, 1) := dk_96 (dk_at dksX2_comes_1 15 rfl rfl)
theorem dX2_comes_40 : decode cX2_comes 40 = .ok (.putfield 146, 3) := dk_181 0 146 (dk_at dksX2_comes_1 16 rfl rfl)
theorem dX2_comes_43 : decode cX2_comes 43 = .ok (.return_, 1) := dk_177 (dk_at dksX2_comes_1 19 rfl rfl)
abbrev cX2_move : ByteArray := prog_14_method_20_code
def yX2_move : MethodName := ⟨RX2, "move", "(II)I"⟩
def dkwX2_move_2 : List UInt8 := [172, 42, 27, 42, 180, 0, 149, 182, 0, 159, 54, 4, 42, 27, 28, 182, 0, 152, 21, 4, 172]
abbrev dktX2_move_2 : List UInt8 := dkwX2_move_2 ++ []
def dkwX2_move_1 : List UInt8 := [153, 0, 16, 42, 180, 0, 29, 27, 51, 154, 0, 7, 4, 167, 0, 4, 3, 182, 0, 129, 154, 0, 5, 3]
abbrev dktX2_move_1 : List UInt8 := dkwX2_move_1 ++ dktX2_move_2
def dkwX2_move_0 : List UInt8 := [42, 27, 182, 0, 156, 153, 0, 14, 28, 184, 0, 121, 153, 0, 7, 4, 167, 0, 4, 3, 62, 42, 29, 29]
abbrev dktX2_move_0 : List UInt8 := dkwX2_move_0 ++ dktX2_move_1
theorem dksX2_move_0 : cX2_move.data.toList.drop 0 = dktX2_move_0 := by decide +kernel
theorem dksX2_move_1 : cX2_move.data.toList.drop 24 = dktX2_move_1 := dk_seg dksX2_move_0 24 rfl rfl
theorem dksX2_move_2 : cX2_move.data.toList.drop 48 = dktX2_move_2 := dk_seg dksX2_move_1 24 rfl rfl
theorem dX2_move_0 : decode cX2_move 0 = .ok (.aload_n 0, 1) := dk_42 (dk_at dksX2_move_0 0 rfl rfl)
theorem dX2_move_1 : decode cX2_move 1 = .ok (.iload_n 1, 1) := dk_27 (dk_at dksX2_move_0 1 rfl rfl)
theorem dX2_move_2 : decode cX2_move 2 = .ok (.invokevirtual 156, 3) := dk_182 0 156 (dk_at dksX2_move_0 2 rfl rfl)
theorem dX2_move_5 : decode cX2_move 5 = .ok (.ifCond .eq 14, 3) := dk_153 0 14 (dk_at dksX2_move_0 5 rfl rfl)
theorem dX2_move_8 : decode cX2_move 8 = .ok (.iload_n 2, 1) := dk_28 (dk_at dksX2_move_0 8 rfl rfl)
theorem dX2_move_9 : decode cX2_move 9 = .ok (.invokestatic 121, 3) := dk_184 0 121 (dk_at dksX2_move_0 9 rfl rfl)
theorem dX2_move_12 : decode cX2_move 12 = .ok (.ifCond .eq 7, 3) := dk_153 0 7 (dk_at dksX2_move_0 12 rfl rfl)
theorem dX2_move_15 : decode cX2_move 15 = .ok (.iconst 1, 1) := dk_4 (dk_at dksX2_move_0 15 rfl rfl)
theorem dX2_move_16 : decode cX2_move 16 = .ok (.goto 4, 3) := dk_167 0 4 (dk_at dksX2_move_0 16 rfl rfl)
theorem dX2_move_19 : decode cX2_move 19 = .ok (.iconst 0, 1) := dk_3 (dk_at dksX2_move_0 19 rfl rfl)
theorem dX2_move_20 : decode cX2_move 20 = .ok (.istore_n 3, 1) := dk_62 (dk_at dksX2_move_0 20 rfl rfl)
theorem dX2_move_21 : decode cX2_move 21 = .ok (.aload_n 0, 1) := dk_42 (dk_at dksX2_move_0 21 rfl rfl)
theorem dX2_move_22 : decode cX2_move 22 = .ok (.iload_n 3, 1) := dk_29 (dk_at dksX2_move_0 22 rfl rfl)
theorem dX2_move_23 : decode cX2_move 23 = .ok (.iload_n 3, 1) := dk_29 (dk_at dksX2_move_0 23 rfl rfl)
theorem dX2_move_24 : decode cX2_move 24 = .ok (.ifCond .eq 16, 3) := dk_153 0 16 (dk_at dksX2_move_1 0 rfl rfl)
theorem dX2_move_27 : decode cX2_move 27 = .ok (.aload_n 0, 1) := dk_42 (dk_at dksX2_move_1 3 rfl rfl)
theorem dX2_move_28 : decode cX2_move 28 = .ok (.getfield 29, 3) := dk_180 0 29 (dk_at dksX2_move_1 4 rfl rfl)
theorem dX2_move_31 : decode cX2_move 31 = .ok (.iload_n 1, 1) := dk_27 (dk_at dksX2_move_1 7 rfl rfl)
theorem dX2_move_32 : decode cX2_move 32 = .ok (.baload, 1) := dk_51 (dk_at dksX2_move_1 8 rfl rfl)
theorem dX2_move_33 : decode cX2_move 33 = .ok (.ifCond .ne 7, 3) := dk_154 0 7 (dk_at dksX2_move_1 9 rfl rfl)
theorem dX2_move_36 : decode cX2_move 36 = .ok (.iconst 1, 1) := dk_4 (dk_at dksX2_move_1 12 rfl rfl)
theorem dX2_move_37 : decode cX2_move 37 = .ok (.goto 4, 3) := dk_167 0 4 (dk_at dksX2_move_1 13 rfl rfl)
theorem dX2_move_40 : decode cX2_move 40 = .ok (.iconst 0, 1) := dk_3 (dk_at dksX2_move_1 16 rfl rfl)
theorem dX2_move_41 : decode cX2_move 41 = .ok (.invokevirtual 129, 3) := dk_182 0 129 (dk_at dksX2_move_1 17 rfl rfl)
theorem dX2_move_44 : decode cX2_move 44 = .ok (.ifCond .ne 5, 3) := dk_154 0 5 (dk_at dksX2_move_1 20 rfl rfl)
theorem dX2_move_47 : decode cX2_move 47 = .ok (.iconst 0, 1) := dk_3 (dk_at dksX2_move_1 23 rfl rfl)
theorem dX2_move_48 : decode cX2_move 48 = .ok (.ireturn, 1) := dk_172 (dk_at dksX2_move_2 0 rfl rfl)
theorem dX2_move_49 : decode cX2_move 49 = .ok (.aload_n 0, 1) := dk_42 (dk_at dksX2_move_2 1 rfl rfl)
theorem dX2_move_50 : decode cX2_move 50 = .ok (.iload_n 1, 1) := dk_27 (dk_at dksX2_move_2 2 rfl rfl)
theorem dX2_move_51 : decode cX2_move 51 = .ok (.aload_n 0, 1) := dk_42 (dk_at dksX2_move_2 3 rfl rfl)
theorem dX2_move_52 : decode cX2_move 52 = .ok (.getfield 149, 3) := dk_180 0 149 (dk_at dksX2_move_2 4 rfl rfl)
theorem dX2_move_55 : decode cX2_move 55 = .ok (.invokevirtual 159, 3) := dk_182 0 159 (dk_at dksX2_move_2 7 rfl rfl)
theorem dX2_move_58 : decode cX2_move 58 = .ok (.istore 4, 2) := dk_54 4 (dk_at dksX2_move_2 10 rfl rfl)
theorem dX2_move_60 : decode cX2_move 60 = .ok (.aload_n 0, 1) := dk_42 (dk_at dksX2_move_2 12 rfl rfl)
theorem dX2_move_61 : decode cX2_move 61 = .ok (.iload_n 1, 1) := dk_27 (dk_at dksX2_move_2 13 rfl rfl)
theorem dX2_move_62 : decode cX2_move 62 = .ok (.iload_n 2, 1) := dk_28 (dk_at dksX2_move_2 14 rfl rfl)
theorem dX2_move_63 : decode cX2_move 63 = .ok (.invokevirtual 152, 3) := dk_182 0 152 (dk_at dksX2_move_2 15 rfl rfl)
theorem dX2_move_66 : decode cX2_move 66 = .ok (.iload 4, 2) := dk_21 4 (dk_at dksX2_move_2 18 rfl rfl)
theorem dX2_move_68 : decode cX2_move 68 = .ok (.ireturn, 1) := dk_172 (dk_at dksX2_move_2 20 rfl rfl)
abbrev cX2_isPerson : ByteArray := prog_14_method_10_code
def yX2_isPerson : MethodName := ⟨RX2, "isPerson", "(I)Z"⟩
def dkwX2_isPerson_0 : List UInt8 := [27, 3, 42, 180, 0, 118, 4, 100, 184, 0, 111, 172]
abbrev dktX2_isPerson_0 : List UInt8 := dkwX2_isPerson_0 ++ []
theorem dksX2_isPerson_0 : cX2_isPerson.data.toList.drop 0 = dktX2_isPerson_0 := by decide +kernel
theorem dX2_isPerson_0 : decode cX2_isPerson 0 = .ok (.iload_n 1, 1) := dk_27 (dk_at dksX2_isPerson_0 0 rfl rfl)
theorem dX2_isPerson_1 : decode cX2_isPerson 1 = .ok (.iconst 0, 1) := dk_3 (dk_at dksX2_isPerson_0 1 rfl rfl)
theorem dX2_isPerson_2 : decode cX2_isPerson 2 = .ok (.aload_n 0, 1) := dk_42 (dk_at dksX2_isPerson_0 2 rfl rfl)
theorem dX2_isPerson_3 : decode cX2_isPerson 3 = .ok (.getfield 118, 3) := dk_180 0 118 (dk_at dksX2_isPerson_0 3 rfl rfl)
theorem dX2_isPerson_6 : decode cX2_isPerson 6 = .ok (.iconst 1, 1) := dk_4 (dk_at dksX2_isPerson_0 6 rfl rfl)
theorem dX2_isPerson_7 : decode cX2_isPerson 7 = .ok (.isub, 1) := dk_100 (dk_at dksX2_isPerson_0 7 rfl rfl)
theorem dX2_isPerson_8 : decode cX2_isPerson 8 = .ok (.invokestatic 111, 3) := dk_184 0 111 (dk_at dksX2_isPerson_0 8 rfl rfl)
theorem dX2_isPerson_11 : decode cX2_isPerson 11 = .ok (.ireturn, 1) := dk_172 (dk_at dksX2_isPerson_0 11 rfl rfl)
abbrev cX2_dwelt : ByteArray := prog_14_method_18_code
def yX2_dwelt : MethodName := ⟨RX2, "dwelt", "(II)I"⟩
def dkwX2_dwelt_2 : List UInt8 := [29, 62, 132, 4, 1, 167, 255, 210, 29, 172]
abbrev dktX2_dwelt_2 : List UInt8 := dkwX2_dwelt_2 ++ []
def dkwX2_dwelt_1 : List UInt8 := [160, 0, 24, 42, 180, 0, 35, 21, 4, 46, 28, 163, 0, 13, 42, 180, 0, 38, 21, 4, 46, 167, 0, 4]
abbrev dktX2_dwelt_1 : List UInt8 := dkwX2_dwelt_1 ++ dktX2_dwelt_2
def dkwX2_dwelt_0 : List UInt8 := [2, 62, 3, 54, 4, 21, 4, 42, 180, 0, 146, 162, 0, 43, 42, 180, 0, 32, 21, 4, 46, 27]
abbrev dktX2_dwelt_0 : List UInt8 := dkwX2_dwelt_0 ++ dktX2_dwelt_1
theorem dksX2_dwelt_0 : cX2_dwelt.data.toList.drop 0 = dktX2_dwelt_0 := by decide +kernel
theorem dksX2_dwelt_1 : cX2_dwelt.data.toList.drop 22 = dktX2_dwelt_1 := dk_seg dksX2_dwelt_0 22 rfl rfl
theorem dksX2_dwelt_2 : cX2_dwelt.data.toList.drop 46 = dktX2_dwelt_2 := dk_seg dksX2_dwelt_1 24 rfl rfl
theorem dX2_dwelt_0 : decode cX2_dwelt 0 = .ok (.iconst (-1), 1) := dk_2 (dk_at dksX2_dwelt_0 0 rfl rfl)
theorem dX2_dwelt_1 : decode cX2_dwelt 1 = .ok (.istore_n 3, 1) := dk_62 (dk_at dksX2_dwelt_0 1 rfl rfl)
theorem dX2_dwelt_2 : decode cX2_dwelt 2 = .ok (.iconst 0, 1) := dk_3 (dk_at dksX2_dwelt_0 2 rfl rfl)
theorem dX2_dwelt_3 : decode cX2_dwelt 3 = .ok (.istore 4, 2) := dk_54 4 (dk_at dksX2_dwelt_0 3 rfl rfl)
theorem dX2_dwelt_5 : decode cX2_dwelt 5 = .ok (.iload 4, 2) := dk_21 4 (dk_at dksX2_dwelt_0 5 rfl rfl)
theorem dX2_dwelt_7 : decode cX2_dwelt 7 = .ok (.aload_n 0, 1) := dk_42 (dk_at dksX2_dwelt_0 7 rfl rfl)
theorem dX2_dwelt_8 : decode cX2_dwelt 8 = .ok (.getfield 146, 3) := dk_180 0 146 (dk_at dksX2_dwelt_0 8 rfl rfl)
theorem dX2_dwelt_11 : decode cX2_dwelt 11 = .ok (.if_icmp .ge 43, 3) := dk_162 0 43 (dk_at dksX2_dwelt_0 11 rfl rfl)
theorem dX2_dwelt_14 : decode cX2_dwelt 14 = .ok (.aload_n 0, 1) := dk_42 (dk_at dksX2_dwelt_0 14 rfl rfl)
theorem dX2_dwelt_15 : decode cX2_dwelt 15 = .ok (.getfield 32, 3) := dk_180 0 32 (dk_at dksX2_dwelt_0 15 rfl rfl)
theorem dX2_dwelt_18 : decode cX2_dwelt 18 = .ok (.iload 4, 2) := dk_21 4 (dk_at dksX2_dwelt_0 18 rfl rfl)
theorem dX2_dwelt_20 : decode cX2_dwelt 20 = .ok (.iaload, 1) := dk_46 (dk_at dksX2_dwelt_0 20 rfl rfl)
theorem dX2_dwelt_21 : decode cX2_dwelt 21 = .ok (.iload_n 1, 1) := dk_27 (dk_at dksX2_dwelt_0 21 rfl rfl)
theorem dX2_dwelt_22 : decode cX2_dwelt 22 = .ok (.if_icmp .ne 24, 3) := dk_160 0 24 (dk_at dksX2_dwelt_1 0 rfl rfl)
theorem dX2_dwelt_25 : decode cX2_dwelt 25 = .ok (.aload_n 0, 1) := dk_42 (dk_at dksX2_dwelt_1 3 rfl rfl)
theorem dX2_dwelt_26 : decode cX2_dwelt 26 = .ok (.getfield 35, 3) := dk_180 0 35 (dk_at dksX2_dwelt_1 4 rfl rfl)
theorem dX2_dwelt_29 : decode cX2_dwelt 29 = .ok (.iload 4, 2) := dk_21 4 (dk_at dksX2_dwelt_1 7 rfl rfl)
theorem dX2_dwelt_31 : decode cX2_dwelt 31 = .ok (.iaload, 1) := dk_46 (dk_at dksX2_dwelt_1 9 rfl rfl)
theorem dX2_dwelt_32 : decode cX2_dwelt 32 = .ok (.iload_n 2, 1) := dk_28 (dk_at dksX2_dwelt_1 10 rfl rfl)
theorem dX2_dwelt_33 : decode cX2_dwelt 33 = .ok (.if_icmp .gt 13, 3) := dk_163 0 13 (dk_at dksX2_dwelt_1 11 rfl rfl)
theorem dX2_dwelt_36 : decode cX2_dwelt 36 = .ok (.aload_n 0, 1) := dk_42 (dk_at dksX2_dwelt_1 14 rfl rfl)
theorem dX2_dwelt_37 : decode cX2_dwelt 37 = .ok (.getfield 38, 3) := dk_180 0 38 (dk_at dksX2_dwelt_1 15 rfl rfl)
theorem dX2_dwelt_40 : decode cX2_dwelt 40 = .ok (.iload 4, 2) := dk_21 4 (dk_at dksX2_dwelt_1 18 rfl rfl)
theorem dX2_dwelt_42 : decode cX2_dwelt 42 = .ok (.iaload, 1) := dk_46 (dk_at dksX2_dwelt_1 20 rfl rfl)
theorem dX2_dwelt_43 : decode cX2_dwelt 43 = .ok (.goto 4, 3) := dk_167 0 4 (dk_at dksX2_dwelt_1 21 rfl rfl)
theorem dX2_dwelt_46 : decode cX2_dwelt 46 = .ok (.iload_n 3, 1) := dk_29 (dk_at dksX2_dwelt_2 0 rfl rfl)
theorem dX2_dwelt_47 : decode cX2_dwelt 47 = .ok (.istore_n 3, 1) := dk_62 (dk_at dksX2_dwelt_2 1 rfl rfl)
theorem dX2_dwelt_48 : decode cX2_dwelt 48 = .ok (.iinc 4 1, 3) := dk_132 4 1 (dk_at dksX2_dwelt_2 2 rfl rfl)
theorem dX2_dwelt_51 : decode cX2_dwelt 51 = .ok (.goto (-46), 3) := dk_167 255 210 (dk_at dksX2_dwelt_2 5 rfl rfl)
theorem dX2_dwelt_54 : decode cX2_dwelt 54 = .ok (.iload_n 3, 1) := dk_29 (dk_at dksX2_dwelt_2 8 rfl rfl)
theorem dX2_dwelt_55 : decode cX2_dwelt 55 = .ok (.ireturn, 1) := dk_172 (dk_at dksX2_dwelt_2 9 rfl rfl)
abbrev cX2_die : ByteArray := prog_14_method_24_code
def yX2_die : MethodName := ⟨RX2, "die", "(I)Z"⟩
def dkwX2_die_2 : List UInt8 := [172]
abbrev dktX2_die_2 : List UInt8 := dkwX2_die_2 ++ []
def dkwX2_die_1 : List UInt8 := [167, 0, 4, 3, 182, 0, 129, 154, 0, 5, 3, 172, 42, 180, 0, 29, 27, 4, 84, 42, 27, 182, 0, 175]
abbrev dktX2_die_1 : List UInt8 := dkwX2_die_1 ++ dktX2_die_2
def dkwX2_die_0 : List UInt8 := [42, 27, 182, 0, 156, 61, 42, 28, 28, 153, 0, 16, 42, 180, 0, 29, 27, 51, 154, 0, 7, 4]
abbrev dktX2_die_0 : List UInt8 := dkwX2_die_0 ++ dktX2_die_1
theorem dksX2_die_0 : cX2_die.data.toList.drop 0 = dktX2_die_0 := by decide +kernel
theorem dksX2_die_1 : cX2_die.data.toList.drop 22 = dktX2_die_1 := dk_seg dksX2_die_0 22 rfl rfl
theorem dksX2_die_2 : cX2_die.data.toList.drop 46 = dktX2_die_2 := dk_seg dksX2_die_1 24 rfl rfl
theorem dX2_die_0 : decode cX2_die 0 = .ok (.aload_n 0, 1) := dk_42 (dk_at dksX2_die_0 0 rfl rfl)
theorem dX2_die_1 : decode cX2_die 1 = .ok (.iload_n 1, 1) := dk_27 (dk_at dksX2_die_0 1 rfl rfl)
theorem dX2_die_2 : decode cX2_die 2 = .ok (.invokevirtual 156, 3) := dk_182 0 156 (dk_at dksX2_die_0 2 rfl rfl)
theorem dX2_die_5 : decode cX2_die 5 = .ok (.istore_n 2, 1) := dk_61 (dk_at dksX2_die_0 5 rfl rfl)
theorem dX2_die_6 : decode cX2_die 6 = .ok (.aload_n 0, 1) := dk_42 (dk_at dksX2_die_0 6 rfl rfl)
theorem dX2_die_7 : decode cX2_die 7 = .ok (.iload_n 2, 1) := dk_28 (dk_at dksX2_die_0 7 rfl rfl)
theorem dX2_die_8 : decode cX2_die 8 = .ok (.iload_n 2, 1) := dk_28 (dk_at dksX2_die_0 8 rfl rfl)
theorem dX2_die_9 : decode cX2_die 9 = .ok (.ifCond .eq 16, 3) := dk_153 0 16 (dk_at dksX2_die_0 9 rfl rfl)
theorem dX2_die_12 : decode cX2_die 12 = .ok (.aload_n 0, 1) := dk_42 (dk_at dksX2_die_0 12 rfl rfl)
theorem dX2_die_13 : decode cX2_die 13 = .ok (.getfield 29, 3) := dk_180 0 29 (dk_at dksX2_die_0 13 rfl rfl)
theorem dX2_die_16 : decode cX2_die 16 = .ok (.iload_n 1, 1) := dk_27 (dk_at dksX2_die_0 16 rfl rfl)
theorem dX2_die_17 : decode cX2_die 17 = .ok (.baload, 1) := dk_51 (dk_at dksX2_die_0 17 rfl rfl)
theorem dX2_die_18 : decode cX2_die 18 = .ok (.ifCond .ne 7, 3) := dk_154 0 7 (dk_at dksX2_die_0 18 rfl rfl)
theorem dX2_die_21 : decode cX2_die 21 = .ok (.iconst 1, 1) := dk_4 (dk_at dksX2_die_0 21 rfl rfl)
theorem dX2_die_22 : decode cX2_die 22 = .ok (.goto 4, 3) := dk_167 0 4 (dk_at dksX2_die_1 0 rfl rfl)
theorem dX2_die_25 : decode cX2_die 25 = .ok (.iconst 0, 1) := dk_3 (dk_at dksX2_die_1 3 rfl rfl)
theorem dX2_die_26 : decode cX2_die 26 = .ok (.invokevirtual 129, 3) := dk_182 0 129 (dk_at dksX2_die_1 4 rfl rfl)
theorem dX2_die_29 : decode cX2_die 29 = .ok (.ifCond .ne 5, 3) := dk_154 0 5 (dk_at dksX2_die_1 7 rfl rfl)
theorem dX2_die_32 : decode cX2_die 32 = .ok (.iconst 0, 1) := dk_3 (dk_at dksX2_die_1 10 rfl rfl)
theorem dX2_die_33 : decode cX2_die 33 = .ok (.ireturn, 1) := dk_172 (dk_at dksX2_die_1 11 rfl rfl)
theorem dX2_die_34 : decode cX2_die 34 = .ok (.aload_n 0, 1) := dk_42 (dk_at dksX2_die_1 12 rfl rfl)
theorem dX2_die_35 : decode cX2_die 35 = .ok (.getfield 29, 3) := dk_180 0 29 (dk_at dksX2_die_1 13 rfl rfl)
theorem dX2_die_38 : decode cX2_die 38 = .ok (.iload_n 1, 1) := dk_27 (dk_at dksX2_die_1 16 rfl rfl)
theorem dX2_die_39 : decode cX2_die 39 = .ok (.iconst 1, 1) := dk_4 (dk_at dksX2_die_1 17 rfl rfl)
theorem dX2_die_40 : decode cX2_die 40 = .ok (.bastore, 1) := dk_84 (dk_at dksX2_die_1 18 rfl rfl)
theorem dX2_die_41 : decode cX2_die 41 = .ok (.aload_n 0, 1) := dk_42 (dk_at dksX2_die_1 19 rfl rfl)
theorem dX2_die_42 : decode cX2_die 42 = .ok (.iload_n 1, 1) := dk_27 (dk_at dksX2_die_1 20 rfl rfl)
theorem dX2_die_43 : decode cX2_die 43 = .ok (.invokevirtual 175, 3) := dk_182 0 175 (dk_at dksX2_die_1 21 rfl rfl)
theorem dX2_die_46 : decode cX2_die 46 = .ok (.ireturn, 1) := dk_172 (dk_at dksX2_die_2 0 rfl rfl)
abbrev cX2_voids : ByteArray := prog_14_method_23_code
def yX2_voids : MethodName := ⟨RX2, "voids", "(I)Z"⟩
def dkwX2_voids_1 : List UInt8 := [16, 120, 27, 182, 0, 172, 28, 2, 159, 0, 7, 4, 167, 0, 4, 3, 172]
abbrev dktX2_voids_1 : List UInt8 := dkwX2_voids_1 ++ []
def dkwX2_voids_0 : List UInt8 := [42, 27, 182, 0, 168, 61, 28, 2, 159, 0, 21, 42, 180, 0, 63, 28, 4, 79, 42, 42, 180, 0, 149]
abbrev dktX2_voids_0 : List UInt8 := dkwX2_voids_0 ++ dktX2_voids_1
theorem dksX2_voids_0 : cX2_voids.data.toList.drop 0 = dktX2_voids_0 := by decide +kernel
theorem dksX2_voids_1 : cX2_voids.data.toList.drop 23 = dktX2_voids_1 := dk_seg dksX2_voids_0 23 rfl rfl
theorem dX2_voids_0 : decode cX2_voids 0 = .ok (.aload_n 0, 1) := dk_42 (dk_at dksX2_voids_0 0 rfl rfl)
theorem dX2_voids_1 : decode cX2_voids 1 = .ok (.iload_n 1, 1) := dk_27 (dk_at dksX2_voids_0 1 rfl rfl)
theorem dX2_voids_2 : decode cX2_voids 2 = .ok (.invokevirtual 168, 3) := dk_182 0 168 (dk_at dksX2_voids_0 2 rfl rfl)
theorem dX2_voids_5 : decode cX2_voids 5 = .ok (.istore_n 2, 1) := dk_61 (dk_at dksX2_voids_0 5 rfl rfl)
theorem dX2_voids_6 : decode cX2_voids 6 = .ok (.iload_n 2, 1) := dk_28 (dk_at dksX2_voids_0 6 rfl rfl)
theorem dX2_voids_7 : decode cX2_voids 7 = .ok (.iconst (-1), 1) := dk_2 (dk_at dksX2_voids_0 7 rfl rfl)
theorem dX2_voids_8 : decode cX2_voids 8 = .ok (.if_icmp .eq 21, 3) := dk_159 0 21 (dk_at dksX2_voids_0 8 rfl rfl)
theorem dX2_voids_11 : decode cX2_voids 11 = .ok (.aload_n 0, 1) := dk_42 (dk_at dksX2_voids_0 11 rfl rfl)
theorem dX2_voids_12 : decode cX2_voids 12 = .ok (.getfield 63, 3) := dk_180 0 63 (dk_at dksX2_voids_0 12 rfl rfl)
theorem dX2_voids_15 : decode cX2_voids 15 = .ok (.iload_n 2, 1) := dk_28 (dk_at dksX2_voids_0 15 rfl rfl)
theorem dX2_voids_16 : decode cX2_voids 16 = .ok (.iconst 1, 1) := dk_4 (dk_at dksX2_voids_0 16 rfl rfl)
theorem dX2_voids_17 : decode cX2_voids 17 = .ok (.iastore, 1) := dk_79 (dk_at dksX2_voids_0 17 rfl rfl)
theorem dX2_voids_18 : decode cX2_voids 18 = .ok (.aload_n 0, 1) := dk_42 (dk_at dksX2_voids_0 18 rfl rfl)
theorem dX2_voids_19 : decode cX2_voids 19 = .ok (.aload_n 0, 1) := dk_42 (dk_at dksX2_voids_0 19 rfl rfl)
theorem dX2_voids_20 : decode cX2_voids 20 = .ok (.getfield 149, 3) := dk_180 0 149 (dk_at dksX2_voids_0 20 rfl rfl)
theorem dX2_voids_23 : decode cX2_voids 23 = .ok (.bipush 120, 2) := dk_16 120 (dk_at dksX2_voids_1 0 rfl rfl)
theorem dX2_voids_25 : decode cX2_voids 25 = .ok (.iload_n 1, 1) := dk_27 (dk_at dksX2_voids_1 2 rfl rfl)
theorem dX2_voids_26 : decode cX2_voids 26 = .ok (.invokevirtual 172, 3) := dk_182 0 172 (dk_at dksX2_voids_1 3 rfl rfl)
theorem dX2_voids_29 : decode cX2_voids 29 = .ok (.iload_n 2, 1) := dk_28 (dk_at dksX2_voids_1 6 rfl rfl)
theorem dX2_voids_30 : decode cX2_voids 30 = .ok (.iconst (-1), 1) := dk_2 (dk_at dksX2_voids_1 7 rfl rfl)
theorem dX2_voids_31 : decode cX2_voids 31 = .ok (.if_icmp .eq 7, 3) := dk_159 0 7 (dk_at dksX2_voids_1 8 rfl rfl)
theorem dX2_voids_34 : decode cX2_voids 34 = .ok (.iconst 1, 1) := dk_4 (dk_at dksX2_voids_1 11 rfl rfl)
theorem dX2_voids_35 : decode cX2_voids 35 = .ok (.goto 4, 3) := dk_167 0 4 (dk_at dksX2_voids_1 12 rfl rfl)
theorem dX2_voids_38 : decode cX2_voids 38 = .ok (.iconst 0, 1) := dk_3 (dk_at dksX2_voids_1 15 rfl rfl)
theorem dX2_voids_39 : decode cX2_voids 39 = .ok (.ireturn, 1) := dk_172 (dk_at dksX2_voids_1 16 rfl rfl)
abbrev cX2_sealedOf : ByteArray := prog_14_method_22_code
def yX2_sealedOf : MethodName := ⟨RX2, "sealedOf", "(I)I"⟩
def dkwX2_sealedOf_1 : List UInt8 := [180, 0, 63, 29, 46, 154, 0, 7, 29, 167, 0, 4, 28, 61, 132, 3, 1, 167, 255, 220, 28, 172]
abbrev dktX2_sealedOf_1 : List UInt8 := dkwX2_sealedOf_1 ++ []
def dkwX2_sealedOf_0 : List UInt8 := [2, 61, 3, 62, 29, 42, 180, 0, 165, 162, 0, 34, 42, 180, 0, 57, 29, 46, 27, 160, 0, 16, 42]
abbrev dktX2_sealedOf_0 : List UInt8 := dkwX2_sealedOf_0 ++ dktX2_sealedOf_1
theorem dksX2_sealedOf_0 : cX2_sealedOf.data.toList.drop 0 = dktX2_sealedOf_0 := by decide +kernel
theorem dksX2_sealedOf_1 : cX2_sealedOf.data.toList.drop 23 = dktX2_sealedOf_1 := dk_seg dksX2_sealedOf_0 23 rfl rfl
theorem dX2_sealedOf_0 : decode cX2_sealedOf 0 = .ok (.iconst (-1), 1) := dk_2 (dk_at dksX2_sealedOf_0 0 rfl rfl)
theorem dX2_sealedOf_1 : decode cX2_sealedOf 1 = .ok (.istore_n 2, 1) := dk_61 (dk_at dksX2_sealedOf_0 1 rfl rfl)
theorem dX2_sealedOf_2 : decode cX2_sealedOf 2 = .ok (.iconst 0, 1) := dk_3 (dk_at dksX2_sealedOf_0 2 rfl rfl)
theorem dX2_sealedOf_3 : decode cX2_sealedOf 3 = .ok (.istore_n 3, 1) := dk_62 (dk_at dksX2_sealedOf_0 3 rfl rfl)
theorem dX2_sealedOf_4 : decode cX2_sealedOf 4 = .ok (.iload_n 3, 1) := dk_29 (dk_at dksX2_sealedOf_0 4 rfl rfl)
theorem dX2_sealedOf_5 : decode cX2_sealedOf 5 = .ok (.aload_n 0, 1) := dk_42 (dk_at dksX2_sealedOf_0 5 rfl rfl)
theorem dX2_sealedOf_6 : decode cX2_sealedOf 6 = .ok (.getfield 165, 3) := dk_180 0 165 (dk_at dksX2_sealedOf_0 6 rfl rfl)
theorem dX2_sealedOf_9 : decode cX2_sealedOf 9 = .ok (.if_icmp .ge 34, 3) := dk_162 0 34 (dk_at dksX2_sealedOf_0 9 rfl rfl)
theorem dX2_sealedOf_12 : decode cX2_sealedOf 12 = .ok (.aload_n 0, 1) := dk_42 (dk_at dksX2_sealedOf_0 12 rfl rfl)
theorem dX2_sealedOf_13 : decode cX2_sealedOf 13 = .ok (.getfield 57, 3) := dk_180 0 57 (dk_at dksX2_sealedOf_0 13 rfl rfl)
theorem dX2_sealedOf_16 : decode cX2_sealedOf 16 = .ok (.iload_n 3, 1) := dk_29 (dk_at dksX2_sealedOf_0 16 rfl rfl)
theorem dX2_sealedOf_17 : decode cX2_sealedOf 17 = .ok (.iaload, 1) := dk_46 (dk_at dksX2_sealedOf_0 17 rfl rfl)
theorem dX2_sealedOf_18 : decode cX2_sealedOf 18 = .ok (.iload_n 1, 1) := dk_27 (dk_at dksX2_sealedOf_0 18 rfl rfl)
theorem dX2_sealedOf_19 : decode cX2_sealedOf 19 = .ok (.if_icmp .ne 16, 3) := dk_160 0 16 (dk_at dksX2_sealedOf_0 19 rfl rfl)
theorem dX2_sealedOf_22 : decode cX2_sealedOf 22 = .ok (.aload_n 0, 1) := dk_42 (dk_at dksX2_sealedOf_0 22 rfl rfl)
theorem dX2_sealedOf_23 : decode cX2_sealedOf 23 = .ok (.getfield 63, 3) := dk_180 0 63 (dk_at dksX2_sealedOf_1 0 rfl rfl)
theorem dX2_sealedOf_26 : decode cX2_sealedOf 26 = .ok (.iload_n 3, 1) := dk_29 (dk_at dksX2_sealedOf_1 3 rfl rfl)
theorem dX2_sealedOf_27 : decode cX2_sealedOf 27 = .ok (.iaload, 1) := dk_46 (dk_at dksX2_sealedOf_1 4 rfl rfl)
theorem dX2_sealedOf_28 : decode cX2_sealedOf 28 = .ok (.ifCond .ne 7, 3) := dk_154 0 7 (dk_at dksX2_sealedOf_1 5 rfl rfl)
theorem dX2_sealedOf_31 : decode cX2_sealedOf 31 = .ok (.iload_n 3, 1) := dk_29 (dk_at dksX2_sealedOf_1 8 rfl rfl)
theorem dX2_sealedOf_32 : decode cX2_sealedOf 32 = .ok (.goto 4, 3) := dk_167 0 4 (dk_at dksX2_sealedOf_1 9 rfl rfl)
theorem dX2_sealedOf_35 : decode cX2_sealedOf 35 = .ok (.iload_n 2, 1) := dk_28 (dk_at dksX2_sealedOf_1 12 rfl rfl)
theorem dX2_sealedOf_36 : decode cX2_sealedOf 36 = .ok (.istore_n 2, 1) := dk_61 (dk_at dksX2_sealedOf_1 13 rfl rfl)
theorem dX2_sealedOf_37 : decode cX2_sealedOf 37 = .ok (.iinc 3 1, 3) := dk_132 3 1 (dk_at dksX2_sealedOf_1 14 rfl rfl)
theorem dX2_sealedOf_40 : decode cX2_sealedOf 40 = .ok (.goto (-36), 3) := dk_167 255 220 (dk_at dksX2_sealedOf_1 17 rfl rfl)
theorem dX2_sealedOf_43 : decode cX2_sealedOf 43 = .ok (.iload_n 2, 1) := dk_28 (dk_at dksX2_sealedOf_1 20 rfl rfl)
theorem dX2_sealedOf_44 : decode cX2_sealedOf 44 = .ok (.ireturn, 1) := dk_172 (dk_at dksX2_sealedOf_1 21 rfl rfl)
abbrev cX2_notes : ByteArray := prog_14_method_21_code
def yX2_notes : MethodName := ⟨RX2, "notes", "(III)V"⟩
def dkwX2_notes_1 : List UInt8 := [42, 180, 0, 162, 29, 79, 42, 89, 180, 0, 162, 4, 96, 181, 0, 162, 177]
abbrev dktX2_notes_1 : List UInt8 := dkwX2_notes_1 ++ []
def dkwX2_notes_0 : List UInt8 := [42, 180, 0, 96, 42, 180, 0, 162, 27, 79, 42, 180, 0, 99, 42, 180, 0, 162, 28, 79, 42, 180, 0, 102]
abbrev dktX2_notes_0 : List UInt8 := dkwX2_notes_0 ++ dktX2_notes_1
theorem dksX2_notes_0 : cX2_notes.data.toList.drop 0 = dktX2_notes_0 := by decide +kernel
theorem dksX2_notes_1 : cX2_notes.data.toList.drop 24 = dktX2_notes_1 := dk_seg dksX2_notes_0 24 rfl rfl
theorem dX2_notes_0 : decode cX2_notes 0 = .ok (.aload_n 0, 1) := dk_42 (dk_at dksX2_notes_0 0 rfl rfl)
theorem dX2_notes_1 : decode cX2_notes 1 = .ok (.getfield 96, 3) := dk_180 0 96 (dk_at dksX2_notes_0 1 rfl rfl)
theorem dX2_notes_4 : decode cX2_notes 4 = .ok (.aload_n 0, 1) := dk_42 (dk_at dksX2_notes_0 4 rfl rfl)
theorem dX2_notes_5 : decode cX2_notes 5 = .ok (.getfield 162, 3) := dk_180 0 162 (dk_at dksX2_notes_0 5 rfl rfl)
theorem dX2_notes_8 : decode cX2_notes 8 = .ok (.iload_n 1, 1) := dk_27 (dk_at dksX2_notes_0 8 rfl rfl)
theorem dX2_notes_9 : decode cX2_notes 9 = .ok (.iastore, 1) := dk_79 (dk_at dksX2_notes_0 9 rfl rfl)
theorem dX2_notes_10 : decode cX2_notes 10 = .ok (.aload_n 0, 1) := dk_42 (dk_at dksX2_notes_0 10 rfl rfl)
theorem dX2_notes_11 : decode cX2_notes 11 = .ok (.getfield 99, 3) := dk_180 0 99 (dk_at dksX2_notes_0 11 rfl rfl)
theorem dX2_notes_14 : decode cX2_notes 14 = .ok (.aload_n 0, 1) := dk_42 (dk_at dksX2_notes_0 14 rfl rfl)
theorem dX2_notes_15 : decode cX2_notes 15 = .ok (.getfield 162, 3) := dk_180 0 162 (dk_at dksX2_notes_0 15 rfl rfl)
theorem dX2_notes_18 : decode cX2_notes 18 = .ok (.iload_n 2, 1) := dk_28 (dk_at dksX2_notes_0 18 rfl rfl)
theorem dX2_notes_19 : decode cX2_notes 19 = .ok (.iastore, 1) := dk_79 (dk_at dksX2_notes_0 19 rfl rfl)
theorem dX2_notes_20 : decode cX2_notes 20 = .ok (.aload_n 0, 1) := dk_42 (dk_at dksX2_notes_0 20 rfl rfl)
theorem dX2_notes_21 : decode cX2_notes 21 = .ok (.getfield 102, 3) := dk_180 0 102 (dk_at dksX2_notes_0 21 rfl rfl)
theorem dX2_notes_24 : decode cX2_notes 24 = .ok (.aload_n 0, 1) := dk_42 (dk_at dksX2_notes_1 0 rfl rfl)
theorem dX2_notes_25 : decode cX2_notes 25 = .ok (.getfield 162, 3) := dk_180 0 162 (dk_at dksX2_notes_1 1 rfl rfl)
theorem dX2_notes_28 : decode cX2_notes 28 = .ok (.iload_n 3, 1) := dk_29 (dk_at dksX2_notes_1 4 rfl rfl)
theorem dX2_notes_29 : decode cX2_notes 29 = .ok (.iastore, 1) := dk_79 (dk_at dksX2_notes_1 5 rfl rfl)
theorem dX2_notes_30 : decode cX2_notes 30 = .ok (.aload_n 0, 1) := dk_42 (dk_at dksX2_notes_1 6 rfl rfl)
theorem dX2_notes_31 : decode cX2_notes 31 = .ok (.dup, 1) := dk_89 (dk_at dksX2_notes_1 7 rfl rfl)
theorem dX2_notes_32 : decode cX2_notes 32 = .ok (.getfield 162, 3) := dk_180 0 162 (dk_at dksX2_notes_1 8 rfl rfl)
theorem dX2_notes_35 : decode cX2_notes 35 = .ok (.iconst 1, 1) := dk_4 (dk_at dksX2_notes_1 11 rfl rfl)
theorem dX2_notes_36 : decode cX2_notes 36 = .ok (.iadd, 1) := dk_96 (dk_at dksX2_notes_1 12 rfl rfl)
theorem dX2_notes_37 : decode cX2_notes 37 = .ok (.putfield 162, 3) := dk_181 0 162 (dk_at dksX2_notes_1 13 rfl rfl)
theorem dX2_notes_40 : decode cX2_notes 40 = .ok (.return_, 1) := dk_177 (dk_at dksX2_notes_1 16 rfl rfl)
abbrev cX2_dwells : ByteArray := prog_14_method_25_code
def yX2_dwells : MethodName := ⟨RX2, "dwells", "(II)I"⟩
def dkwX2_dwells_1 : List UInt8 := [182, 0, 159, 167, 0, 4, 3, 172]
abbrev dktX2_dwells_1 : List UInt8 := dkwX2_dwells_1 ++ []
def dkwX2_dwells_0 : List UInt8 := [42, 42, 27, 182, 0, 156, 28, 3, 42, 180, 0, 149, 184, 0, 111, 182, 0, 129, 153, 0, 12, 42, 27, 28]
abbrev dktX2_dwells_0 : List UInt8 := dkwX2_dwells_0 ++ dktX2_dwells_1
theorem dksX2_dwells_0 : cX2_dwells.data.toList.drop 0 = dktX2_dwells_0 := by decide +kernel
theorem dksX2_dwells_1 : cX2_dwells.data.toList.drop 24 = dktX2_dwells_1 := dk_seg dksX2_dwells_0 24 rfl rfl
theorem dX2_dwells_0 : decode cX2_dwells 0 = .ok (.aload_n 0, 1) := dk_42 (dk_at dksX2_dwells_0 0 rfl rfl)
theorem dX2_dwells_1 : decode cX2_dwells 1 = .ok (.aload_n 0, 1) := dk_42 (dk_at dksX2_dwells_0 1 rfl rfl)
theorem dX2_dwells_2 : decode cX2_dwells 2 = .ok (.iload_n 1, 1) := dk_27 (dk_at dksX2_dwells_0 2 rfl rfl)
theorem dX2_dwells_3 : decode cX2_dwells 3 = .ok (.invokevirtual 156, 3) := dk_182 0 156 (dk_at dksX2_dwells_0 3 rfl rfl)
theorem dX2_dwells_6 : decode cX2_dwells 6 = .ok (.iload_n 2, 1) := dk_28 (dk_at dksX2_dwells_0 6 rfl rfl)
theorem dX2_dwells_7 : decode cX2_dwells 7 = .ok (.iconst 0, 1) := dk_3 (dk_at dksX2_dwells_0 7 rfl rfl)
theorem dX2_dwells_8 : decode cX2_dwells 8 = .ok (.aload_n 0, 1) := dk_42 (dk_at dksX2_dwells_0 8 rfl rfl)
theorem dX2_dwells_9 : decode cX2_dwells 9 = .ok (.getfield 149, 3) := dk_180 0 149 (dk_at dksX2_dwells_0 9 rfl rfl)
theorem dX2_dwells_12 : decode cX2_dwells 12 = .ok (.invokestatic 111, 3) := dk_184 0 111 (dk_at dksX2_dwells_0 12 rfl rfl)
theorem dX2_dwells_15 : decode cX2_dwells 15 = .ok (.invokevirtual 129, 3) := dk_182 0 129 (dk_at dksX2_dwells_0 15 rfl rfl)
theorem dX2_dwells_18 : decode cX2_dwells 18 = .ok (.ifCond .eq 12, 3) := dk_153 0 12 (dk_at dksX2_dwells_0 18 rfl rfl)
theorem dX2_dwells_21 : decode cX2_dwells 21 = .ok (.aload_n 0, 1) := dk_42 (dk_at dksX2_dwells_0 21 rfl rfl)
theorem dX2_dwells_22 : decode cX2_dwells 22 = .ok (.iload_n 1, 1) := dk_27 (dk_at dksX2_dwells_0 22 rfl rfl)
theorem dX2_dwells_23 : decode cX2_dwells 23 = .ok (.iload_n 2, 1) := dk_28 (dk_at dksX2_dwells_0 23 rfl rfl)
theorem dX2_dwells_24 : decode cX2_dwells 24 = .ok (.invokevirtual 159, 3) := dk_182 0 159 (dk_at dksX2_dwells_1 0 rfl rfl)
theorem dX2_dwells_27 : decode cX2_dwells 27 = .ok (.goto 4, 3) := dk_167 0 4 (dk_at dksX2_dwells_1 3 rfl rfl)
theorem dX2_dwells_30 : decode cX2_dwells 30 = .ok (.iconst 0, 1) := dk_3 (dk_at dksX2_dwells_1 6 rfl rfl)
theorem dX2_dwells_31 : decode cX2_dwells 31 = .ok (.ireturn, 1) := dk_172 (dk_at dksX2_dwells_1 7 rfl rfl)
abbrev cX2_call : ByteArray := prog_14_method_27_code
def yX2_call : MethodName := ⟨RX2, "call", "(IIZ)I"⟩
def dkwX2_call_5 : List UInt8 := [180, 0, 181, 172]
abbrev dktX2_call_5 : List UInt8 := dkwX2_call_5 ++ []
def dkwX2_call_4 : List UInt8 := [181, 0, 41, 42, 42, 180, 0, 149, 27, 96, 181, 0, 181, 42, 28, 181, 0, 184, 42, 29, 181, 0, 187, 42]
abbrev dktX2_call_4 : List UInt8 := dkwX2_call_4 ++ dktX2_call_5
def dkwX2_call_3 : List UInt8 := [163, 0, 7, 4, 167, 0, 4, 3, 182, 0, 129, 154, 0, 5, 3, 172, 42, 182, 0, 105, 42, 4]
abbrev dktX2_call_3 : List UInt8 := dkwX2_call_3 ++ dktX2_call_4
def dkwX2_call_2 : List UInt8 := [180, 0, 41, 8, 160, 0, 26, 42, 180, 0, 115, 158, 0, 19, 42, 180, 0, 149, 27, 96, 17, 7, 208]
abbrev dktX2_call_2 : List UInt8 := dkwX2_call_2 ++ dktX2_call_3
def dkwX2_call_1 : List UInt8 := [167, 0, 4, 3, 54, 4, 42, 21, 4, 21, 4, 153, 0, 41, 42, 180, 0, 41, 153, 0, 11, 42]
abbrev dktX2_call_1 : List UInt8 := dkwX2_call_1 ++ dktX2_call_2
def dkwX2_call_0 : List UInt8 := [27, 16, 8, 16, 100, 184, 0, 111, 153, 0, 17, 28, 3, 16, 30, 184, 0, 111, 153, 0, 7, 4]
abbrev dktX2_call_0 : List UInt8 := dkwX2_call_0 ++ dktX2_call_1
theorem dksX2_call_0 : cX2_call.data.toList.drop 0 = dktX2_call_0 := by decide +kernel
theorem dksX2_call_1 : cX2_call.data.toList.drop 22 = dktX2_call_1 := dk_seg dksX2_call_0 22 rfl rfl
theorem dksX2_call_2 : cX2_call.data.toList.drop 44 = dktX2_call_2 := dk_seg dksX2_call_1 22 rfl rfl
theorem dksX2_call_3 : cX2_call.data.toList.drop 67 = dktX2_call_3 := dk_seg dksX2_call_2 23 rfl rfl
theorem dksX2_call_4 : cX2_call.data.toList.drop 89 = dktX2_call_4 := dk_seg dksX2_call_3 22 rfl rfl
theorem dksX2_call_5 : cX2_call.data.toList.drop 113 = dktX2_call_5 := dk_seg dksX2_call_4 24 rfl rfl
theorem dX2_call_0 : decode cX2_call 0 = .ok (.iload_n 1, 1) := dk_27 (dk_at dksX2_call_0 0 rfl rfl)
theorem dX2_call_1 : decode cX2_call 1 = .ok (.bipush 8, 2) := dk_16 8 (dk_at dksX2_call_0 1 rfl rfl)
theorem dX2_call_3 : decode cX2_call 3 = .ok (.bipush 100, 2) := dk_16 100 (dk_at dksX2_call_0 3 rfl rfl)
theorem dX2_call_5 : decode cX2_call 5 = .ok (.invokestatic 111, 3) := dk_184 0 111 (dk_at dksX2_call_0 5 rfl rfl)
theorem dX2_call_8 : decode cX2_call 8 = .ok (.ifCond .eq 17, 3) := dk_153 0 17 (dk_at dksX2_call_0 8 rfl rfl)
theorem dX2_call_11 : decode cX2_call 11 = .ok (.iload_n 2, 1) := dk_28 (dk_at dksX2_call_0 11 rfl rfl)
theorem dX2_call_12 : decode cX2_call 12 = .ok (.iconst 0, 1) := dk_3 (dk_at dksX2_call_0 12 rfl rfl)
theorem dX2_call_13 : decode cX2_call 13 = .ok (.bipush 30, 2) := dk_16 30 (dk_at dksX2_call_0 13 rfl rfl)
theorem dX2_call_15 : decode cX2_call 15 = .ok (.invokestatic 111, 3) := dk_184 0 111 (dk_at dksX2_call_0 15 rfl rfl)
theorem dX2_call_18 : decode cX2_call 18 = .ok (.ifCond .eq 7, 3) := dk_153 0 7 (dk_at dksX2_call_0 18 rfl rfl)
theorem dX2_call_21 : decode cX2_call 21 = .ok (.iconst 1, 1) := dk_4 (dk_at dksX2_call_0 21 rfl rfl)
theorem dX2_call_22 : decode cX2_call 22 = .ok (.goto 4, 3) := dk_167 0 4 (dk_at dksX2_call_1 0 rfl rfl)
theorem dX2_call_25 : decode cX2_call 25 = .ok (.iconst 0, 1) := dk_3 (dk_at dksX2_call_1 3 rfl rfl)
theorem dX2_call_26 : decode cX2_call 26 = .ok (.istore 4, 2) := dk_54 4 (dk_at dksX2_call_1 4 rfl rfl)
theorem dX2_call_28 : decode cX2_call 28 = .ok (.aload_n 0, 1) := dk_42 (dk_at dksX2_call_1 6 rfl rfl)
theorem dX2_call_29 : decode cX2_call 29 = .ok (.iload 4, 2) := dk_21 4 (dk_at dksX2_call_1 7 rfl rfl)
theorem dX2_call_31 : decode cX2_call 31 = .ok (.iload 4, 2) := dk_21 4 (dk_at dksX2_call_1 9 rfl rfl)
theorem dX2_call_33 : decode cX2_call 33 = .ok (.ifCond .eq 41, 3) := dk_153 0 41 (dk_at dksX2_call_1 11 rfl rfl)
theorem dX2_call_36 : decode cX2_call 36 = .ok (.aload_n 0, 1) := dk_42 (dk_at dksX2_call_1 14 rfl rfl)
theorem dX2_call_37 : decode cX2_call 37 = .ok (.getfield 41, 3) := dk_180 0 41 (dk_at dksX2_call_1 15 rfl rfl)
theorem dX2_call_40 : decode cX2_call 40 = .ok (.ifCond .eq 11, 3) := dk_153 0 11 (dk_at dksX2_call_1 18 rfl rfl)
theorem dX2_call_43 : decode cX2_call 43 = .ok (.aload_n 0, 1) := dk_42 (dk_at dksX2_call_1 21 rfl rfl)
theorem dX2_call_44 : decode cX2_call 44 = .ok (.getfield 41, 3) := dk_180 0 41 (dk_at dksX2_call_2 0 rfl rfl)
theorem dX2_call_47 : decode cX2_call 47 = .ok (.iconst 5, 1) := dk_8 (dk_at dksX2_call_2 3 rfl rfl)
theorem dX2_call_48 : decode cX2_call 48 = .ok (.if_icmp .ne 26, 3) := dk_160 0 26 (dk_at dksX2_call_2 4 rfl rfl)
theorem dX2_call_51 : decode cX2_call 51 = .ok (.aload_n 0, 1) := dk_42 (dk_at dksX2_call_2 7 rfl rfl)
theorem dX2_call_52 : decode cX2_call 52 = .ok (.getfield 115, 3) := dk_180 0 115 (dk_at dksX2_call_2 8 rfl rfl)
theorem dX2_call_55 : decode cX2_call 55 = .ok (.ifCond .le 19, 3) := dk_158 0 19 (dk_at dksX2_call_2 11 rfl rfl)
theorem dX2_call_58 : decode cX2_call 58 = .ok (.aload_n 0, 1) := dk_42 (dk_at dksX2_call_2 14 rfl rfl)
theorem dX2_call_59 : decode cX2_call 59 = .ok (.getfield 149, 3) := dk_180 0 149 (dk_at dksX2_call_2 15 rfl rfl)
theorem dX2_call_62 : decode cX2_call 62 = .ok (.iload_n 1, 1) := dk_27 (dk_at dksX2_call_2 18 rfl rfl)
theorem dX2_call_63 : decode cX2_call 63 = .ok (.iadd, 1) := dk_96 (dk_at dksX2_call_2 19 rfl rfl)
theorem dX2_call_64 : decode cX2_call 64 = .ok (.sipush 2000, 3) := dk_17 7 208 (dk_at dksX2_call_2 20 rfl rfl)
theorem dX2_call_67 : decode cX2_call 67 = .ok (.if_icmp .gt 7, 3) := dk_163 0 7 (dk_at dksX2_call_3 0 rfl rfl)
theorem dX2_call_70 : decode cX2_call 70 = .ok (.iconst 1, 1) := dk_4 (dk_at dksX2_call_3 3 rfl rfl)
theorem dX2_call_71 : decode cX2_call 71 = .ok (.goto 4, 3) := dk_167 0 4 (dk_at dksX2_call_3 4 rfl rfl)
theorem dX2_call_74 : decode cX2_call 74 = .ok (.iconst 0, 1) := dk_3 (dk_at dksX2_call_3 7 rfl rfl)
theorem dX2_call_75 : decode cX2_call 75 = .ok (.invokevirtual 129, 3) := dk_182 0 129 (dk_at dksX2_call_3 8 rfl rfl)
theorem dX2_call_78 : decode cX2_call 78 = .ok (.ifCond .ne 5, 3) := dk_154 0 5 (dk_at dksX2_call_3 11 rfl rfl)
theorem dX2_call_81 : decode cX2_call 81 = .ok (.iconst 0, 1) := dk_3 (dk_at dksX2_call_3 14 rfl rfl)
theorem dX2_call_82 : decode cX2_call 82 = .ok (.ireturn, 1) := dk_172 (dk_at dksX2_call_3 15 rfl rfl)
theorem dX2_call_83 : decode cX2_call 83 = .ok (.aload_n 0, 1) := dk_42 (dk_at dksX2_call_3 16 rfl rfl)
theorem dX2_call_84 : decode cX2_call 84 = .ok (.invokevirtual 105, 3) := dk_182 0 105 (dk_at dksX2_call_3 17 rfl rfl)
theorem dX2_call_87 : decode cX2_call 87 = .ok (.aload_n 0, 1) := dk_42 (dk_at dksX2_call_3 20 rfl rfl)
theorem dX2_call_88 : decode cX2_call 88 = .ok (.iconst 1, 1) := dk_4 (dk_at dksX2_call_3 21 rfl rfl)
theorem dX2_call_89 : decode cX2_call 89 = .ok (.putfield 41, 3) := dk_181 0 41 (dk_at dksX2_call_4 0 rfl rfl)
theorem dX2_call_92 : decode cX2_call 92 = .ok (.aload_n 0, 1) := dk_42 (dk_at dksX2_call_4 3 rfl rfl)
theorem dX2_call_93 : decode cX2_call 93 = .ok (.aload_n 0, 1) := dk_42 (dk_at dksX2_call_4 4 rfl rfl)
theorem dX2_call_94 : decode cX2_call 94 = .ok (.getfield 149, 3) := dk_180 0 149 (dk_at dksX2_call_4 5 rfl rfl)
theorem dX2_call_97 : decode cX2_call 97 = .ok (.iload_n 1, 1) := dk_27 (dk_at dksX2_call_4 8 rfl rfl)
theorem dX2_call_98 : decode cX2_call 98 = .ok (.iadd, 1) := dk_96 (dk_at dksX2_call_4 9 rfl rfl)
theorem dX2_call_99 : decode cX2_call 99 = .ok (.putfield 181, 3) := dk_181 0 181 (dk_at dksX2_call_4 10 rfl rfl)
theorem dX2_call_102 : decode cX2_call 102 = .ok (.aload_n 0, 1) := dk_42 (dk_at dksX2_call_4 13 rfl rfl)
theorem dX2_call_103 : decode cX2_call 103 = .ok (.iload_n 2, 1) := dk_28 (dk_at dksX2_call_4 14 rfl rfl)
theorem dX2_call_104 : decode cX2_call 104 = .ok (.putfield 184, 3) := dk_181 0 184 (dk_at dksX2_call_4 15 rfl rfl)
theorem dX2_call_107 : decode cX2_call 107 = .ok (.aload_n 0, 1) := dk_42 (dk_at dksX2_call_4 18 rfl rfl)
theorem dX2_call_108 : decode cX2_call 108 = .ok (.iload_n 3, 1) := dk_29 (dk_at dksX2_call_4 19 rfl rfl)
theorem dX2_call_109 : decode cX2_call 109 = .ok (.putfield 187, 3) := dk_181 0 187 (dk_at dksX2_call_4 20 rfl rfl)
theorem dX2_call_112 : decode cX2_call 112 = .ok (.aload_n 0, 1) := dk_42 (dk_at dksX2_call_4 23 rfl rfl)
theorem dX2_call_113 : decode cX2_call 113 = .ok (.getfield 181, 3) := dk_180 0 181 (dk_at dksX2_call_5 0 rfl rfl)
theorem dX2_call_116 : decode cX2_call 116 = .ok (.ireturn, 1) := dk_172 (dk_at dksX2_call_5 3 rfl rfl)
abbrev cX2_seed : ByteArray := prog_14_method_28_code
def yX2_seed : MethodName := ⟨RX2, "seed", "(II)I"⟩
def dkwX2_seed_2 : List UInt8 := [42, 180, 0, 45, 27, 46, 54, 4, 42, 180, 0, 45, 27, 28, 79, 21, 4, 172]
abbrev dktX2_seed_2 : List UInt8 := dkwX2_seed_2 ++ []
def dkwX2_seed_1 : List UInt8 := [159, 0, 11, 42, 180, 0, 41, 5, 160, 0, 7, 4, 167, 0, 4, 3, 182, 0, 140, 154, 0, 5, 3, 172]
abbrev dktX2_seed_1 : List UInt8 := dkwX2_seed_1 ++ dktX2_seed_2
def dkwX2_seed_0 : List UInt8 := [27, 3, 7, 184, 0, 111, 62, 42, 29, 28, 3, 17, 39, 15, 184, 0, 111, 42, 180, 0, 41, 4]
abbrev dktX2_seed_0 : List UInt8 := dkwX2_seed_0 ++ dktX2_seed_1
theorem dksX2_seed_0 : cX2_seed.data.toList.drop 0 = dktX2_seed_0 := by decide +kernel
theorem dksX2_seed_1 : cX2_seed.data.toList.drop 22 = dktX2_seed_1 := dk_seg dksX2_seed_0 22 rfl rfl
theorem dksX2_seed_2 : cX2_seed.data.toList.drop 46 = dktX2_seed_2 := dk_seg dksX2_seed_1 24 rfl rfl
theorem dX2_seed_0 : decode cX2_seed 0 = .ok (.iload_n 1, 1) := dk_27 (dk_at dksX2_seed_0 0 rfl rfl)
theorem dX2_seed_1 : decode cX2_seed 1 = .ok (.iconst 0, 1) := dk_3 (dk_at dksX2_seed_0 1 rfl rfl)
theorem dX2_seed_2 : decode cX2_seed 2 = .ok (.iconst 4, 1) := dk_7 (dk_at dksX2_seed_0 2 rfl rfl)
theorem dX2_seed_3 : decode cX2_seed 3 = .ok (.invokestatic 111, 3) := dk_184 0 111 (dk_at dksX2_seed_0 3 rfl rfl)
theorem dX2_seed_6 : decode cX2_seed 6 = .ok (.istore_n 3, 1) := dk_62 (dk_at dksX2_seed_0 6 rfl rfl)
theorem dX2_seed_7 : decode cX2_seed 7 = .ok (.aload_n 0, 1) := dk_42 (dk_at dksX2_seed_0 7 rfl rfl)
theorem dX2_seed_8 : decode cX2_seed 8 = .ok (.iload_n 3, 1) := dk_29 (dk_at dksX2_seed_0 8 rfl rfl)
theorem dX2_seed_9 : decode cX2_seed 9 = .ok (.iload_n 2, 1) := dk_28 (dk_at dksX2_seed_0 9 rfl rfl)
theorem dX2_seed_10 : decode cX2_seed 10 = .ok (.iconst 0, 1) := dk_3 (dk_at dksX2_seed_0 10 rfl rfl)
theorem dX2_seed_11 : decode cX2_seed 11 = .ok (.sipush 9999, 3) := dk_17 39 15 (dk_at dksX2_seed_0 11 rfl rfl)
theorem dX2_seed_14 : decode cX2_seed 14 = .ok (.invokestatic 111, 3) := dk_184 0 111 (dk_at dksX2_seed_0 14 rfl rfl)
theorem dX2_seed_17 : decode cX2_seed 17 = .ok (.aload_n 0, 1) := dk_42 (dk_at dksX2_seed_0 17 rfl rfl)
theorem dX2_seed_18 : decode cX2_seed 18 = .ok (.getfield 41, 3) := dk_180 0 41 (dk_at dksX2_seed_0 18 rfl rfl)
theorem dX2_seed_21 : decode cX2_seed 21 = .ok (.iconst 1, 1) := dk_4 (dk_at dksX2_seed_0 21 rfl rfl)
theorem dX2_seed_22 : decode cX2_seed 22 = .ok (.if_icmp .eq 11, 3) := dk_159 0 11 (dk_at dksX2_seed_1 0 rfl rfl)
theorem dX2_seed_25 : decode cX2_seed 25 = .ok (.aload_n 0, 1) := dk_42 (dk_at dksX2_seed_1 3 rfl rfl)
theorem dX2_seed_26 : decode cX2_seed 26 = .ok (.getfield 41, 3) := dk_180 0 41 (dk_at dksX2_seed_1 4 rfl rfl)
theorem dX2_seed_29 : decode cX2_seed 29 = .ok (.iconst 2, 1) := dk_5 (dk_at dksX2_seed_1 7 rfl rfl)
theorem dX2_seed_30 : decode cX2_seed 30 = .ok (.if_icmp .ne 7, 3) := dk_160 0 7 (dk_at dksX2_seed_1 8 rfl rfl)
theorem dX2_seed_33 : decode cX2_seed 33 = .ok (.iconst 1, 1) := dk_4 (dk_at dksX2_seed_1 11 rfl rfl)
theorem dX2_seed_34 : decode cX2_seed 34 = .ok (.goto 4, 3) := dk_167 0 4 (dk_at dksX2_seed_1 12 rfl rfl)
theorem dX2_seed_37 : decode cX2_seed 37 = .ok (.iconst 0, 1) := dk_3 (dk_at dksX2_seed_1 15 rfl rfl)
theorem dX2_seed_38 : decode cX2_seed 38 = .ok (.invokevirtual 140, 3) := dk_182 0 140 (dk_at dksX2_seed_1 16 rfl rfl)
theorem dX2_seed_41 : decode cX2_seed 41 = .ok (.ifCond .ne 5, 3) := dk_154 0 5 (dk_at dksX2_seed_1 19 rfl rfl)
theorem dX2_seed_44 : decode cX2_seed 44 = .ok (.iconst 0, 1) := dk_3 (dk_at dksX2_seed_1 22 rfl rfl)
theorem dX2_seed_45 : decode cX2_seed 45 = .ok (.ireturn, 1) := dk_172 (dk_at dksX2_seed_1 23 rfl rfl)
theorem dX2_seed_46 : decode cX2_seed 46 = .ok (.aload_n 0, 1) := dk_42 (dk_at dksX2_seed_2 0 rfl rfl)
theorem dX2_seed_47 : decode cX2_seed 47 = .ok (.getfield 45, 3) := dk_180 0 45 (dk_at dksX2_seed_2 1 rfl rfl)
theorem dX2_seed_50 : decode cX2_seed 50 = .ok (.iload_n 1, 1) := dk_27 (dk_at dksX2_seed_2 4 rfl rfl)
theorem dX2_seed_51 : decode cX2_seed 51 = .ok (.iaload, 1) := dk_46 (dk_at dksX2_seed_2 5 rfl rfl)
theorem dX2_seed_52 : decode cX2_seed 52 = .ok (.istore 4, 2) := dk_54 4 (dk_at dksX2_seed_2 6 rfl rfl)
theorem dX2_seed_54 : decode cX2_seed 54 = .ok (.aload_n 0, 1) := dk_42 (dk_at dksX2_seed_2 8 rfl rfl)
theorem dX2_seed_55 : decode cX2_seed 55 = .ok (.getfield 45, 3) := dk_180 0 45 (dk_at dksX2_seed_2 9 rfl rfl)
theorem dX2_seed_58 : decode cX2_seed 58 = .ok (.iload_n 1, 1) := dk_27 (dk_at dksX2_seed_2 12 rfl rfl)
theorem dX2_seed_59 : decode cX2_seed 59 = .ok (.iload_n 2, 1) := dk_28 (dk_at dksX2_seed_2 13 rfl rfl)
theorem dX2_seed_60 : decode cX2_seed 60 = .ok (.iastore, 1) := dk_79 (dk_at dksX2_seed_2 14 rfl rfl)
theorem dX2_seed_61 : decode cX2_seed 61 = .ok (.iload 4, 2) := dk_21 4 (dk_at dksX2_seed_2 15 rfl rfl)
theorem dX2_seed_63 : decode cX2_seed 63 = .ok (.ireturn, 1) := dk_172 (dk_at dksX2_seed_2 17 rfl rfl)
abbrev cX2_advance : ByteArray := prog_14_method_33_code
def yX2_advance : MethodName := ⟨RX2, "advance", "(I)I"⟩
def dkwX2_advance_5 : List UInt8 := [160, 0, 7, 42, 182, 0, 201, 132, 3, 1, 167, 255, 170, 42, 180, 0, 149, 172]
abbrev dktX2_advance_5 : List UInt8 := dkwX2_advance_5 ++ []
def dkwX2_advance_4 : List UInt8 := [42, 180, 0, 149, 42, 180, 0, 181, 160, 0, 11, 42, 6, 181, 0, 41, 167, 0, 15, 42, 180, 0, 41, 6]
abbrev dktX2_advance_4 : List UInt8 := dkwX2_advance_4 ++ dktX2_advance_5
def dkwX2_advance_3 : List UInt8 := [180, 0, 181, 16, 6, 100, 160, 0, 10, 42, 182, 0, 198, 167, 0, 42, 42, 180, 0, 41, 5, 160, 0, 22]
abbrev dktX2_advance_3 : List UInt8 := dkwX2_advance_3 ++ dktX2_advance_4
def dkwX2_advance_2 : List UInt8 := [89, 180, 0, 149, 4, 96, 181, 0, 149, 42, 180, 0, 41, 4, 160, 0, 24, 42, 180, 0, 149, 42]
abbrev dktX2_advance_2 : List UInt8 := dkwX2_advance_2 ++ dktX2_advance_3
def dkwX2_advance_1 : List UInt8 := [163, 0, 7, 4, 167, 0, 4, 3, 182, 0, 129, 154, 0, 5, 3, 172, 3, 62, 29, 27, 162, 0, 87, 42]
abbrev dktX2_advance_1 : List UInt8 := dkwX2_advance_1 ++ dktX2_advance_2
def dkwX2_advance_0 : List UInt8 := [27, 4, 16, 100, 184, 0, 111, 61, 42, 28, 28, 153, 0, 19, 42, 180, 0, 149, 27, 96, 17, 8, 52]
abbrev dktX2_advance_0 : List UInt8 := dkwX2_advance_0 ++ dktX2_advance_1
theorem dksX2_advance_0 : cX2_advance.data.toList.drop 0 = dktX2_advance_0 := by decide +kernel
theorem dksX2_advance_1 : cX2_advance.data.toList.drop 23 = dktX2_advance_1 := dk_seg dksX2_advance_0 23 rfl rfl
theorem dksX2_advance_2 : cX2_advance.data.toList.drop 47 = dktX2_advance_2 := dk_seg dksX2_advance_1 24 rfl rfl
theorem dksX2_advance_3 : cX2_advance.data.toList.drop 69 = dktX2_advance_3 := dk_seg dksX2_advance_2 22 rfl rfl
theorem dksX2_advance_4 : cX2_advance.data.toList.drop 93 = dktX2_advance_4 := dk_seg dksX2_advance_3 24 rfl rfl
theorem dksX2_advance_5 : cX2_advance.data.toList.drop 117 = dktX2_advance_5 := dk_seg dksX2_advance_4 24 rfl rfl
theorem dX2_advance_0 : decode cX2_advance 0 = .ok (.iload_n 1, 1) := dk_27 (dk_at dksX2_advance_0 0 rfl rfl)
theorem dX2_advance_1 : decode cX2_advance 1 = .ok (.iconst 1, 1) := dk_4 (dk_at dksX2_advance_0 1 rfl rfl)
theorem dX2_advance_2 : decode cX2_advance 2 = .ok (.bipush 100, 2) := dk_16 100 (dk_at dksX2_advance_0 2 rfl rfl)
theorem dX2_advance_4 : decode cX2_advance 4 = .ok (.invokestatic 111, 3) := dk_184 0 111 (dk_at dksX2_advance_0 4 rfl rfl)
theorem dX2_advance_7 : decode cX2_advance 7 = .ok (.istore_n 2, 1) := dk_61 (dk_at dksX2_advance_0 7 rfl rfl)
theorem dX2_advance_8 : decode cX2_advance 8 = .ok (.aload_n 0, 1) := dk_42 (dk_at dksX2_advance_0 8 rfl rfl)
theorem dX2_advance_9 : decode cX2_advance 9 = .ok (.iload_n 2, 1) := dk_28 (dk_at dksX2_advance_0 9 rfl rfl)
theorem dX2_advance_10 : decode cX2_advance 10 = .ok (.iload_n 2, 1) := dk_28 (dk_at dksX2_advance_0 10 rfl rfl)
theorem dX2_advance_11 : decode cX2_advance 11 = .ok (.ifCond .eq 19, 3) := dk_153 0 19 (dk_at dksX2_advance_0 11 rfl rfl)
theorem dX2_advance_14 : decode cX2_advance 14 = .ok (.aload_n 0, 1) := dk_42 (dk_at dksX2_advance_0 14 rfl rfl)
theorem dX2_advance_15 : decode cX2_advance 15 = .ok (.getfield 149, 3) := dk_180 0 149 (dk_at dksX2_advance_0 15 rfl rfl)
theorem dX2_advance_18 : decode cX2_advance 18 = .ok (.iload_n 1, 1) := dk_27 (dk_at dksX2_advance_0 18 rfl rfl)
theorem dX2_advance_19 : decode cX2_advance 19 = .ok (.iadd, 1) := dk_96 (dk_at dksX2_advance_0 19 rfl rfl)
theorem dX2_advance_20 : decode cX2_advance 20 = .ok (.sipush 2100, 3) := dk_17 8 52 (dk_at dksX2_advance_0 20 rfl rfl)
theorem dX2_advance_23 : decode cX2_advance 23 = .ok (.if_icmp .gt 7, 3) := dk_163 0 7 (dk_at dksX2_advance_1 0 rfl rfl)
theorem dX2_advance_26 : decode cX2_advance 26 = .ok (.iconst 1, 1) := dk_4 (dk_at dksX2_advance_1 3 rfl rfl)
theorem dX2_advance_27 : decode cX2_advance 27 = .ok (.goto 4, 3) := dk_167 0 4 (dk_at dksX2_advance_1 4 rfl rfl)
theorem dX2_advance_30 : decode cX2_advance 30 = .ok (.iconst 0, 1) := dk_3 (dk_at dksX2_advance_1 7 rfl rfl)
theorem dX2_advance_31 : decode cX2_advance 31 = .ok (.invokevirtual 129, 3) := dk_182 0 129 (dk_at dksX2_advance_1 8 rfl rfl)
theorem dX2_advance_34 : decode cX2_advance 34 = .ok (.ifCond .ne 5, 3) := dk_154 0 5 (dk_at dksX2_advance_1 11 rfl rfl)
theorem dX2_advance_37 : decode cX2_advance 37 = .ok (.iconst 0, 1) := dk_3 (dk_at dksX2_advance_1 14 rfl rfl)
theorem dX2_advance_38 : decode cX2_advance 38 = .ok (.ireturn, 1) := dk_172 (dk_at dksX2_advance_1 15 rfl rfl)
theorem dX2_advance_39 : decode cX2_advance 39 = .ok (.iconst 0, 1) := dk_3 (dk_at dksX2_advance_1 16 rfl rfl)
theorem dX2_advance_40 : decode cX2_advance 40 = .ok (.istore_n 3, 1) := dk_62 (dk_at dksX2_advance_1 17 rfl rfl)
theorem dX2_advance_41 : decode cX2_advance 41 = .ok (.iload_n 3, 1) := dk_29 (dk_at dksX2_advance_1 18 rfl rfl)
theorem dX2_advance_42 : decode cX2_advance 42 = .ok (.iload_n 1, 1) := dk_27 (dk_at dksX2_advance_1 19 rfl rfl)
theorem dX2_advance_43 : decode cX2_advance 43 = .ok (.if_icmp .ge 87, 3) := dk_162 0 87 (dk_at dksX2_advance_1 20 rfl rfl)
theorem dX2_advance_46 : decode cX2_advance 46 = .ok (.aload_n 0, 1) := dk_42 (dk_at dksX2_advance_1 23 rfl rfl)
theorem dX2_advance_47 : decode cX2_advance 47 = .ok (.dup, 1) := dk_89 (dk_at dksX2_advance_2 0 rfl rfl)
theorem dX2_advance_48 : decode cX2_advance 48 = .ok (.getfield 149, 3) := dk_180 0 149 (dk_at dksX2_advance_2 1 rfl rfl)
theorem dX2_advance_51 : decode cX2_advance 51 = .ok (.iconst 1, 1) := dk_4 (dk_at dksX2_advance_2 4 rfl rfl)
theorem dX2_advance_52 : decode cX2_advance 52 = .ok (.iadd, 1) := dk_96 (dk_at dksX2_advance_2 5 rfl rfl)
theorem dX2_advance_53 : decode cX2_advance 53 = .ok (.putfield 149, 3) := dk_181 0 149 (dk_at dksX2_advance_2 6 rfl rfl)
theorem dX2_advance_56 : decode cX2_advance 56 = .ok (.aload_n 0, 1) := dk_42 (dk_at dksX2_advance_2 9 rfl rfl)
theorem dX2_advance_57 : decode cX2_advance 57 = .ok (.getfield 41, 3) := dk_180 0 41 (dk_at dksX2_advance_2 10 rfl rfl)
theorem dX2_advance_60 : decode cX2_advance 60 = .ok (.iconst 1, 1) := dk_4 (dk_at dksX2_advance_2 13 rfl rfl)
theorem dX2_advance_61 : decode cX2_advance 61 = .ok (.if_icmp .ne 24, 3) := dk_160 0 24 (dk_at dksX2_advance_2 14 rfl rfl)
theorem dX2_advance_64 : decode cX2_advance 64 = .ok (.aload_n 0, 1) := dk_42 (dk_at dksX2_advance_2 17 rfl rfl)
theorem dX2_advance_65 : decode cX2_advance 65 = .ok (.getfield 149, 3) := dk_180 0 149 (dk_at dksX2_advance_2 18 rfl rfl)
theorem dX2_advance_68 : decode cX2_advance 68 = .ok (.aload_n 0, 1) := dk_42 (dk_at dksX2_advance_2 21 rfl rfl)
theorem dX2_advance_69 : decode cX2_advance 69 = .ok (.getfield 181, 3) := dk_180 0 181 (dk_at dksX2_advance_3 0 rfl rfl)
theorem dX2_advance_72 : decode cX2_advance 72 = .ok (.bipush 6, 2) := dk_16 6 (dk_at dksX2_advance_3 3 rfl rfl)
theorem dX2_advance_74 : decode cX2_advance 74 = .ok (.isub, 1) := dk_100 (dk_at dksX2_advance_3 5 rfl rfl)
theorem dX2_advance_75 : decode cX2_advance 75 = .ok (.if_icmp .ne 10, 3) := dk_160 0 10 (dk_at dksX2_advance_3 6 rfl rfl)
theorem dX2_advance_78 : decode cX2_advance 78 = .ok (.aload_n 0, 1) := dk_42 (dk_at dksX2_advance_3 9 rfl rfl)
theorem dX2_advance_79 : decode cX2_advance 79 = .ok (.invokevirtual 198, 3) := dk_182 0 198 (dk_at dksX2_advance_3 10 rfl rfl)
theorem dX2_advance_82 : decode cX2_advance 82 = .ok (.goto 42, 3) := dk_167 0 42 (dk_at dksX2_advance_3 13 rfl rfl)
theorem dX2_advance_85 : decode cX2_advance 85 = .ok (.aload_n 0, 1) := dk_42 (dk_at dksX2_advance_3 16 rfl rfl)
theorem dX2_advance_86 : decode cX2_advance 86 = .ok (.getfield 41, 3) := dk_180 0 41 (dk_at dksX2_advance_3 17 rfl rfl)
theorem dX2_advance_89 : decode cX2_advance 89 = .ok (.iconst 2, 1) := dk_5 (dk_at dksX2_advance_3 20 rfl rfl)
theorem dX2_advance_90 : decode cX2_advance 90 = .ok (.if_icmp .ne 22, 3) := dk_160 0 22 (dk_at dksX2_advance_3 21 rfl rfl)
theorem dX2_advance_93 : decode cX2_advance 93 = .ok (.aload_n 0, 1) := dk_42 (dk_at dksX2_advance_4 0 rfl rfl)
theorem dX2_advance_94 : decode cX2_advance 94 = .ok (.getfield 149, 3) := dk_180 0 149 (dk_at dksX2_advance_4 1 rfl rfl)
theorem dX2_advance_97 : decode cX2_advance 97 = .ok (.aload_n 0, 1) := dk_42 (dk_at dksX2_advance_4 4 rfl rfl)
theorem dX2_advance_98 : decode cX2_advance 98 = .ok (.getfield 181, 3) := dk_180 0 181 (dk_at dksX2_advance_4 5 rfl rfl)
theorem dX2_advance_101 : decode cX2_advance 101 = .ok (.if_icmp .ne 11, 3) := dk_160 0 11 (dk_at dksX2_advance_4 8 rfl rfl)
theorem dX2_advance_104 : decode cX2_advance 104 = .ok (.aload_n 0, 1) := dk_42 (dk_at dksX2_advance_4 11 rfl rfl)
theorem dX2_advance_105 : decode cX2_advance 105 = .ok (.iconst 3, 1) := dk_6 (dk_at dksX2_advance_4 12 rfl rfl)
theorem dX2_advance_106 : decode cX2_advance 106 = .ok (.putfield 41, 3) := dk_181 0 41 (dk_at dksX2_advance_4 13 rfl rfl)
theorem dX2_advance_109 : decode cX2_advance 109 = .ok (.goto 15, 3) := dk_167 0 15 (dk_at dksX2_advance_4 16 rfl rfl)
theorem dX2_advance_112 : decode cX2_advance 112 = .ok (.aload_n 0, 1) := dk_42 (dk_at dksX2_advance_4 19 rfl rfl)
theorem dX2_advance_113 : decode cX2_advance 113 = .ok (.getfield 41, 3) := dk_180 0 41 (dk_at dksX2_advance_4 20 rfl rfl)
theorem dX2_advance_116 : decode cX2_advance 116 = .ok (.iconst 3, 1) := dk_6 (dk_at dksX2_advance_4 23 rfl rfl)
theorem dX2_advance_117 : decode cX2_advance 117 = .ok (.if_icmp .ne 7, 3) := dk_160 0 7 (dk_at dksX2_advance_5 0 rfl rfl)
theorem dX2_advance_120 : decode cX2_advance 120 = .ok (.aload_n 0, 1) := dk_42 (dk_at dksX2_advance_5 3 rfl rfl)
theorem dX2_advance_121 : decode cX2_advance 121 = .ok (.invokevirtual 201, 3) := dk_182 0 201 (dk_at dksX2_advance_5 4 rfl rfl)
theorem dX2_advance_124 : decode cX2_advance 124 = .ok (.iinc 3 1, 3) := dk_132 3 1 (dk_at dksX2_advance_5 7 rfl rfl)
theorem dX2_advance_127 : decode cX2_advance 127 = .ok (.goto (-86), 3) := dk_167 255 170 (dk_at dksX2_advance_5 10 rfl rfl)
theorem dX2_advance_130 : decode cX2_advance 130 = .ok (.aload_n 0, 1) := dk_42 (dk_at dksX2_advance_5 13 rfl rfl)
theorem dX2_advance_131 : decode cX2_advance 131 = .ok (.getfield 149, 3) := dk_180 0 149 (dk_at dksX2_advance_5 14 rfl rfl)
theorem dX2_advance_134 : decode cX2_advance 134 = .ok (.ireturn, 1) := dk_172 (dk_at dksX2_advance_5 17 rfl rfl)
abbrev cX2_makesRoll : ByteArray := prog_14_method_30_code
def yX2_makesRoll : MethodName := ⟨RX2, "makesRoll", "()V"⟩
def dkwX2_makesRoll_3 : List UInt8 := [180, 0, 51, 42, 180, 0, 48, 27, 46, 92, 46, 4, 96, 79, 132, 1, 1, 167, 255, 182, 177]
abbrev dktX2_makesRoll_3 : List UInt8 := dkwX2_makesRoll_3 ++ []
def dkwX2_makesRoll_2 : List UInt8 := [42, 180, 0, 181, 16, 7, 100, 182, 0, 159, 182, 0, 136, 42, 180, 0, 48, 27, 42, 182, 0, 191, 79, 42]
abbrev dktX2_makesRoll_2 : List UInt8 := dkwX2_makesRoll_2 ++ dktX2_makesRoll_3
def dkwX2_makesRoll_1 : List UInt8 := [180, 0, 29, 27, 51, 154, 0, 57, 42, 180, 0, 26, 27, 46, 42, 180, 0, 181, 163, 0, 44, 42, 42, 27]
abbrev dktX2_makesRoll_1 : List UInt8 := dkwX2_makesRoll_1 ++ dktX2_makesRoll_2
def dkwX2_makesRoll_0 : List UInt8 := [42, 5, 181, 0, 41, 42, 42, 180, 0, 115, 181, 0, 178, 3, 60, 27, 42, 180, 0, 118, 162, 0, 72, 42]
abbrev dktX2_makesRoll_0 : List UInt8 := dkwX2_makesRoll_0 ++ dktX2_makesRoll_1
theorem dksX2_makesRoll_0 : cX2_makesRoll.data.toList.drop 0 = dktX2_makesRoll_0 := by decide +kernel
theorem dksX2_makesRoll_1 : cX2_makesRoll.data.toList.drop 24 = dktX2_makesRoll_1 := dk_seg dksX2_makesRoll_0 24 rfl rfl
theorem dksX2_makesRoll_2 : cX2_makesRoll.data.toList.drop 48 = dktX2_makesRoll_2 := dk_seg dksX2_makesRoll_1 24 rfl rfl
theorem dksX2_makesRoll_3 : cX2_makesRoll.data.toList.drop 72 = dktX2_makesRoll_3 := dk_seg dksX2_makesRoll_2 24 rfl rfl
theorem dX2_makesRoll_0 : decode cX2_makesRoll 0 = .ok (.aload_n 0, 1) := dk_42 (dk_at dksX2_makesRoll_0 0 rfl rfl)
theorem dX2_makesRoll_1 : decode cX2_makesRoll 1 = .ok (.iconst 2, 1) := dk_5 (dk_at dksX2_makesRoll_0 1 rfl rfl)
theorem dX2_makesRoll_2 : decode cX2_makesRoll 2 = .ok (.putfield 41, 3) := dk_181 0 41 (dk_at dksX2_makesRoll_0 2 rfl rfl)
theorem dX2_makesRoll_5 : decode cX2_makesRoll 5 = .ok (.aload_n 0, 1) := dk_42 (dk_at dksX2_makesRoll_0 5 rfl rfl)
theorem dX2_makesRoll_6 : decode cX2_makesRoll 6 = .ok (.aload_n 0, 1) := dk_42 (dk_at dksX2_makesRoll_0 6 rfl rfl)
theorem dX2_makesRoll_7 : decode cX2_makesRoll 7 = .ok (.getfield 115, 3) := dk_180 0 115 (dk_at dksX2_makesRoll_0 7 rfl rfl)
theorem dX2_makesRoll_10 : decode cX2_makesRoll 10 = .ok (.putfield 178, 3) := dk_181 0 178 (dk_at dksX2_makesRoll_0 10 rfl rfl)
theorem dX2_makesRoll_13 : decode cX2_makesRoll 13 = .ok (.iconst 0, 1) := dk_3 (dk_at dksX2_makesRoll_0 13 rfl rfl)
theorem dX2_makesRoll_14 : decode cX2_makesRoll 14 = .ok (.istore_n 1, 1) := dk_60 (dk_at dksX2_makesRoll_0 14 rfl rfl)
theorem dX2_makesRoll_15 : decode cX2_makesRoll 15 = .ok (.iload_n 1, 1) := dk_27 (dk_at dksX2_makesRoll_0 15 rfl rfl)
theorem dX2_makesRoll_16 : decode cX2_makesRoll 16 = .ok (.aload_n 0, 1) := dk_42 (dk_at dksX2_makesRoll_0 16 rfl rfl)
theorem dX2_makesRoll_17 : decode cX2_makesRoll 17 = .ok (.getfield 118, 3) := dk_180 0 118 (dk_at dksX2_makesRoll_0 17 rfl rfl)
theorem dX2_makesRoll_20 : decode cX2_makesRoll 20 = .ok (.if_icmp .ge 72, 3) := dk_162 0 72 (dk_at dksX2_makesRoll_0 20 rfl rfl)
theorem dX2_makesRoll_23 : decode cX2_makesRoll 23 = .ok (.aload_n 0, 1) := dk_42 (dk_at dksX2_makesRoll_0 23 rfl rfl)
theorem dX2_makesRoll_24 : decode cX2_makesRoll 24 = .ok (.getfield 29, 3) := dk_180 0 29 (dk_at dksX2_makesRoll_1 0 rfl rfl)
theorem dX2_makesRoll_27 : decode cX2_makesRoll 27 = .ok (.iload_n 1, 1) := dk_27 (dk_at dksX2_makesRoll_1 3 rfl rfl)
theorem dX2_makesRoll_28 : decode cX2_makesRoll 28 = .ok (.baload, 1) := dk_51 (dk_at dksX2_makesRoll_1 4 rfl rfl)
theorem dX2_makesRoll_29 : decode cX2_makesRoll 29 = .ok (.ifCond .ne 57, 3) := dk_154 0 57 (dk_at dksX2_makesRoll_1 5 rfl rfl)
theorem dX2_makesRoll_32 : decode cX2_makesRoll 32 = .ok (.aload_n 0, 1) := dk_42 (dk_at dksX2_makesRoll_1 8 rfl rfl)
theorem dX2_makesRoll_33 : decode cX2_makesRoll 33 = .ok (.getfield 26, 3) := dk_180 0 26 (dk_at dksX2_makesRoll_1 9 rfl rfl)
theorem dX2_makesRoll_36 : decode cX2_makesRoll 36 = .ok (.iload_n 1, 1) := dk_27 (dk_at dksX2_makesRoll_1 12 rfl rfl)
theorem dX2_makesRoll_37 : decode cX2_makesRoll 37 = .ok (.iaload, 1) := dk_46 (dk_at dksX2_makesRoll_1 13 rfl rfl)
theorem dX2_makesRoll_38 : decode cX2_makesRoll 38 = .ok (.aload_n 0, 1) := dk_42 (dk_at dksX2_makesRoll_1 14 rfl rfl)
theorem dX2_makesRoll_39 : decode cX2_makesRoll 39 = .ok (.getfield 181, 3) := dk_180 0 181 (dk_at dksX2_makesRoll_1 15 rfl rfl)
theorem dX2_makesRoll_42 : decode cX2_makesRoll 42 = .ok (.if_icmp .gt 44, 3) := dk_163 0 44 (dk_at dksX2_makesRoll_1 18 rfl rfl)
theorem dX2_makesRoll_45 : decode cX2_makesRoll 45 = .ok (.aload_n 0, 1) := dk_42 (dk_at dksX2_makesRoll_1 21 rfl rfl)
theorem dX2_makesRoll_46 : decode cX2_makesRoll 46 = .ok (.aload_n 0, 1) := dk_42 (dk_at dksX2_makesRoll_1 22 rfl rfl)
theorem dX2_makesRoll_47 : decode cX2_makesRoll 47 = .ok (.iload_n 1, 1) := dk_27 (dk_at dksX2_makesRoll_1 23 rfl rfl)
theorem dX2_makesRoll_48 : decode cX2_makesRoll 48 = .ok (.aload_n 0, 1) := dk_42 (dk_at dksX2_makesRoll_2 0 rfl rfl)
theorem dX2_makesRoll_49 : decode cX2_makesRoll 49 = .ok (.getfield 181, 3) := dk_180 0 181 (dk_at dksX2_makesRoll_2 1 rfl rfl)
theorem dX2_makesRoll_52 : decode cX2_makesRoll 52 = .ok (.bipush 7, 2) := dk_16 7 (dk_at dksX2_makesRoll_2 4 rfl rfl)
theorem dX2_makesRoll_54 : decode cX2_makesRoll 54 = .ok (.isub, 1) := dk_100 (dk_at dksX2_makesRoll_2 6 rfl rfl)
theorem dX2_makesRoll_55 : decode cX2_makesRoll 55 = .ok (.invokevirtual 159, 3) := dk_182 0 159 (dk_at dksX2_makesRoll_2 7 rfl rfl)
theorem dX2_makesRoll_58 : decode cX2_makesRoll 58 = .ok (.invokevirtual 136, 3) := dk_182 0 136 (dk_at dksX2_makesRoll_2 10 rfl rfl)
theorem dX2_makesRoll_61 : decode cX2_makesRoll 61 = .ok (.aload_n 0, 1) := dk_42 (dk_at dksX2_makesRoll_2 13 rfl rfl)
theorem dX2_makesRoll_62 : decode cX2_makesRoll 62 = .ok (.getfield 48, 3) := dk_180 0 48 (dk_at dksX2_makesRoll_2 14 rfl rfl)
theorem dX2_makesRoll_65 : decode cX2_makesRoll 65 = .ok (.iload_n 1, 1) := dk_27 (dk_at dksX2_makesRoll_2 17 rfl rfl)
theorem dX2_makesRoll_66 : decode cX2_makesRoll 66 = .ok (.aload_n 0, 1) := dk_42 (dk_at dksX2_makesRoll_2 18 rfl rfl)
theorem dX2_makesRoll_67 : decode cX2_makesRoll 67 = .ok (.invokevirtual 191, 3) := dk_182 0 191 (dk_at dksX2_makesRoll_2 19 rfl rfl)
theorem dX2_makesRoll_70 : decode cX2_makesRoll 70 = .ok (.iastore, 1) := dk_79 (dk_at dksX2_makesRoll_2 22 rfl rfl)
theorem dX2_makesRoll_71 : decode cX2_makesRoll 71 = .ok (.aload_n 0, 1) := dk_42 (dk_at dksX2_makesRoll_2 23 rfl rfl)
theorem dX2_makesRoll_72 : decode cX2_makesRoll 72 = .ok (.getfield 51, 3) := dk_180 0 51 (dk_at dksX2_makesRoll_3 0 rfl rfl)
theorem dX2_makesRoll_75 : decode cX2_makesRoll 75 = .ok (.aload_n 0, 1) := dk_42 (dk_at dksX2_makesRoll_3 3 rfl rfl)
theorem dX2_makesRoll_76 : decode cX2_makesRoll 76 = .ok (.getfield 48, 3) := dk_180 0 48 (dk_at dksX2_makesRoll_3 4 rfl rfl)
theorem dX2_makesRoll_79 : decode cX2_makesRoll 79 = .ok (.iload_n 1, 1) := dk_27 (dk_at dksX2_makesRoll_3 7 rfl rfl)
theorem dX2_makesRoll_80 : decode cX2_makesRoll 80 = .ok (.iaload, 1) := dk_46 (dk_at dksX2_makesRoll_3 8 rfl rfl)
theorem dX2_makesRoll_81 : decode cX2_makesRoll 81 = .ok (.dup2, 1) := dk_92 (dk_at dksX2_makesRoll_3 9 rfl rfl)
theorem dX2_makesRoll_82 : decode cX2_makesRoll 82 = .ok (.iaload, 1) := dk_46 (dk_at dksX2_makesRoll_3 10 rfl rfl)
theorem dX2_makesRoll_83 : decode cX2_makesRoll 83 = .ok (.iconst 1, 1) := dk_4 (dk_at dksX2_makesRoll_3 11 rfl rfl)
theorem dX2_makesRoll_84 : decode cX2_makesRoll 84 = .ok (.iadd, 1) := dk_96 (dk_at dksX2_makesRoll_3 12 rfl rfl)
theorem dX2_makesRoll_85 : decode cX2_makesRoll 85 = .ok (.iastore, 1) := dk_79 (dk_at dksX2_makesRoll_3 13 rfl rfl)
theorem dX2_makesRoll_86 : decode cX2_makesRoll 86 = .ok (.iinc 1 1, 3) := dk_132 1 1 (dk_at dksX2_makesRoll_3 14 rfl rfl)
theorem dX2_makesRoll_89 : decode cX2_makesRoll 89 = .ok (.goto (-74), 3) := dk_167 255 182 (dk_at dksX2_makesRoll_3 17 rfl rfl)
theorem dX2_makesRoll_92 : decode cX2_makesRoll 92 = .ok (.return_, 1) := dk_177 (dk_at dksX2_makesRoll_3 20 rfl rfl)
abbrev cX2_stationFor : ByteArray := prog_14_method_29_code
def yX2_stationFor : MethodName := ⟨RX2, "stationFor", "()I"⟩
def dkwX2_stationFor_6 : List UInt8 := [160, 0, 7, 3, 167, 0, 4, 27, 172]
abbrev dktX2_stationFor_6 : List UInt8 := dkwX2_stationFor_6 ++ []
def dkwX2_stationFor_5 : List UInt8 := [46, 42, 180, 0, 51, 27, 46, 162, 0, 7, 28, 167, 0, 4, 27, 60, 132, 2, 1, 167, 255, 204, 27, 2]
abbrev dktX2_stationFor_5 : List UInt8 := dkwX2_stationFor_5 ++ dktX2_stationFor_6
def dkwX2_stationFor_4 : List UInt8 := [180, 0, 13, 42, 180, 0, 20, 28, 46, 46, 2, 159, 0, 27, 27, 2, 159, 0, 18, 42, 180, 0, 51, 28]
abbrev dktX2_stationFor_4 : List UInt8 := dkwX2_stationFor_4 ++ dktX2_stationFor_5
def dkwX2_stationFor_3 : List UInt8 := [132, 2, 1, 167, 255, 187, 27, 2, 159, 0, 5, 27, 172, 3, 61, 28, 42, 180, 0, 178, 162, 0, 50, 42]
abbrev dktX2_stationFor_3 : List UInt8 := dkwX2_stationFor_3 ++ dktX2_stationFor_4
def dkwX2_stationFor_2 : List UInt8 := [159, 0, 18, 29, 42, 180, 0, 13, 42, 180, 0, 20, 27, 46, 46, 162, 0, 7, 28, 167, 0, 4, 27, 60]
abbrev dktX2_stationFor_2 : List UInt8 := dkwX2_stationFor_2 ++ dktX2_stationFor_3
def dkwX2_stationFor_1 : List UInt8 := [29, 2, 159, 0, 42, 42, 180, 0, 51, 28, 46, 42, 180, 0, 23, 28, 46, 162, 0, 27, 27, 2]
abbrev dktX2_stationFor_1 : List UInt8 := dkwX2_stationFor_1 ++ dktX2_stationFor_2
def dkwX2_stationFor_0 : List UInt8 := [2, 60, 3, 61, 28, 42, 180, 0, 178, 162, 0, 67, 42, 180, 0, 13, 42, 180, 0, 20, 28, 46, 46, 62]
abbrev dktX2_stationFor_0 : List UInt8 := dkwX2_stationFor_0 ++ dktX2_stationFor_1
theorem dksX2_stationFor_0 : cX2_stationFor.data.toList.drop 0 = dktX2_stationFor_0 := by decide +kernel
theorem dksX2_stationFor_1 : cX2_stationFor.data.toList.drop 24 = dktX2_stationFor_1 := dk_seg dksX2_stationFor_0 24 rfl rfl
theorem dksX2_stationFor_2 : cX2_stationFor.data.toList.drop 46 = dktX2_stationFor_2 := dk_seg dksX2_stationFor_1 22 rfl rfl
theorem dksX2_stationFor_3 : cX2_stationFor.data.toList.drop 70 = dktX2_stationFor_3 := dk_seg dksX2_stationFor_2 24 rfl rfl
theorem dksX2_stationFor_4 : cX2_stationFor.data.toList.drop 94 = dktX2_stationFor_4 := dk_seg dksX2_stationFor_3 24 rfl rfl
theorem dksX2_stationFor_5 : cX2_stationFor.data.toList.drop 118 = dktX2_stationFor_5 := dk_seg dksX2_stationFor_4 24 rfl rfl
theorem dksX2_stationFor_6 : cX2_stationFor.data.toList.drop 142 = dktX2_stationFor_6 := dk_seg dksX2_stationFor_5 24 rfl rfl
theorem dX2_stationFor_0 : decode cX2_stationFor 0 = .ok (.iconst (-1), 1) := dk_2 (dk_at dksX2_stationFor_0 0 rfl rfl)
theorem dX2_stationFor_1 : decode cX2_stationFor 1 = .ok (.istore_n 1, 1) := dk_60 (dk_at dksX2_stationFor_0 1 rfl rfl)
theorem dX2_stationFor_2 : decode cX2_stationFor 2 = .ok (.iconst 0, 1) := dk_3 (dk_at dksX2_stationFor_0 2 rfl rfl)
theorem dX2_stationFor_3 : decode cX2_stationFor 3 = .ok (.istore_n 2, 1) := dk_61 (dk_at dksX2_stationFor_0 3 rfl rfl)
theorem dX2_stationFor_4 : decode cX2_stationFor 4 = .ok (.iload_n 2, 1) := dk_28 (dk_at dksX2_stationFor_0 4 rfl rfl)
theorem dX2_stationFor_5 : decode cX2_stationFor 5 = .ok (.aload_n 0, 1) := dk_42 (dk_at dksX2_stationFor_0 5 rfl rfl)
theorem dX2_stationFor_6 : decode cX2_stationFor 6 = .ok (.getfield 178, 3) := dk_180 0 178 (dk_at dksX2_stationFor_0 6 rfl rfl)
theorem dX2_stationFor_9 : decode cX2_stationFor 9 = .ok (.if_icmp .ge 67, 3) := dk_162 0 67 (dk_at dksX2_stationFor_0 9 rfl rfl)
theorem dX2_stationFor_12 : decode cX2_stationFor 12 = .ok (.aload_n 0, 1) := dk_42 (dk_at dksX2_stationFor_0 12 rfl rfl)
theorem dX2_stationFor_13 : decode cX2_stationFor 13 = .ok (.getfield 13, 3) := dk_180 0 13 (dk_at dksX2_stationFor_0 13 rfl rfl)
theorem dX2_stationFor_16 : decode cX2_stationFor 16 = .ok (.aload_n 0, 1) := dk_42 (dk_at dksX2_stationFor_0 16 rfl rfl)
theorem dX2_stationFor_17 : decode cX2_stationFor 17 = .ok (.getfield 20, 3) := dk_180 0 20 (dk_at dksX2_stationFor_0 17 rfl rfl)
theorem dX2_stationFor_20 : decode cX2_stationFor 20 = .ok (.iload_n 2, 1) := dk_28 (dk_at dksX2_stationFor_0 20 rfl rfl)
theorem dX2_stationFor_21 : decode cX2_stationFor 21 = .ok (.iaload, 1) := dk_46 (dk_at dksX2_stationFor_0 21 rfl rfl)
theorem dX2_stationFor_22 : decode cX2_stationFor 22 = .ok (.iaload, 1) := dk_46 (dk_at dksX2_stationFor_0 22 rfl rfl)
theorem dX2_stationFor_23 : decode cX2_stationFor 23 = .ok (.istore_n 3, 1) := dk_62 (dk_at dksX2_stationFor_0 23 rfl rfl)
theorem dX2_stationFor_24 : decode cX2_stationFor 24 = .ok (.iload_n 3, 1) := dk_29 (dk_at dksX2_stationFor_1 0 rfl rfl)
theorem dX2_stationFor_25 : decode cX2_stationFor 25 = .ok (.iconst (-1), 1) := dk_2 (dk_at dksX2_stationFor_1 1 rfl rfl)
theorem dX2_stationFor_26 : decode cX2_stationFor 26 = .ok (.if_icmp .eq 42, 3) := dk_159 0 42 (dk_at dksX2_stationFor_1 2 rfl rfl)
theorem dX2_stationFor_29 : decode cX2_stationFor 29 = .ok (.aload_n 0, 1) := dk_42 (dk_at dksX2_stationFor_1 5 rfl rfl)
theorem dX2_stationFor_30 : decode cX2_stationFor 30 = .ok (.getfield 51, 3) := dk_180 0 51 (dk_at dksX2_stationFor_1 6 rfl rfl)
theorem dX2_stationFor_33 : decode cX2_stationFor 33 = .ok (.iload_n 2, 1) := dk_28 (dk_at dksX2_stationFor_1 9 rfl rfl)
theorem dX2_stationFor_34 : decode cX2_stationFor 34 = .ok (.iaload, 1) := dk_46 (dk_at dksX2_stationFor_1 10 rfl rfl)
theorem dX2_stationFor_35 : decode cX2_stationFor 35 = .ok (.aload_n 0, 1) := dk_42 (dk_at dksX2_stationFor_1 11 rfl rfl)
theorem dX2_stationFor_36 : decode cX2_stationFor 36 = .ok (.getfield 23, 3) := dk_180 0 23 (dk_at dksX2_stationFor_1 12 rfl rfl)
theorem dX2_stationFor_39 : decode cX2_stationFor 39 = .ok (.iload_n 2, 1) := dk_28 (dk_at dksX2_stationFor_1 15 rfl rfl)
theorem dX2_stationFor_40 : decode cX2_stationFor 40 = .ok (.iaload, 1) := dk_46 (dk_at dksX2_stationFor_1 16 rfl rfl)
theorem dX2_stationFor_41 : decode cX2_stationFor 41 = .ok (.if_icmp .ge 27, 3) := dk_162 0 27 (dk_at dksX2_stationFor_1 17 rfl rfl)
theorem dX2_stationFor_44 : decode cX2_stationFor 44 = .ok (.iload_n 1, 1) := dk_27 (dk_at dksX2_stationFor_1 20 rfl rfl)
theorem dX2_stationFor_45 : decode cX2_stationFor 45 = .ok (.iconst (-1), 1) := dk_2 (dk_at dksX2_stationFor_1 21 rfl rfl)
theorem dX2_stationFor_46 : decode cX2_stationFor 46 = .ok (.if_icmp .eq 18, 3) := dk_159 0 18 (dk_at dksX2_stationFor_2 0 rfl rfl)
theorem dX2_stationFor_49 : decode cX2_stationFor 49 = .ok (.iload_n 3, 1) := dk_29 (dk_at dksX2_stationFor_2 3 rfl rfl)
theorem dX2_stationFor_50 : decode cX2_stationFor 50 = .ok (.aload_n 0, 1) := dk_42 (dk_at dksX2_stationFor_2 4 rfl rfl)
theorem dX2_stationFor_51 : decode cX2_stationFor 51 = .ok (.getfield 13, 3) := dk_180 0 13 (dk_at dksX2_stationFor_2 5 rfl rfl)
theorem dX2_stationFor_54 : decode cX2_stationFor 54 = .ok (.aload_n 0, 1) := dk_42 (dk_at dksX2_stationFor_2 8 rfl rfl)
theorem dX2_stationFor_55 : decode cX2_stationFor 55 = .ok (.getfield 20, 3) := dk_180 0 20 (dk_at dksX2_stationFor_2 9 rfl rfl)
theorem dX2_stationFor_58 : decode cX2_stationFor 58 = .ok (.iload_n 1, 1) := dk_27 (dk_at dksX2_stationFor_2 12 rfl rfl)
theorem dX2_stationFor_59 : decode cX2_stationFor 59 = .ok (.iaload, 1) := dk_46 (dk_at dksX2_stationFor_2 13 rfl rfl)
theorem dX2_stationFor_60 : decode cX2_stationFor 60 = .ok (.iaload, 1) := dk_46 (dk_at dksX2_stationFor_2 14 rfl rfl)
theorem dX2_stationFor_61 : decode cX2_stationFor 61 = .ok (.if_icmp .ge 7, 3) := dk_162 0 7 (dk_at dksX2_stationFor_2 15 rfl rfl)
theorem dX2_stationFor_64 : decode cX2_stationFor 64 = .ok (.iload_n 2, 1) := dk_28 (dk_at dksX2_stationFor_2 18 rfl rfl)
theorem dX2_stationFor_65 : decode cX2_stationFor 65 = .ok (.goto 4, 3) := dk_167 0 4 (dk_at dksX2_stationFor_2 19 rfl rfl)
theorem dX2_stationFor_68 : decode cX2_stationFor 68 = .ok (.iload_n 1, 1) := dk_27 (dk_at dksX2_stationFor_2 22 rfl rfl)
theorem dX2_stationFor_69 : decode cX2_stationFor 69 = .ok (.istore_n 1, 1) := dk_60 (dk_at dksX2_stationFor_2 23 rfl rfl)
theorem dX2_stationFor_70 : decode cX2_stationFor 70 = .ok (.iinc 2 1, 3) := dk_132 2 1 (dk_at dksX2_stationFor_3 0 rfl rfl)
theorem dX2_stationFor_73 : decode cX2_stationFor 73 = .ok (.goto (-69), 3) := dk_167 255 187 (dk_at dksX2_stationFor_3 3 rfl rfl)
theorem dX2_stationFor_76 : decode cX2_stationFor 76 = .ok (.iload_n 1, 1) := dk_27 (dk_at dksX2_stationFor_3 6 rfl rfl)
theorem dX2_stationFor_77 : decode cX2_stationFor 77 = .ok (.iconst (-1), 1) := dk_2 (dk_at dksX2_stationFor_3 7 rfl rfl)
theorem dX2_stationFor_78 : decode cX2_stationFor 78 = .ok (.if_icmp .eq 5, 3) := dk_159 0 5 (dk_at dksX2_stationFor_3 8 rfl rfl)
theorem dX2_stationFor_81 : decode cX2_stationFor 81 = .ok (.iload_n 1, 1) := dk_27 (dk_at dksX2_stationFor_3 11 rfl rfl)
theorem dX2_stationFor_82 : decode cX2_stationFor 82 = .ok (.ireturn, 1) := dk_172 (dk_at dksX2_stationFor_3 12 rfl rfl)
theorem dX2_stationFor_83 : decode cX2_stationFor 83 = .ok (.iconst 0, 1) := dk_3 (dk_at dksX2_stationFor_3 13 rfl rfl)
theorem dX2_stationFor_84 : decode cX2_stationFor 84 = .ok (.istore_n 2, 1) := dk_61 (dk_at dksX2_stationFor_3 14 rfl rfl)
theorem dX2_stationFor_85 : decode cX2_stationFor 85 = .ok (.iload_n 2, 1) := dk_28 (dk_at dksX2_stationFor_3 15 rfl rfl)
theorem dX2_stationFor_86 : decode cX2_stationFor 86 = .ok (.aload_n 0, 1) := dk_42 (dk_at dksX2_stationFor_3 16 rfl rfl)
theorem dX2_stationFor_87 : decode cX2_stationFor 87 = .ok (.getfield 178, 3) := dk_180 0 178 (dk_at dksX2_stationFor_3 17 rfl rfl)
theorem dX2_stationFor_90 : decode cX2_stationFor 90 = .ok (.if_icmp .ge 50, 3) := dk_162 0 50 (dk_at dksX2_stationFor_3 20 rfl rfl)
theorem dX2_stationFor_93 : decode cX2_stationFor 93 = .ok (.aload_n 0, 1) := dk_42 (dk_at dksX2_stationFor_3 23 rfl rfl)
theorem dX2_stationFor_94 : decode cX2_stationFor 94 = .ok (.getfield 13, 3) := dk_180 0 13 (dk_at dksX2_stationFor_4 0 rfl rfl)
theorem dX2_stationFor_97 : decode cX2_stationFor 97 = .ok (.aload_n 0, 1) := dk_42 (dk_at dksX2_stationFor_4 3 rfl rfl)
theorem dX2_stationFor_98 : decode cX2_stationFor 98 = .ok (.getfield 20, 3) := dk_180 0 20 (dk_at dksX2_stationFor_4 4 rfl rfl)
theorem dX2_stationFor_101 : decode cX2_stationFor 101 = .ok (.iload_n 2, 1) := dk_28 (dk_at dksX2_stationFor_4 7 rfl rfl)
theorem dX2_stationFor_102 : decode cX2_stationFor 102 = .ok (.iaload, 1) := dk_46 (dk_at dksX2_stationFor_4 8 rfl rfl)
theorem dX2_stationFor_103 : decode cX2_stationFor 103 = .ok (.iaload, 1) := dk_46 (dk_at dksX2_stationFor_4 9 rfl rfl)
theorem dX2_stationFor_104 : decode cX2_stationFor 104 = .ok (.iconst (-1), 1) := dk_2 (dk_at dksX2_stationFor_4 10 rfl rfl)
theorem dX2_stationFor_105 : decode cX2_stationFor 105 = .ok (.if_icmp .eq 27, 3) := dk_159 0 27 (dk_at dksX2_stationFor_4 11 rfl rfl)
theorem dX2_stationFor_108 : decode cX2_stationFor 108 = .ok (.iload_n 1, 1) := dk_27 (dk_at dksX2_stationFor_4 14 rfl rfl)
theorem dX2_stationFor_109 : decode cX2_stationFor 109 = .ok (.iconst (-1), 1) := dk_2 (dk_at dksX2_stationFor_4 15 rfl rfl)
theorem dX2_stationFor_110 : decode cX2_stationFor 110 = .ok (.if_icmp .eq 18, 3) := dk_159 0 18 (dk_at dksX2_stationFor_4 16 rfl rfl)
theorem dX2_stationFor_113 : decode cX2_stationFor 113 = .ok (.aload_n 0, 1) := dk_42 (dk_at dksX2_stationFor_4 19 rfl rfl)
theorem dX2_stationFor_114 : decode cX2_stationFor 114 = .ok (.getfield 51, 3) := dk_180 0 51 (dk_at dksX2_stationFor_4 20 rfl rfl)
theorem dX2_stationFor_117 : decode cX2_stationFor 117 = .ok (.iload_n 2, 1) := dk_28 (dk_at dksX2_stationFor_4 23 rfl rfl)
theorem dX2_stationFor_118 : decode cX2_stationFor 118 = .ok (.iaload, 1) := dk_46 (dk_at dksX2_stationFor_5 0 rfl rfl)
theorem dX2_stationFor_119 : decode cX2_stationFor 119 = .ok (.aload_n 0, 1) := dk_42 (dk_at dksX2_stationFor_5 1 rfl rfl)
theorem dX2_stationFor_120 : decode cX2_stationFor 120 = .ok (.getfield 51, 3) := dk_180 0 51 (dk_at dksX2_stationFor_5 2 rfl rfl)
theorem dX2_stationFor_123 : decode cX2_stationFor 123 = .ok (.iload_n 1, 1) := dk_27 (dk_at dksX2_stationFor_5 5 rfl rfl)
theorem dX2_stationFor_124 : decode cX2_stationFor 124 = .ok (.iaload, 1) := dk_46 (dk_at dksX2_stationFor_5 6 rfl rfl)
theorem dX2_stationFor_125 : decode cX2_stationFor 125 = .ok (.if_icmp .ge 7, 3) := dk_162 0 7 (dk_at dksX2_stationFor_5 7 rfl rfl)
theorem dX2_stationFor_128 : decode cX2_stationFor 128 = .ok (.iload_n 2, 1) := dk_28 (dk_at dksX2_stationFor_5 10 rfl rfl)
theorem dX2_stationFor_129 : decode cX2_stationFor 129 = .ok (.goto 4, 3) := dk_167 0 4 (dk_at dksX2_stationFor_5 11 rfl rfl)
theorem dX2_stationFor_132 : decode cX2_stationFor 132 = .ok (.iload_n 1, 1) := dk_27 (dk_at dksX2_stationFor_5 14 rfl rfl)
theorem dX2_stationFor_133 : decode cX2_stationFor 133 = .ok (.istore_n 1, 1) := dk_60 (dk_at dksX2_stationFor_5 15 rfl rfl)
theorem dX2_stationFor_134 : decode cX2_stationFor 134 = .ok (.iinc 2 1, 3) := dk_132 2 1 (dk_at dksX2_stationFor_5 16 rfl rfl)
theorem dX2_stationFor_137 : decode cX2_stationFor 137 = .ok (.goto (-52), 3) := dk_167 255 204 (dk_at dksX2_stationFor_5 19 rfl rfl)
theorem dX2_stationFor_140 : decode cX2_stationFor 140 = .ok (.iload_n 1, 1) := dk_27 (dk_at dksX2_stationFor_5 22 rfl rfl)
theorem dX2_stationFor_141 : decode cX2_stationFor 141 = .ok (.iconst (-1), 1) := dk_2 (dk_at dksX2_stationFor_5 23 rfl rfl)
theorem dX2_stationFor_142 : decode cX2_stationFor 142 = .ok (.if_icmp .ne 7, 3) := dk_160 0 7 (dk_at dksX2_stationFor_6 0 rfl rfl)
theorem dX2_stationFor_145 : decode cX2_stationFor 145 = .ok (.iconst 0, 1) := dk_3 (dk_at dksX2_stationFor_6 3 rfl rfl)
theorem dX2_stationFor_146 : decode cX2_stationFor 146 = .ok (.goto 4, 3) := dk_167 0 4 (dk_at dksX2_stationFor_6 4 rfl rfl)
theorem dX2_stationFor_149 : decode cX2_stationFor 149 = .ok (.iload_n 1, 1) := dk_27 (dk_at dksX2_stationFor_6 7 rfl rfl)
theorem dX2_stationFor_150 : decode cX2_stationFor 150 = .ok (.ireturn, 1) := dk_172 (dk_at dksX2_stationFor_6 8 rfl rfl)
abbrev cX2_closes : ByteArray := prog_14_method_32_code
def yX2_closes : MethodName := ⟨RX2, "closes", "()V"⟩
def dkwX2_closes_2 : List UInt8 := [42, 42, 180, 0, 181, 16, 115, 42, 180, 0, 57, 27, 46, 182, 0, 172, 132, 1, 1, 167, 255, 196, 177]
abbrev dktX2_closes_2 : List UInt8 := dkwX2_closes_2 ++ []
def dkwX2_closes_1 : List UInt8 := [42, 180, 0, 63, 27, 5, 79, 42, 42, 180, 0, 57, 27, 46, 42, 180, 0, 60, 27, 46, 182, 0, 195, 87]
abbrev dktX2_closes_1 : List UInt8 := dkwX2_closes_1 ++ dktX2_closes_2
def dkwX2_closes_0 : List UInt8 := [42, 7, 181, 0, 41, 3, 60, 27, 42, 180, 0, 165, 162, 0, 58, 42, 180, 0, 63, 27, 46, 154, 0, 43]
abbrev dktX2_closes_0 : List UInt8 := dkwX2_closes_0 ++ dktX2_closes_1
theorem dksX2_closes_0 : cX2_closes.data.toList.drop 0 = dktX2_closes_0 := by decide +kernel
theorem dksX2_closes_1 : cX2_closes.data.toList.drop 24 = dktX2_closes_1 := dk_seg dksX2_closes_0 24 rfl rfl
theorem dksX2_closes_2 : cX2_closes.data.toList.drop 48 = dktX2_closes_2 := dk_seg dksX2_closes_1 24 rfl rfl
theorem dX2_closes_0 : decode cX2_closes 0 = .ok (.aload_n 0, 1) := dk_42 (dk_at dksX2_closes_0 0 rfl rfl)
theorem dX2_closes_1 : decode cX2_closes 1 = .ok (.iconst 4, 1) := dk_7 (dk_at dksX2_closes_0 1 rfl rfl)
theorem dX2_closes_2 : decode cX2_closes 2 = .ok (.putfield 41, 3) := dk_181 0 41 (dk_at dksX2_closes_0 2 rfl rfl)
theorem dX2_closes_5 : decode cX2_closes 5 = .ok (.iconst 0, 1) := dk_3 (dk_at dksX2_closes_0 5 rfl rfl)
theorem dX2_closes_6 : decode cX2_closes 6 = .ok (.istore_n 1, 1) := dk_60 (dk_at dksX2_closes_0 6 rfl rfl)
theorem dX2_closes_7 : decode cX2_closes 7 = .ok (.iload_n 1, 1) := dk_27 (dk_at dksX2_closes_0 7 rfl rfl)
theorem dX2_closes_8 : decode cX2_closes 8 = .ok (.aload_n 0, 1) := dk_42 (dk_at dksX2_closes_0 8 rfl rfl)
theorem dX2_closes_9 : decode cX2_closes 9 = .ok (.getfield 165, 3) := dk_180 0 165 (dk_at dksX2_closes_0 9 rfl rfl)
theorem dX2_closes_12 : decode cX2_closes 12 = .ok (.if_icmp .ge 58, 3) := dk_162 0 58 (dk_at dksX2_closes_0 12 rfl rfl)
theorem dX2_closes_15 : decode cX2_closes 15 = .ok (.aload_n 0, 1) := dk_42 (dk_at dksX2_closes_0 15 rfl rfl)
theorem dX2_closes_16 : decode cX2_closes 16 = .ok (.getfield 63, 3) := dk_180 0 63 (dk_at dksX2_closes_0 16 rfl rfl)
theorem dX2_closes_19 : decode cX2_closes 19 = .ok (.iload_n 1, 1) := dk_27 (dk_at dksX2_closes_0 19 rfl rfl)
theorem dX2_closes_20 : decode cX2_closes 20 = .ok (.iaload, 1) := dk_46 (dk_at dksX2_closes_0 20 rfl rfl)
theorem dX2_closes_21 : decode cX2_closes 21 = .ok (.ifCond .ne 43, 3) := dk_154 0 43 (dk_at dksX2_closes_0 21 rfl rfl)
theorem dX2_closes_24 : decode cX2_closes 24 = .ok (.aload_n 0, 1) := dk_42 (dk_at dksX2_closes_1 0 rfl rfl)
theorem dX2_closes_25 : decode cX2_closes 25 = .ok (.getfield 63, 3) := dk_180 0 63 (dk_at dksX2_closes_1 1 rfl rfl)
theorem dX2_closes_28 : decode cX2_closes 28 = .ok (.iload_n 1, 1) := dk_27 (dk_at dksX2_closes_1 4 rfl rfl)
theorem dX2_closes_29 : decode cX2_closes 29 = .ok (.iconst 2, 1) := dk_5 (dk_at dksX2_closes_1 5 rfl rfl)
theorem dX2_closes_30 : decode cX2_closes 30 = .ok (.iastore, 1) := dk_79 (dk_at dksX2_closes_1 6 rfl rfl)
theorem dX2_closes_31 : decode cX2_closes 31 = .ok (.aload_n 0, 1) := dk_42 (dk_at dksX2_closes_1 7 rfl rfl)
theorem dX2_closes_32 : decode cX2_closes 32 = .ok (.aload_n 0, 1) := dk_42 (dk_at dksX2_closes_1 8 rfl rfl)
theorem dX2_closes_33 : decode cX2_closes 33 = .ok (.getfield 57, 3) := dk_180 0 57 (dk_at dksX2_closes_1 9 rfl rfl)
theorem dX2_closes_36 : decode cX2_closes 36 = .ok (.iload_n 1, 1) := dk_27 (dk_at dksX2_closes_1 12 rfl rfl)
theorem dX2_closes_37 : decode cX2_closes 37 = .ok (.iaload, 1) := dk_46 (dk_at dksX2_closes_1 13 rfl rfl)
theorem dX2_closes_38 : decode cX2_closes 38 = .ok (.aload_n 0, 1) := dk_42 (dk_at dksX2_closes_1 14 rfl rfl)
theorem dX2_closes_39 : decode cX2_closes 39 = .ok (.getfield 60, 3) := dk_180 0 60 (dk_at dksX2_closes_1 15 rfl rfl)
theorem dX2_closes_42 : decode cX2_closes 42 = .ok (.iload_n 1, 1) := dk_27 (dk_at dksX2_closes_1 18 rfl rfl)
theorem dX2_closes_43 : decode cX2_closes 43 = .ok (.iaload, 1) := dk_46 (dk_at dksX2_closes_1 19 rfl rfl)
theorem dX2_closes_44 : decode cX2_closes 44 = .ok (.invokevirtual 195, 3) := dk_182 0 195 (dk_at dksX2_closes_1 20 rfl rfl)
theorem dX2_closes_47 : decode cX2_closes 47 = .ok (.pop, 1) := dk_87 (dk_at dksX2_closes_1 23 rfl rfl)
theorem dX2_closes_48 : decode cX2_closes 48 = .ok (.aload_n 0, 1) := dk_42 (dk_at dksX2_closes_2 0 rfl rfl)
theorem dX2_closes_49 : decode cX2_closes 49 = .ok (.aload_n 0, 1) := dk_42 (dk_at dksX2_closes_2 1 rfl rfl)
theorem dX2_closes_50 : decode cX2_closes 50 = .ok (.getfield 181, 3) := dk_180 0 181 (dk_at dksX2_closes_2 2 rfl rfl)
theorem dX2_closes_53 : decode cX2_closes 53 = .ok (.bipush 115, 2) := dk_16 115 (dk_at dksX2_closes_2 5 rfl rfl)
theorem dX2_closes_55 : decode cX2_closes 55 = .ok (.aload_n 0, 1) := dk_42 (dk_at dksX2_closes_2 7 rfl rfl)
theorem dX2_closes_56 : decode cX2_closes 56 = .ok (.getfield 57, 3) := dk_180 0 57 (dk_at dksX2_closes_2 8 rfl rfl)
theorem dX2_closes_59 : decode cX2_closes 59 = .ok (.iload_n 1, 1) := dk_27 (dk_at dksX2_closes_2 11 rfl rfl)
theorem dX2_closes_60 : decode cX2_closes 60 = .ok (.iaload, 1) := dk_46 (dk_at dksX2_closes_2 12 rfl rfl)
theorem dX2_closes_61 : decode cX2_closes 61 = .ok (.invokevirtual 172, 3) := dk_182 0 172 (dk_at dksX2_closes_2 13 rfl rfl)
theorem dX2_closes_64 : decode cX2_closes 64 = .ok (.iinc 1 1, 3) := dk_132 1 1 (dk_at dksX2_closes_2 16 rfl rfl)
theorem dX2_closes_67 : decode cX2_closes 67 = .ok (.goto (-60), 3) := dk_167 255 196 (dk_at dksX2_closes_2 19 rfl rfl)
theorem dX2_closes_70 : decode cX2_closes 70 = .ok (.return_, 1) := dk_177 (dk_at dksX2_closes_2 22 rfl rfl)
abbrev cX2_casts : ByteArray := prog_14_method_31_code
def yX2_casts : MethodName := ⟨RX2, "casts", "(II)I"⟩
def dkwX2_casts_1 : List UInt8 := [42, 180, 0, 69, 29, 92, 46, 4, 96, 79, 42, 180, 0, 54, 27, 4, 84, 42, 180, 0, 69, 29, 46, 172]
abbrev dktX2_casts_1 : List UInt8 := dkwX2_casts_1 ++ []
def dkwX2_casts_0 : List UInt8 := [42, 180, 0, 48, 27, 46, 62, 42, 180, 0, 66, 16, 20, 29, 104, 42, 180, 0, 69, 29, 46, 96, 28, 79]
abbrev dktX2_casts_0 : List UInt8 := dkwX2_casts_0 ++ dktX2_casts_1
theorem dksX2_casts_0 : cX2_casts.data.toList.drop 0 = dktX2_casts_0 := by decide +kernel
theorem dksX2_casts_1 : cX2_casts.data.toList.drop 24 = dktX2_casts_1 := dk_seg dksX2_casts_0 24 rfl rfl
theorem dX2_casts_0 : decode cX2_casts 0 = .ok (.aload_n 0, 1) := dk_42 (dk_at dksX2_casts_0 0 rfl rfl)
theorem dX2_casts_1 : decode cX2_casts 1 = .ok (.getfield 48, 3) := dk_180 0 48 (dk_at dksX2_casts_0 1 rfl rfl)
theorem dX2_casts_4 : decode cX2_casts 4 = .ok (.iload_n 1, 1) := dk_27 (dk_at dksX2_casts_0 4 rfl rfl)
theorem dX2_casts_5 : decode cX2_casts 5 = .ok (.iaload, 1) := dk_46 (dk_at dksX2_casts_0 5 rfl rfl)
theorem dX2_casts_6 : decode cX2_casts 6 = .ok (.istore_n 3, 1) := dk_62 (dk_at dksX2_casts_0 6 rfl rfl)
theorem dX2_casts_7 : decode cX2_casts 7 = .ok (.aload_n 0, 1) := dk_42 (dk_at dksX2_casts_0 7 rfl rfl)
theorem dX2_casts_8 : decode cX2_casts 8 = .ok (.getfield 66, 3) := dk_180 0 66 (dk_at dksX2_casts_0 8 rfl rfl)
theorem dX2_casts_11 : decode cX2_casts 11 = .ok (.bipush 20, 2) := dk_16 20 (dk_at dksX2_casts_0 11 rfl rfl)
theorem dX2_casts_13 : decode cX2_casts 13 = .ok (.iload_n 3, 1) := dk_29 (dk_at dksX2_casts_0 13 rfl rfl)
theorem dX2_casts_14 : decode cX2_casts 14 = .ok (.imul, 1) := dk_104 (dk_at dksX2_casts_0 14 rfl rfl)
theorem dX2_casts_15 : decode cX2_casts 15 = .ok (.aload_n 0, 1) := dk_42 (dk_at dksX2_casts_0 15 rfl rfl)
theorem dX2_casts_16 : decode cX2_casts 16 = .ok (.getfield 69, 3) := dk_180 0 69 (dk_at dksX2_casts_0 16 rfl rfl)
theorem dX2_casts_19 : decode cX2_casts 19 = .ok (.iload_n 3, 1) := dk_29 (dk_at dksX2_casts_0 19 rfl rfl)
theorem dX2_casts_20 : decode cX2_casts 20 = .ok (.iaload, 1) := dk_46 (dk_at dksX2_casts_0 20 rfl rfl)
theorem dX2_casts_21 : decode cX2_casts 21 = .ok (.iadd, 1) := dk_96 (dk_at dksX2_casts_0 21 rfl rfl)
theorem dX2_casts_22 : decode cX2_casts 22 = .ok (.iload_n 2, 1) := dk_28 (dk_at dksX2_casts_0 22 rfl rfl)
theorem dX2_casts_23 : decode cX2_casts 23 = .ok (.iastore, 1) := dk_79 (dk_at dksX2_casts_0 23 rfl rfl)
theorem dX2_casts_24 : decode cX2_casts 24 = .ok (.aload_n 0, 1) := dk_42 (dk_at dksX2_casts_1 0 rfl rfl)
theorem dX2_casts_25 : decode cX2_casts 25 = .ok (.getfield 69, 3) := dk_180 0 69 (dk_at dksX2_casts_1 1 rfl rfl)
theorem dX2_casts_28 : decode cX2_casts 28 = .ok (.iload_n 3, 1) := dk_29 (dk_at dksX2_casts_1 4 rfl rfl)
theorem dX2_casts_29 : decode cX2_casts 29 = .ok (.dup2, 1) := dk_92 (dk_at dksX2_casts_1 5 rfl rfl)
theorem dX2_casts_30 : decode cX2_casts 30 = .ok (.iaload, 1) := dk_46 (dk_at dksX2_casts_1 6 rfl rfl)
theorem dX2_casts_31 : decode cX2_casts 31 = .ok (.iconst 1, 1) := dk_4 (dk_at dksX2_casts_1 7 rfl rfl)
theorem dX2_casts_32 : decode cX2_casts 32 = .ok (.iadd, 1) := dk_96 (dk_at dksX2_casts_1 8 rfl rfl)
theorem dX2_casts_33 : decode cX2_casts 33 = .ok (.iastore, 1) := dk_79 (dk_at dksX2_casts_1 9 rfl rfl)
theorem dX2_casts_34 : decode cX2_casts 34 = .ok (.aload_n 0, 1) := dk_42 (dk_at dksX2_casts_1 10 rfl rfl)
theorem dX2_casts_35 : decode cX2_casts 35 = .ok (.getfield 54, 3) := dk_180 0 54 (dk_at dksX2_casts_1 11 rfl rfl)
theorem dX2_casts_38 : decode cX2_casts 38 = .ok (.iload_n 1, 1) := dk_27 (dk_at dksX2_casts_1 14 rfl rfl)
theorem dX2_casts_39 : decode cX2_casts 39 = .ok (.iconst 1, 1) := dk_4 (dk_at dksX2_casts_1 15 rfl rfl)
theorem dX2_casts_40 : decode cX2_casts 40 = .ok (.bastore, 1) := dk_84 (dk_at dksX2_casts_1 16 rfl rfl)
theorem dX2_casts_41 : decode cX2_casts 41 = .ok (.aload_n 0, 1) := dk_42 (dk_at dksX2_casts_1 17 rfl rfl)
theorem dX2_casts_42 : decode cX2_casts 42 = .ok (.getfield 69, 3) := dk_180 0 69 (dk_at dksX2_casts_1 18 rfl rfl)
theorem dX2_casts_45 : decode cX2_casts 45 = .ok (.iload_n 3, 1) := dk_29 (dk_at dksX2_casts_1 21 rfl rfl)
theorem dX2_casts_46 : decode cX2_casts 46 = .ok (.iaload, 1) := dk_46 (dk_at dksX2_casts_1 22 rfl rfl)
theorem dX2_casts_47 : decode cX2_casts 47 = .ok (.ireturn, 1) := dk_172 (dk_at dksX2_casts_1 23 rfl rfl)
abbrev cX2_today : ByteArray := prog_14_method_34_code
def yX2_today : MethodName := ⟨RX2, "today", "()I"⟩
def dkwX2_today_0 : List UInt8 := [42, 42, 180, 0, 149, 182, 0, 204, 172]
abbrev dktX2_today_0 : List UInt8 := dkwX2_today_0 ++ []
theorem dksX2_today_0 : cX2_today.data.toList.drop 0 = dktX2_today_0 := by decide +kernel
theorem dX2_today_0 : decode cX2_today 0 = .ok (.aload_n 0, 1) := dk_42 (dk_at dksX2_today_0 0 rfl rfl)
theorem dX2_today_1 : decode cX2_today 1 = .ok (.aload_n 0, 1) := dk_42 (dk_at dksX2_today_0 1 rfl rfl)
theorem dX2_today_2 : decode cX2_today 2 = .ok (.getfield 149, 3) := dk_180 0 149 (dk_at dksX2_today_0 2 rfl rfl)
theorem dX2_today_5 : decode cX2_today 5 = .ok (.invokevirtual 204, 3) := dk_182 0 204 (dk_at dksX2_today_0 5 rfl rfl)
theorem dX2_today_8 : decode cX2_today 8 = .ok (.ireturn, 1) := dk_172 (dk_at dksX2_today_0 8 rfl rfl)
abbrev cX2_told : ByteArray := prog_14_method_7_code
def yX2_told : MethodName := ⟨RX2, "told", "(I)I"⟩
def dkwX2_told_0 : List UInt8 := [42, 3, 181, 0, 108, 27, 172]
abbrev dktX2_told_0 : List UInt8 := dkwX2_told_0 ++ []
theorem dksX2_told_0 : cX2_told.data.toList.drop 0 = dktX2_told_0 := by decide +kernel
theorem dX2_told_0 : decode cX2_told 0 = .ok (.aload_n 0, 1) := dk_42 (dk_at dksX2_told_0 0 rfl rfl)
theorem dX2_told_1 : decode cX2_told 1 = .ok (.iconst 0, 1) := dk_3 (dk_at dksX2_told_0 1 rfl rfl)
theorem dX2_told_2 : decode cX2_told 2 = .ok (.putfield 108, 3) := dk_181 0 108 (dk_at dksX2_told_0 2 rfl rfl)
theorem dX2_told_5 : decode cX2_told 5 = .ok (.iload_n 1, 1) := dk_27 (dk_at dksX2_told_0 5 rfl rfl)
theorem dX2_told_6 : decode cX2_told 6 = .ok (.ireturn, 1) := dk_172 (dk_at dksX2_told_0 6 rfl rfl)
abbrev cX2_stage : ByteArray := prog_14_method_35_code
def yX2_stage : MethodName := ⟨RX2, "stage", "()I"⟩
def dkwX2_stage_0 : List UInt8 := [42, 42, 180, 0, 41, 182, 0, 204, 172]
abbrev dktX2_stage_0 : List UInt8 := dkwX2_stage_0 ++ []
theorem dksX2_stage_0 : cX2_stage.data.toList.drop 0 = dktX2_stage_0 := by decide +kernel
theorem dX2_stage_0 : decode cX2_stage 0 = .ok (.aload_n 0, 1) := dk_42 (dk_at dksX2_stage_0 0 rfl rfl)
theorem dX2_stage_1 : decode cX2_stage 1 = .ok (.aload_n 0, 1) := dk_42 (dk_at dksX2_stage_0 1 rfl rfl)
theorem dX2_stage_2 : decode cX2_stage 2 = .ok (.getfield 41, 3) := dk_180 0 41 (dk_at dksX2_stage_0 2 rfl rfl)
theorem dX2_stage_5 : decode cX2_stage 5 = .ok (.invokevirtual 204, 3) := dk_182 0 204 (dk_at dksX2_stage_0 5 rfl rfl)
theorem dX2_stage_8 : decode cX2_stage 8 = .ok (.ireturn, 1) := dk_172 (dk_at dksX2_stage_0 8 rfl rfl)
abbrev cX2_isOnRoll : ByteArray := prog_14_method_36_code
def yX2_isOnRoll : MethodName := ⟨RX2, "isOnRoll", "(I)Z"⟩
def dkwX2_isOnRoll_1 : List UInt8 := [167, 0, 4, 3, 172]
abbrev dktX2_isOnRoll_1 : List UInt8 := dkwX2_isOnRoll_1 ++ []
def dkwX2_isOnRoll_0 : List UInt8 := [42, 42, 27, 182, 0, 156, 182, 0, 133, 153, 0, 17, 42, 180, 0, 48, 27, 46, 2, 159, 0, 7, 4]
abbrev dktX2_isOnRoll_0 : List UInt8 := dkwX2_isOnRoll_0 ++ dktX2_isOnRoll_1
theorem dksX2_isOnRoll_0 : cX2_isOnRoll.data.toList.drop 0 = dktX2_isOnRoll_0 := by decide +kernel
theorem dksX2_isOnRoll_1 : cX2_isOnRoll.data.toList.drop 23 = dktX2_isOnRoll_1 := dk_seg dksX2_isOnRoll_0 23 rfl rfl
theorem dX2_isOnRoll_0 : decode cX2_isOnRoll 0 = .ok (.aload_n 0, 1) := dk_42 (dk_at dksX2_isOnRoll_0 0 rfl rfl)
theorem dX2_isOnRoll_1 : decode cX2_isOnRoll 1 = .ok (.aload_n 0, 1) := dk_42 (dk_at dksX2_isOnRoll_0 1 rfl rfl)
theorem dX2_isOnRoll_2 : decode cX2_isOnRoll 2 = .ok (.iload_n 1, 1) := dk_27 (dk_at dksX2_isOnRoll_0 2 rfl rfl)
theorem dX2_isOnRoll_3 : decode cX2_isOnRoll 3 = .ok (.invokevirtual 156, 3) := dk_182 0 156 (dk_at dksX2_isOnRoll_0 3 rfl rfl)
theorem dX2_isOnRoll_6 : decode cX2_isOnRoll 6 = .ok (.invokevirtual 133, 3) := dk_182 0 133 (dk_at dksX2_isOnRoll_0 6 rfl rfl)
theorem dX2_isOnRoll_9 : decode cX2_isOnRoll 9 = .ok (.ifCond .eq 17, 3) := dk_153 0 17 (dk_at dksX2_isOnRoll_0 9 rfl rfl)
theorem dX2_isOnRoll_12 : decode cX2_isOnRoll 12 = .ok (.aload_n 0, 1) := dk_42 (dk_at dksX2_isOnRoll_0 12 rfl rfl)
theorem dX2_isOnRoll_13 : decode cX2_isOnRoll 13 = .ok (.getfield 48, 3) := dk_180 0 48 (dk_at dksX2_isOnRoll_0 13 rfl rfl)
theorem dX2_isOnRoll_16 : decode cX2_isOnRoll 16 = .ok (.iload_n 1, 1) := dk_27 (dk_at dksX2_isOnRoll_0 16 rfl rfl)
theorem dX2_isOnRoll_17 : decode cX2_isOnRoll 17 = .ok (.iaload, 1) := dk_46 (dk_at dksX2_isOnRoll_0 17 rfl rfl)
theorem dX2_isOnRoll_18 : decode cX2_isOnRoll 18 = .ok (.iconst (-1), 1) := dk_2 (dk_at dksX2_isOnRoll_0 18 rfl rfl)
theorem dX2_isOnRoll_19 : decode cX2_isOnRoll 19 = .ok (.if_icmp .eq 7, 3) := dk_159 0 7 (dk_at dksX2_isOnRoll_0 19 rfl rfl)
theorem dX2_isOnRoll_22 : decode cX2_isOnRoll 22 = .ok (.iconst 1, 1) := dk_4 (dk_at dksX2_isOnRoll_0 22 rfl rfl)
theorem dX2_isOnRoll_23 : decode cX2_isOnRoll 23 = .ok (.goto 4, 3) := dk_167 0 4 (dk_at dksX2_isOnRoll_1 0 rfl rfl)
theorem dX2_isOnRoll_26 : decode cX2_isOnRoll 26 = .ok (.iconst 0, 1) := dk_3 (dk_at dksX2_isOnRoll_1 3 rfl rfl)
theorem dX2_isOnRoll_27 : decode cX2_isOnRoll 27 = .ok (.ireturn, 1) := dk_172 (dk_at dksX2_isOnRoll_1 4 rfl rfl)
abbrev cX2_stationOf : ByteArray := prog_14_method_37_code
def yX2_stationOf : MethodName := ⟨RX2, "stationOf", "(I)I"⟩
def dkwX2_stationOf_0 : List UInt8 := [42, 42, 27, 182, 0, 156, 182, 0, 133, 153, 0, 12, 42, 180, 0, 48, 27, 46, 167, 0, 4, 3, 172]
abbrev dktX2_stationOf_0 : List UInt8 := dkwX2_stationOf_0 ++ []
theorem dksX2_stationOf_0 : cX2_stationOf.data.toList.drop 0 = dktX2_stationOf_0 := by decide +kernel
theorem dX2_stationOf_0 : decode cX2_stationOf 0 = .ok (.aload_n 0, 1) := dk_42 (dk_at dksX2_stationOf_0 0 rfl rfl)
theorem dX2_stationOf_1 : decode cX2_stationOf 1 = .ok (.aload_n 0, 1) := dk_42 (dk_at dksX2_stationOf_0 1 rfl rfl)
theorem dX2_stationOf_2 : decode cX2_stationOf 2 = .ok (.iload_n 1, 1) := dk_27 (dk_at dksX2_stationOf_0 2 rfl rfl)
theorem dX2_stationOf_3 : decode cX2_stationOf 3 = .ok (.invokevirtual 156, 3) := dk_182 0 156 (dk_at dksX2_stationOf_0 3 rfl rfl)
theorem dX2_stationOf_6 : decode cX2_stationOf 6 = .ok (.invokevirtual 133, 3) := dk_182 0 133 (dk_at dksX2_stationOf_0 6 rfl rfl)
theorem dX2_stationOf_9 : decode cX2_stationOf 9 = .ok (.ifCond .eq 12, 3) := dk_153 0 12 (dk_at dksX2_stationOf_0 9 rfl rfl)
theorem dX2_stationOf_12 : decode cX2_stationOf 12 = .ok (.aload_n 0, 1) := dk_42 (dk_at dksX2_stationOf_0 12 rfl rfl)
theorem dX2_stationOf_13 : decode cX2_stationOf 13 = .ok (.getfield 48, 3) := dk_180 0 48 (dk_at dksX2_stationOf_0 13 rfl rfl)
theorem dX2_stationOf_16 : decode cX2_stationOf 16 = .ok (.iload_n 1, 1) := dk_27 (dk_at dksX2_stationOf_0 16 rfl rfl)
theorem dX2_stationOf_17 : decode cX2_stationOf 17 = .ok (.iaload, 1) := dk_46 (dk_at dksX2_stationOf_0 17 rfl rfl)
theorem dX2_stationOf_18 : decode cX2_stationOf 18 = .ok (.goto 4, 3) := dk_167 0 4 (dk_at dksX2_stationOf_0 18 rfl rfl)
theorem dX2_stationOf_21 : decode cX2_stationOf 21 = .ok (.iconst 0, 1) := dk_3 (dk_at dksX2_stationOf_0 21 rfl rfl)
theorem dX2_stationOf_22 : decode cX2_stationOf 22 = .ok (.ireturn, 1) := dk_172 (dk_at dksX2_stationOf_0 22 rfl rfl)
abbrev cX2_peopleOf : ByteArray := prog_14_method_38_code
def yX2_peopleOf : MethodName := ⟨RX2, "peopleOf", "(I)I"⟩
def dkwX2_peopleOf_0 : List UInt8 := [42, 42, 27, 182, 0, 143, 182, 0, 133, 153, 0, 12, 42, 180, 0, 51, 27, 46, 167, 0, 4, 3, 172]
abbrev dktX2_peopleOf_0 : List UInt8 := dkwX2_peopleOf_0 ++ []
theorem dksX2_peopleOf_0 : cX2_peopleOf.data.toList.drop 0 = dktX2_peopleOf_0 := by decide +kernel
theorem dX2_peopleOf_0 : decode cX2_peopleOf 0 = .ok (.aload_n 0, 1) := dk_42 (dk_at dksX2_peopleOf_0 0 rfl rfl)
theorem dX2_peopleOf_1 : decode cX2_peopleOf 1 = .ok (.aload_n 0, 1) := dk_42 (dk_at dksX2_peopleOf_0 1 rfl rfl)
theorem dX2_peopleOf_2 : decode cX2_peopleOf 2 = .ok (.iload_n 1, 1) := dk_27 (dk_at dksX2_peopleOf_0 2 rfl rfl)
theorem dX2_peopleOf_3 : decode cX2_peopleOf 3 = .ok (.invokevirtual 143, 3) := dk_182 0 143 (dk_at dksX2_peopleOf_0 3 rfl rfl)
theorem dX2_peopleOf_6 : decode cX2_peopleOf 6 = .ok (.invokevirtual 133, 3) := dk_182 0 133 (dk_at dksX2_peopleOf_0 6 rfl rfl)
theorem dX2_peopleOf_9 : decode cX2_peopleOf 9 = .ok (.ifCond .eq 12, 3) := dk_153 0 12 (dk_at dksX2_peopleOf_0 9 rfl rfl)
theorem dX2_peopleOf_12 : decode cX2_peopleOf 12 = .ok (.aload_n 0, 1) := dk_42 (dk_at dksX2_peopleOf_0 12 rfl rfl)
theorem dX2_peopleOf_13 : decode cX2_peopleOf 13 = .ok (.getfield 51, 3) := dk_180 0 51 (dk_at dksX2_peopleOf_0 13 rfl rfl)
theorem dX2_peopleOf_16 : decode cX2_peopleOf 16 = .ok (.iload_n 1, 1) := dk_27 (dk_at dksX2_peopleOf_0 16 rfl rfl)
theorem dX2_peopleOf_17 : decode cX2_peopleOf 17 = .ok (.iaload, 1) := dk_46 (dk_at dksX2_peopleOf_0 17 rfl rfl)
theorem dX2_peopleOf_18 : decode cX2_peopleOf 18 = .ok (.goto 4, 3) := dk_167 0 4 (dk_at dksX2_peopleOf_0 18 rfl rfl)
theorem dX2_peopleOf_21 : decode cX2_peopleOf 21 = .ok (.iconst 0, 1) := dk_3 (dk_at dksX2_peopleOf_0 21 rfl rfl)
theorem dX2_peopleOf_22 : decode cX2_peopleOf 22 = .ok (.ireturn, 1) := dk_172 (dk_at dksX2_peopleOf_0 22 rfl rfl)
abbrev cX2_early : ByteArray := prog_14_method_40_code
def yX2_early : MethodName := ⟨RX2, "early", "(II)I"⟩
def dkwX2_early_5 : List UInt8 := [100, 172]
abbrev dktX2_early_5 : List UInt8 := dkwX2_early_5 ++ []
def dkwX2_early_4 : List UInt8 := [180, 0, 165, 4, 96, 181, 0, 165, 42, 42, 180, 0, 149, 16, 101, 27, 182, 0, 172, 42, 180, 0, 165, 4]
abbrev dktX2_early_4 : List UInt8 := dkwX2_early_4 ++ dktX2_early_5
def dkwX2_early_3 : List UInt8 := [79, 42, 180, 0, 60, 42, 180, 0, 165, 28, 79, 42, 180, 0, 63, 42, 180, 0, 165, 3, 79, 42, 89]
abbrev dktX2_early_3 : List UInt8 := dkwX2_early_3 ++ dktX2_early_4
def dkwX2_early_2 : List UInt8 := [3, 182, 0, 140, 154, 0, 5, 3, 172, 42, 27, 182, 0, 175, 87, 42, 180, 0, 57, 42, 180, 0, 165, 27]
abbrev dktX2_early_2 : List UInt8 := dkwX2_early_2 ++ dktX2_early_3
def dkwX2_early_1 : List UInt8 := [160, 0, 24, 42, 27, 182, 0, 207, 153, 0, 16, 42, 180, 0, 165, 16, 60, 162, 0, 7, 4, 167, 0, 4]
abbrev dktX2_early_1 : List UInt8 := dkwX2_early_1 ++ dktX2_early_2
def dkwX2_early_0 : List UInt8 := [42, 27, 182, 0, 156, 62, 42, 29, 28, 3, 8, 184, 0, 111, 29, 153, 0, 32, 42, 180, 0, 41, 5]
abbrev dktX2_early_0 : List UInt8 := dkwX2_early_0 ++ dktX2_early_1
theorem dksX2_early_0 : cX2_early.data.toList.drop 0 = dktX2_early_0 := by decide +kernel
theorem dksX2_early_1 : cX2_early.data.toList.drop 23 = dktX2_early_1 := dk_seg dksX2_early_0 23 rfl rfl
theorem dksX2_early_2 : cX2_early.data.toList.drop 47 = dktX2_early_2 := dk_seg dksX2_early_1 24 rfl rfl
theorem dksX2_early_3 : cX2_early.data.toList.drop 71 = dktX2_early_3 := dk_seg dksX2_early_2 24 rfl rfl
theorem dksX2_early_4 : cX2_early.data.toList.drop 94 = dktX2_early_4 := dk_seg dksX2_early_3 23 rfl rfl
theorem dksX2_early_5 : cX2_early.data.toList.drop 118 = dktX2_early_5 := dk_seg dksX2_early_4 24 rfl rfl
theorem dX2_early_0 : decode cX2_early 0 = .ok (.aload_n 0, 1) := dk_42 (dk_at dksX2_early_0 0 rfl rfl)
theorem dX2_early_1 : decode cX2_early 1 = .ok (.iload_n 1, 1) := dk_27 (dk_at dksX2_early_0 1 rfl rfl)
theorem dX2_early_2 : decode cX2_early 2 = .ok (.invokevirtual 156, 3) := dk_182 0 156 (dk_at dksX2_early_0 2 rfl rfl)
theorem dX2_early_5 : decode cX2_early 5 = .ok (.istore_n 3, 1) := dk_62 (dk_at dksX2_early_0 5 rfl rfl)
theorem dX2_early_6 : decode cX2_early 6 = .ok (.aload_n 0, 1) := dk_42 (dk_at dksX2_early_0 6 rfl rfl)
theorem dX2_early_7 : decode cX2_early 7 = .ok (.iload_n 3, 1) := dk_29 (dk_at dksX2_early_0 7 rfl rfl)
theorem dX2_early_8 : decode cX2_early 8 = .ok (.iload_n 2, 1) := dk_28 (dk_at dksX2_early_0 8 rfl rfl)
theorem dX2_early_9 : decode cX2_early 9 = .ok (.iconst 0, 1) := dk_3 (dk_at dksX2_early_0 9 rfl rfl)
theorem dX2_early_10 : decode cX2_early 10 = .ok (.iconst 5, 1) := dk_8 (dk_at dksX2_early_0 10 rfl rfl)
theorem dX2_early_11 : decode cX2_early 11 = .ok (.invokestatic 111, 3) := dk_184 0 111 (dk_at dksX2_early_0 11 rfl rfl)
theorem dX2_early_14 : decode cX2_early 14 = .ok (.iload_n 3, 1) := dk_29 (dk_at dksX2_early_0 14 rfl rfl)
theorem dX2_early_15 : decode cX2_early 15 = .ok (.ifCond .eq 32, 3) := dk_153 0 32 (dk_at dksX2_early_0 15 rfl rfl)
theorem dX2_early_18 : decode cX2_early 18 = .ok (.aload_n 0, 1) := dk_42 (dk_at dksX2_early_0 18 rfl rfl)
theorem dX2_early_19 : decode cX2_early 19 = .ok (.getfield 41, 3) := dk_180 0 41 (dk_at dksX2_early_0 19 rfl rfl)
theorem dX2_early_22 : decode cX2_early 22 = .ok (.iconst 2, 1) := dk_5 (dk_at dksX2_early_0 22 rfl rfl)
theorem dX2_early_23 : decode cX2_early 23 = .ok (.if_icmp .ne 24, 3) := dk_160 0 24 (dk_at dksX2_early_1 0 rfl rfl)
theorem dX2_early_26 : decode cX2_early 26 = .ok (.aload_n 0, 1) := dk_42 (dk_at dksX2_early_1 3 rfl rfl)
theorem dX2_early_27 : decode cX2_early 27 = .ok (.iload_n 1, 1) := dk_27 (dk_at dksX2_early_1 4 rfl rfl)
theorem dX2_early_28 : decode cX2_early 28 = .ok (.invokevirtual 207, 3) := dk_182 0 207 (dk_at dksX2_early_1 5 rfl rfl)
theorem dX2_early_31 : decode cX2_early 31 = .ok (.ifCond .eq 16, 3) := dk_153 0 16 (dk_at dksX2_early_1 8 rfl rfl)
theorem dX2_early_34 : decode cX2_early 34 = .ok (.aload_n 0, 1) := dk_42 (dk_at dksX2_early_1 11 rfl rfl)
theorem dX2_early_35 : decode cX2_early 35 = .ok (.getfield 165, 3) := dk_180 0 165 (dk_at dksX2_early_1 12 rfl rfl)
theorem dX2_early_38 : decode cX2_early 38 = .ok (.bipush 60, 2) := dk_16 60 (dk_at dksX2_early_1 15 rfl rfl)
theorem dX2_early_40 : decode cX2_early 40 = .ok (.if_icmp .ge 7, 3) := dk_162 0 7 (dk_at dksX2_early_1 17 rfl rfl)
theorem dX2_early_43 : decode cX2_early 43 = .ok (.iconst 1, 1) := dk_4 (dk_at dksX2_early_1 20 rfl rfl)
theorem dX2_early_44 : decode cX2_early 44 = .ok (.goto 4, 3) := dk_167 0 4 (dk_at dksX2_early_1 21 rfl rfl)
theorem dX2_early_47 : decode cX2_early 47 = .ok (.iconst 0, 1) := dk_3 (dk_at dksX2_early_2 0 rfl rfl)
theorem dX2_early_48 : decode cX2_early 48 = .ok (.invokevirtual 140, 3) := dk_182 0 140 (dk_at dksX2_early_2 1 rfl rfl)
theorem dX2_early_51 : decode cX2_early 51 = .ok (.ifCond .ne 5, 3) := dk_154 0 5 (dk_at dksX2_early_2 4 rfl rfl)
theorem dX2_early_54 : decode cX2_early 54 = .ok (.iconst 0, 1) := dk_3 (dk_at dksX2_early_2 7 rfl rfl)
theorem dX2_early_55 : decode cX2_early 55 = .ok (.ireturn, 1) := dk_172 (dk_at dksX2_early_2 8 rfl rfl)
theorem dX2_early_56 : decode cX2_early 56 = .ok (.aload_n 0, 1) := dk_42 (dk_at dksX2_early_2 9 rfl rfl)
theorem dX2_early_57 : decode cX2_early 57 = .ok (.iload_n 1, 1) := dk_27 (dk_at dksX2_early_2 10 rfl rfl)
theorem dX2_early_58 : decode cX2_early 58 = .ok (.invokevirtual 175, 3) := dk_182 0 175 (dk_at dksX2_early_2 11 rfl rfl)
theorem dX2_early_61 : decode cX2_early 61 = .ok (.pop, 1) := dk_87 (dk_at dksX2_early_2 14 rfl rfl)
theorem dX2_early_62 : decode cX2_early 62 = .ok (.aload_n 0, 1) := dk_42 (dk_at dksX2_early_2 15 rfl rfl)
theorem dX2_early_63 : decode cX2_early 63 = .ok (.getfield 57, 3) := dk_180 0 57 (dk_at dksX2_early_2 16 rfl rfl)
theorem dX2_early_66 : decode cX2_early 66 = .ok (.aload_n 0, 1) := dk_42 (dk_at dksX2_early_2 19 rfl rfl)
theorem dX2_early_67 : decode cX2_early 67 = .ok (.getfield 165, 3) := dk_180 0 165 (dk_at dksX2_early_2 20 rfl rfl)
theorem dX2_early_70 : decode cX2_early 70 = .ok (.iload_n 1, 1) := dk_27 (dk_at dksX2_early_2 23 rfl rfl)
theorem dX2_early_71 : decode cX2_early 71 = .ok (.iastore, 1) := dk_79 (dk_at dksX2_early_3 0 rfl rfl)
theorem dX2_early_72 : decode cX2_early 72 = .ok (.aload_n 0, 1) := dk_42 (dk_at dksX2_early_3 1 rfl rfl)
theorem dX2_early_73 : decode cX2_early 73 = .ok (.getfield 60, 3) := dk_180 0 60 (dk_at dksX2_early_3 2 rfl rfl)
theorem dX2_early_76 : decode cX2_early 76 = .ok (.aload_n 0, 1) := dk_42 (dk_at dksX2_early_3 5 rfl rfl)
theorem dX2_early_77 : decode cX2_early 77 = .ok (.getfield 165, 3) := dk_180 0 165 (dk_at dksX2_early_3 6 rfl rfl)
theorem dX2_early_80 : decode cX2_early 80 = .ok (.iload_n 2, 1) := dk_28 (dk_at dksX2_early_3 9 rfl rfl)
theorem dX2_early_81 : decode cX2_early 81 = .ok (.iastore, 1) := dk_79 (dk_at dksX2_early_3 10 rfl rfl)
theorem dX2_early_82 : decode cX2_early 82 = .ok (.aload_n 0, 1) := dk_42 (dk_at dksX2_early_3 11 rfl rfl)
theorem dX2_early_83 : decode cX2_early 83 = .ok (.getfield 63, 3) := dk_180 0 63 (dk_at dksX2_early_3 12 rfl rfl)
theorem dX2_early_86 : decode cX2_early 86 = .ok (.aload_n 0, 1) := dk_42 (dk_at dksX2_early_3 15 rfl rfl)
theorem dX2_early_87 : decode cX2_early 87 = .ok (.getfield 165, 3) := dk_180 0 165 (dk_at dksX2_early_3 16 rfl rfl)
theorem dX2_early_90 : decode cX2_early 90 = .ok (.iconst 0, 1) := dk_3 (dk_at dksX2_early_3 19 rfl rfl)
theorem dX2_early_91 : decode cX2_early 91 = .ok (.iastore, 1) := dk_79 (dk_at dksX2_early_3 20 rfl rfl)
theorem dX2_early_92 : decode cX2_early 92 = .ok (.aload_n 0, 1) := dk_42 (dk_at dksX2_early_3 21 rfl rfl)
theorem dX2_early_93 : decode cX2_early 93 = .ok (.dup, 1) := dk_89 (dk_at dksX2_early_3 22 rfl rfl)
theorem dX2_early_94 : decode cX2_early 94 = .ok (.getfield 165, 3) := dk_180 0 165 (dk_at dksX2_early_4 0 rfl rfl)
theorem dX2_early_97 : decode cX2_early 97 = .ok (.iconst 1, 1) := dk_4 (dk_at dksX2_early_4 3 rfl rfl)
theorem dX2_early_98 : decode cX2_early 98 = .ok (.iadd, 1) := dk_96 (dk_at dksX2_early_4 4 rfl rfl)
theorem dX2_early_99 : decode cX2_early 99 = .ok (.putfield 165, 3) := dk_181 0 165 (dk_at dksX2_early_4 5 rfl rfl)
theorem dX2_early_102 : decode cX2_early 102 = .ok (.aload_n 0, 1) := dk_42 (dk_at dksX2_early_4 8 rfl rfl)
theorem dX2_early_103 : decode cX2_early 103 = .ok (.aload_n 0, 1) := dk_42 (dk_at dksX2_early_4 9 rfl rfl)
theorem dX2_early_104 : decode cX2_early 104 = .ok (.getfield 149, 3) := dk_180 0 149 (dk_at dksX2_early_4 10 rfl rfl)
theorem dX2_early_107 : decode cX2_early 107 = .ok (.bipush 101, 2) := dk_16 101 (dk_at dksX2_early_4 13 rfl rfl)
theorem dX2_early_109 : decode cX2_early 109 = .ok (.iload_n 1, 1) := dk_27 (dk_at dksX2_early_4 15 rfl rfl)
theorem dX2_early_110 : decode cX2_early 110 = .ok (.invokevirtual 172, 3) := dk_182 0 172 (dk_at dksX2_early_4 16 rfl rfl)
theorem dX2_early_113 : decode cX2_early 113 = .ok (.aload_n 0, 1) := dk_42 (dk_at dksX2_early_4 19 rfl rfl)
theorem dX2_early_114 : decode cX2_early 114 = .ok (.getfield 165, 3) := dk_180 0 165 (dk_at dksX2_early_4 20 rfl rfl)
theorem dX2_early_117 : decode cX2_early 117 = .ok (.iconst 1, 1) := dk_4 (dk_at dksX2_early_4 23 rfl rfl)
theorem dX2_early_118 : decode cX2_early 118 = .ok (.isub, 1) := dk_100 (dk_at dksX2_early_5 0 rfl rfl)
theorem dX2_early_119 : decode cX2_early 119 = .ok (.ireturn, 1) := dk_172 (dk_at dksX2_early_5 1 rfl rfl)
abbrev cX2_canVote : ByteArray := prog_14_method_39_code
def yX2_canVote : MethodName := ⟨RX2, "canVote", "(I)Z"⟩
def dkwX2_canVote_1 : List UInt8 := [172]
abbrev dktX2_canVote_1 : List UInt8 := dkwX2_canVote_1 ++ []
def dkwX2_canVote_0 : List UInt8 := [42, 180, 0, 48, 27, 46, 2, 159, 0, 16, 42, 180, 0, 29, 27, 51, 154, 0, 7, 4, 167, 0, 4, 3]
abbrev dktX2_canVote_0 : List UInt8 := dkwX2_canVote_0 ++ dktX2_canVote_1
theorem dksX2_canVote_0 : cX2_canVote.data.toList.drop 0 = dktX2_canVote_0 := by decide +kernel
theorem dksX2_canVote_1 : cX2_canVote.data.toList.drop 24 = dktX2_canVote_1 := dk_seg dksX2_canVote_0 24 rfl rfl
theorem dX2_canVote_0 : decode cX2_canVote 0 = .ok (.aload_n 0, 1) := dk_42 (dk_at dksX2_canVote_0 0 rfl rfl)
theorem dX2_canVote_1 : decode cX2_canVote 1 = .ok (.getfield 48, 3) := dk_180 0 48 (dk_at dksX2_canVote_0 1 rfl rfl)
theorem dX2_canVote_4 : decode cX2_canVote 4 = .ok (.iload_n 1, 1) := dk_27 (dk_at dksX2_canVote_0 4 rfl rfl)
theorem dX2_canVote_5 : decode cX2_canVote 5 = .ok (.iaload, 1) := dk_46 (dk_at dksX2_canVote_0 5 rfl rfl)
theorem dX2_canVote_6 : decode cX2_canVote 6 = .ok (.iconst (-1), 1) := dk_2 (dk_at dksX2_canVote_0 6 rfl rfl)
theorem dX2_canVote_7 : decode cX2_canVote 7 = .ok (.if_icmp .eq 16, 3) := dk_159 0 16 (dk_at dksX2_canVote_0 7 rfl rfl)
theorem dX2_canVote_10 : decode cX2_canVote 10 = .ok (.aload_n 0, 1) := dk_42 (dk_at dksX2_canVote_0 10 rfl rfl)
theorem dX2_canVote_11 : decode cX2_canVote 11 = .ok (.getfield 29, 3) := dk_180 0 29 (dk_at dksX2_canVote_0 11 rfl rfl)
theorem dX2_canVote_14 : decode cX2_canVote 14 = .ok (.iload_n 1, 1) := dk_27 (dk_at dksX2_canVote_0 14 rfl rfl)
theorem dX2_canVote_15 : decode cX2_canVote 15 = .ok (.baload, 1) := dk_51 (dk_at dksX2_canVote_0 15 rfl rfl)
theorem dX2_canVote_16 : decode cX2_canVote 16 = .ok (.ifCond .ne 7, 3) := dk_154 0 7 (dk_at dksX2_canVote_0 16 rfl rfl)
theorem dX2_canVote_19 : decode cX2_canVote 19 = .ok (.iconst 1, 1) := dk_4 (dk_at dksX2_canVote_0 19 rfl rfl)
theorem dX2_canVote_20 : decode cX2_canVote 20 = .ok (.goto 4, 3) := dk_167 0 4 (dk_at dksX2_canVote_0 20 rfl rfl)
theorem dX2_canVote_23 : decode cX2_canVote 23 = .ok (.iconst 0, 1) := dk_3 (dk_at dksX2_canVote_0 23 rfl rfl)
theorem dX2_canVote_24 : decode cX2_canVote 24 = .ok (.ireturn, 1) := dk_172 (dk_at dksX2_canVote_1 0 rfl rfl)
abbrev cX2_vote : ByteArray := prog_14_method_41_code
def yX2_vote : MethodName := ⟨RX2, "vote", "(III)I"⟩
def dkwX2_vote_4 : List UInt8 := [180, 0, 149, 16, 118, 27, 182, 0, 172, 42, 27, 29, 182, 0, 195, 172]
abbrev dktX2_vote_4 : List UInt8 := dkwX2_vote_4 ++ []
def dkwX2_vote_3 : List UInt8 := [160, 0, 7, 4, 167, 0, 4, 3, 182, 0, 140, 154, 0, 5, 3, 172, 42, 27, 182, 0, 175, 87, 42, 42]
abbrev dktX2_vote_3 : List UInt8 := dkwX2_vote_3 ++ dktX2_vote_4
def dkwX2_vote_2 : List UInt8 := [182, 0, 207, 153, 0, 26, 42, 180, 0, 54, 27, 51, 154, 0, 17, 42, 180, 0, 48, 27, 46, 28]
abbrev dktX2_vote_2 : List UInt8 := dkwX2_vote_2 ++ dktX2_vote_3
def dkwX2_vote_1 : List UInt8 := [21, 4, 29, 3, 8, 184, 0, 111, 21, 4, 153, 0, 42, 42, 180, 0, 41, 6, 160, 0, 34, 42, 27]
abbrev dktX2_vote_1 : List UInt8 := dkwX2_vote_1 ++ dktX2_vote_2
def dkwX2_vote_0 : List UInt8 := [42, 27, 182, 0, 156, 153, 0, 15, 42, 28, 182, 0, 143, 153, 0, 7, 4, 167, 0, 4, 3, 54, 4, 42]
abbrev dktX2_vote_0 : List UInt8 := dkwX2_vote_0 ++ dktX2_vote_1
theorem dksX2_vote_0 : cX2_vote.data.toList.drop 0 = dktX2_vote_0 := by decide +kernel
theorem dksX2_vote_1 : cX2_vote.data.toList.drop 24 = dktX2_vote_1 := dk_seg dksX2_vote_0 24 rfl rfl
theorem dksX2_vote_2 : cX2_vote.data.toList.drop 47 = dktX2_vote_2 := dk_seg dksX2_vote_1 23 rfl rfl
theorem dksX2_vote_3 : cX2_vote.data.toList.drop 69 = dktX2_vote_3 := dk_seg dksX2_vote_2 22 rfl rfl
theorem dksX2_vote_4 : cX2_vote.data.toList.drop 93 = dktX2_vote_4 := dk_seg dksX2_vote_3 24 rfl rfl
theorem dX2_vote_0 : decode cX2_vote 0 = .ok (.aload_n 0, 1) := dk_42 (dk_at dksX2_vote_0 0 rfl rfl)
theorem dX2_vote_1 : decode cX2_vote 1 = .ok (.iload_n 1, 1) := dk_27 (dk_at dksX2_vote_0 1 rfl rfl)
theorem dX2_vote_2 : decode cX2_vote 2 = .ok (.invokevirtual 156, 3) := dk_182 0 156 (dk_at dksX2_vote_0 2 rfl rfl)
theorem dX2_vote_5 : decode cX2_vote 5 = .ok (.ifCond .eq 15, 3) := dk_153 0 15 (dk_at dksX2_vote_0 5 rfl rfl)
theorem dX2_vote_8 : decode cX2_vote 8 = .ok (.aload_n 0, 1) := dk_42 (dk_at dksX2_vote_0 8 rfl rfl)
theorem dX2_vote_9 : decode cX2_vote 9 = .ok (.iload_n 2, 1) := dk_28 (dk_at dksX2_vote_0 9 rfl rfl)
theorem dX2_vote_10 : decode cX2_vote 10 = .ok (.invokevirtual 143, 3) := dk_182 0 143 (dk_at dksX2_vote_0 10 rfl rfl)
theorem dX2_vote_13 : decode cX2_vote 13 = .ok (.ifCond .eq 7, 3) := dk_153 0 7 (dk_at dksX2_vote_0 13 rfl rfl)
theorem dX2_vote_16 : decode cX2_vote 16 = .ok (.iconst 1, 1) := dk_4 (dk_at dksX2_vote_0 16 rfl rfl)
theorem dX2_vote_17 : decode cX2_vote 17 = .ok (.goto 4, 3) := dk_167 0 4 (dk_at dksX2_vote_0 17 rfl rfl)
theorem dX2_vote_20 : decode cX2_vote 20 = .ok (.iconst 0, 1) := dk_3 (dk_at dksX2_vote_0 20 rfl rfl)
theorem dX2_vote_21 : decode cX2_vote 21 = .ok (.istore 4, 2) := dk_54 4 (dk_at dksX2_vote_0 21 rfl rfl)
theorem dX2_vote_23 : decode cX2_vote 23 = .ok (.aload_n 0, 1) := dk_42 (dk_at dksX2_vote_0 23 rfl rfl)
theorem dX2_vote_24 : decode cX2_vote 24 = .ok (.iload 4, 2) := dk_21 4 (dk_at dksX2_vote_1 0 rfl rfl)
theorem dX2_vote_26 : decode cX2_vote 26 = .ok (.iload_n 3, 1) := dk_29 (dk_at dksX2_vote_1 2 rfl rfl)
theorem dX2_vote_27 : decode cX2_vote 27 = .ok (.iconst 0, 1) := dk_3 (dk_at dksX2_vote_1 3 rfl rfl)
theorem dX2_vote_28 : decode cX2_vote 28 = .ok (.iconst 5, 1) := dk_8 (dk_at dksX2_vote_1 4 rfl rfl)
theorem dX2_vote_29 : decode cX2_vote 29 = .ok (.invokestatic 111, 3) := dk_184 0 111 (dk_at dksX2_vote_1 5 rfl rfl)
theorem dX2_vote_32 : decode cX2_vote 32 = .ok (.iload 4, 2) := dk_21 4 (dk_at dksX2_vote_1 8 rfl rfl)
theorem dX2_vote_34 : decode cX2_vote 34 = .ok (.ifCond .eq 42, 3) := dk_153 0 42 (dk_at dksX2_vote_1 10 rfl rfl)
theorem dX2_vote_37 : decode cX2_vote 37 = .ok (.aload_n 0, 1) := dk_42 (dk_at dksX2_vote_1 13 rfl rfl)
theorem dX2_vote_38 : decode cX2_vote 38 = .ok (.getfield 41, 3) := dk_180 0 41 (dk_at dksX2_vote_1 14 rfl rfl)
theorem dX2_vote_41 : decode cX2_vote 41 = .ok (.iconst 3, 1) := dk_6 (dk_at dksX2_vote_1 17 rfl rfl)
theorem dX2_vote_42 : decode cX2_vote 42 = .ok (.if_icmp .ne 34, 3) := dk_160 0 34 (dk_at dksX2_vote_1 18 rfl rfl)
theorem dX2_vote_45 : decode cX2_vote 45 = .ok (.aload_n 0, 1) := dk_42 (dk_at dksX2_vote_1 21 rfl rfl)
theorem dX2_vote_46 : decode cX2_vote 46 = .ok (.iload_n 1, 1) := dk_27 (dk_at dksX2_vote_1 22 rfl rfl)
theorem dX2_vote_47 : decode cX2_vote 47 = .ok (.invokevirtual 207, 3) := dk_182 0 207 (dk_at dksX2_vote_2 0 rfl rfl)
theorem dX2_vote_50 : decode cX2_vote 50 = .ok (.ifCond .eq 26, 3) := dk_153 0 26 (dk_at dksX2_vote_2 3 rfl rfl)
theorem dX2_vote_53 : decode cX2_vote 53 = .ok (.aload_n 0, 1) := dk_42 (dk_at dksX2_vote_2 6 rfl rfl)
theorem dX2_vote_54 : decode cX2_vote 54 = .ok (.getfield 54, 3) := dk_180 0 54 (dk_at dksX2_vote_2 7 rfl rfl)
theorem dX2_vote_57 : decode cX2_vote 57 = .ok (.iload_n 1, 1) := dk_27 (dk_at dksX2_vote_2 10 rfl rfl)
theorem dX2_vote_58 : decode cX2_vote 58 = .ok (.baload, 1) := dk_51 (dk_at dksX2_vote_2 11 rfl rfl)
theorem dX2_vote_59 : decode cX2_vote 59 = .ok (.ifCond .ne 17, 3) := dk_154 0 17 (dk_at dksX2_vote_2 12 rfl rfl)
theorem dX2_vote_62 : decode cX2_vote 62 = .ok (.aload_n 0, 1) := dk_42 (dk_at dksX2_vote_2 15 rfl rfl)
theorem dX2_vote_63 : decode cX2_vote 63 = .ok (.getfield 48, 3) := dk_180 0 48 (dk_at dksX2_vote_2 16 rfl rfl)
theorem dX2_vote_66 : decode cX2_vote 66 = .ok (.iload_n 1, 1) := dk_27 (dk_at dksX2_vote_2 19 rfl rfl)
theorem dX2_vote_67 : decode cX2_vote 67 = .ok (.iaload, 1) := dk_46 (dk_at dksX2_vote_2 20 rfl rfl)
theorem dX2_vote_68 : decode cX2_vote 68 = .ok (.iload_n 2, 1) := dk_28 (dk_at dksX2_vote_2 21 rfl rfl)
theorem dX2_vote_69 : decode cX2_vote 69 = .ok (.if_icmp .ne 7, 3) := dk_160 0 7 (dk_at dksX2_vote_3 0 rfl rfl)
theorem dX2_vote_72 : decode cX2_vote 72 = .ok (.iconst 1, 1) := dk_4 (dk_at dksX2_vote_3 3 rfl rfl)
theorem dX2_vote_73 : decode cX2_vote 73 = .ok (.goto 4, 3) := dk_167 0 4 (dk_at dksX2_vote_3 4 rfl rfl)
theorem dX2_vote_76 : decode cX2_vote 76 = .ok (.iconst 0, 1) := dk_3 (dk_at dksX2_vote_3 7 rfl rfl)
theorem dX2_vote_77 : decode cX2_vote 77 = .ok (.invokevirtual 140, 3) := dk_182 0 140 (dk_at dksX2_vote_3 8 rfl rfl)
theorem dX2_vote_80 : decode cX2_vote 80 = .ok (.ifCond .ne 5, 3) := dk_154 0 5 (dk_at dksX2_vote_3 11 rfl rfl)
theorem dX2_vote_83 : decode cX2_vote 83 = .ok (.iconst 0, 1) := dk_3 (dk_at dksX2_vote_3 14 rfl rfl)
theorem dX2_vote_84 : decode cX2_vote 84 = .ok (.ireturn, 1) := dk_172 (dk_at dksX2_vote_3 15 rfl rfl)
theorem dX2_vote_85 : decode cX2_vote 85 = .ok (.aload_n 0, 1) := dk_42 (dk_at dksX2_vote_3 16 rfl rfl)
theorem dX2_vote_86 : decode cX2_vote 86 = .ok (.iload_n 1, 1) := dk_27 (dk_at dksX2_vote_3 17 rfl rfl)
theorem dX2_vote_87 : decode cX2_vote 87 = .ok (.invokevirtual 175, 3) := dk_182 0 175 (dk_at dksX2_vote_3 18 rfl rfl)
theorem dX2_vote_90 : decode cX2_vote 90 = .ok (.pop, 1) := dk_87 (dk_at dksX2_vote_3 21 rfl rfl)
theorem dX2_vote_91 : decode cX2_vote 91 = .ok (.aload_n 0, 1) := dk_42 (dk_at dksX2_vote_3 22 rfl rfl)
theorem dX2_vote_92 : decode cX2_vote 92 = .ok (.aload_n 0, 1) := dk_42 (dk_at dksX2_vote_3 23 rfl rfl)
theorem dX2_vote_93 : decode cX2_vote 93 = .ok (.getfield 149, 3) := dk_180 0 149 (dk_at dksX2_vote_4 0 rfl rfl)
theorem dX2_vote_96 : decode cX2_vote 96 = .ok (.bipush 118, 2) := dk_16 118 (dk_at dksX2_vote_4 3 rfl rfl)
theorem dX2_vote_98 : decode cX2_vote 98 = .ok (.iload_n 1, 1) := dk_27 (dk_at dksX2_vote_4 5 rfl rfl)
theorem dX2_vote_99 : decode cX2_vote 99 = .ok (.invokevirtual 172, 3) := dk_182 0 172 (dk_at dksX2_vote_4 6 rfl rfl)
theorem dX2_vote_102 : decode cX2_vote 102 = .ok (.aload_n 0, 1) := dk_42 (dk_at dksX2_vote_4 9 rfl rfl)
theorem dX2_vote_103 : decode cX2_vote 103 = .ok (.iload_n 1, 1) := dk_27 (dk_at dksX2_vote_4 10 rfl rfl)
theorem dX2_vote_104 : decode cX2_vote 104 = .ok (.iload_n 3, 1) := dk_29 (dk_at dksX2_vote_4 11 rfl rfl)
theorem dX2_vote_105 : decode cX2_vote 105 = .ok (.invokevirtual 195, 3) := dk_182 0 195 (dk_at dksX2_vote_4 12 rfl rfl)
theorem dX2_vote_108 : decode cX2_vote 108 = .ok (.ireturn, 1) := dk_172 (dk_at dksX2_vote_4 15 rfl rfl)
abbrev cX2_open : ByteArray := prog_14_method_42_code
def yX2_open : MethodName := ⟨RX2, "open", "(I)I"⟩
def dkwX2_open_3 : List UInt8 := [180, 0, 149, 16, 111, 27, 182, 0, 172, 29, 172]
abbrev dktX2_open_3 : List UInt8 := dkwX2_open_3 ++ []
def dkwX2_open_2 : List UInt8 := [172, 42, 180, 0, 63, 29, 5, 79, 42, 27, 42, 180, 0, 60, 29, 46, 182, 0, 195, 87, 42, 42]
abbrev dktX2_open_2 : List UInt8 := dkwX2_open_2 ++ dktX2_open_3
def dkwX2_open_1 : List UInt8 := [167, 0, 4, 2, 62, 42, 28, 29, 2, 159, 0, 7, 4, 167, 0, 4, 3, 182, 0, 129, 154, 0, 5, 3]
abbrev dktX2_open_1 : List UInt8 := dkwX2_open_1 ++ dktX2_open_2
def dkwX2_open_0 : List UInt8 := [42, 27, 182, 0, 156, 61, 28, 153, 0, 19, 42, 180, 0, 41, 6, 160, 0, 11, 42, 27, 182, 0, 168]
abbrev dktX2_open_0 : List UInt8 := dkwX2_open_0 ++ dktX2_open_1
theorem dksX2_open_0 : cX2_open.data.toList.drop 0 = dktX2_open_0 := by decide +kernel
theorem dksX2_open_1 : cX2_open.data.toList.drop 23 = dktX2_open_1 := dk_seg dksX2_open_0 23 rfl rfl
theorem dksX2_open_2 : cX2_open.data.toList.drop 47 = dktX2_open_2 := dk_seg dksX2_open_1 24 rfl rfl
theorem dksX2_open_3 : cX2_open.data.toList.drop 69 = dktX2_open_3 := dk_seg dksX2_open_2 22 rfl rfl
theorem dX2_open_0 : decode cX2_open 0 = .ok (.aload_n 0, 1) := dk_42 (dk_at dksX2_open_0 0 rfl rfl)
theorem dX2_open_1 : decode cX2_open 1 = .ok (.iload_n 1, 1) := dk_27 (dk_at dksX2_open_0 1 rfl rfl)
theorem dX2_open_2 : decode cX2_open 2 = .ok (.invokevirtual 156, 3) := dk_182 0 156 (dk_at dksX2_open_0 2 rfl rfl)
theorem dX2_open_5 : decode cX2_open 5 = .ok (.istore_n 2, 1) := dk_61 (dk_at dksX2_open_0 5 rfl rfl)
theorem dX2_open_6 : decode cX2_open 6 = .ok (.iload_n 2, 1) := dk_28 (dk_at dksX2_open_0 6 rfl rfl)
theorem dX2_open_7 : decode cX2_open 7 = .ok (.ifCond .eq 19, 3) := dk_153 0 19 (dk_at dksX2_open_0 7 rfl rfl)
theorem dX2_open_10 : decode cX2_open 10 = .ok (.aload_n 0, 1) := dk_42 (dk_at dksX2_open_0 10 rfl rfl)
theorem dX2_open_11 : decode cX2_open 11 = .ok (.getfield 41, 3) := dk_180 0 41 (dk_at dksX2_open_0 11 rfl rfl)
theorem dX2_open_14 : decode cX2_open 14 = .ok (.iconst 3, 1) := dk_6 (dk_at dksX2_open_0 14 rfl rfl)
theorem dX2_open_15 : decode cX2_open 15 = .ok (.if_icmp .ne 11, 3) := dk_160 0 11 (dk_at dksX2_open_0 15 rfl rfl)
theorem dX2_open_18 : decode cX2_open 18 = .ok (.aload_n 0, 1) := dk_42 (dk_at dksX2_open_0 18 rfl rfl)
theorem dX2_open_19 : decode cX2_open 19 = .ok (.iload_n 1, 1) := dk_27 (dk_at dksX2_open_0 19 rfl rfl)
theorem dX2_open_20 : decode cX2_open 20 = .ok (.invokevirtual 168, 3) := dk_182 0 168 (dk_at dksX2_open_0 20 rfl rfl)
theorem dX2_open_23 : decode cX2_open 23 = .ok (.goto 4, 3) := dk_167 0 4 (dk_at dksX2_open_1 0 rfl rfl)
theorem dX2_open_26 : decode cX2_open 26 = .ok (.iconst (-1), 1) := dk_2 (dk_at dksX2_open_1 3 rfl rfl)
theorem dX2_open_27 : decode cX2_open 27 = .ok (.istore_n 3, 1) := dk_62 (dk_at dksX2_open_1 4 rfl rfl)
theorem dX2_open_28 : decode cX2_open 28 = .ok (.aload_n 0, 1) := dk_42 (dk_at dksX2_open_1 5 rfl rfl)
theorem dX2_open_29 : decode cX2_open 29 = .ok (.iload_n 2, 1) := dk_28 (dk_at dksX2_open_1 6 rfl rfl)
theorem dX2_open_30 : decode cX2_open 30 = .ok (.iload_n 3, 1) := dk_29 (dk_at dksX2_open_1 7 rfl rfl)
theorem dX2_open_31 : decode cX2_open 31 = .ok (.iconst (-1), 1) := dk_2 (dk_at dksX2_open_1 8 rfl rfl)
theorem dX2_open_32 : decode cX2_open 32 = .ok (.if_icmp .eq 7, 3) := dk_159 0 7 (dk_at dksX2_open_1 9 rfl rfl)
theorem dX2_open_35 : decode cX2_open 35 = .ok (.iconst 1, 1) := dk_4 (dk_at dksX2_open_1 12 rfl rfl)
theorem dX2_open_36 : decode cX2_open 36 = .ok (.goto 4, 3) := dk_167 0 4 (dk_at dksX2_open_1 13 rfl rfl)
theorem dX2_open_39 : decode cX2_open 39 = .ok (.iconst 0, 1) := dk_3 (dk_at dksX2_open_1 16 rfl rfl)
theorem dX2_open_40 : decode cX2_open 40 = .ok (.invokevirtual 129, 3) := dk_182 0 129 (dk_at dksX2_open_1 17 rfl rfl)
theorem dX2_open_43 : decode cX2_open 43 = .ok (.ifCond .ne 5, 3) := dk_154 0 5 (dk_at dksX2_open_1 20 rfl rfl)
theorem dX2_open_46 : decode cX2_open 46 = .ok (.iconst 0, 1) := dk_3 (dk_at dksX2_open_1 23 rfl rfl)
theorem dX2_open_47 : decode cX2_open 47 = .ok (.ireturn, 1) := dk_172 (dk_at dksX2_open_2 0 rfl rfl)
theorem dX2_open_48 : decode cX2_open 48 = .ok (.aload_n 0, 1) := dk_42 (dk_at dksX2_open_2 1 rfl rfl)
theorem dX2_open_49 : decode cX2_open 49 = .ok (.getfield 63, 3) := dk_180 0 63 (dk_at dksX2_open_2 2 rfl rfl)
theorem dX2_open_52 : decode cX2_open 52 = .ok (.iload_n 3, 1) := dk_29 (dk_at dksX2_open_2 5 rfl rfl)
theorem dX2_open_53 : decode cX2_open 53 = .ok (.iconst 2, 1) := dk_5 (dk_at dksX2_open_2 6 rfl rfl)
theorem dX2_open_54 : decode cX2_open 54 = .ok (.iastore, 1) := dk_79 (dk_at dksX2_open_2 7 rfl rfl)
theorem dX2_open_55 : decode cX2_open 55 = .ok (.aload_n 0, 1) := dk_42 (dk_at dksX2_open_2 8 rfl rfl)
theorem dX2_open_56 : decode cX2_open 56 = .ok (.iload_n 1, 1) := dk_27 (dk_at dksX2_open_2 9 rfl rfl)
theorem dX2_open_57 : decode cX2_open 57 = .ok (.aload_n 0, 1) := dk_42 (dk_at dksX2_open_2 10 rfl rfl)
theorem dX2_open_58 : decode cX2_open 58 = .ok (.getfield 60, 3) := dk_180 0 60 (dk_at dksX2_open_2 11 rfl rfl)
theorem dX2_open_61 : decode cX2_open 61 = .ok (.iload_n 3, 1) := dk_29 (dk_at dksX2_open_2 14 rfl rfl)
theorem dX2_open_62 : decode cX2_open 62 = .ok (.iaload, 1) := dk_46 (dk_at dksX2_open_2 15 rfl rfl)
theorem dX2_open_63 : decode cX2_open 63 = .ok (.invokevirtual 195, 3) := dk_182 0 195 (dk_at dksX2_open_2 16 rfl rfl)
theorem dX2_open_66 : decode cX2_open 66 = .ok (.pop, 1) := dk_87 (dk_at dksX2_open_2 19 rfl rfl)
theorem dX2_open_67 : decode cX2_open 67 = .ok (.aload_n 0, 1) := dk_42 (dk_at dksX2_open_2 20 rfl rfl)
theorem dX2_open_68 : decode cX2_open 68 = .ok (.aload_n 0, 1) := dk_42 (dk_at dksX2_open_2 21 rfl rfl)
theorem dX2_open_69 : decode cX2_open 69 = .ok (.getfield 149, 3) := dk_180 0 149 (dk_at dksX2_open_3 0 rfl rfl)
theorem dX2_open_72 : decode cX2_open 72 = .ok (.bipush 111, 2) := dk_16 111 (dk_at dksX2_open_3 3 rfl rfl)
theorem dX2_open_74 : decode cX2_open 74 = .ok (.iload_n 1, 1) := dk_27 (dk_at dksX2_open_3 5 rfl rfl)
theorem dX2_open_75 : decode cX2_open 75 = .ok (.invokevirtual 172, 3) := dk_182 0 172 (dk_at dksX2_open_3 6 rfl rfl)
theorem dX2_open_78 : decode cX2_open 78 = .ok (.iload_n 3, 1) := dk_29 (dk_at dksX2_open_3 9 rfl rfl)
theorem dX2_open_79 : decode cX2_open 79 = .ok (.ireturn, 1) := dk_172 (dk_at dksX2_open_3 10 rfl rfl)
abbrev cX2_envelopes : ByteArray := prog_14_method_43_code
def yX2_envelopes : MethodName := ⟨RX2, "envelopes", "()I"⟩
def dkwX2_envelopes_0 : List UInt8 := [42, 42, 180, 0, 165, 182, 0, 204, 172]
abbrev dktX2_envelopes_0 : List UInt8 := dkwX2_envelopes_0 ++ []
theorem dksX2_envelopes_0 : cX2_envelopes.data.toList.drop 0 = dktX2_envelopes_0 := by decide +kernel
theorem dX2_envelopes_0 : decode cX2_envelopes 0 = .ok (.aload_n 0, 1) := dk_42 (dk_at dksX2_envelopes_0 0 rfl rfl)
theorem dX2_envelopes_1 : decode cX2_envelopes 1 = .ok (.aload_n 0, 1) := dk_42 (dk_at dksX2_envelopes_0 1 rfl rfl)
theorem dX2_envelopes_2 : decode cX2_envelopes 2 = .ok (.getfield 165, 3) := dk_180 0 165 (dk_at dksX2_envelopes_0 2 rfl rfl)
theorem dX2_envelopes_5 : decode cX2_envelopes 5 = .ok (.invokevirtual 204, 3) := dk_182 0 204 (dk_at dksX2_envelopes_0 5 rfl rfl)
theorem dX2_envelopes_8 : decode cX2_envelopes 8 = .ok (.ireturn, 1) := dk_172 (dk_at dksX2_envelopes_0 8 rfl rfl)
abbrev cX2_stateOf : ByteArray := prog_14_method_44_code
def yX2_stateOf : MethodName := ⟨RX2, "stateOf", "(I)I"⟩
def dkwX2_stateOf_1 : List UInt8 := [167, 0, 4, 3, 172]
abbrev dktX2_stateOf_1 : List UInt8 := dkwX2_stateOf_1 ++ []
def dkwX2_stateOf_0 : List UInt8 := [42, 27, 3, 42, 180, 0, 165, 4, 100, 184, 0, 111, 182, 0, 133, 153, 0, 12, 42, 180, 0, 63, 27, 46]
abbrev dktX2_stateOf_0 : List UInt8 := dkwX2_stateOf_0 ++ dktX2_stateOf_1
theorem dksX2_stateOf_0 : cX2_stateOf.data.toList.drop 0 = dktX2_stateOf_0 := by decide +kernel
theorem dksX2_stateOf_1 : cX2_stateOf.data.toList.drop 24 = dktX2_stateOf_1 := dk_seg dksX2_stateOf_0 24 rfl rfl
theorem dX2_stateOf_0 : decode cX2_stateOf 0 = .ok (.aload_n 0, 1) := dk_42 (dk_at dksX2_stateOf_0 0 rfl rfl)
theorem dX2_stateOf_1 : decode cX2_stateOf 1 = .ok (.iload_n 1, 1) := dk_27 (dk_at dksX2_stateOf_0 1 rfl rfl)
theorem dX2_stateOf_2 : decode cX2_stateOf 2 = .ok (.iconst 0, 1) := dk_3 (dk_at dksX2_stateOf_0 2 rfl rfl)
theorem dX2_stateOf_3 : decode cX2_stateOf 3 = .ok (.aload_n 0, 1) := dk_42 (dk_at dksX2_stateOf_0 3 rfl rfl)
theorem dX2_stateOf_4 : decode cX2_stateOf 4 = .ok (.getfield 165, 3) := dk_180 0 165 (dk_at dksX2_stateOf_0 4 rfl rfl)
theorem dX2_stateOf_7 : decode cX2_stateOf 7 = .ok (.iconst 1, 1) := dk_4 (dk_at dksX2_stateOf_0 7 rfl rfl)
theorem dX2_stateOf_8 : decode cX2_stateOf 8 = .ok (.isub, 1) := dk_100 (dk_at dksX2_stateOf_0 8 rfl rfl)
theorem dX2_stateOf_9 : decode cX2_stateOf 9 = .ok (.invokestatic 111, 3) := dk_184 0 111 (dk_at dksX2_stateOf_0 9 rfl rfl)
theorem dX2_stateOf_12 : decode cX2_stateOf 12 = .ok (.invokevirtual 133, 3) := dk_182 0 133 (dk_at dksX2_stateOf_0 12 rfl rfl)
theorem dX2_stateOf_15 : decode cX2_stateOf 15 = .ok (.ifCond .eq 12, 3) := dk_153 0 12 (dk_at dksX2_stateOf_0 15 rfl rfl)
theorem dX2_stateOf_18 : decode cX2_stateOf 18 = .ok (.aload_n 0, 1) := dk_42 (dk_at dksX2_stateOf_0 18 rfl rfl)
theorem dX2_stateOf_19 : decode cX2_stateOf 19 = .ok (.getfield 63, 3) := dk_180 0 63 (dk_at dksX2_stateOf_0 19 rfl rfl)
theorem dX2_stateOf_22 : decode cX2_stateOf 22 = .ok (.iload_n 1, 1) := dk_27 (dk_at dksX2_stateOf_0 22 rfl rfl)
theorem dX2_stateOf_23 : decode cX2_stateOf 23 = .ok (.iaload, 1) := dk_46 (dk_at dksX2_stateOf_0 23 rfl rfl)
theorem dX2_stateOf_24 : decode cX2_stateOf 24 = .ok (.goto 4, 3) := dk_167 0 4 (dk_at dksX2_stateOf_1 0 rfl rfl)
theorem dX2_stateOf_27 : decode cX2_stateOf 27 = .ok (.iconst 0, 1) := dk_3 (dk_at dksX2_stateOf_1 3 rfl rfl)
theorem dX2_stateOf_28 : decode cX2_stateOf 28 = .ok (.ireturn, 1) := dk_172 (dk_at dksX2_stateOf_1 4 rfl rfl)
abbrev cX2_personOf : ByteArray := prog_14_method_45_code
def yX2_personOf : MethodName := ⟨RX2, "personOf", "(I)I"⟩
def dkwX2_personOf_1 : List UInt8 := [167, 0, 4, 3, 172]
abbrev dktX2_personOf_1 : List UInt8 := dkwX2_personOf_1 ++ []
def dkwX2_personOf_0 : List UInt8 := [42, 27, 3, 42, 180, 0, 165, 4, 100, 184, 0, 111, 182, 0, 133, 153, 0, 12, 42, 180, 0, 57, 27, 46]
abbrev dktX2_personOf_0 : List UInt8 := dkwX2_personOf_0 ++ dktX2_personOf_1
theorem dksX2_personOf_0 : cX2_personOf.data.toList.drop 0 = dktX2_personOf_0 := by decide +kernel
theorem dksX2_personOf_1 : cX2_personOf.data.toList.drop 24 = dktX2_personOf_1 := dk_seg dksX2_personOf_0 24 rfl rfl
theorem dX2_personOf_0 : decode cX2_personOf 0 = .ok (.aload_n 0, 1) := dk_42 (dk_at dksX2_personOf_0 0 rfl rfl)
theorem dX2_personOf_1 : decode cX2_personOf 1 = .ok (.iload_n 1, 1) := dk_27 (dk_at dksX2_personOf_0 1 rfl rfl)
theorem dX2_personOf_2 : decode cX2_personOf 2 = .ok (.iconst 0, 1) := dk_3 (dk_at dksX2_personOf_0 2 rfl rfl)
theorem dX2_personOf_3 : decode cX2_personOf 3 = .ok (.aload_n 0, 1) := dk_42 (dk_at dksX2_personOf_0 3 rfl rfl)
theorem dX2_personOf_4 : decode cX2_personOf 4 = .ok (.getfield 165, 3) := dk_180 0 165 (dk_at dksX2_personOf_0 4 rfl rfl)
theorem dX2_personOf_7 : decode cX2_personOf 7 = .ok (.iconst 1, 1) := dk_4 (dk_at dksX2_personOf_0 7 rfl rfl)
theorem dX2_personOf_8 : decode cX2_personOf 8 = .ok (.isub, 1) := dk_100 (dk_at dksX2_personOf_0 8 rfl rfl)
theorem dX2_personOf_9 : decode cX2_personOf 9 = .ok (.invokestatic 111, 3) := dk_184 0 111 (dk_at dksX2_personOf_0 9 rfl rfl)
theorem dX2_personOf_12 : decode cX2_personOf 12 = .ok (.invokevirtual 133, 3) := dk_182 0 133 (dk_at dksX2_personOf_0 12 rfl rfl)
theorem dX2_personOf_15 : decode cX2_personOf 15 = .ok (.ifCond .eq 12, 3) := dk_153 0 12 (dk_at dksX2_personOf_0 15 rfl rfl)
theorem dX2_personOf_18 : decode cX2_personOf 18 = .ok (.aload_n 0, 1) := dk_42 (dk_at dksX2_personOf_0 18 rfl rfl)
theorem dX2_personOf_19 : decode cX2_personOf 19 = .ok (.getfield 57, 3) := dk_180 0 57 (dk_at dksX2_personOf_0 19 rfl rfl)
theorem dX2_personOf_22 : decode cX2_personOf 22 = .ok (.iload_n 1, 1) := dk_27 (dk_at dksX2_personOf_0 22 rfl rfl)
theorem dX2_personOf_23 : decode cX2_personOf 23 = .ok (.iaload, 1) := dk_46 (dk_at dksX2_personOf_0 23 rfl rfl)
theorem dX2_personOf_24 : decode cX2_personOf 24 = .ok (.goto 4, 3) := dk_167 0 4 (dk_at dksX2_personOf_1 0 rfl rfl)
theorem dX2_personOf_27 : decode cX2_personOf 27 = .ok (.iconst 0, 1) := dk_3 (dk_at dksX2_personOf_1 3 rfl rfl)
theorem dX2_personOf_28 : decode cX2_personOf 28 = .ok (.ireturn, 1) := dk_172 (dk_at dksX2_personOf_1 4 rfl rfl)
abbrev cX2_ballots : ByteArray := prog_14_method_46_code
def yX2_ballots : MethodName := ⟨RX2, "ballots", "(I)I"⟩
def dkwX2_ballots_0 : List UInt8 := [42, 42, 27, 182, 0, 143, 182, 0, 133, 153, 0, 12, 42, 180, 0, 69, 27, 46, 167, 0, 4, 3, 172]
abbrev dktX2_ballots_0 : List UInt8 := dkwX2_ballots_0 ++ []
theorem dksX2_ballots_0 : cX2_ballots.data.toList.drop 0 = dktX2_ballots_0 := by decide +kernel
theorem dX2_ballots_0 : decode cX2_ballots 0 = .ok (.aload_n 0, 1) := dk_42 (dk_at dksX2_ballots_0 0 rfl rfl)
theorem dX2_ballots_1 : decode cX2_ballots 1 = .ok (.aload_n 0, 1) := dk_42 (dk_at dksX2_ballots_0 1 rfl rfl)
theorem dX2_ballots_2 : decode cX2_ballots 2 = .ok (.iload_n 1, 1) := dk_27 (dk_at dksX2_ballots_0 2 rfl rfl)
theorem dX2_ballots_3 : decode cX2_ballots 3 = .ok (.invokevirtual 143, 3) := dk_182 0 143 (dk_at dksX2_ballots_0 3 rfl rfl)
theorem dX2_ballots_6 : decode cX2_ballots 6 = .ok (.invokevirtual 133, 3) := dk_182 0 133 (dk_at dksX2_ballots_0 6 rfl rfl)
theorem dX2_ballots_9 : decode cX2_ballots 9 = .ok (.ifCond .eq 12, 3) := dk_153 0 12 (dk_at dksX2_ballots_0 9 rfl rfl)
theorem dX2_ballots_12 : decode cX2_ballots 12 = .ok (.aload_n 0, 1) := dk_42 (dk_at dksX2_ballots_0 12 rfl rfl)
theorem dX2_ballots_13 : decode cX2_ballots 13 = .ok (.getfield 69, 3) := dk_180 0 69 (dk_at dksX2_ballots_0 13 rfl rfl)
theorem dX2_ballots_16 : decode cX2_ballots 16 = .ok (.iload_n 1, 1) := dk_27 (dk_at dksX2_ballots_0 16 rfl rfl)
theorem dX2_ballots_17 : decode cX2_ballots 17 = .ok (.iaload, 1) := dk_46 (dk_at dksX2_ballots_0 17 rfl rfl)
theorem dX2_ballots_18 : decode cX2_ballots 18 = .ok (.goto 4, 3) := dk_167 0 4 (dk_at dksX2_ballots_0 18 rfl rfl)
theorem dX2_ballots_21 : decode cX2_ballots 21 = .ok (.iconst 0, 1) := dk_3 (dk_at dksX2_ballots_0 21 rfl rfl)
theorem dX2_ballots_22 : decode cX2_ballots 22 = .ok (.ireturn, 1) := dk_172 (dk_at dksX2_ballots_0 22 rfl rfl)
abbrev cX2_setSlip : ByteArray := prog_14_method_47_code
def yX2_setSlip : MethodName := ⟨RX2, "setSlip", "(II)I"⟩
def dkwX2_setSlip_2 : List UInt8 := [28, 79, 29, 172]
abbrev dktX2_setSlip_2 : List UInt8 := dkwX2_setSlip_2 ++ []
def dkwX2_setSlip_1 : List UInt8 := [167, 0, 4, 3, 182, 0, 129, 154, 0, 5, 3, 172, 42, 180, 0, 84, 27, 46, 62, 42, 180, 0, 84, 27]
abbrev dktX2_setSlip_1 : List UInt8 := dkwX2_setSlip_1 ++ dktX2_setSlip_2
def dkwX2_setSlip_0 : List UInt8 := [42, 27, 3, 6, 184, 0, 111, 28, 153, 0, 13, 28, 5, 16, 20, 184, 0, 111, 153, 0, 7, 4]
abbrev dktX2_setSlip_0 : List UInt8 := dkwX2_setSlip_0 ++ dktX2_setSlip_1
theorem dksX2_setSlip_0 : cX2_setSlip.data.toList.drop 0 = dktX2_setSlip_0 := by decide +kernel
theorem dksX2_setSlip_1 : cX2_setSlip.data.toList.drop 22 = dktX2_setSlip_1 := dk_seg dksX2_setSlip_0 22 rfl rfl
theorem dksX2_setSlip_2 : cX2_setSlip.data.toList.drop 46 = dktX2_setSlip_2 := dk_seg dksX2_setSlip_1 24 rfl rfl
theorem dX2_setSlip_0 : decode cX2_setSlip 0 = .ok (.aload_n 0, 1) := dk_42 (dk_at dksX2_setSlip_0 0 rfl rfl)
theorem dX2_setSlip_1 : decode cX2_setSlip 1 = .ok (.iload_n 1, 1) := dk_27 (dk_at dksX2_setSlip_0 1 rfl rfl)
theorem dX2_setSlip_2 : decode cX2_setSlip 2 = .ok (.iconst 0, 1) := dk_3 (dk_at dksX2_setSlip_0 2 rfl rfl)
theorem dX2_setSlip_3 : decode cX2_setSlip 3 = .ok (.iconst 3, 1) := dk_6 (dk_at dksX2_setSlip_0 3 rfl rfl)
theorem dX2_setSlip_4 : decode cX2_setSlip 4 = .ok (.invokestatic 111, 3) := dk_184 0 111 (dk_at dksX2_setSlip_0 4 rfl rfl)
theorem dX2_setSlip_7 : decode cX2_setSlip 7 = .ok (.iload_n 2, 1) := dk_28 (dk_at dksX2_setSlip_0 7 rfl rfl)
theorem dX2_setSlip_8 : decode cX2_setSlip 8 = .ok (.ifCond .eq 13, 3) := dk_153 0 13 (dk_at dksX2_setSlip_0 8 rfl rfl)
theorem dX2_setSlip_11 : decode cX2_setSlip 11 = .ok (.iload_n 2, 1) := dk_28 (dk_at dksX2_setSlip_0 11 rfl rfl)
theorem dX2_setSlip_12 : decode cX2_setSlip 12 = .ok (.iconst 2, 1) := dk_5 (dk_at dksX2_setSlip_0 12 rfl rfl)
theorem dX2_setSlip_13 : decode cX2_setSlip 13 = .ok (.bipush 20, 2) := dk_16 20 (dk_at dksX2_setSlip_0 13 rfl rfl)
theorem dX2_setSlip_15 : decode cX2_setSlip 15 = .ok (.invokestatic 111, 3) := dk_184 0 111 (dk_at dksX2_setSlip_0 15 rfl rfl)
theorem dX2_setSlip_18 : decode cX2_setSlip 18 = .ok (.ifCond .eq 7, 3) := dk_153 0 7 (dk_at dksX2_setSlip_0 18 rfl rfl)
theorem dX2_setSlip_21 : decode cX2_setSlip 21 = .ok (.iconst 1, 1) := dk_4 (dk_at dksX2_setSlip_0 21 rfl rfl)
theorem dX2_setSlip_22 : decode cX2_setSlip 22 = .ok (.goto 4, 3) := dk_167 0 4 (dk_at dksX2_setSlip_1 0 rfl rfl)
theorem dX2_setSlip_25 : decode cX2_setSlip 25 = .ok (.iconst 0, 1) := dk_3 (dk_at dksX2_setSlip_1 3 rfl rfl)
theorem dX2_setSlip_26 : decode cX2_setSlip 26 = .ok (.invokevirtual 129, 3) := dk_182 0 129 (dk_at dksX2_setSlip_1 4 rfl rfl)
theorem dX2_setSlip_29 : decode cX2_setSlip 29 = .ok (.ifCond .ne 5, 3) := dk_154 0 5 (dk_at dksX2_setSlip_1 7 rfl rfl)
theorem dX2_setSlip_32 : decode cX2_setSlip 32 = .ok (.iconst 0, 1) := dk_3 (dk_at dksX2_setSlip_1 10 rfl rfl)
theorem dX2_setSlip_33 : decode cX2_setSlip 33 = .ok (.ireturn, 1) := dk_172 (dk_at dksX2_setSlip_1 11 rfl rfl)
theorem dX2_setSlip_34 : decode cX2_setSlip 34 = .ok (.aload_n 0, 1) := dk_42 (dk_at dksX2_setSlip_1 12 rfl rfl)
theorem dX2_setSlip_35 : decode cX2_setSlip 35 = .ok (.getfield 84, 3) := dk_180 0 84 (dk_at dksX2_setSlip_1 13 rfl rfl)
theorem dX2_setSlip_38 : decode cX2_setSlip 38 = .ok (.iload_n 1, 1) := dk_27 (dk_at dksX2_setSlip_1 16 rfl rfl)
theorem dX2_setSlip_39 : decode cX2_setSlip 39 = .ok (.iaload, 1) := dk_46 (dk_at dksX2_setSlip_1 17 rfl rfl)
theorem dX2_setSlip_40 : decode cX2_setSlip 40 = .ok (.istore_n 3, 1) := dk_62 (dk_at dksX2_setSlip_1 18 rfl rfl)
theorem dX2_setSlip_41 : decode cX2_setSlip 41 = .ok (.aload_n 0, 1) := dk_42 (dk_at dksX2_setSlip_1 19 rfl rfl)
theorem dX2_setSlip_42 : decode cX2_setSlip 42 = .ok (.getfield 84, 3) := dk_180 0 84 (dk_at dksX2_setSlip_1 20 rfl rfl)
theorem dX2_setSlip_45 : decode cX2_setSlip 45 = .ok (.iload_n 1, 1) := dk_27 (dk_at dksX2_setSlip_1 23 rfl rfl)
theorem dX2_setSlip_46 : decode cX2_setSlip 46 = .ok (.iload_n 2, 1) := dk_28 (dk_at dksX2_setSlip_2 0 rfl rfl)
theorem dX2_setSlip_47 : decode cX2_setSlip 47 = .ok (.iastore, 1) := dk_79 (dk_at dksX2_setSlip_2 1 rfl rfl)
theorem dX2_setSlip_48 : decode cX2_setSlip 48 = .ok (.iload_n 3, 1) := dk_29 (dk_at dksX2_setSlip_2 2 rfl rfl)
theorem dX2_setSlip_49 : decode cX2_setSlip 49 = .ok (.ireturn, 1) := dk_172 (dk_at dksX2_setSlip_2 3 rfl rfl)
abbrev cX2_count : ByteArray := prog_14_method_49_code
def yX2_count : MethodName := ⟨RX2, "count", "(II)Z"⟩
def dkwX2_count_15 : List UInt8 := [180, 0, 81, 27, 46, 2, 159, 0, 7, 4, 167, 0, 4, 3, 172]
abbrev dktX2_count_15 : List UInt8 := dkwX2_count_15 ++ []
def dkwX2_count_14 : List UInt8 := [132, 6, 1, 167, 255, 221, 42, 21, 5, 153, 0, 7, 8, 167, 0, 7, 42, 180, 0, 41, 181, 0, 41, 42]
abbrev dktX2_count_14 : List UInt8 := dkwX2_count_14 ++ dktX2_count_15
def dkwX2_count_13 : List UInt8 := [21, 5, 153, 0, 18, 42, 180, 0, 81, 21, 6, 46, 2, 159, 0, 7, 4, 167, 0, 4, 3, 54, 5]
abbrev dktX2_count_13 : List UInt8 := dkwX2_count_13 ++ dktX2_count_14
def dkwX2_count_12 : List UInt8 := [180, 0, 149, 16, 99, 27, 182, 0, 172, 4, 54, 5, 3, 54, 6, 21, 6, 42, 180, 0, 178, 162, 0, 32]
abbrev dktX2_count_12 : List UInt8 := dkwX2_count_12 ++ dktX2_count_13
def dkwX2_count_11 : List UInt8 := [153, 0, 8, 21, 4, 167, 0, 9, 42, 180, 0, 81, 27, 46, 79, 132, 5, 1, 167, 255, 218, 42, 42]
abbrev dktX2_count_11 : List UInt8 := dkwX2_count_11 ++ dktX2_count_12
def dkwX2_count_10 : List UInt8 := [54, 5, 21, 5, 21, 4, 162, 0, 37, 42, 180, 0, 81, 27, 42, 21, 5, 21, 4, 182, 0, 210]
abbrev dktX2_count_10 : List UInt8 := dkwX2_count_10 ++ dktX2_count_11
def dkwX2_count_9 : List UInt8 := [46, 4, 96, 79, 132, 5, 1, 167, 255, 171, 42, 180, 0, 78, 27, 92, 46, 4, 96, 79, 16, 8, 27, 104]
abbrev dktX2_count_9 : List UInt8 := dkwX2_count_9 ++ dktX2_count_10
def dkwX2_count_8 : List UInt8 := [16, 20, 27, 104, 21, 5, 96, 46, 21, 6, 153, 0, 7, 4, 167, 0, 4, 3, 96, 16, 6, 112, 96, 92]
abbrev dktX2_count_8 : List UInt8 := dkwX2_count_8 ++ dktX2_count_9
def dkwX2_count_7 : List UInt8 := [154, 0, 7, 4, 167, 0, 4, 3, 54, 6, 42, 180, 0, 72, 16, 6, 21, 4, 104, 42, 180, 0, 66]
abbrev dktX2_count_7 : List UInt8 := dkwX2_count_7 ++ dktX2_count_8
def dkwX2_count_6 : List UInt8 := [46, 162, 0, 80, 42, 180, 0, 84, 28, 46, 158, 0, 21, 21, 5, 4, 96, 42, 180, 0, 84, 28, 46, 112]
abbrev dktX2_count_6 : List UInt8 := dkwX2_count_6 ++ dktX2_count_7
def dkwX2_count_5 : List UInt8 := [21, 4, 104, 21, 5, 96, 3, 79, 132, 5, 1, 167, 255, 232, 3, 54, 5, 21, 5, 42, 180, 0, 69, 27]
abbrev dktX2_count_5 : List UInt8 := dkwX2_count_5 ++ dktX2_count_6
def dkwX2_count_4 : List UInt8 := [180, 0, 75, 21, 4, 28, 79, 3, 54, 5, 21, 5, 16, 6, 162, 0, 23, 42, 180, 0, 72, 16, 6]
abbrev dktX2_count_4 : List UInt8 := dkwX2_count_4 ++ dktX2_count_5
def dkwX2_count_3 : List UInt8 := [3, 182, 0, 129, 154, 0, 5, 3, 172, 16, 8, 27, 104, 42, 180, 0, 78, 27, 46, 96, 54, 4, 42]
abbrev dktX2_count_3 : List UInt8 := dkwX2_count_3 ++ dktX2_count_4
def dkwX2_count_2 : List UInt8 := [180, 0, 81, 27, 46, 2, 160, 0, 18, 42, 180, 0, 78, 27, 46, 16, 8, 162, 0, 7, 4, 167, 0, 4]
abbrev dktX2_count_2 : List UInt8 := dkwX2_count_2 ++ dktX2_count_3
def dkwX2_count_1 : List UInt8 := [29, 29, 153, 0, 44, 42, 180, 0, 41, 7, 160, 0, 36, 27, 42, 180, 0, 178, 162, 0, 28, 42]
abbrev dktX2_count_1 : List UInt8 := dkwX2_count_1 ++ dktX2_count_2
def dkwX2_count_0 : List UInt8 := [42, 27, 182, 0, 143, 153, 0, 16, 28, 3, 6, 184, 0, 111, 153, 0, 7, 4, 167, 0, 4, 3, 62, 42]
abbrev dktX2_count_0 : List UInt8 := dkwX2_count_0 ++ dktX2_count_1
theorem dksX2_count_0 : cX2_count.data.toList.drop 0 = dktX2_count_0 := by decide +kernel
theorem dksX2_count_1 : cX2_count.data.toList.drop 24 = dktX2_count_1 := dk_seg dksX2_count_0 24 rfl rfl
theorem dksX2_count_2 : cX2_count.data.toList.drop 46 = dktX2_count_2 := dk_seg dksX2_count_1 22 rfl rfl
theorem dksX2_count_3 : cX2_count.data.toList.drop 70 = dktX2_count_3 := dk_seg dksX2_count_2 24 rfl rfl
theorem dksX2_count_4 : cX2_count.data.toList.drop 93 = dktX2_count_4 := dk_seg dksX2_count_3 23 rfl rfl
theorem dksX2_count_5 : cX2_count.data.toList.drop 116 = dktX2_count_5 := dk_seg dksX2_count_4 23 rfl rfl
theorem dksX2_count_6 : cX2_count.data.toList.drop 140 = dktX2_count_6 := dk_seg dksX2_count_5 24 rfl rfl
theorem dksX2_count_7 : cX2_count.data.toList.drop 164 = dktX2_count_7 := dk_seg dksX2_count_6 24 rfl rfl
theorem dksX2_count_8 : cX2_count.data.toList.drop 187 = dktX2_count_8 := dk_seg dksX2_count_7 23 rfl rfl
theorem dksX2_count_9 : cX2_count.data.toList.drop 211 = dktX2_count_9 := dk_seg dksX2_count_8 24 rfl rfl
theorem dksX2_count_10 : cX2_count.data.toList.drop 235 = dktX2_count_10 := dk_seg dksX2_count_9 24 rfl rfl
theorem dksX2_count_11 : cX2_count.data.toList.drop 257 = dktX2_count_11 := dk_seg dksX2_count_10 22 rfl rfl
theorem dksX2_count_12 : cX2_count.data.toList.drop 280 = dktX2_count_12 := dk_seg dksX2_count_11 23 rfl rfl
theorem dksX2_count_13 : cX2_count.data.toList.drop 304 = dktX2_count_13 := dk_seg dksX2_count_12 24 rfl rfl
theorem dksX2_count_14 : cX2_count.data.toList.drop 327 = dktX2_count_14 := dk_seg dksX2_count_13 23 rfl rfl
theorem dksX2_count_15 : cX2_count.data.toList.drop 351 = dktX2_count_15 := dk_seg dksX2_count_14 24 rfl rfl
theorem dX2_count_0 : decode cX2_count 0 = .ok (.aload_n 0, 1) := dk_42 (dk_at dksX2_count_0 0 rfl rfl)
theorem dX2_count_1 : decode cX2_count 1 = .ok (.iload_n 1, 1) := dk_27 (dk_at dksX2_count_0 1 rfl rfl)
theorem dX2_count_2 : decode cX2_count 2 = .ok (.invokevirtual 143, 3) := dk_182 0 143 (dk_at dksX2_count_0 2 rfl rfl)
theorem dX2_count_5 : decode cX2_count 5 = .ok (.ifCond .eq 16, 3) := dk_153 0 16 (dk_at dksX2_count_0 5 rfl rfl)
theorem dX2_count_8 : decode cX2_count 8 = .ok (.iload_n 2, 1) := dk_28 (dk_at dksX2_count_0 8 rfl rfl)
theorem dX2_count_9 : decode cX2_count 9 = .ok (.iconst 0, 1) := dk_3 (dk_at dksX2_count_0 9 rfl rfl)
theorem dX2_count_10 : decode cX2_count 10 = .ok (.iconst 3, 1) := dk_6 (dk_at dksX2_count_0 10 rfl rfl)
theorem dX2_count_11 : decode cX2_count 11 = .ok (.invokestatic 111, 3) := dk_184 0 111 (dk_at dksX2_count_0 11 rfl rfl)
theorem dX2_count_14 : decode cX2_count 14 = .ok (.ifCond .eq 7, 3) := dk_153 0 7 (dk_at dksX2_count_0 14 rfl rfl)
theorem dX2_count_17 : decode cX2_count 17 = .ok (.iconst 1, 1) := dk_4 (dk_at dksX2_count_0 17 rfl rfl)
theorem dX2_count_18 : decode cX2_count 18 = .ok (.goto 4, 3) := dk_167 0 4 (dk_at dksX2_count_0 18 rfl rfl)
theorem dX2_count_21 : decode cX2_count 21 = .ok (.iconst 0, 1) := dk_3 (dk_at dksX2_count_0 21 rfl rfl)
theorem dX2_count_22 : decode cX2_count 22 = .ok (.istore_n 3, 1) := dk_62 (dk_at dksX2_count_0 22 rfl rfl)
theorem dX2_count_23 : decode cX2_count 23 = .ok (.aload_n 0, 1) := dk_42 (dk_at dksX2_count_0 23 rfl rfl)
theorem dX2_count_24 : decode cX2_count 24 = .ok (.iload_n 3, 1) := dk_29 (dk_at dksX2_count_1 0 rfl rfl)
theorem dX2_count_25 : decode cX2_count 25 = .ok (.iload_n 3, 1) := dk_29 (dk_at dksX2_count_1 1 rfl rfl)
theorem dX2_count_26 : decode cX2_count 26 = .ok (.ifCond .eq 44, 3) := dk_153 0 44 (dk_at dksX2_count_1 2 rfl rfl)
theorem dX2_count_29 : decode cX2_count 29 = .ok (.aload_n 0, 1) := dk_42 (dk_at dksX2_count_1 5 rfl rfl)
theorem dX2_count_30 : decode cX2_count 30 = .ok (.getfield 41, 3) := dk_180 0 41 (dk_at dksX2_count_1 6 rfl rfl)
theorem dX2_count_33 : decode cX2_count 33 = .ok (.iconst 4, 1) := dk_7 (dk_at dksX2_count_1 9 rfl rfl)
theorem dX2_count_34 : decode cX2_count 34 = .ok (.if_icmp .ne 36, 3) := dk_160 0 36 (dk_at dksX2_count_1 10 rfl rfl)
theorem dX2_count_37 : decode cX2_count 37 = .ok (.iload_n 1, 1) := dk_27 (dk_at dksX2_count_1 13 rfl rfl)
theorem dX2_count_38 : decode cX2_count 38 = .ok (.aload_n 0, 1) := dk_42 (dk_at dksX2_count_1 14 rfl rfl)
theorem dX2_count_39 : decode cX2_count 39 = .ok (.getfield 178, 3) := dk_180 0 178 (dk_at dksX2_count_1 15 rfl rfl)
theorem dX2_count_42 : decode cX2_count 42 = .ok (.if_icmp .ge 28, 3) := dk_162 0 28 (dk_at dksX2_count_1 18 rfl rfl)
theorem dX2_count_45 : decode cX2_count 45 = .ok (.aload_n 0, 1) := dk_42 (dk_at dksX2_count_1 21 rfl rfl)
theorem dX2_count_46 : decode cX2_count 46 = .ok (.getfield 81, 3) := dk_180 0 81 (dk_at dksX2_count_2 0 rfl rfl)
theorem dX2_count_49 : decode cX2_count 49 = .ok (.iload_n 1, 1) := dk_27 (dk_at dksX2_count_2 3 rfl rfl)
theorem dX2_count_50 : decode cX2_count 50 = .ok (.iaload, 1) := dk_46 (dk_at dksX2_count_2 4 rfl rfl)
theorem dX2_count_51 : decode cX2_count 51 = .ok (.iconst (-1), 1) := dk_2 (dk_at dksX2_count_2 5 rfl rfl)
theorem dX2_count_52 : decode cX2_count 52 = .ok (.if_icmp .ne 18, 3) := dk_160 0 18 (dk_at dksX2_count_2 6 rfl rfl)
theorem dX2_count_55 : decode cX2_count 55 = .ok (.aload_n 0, 1) := dk_42 (dk_at dksX2_count_2 9 rfl rfl)
theorem dX2_count_56 : decode cX2_count 56 = .ok (.getfield 78, 3) := dk_180 0 78 (dk_at dksX2_count_2 10 rfl rfl)
theorem dX2_count_59 : decode cX2_count 59 = .ok (.iload_n 1, 1) := dk_27 (dk_at dksX2_count_2 13 rfl rfl)
theorem dX2_count_60 : decode cX2_count 60 = .ok (.iaload, 1) := dk_46 (dk_at dksX2_count_2 14 rfl rfl)
theorem dX2_count_61 : decode cX2_count 61 = .ok (.bipush 8, 2) := dk_16 8 (dk_at dksX2_count_2 15 rfl rfl)
theorem dX2_count_63 : decode cX2_count 63 = .ok (.if_icmp .ge 7, 3) := dk_162 0 7 (dk_at dksX2_count_2 17 rfl rfl)
theorem dX2_count_66 : decode cX2_count 66 = .ok (.iconst 1, 1) := dk_4 (dk_at dksX2_count_2 20 rfl rfl)
theorem dX2_count_67 : decode cX2_count 67 = .ok (.goto 4, 3) := dk_167 0 4 (dk_at dksX2_count_2 21 rfl rfl)
theorem dX2_count_70 : decode cX2_count 70 = .ok (.iconst 0, 1) := dk_3 (dk_at dksX2_count_3 0 rfl rfl)
theorem dX2_count_71 : decode cX2_count 71 = .ok (.invokevirtual 129, 3) := dk_182 0 129 (dk_at dksX2_count_3 1 rfl rfl)
theorem dX2_count_74 : decode cX2_count 74 = .ok (.ifCond .ne 5, 3) := dk_154 0 5 (dk_at dksX2_count_3 4 rfl rfl)
theorem dX2_count_77 : decode cX2_count 77 = .ok (.iconst 0, 1) := dk_3 (dk_at dksX2_count_3 7 rfl rfl)
theorem dX2_count_78 : decode cX2_count 78 = .ok (.ireturn, 1) := dk_172 (dk_at dksX2_count_3 8 rfl rfl)
theorem dX2_count_79 : decode cX2_count 79 = .ok (.bipush 8, 2) := dk_16 8 (dk_at dksX2_count_3 9 rfl rfl)
theorem dX2_count_81 : decode cX2_count 81 = .ok (.iload_n 1, 1) := dk_27 (dk_at dksX2_count_3 11 rfl rfl)
theorem dX2_count_82 : decode cX2_count 82 = .ok (.imul, 1) := dk_104 (dk_at dksX2_count_3 12 rfl rfl)
theorem dX2_count_83 : decode cX2_count 83 = .ok (.aload_n 0, 1) := dk_42 (dk_at dksX2_count_3 13 rfl rfl)
theorem dX2_count_84 : decode cX2_count 84 = .ok (.getfield 78, 3) := dk_180 0 78 (dk_at dksX2_count_3 14 rfl rfl)
theorem dX2_count_87 : decode cX2_count 87 = .ok (.iload_n 1, 1) := dk_27 (dk_at dksX2_count_3 17 rfl rfl)
theorem dX2_count_88 : decode cX2_count 88 = .ok (.iaload, 1) := dk_46 (dk_at dksX2_count_3 18 rfl rfl)
theorem dX2_count_89 : decode cX2_count 89 = .ok (.iadd, 1) := dk_96 (dk_at dksX2_count_3 19 rfl rfl)
theorem dX2_count_90 : decode cX2_count 90 = .ok (.istore 4, 2) := dk_54 4 (dk_at dksX2_count_3 20 rfl rfl)
theorem dX2_count_92 : decode cX2_count 92 = .ok (.aload_n 0, 1) := dk_42 (dk_at dksX2_count_3 22 rfl rfl)
theorem dX2_count_93 : decode cX2_count 93 = .ok (.getfield 75, 3) := dk_180 0 75 (dk_at dksX2_count_4 0 rfl rfl)
theorem dX2_count_96 : decode cX2_count 96 = .ok (.iload 4, 2) := dk_21 4 (dk_at dksX2_count_4 3 rfl rfl)
theorem dX2_count_98 : decode cX2_count 98 = .ok (.iload_n 2, 1) := dk_28 (dk_at dksX2_count_4 5 rfl rfl)
theorem dX2_count_99 : decode cX2_count 99 = .ok (.iastore, 1) := dk_79 (dk_at dksX2_count_4 6 rfl rfl)
theorem dX2_count_100 : decode cX2_count 100 = .ok (.iconst 0, 1) := dk_3 (dk_at dksX2_count_4 7 rfl rfl)
theorem dX2_count_101 : decode cX2_count 101 = .ok (.istore 5, 2) := dk_54 5 (dk_at dksX2_count_4 8 rfl rfl)
theorem dX2_count_103 : decode cX2_count 103 = .ok (.iload 5, 2) := dk_21 5 (dk_at dksX2_count_4 10 rfl rfl)
theorem dX2_count_105 : decode cX2_count 105 = .ok (.bipush 6, 2) := dk_16 6 (dk_at dksX2_count_4 12 rfl rfl)
theorem dX2_count_107 : decode cX2_count 107 = .ok (.if_icmp .ge 23, 3) := dk_162 0 23 (dk_at dksX2_count_4 14 rfl rfl)
theorem dX2_count_110 : decode cX2_count 110 = .ok (.aload_n 0, 1) := dk_42 (dk_at dksX2_count_4 17 rfl rfl)
theorem dX2_count_111 : decode cX2_count 111 = .ok (.getfield 72, 3) := dk_180 0 72 (dk_at dksX2_count_4 18 rfl rfl)
theorem dX2_count_114 : decode cX2_count 114 = .ok (.bipush 6, 2) := dk_16 6 (dk_at dksX2_count_4 21 rfl rfl)
theorem dX2_count_116 : decode cX2_count 116 = .ok (.iload 4, 2) := dk_21 4 (dk_at dksX2_count_5 0 rfl rfl)
theorem dX2_count_118 : decode cX2_count 118 = .ok (.imul, 1) := dk_104 (dk_at dksX2_count_5 2 rfl rfl)
theorem dX2_count_119 : decode cX2_count 119 = .ok (.iload 5, 2) := dk_21 5 (dk_at dksX2_count_5 3 rfl rfl)
theorem dX2_count_121 : decode cX2_count 121 = .ok (.iadd, 1) := dk_96 (dk_at dksX2_count_5 5 rfl rfl)
theorem dX2_count_122 : decode cX2_count 122 = .ok (.iconst 0, 1) := dk_3 (dk_at dksX2_count_5 6 rfl rfl)
theorem dX2_count_123 : decode cX2_count 123 = .ok (.iastore, 1) := dk_79 (dk_at dksX2_count_5 7 rfl rfl)
theorem dX2_count_124 : decode cX2_count 124 = .ok (.iinc 5 1, 3) := dk_132 5 1 (dk_at dksX2_count_5 8 rfl rfl)
theorem dX2_count_127 : decode cX2_count 127 = .ok (.goto (-24), 3) := dk_167 255 232 (dk_at dksX2_count_5 11 rfl rfl)
theorem dX2_count_130 : decode cX2_count 130 = .ok (.iconst 0, 1) := dk_3 (dk_at dksX2_count_5 14 rfl rfl)
theorem dX2_count_131 : decode cX2_count 131 = .ok (.istore 5, 2) := dk_54 5 (dk_at dksX2_count_5 15 rfl rfl)
theorem dX2_count_133 : decode cX2_count 133 = .ok (.iload 5, 2) := dk_21 5 (dk_at dksX2_count_5 17 rfl rfl)
theorem dX2_count_135 : decode cX2_count 135 = .ok (.aload_n 0, 1) := dk_42 (dk_at dksX2_count_5 19 rfl rfl)
theorem dX2_count_136 : decode cX2_count 136 = .ok (.getfield 69, 3) := dk_180 0 69 (dk_at dksX2_count_5 20 rfl rfl)
theorem dX2_count_139 : decode cX2_count 139 = .ok (.iload_n 1, 1) := dk_27 (dk_at dksX2_count_5 23 rfl rfl)
theorem dX2_count_140 : decode cX2_count 140 = .ok (.iaload, 1) := dk_46 (dk_at dksX2_count_6 0 rfl rfl)
theorem dX2_count_141 : decode cX2_count 141 = .ok (.if_icmp .ge 80, 3) := dk_162 0 80 (dk_at dksX2_count_6 1 rfl rfl)
theorem dX2_count_144 : decode cX2_count 144 = .ok (.aload_n 0, 1) := dk_42 (dk_at dksX2_count_6 4 rfl rfl)
theorem dX2_count_145 : decode cX2_count 145 = .ok (.getfield 84, 3) := dk_180 0 84 (dk_at dksX2_count_6 5 rfl rfl)
theorem dX2_count_148 : decode cX2_count 148 = .ok (.iload_n 2, 1) := dk_28 (dk_at dksX2_count_6 8 rfl rfl)
theorem dX2_count_149 : decode cX2_count 149 = .ok (.iaload, 1) := dk_46 (dk_at dksX2_count_6 9 rfl rfl)
theorem dX2_count_150 : decode cX2_count 150 = .ok (.ifCond .le 21, 3) := dk_158 0 21 (dk_at dksX2_count_6 10 rfl rfl)
theorem dX2_count_153 : decode cX2_count 153 = .ok (.iload 5, 2) := dk_21 5 (dk_at dksX2_count_6 13 rfl rfl)
theorem dX2_count_155 : decode cX2_count 155 = .ok (.iconst 1, 1) := dk_4 (dk_at dksX2_count_6 15 rfl rfl)
theorem dX2_count_156 : decode cX2_count 156 = .ok (.iadd, 1) := dk_96 (dk_at dksX2_count_6 16 rfl rfl)
theorem dX2_count_157 : decode cX2_count 157 = .ok (.aload_n 0, 1) := dk_42 (dk_at dksX2_count_6 17 rfl rfl)
theorem dX2_count_158 : decode cX2_count 158 = .ok (.getfield 84, 3) := dk_180 0 84 (dk_at dksX2_count_6 18 rfl rfl)
theorem dX2_count_161 : decode cX2_count 161 = .ok (.iload_n 2, 1) := dk_28 (dk_at dksX2_count_6 21 rfl rfl)
theorem dX2_count_162 : decode cX2_count 162 = .ok (.iaload, 1) := dk_46 (dk_at dksX2_count_6 22 rfl rfl)
theorem dX2_count_163 : decode cX2_count 163 = .ok (.irem, 1) := dk_112 (dk_at dksX2_count_6 23 rfl rfl)
theorem dX2_count_164 : decode cX2_count 164 = .ok (.ifCond .ne 7, 3) := dk_154 0 7 (dk_at dksX2_count_7 0 rfl rfl)
theorem dX2_count_167 : decode cX2_count 167 = .ok (.iconst 1, 1) := dk_4 (dk_at dksX2_count_7 3 rfl rfl)
theorem dX2_count_168 : decode cX2_count 168 = .ok (.goto 4, 3) := dk_167 0 4 (dk_at dksX2_count_7 4 rfl rfl)
theorem dX2_count_171 : decode cX2_count 171 = .ok (.iconst 0, 1) := dk_3 (dk_at dksX2_count_7 7 rfl rfl)
theorem dX2_count_172 : decode cX2_count 172 = .ok (.istore 6, 2) := dk_54 6 (dk_at dksX2_count_7 8 rfl rfl)
theorem dX2_count_174 : decode cX2_count 174 = .ok (.aload_n 0, 1) := dk_42 (dk_at dksX2_count_7 10 rfl rfl)
theorem dX2_count_175 : decode cX2_count 175 = .ok (.getfield 72, 3) := dk_180 0 72 (dk_at dksX2_count_7 11 rfl rfl)
theorem dX2_count_178 : decode cX2_count 178 = .ok (.bipush 6, 2) := dk_16 6 (dk_at dksX2_count_7 14 rfl rfl)
theorem dX2_count_180 : decode cX2_count 180 = .ok (.iload 4, 2) := dk_21 4 (dk_at dksX2_count_7 16 rfl rfl)
theorem dX2_count_182 : decode cX2_count 182 = .ok (.imul, 1) := dk_104 (dk_at dksX2_count_7 18 rfl rfl)
theorem dX2_count_183 : decode cX2_count 183 = .ok (.aload_n 0, 1) := dk_42 (dk_at dksX2_count_7 19 rfl rfl)
theorem dX2_count_184 : decode cX2_count 184 = .ok (.getfield 66, 3) := dk_180 0 66 (dk_at dksX2_count_7 20 rfl rfl)
theorem dX2_count_187 : decode cX2_count 187 = .ok (.bipush 20, 2) := dk_16 20 (dk_at dksX2_count_8 0 rfl rfl)
theorem dX2_count_189 : decode cX2_count 189 = .ok (.iload_n 1, 1) := dk_27 (dk_at dksX2_count_8 2 rfl rfl)
theorem dX2_count_190 : decode cX2_count 190 = .ok (.imul, 1) := dk_104 (dk_at dksX2_count_8 3 rfl rfl)
theorem dX2_count_191 : decode cX2_count 191 = .ok (.iload 5, 2) := dk_21 5 (dk_at dksX2_count_8 4 rfl rfl)
theorem dX2_count_193 : decode cX2_count 193 = .ok (.iadd, 1) := dk_96 (dk_at dksX2_count_8 6 rfl rfl)
theorem dX2_count_194 : decode cX2_count 194 = .ok (.iaload, 1) := dk_46 (dk_at dksX2_count_8 7 rfl rfl)
theorem dX2_count_195 : decode cX2_count 195 = .ok (.iload 6, 2) := dk_21 6 (dk_at dksX2_count_8 8 rfl rfl)
theorem dX2_count_197 : decode cX2_count 197 = .ok (.ifCond .eq 7, 3) := dk_153 0 7 (dk_at dksX2_count_8 10 rfl rfl)
theorem dX2_count_200 : decode cX2_count 200 = .ok (.iconst 1, 1) := dk_4 (dk_at dksX2_count_8 13 rfl rfl)
theorem dX2_count_201 : decode cX2_count 201 = .ok (.goto 4, 3) := dk_167 0 4 (dk_at dksX2_count_8 14 rfl rfl)
theorem dX2_count_204 : decode cX2_count 204 = .ok (.iconst 0, 1) := dk_3 (dk_at dksX2_count_8 17 rfl rfl)
theorem dX2_count_205 : decode cX2_count 205 = .ok (.iadd, 1) := dk_96 (dk_at dksX2_count_8 18 rfl rfl)
theorem dX2_count_206 : decode cX2_count 206 = .ok (.bipush 6, 2) := dk_16 6 (dk_at dksX2_count_8 19 rfl rfl)
theorem dX2_count_208 : decode cX2_count 208 = .ok (.irem, 1) := dk_112 (dk_at dksX2_count_8 21 rfl rfl)
theorem dX2_count_209 : decode cX2_count 209 = .ok (.iadd, 1) := dk_96 (dk_at dksX2_count_8 22 rfl rfl)
theorem dX2_count_210 : decode cX2_count 210 = .ok (.dup2, 1) := dk_92 (dk_at dksX2_count_8 23 rfl rfl)
theorem dX2_count_211 : decode cX2_count 211 = .ok (.iaload, 1) := dk_46 (dk_at dksX2_count_9 0 rfl rfl)
theorem dX2_count_212 : decode cX2_count 212 = .ok (.iconst 1, 1) := dk_4 (dk_at dksX2_count_9 1 rfl rfl)
theorem dX2_count_213 : decode cX2_count 213 = .ok (.iadd, 1) := dk_96 (dk_at dksX2_count_9 2 rfl rfl)
theorem dX2_count_214 : decode cX2_count 214 = .ok (.iastore, 1) := dk_79 (dk_at dksX2_count_9 3 rfl rfl)
theorem dX2_count_215 : decode cX2_count 215 = .ok (.iinc 5 1, 3) := dk_132 5 1 (dk_at dksX2_count_9 4 rfl rfl)
theorem dX2_count_218 : decode cX2_count 218 = .ok (.goto (-85), 3) := dk_167 255 171 (dk_at dksX2_count_9 7 rfl rfl)
theorem dX2_count_221 : decode cX2_count 221 = .ok (.aload_n 0, 1) := dk_42 (dk_at dksX2_count_9 10 rfl rfl)
theorem dX2_count_222 : decode cX2_count 222 = .ok (.getfield 78, 3) := dk_180 0 78 (dk_at dksX2_count_9 11 rfl rfl)
theorem dX2_count_225 : decode cX2_count 225 = .ok (.iload_n 1, 1) := dk_27 (dk_at dksX2_count_9 14 rfl rfl)
theorem dX2_count_226 : decode cX2_count 226 = .ok (.dup2, 1) := dk_92 (dk_at dksX2_count_9 15 rfl rfl)
theorem dX2_count_227 : decode cX2_count 227 = .ok (.iaload, 1) := dk_46 (dk_at dksX2_count_9 16 rfl rfl)
theorem dX2_count_228 : decode cX2_count 228 = .ok (.iconst 1, 1) := dk_4 (dk_at dksX2_count_9 17 rfl rfl)
theorem dX2_count_229 : decode cX2_count 229 = .ok (.iadd, 1) := dk_96 (dk_at dksX2_count_9 18 rfl rfl)
theorem dX2_count_230 : decode cX2_count 230 = .ok (.iastore, 1) := dk_79 (dk_at dksX2_count_9 19 rfl rfl)
theorem dX2_count_231 : decode cX2_count 231 = .ok (.bipush 8, 2) := dk_16 8 (dk_at dksX2_count_9 20 rfl rfl)
theorem dX2_count_233 : decode cX2_count 233 = .ok (.iload_n 1, 1) := dk_27 (dk_at dksX2_count_9 22 rfl rfl)
theorem dX2_count_234 : decode cX2_count 234 = .ok (.imul, 1) := dk_104 (dk_at dksX2_count_9 23 rfl rfl)
theorem dX2_count_235 : decode cX2_count 235 = .ok (.istore 5, 2) := dk_54 5 (dk_at dksX2_count_10 0 rfl rfl)
theorem dX2_count_237 : decode cX2_count 237 = .ok (.iload 5, 2) := dk_21 5 (dk_at dksX2_count_10 2 rfl rfl)
theorem dX2_count_239 : decode cX2_count 239 = .ok (.iload 4, 2) := dk_21 4 (dk_at dksX2_count_10 4 rfl rfl)
theorem dX2_count_241 : decode cX2_count 241 = .ok (.if_icmp .ge 37, 3) := dk_162 0 37 (dk_at dksX2_count_10 6 rfl rfl)
theorem dX2_count_244 : decode cX2_count 244 = .ok (.aload_n 0, 1) := dk_42 (dk_at dksX2_count_10 9 rfl rfl)
theorem dX2_count_245 : decode cX2_count 245 = .ok (.getfield 81, 3) := dk_180 0 81 (dk_at dksX2_count_10 10 rfl rfl)
theorem dX2_count_248 : decode cX2_count 248 = .ok (.iload_n 1, 1) := dk_27 (dk_at dksX2_count_10 13 rfl rfl)
theorem dX2_count_249 : decode cX2_count 249 = .ok (.aload_n 0, 1) := dk_42 (dk_at dksX2_count_10 14 rfl rfl)
theorem dX2_count_250 : decode cX2_count 250 = .ok (.iload 5, 2) := dk_21 5 (dk_at dksX2_count_10 15 rfl rfl)
theorem dX2_count_252 : decode cX2_count 252 = .ok (.iload 4, 2) := dk_21 4 (dk_at dksX2_count_10 17 rfl rfl)
theorem dX2_count_254 : decode cX2_count 254 = .ok (.invokevirtual 210, 3) := dk_182 0 210 (dk_at dksX2_count_10 19 rfl rfl)
theorem dX2_count_257 : decode cX2_count 257 = .ok (.ifCond .eq 8, 3) := dk_153 0 8 (dk_at dksX2_count_11 0 rfl rfl)
theorem dX2_count_260 : decode cX2_count 260 = .ok (.iload 4, 2) := dk_21 4 (dk_at dksX2_count_11 3 rfl rfl)
theorem dX2_count_262 : decode cX2_count 262 = .ok (.goto 9, 3) := dk_167 0 9 (dk_at dksX2_count_11 5 rfl rfl)
theorem dX2_count_265 : decode cX2_count 265 = .ok (.aload_n 0, 1) := dk_42 (dk_at dksX2_count_11 8 rfl rfl)
theorem dX2_count_266 : decode cX2_count 266 = .ok (.getfield 81, 3) := dk_180 0 81 (dk_at dksX2_count_11 9 rfl rfl)
theorem dX2_count_269 : decode cX2_count 269 = .ok (.iload_n 1, 1) := dk_27 (dk_at dksX2_count_11 12 rfl rfl)
theorem dX2_count_270 : decode cX2_count 270 = .ok (.iaload, 1) := dk_46 (dk_at dksX2_count_11 13 rfl rfl)
theorem dX2_count_271 : decode cX2_count 271 = .ok (.iastore, 1) := dk_79 (dk_at dksX2_count_11 14 rfl rfl)
theorem dX2_count_272 : decode cX2_count 272 = .ok (.iinc 5 1, 3) := dk_132 5 1 (dk_at dksX2_count_11 15 rfl rfl)
theorem dX2_count_275 : decode cX2_count 275 = .ok (.goto (-38), 3) := dk_167 255 218 (dk_at dksX2_count_11 18 rfl rfl)
theorem dX2_count_278 : decode cX2_count 278 = .ok (.aload_n 0, 1) := dk_42 (dk_at dksX2_count_11 21 rfl rfl)
theorem dX2_count_279 : decode cX2_count 279 = .ok (.aload_n 0, 1) := dk_42 (dk_at dksX2_count_11 22 rfl rfl)
theorem dX2_count_280 : decode cX2_count 280 = .ok (.getfield 149, 3) := dk_180 0 149 (dk_at dksX2_count_12 0 rfl rfl)
theorem dX2_count_283 : decode cX2_count 283 = .ok (.bipush 99, 2) := dk_16 99 (dk_at dksX2_count_12 3 rfl rfl)
theorem dX2_count_285 : decode cX2_count 285 = .ok (.iload_n 1, 1) := dk_27 (dk_at dksX2_count_12 5 rfl rfl)
theorem dX2_count_286 : decode cX2_count 286 = .ok (.invokevirtual 172, 3) := dk_182 0 172 (dk_at dksX2_count_12 6 rfl rfl)
theorem dX2_count_289 : decode cX2_count 289 = .ok (.iconst 1, 1) := dk_4 (dk_at dksX2_count_12 9 rfl rfl)
theorem dX2_count_290 : decode cX2_count 290 = .ok (.istore 5, 2) := dk_54 5 (dk_at dksX2_count_12 10 rfl rfl)
theorem dX2_count_292 : decode cX2_count 292 = .ok (.iconst 0, 1) := dk_3 (dk_at dksX2_count_12 12 rfl rfl)
theorem dX2_count_293 : decode cX2_count 293 = .ok (.istore 6, 2) := dk_54 6 (dk_at dksX2_count_12 13 rfl rfl)
theorem dX2_count_295 : decode cX2_count 295 = .ok (.iload 6, 2) := dk_21 6 (dk_at dksX2_count_12 15 rfl rfl)
theorem dX2_count_297 : decode cX2_count 297 = .ok (.aload_n 0, 1) := dk_42 (dk_at dksX2_count_12 17 rfl rfl)
theorem dX2_count_298 : decode cX2_count 298 = .ok (.getfield 178, 3) := dk_180 0 178 (dk_at dksX2_count_12 18 rfl rfl)
theorem dX2_count_301 : decode cX2_count 301 = .ok (.if_icmp .ge 32, 3) := dk_162 0 32 (dk_at dksX2_count_12 21 rfl rfl)
theorem dX2_count_304 : decode cX2_count 304 = .ok (.iload 5, 2) := dk_21 5 (dk_at dksX2_count_13 0 rfl rfl)
theorem dX2_count_306 : decode cX2_count 306 = .ok (.ifCond .eq 18, 3) := dk_153 0 18 (dk_at dksX2_count_13 2 rfl rfl)
theorem dX2_count_309 : decode cX2_count 309 = .ok (.aload_n 0, 1) := dk_42 (dk_at dksX2_count_13 5 rfl rfl)
theorem dX2_count_310 : decode cX2_count 310 = .ok (.getfield 81, 3) := dk_180 0 81 (dk_at dksX2_count_13 6 rfl rfl)
theorem dX2_count_313 : decode cX2_count 313 = .ok (.iload 6, 2) := dk_21 6 (dk_at dksX2_count_13 9 rfl rfl)
theorem dX2_count_315 : decode cX2_count 315 = .ok (.iaload, 1) := dk_46 (dk_at dksX2_count_13 11 rfl rfl)
theorem dX2_count_316 : decode cX2_count 316 = .ok (.iconst (-1), 1) := dk_2 (dk_at dksX2_count_13 12 rfl rfl)
theorem dX2_count_317 : decode cX2_count 317 = .ok (.if_icmp .eq 7, 3) := dk_159 0 7 (dk_at dksX2_count_13 13 rfl rfl)
theorem dX2_count_320 : decode cX2_count 320 = .ok (.iconst 1, 1) := dk_4 (dk_at dksX2_count_13 16 rfl rfl)
theorem dX2_count_321 : decode cX2_count 321 = .ok (.goto 4, 3) := dk_167 0 4 (dk_at dksX2_count_13 17 rfl rfl)
theorem dX2_count_324 : decode cX2_count 324 = .ok (.iconst 0, 1) := dk_3 (dk_at dksX2_count_13 20 rfl rfl)
theorem dX2_count_325 : decode cX2_count 325 = .ok (.istore 5, 2) := dk_54 5 (dk_at dksX2_count_13 21 rfl rfl)
theorem dX2_count_327 : decode cX2_count 327 = .ok (.iinc 6 1, 3) := dk_132 6 1 (dk_at dksX2_count_14 0 rfl rfl)
theorem dX2_count_330 : decode cX2_count 330 = .ok (.goto (-35), 3) := dk_167 255 221 (dk_at dksX2_count_14 3 rfl rfl)
theorem dX2_count_333 : decode cX2_count 333 = .ok (.aload_n 0, 1) := dk_42 (dk_at dksX2_count_14 6 rfl rfl)
theorem dX2_count_334 : decode cX2_count 334 = .ok (.iload 5, 2) := dk_21 5 (dk_at dksX2_count_14 7 rfl rfl)
theorem dX2_count_336 : decode cX2_count 336 = .ok (.ifCond .eq 7, 3) := dk_153 0 7 (dk_at dksX2_count_14 9 rfl rfl)
theorem dX2_count_339 : decode cX2_count 339 = .ok (.iconst 5, 1) := dk_8 (dk_at dksX2_count_14 12 rfl rfl)
theorem dX2_count_340 : decode cX2_count 340 = .ok (.goto 7, 3) := dk_167 0 7 (dk_at dksX2_count_14 13 rfl rfl)
theorem dX2_count_343 : decode cX2_count 343 = .ok (.aload_n 0, 1) := dk_42 (dk_at dksX2_count_14 16 rfl rfl)
theorem dX2_count_344 : decode cX2_count 344 = .ok (.getfield 41, 3) := dk_180 0 41 (dk_at dksX2_count_14 17 rfl rfl)
theorem dX2_count_347 : decode cX2_count 347 = .ok (.putfield 41, 3) := dk_181 0 41 (dk_at dksX2_count_14 20 rfl rfl)
theorem dX2_count_350 : decode cX2_count 350 = .ok (.aload_n 0, 1) := dk_42 (dk_at dksX2_count_14 23 rfl rfl)
theorem dX2_count_351 : decode cX2_count 351 = .ok (.getfield 81, 3) := dk_180 0 81 (dk_at dksX2_count_15 0 rfl rfl)
theorem dX2_count_354 : decode cX2_count 354 = .ok (.iload_n 1, 1) := dk_27 (dk_at dksX2_count_15 3 rfl rfl)
theorem dX2_count_355 : decode cX2_count 355 = .ok (.iaload, 1) := dk_46 (dk_at dksX2_count_15 4 rfl rfl)
theorem dX2_count_356 : decode cX2_count 356 = .ok (.iconst (-1), 1) := dk_2 (dk_at dksX2_count_15 5 rfl rfl)
theorem dX2_count_357 : decode cX2_count 357 = .ok (.if_icmp .eq 7, 3) := dk_159 0 7 (dk_at dksX2_count_15 6 rfl rfl)
theorem dX2_count_360 : decode cX2_count 360 = .ok (.iconst 1, 1) := dk_4 (dk_at dksX2_count_15 9 rfl rfl)
theorem dX2_count_361 : decode cX2_count 361 = .ok (.goto 4, 3) := dk_167 0 4 (dk_at dksX2_count_15 10 rfl rfl)
theorem dX2_count_364 : decode cX2_count 364 = .ok (.iconst 0, 1) := dk_3 (dk_at dksX2_count_15 13 rfl rfl)
theorem dX2_count_365 : decode cX2_count 365 = .ok (.ireturn, 1) := dk_172 (dk_at dksX2_count_15 14 rfl rfl)
abbrev cX2_areAlike : ByteArray := prog_14_method_48_code
def yX2_areAlike : MethodName := ⟨RX2, "areAlike", "(II)Z"⟩
def dkwX2_areAlike_3 : List UInt8 := [167, 255, 209, 29, 172]
abbrev dktX2_areAlike_3 : List UInt8 := dkwX2_areAlike_3 ++ []
def dkwX2_areAlike_2 : List UInt8 := [180, 0, 72, 16, 6, 28, 104, 21, 4, 96, 46, 160, 0, 7, 4, 167, 0, 4, 3, 62, 132, 4, 1]
abbrev dktX2_areAlike_2 : List UInt8 := dkwX2_areAlike_2 ++ dktX2_areAlike_3
def dkwX2_areAlike_1 : List UInt8 := [21, 4, 16, 6, 162, 0, 46, 29, 153, 0, 34, 42, 180, 0, 72, 16, 6, 27, 104, 21, 4, 96, 46, 42]
abbrev dktX2_areAlike_1 : List UInt8 := dkwX2_areAlike_1 ++ dktX2_areAlike_2
def dkwX2_areAlike_0 : List UInt8 := [42, 180, 0, 75, 27, 46, 42, 180, 0, 75, 28, 46, 159, 0, 7, 4, 167, 0, 4, 3, 62, 3, 54, 4]
abbrev dktX2_areAlike_0 : List UInt8 := dkwX2_areAlike_0 ++ dktX2_areAlike_1
theorem dksX2_areAlike_0 : cX2_areAlike.data.toList.drop 0 = dktX2_areAlike_0 := by decide +kernel
theorem dksX2_areAlike_1 : cX2_areAlike.data.toList.drop 24 = dktX2_areAlike_1 := dk_seg dksX2_areAlike_0 24 rfl rfl
theorem dksX2_areAlike_2 : cX2_areAlike.data.toList.drop 48 = dktX2_areAlike_2 := dk_seg dksX2_areAlike_1 24 rfl rfl
theorem dksX2_areAlike_3 : cX2_areAlike.data.toList.drop 71 = dktX2_areAlike_3 := dk_seg dksX2_areAlike_2 23 rfl rfl
theorem dX2_areAlike_0 : decode cX2_areAlike 0 = .ok (.aload_n 0, 1) := dk_42 (dk_at dksX2_areAlike_0 0 rfl rfl)
theorem dX2_areAlike_1 : decode cX2_areAlike 1 = .ok (.getfield 75, 3) := dk_180 0 75 (dk_at dksX2_areAlike_0 1 rfl rfl)
theorem dX2_areAlike_4 : decode cX2_areAlike 4 = .ok (.iload_n 1, 1) := dk_27 (dk_at dksX2_areAlike_0 4 rfl rfl)
theorem dX2_areAlike_5 : decode cX2_areAlike 5 = .ok (.iaload, 1) := dk_46 (dk_at dksX2_areAlike_0 5 rfl rfl)
theorem dX2_areAlike_6 : decode cX2_areAlike 6 = .ok (.aload_n 0, 1) := dk_42 (dk_at dksX2_areAlike_0 6 rfl rfl)
theorem dX2_areAlike_7 : decode cX2_areAlike 7 = .ok (.getfield 75, 3) := dk_180 0 75 (dk_at dksX2_areAlike_0 7 rfl rfl)
theorem dX2_areAlike_10 : decode cX2_areAlike 10 = .ok (.iload_n 2, 1) := dk_28 (dk_at dksX2_areAlike_0 10 rfl rfl)
theorem dX2_areAlike_11 : decode cX2_areAlike 11 = .ok (.iaload, 1) := dk_46 (dk_at dksX2_areAlike_0 11 rfl rfl)
theorem dX2_areAlike_12 : decode cX2_areAlike 12 = .ok (.if_icmp .eq 7, 3) := dk_159 0 7 (dk_at dksX2_areAlike_0 12 rfl rfl)
theorem dX2_areAlike_15 : decode cX2_areAlike 15 = .ok (.iconst 1, 1) := dk_4 (dk_at dksX2_areAlike_0 15 rfl rfl)
theorem dX2_areAlike_16 : decode cX2_areAlike 16 = .ok (.goto 4, 3) := dk_167 0 4 (dk_at dksX2_areAlike_0 16 rfl rfl)
theorem dX2_areAlike_19 : decode cX2_areAlike 19 = .ok (.iconst 0, 1) := dk_3 (dk_at dksX2_areAlike_0 19 rfl rfl)
theorem dX2_areAlike_20 : decode cX2_areAlike 20 = .ok (.istore_n 3, 1) := dk_62 (dk_at dksX2_areAlike_0 20 rfl rfl)
theorem dX2_areAlike_21 : decode cX2_areAlike 21 = .ok (.iconst 0, 1) := dk_3 (dk_at dksX2_areAlike_0 21 rfl rfl)
theorem dX2_areAlike_22 : decode cX2_areAlike 22 = .ok (.istore 4, 2) := dk_54 4 (dk_at dksX2_areAlike_0 22 rfl rfl)
theorem dX2_areAlike_24 : decode cX2_areAlike 24 = .ok (.iload 4, 2) := dk_21 4 (dk_at dksX2_areAlike_1 0 rfl rfl)
theorem dX2_areAlike_26 : decode cX2_areAlike 26 = .ok (.bipush 6, 2) := dk_16 6 (dk_at dksX2_areAlike_1 2 rfl rfl)
theorem dX2_areAlike_28 : decode cX2_areAlike 28 = .ok (.if_icmp .ge 46, 3) := dk_162 0 46 (dk_at dksX2_areAlike_1 4 rfl rfl)
theorem dX2_areAlike_31 : decode cX2_areAlike 31 = .ok (.iload_n 3, 1) := dk_29 (dk_at dksX2_areAlike_1 7 rfl rfl)
theorem dX2_areAlike_32 : decode cX2_areAlike 32 = .ok (.ifCond .eq 34, 3) := dk_153 0 34 (dk_at dksX2_areAlike_1 8 rfl rfl)
theorem dX2_areAlike_35 : decode cX2_areAlike 35 = .ok (.aload_n 0, 1) := dk_42 (dk_at dksX2_areAlike_1 11 rfl rfl)
theorem dX2_areAlike_36 : decode cX2_areAlike 36 = .ok (.getfield 72, 3) := dk_180 0 72 (dk_at dksX2_areAlike_1 12 rfl rfl)
theorem dX2_areAlike_39 : decode cX2_areAlike 39 = .ok (.bipush 6, 2) := dk_16 6 (dk_at dksX2_areAlike_1 15 rfl rfl)
theorem dX2_areAlike_41 : decode cX2_areAlike 41 = .ok (.iload_n 1, 1) := dk_27 (dk_at dksX2_areAlike_1 17 rfl rfl)
theorem dX2_areAlike_42 : decode cX2_areAlike 42 = .ok (.imul, 1) := dk_104 (dk_at dksX2_areAlike_1 18 rfl rfl)
theorem dX2_areAlike_43 : decode cX2_areAlike 43 = .ok (.iload 4, 2) := dk_21 4 (dk_at dksX2_areAlike_1 19 rfl rfl)
theorem dX2_areAlike_45 : decode cX2_areAlike 45 = .ok (.iadd, 1) := dk_96 (dk_at dksX2_areAlike_1 21 rfl rfl)
theorem dX2_areAlike_46 : decode cX2_areAlike 46 = .ok (.iaload, 1) := dk_46 (dk_at dksX2_areAlike_1 22 rfl rfl)
theorem dX2_areAlike_47 : decode cX2_areAlike 47 = .ok (.aload_n 0, 1) := dk_42 (dk_at dksX2_areAlike_1 23 rfl rfl)
theorem dX2_areAlike_48 : decode cX2_areAlike 48 = .ok (.getfield 72, 3) := dk_180 0 72 (dk_at dksX2_areAlike_2 0 rfl rfl)
theorem dX2_areAlike_51 : decode cX2_areAlike 51 = .ok (.bipush 6, 2) := dk_16 6 (dk_at dksX2_areAlike_2 3 rfl rfl)
theorem dX2_areAlike_53 : decode cX2_areAlike 53 = .ok (.iload_n 2, 1) := dk_28 (dk_at dksX2_areAlike_2 5 rfl rfl)
theorem dX2_areAlike_54 : decode cX2_areAlike 54 = .ok (.imul, 1) := dk_104 (dk_at dksX2_areAlike_2 6 rfl rfl)
theorem dX2_areAlike_55 : decode cX2_areAlike 55 = .ok (.iload 4, 2) := dk_21 4 (dk_at dksX2_areAlike_2 7 rfl rfl)
theorem dX2_areAlike_57 : decode cX2_areAlike 57 = .ok (.iadd, 1) := dk_96 (dk_at dksX2_areAlike_2 9 rfl rfl)
theorem dX2_areAlike_58 : decode cX2_areAlike 58 = .ok (.iaload, 1) := dk_46 (dk_at dksX2_areAlike_2 10 rfl rfl)
theorem dX2_areAlike_59 : decode cX2_areAlike 59 = .ok (.if_icmp .ne 7, 3) := dk_160 0 7 (dk_at dksX2_areAlike_2 11 rfl rfl)
theorem dX2_areAlike_62 : decode cX2_areAlike 62 = .ok (.iconst 1, 1) := dk_4 (dk_at dksX2_areAlike_2 14 rfl rfl)
theorem dX2_areAlike_63 : decode cX2_areAlike 63 = .ok (.goto 4, 3) := dk_167 0 4 (dk_at dksX2_areAlike_2 15 rfl rfl)
theorem dX2_areAlike_66 : decode cX2_areAlike 66 = .ok (.iconst 0, 1) := dk_3 (dk_at dksX2_areAlike_2 18 rfl rfl)
theorem dX2_areAlike_67 : decode cX2_areAlike 67 = .ok (.istore_n 3, 1) := dk_62 (dk_at dksX2_areAlike_2 19 rfl rfl)
theorem dX2_areAlike_68 : decode cX2_areAlike 68 = .ok (.iinc 4 1, 3) := dk_132 4 1 (dk_at dksX2_areAlike_2 20 rfl rfl)
theorem dX2_areAlike_71 : decode cX2_areAlike 71 = .ok (.goto (-47), 3) := dk_167 255 209 (dk_at dksX2_areAlike_3 0 rfl rfl)
theorem dX2_areAlike_74 : decode cX2_areAlike 74 = .ok (.iload_n 3, 1) := dk_29 (dk_at dksX2_areAlike_3 3 rfl rfl)
theorem dX2_areAlike_75 : decode cX2_areAlike 75 = .ok (.ireturn, 1) := dk_172 (dk_at dksX2_areAlike_3 4 rfl rfl)
abbrev cX2_recount : ByteArray := prog_14_method_50_code
def yX2_recount : MethodName := ⟨RX2, "recount", "(I)I"⟩
def dkwX2_recount_2 : List UInt8 := [2, 79, 29, 172]
abbrev dktX2_recount_2 : List UInt8 := dkwX2_recount_2 ++ []
def dkwX2_recount_1 : List UInt8 := [154, 0, 5, 3, 172, 42, 180, 0, 78, 27, 46, 62, 42, 180, 0, 78, 27, 3, 79, 42, 180, 0, 81, 27]
abbrev dktX2_recount_1 : List UInt8 := dkwX2_recount_1 ++ dktX2_recount_2
def dkwX2_recount_0 : List UInt8 := [42, 27, 182, 0, 143, 61, 42, 28, 42, 180, 0, 41, 7, 160, 0, 7, 4, 167, 0, 4, 3, 182, 0, 129]
abbrev dktX2_recount_0 : List UInt8 := dkwX2_recount_0 ++ dktX2_recount_1
theorem dksX2_recount_0 : cX2_recount.data.toList.drop 0 = dktX2_recount_0 := by decide +kernel
theorem dksX2_recount_1 : cX2_recount.data.toList.drop 24 = dktX2_recount_1 := dk_seg dksX2_recount_0 24 rfl rfl
theorem dksX2_recount_2 : cX2_recount.data.toList.drop 48 = dktX2_recount_2 := dk_seg dksX2_recount_1 24 rfl rfl
theorem dX2_recount_0 : decode cX2_recount 0 = .ok (.aload_n 0, 1) := dk_42 (dk_at dksX2_recount_0 0 rfl rfl)
theorem dX2_recount_1 : decode cX2_recount 1 = .ok (.iload_n 1, 1) := dk_27 (dk_at dksX2_recount_0 1 rfl rfl)
theorem dX2_recount_2 : decode cX2_recount 2 = .ok (.invokevirtual 143, 3) := dk_182 0 143 (dk_at dksX2_recount_0 2 rfl rfl)
theorem dX2_recount_5 : decode cX2_recount 5 = .ok (.istore_n 2, 1) := dk_61 (dk_at dksX2_recount_0 5 rfl rfl)
theorem dX2_recount_6 : decode cX2_recount 6 = .ok (.aload_n 0, 1) := dk_42 (dk_at dksX2_recount_0 6 rfl rfl)
theorem dX2_recount_7 : decode cX2_recount 7 = .ok (.iload_n 2, 1) := dk_28 (dk_at dksX2_recount_0 7 rfl rfl)
theorem dX2_recount_8 : decode cX2_recount 8 = .ok (.aload_n 0, 1) := dk_42 (dk_at dksX2_recount_0 8 rfl rfl)
theorem dX2_recount_9 : decode cX2_recount 9 = .ok (.getfield 41, 3) := dk_180 0 41 (dk_at dksX2_recount_0 9 rfl rfl)
theorem dX2_recount_12 : decode cX2_recount 12 = .ok (.iconst 4, 1) := dk_7 (dk_at dksX2_recount_0 12 rfl rfl)
theorem dX2_recount_13 : decode cX2_recount 13 = .ok (.if_icmp .ne 7, 3) := dk_160 0 7 (dk_at dksX2_recount_0 13 rfl rfl)
theorem dX2_recount_16 : decode cX2_recount 16 = .ok (.iconst 1, 1) := dk_4 (dk_at dksX2_recount_0 16 rfl rfl)
theorem dX2_recount_17 : decode cX2_recount 17 = .ok (.goto 4, 3) := dk_167 0 4 (dk_at dksX2_recount_0 17 rfl rfl)
theorem dX2_recount_20 : decode cX2_recount 20 = .ok (.iconst 0, 1) := dk_3 (dk_at dksX2_recount_0 20 rfl rfl)
theorem dX2_recount_21 : decode cX2_recount 21 = .ok (.invokevirtual 129, 3) := dk_182 0 129 (dk_at dksX2_recount_0 21 rfl rfl)
theorem dX2_recount_24 : decode cX2_recount 24 = .ok (.ifCond .ne 5, 3) := dk_154 0 5 (dk_at dksX2_recount_1 0 rfl rfl)
theorem dX2_recount_27 : decode cX2_recount 27 = .ok (.iconst 0, 1) := dk_3 (dk_at dksX2_recount_1 3 rfl rfl)
theorem dX2_recount_28 : decode cX2_recount 28 = .ok (.ireturn, 1) := dk_172 (dk_at dksX2_recount_1 4 rfl rfl)
theorem dX2_recount_29 : decode cX2_recount 29 = .ok (.aload_n 0, 1) := dk_42 (dk_at dksX2_recount_1 5 rfl rfl)
theorem dX2_recount_30 : decode cX2_recount 30 = .ok (.getfield 78, 3) := dk_180 0 78 (dk_at dksX2_recount_1 6 rfl rfl)
theorem dX2_recount_33 : decode cX2_recount 33 = .ok (.iload_n 1, 1) := dk_27 (dk_at dksX2_recount_1 9 rfl rfl)
theorem dX2_recount_34 : decode cX2_recount 34 = .ok (.iaload, 1) := dk_46 (dk_at dksX2_recount_1 10 rfl rfl)
theorem dX2_recount_35 : decode cX2_recount 35 = .ok (.istore_n 3, 1) := dk_62 (dk_at dksX2_recount_1 11 rfl rfl)
theorem dX2_recount_36 : decode cX2_recount 36 = .ok (.aload_n 0, 1) := dk_42 (dk_at dksX2_recount_1 12 rfl rfl)
theorem dX2_recount_37 : decode cX2_recount 37 = .ok (.getfield 78, 3) := dk_180 0 78 (dk_at dksX2_recount_1 13 rfl rfl)
theorem dX2_recount_40 : decode cX2_recount 40 = .ok (.iload_n 1, 1) := dk_27 (dk_at dksX2_recount_1 16 rfl rfl)
theorem dX2_recount_41 : decode cX2_recount 41 = .ok (.iconst 0, 1) := dk_3 (dk_at dksX2_recount_1 17 rfl rfl)
theorem dX2_recount_42 : decode cX2_recount 42 = .ok (.iastore, 1) := dk_79 (dk_at dksX2_recount_1 18 rfl rfl)
theorem dX2_recount_43 : decode cX2_recount 43 = .ok (.aload_n 0, 1) := dk_42 (dk_at dksX2_recount_1 19 rfl rfl)
theorem dX2_recount_44 : decode cX2_recount 44 = .ok (.getfield 81, 3) := dk_180 0 81 (dk_at dksX2_recount_1 20 rfl rfl)
theorem dX2_recount_47 : decode cX2_recount 47 = .ok (.iload_n 1, 1) := dk_27 (dk_at dksX2_recount_1 23 rfl rfl)
theorem dX2_recount_48 : decode cX2_recount 48 = .ok (.iconst (-1), 1) := dk_2 (dk_at dksX2_recount_2 0 rfl rfl)
theorem dX2_recount_49 : decode cX2_recount 49 = .ok (.iastore, 1) := dk_79 (dk_at dksX2_recount_2 1 rfl rfl)
theorem dX2_recount_50 : decode cX2_recount 50 = .ok (.iload_n 3, 1) := dk_29 (dk_at dksX2_recount_2 2 rfl rfl)
theorem dX2_recount_51 : decode cX2_recount 51 = .ok (.ireturn, 1) := dk_172 (dk_at dksX2_recount_2 3 rfl rfl)
abbrev cX2_isSettled : ByteArray := prog_14_method_51_code
def yX2_isSettled : MethodName := ⟨RX2, "isSettled", "(I)Z"⟩
def dkwX2_isSettled_1 : List UInt8 := [167, 0, 4, 3, 172]
abbrev dktX2_isSettled_1 : List UInt8 := dkwX2_isSettled_1 ++ []
def dkwX2_isSettled_0 : List UInt8 := [42, 42, 27, 182, 0, 143, 182, 0, 133, 153, 0, 17, 42, 180, 0, 81, 27, 46, 2, 159, 0, 7, 4]
abbrev dktX2_isSettled_0 : List UInt8 := dkwX2_isSettled_0 ++ dktX2_isSettled_1
theorem dksX2_isSettled_0 : cX2_isSettled.data.toList.drop 0 = dktX2_isSettled_0 := by decide +kernel
theorem dksX2_isSettled_1 : cX2_isSettled.data.toList.drop 23 = dktX2_isSettled_1 := dk_seg dksX2_isSettled_0 23 rfl rfl
theorem dX2_isSettled_0 : decode cX2_isSettled 0 = .ok (.aload_n 0, 1) := dk_42 (dk_at dksX2_isSettled_0 0 rfl rfl)
theorem dX2_isSettled_1 : decode cX2_isSettled 1 = .ok (.aload_n 0, 1) := dk_42 (dk_at dksX2_isSettled_0 1 rfl rfl)
theorem dX2_isSettled_2 : decode cX2_isSettled 2 = .ok (.iload_n 1, 1) := dk_27 (dk_at dksX2_isSettled_0 2 rfl rfl)
theorem dX2_isSettled_3 : decode cX2_isSettled 3 = .ok (.invokevirtual 143, 3) := dk_182 0 143 (dk_at dksX2_isSettled_0 3 rfl rfl)
theorem dX2_isSettled_6 : decode cX2_isSettled 6 = .ok (.invokevirtual 133, 3) := dk_182 0 133 (dk_at dksX2_isSettled_0 6 rfl rfl)
theorem dX2_isSettled_9 : decode cX2_isSettled 9 = .ok (.ifCond .eq 17, 3) := dk_153 0 17 (dk_at dksX2_isSettled_0 9 rfl rfl)
theorem dX2_isSettled_12 : decode cX2_isSettled 12 = .ok (.aload_n 0, 1) := dk_42 (dk_at dksX2_isSettled_0 12 rfl rfl)
theorem dX2_isSettled_13 : decode cX2_isSettled 13 = .ok (.getfield 81, 3) := dk_180 0 81 (dk_at dksX2_isSettled_0 13 rfl rfl)
theorem dX2_isSettled_16 : decode cX2_isSettled 16 = .ok (.iload_n 1, 1) := dk_27 (dk_at dksX2_isSettled_0 16 rfl rfl)
theorem dX2_isSettled_17 : decode cX2_isSettled 17 = .ok (.iaload, 1) := dk_46 (dk_at dksX2_isSettled_0 17 rfl rfl)
theorem dX2_isSettled_18 : decode cX2_isSettled 18 = .ok (.iconst (-1), 1) := dk_2 (dk_at dksX2_isSettled_0 18 rfl rfl)
theorem dX2_isSettled_19 : decode cX2_isSettled 19 = .ok (.if_icmp .eq 7, 3) := dk_159 0 7 (dk_at dksX2_isSettled_0 19 rfl rfl)
theorem dX2_isSettled_22 : decode cX2_isSettled 22 = .ok (.iconst 1, 1) := dk_4 (dk_at dksX2_isSettled_0 22 rfl rfl)
theorem dX2_isSettled_23 : decode cX2_isSettled 23 = .ok (.goto 4, 3) := dk_167 0 4 (dk_at dksX2_isSettled_1 0 rfl rfl)
theorem dX2_isSettled_26 : decode cX2_isSettled 26 = .ok (.iconst 0, 1) := dk_3 (dk_at dksX2_isSettled_1 3 rfl rfl)
theorem dX2_isSettled_27 : decode cX2_isSettled 27 = .ok (.ireturn, 1) := dk_172 (dk_at dksX2_isSettled_1 4 rfl rfl)
abbrev cX2_numberOf : ByteArray := prog_14_method_52_code
def yX2_numberOf : MethodName := ⟨RX2, "numberOf", "(II)I"⟩
def dkwX2_numberOf_2 : List UInt8 := [96, 46, 172]
abbrev dktX2_numberOf_2 : List UInt8 := dkwX2_numberOf_2 ++ []
def dkwX2_numberOf_1 : List UInt8 := [27, 46, 2, 160, 0, 7, 2, 167, 0, 19, 42, 180, 0, 72, 16, 6, 42, 180, 0, 81, 27, 46, 104, 28]
abbrev dktX2_numberOf_1 : List UInt8 := dkwX2_numberOf_1 ++ dktX2_numberOf_2
def dkwX2_numberOf_0 : List UInt8 := [42, 42, 27, 182, 0, 143, 28, 3, 8, 184, 0, 111, 182, 0, 129, 154, 0, 5, 3, 172, 42, 180, 0, 81]
abbrev dktX2_numberOf_0 : List UInt8 := dkwX2_numberOf_0 ++ dktX2_numberOf_1
theorem dksX2_numberOf_0 : cX2_numberOf.data.toList.drop 0 = dktX2_numberOf_0 := by decide +kernel
theorem dksX2_numberOf_1 : cX2_numberOf.data.toList.drop 24 = dktX2_numberOf_1 := dk_seg dksX2_numberOf_0 24 rfl rfl
theorem dksX2_numberOf_2 : cX2_numberOf.data.toList.drop 48 = dktX2_numberOf_2 := dk_seg dksX2_numberOf_1 24 rfl rfl
theorem dX2_numberOf_0 : decode cX2_numberOf 0 = .ok (.aload_n 0, 1) := dk_42 (dk_at dksX2_numberOf_0 0 rfl rfl)
theorem dX2_numberOf_1 : decode cX2_numberOf 1 = .ok (.aload_n 0, 1) := dk_42 (dk_at dksX2_numberOf_0 1 rfl rfl)
theorem dX2_numberOf_2 : decode cX2_numberOf 2 = .ok (.iload_n 1, 1) := dk_27 (dk_at dksX2_numberOf_0 2 rfl rfl)
theorem dX2_numberOf_3 : decode cX2_numberOf 3 = .ok (.invokevirtual 143, 3) := dk_182 0 143 (dk_at dksX2_numberOf_0 3 rfl rfl)
theorem dX2_numberOf_6 : decode cX2_numberOf 6 = .ok (.iload_n 2, 1) := dk_28 (dk_at dksX2_numberOf_0 6 rfl rfl)
theorem dX2_numberOf_7 : decode cX2_numberOf 7 = .ok (.iconst 0, 1) := dk_3 (dk_at dksX2_numberOf_0 7 rfl rfl)
theorem dX2_numberOf_8 : decode cX2_numberOf 8 = .ok (.iconst 5, 1) := dk_8 (dk_at dksX2_numberOf_0 8 rfl rfl)
theorem dX2_numberOf_9 : decode cX2_numberOf 9 = .ok (.invokestatic 111, 3) := dk_184 0 111 (dk_at dksX2_numberOf_0 9 rfl rfl)
theorem dX2_numberOf_12 : decode cX2_numberOf 12 = .ok (.invokevirtual 129, 3) := dk_182 0 129 (dk_at dksX2_numberOf_0 12 rfl rfl)
theorem dX2_numberOf_15 : decode cX2_numberOf 15 = .ok (.ifCond .ne 5, 3) := dk_154 0 5 (dk_at dksX2_numberOf_0 15 rfl rfl)
theorem dX2_numberOf_18 : decode cX2_numberOf 18 = .ok (.iconst 0, 1) := dk_3 (dk_at dksX2_numberOf_0 18 rfl rfl)
theorem dX2_numberOf_19 : decode cX2_numberOf 19 = .ok (.ireturn, 1) := dk_172 (dk_at dksX2_numberOf_0 19 rfl rfl)
theorem dX2_numberOf_20 : decode cX2_numberOf 20 = .ok (.aload_n 0, 1) := dk_42 (dk_at dksX2_numberOf_0 20 rfl rfl)
theorem dX2_numberOf_21 : decode cX2_numberOf 21 = .ok (.getfield 81, 3) := dk_180 0 81 (dk_at dksX2_numberOf_0 21 rfl rfl)
theorem dX2_numberOf_24 : decode cX2_numberOf 24 = .ok (.iload_n 1, 1) := dk_27 (dk_at dksX2_numberOf_1 0 rfl rfl)
theorem dX2_numberOf_25 : decode cX2_numberOf 25 = .ok (.iaload, 1) := dk_46 (dk_at dksX2_numberOf_1 1 rfl rfl)
theorem dX2_numberOf_26 : decode cX2_numberOf 26 = .ok (.iconst (-1), 1) := dk_2 (dk_at dksX2_numberOf_1 2 rfl rfl)
theorem dX2_numberOf_27 : decode cX2_numberOf 27 = .ok (.if_icmp .ne 7, 3) := dk_160 0 7 (dk_at dksX2_numberOf_1 3 rfl rfl)
theorem dX2_numberOf_30 : decode cX2_numberOf 30 = .ok (.iconst (-1), 1) := dk_2 (dk_at dksX2_numberOf_1 6 rfl rfl)
theorem dX2_numberOf_31 : decode cX2_numberOf 31 = .ok (.goto 19, 3) := dk_167 0 19 (dk_at dksX2_numberOf_1 7 rfl rfl)
theorem dX2_numberOf_34 : decode cX2_numberOf 34 = .ok (.aload_n 0, 1) := dk_42 (dk_at dksX2_numberOf_1 10 rfl rfl)
theorem dX2_numberOf_35 : decode cX2_numberOf 35 = .ok (.getfield 72, 3) := dk_180 0 72 (dk_at dksX2_numberOf_1 11 rfl rfl)
theorem dX2_numberOf_38 : decode cX2_numberOf 38 = .ok (.bipush 6, 2) := dk_16 6 (dk_at dksX2_numberOf_1 14 rfl rfl)
theorem dX2_numberOf_40 : decode cX2_numberOf 40 = .ok (.aload_n 0, 1) := dk_42 (dk_at dksX2_numberOf_1 16 rfl rfl)
theorem dX2_numberOf_41 : decode cX2_numberOf 41 = .ok (.getfield 81, 3) := dk_180 0 81 (dk_at dksX2_numberOf_1 17 rfl rfl)
theorem dX2_numberOf_44 : decode cX2_numberOf 44 = .ok (.iload_n 1, 1) := dk_27 (dk_at dksX2_numberOf_1 20 rfl rfl)
theorem dX2_numberOf_45 : decode cX2_numberOf 45 = .ok (.iaload, 1) := dk_46 (dk_at dksX2_numberOf_1 21 rfl rfl)
theorem dX2_numberOf_46 : decode cX2_numberOf 46 = .ok (.imul, 1) := dk_104 (dk_at dksX2_numberOf_1 22 rfl rfl)
theorem dX2_numberOf_47 : decode cX2_numberOf 47 = .ok (.iload_n 2, 1) := dk_28 (dk_at dksX2_numberOf_1 23 rfl rfl)
theorem dX2_numberOf_48 : decode cX2_numberOf 48 = .ok (.iadd, 1) := dk_96 (dk_at dksX2_numberOf_2 0 rfl rfl)
theorem dX2_numberOf_49 : decode cX2_numberOf 49 = .ok (.iaload, 1) := dk_46 (dk_at dksX2_numberOf_2 1 rfl rfl)
theorem dX2_numberOf_50 : decode cX2_numberOf 50 = .ok (.ireturn, 1) := dk_172 (dk_at dksX2_numberOf_2 2 rfl rfl)
abbrev cX2_misread : ByteArray := prog_14_method_54_code
def yX2_misread : MethodName := ⟨RX2, "misread", "(I)I"⟩
def dkwX2_misread_3 : List UInt8 := [21, 4, 158, 0, 8, 21, 4, 167, 0, 4, 3, 96, 61, 132, 3, 1, 167, 255, 203, 28, 172]
abbrev dktX2_misread_3 : List UInt8 := dkwX2_misread_3 ++ []
def dkwX2_misread_2 : List UInt8 := [182, 0, 214, 42, 180, 0, 72, 16, 6, 42, 180, 0, 81, 27, 46, 104, 29, 96, 46, 100, 54, 4, 28]
abbrev dktX2_misread_2 : List UInt8 := dkwX2_misread_2 ++ dktX2_misread_3
def dkwX2_misread_1 : List UInt8 := [2, 167, 0, 4, 3, 61, 3, 62, 29, 16, 6, 162, 0, 53, 28, 2, 159, 0, 48, 42, 27, 29]
abbrev dktX2_misread_1 : List UInt8 := dkwX2_misread_1 ++ dktX2_misread_2
def dkwX2_misread_0 : List UInt8 := [42, 42, 27, 182, 0, 143, 182, 0, 133, 154, 0, 5, 3, 172, 42, 180, 0, 81, 27, 46, 2, 160, 0, 7]
abbrev dktX2_misread_0 : List UInt8 := dkwX2_misread_0 ++ dktX2_misread_1
theorem dksX2_misread_0 : cX2_misread.data.toList.drop 0 = dktX2_misread_0 := by decide +kernel
theorem dksX2_misread_1 : cX2_misread.data.toList.drop 24 = dktX2_misread_1 := dk_seg dksX2_misread_0 24 rfl rfl
theorem dksX2_misread_2 : cX2_misread.data.toList.drop 46 = dktX2_misread_2 := dk_seg dksX2_misread_1 22 rfl rfl
theorem dksX2_misread_3 : cX2_misread.data.toList.drop 69 = dktX2_misread_3 := dk_seg dksX2_misread_2 23 rfl rfl
theorem dX2_misread_0 : decode cX2_misread 0 = .ok (.aload_n 0, 1) := dk_42 (dk_at dksX2_misread_0 0 rfl rfl)
theorem dX2_misread_1 : decode cX2_misread 1 = .ok (.aload_n 0, 1) := dk_42 (dk_at dksX2_misread_0 1 rfl rfl)
theorem dX2_misread_2 : decode cX2_misread 2 = .ok (.iload_n 1, 1) := dk_27 (dk_at dksX2_misread_0 2 rfl rfl)
theorem dX2_misread_3 : decode cX2_misread 3 = .ok (.invokevirtual 143, 3) := dk_182 0 143 (dk_at dksX2_misread_0 3 rfl rfl)
theorem dX2_misread_6 : decode cX2_misread 6 = .ok (.invokevirtual 133, 3) := dk_182 0 133 (dk_at dksX2_misread_0 6 rfl rfl)
theorem dX2_misread_9 : decode cX2_misread 9 = .ok (.ifCond .ne 5, 3) := dk_154 0 5 (dk_at dksX2_misread_0 9 rfl rfl)
theorem dX2_misread_12 : decode cX2_misread 12 = .ok (.iconst 0, 1) := dk_3 (dk_at dksX2_misread_0 12 rfl rfl)
theorem dX2_misread_13 : decode cX2_misread 13 = .ok (.ireturn, 1) := dk_172 (dk_at dksX2_misread_0 13 rfl rfl)
theorem dX2_misread_14 : decode cX2_misread 14 = .ok (.aload_n 0, 1) := dk_42 (dk_at dksX2_misread_0 14 rfl rfl)
theorem dX2_misread_15 : decode cX2_misread 15 = .ok (.getfield 81, 3) := dk_180 0 81 (dk_at dksX2_misread_0 15 rfl rfl)
theorem dX2_misread_18 : decode cX2_misread 18 = .ok (.iload_n 1, 1) := dk_27 (dk_at dksX2_misread_0 18 rfl rfl)
theorem dX2_misread_19 : decode cX2_misread 19 = .ok (.iaload, 1) := dk_46 (dk_at dksX2_misread_0 19 rfl rfl)
theorem dX2_misread_20 : decode cX2_misread 20 = .ok (.iconst (-1), 1) := dk_2 (dk_at dksX2_misread_0 20 rfl rfl)
theorem dX2_misread_21 : decode cX2_misread 21 = .ok (.if_icmp .ne 7, 3) := dk_160 0 7 (dk_at dksX2_misread_0 21 rfl rfl)
theorem dX2_misread_24 : decode cX2_misread 24 = .ok (.iconst (-1), 1) := dk_2 (dk_at dksX2_misread_1 0 rfl rfl)
theorem dX2_misread_25 : decode cX2_misread 25 = .ok (.goto 4, 3) := dk_167 0 4 (dk_at dksX2_misread_1 1 rfl rfl)
theorem dX2_misread_28 : decode cX2_misread 28 = .ok (.iconst 0, 1) := dk_3 (dk_at dksX2_misread_1 4 rfl rfl)
theorem dX2_misread_29 : decode cX2_misread 29 = .ok (.istore_n 2, 1) := dk_61 (dk_at dksX2_misread_1 5 rfl rfl)
theorem dX2_misread_30 : decode cX2_misread 30 = .ok (.iconst 0, 1) := dk_3 (dk_at dksX2_misread_1 6 rfl rfl)
theorem dX2_misread_31 : decode cX2_misread 31 = .ok (.istore_n 3, 1) := dk_62 (dk_at dksX2_misread_1 7 rfl rfl)
theorem dX2_misread_32 : decode cX2_misread 32 = .ok (.iload_n 3, 1) := dk_29 (dk_at dksX2_misread_1 8 rfl rfl)
theorem dX2_misread_33 : decode cX2_misread 33 = .ok (.bipush 6, 2) := dk_16 6 (dk_at dksX2_misread_1 9 rfl rfl)
theorem dX2_misread_35 : decode cX2_misread 35 = .ok (.if_icmp .ge 53, 3) := dk_162 0 53 (dk_at dksX2_misread_1 11 rfl rfl)
theorem dX2_misread_38 : decode cX2_misread 38 = .ok (.iload_n 2, 1) := dk_28 (dk_at dksX2_misread_1 14 rfl rfl)
theorem dX2_misread_39 : decode cX2_misread 39 = .ok (.iconst (-1), 1) := dk_2 (dk_at dksX2_misread_1 15 rfl rfl)
theorem dX2_misread_40 : decode cX2_misread 40 = .ok (.if_icmp .eq 48, 3) := dk_159 0 48 (dk_at dksX2_misread_1 16 rfl rfl)
theorem dX2_misread_43 : decode cX2_misread 43 = .ok (.aload_n 0, 1) := dk_42 (dk_at dksX2_misread_1 19 rfl rfl)
theorem dX2_misread_44 : decode cX2_misread 44 = .ok (.iload_n 1, 1) := dk_27 (dk_at dksX2_misread_1 20 rfl rfl)
theorem dX2_misread_45 : decode cX2_misread 45 = .ok (.iload_n 3, 1) := dk_29 (dk_at dksX2_misread_1 21 rfl rfl)
theorem dX2_misread_46 : decode cX2_misread 46 = .ok (.invokevirtual 214, 3) := dk_182 0 214 (dk_at dksX2_misread_2 0 rfl rfl)
theorem dX2_misread_49 : decode cX2_misread 49 = .ok (.aload_n 0, 1) := dk_42 (dk_at dksX2_misread_2 3 rfl rfl)
theorem dX2_misread_50 : decode cX2_misread 50 = .ok (.getfield 72, 3) := dk_180 0 72 (dk_at dksX2_misread_2 4 rfl rfl)
theorem dX2_misread_53 : decode cX2_misread 53 = .ok (.bipush 6, 2) := dk_16 6 (dk_at dksX2_misread_2 7 rfl rfl)
theorem dX2_misread_55 : decode cX2_misread 55 = .ok (.aload_n 0, 1) := dk_42 (dk_at dksX2_misread_2 9 rfl rfl)
theorem dX2_misread_56 : decode cX2_misread 56 = .ok (.getfield 81, 3) := dk_180 0 81 (dk_at dksX2_misread_2 10 rfl rfl)
theorem dX2_misread_59 : decode cX2_misread 59 = .ok (.iload_n 1, 1) := dk_27 (dk_at dksX2_misread_2 13 rfl rfl)
theorem dX2_misread_60 : decode cX2_misread 60 = .ok (.iaload, 1) := dk_46 (dk_at dksX2_misread_2 14 rfl rfl)
theorem dX2_misread_61 : decode cX2_misread 61 = .ok (.imul, 1) := dk_104 (dk_at dksX2_misread_2 15 rfl rfl)
theorem dX2_misread_62 : decode cX2_misread 62 = .ok (.iload_n 3, 1) := dk_29 (dk_at dksX2_misread_2 16 rfl rfl)
theorem dX2_misread_63 : decode cX2_misread 63 = .ok (.iadd, 1) := dk_96 (dk_at dksX2_misread_2 17 rfl rfl)
theorem dX2_misread_64 : decode cX2_misread 64 = .ok (.iaload, 1) := dk_46 (dk_at dksX2_misread_2 18 rfl rfl)
theorem dX2_misread_65 : decode cX2_misread 65 = .ok (.isub, 1) := dk_100 (dk_at dksX2_misread_2 19 rfl rfl)
theorem dX2_misread_66 : decode cX2_misread 66 = .ok (.istore 4, 2) := dk_54 4 (dk_at dksX2_misread_2 20 rfl rfl)
theorem dX2_misread_68 : decode cX2_misread 68 = .ok (.iload_n 2, 1) := dk_28 (dk_at dksX2_misread_2 22 rfl rfl)
theorem dX2_misread_69 : decode cX2_misread 69 = .ok (.iload 4, 2) := dk_21 4 (dk_at dksX2_misread_3 0 rfl rfl)
theorem dX2_misread_71 : decode cX2_misread 71 = .ok (.ifCond .le 8, 3) := dk_158 0 8 (dk_at dksX2_misread_3 2 rfl rfl)
theorem dX2_misread_74 : decode cX2_misread 74 = .ok (.iload 4, 2) := dk_21 4 (dk_at dksX2_misread_3 5 rfl rfl)
theorem dX2_misread_76 : decode cX2_misread 76 = .ok (.goto 4, 3) := dk_167 0 4 (dk_at dksX2_misread_3 7 rfl rfl)
theorem dX2_misread_79 : decode cX2_misread 79 = .ok (.iconst 0, 1) := dk_3 (dk_at dksX2_misread_3 10 rfl rfl)
theorem dX2_misread_80 : decode cX2_misread 80 = .ok (.iadd, 1) := dk_96 (dk_at dksX2_misread_3 11 rfl rfl)
theorem dX2_misread_81 : decode cX2_misread 81 = .ok (.istore_n 2, 1) := dk_61 (dk_at dksX2_misread_3 12 rfl rfl)
theorem dX2_misread_82 : decode cX2_misread 82 = .ok (.iinc 3 1, 3) := dk_132 3 1 (dk_at dksX2_misread_3 13 rfl rfl)
theorem dX2_misread_85 : decode cX2_misread 85 = .ok (.goto (-53), 3) := dk_167 255 203 (dk_at dksX2_misread_3 16 rfl rfl)
theorem dX2_misread_88 : decode cX2_misread 88 = .ok (.iload_n 2, 1) := dk_28 (dk_at dksX2_misread_3 19 rfl rfl)
theorem dX2_misread_89 : decode cX2_misread 89 = .ok (.ireturn, 1) := dk_172 (dk_at dksX2_misread_3 20 rfl rfl)
abbrev cX2_inBox : ByteArray := prog_14_method_53_code
def yX2_inBox : MethodName := ⟨RX2, "inBox", "(II)I"⟩
def dkwX2_inBox_2 : List UInt8 := [167, 255, 218, 29, 172]
abbrev dktX2_inBox_2 : List UInt8 := dkwX2_inBox_2 ++ []
def dkwX2_inBox_1 : List UInt8 := [29, 42, 180, 0, 66, 21, 4, 46, 28, 160, 0, 7, 4, 167, 0, 4, 3, 96, 62, 132, 4, 1]
abbrev dktX2_inBox_1 : List UInt8 := dkwX2_inBox_1 ++ dktX2_inBox_2
def dkwX2_inBox_0 : List UInt8 := [3, 62, 16, 20, 27, 104, 54, 4, 21, 4, 16, 20, 27, 104, 42, 180, 0, 69, 27, 46, 96, 162, 0, 28]
abbrev dktX2_inBox_0 : List UInt8 := dkwX2_inBox_0 ++ dktX2_inBox_1
theorem dksX2_inBox_0 : cX2_inBox.data.toList.drop 0 = dktX2_inBox_0 := by decide +kernel
theorem dksX2_inBox_1 : cX2_inBox.data.toList.drop 24 = dktX2_inBox_1 := dk_seg dksX2_inBox_0 24 rfl rfl
theorem dksX2_inBox_2 : cX2_inBox.data.toList.drop 46 = dktX2_inBox_2 := dk_seg dksX2_inBox_1 22 rfl rfl
theorem dX2_inBox_0 : decode cX2_inBox 0 = .ok (.iconst 0, 1) := dk_3 (dk_at dksX2_inBox_0 0 rfl rfl)
theorem dX2_inBox_1 : decode cX2_inBox 1 = .ok (.istore_n 3, 1) := dk_62 (dk_at dksX2_inBox_0 1 rfl rfl)
theorem dX2_inBox_2 : decode cX2_inBox 2 = .ok (.bipush 20, 2) := dk_16 20 (dk_at dksX2_inBox_0 2 rfl rfl)
theorem dX2_inBox_4 : decode cX2_inBox 4 = .ok (.iload_n 1, 1) := dk_27 (dk_at dksX2_inBox_0 4 rfl rfl)
theorem dX2_inBox_5 : decode cX2_inBox 5 = .ok (.imul, 1) := dk_104 (dk_at dksX2_inBox_0 5 rfl rfl)
theorem dX2_inBox_6 : decode cX2_inBox 6 = .ok (.istore 4, 2) := dk_54 4 (dk_at dksX2_inBox_0 6 rfl rfl)
theorem dX2_inBox_8 : decode cX2_inBox 8 = .ok (.iload 4, 2) := dk_21 4 (dk_at dksX2_inBox_0 8 rfl rfl)
theorem dX2_inBox_10 : decode cX2_inBox 10 = .ok (.bipush 20, 2) := dk_16 20 (dk_at dksX2_inBox_0 10 rfl rfl)
theorem dX2_inBox_12 : decode cX2_inBox 12 = .ok (.iload_n 1, 1) := dk_27 (dk_at dksX2_inBox_0 12 rfl rfl)
theorem dX2_inBox_13 : decode cX2_inBox 13 = .ok (.imul, 1) := dk_104 (dk_at dksX2_inBox_0 13 rfl rfl)
theorem dX2_inBox_14 : decode cX2_inBox 14 = .ok (.aload_n 0, 1) := dk_42 (dk_at dksX2_inBox_0 14 rfl rfl)
theorem dX2_inBox_15 : decode cX2_inBox 15 = .ok (.getfield 69, 3) := dk_180 0 69 (dk_at dksX2_inBox_0 15 rfl rfl)
theorem dX2_inBox_18 : decode cX2_inBox 18 = .ok (.iload_n 1, 1) := dk_27 (dk_at dksX2_inBox_0 18 rfl rfl)
theorem dX2_inBox_19 : decode cX2_inBox 19 = .ok (.iaload, 1) := dk_46 (dk_at dksX2_inBox_0 19 rfl rfl)
theorem dX2_inBox_20 : decode cX2_inBox 20 = .ok (.iadd, 1) := dk_96 (dk_at dksX2_inBox_0 20 rfl rfl)
theorem dX2_inBox_21 : decode cX2_inBox 21 = .ok (.if_icmp .ge 28, 3) := dk_162 0 28 (dk_at dksX2_inBox_0 21 rfl rfl)
theorem dX2_inBox_24 : decode cX2_inBox 24 = .ok (.iload_n 3, 1) := dk_29 (dk_at dksX2_inBox_1 0 rfl rfl)
theorem dX2_inBox_25 : decode cX2_inBox 25 = .ok (.aload_n 0, 1) := dk_42 (dk_at dksX2_inBox_1 1 rfl rfl)
theorem dX2_inBox_26 : decode cX2_inBox 26 = .ok (.getfield 66, 3) := dk_180 0 66 (dk_at dksX2_inBox_1 2 rfl rfl)
theorem dX2_inBox_29 : decode cX2_inBox 29 = .ok (.iload 4, 2) := dk_21 4 (dk_at dksX2_inBox_1 5 rfl rfl)
theorem dX2_inBox_31 : decode cX2_inBox 31 = .ok (.iaload, 1) := dk_46 (dk_at dksX2_inBox_1 7 rfl rfl)
theorem dX2_inBox_32 : decode cX2_inBox 32 = .ok (.iload_n 2, 1) := dk_28 (dk_at dksX2_inBox_1 8 rfl rfl)
theorem dX2_inBox_33 : decode cX2_inBox 33 = .ok (.if_icmp .ne 7, 3) := dk_160 0 7 (dk_at dksX2_inBox_1 9 rfl rfl)
theorem dX2_inBox_36 : decode cX2_inBox 36 = .ok (.iconst 1, 1) := dk_4 (dk_at dksX2_inBox_1 12 rfl rfl)
theorem dX2_inBox_37 : decode cX2_inBox 37 = .ok (.goto 4, 3) := dk_167 0 4 (dk_at dksX2_inBox_1 13 rfl rfl)
theorem dX2_inBox_40 : decode cX2_inBox 40 = .ok (.iconst 0, 1) := dk_3 (dk_at dksX2_inBox_1 16 rfl rfl)
theorem dX2_inBox_41 : decode cX2_inBox 41 = .ok (.iadd, 1) := dk_96 (dk_at dksX2_inBox_1 17 rfl rfl)
theorem dX2_inBox_42 : decode cX2_inBox 42 = .ok (.istore_n 3, 1) := dk_62 (dk_at dksX2_inBox_1 18 rfl rfl)
theorem dX2_inBox_43 : decode cX2_inBox 43 = .ok (.iinc 4 1, 3) := dk_132 4 1 (dk_at dksX2_inBox_1 19 rfl rfl)
theorem dX2_inBox_46 : decode cX2_inBox 46 = .ok (.goto (-38), 3) := dk_167 255 218 (dk_at dksX2_inBox_2 0 rfl rfl)
theorem dX2_inBox_49 : decode cX2_inBox 49 = .ok (.iload_n 3, 1) := dk_29 (dk_at dksX2_inBox_2 3 rfl rfl)
theorem dX2_inBox_50 : decode cX2_inBox 50 = .ok (.ireturn, 1) := dk_172 (dk_at dksX2_inBox_2 4 rfl rfl)
abbrev cX2_votes : ByteArray := prog_14_method_60_code
def yX2_votes : MethodName := ⟨RX2, "votes", "(I)I"⟩
def dkwX2_votes_1 : List UInt8 := [27, 46, 167, 0, 4, 2, 172]
abbrev dktX2_votes_1 : List UInt8 := dkwX2_votes_1 ++ []
def dkwX2_votes_0 : List UInt8 := [42, 27, 184, 0, 234, 182, 0, 133, 154, 0, 5, 3, 172, 42, 182, 0, 237, 153, 0, 12, 42, 180, 0, 87]
abbrev dktX2_votes_0 : List UInt8 := dkwX2_votes_0 ++ dktX2_votes_1
theorem dksX2_votes_0 : cX2_votes.data.toList.drop 0 = dktX2_votes_0 := by decide +kernel
theorem dksX2_votes_1 : cX2_votes.data.toList.drop 24 = dktX2_votes_1 := dk_seg dksX2_votes_0 24 rfl rfl
theorem dX2_votes_0 : decode cX2_votes 0 = .ok (.aload_n 0, 1) := dk_42 (dk_at dksX2_votes_0 0 rfl rfl)
theorem dX2_votes_1 : decode cX2_votes 1 = .ok (.iload_n 1, 1) := dk_27 (dk_at dksX2_votes_0 1 rfl rfl)
theorem dX2_votes_2 : decode cX2_votes 2 = .ok (.invokestatic 234, 3) := dk_184 0 234 (dk_at dksX2_votes_0 2 rfl rfl)
theorem dX2_votes_5 : decode cX2_votes 5 = .ok (.invokevirtual 133, 3) := dk_182 0 133 (dk_at dksX2_votes_0 5 rfl rfl)
theorem dX2_votes_8 : decode cX2_votes 8 = .ok (.ifCond .ne 5, 3) := dk_154 0 5 (dk_at dksX2_votes_0 8 rfl rfl)
theorem dX2_votes_11 : decode cX2_votes 11 = .ok (.iconst 0, 1) := dk_3 (dk_at dksX2_votes_0 11 rfl rfl)
theorem dX2_votes_12 : decode cX2_votes 12 = .ok (.ireturn, 1) := dk_172 (dk_at dksX2_votes_0 12 rfl rfl)
theorem dX2_votes_13 : decode cX2_votes 13 = .ok (.aload_n 0, 1) := dk_42 (dk_at dksX2_votes_0 13 rfl rfl)
theorem dX2_votes_14 : decode cX2_votes 14 = .ok (.invokevirtual 237, 3) := dk_182 0 237 (dk_at dksX2_votes_0 14 rfl rfl)
theorem dX2_votes_17 : decode cX2_votes 17 = .ok (.ifCond .eq 12, 3) := dk_153 0 12 (dk_at dksX2_votes_0 17 rfl rfl)
theorem dX2_votes_20 : decode cX2_votes 20 = .ok (.aload_n 0, 1) := dk_42 (dk_at dksX2_votes_0 20 rfl rfl)
theorem dX2_votes_21 : decode cX2_votes 21 = .ok (.getfield 87, 3) := dk_180 0 87 (dk_at dksX2_votes_0 21 rfl rfl)
theorem dX2_votes_24 : decode cX2_votes 24 = .ok (.iload_n 1, 1) := dk_27 (dk_at dksX2_votes_1 0 rfl rfl)
theorem dX2_votes_25 : decode cX2_votes 25 = .ok (.iaload, 1) := dk_46 (dk_at dksX2_votes_1 1 rfl rfl)
theorem dX2_votes_26 : decode cX2_votes 26 = .ok (.goto 4, 3) := dk_167 0 4 (dk_at dksX2_votes_1 2 rfl rfl)
theorem dX2_votes_29 : decode cX2_votes 29 = .ok (.iconst (-1), 1) := dk_2 (dk_at dksX2_votes_1 5 rfl rfl)
theorem dX2_votes_30 : decode cX2_votes 30 = .ok (.ireturn, 1) := dk_172 (dk_at dksX2_votes_1 6 rfl rfl)
abbrev cX2_isParty : ByteArray := prog_14_method_59_code
def yX2_isParty : MethodName := ⟨RX2, "isParty", "(I)Z"⟩
def dkwX2_isParty_0 : List UInt8 := [26, 3, 7, 184, 0, 111, 172]
abbrev dktX2_isParty_0 : List UInt8 := dkwX2_isParty_0 ++ []
theorem dksX2_isParty_0 : cX2_isParty.data.toList.drop 0 = dktX2_isParty_0 := by decide +kernel
theorem dX2_isParty_0 : decode cX2_isParty 0 = .ok (.iload_n 0, 1) := dk_26 (dk_at dksX2_isParty_0 0 rfl rfl)
theorem dX2_isParty_1 : decode cX2_isParty 1 = .ok (.iconst 0, 1) := dk_3 (dk_at dksX2_isParty_0 1 rfl rfl)
theorem dX2_isParty_2 : decode cX2_isParty 2 = .ok (.iconst 4, 1) := dk_7 (dk_at dksX2_isParty_0 2 rfl rfl)
theorem dX2_isParty_3 : decode cX2_isParty 3 = .ok (.invokestatic 111, 3) := dk_184 0 111 (dk_at dksX2_isParty_0 3 rfl rfl)
theorem dX2_isParty_6 : decode cX2_isParty 6 = .ok (.ireturn, 1) := dk_172 (dk_at dksX2_isParty_0 6 rfl rfl)
abbrev cX2_done : ByteArray := prog_14_method_58_code
def yX2_done : MethodName := ⟨RX2, "done", "()Z"⟩
def dkwX2_done_1 : List UInt8 := [167, 0, 4, 3, 172]
abbrev dktX2_done_1 : List UInt8 := dkwX2_done_1 ++ []
def dkwX2_done_0 : List UInt8 := [42, 180, 0, 41, 8, 160, 0, 8, 42, 3, 182, 0, 230, 42, 180, 0, 41, 8, 160, 0, 7, 4]
abbrev dktX2_done_0 : List UInt8 := dkwX2_done_0 ++ dktX2_done_1
theorem dksX2_done_0 : cX2_done.data.toList.drop 0 = dktX2_done_0 := by decide +kernel
theorem dksX2_done_1 : cX2_done.data.toList.drop 22 = dktX2_done_1 := dk_seg dksX2_done_0 22 rfl rfl
theorem dX2_done_0 : decode cX2_done 0 = .ok (.aload_n 0, 1) := dk_42 (dk_at dksX2_done_0 0 rfl rfl)
theorem dX2_done_1 : decode cX2_done 1 = .ok (.getfield 41, 3) := dk_180 0 41 (dk_at dksX2_done_0 1 rfl rfl)
theorem dX2_done_4 : decode cX2_done 4 = .ok (.iconst 5, 1) := dk_8 (dk_at dksX2_done_0 4 rfl rfl)
theorem dX2_done_5 : decode cX2_done 5 = .ok (.if_icmp .ne 8, 3) := dk_160 0 8 (dk_at dksX2_done_0 5 rfl rfl)
theorem dX2_done_8 : decode cX2_done 8 = .ok (.aload_n 0, 1) := dk_42 (dk_at dksX2_done_0 8 rfl rfl)
theorem dX2_done_9 : decode cX2_done 9 = .ok (.iconst 0, 1) := dk_3 (dk_at dksX2_done_0 9 rfl rfl)
theorem dX2_done_10 : decode cX2_done 10 = .ok (.invokevirtual 230, 3) := dk_182 0 230 (dk_at dksX2_done_0 10 rfl rfl)
theorem dX2_done_13 : decode cX2_done 13 = .ok (.aload_n 0, 1) := dk_42 (dk_at dksX2_done_0 13 rfl rfl)
theorem dX2_done_14 : decode cX2_done 14 = .ok (.getfield 41, 3) := dk_180 0 41 (dk_at dksX2_done_0 14 rfl rfl)
theorem dX2_done_17 : decode cX2_done 17 = .ok (.iconst 5, 1) := dk_8 (dk_at dksX2_done_0 17 rfl rfl)
theorem dX2_done_18 : decode cX2_done 18 = .ok (.if_icmp .ne 7, 3) := dk_160 0 7 (dk_at dksX2_done_0 18 rfl rfl)
theorem dX2_done_21 : decode cX2_done 21 = .ok (.iconst 1, 1) := dk_4 (dk_at dksX2_done_0 21 rfl rfl)
theorem dX2_done_22 : decode cX2_done 22 = .ok (.goto 4, 3) := dk_167 0 4 (dk_at dksX2_done_1 0 rfl rfl)
theorem dX2_done_25 : decode cX2_done 25 = .ok (.iconst 0, 1) := dk_3 (dk_at dksX2_done_1 3 rfl rfl)
theorem dX2_done_26 : decode cX2_done 26 = .ok (.ireturn, 1) := dk_172 (dk_at dksX2_done_1 4 rfl rfl)
abbrev cX2_gives : ByteArray := prog_14_method_57_code
def yX2_gives : MethodName := ⟨RX2, "gives", "(Z)V"⟩
def dkwX2_gives_15 : List UInt8 := [96, 181, 0, 220, 167, 255, 46, 177]
abbrev dktX2_gives_15 : List UInt8 := dkwX2_gives_15 ++ []
def dkwX2_gives_14 : List UInt8 := [21, 7, 92, 46, 4, 96, 79, 42, 180, 0, 93, 42, 180, 0, 220, 21, 7, 79, 42, 89, 180, 0, 220, 4]
abbrev dktX2_gives_14 : List UInt8 := dkwX2_gives_14 ++ dktX2_gives_15
def dkwX2_gives_13 : List UInt8 := [182, 0, 226, 154, 0, 7, 4, 167, 0, 4, 3, 100, 54, 6, 132, 7, 1, 167, 255, 216, 42, 180, 0, 90]
abbrev dktX2_gives_13 : List UInt8 := dkwX2_gives_13 ++ dktX2_gives_14
def dkwX2_gives_12 : List UInt8 := [21, 6, 157, 0, 14, 42, 21, 7, 21, 4, 182, 0, 226, 153, 0, 30, 21, 6, 42, 21, 7, 21, 4]
abbrev dktX2_gives_12 : List UInt8 := dkwX2_gives_12 ++ dktX2_gives_13
def dkwX2_gives_11 : List UInt8 := [18, 229, 112, 61, 28, 21, 5, 112, 54, 6, 42, 89, 180, 0, 223, 4, 96, 181, 0, 223, 21, 4, 54, 7]
abbrev dktX2_gives_11 : List UInt8 := dkwX2_gives_11 ++ dktX2_gives_12
def dkwX2_gives_10 : List UInt8 := [132, 6, 1, 167, 255, 190, 3, 54, 6, 21, 5, 4, 164, 0, 32, 28, 17, 4, 79, 104, 17, 48, 57, 96]
abbrev dktX2_gives_10 : List UInt8 := dkwX2_gives_10 ++ dktX2_gives_11
def dkwX2_gives_9 : List UInt8 := [54, 5, 42, 21, 6, 21, 4, 182, 0, 226, 158, 0, 8, 21, 6, 167, 0, 5, 21, 4, 54, 4]
abbrev dktX2_gives_9 : List UInt8 := dkwX2_gives_9 ++ dktX2_gives_10
def dkwX2_gives_8 : List UInt8 := [167, 0, 23, 42, 21, 6, 21, 4, 182, 0, 226, 154, 0, 10, 21, 5, 4, 96, 167, 0, 5, 21, 5]
abbrev dktX2_gives_8 : List UInt8 := dkwX2_gives_8 ++ dktX2_gives_9
def dkwX2_gives_7 : List UInt8 := [54, 5, 3, 54, 6, 21, 6, 8, 162, 0, 66, 42, 21, 6, 21, 4, 182, 0, 226, 158, 0, 7, 4]
abbrev dktX2_gives_7 : List UInt8 := dkwX2_gives_7 ++ dktX2_gives_8
def dkwX2_gives_6 : List UInt8 := [167, 0, 4, 3, 62, 29, 153, 0, 212, 42, 180, 0, 220, 42, 180, 0, 184, 162, 0, 201, 3, 54, 4, 3]
abbrev dktX2_gives_6 : List UInt8 := dkwX2_gives_6 ++ dktX2_gives_7
def dkwX2_gives_5 : List UInt8 := [180, 0, 87, 5, 46, 96, 42, 180, 0, 87, 6, 46, 96, 42, 180, 0, 87, 7, 46, 96, 158, 0, 7, 4]
abbrev dktX2_gives_5 : List UInt8 := dkwX2_gives_5 ++ dktX2_gives_6
def dkwX2_gives_4 : List UInt8 := [42, 3, 181, 0, 220, 42, 3, 181, 0, 223, 42, 180, 0, 87, 3, 46, 42, 180, 0, 87, 4, 46, 96, 42]
abbrev dktX2_gives_4 : List UInt8 := dkwX2_gives_4 ++ dktX2_gives_5
def dkwX2_gives_3 : List UInt8 := [180, 0, 81, 21, 4, 46, 104, 29, 96, 46, 96, 79, 132, 4, 1, 167, 255, 204, 132, 3, 1, 167, 255, 167]
abbrev dktX2_gives_3 : List UInt8 := dkwX2_gives_3 ++ dktX2_gives_4
def dkwX2_gives_2 : List UInt8 := [29, 92, 46, 27, 153, 0, 13, 42, 21, 4, 29, 182, 0, 214, 167, 0, 20, 42, 180, 0, 72, 16, 6, 42]
abbrev dktX2_gives_2 : List UInt8 := dkwX2_gives_2 ++ dktX2_gives_3
def dkwX2_gives_1 : List UInt8 := [42, 180, 0, 45, 29, 46, 96, 61, 3, 54, 4, 21, 4, 42, 180, 0, 178, 162, 0, 49, 42, 180, 0, 87]
abbrev dktX2_gives_1 : List UInt8 := dkwX2_gives_1 ++ dktX2_gives_2
def dkwX2_gives_0 : List UInt8 := [3, 61, 3, 62, 29, 8, 162, 0, 90, 42, 180, 0, 87, 29, 3, 79, 42, 180, 0, 90, 29, 3, 79, 28]
abbrev dktX2_gives_0 : List UInt8 := dkwX2_gives_0 ++ dktX2_gives_1
theorem dksX2_gives_0 : cX2_gives.data.toList.drop 0 = dktX2_gives_0 := by decide +kernel
theorem dksX2_gives_1 : cX2_gives.data.toList.drop 24 = dktX2_gives_1 := dk_seg dksX2_gives_0 24 rfl rfl
theorem dksX2_gives_2 : cX2_gives.data.toList.drop 48 = dktX2_gives_2 := dk_seg dksX2_gives_1 24 rfl rfl
theorem dksX2_gives_3 : cX2_gives.data.toList.drop 72 = dktX2_gives_3 := dk_seg dksX2_gives_2 24 rfl rfl
theorem dksX2_gives_4 : cX2_gives.data.toList.drop 96 = dktX2_gives_4 := dk_seg dksX2_gives_3 24 rfl rfl
theorem dksX2_gives_5 : cX2_gives.data.toList.drop 120 = dktX2_gives_5 := dk_seg dksX2_gives_4 24 rfl rfl
theorem dksX2_gives_6 : cX2_gives.data.toList.drop 144 = dktX2_gives_6 := dk_seg dksX2_gives_5 24 rfl rfl
theorem dksX2_gives_7 : cX2_gives.data.toList.drop 168 = dktX2_gives_7 := dk_seg dksX2_gives_6 24 rfl rfl
theorem dksX2_gives_8 : cX2_gives.data.toList.drop 191 = dktX2_gives_8 := dk_seg dksX2_gives_7 23 rfl rfl
theorem dksX2_gives_9 : cX2_gives.data.toList.drop 214 = dktX2_gives_9 := dk_seg dksX2_gives_8 23 rfl rfl
theorem dksX2_gives_10 : cX2_gives.data.toList.drop 236 = dktX2_gives_10 := dk_seg dksX2_gives_9 22 rfl rfl
theorem dksX2_gives_11 : cX2_gives.data.toList.drop 260 = dktX2_gives_11 := dk_seg dksX2_gives_10 24 rfl rfl
theorem dksX2_gives_12 : cX2_gives.data.toList.drop 284 = dktX2_gives_12 := dk_seg dksX2_gives_11 24 rfl rfl
theorem dksX2_gives_13 : cX2_gives.data.toList.drop 307 = dktX2_gives_13 := dk_seg dksX2_gives_12 23 rfl rfl
theorem dksX2_gives_14 : cX2_gives.data.toList.drop 331 = dktX2_gives_14 := dk_seg dksX2_gives_13 24 rfl rfl
theorem dksX2_gives_15 : cX2_gives.data.toList.drop 355 = dktX2_gives_15 := dk_seg dksX2_gives_14 24 rfl rfl
theorem dX2_gives_0 : decode cX2_gives 0 = .ok (.iconst 0, 1) := dk_3 (dk_at dksX2_gives_0 0 rfl rfl)
theorem dX2_gives_1 : decode cX2_gives 1 = .ok (.istore_n 2, 1) := dk_61 (dk_at dksX2_gives_0 1 rfl rfl)
theorem dX2_gives_2 : decode cX2_gives 2 = .ok (.iconst 0, 1) := dk_3 (dk_at dksX2_gives_0 2 rfl rfl)
theorem dX2_gives_3 : decode cX2_gives 3 = .ok (.istore_n 3, 1) := dk_62 (dk_at dksX2_gives_0 3 rfl rfl)
theorem dX2_gives_4 : decode cX2_gives 4 = .ok (.iload_n 3, 1) := dk_29 (dk_at dksX2_gives_0 4 rfl rfl)
theorem dX2_gives_5 : decode cX2_gives 5 = .ok (.iconst 5, 1) := dk_8 (dk_at dksX2_gives_0 5 rfl rfl)
theorem dX2_gives_6 : decode cX2_gives 6 = .ok (.if_icmp .ge 90, 3) := dk_162 0 90 (dk_at dksX2_gives_0 6 rfl rfl)
theorem dX2_gives_9 : decode cX2_gives 9 = .ok (.aload_n 0, 1) := dk_42 (dk_at dksX2_gives_0 9 rfl rfl)
theorem dX2_gives_10 : decode cX2_gives 10 = .ok (.getfield 87, 3) := dk_180 0 87 (dk_at dksX2_gives_0 10 rfl rfl)
theorem dX2_gives_13 : decode cX2_gives 13 = .ok (.iload_n 3, 1) := dk_29 (dk_at dksX2_gives_0 13 rfl rfl)
theorem dX2_gives_14 : decode cX2_gives 14 = .ok (.iconst 0, 1) := dk_3 (dk_at dksX2_gives_0 14 rfl rfl)
theorem dX2_gives_15 : decode cX2_gives 15 = .ok (.iastore, 1) := dk_79 (dk_at dksX2_gives_0 15 rfl rfl)
theorem dX2_gives_16 : decode cX2_gives 16 = .ok (.aload_n 0, 1) := dk_42 (dk_at dksX2_gives_0 16 rfl rfl)
theorem dX2_gives_17 : decode cX2_gives 17 = .ok (.getfield 90, 3) := dk_180 0 90 (dk_at dksX2_gives_0 17 rfl rfl)
theorem dX2_gives_20 : decode cX2_gives 20 = .ok (.iload_n 3, 1) := dk_29 (dk_at dksX2_gives_0 20 rfl rfl)
theorem dX2_gives_21 : decode cX2_gives 21 = .ok (.iconst 0, 1) := dk_3 (dk_at dksX2_gives_0 21 rfl rfl)
theorem dX2_gives_22 : decode cX2_gives 22 = .ok (.iastore, 1) := dk_79 (dk_at dksX2_gives_0 22 rfl rfl)
theorem dX2_gives_23 : decode cX2_gives 23 = .ok (.iload_n 2, 1) := dk_28 (dk_at dksX2_gives_0 23 rfl rfl)
theorem dX2_gives_24 : decode cX2_gives 24 = .ok (.aload_n 0, 1) := dk_42 (dk_at dksX2_gives_1 0 rfl rfl)
theorem dX2_gives_25 : decode cX2_gives 25 = .ok (.getfield 45, 3) := dk_180 0 45 (dk_at dksX2_gives_1 1 rfl rfl)
theorem dX2_gives_28 : decode cX2_gives 28 = .ok (.iload_n 3, 1) := dk_29 (dk_at dksX2_gives_1 4 rfl rfl)
theorem dX2_gives_29 : decode cX2_gives 29 = .ok (.iaload, 1) := dk_46 (dk_at dksX2_gives_1 5 rfl rfl)
theorem dX2_gives_30 : decode cX2_gives 30 = .ok (.iadd, 1) := dk_96 (dk_at dksX2_gives_1 6 rfl rfl)
theorem dX2_gives_31 : decode cX2_gives 31 = .ok (.istore_n 2, 1) := dk_61 (dk_at dksX2_gives_1 7 rfl rfl)
theorem dX2_gives_32 : decode cX2_gives 32 = .ok (.iconst 0, 1) := dk_3 (dk_at dksX2_gives_1 8 rfl rfl)
theorem dX2_gives_33 : decode cX2_gives 33 = .ok (.istore 4, 2) := dk_54 4 (dk_at dksX2_gives_1 9 rfl rfl)
theorem dX2_gives_35 : decode cX2_gives 35 = .ok (.iload 4, 2) := dk_21 4 (dk_at dksX2_gives_1 11 rfl rfl)
theorem dX2_gives_37 : decode cX2_gives 37 = .ok (.aload_n 0, 1) := dk_42 (dk_at dksX2_gives_1 13 rfl rfl)
theorem dX2_gives_38 : decode cX2_gives 38 = .ok (.getfield 178, 3) := dk_180 0 178 (dk_at dksX2_gives_1 14 rfl rfl)
theorem dX2_gives_41 : decode cX2_gives 41 = .ok (.if_icmp .ge 49, 3) := dk_162 0 49 (dk_at dksX2_gives_1 17 rfl rfl)
theorem dX2_gives_44 : decode cX2_gives 44 = .ok (.aload_n 0, 1) := dk_42 (dk_at dksX2_gives_1 20 rfl rfl)
theorem dX2_gives_45 : decode cX2_gives 45 = .ok (.getfield 87, 3) := dk_180 0 87 (dk_at dksX2_gives_1 21 rfl rfl)
theorem dX2_gives_48 : decode cX2_gives 48 = .ok (.iload_n 3, 1) := dk_29 (dk_at dksX2_gives_2 0 rfl rfl)
theorem dX2_gives_49 : decode cX2_gives 49 = .ok (.dup2, 1) := dk_92 (dk_at dksX2_gives_2 1 rfl rfl)
theorem dX2_gives_50 : decode cX2_gives 50 = .ok (.iaload, 1) := dk_46 (dk_at dksX2_gives_2 2 rfl rfl)
theorem dX2_gives_51 : decode cX2_gives 51 = .ok (.iload_n 1, 1) := dk_27 (dk_at dksX2_gives_2 3 rfl rfl)
theorem dX2_gives_52 : decode cX2_gives 52 = .ok (.ifCond .eq 13, 3) := dk_153 0 13 (dk_at dksX2_gives_2 4 rfl rfl)
theorem dX2_gives_55 : decode cX2_gives 55 = .ok (.aload_n 0, 1) := dk_42 (dk_at dksX2_gives_2 7 rfl rfl)
theorem dX2_gives_56 : decode cX2_gives 56 = .ok (.iload 4, 2) := dk_21 4 (dk_at dksX2_gives_2 8 rfl rfl)
theorem dX2_gives_58 : decode cX2_gives 58 = .ok (.iload_n 3, 1) := dk_29 (dk_at dksX2_gives_2 10 rfl rfl)
theorem dX2_gives_59 : decode cX2_gives 59 = .ok (.invokevirtual 214, 3) := dk_182 0 214 (dk_at dksX2_gives_2 11 rfl rfl)
theorem dX2_gives_62 : decode cX2_gives 62 = .ok (.goto 20, 3) := dk_167 0 20 (dk_at dksX2_gives_2 14 rfl rfl)
theorem dX2_gives_65 : decode cX2_gives 65 = .ok (.aload_n 0, 1) := dk_42 (dk_at dksX2_gives_2 17 rfl rfl)
theorem dX2_gives_66 : decode cX2_gives 66 = .ok (.getfield 72, 3) := dk_180 0 72 (dk_at dksX2_gives_2 18 rfl rfl)
theorem dX2_gives_69 : decode cX2_gives 69 = .ok (.bipush 6, 2) := dk_16 6 (dk_at dksX2_gives_2 21 rfl rfl)
theorem dX2_gives_71 : decode cX2_gives 71 = .ok (.aload_n 0, 1) := dk_42 (dk_at dksX2_gives_2 23 rfl rfl)
theorem dX2_gives_72 : decode cX2_gives 72 = .ok (.getfield 81, 3) := dk_180 0 81 (dk_at dksX2_gives_3 0 rfl rfl)
theorem dX2_gives_75 : decode cX2_gives 75 = .ok (.iload 4, 2) := dk_21 4 (dk_at dksX2_gives_3 3 rfl rfl)
theorem dX2_gives_77 : decode cX2_gives 77 = .ok (.iaload, 1) := dk_46 (dk_at dksX2_gives_3 5 rfl rfl)
theorem dX2_gives_78 : decode cX2_gives 78 = .ok (.imul, 1) := dk_104 (dk_at dksX2_gives_3 6 rfl rfl)
theorem dX2_gives_79 : decode cX2_gives 79 = .ok (.iload_n 3, 1) := dk_29 (dk_at dksX2_gives_3 7 rfl rfl)
theorem dX2_gives_80 : decode cX2_gives 80 = .ok (.iadd, 1) := dk_96 (dk_at dksX2_gives_3 8 rfl rfl)
theorem dX2_gives_81 : decode cX2_gives 81 = .ok (.iaload, 1) := dk_46 (dk_at dksX2_gives_3 9 rfl rfl)
theorem dX2_gives_82 : decode cX2_gives 82 = .ok (.iadd, 1) := dk_96 (dk_at dksX2_gives_3 10 rfl rfl)
theorem dX2_gives_83 : decode cX2_gives 83 = .ok (.iastore, 1) := dk_79 (dk_at dksX2_gives_3 11 rfl rfl)
theorem dX2_gives_84 : decode cX2_gives 84 = .ok (.iinc 4 1, 3) := dk_132 4 1 (dk_at dksX2_gives_3 12 rfl rfl)
theorem dX2_gives_87 : decode cX2_gives 87 = .ok (.goto (-52), 3) := dk_167 255 204 (dk_at dksX2_gives_3 15 rfl rfl)
theorem dX2_gives_90 : decode cX2_gives 90 = .ok (.iinc 3 1, 3) := dk_132 3 1 (dk_at dksX2_gives_3 18 rfl rfl)
theorem dX2_gives_93 : decode cX2_gives 93 = .ok (.goto (-89), 3) := dk_167 255 167 (dk_at dksX2_gives_3 21 rfl rfl)
theorem dX2_gives_96 : decode cX2_gives 96 = .ok (.aload_n 0, 1) := dk_42 (dk_at dksX2_gives_4 0 rfl rfl)
theorem dX2_gives_97 : decode cX2_gives 97 = .ok (.iconst 0, 1) := dk_3 (dk_at dksX2_gives_4 1 rfl rfl)
theorem dX2_gives_98 : decode cX2_gives 98 = .ok (.putfield 220, 3) := dk_181 0 220 (dk_at dksX2_gives_4 2 rfl rfl)
theorem dX2_gives_101 : decode cX2_gives 101 = .ok (.aload_n 0, 1) := dk_42 (dk_at dksX2_gives_4 5 rfl rfl)
theorem dX2_gives_102 : decode cX2_gives 102 = .ok (.iconst 0, 1) := dk_3 (dk_at dksX2_gives_4 6 rfl rfl)
theorem dX2_gives_103 : decode cX2_gives 103 = .ok (.putfield 223, 3) := dk_181 0 223 (dk_at dksX2_gives_4 7 rfl rfl)
theorem dX2_gives_106 : decode cX2_gives 106 = .ok (.aload_n 0, 1) := dk_42 (dk_at dksX2_gives_4 10 rfl rfl)
theorem dX2_gives_107 : decode cX2_gives 107 = .ok (.getfield 87, 3) := dk_180 0 87 (dk_at dksX2_gives_4 11 rfl rfl)
theorem dX2_gives_110 : decode cX2_gives 110 = .ok (.iconst 0, 1) := dk_3 (dk_at dksX2_gives_4 14 rfl rfl)
theorem dX2_gives_111 : decode cX2_gives 111 = .ok (.iaload, 1) := dk_46 (dk_at dksX2_gives_4 15 rfl rfl)
theorem dX2_gives_112 : decode cX2_gives 112 = .ok (.aload_n 0, 1) := dk_42 (dk_at dksX2_gives_4 16 rfl rfl)
theorem dX2_gives_113 : decode cX2_gives 113 = .ok (.getfield 87, 3) := dk_180 0 87 (dk_at dksX2_gives_4 17 rfl rfl)
theorem dX2_gives_116 : decode cX2_gives 116 = .ok (.iconst 1, 1) := dk_4 (dk_at dksX2_gives_4 20 rfl rfl)
theorem dX2_gives_117 : decode cX2_gives 117 = .ok (.iaload, 1) := dk_46 (dk_at dksX2_gives_4 21 rfl rfl)
theorem dX2_gives_118 : decode cX2_gives 118 = .ok (.iadd, 1) := dk_96 (dk_at dksX2_gives_4 22 rfl rfl)
theorem dX2_gives_119 : decode cX2_gives 119 = .ok (.aload_n 0, 1) := dk_42 (dk_at dksX2_gives_4 23 rfl rfl)
theorem dX2_gives_120 : decode cX2_gives 120 = .ok (.getfield 87, 3) := dk_180 0 87 (dk_at dksX2_gives_5 0 rfl rfl)
theorem dX2_gives_123 : decode cX2_gives 123 = .ok (.iconst 2, 1) := dk_5 (dk_at dksX2_gives_5 3 rfl rfl)
theorem dX2_gives_124 : decode cX2_gives 124 = .ok (.iaload, 1) := dk_46 (dk_at dksX2_gives_5 4 rfl rfl)
theorem dX2_gives_125 : decode cX2_gives 125 = .ok (.iadd, 1) := dk_96 (dk_at dksX2_gives_5 5 rfl rfl)
theorem dX2_gives_126 : decode cX2_gives 126 = .ok (.aload_n 0, 1) := dk_42 (dk_at dksX2_gives_5 6 rfl rfl)
theorem dX2_gives_127 : decode cX2_gives 127 = .ok (.getfield 87, 3) := dk_180 0 87 (dk_at dksX2_gives_5 7 rfl rfl)
theorem dX2_gives_130 : decode cX2_gives 130 = .ok (.iconst 3, 1) := dk_6 (dk_at dksX2_gives_5 10 rfl rfl)
theorem dX2_gives_131 : decode cX2_gives 131 = .ok (.iaload, 1) := dk_46 (dk_at dksX2_gives_5 11 rfl rfl)
theorem dX2_gives_132 : decode cX2_gives 132 = .ok (.iadd, 1) := dk_96 (dk_at dksX2_gives_5 12 rfl rfl)
theorem dX2_gives_133 : decode cX2_gives 133 = .ok (.aload_n 0, 1) := dk_42 (dk_at dksX2_gives_5 13 rfl rfl)
theorem dX2_gives_134 : decode cX2_gives 134 = .ok (.getfield 87, 3) := dk_180 0 87 (dk_at dksX2_gives_5 14 rfl rfl)
theorem dX2_gives_137 : decode cX2_gives 137 = .ok (.iconst 4, 1) := dk_7 (dk_at dksX2_gives_5 17 rfl rfl)
theorem dX2_gives_138 : decode cX2_gives 138 = .ok (.iaload, 1) := dk_46 (dk_at dksX2_gives_5 18 rfl rfl)
theorem dX2_gives_139 : decode cX2_gives 139 = .ok (.iadd, 1) := dk_96 (dk_at dksX2_gives_5 19 rfl rfl)
theorem dX2_gives_140 : decode cX2_gives 140 = .ok (.ifCond .le 7, 3) := dk_158 0 7 (dk_at dksX2_gives_5 20 rfl rfl)
theorem dX2_gives_143 : decode cX2_gives 143 = .ok (.iconst 1, 1) := dk_4 (dk_at dksX2_gives_5 23 rfl rfl)
theorem dX2_gives_144 : decode cX2_gives 144 = .ok (.goto 4, 3) := dk_167 0 4 (dk_at dksX2_gives_6 0 rfl rfl)
theorem dX2_gives_147 : decode cX2_gives 147 = .ok (.iconst 0, 1) := dk_3 (dk_at dksX2_gives_6 3 rfl rfl)
theorem dX2_gives_148 : decode cX2_gives 148 = .ok (.istore_n 3, 1) := dk_62 (dk_at dksX2_gives_6 4 rfl rfl)
theorem dX2_gives_149 : decode cX2_gives 149 = .ok (.iload_n 3, 1) := dk_29 (dk_at dksX2_gives_6 5 rfl rfl)
theorem dX2_gives_150 : decode cX2_gives 150 = .ok (.ifCond .eq 212, 3) := dk_153 0 212 (dk_at dksX2_gives_6 6 rfl rfl)
theorem dX2_gives_153 : decode cX2_gives 153 = .ok (.aload_n 0, 1) := dk_42 (dk_at dksX2_gives_6 9 rfl rfl)
theorem dX2_gives_154 : decode cX2_gives 154 = .ok (.getfield 220, 3) := dk_180 0 220 (dk_at dksX2_gives_6 10 rfl rfl)
theorem dX2_gives_157 : decode cX2_gives 157 = .ok (.aload_n 0, 1) := dk_42 (dk_at dksX2_gives_6 13 rfl rfl)
theorem dX2_gives_158 : decode cX2_gives 158 = .ok (.getfield 184, 3) := dk_180 0 184 (dk_at dksX2_gives_6 14 rfl rfl)
theorem dX2_gives_161 : decode cX2_gives 161 = .ok (.if_icmp .ge 201, 3) := dk_162 0 201 (dk_at dksX2_gives_6 17 rfl rfl)
theorem dX2_gives_164 : decode cX2_gives 164 = .ok (.iconst 0, 1) := dk_3 (dk_at dksX2_gives_6 20 rfl rfl)
theorem dX2_gives_165 : decode cX2_gives 165 = .ok (.istore 4, 2) := dk_54 4 (dk_at dksX2_gives_6 21 rfl rfl)
theorem dX2_gives_167 : decode cX2_gives 167 = .ok (.iconst 0, 1) := dk_3 (dk_at dksX2_gives_6 23 rfl rfl)
theorem dX2_gives_168 : decode cX2_gives 168 = .ok (.istore 5, 2) := dk_54 5 (dk_at dksX2_gives_7 0 rfl rfl)
theorem dX2_gives_170 : decode cX2_gives 170 = .ok (.iconst 0, 1) := dk_3 (dk_at dksX2_gives_7 2 rfl rfl)
theorem dX2_gives_171 : decode cX2_gives 171 = .ok (.istore 6, 2) := dk_54 6 (dk_at dksX2_gives_7 3 rfl rfl)
theorem dX2_gives_173 : decode cX2_gives 173 = .ok (.iload 6, 2) := dk_21 6 (dk_at dksX2_gives_7 5 rfl rfl)
theorem dX2_gives_175 : decode cX2_gives 175 = .ok (.iconst 5, 1) := dk_8 (dk_at dksX2_gives_7 7 rfl rfl)
theorem dX2_gives_176 : decode cX2_gives 176 = .ok (.if_icmp .ge 66, 3) := dk_162 0 66 (dk_at dksX2_gives_7 8 rfl rfl)
theorem dX2_gives_179 : decode cX2_gives 179 = .ok (.aload_n 0, 1) := dk_42 (dk_at dksX2_gives_7 11 rfl rfl)
theorem dX2_gives_180 : decode cX2_gives 180 = .ok (.iload 6, 2) := dk_21 6 (dk_at dksX2_gives_7 12 rfl rfl)
theorem dX2_gives_182 : decode cX2_gives 182 = .ok (.iload 4, 2) := dk_21 4 (dk_at dksX2_gives_7 14 rfl rfl)
theorem dX2_gives_184 : decode cX2_gives 184 = .ok (.invokevirtual 226, 3) := dk_182 0 226 (dk_at dksX2_gives_7 16 rfl rfl)
theorem dX2_gives_187 : decode cX2_gives 187 = .ok (.ifCond .le 7, 3) := dk_158 0 7 (dk_at dksX2_gives_7 19 rfl rfl)
theorem dX2_gives_190 : decode cX2_gives 190 = .ok (.iconst 1, 1) := dk_4 (dk_at dksX2_gives_7 22 rfl rfl)
theorem dX2_gives_191 : decode cX2_gives 191 = .ok (.goto 23, 3) := dk_167 0 23 (dk_at dksX2_gives_8 0 rfl rfl)
theorem dX2_gives_194 : decode cX2_gives 194 = .ok (.aload_n 0, 1) := dk_42 (dk_at dksX2_gives_8 3 rfl rfl)
theorem dX2_gives_195 : decode cX2_gives 195 = .ok (.iload 6, 2) := dk_21 6 (dk_at dksX2_gives_8 4 rfl rfl)
theorem dX2_gives_197 : decode cX2_gives 197 = .ok (.iload 4, 2) := dk_21 4 (dk_at dksX2_gives_8 6 rfl rfl)
theorem dX2_gives_199 : decode cX2_gives 199 = .ok (.invokevirtual 226, 3) := dk_182 0 226 (dk_at dksX2_gives_8 8 rfl rfl)
theorem dX2_gives_202 : decode cX2_gives 202 = .ok (.ifCond .ne 10, 3) := dk_154 0 10 (dk_at dksX2_gives_8 11 rfl rfl)
theorem dX2_gives_205 : decode cX2_gives 205 = .ok (.iload 5, 2) := dk_21 5 (dk_at dksX2_gives_8 14 rfl rfl)
theorem dX2_gives_207 : decode cX2_gives 207 = .ok (.iconst 1, 1) := dk_4 (dk_at dksX2_gives_8 16 rfl rfl)
theorem dX2_gives_208 : decode cX2_gives 208 = .ok (.iadd, 1) := dk_96 (dk_at dksX2_gives_8 17 rfl rfl)
theorem dX2_gives_209 : decode cX2_gives 209 = .ok (.goto 5, 3) := dk_167 0 5 (dk_at dksX2_gives_8 18 rfl rfl)
theorem dX2_gives_212 : decode cX2_gives 212 = .ok (.iload 5, 2) := dk_21 5 (dk_at dksX2_gives_8 21 rfl rfl)
theorem dX2_gives_214 : decode cX2_gives 214 = .ok (.istore 5, 2) := dk_54 5 (dk_at dksX2_gives_9 0 rfl rfl)
theorem dX2_gives_216 : decode cX2_gives 216 = .ok (.aload_n 0, 1) := dk_42 (dk_at dksX2_gives_9 2 rfl rfl)
theorem dX2_gives_217 : decode cX2_gives 217 = .ok (.iload 6, 2) := dk_21 6 (dk_at dksX2_gives_9 3 rfl rfl)
theorem dX2_gives_219 : decode cX2_gives 219 = .ok (.iload 4, 2) := dk_21 4 (dk_at dksX2_gives_9 5 rfl rfl)
theorem dX2_gives_221 : decode cX2_gives 221 = .ok (.invokevirtual 226, 3) := dk_182 0 226 (dk_at dksX2_gives_9 7 rfl rfl)
theorem dX2_gives_224 : decode cX2_gives 224 = .ok (.ifCond .le 8, 3) := dk_158 0 8 (dk_at dksX2_gives_9 10 rfl rfl)
theorem dX2_gives_227 : decode cX2_gives 227 = .ok (.iload 6, 2) := dk_21 6 (dk_at dksX2_gives_9 13 rfl rfl)
theorem dX2_gives_229 : decode cX2_gives 229 = .ok (.goto 5, 3) := dk_167 0 5 (dk_at dksX2_gives_9 15 rfl rfl)
theorem dX2_gives_232 : decode cX2_gives 232 = .ok (.iload 4, 2) := dk_21 4 (dk_at dksX2_gives_9 18 rfl rfl)
theorem dX2_gives_234 : decode cX2_gives 234 = .ok (.istore 4, 2) := dk_54 4 (dk_at dksX2_gives_9 20 rfl rfl)
theorem dX2_gives_236 : decode cX2_gives 236 = .ok (.iinc 6 1, 3) := dk_132 6 1 (dk_at dksX2_gives_10 0 rfl rfl)
theorem dX2_gives_239 : decode cX2_gives 239 = .ok (.goto (-66), 3) := dk_167 255 190 (dk_at dksX2_gives_10 3 rfl rfl)
theorem dX2_gives_242 : decode cX2_gives 242 = .ok (.iconst 0, 1) := dk_3 (dk_at dksX2_gives_10 6 rfl rfl)
theorem dX2_gives_243 : decode cX2_gives 243 = .ok (.istore 6, 2) := dk_54 6 (dk_at dksX2_gives_10 7 rfl rfl)
theorem dX2_gives_245 : decode cX2_gives 245 = .ok (.iload 5, 2) := dk_21 5 (dk_at dksX2_gives_10 9 rfl rfl)
theorem dX2_gives_247 : decode cX2_gives 247 = .ok (.iconst 1, 1) := dk_4 (dk_at dksX2_gives_10 11 rfl rfl)
theorem dX2_gives_248 : decode cX2_gives 248 = .ok (.if_icmp .le 32, 3) := dk_164 0 32 (dk_at dksX2_gives_10 12 rfl rfl)
theorem dX2_gives_251 : decode cX2_gives 251 = .ok (.iload_n 2, 1) := dk_28 (dk_at dksX2_gives_10 15 rfl rfl)
theorem dX2_gives_252 : decode cX2_gives 252 = .ok (.sipush 1103, 3) := dk_17 4 79 (dk_at dksX2_gives_10 16 rfl rfl)
theorem dX2_gives_255 : decode cX2_gives 255 = .ok (.imul, 1) := dk_104 (dk_at dksX2_gives_10 19 rfl rfl)
theorem dX2_gives_256 : decode cX2_gives 256 = .ok (.sipush 12345, 3) := dk_17 48 57 (dk_at dksX2_gives_10 20 rfl rfl)
theorem dX2_gives_259 : decode cX2_gives 259 = .ok (.iadd, 1) := dk_96 (dk_at dksX2_gives_10 23 rfl rfl)
theorem dX2_gives_260 : decode cX2_gives 260 = .ok (.ldc 229, 2) := dk_18 229 (dk_at dksX2_gives_11 0 rfl rfl)
theorem dX2_gives_262 : decode cX2_gives 262 = .ok (.irem, 1) := dk_112 (dk_at dksX2_gives_11 2 rfl rfl)
theorem dX2_gives_263 : decode cX2_gives 263 = .ok (.istore_n 2, 1) := dk_61 (dk_at dksX2_gives_11 3 rfl rfl)
theorem dX2_gives_264 : decode cX2_gives 264 = .ok (.iload_n 2, 1) := dk_28 (dk_at dksX2_gives_11 4 rfl rfl)
theorem dX2_gives_265 : decode cX2_gives 265 = .ok (.iload 5, 2) := dk_21 5 (dk_at dksX2_gives_11 5 rfl rfl)
theorem dX2_gives_267 : decode cX2_gives 267 = .ok (.irem, 1) := dk_112 (dk_at dksX2_gives_11 7 rfl rfl)
theorem dX2_gives_268 : decode cX2_gives 268 = .ok (.istore 6, 2) := dk_54 6 (dk_at dksX2_gives_11 8 rfl rfl)
theorem dX2_gives_270 : decode cX2_gives 270 = .ok (.aload_n 0, 1) := dk_42 (dk_at dksX2_gives_11 10 rfl rfl)
theorem dX2_gives_271 : decode cX2_gives 271 = .ok (.dup, 1) := dk_89 (dk_at dksX2_gives_11 11 rfl rfl)
theorem dX2_gives_272 : decode cX2_gives 272 = .ok (.getfield 223, 3) := dk_180 0 223 (dk_at dksX2_gives_11 12 rfl rfl)
theorem dX2_gives_275 : decode cX2_gives 275 = .ok (.iconst 1, 1) := dk_4 (dk_at dksX2_gives_11 15 rfl rfl)
theorem dX2_gives_276 : decode cX2_gives 276 = .ok (.iadd, 1) := dk_96 (dk_at dksX2_gives_11 16 rfl rfl)
theorem dX2_gives_277 : decode cX2_gives 277 = .ok (.putfield 223, 3) := dk_181 0 223 (dk_at dksX2_gives_11 17 rfl rfl)
theorem dX2_gives_280 : decode cX2_gives 280 = .ok (.iload 4, 2) := dk_21 4 (dk_at dksX2_gives_11 20 rfl rfl)
theorem dX2_gives_282 : decode cX2_gives 282 = .ok (.istore 7, 2) := dk_54 7 (dk_at dksX2_gives_11 22 rfl rfl)
theorem dX2_gives_284 : decode cX2_gives 284 = .ok (.iload 6, 2) := dk_21 6 (dk_at dksX2_gives_12 0 rfl rfl)
theorem dX2_gives_286 : decode cX2_gives 286 = .ok (.ifCond .gt 14, 3) := dk_157 0 14 (dk_at dksX2_gives_12 2 rfl rfl)
theorem dX2_gives_289 : decode cX2_gives 289 = .ok (.aload_n 0, 1) := dk_42 (dk_at dksX2_gives_12 5 rfl rfl)
theorem dX2_gives_290 : decode cX2_gives 290 = .ok (.iload 7, 2) := dk_21 7 (dk_at dksX2_gives_12 6 rfl rfl)
theorem dX2_gives_292 : decode cX2_gives 292 = .ok (.iload 4, 2) := dk_21 4 (dk_at dksX2_gives_12 8 rfl rfl)
theorem dX2_gives_294 : decode cX2_gives 294 = .ok (.invokevirtual 226, 3) := dk_182 0 226 (dk_at dksX2_gives_12 10 rfl rfl)
theorem dX2_gives_297 : decode cX2_gives 297 = .ok (.ifCond .eq 30, 3) := dk_153 0 30 (dk_at dksX2_gives_12 13 rfl rfl)
theorem dX2_gives_300 : decode cX2_gives 300 = .ok (.iload 6, 2) := dk_21 6 (dk_at dksX2_gives_12 16 rfl rfl)
theorem dX2_gives_302 : decode cX2_gives 302 = .ok (.aload_n 0, 1) := dk_42 (dk_at dksX2_gives_12 18 rfl rfl)
theorem dX2_gives_303 : decode cX2_gives 303 = .ok (.iload 7, 2) := dk_21 7 (dk_at dksX2_gives_12 19 rfl rfl)
theorem dX2_gives_305 : decode cX2_gives 305 = .ok (.iload 4, 2) := dk_21 4 (dk_at dksX2_gives_12 21 rfl rfl)
theorem dX2_gives_307 : decode cX2_gives 307 = .ok (.invokevirtual 226, 3) := dk_182 0 226 (dk_at dksX2_gives_13 0 rfl rfl)
theorem dX2_gives_310 : decode cX2_gives 310 = .ok (.ifCond .ne 7, 3) := dk_154 0 7 (dk_at dksX2_gives_13 3 rfl rfl)
theorem dX2_gives_313 : decode cX2_gives 313 = .ok (.iconst 1, 1) := dk_4 (dk_at dksX2_gives_13 6 rfl rfl)
theorem dX2_gives_314 : decode cX2_gives 314 = .ok (.goto 4, 3) := dk_167 0 4 (dk_at dksX2_gives_13 7 rfl rfl)
theorem dX2_gives_317 : decode cX2_gives 317 = .ok (.iconst 0, 1) := dk_3 (dk_at dksX2_gives_13 10 rfl rfl)
theorem dX2_gives_318 : decode cX2_gives 318 = .ok (.isub, 1) := dk_100 (dk_at dksX2_gives_13 11 rfl rfl)
theorem dX2_gives_319 : decode cX2_gives 319 = .ok (.istore 6, 2) := dk_54 6 (dk_at dksX2_gives_13 12 rfl rfl)
theorem dX2_gives_321 : decode cX2_gives 321 = .ok (.iinc 7 1, 3) := dk_132 7 1 (dk_at dksX2_gives_13 14 rfl rfl)
theorem dX2_gives_324 : decode cX2_gives 324 = .ok (.goto (-40), 3) := dk_167 255 216 (dk_at dksX2_gives_13 17 rfl rfl)
theorem dX2_gives_327 : decode cX2_gives 327 = .ok (.aload_n 0, 1) := dk_42 (dk_at dksX2_gives_13 20 rfl rfl)
theorem dX2_gives_328 : decode cX2_gives 328 = .ok (.getfield 90, 3) := dk_180 0 90 (dk_at dksX2_gives_13 21 rfl rfl)
theorem dX2_gives_331 : decode cX2_gives 331 = .ok (.iload 7, 2) := dk_21 7 (dk_at dksX2_gives_14 0 rfl rfl)
theorem dX2_gives_333 : decode cX2_gives 333 = .ok (.dup2, 1) := dk_92 (dk_at dksX2_gives_14 2 rfl rfl)
theorem dX2_gives_334 : decode cX2_gives 334 = .ok (.iaload, 1) := dk_46 (dk_at dksX2_gives_14 3 rfl rfl)
theorem dX2_gives_335 : decode cX2_gives 335 = .ok (.iconst 1, 1) := dk_4 (dk_at dksX2_gives_14 4 rfl rfl)
theorem dX2_gives_336 : decode cX2_gives 336 = .ok (.iadd, 1) := dk_96 (dk_at dksX2_gives_14 5 rfl rfl)
theorem dX2_gives_337 : decode cX2_gives 337 = .ok (.iastore, 1) := dk_79 (dk_at dksX2_gives_14 6 rfl rfl)
theorem dX2_gives_338 : decode cX2_gives 338 = .ok (.aload_n 0, 1) := dk_42 (dk_at dksX2_gives_14 7 rfl rfl)
theorem dX2_gives_339 : decode cX2_gives 339 = .ok (.getfield 93, 3) := dk_180 0 93 (dk_at dksX2_gives_14 8 rfl rfl)
theorem dX2_gives_342 : decode cX2_gives 342 = .ok (.aload_n 0, 1) := dk_42 (dk_at dksX2_gives_14 11 rfl rfl)
theorem dX2_gives_343 : decode cX2_gives 343 = .ok (.getfield 220, 3) := dk_180 0 220 (dk_at dksX2_gives_14 12 rfl rfl)
theorem dX2_gives_346 : decode cX2_gives 346 = .ok (.iload 7, 2) := dk_21 7 (dk_at dksX2_gives_14 15 rfl rfl)
theorem dX2_gives_348 : decode cX2_gives 348 = .ok (.iastore, 1) := dk_79 (dk_at dksX2_gives_14 17 rfl rfl)
theorem dX2_gives_349 : decode cX2_gives 349 = .ok (.aload_n 0, 1) := dk_42 (dk_at dksX2_gives_14 18 rfl rfl)
theorem dX2_gives_350 : decode cX2_gives 350 = .ok (.dup, 1) := dk_89 (dk_at dksX2_gives_14 19 rfl rfl)
theorem dX2_gives_351 : decode cX2_gives 351 = .ok (.getfield 220, 3) := dk_180 0 220 (dk_at dksX2_gives_14 20 rfl rfl)
theorem dX2_gives_354 : decode cX2_gives 354 = .ok (.iconst 1, 1) := dk_4 (dk_at dksX2_gives_14 23 rfl rfl)
theorem dX2_gives_355 : decode cX2_gives 355 = .ok (.iadd, 1) := dk_96 (dk_at dksX2_gives_15 0 rfl rfl)
theorem dX2_gives_356 : decode cX2_gives 356 = .ok (.putfield 220, 3) := dk_181 0 220 (dk_at dksX2_gives_15 1 rfl rfl)
theorem dX2_gives_359 : decode cX2_gives 359 = .ok (.goto (-210), 3) := dk_167 255 46 (dk_at dksX2_gives_15 4 rfl rfl)
theorem dX2_gives_362 : decode cX2_gives 362 = .ok (.return_, 1) := dk_177 (dk_at dksX2_gives_15 7 rfl rfl)
abbrev cX2_beyond : ByteArray := prog_14_method_56_code
def yX2_beyond : MethodName := ⟨RX2, "beyond", "(II)I"⟩
def dkwX2_beyond_1 : List UInt8 := [100, 172]
abbrev dktX2_beyond_1 : List UInt8 := dkwX2_beyond_1 ++ []
def dkwX2_beyond_0 : List UInt8 := [42, 180, 0, 87, 27, 46, 42, 28, 182, 0, 217, 104, 42, 180, 0, 87, 28, 46, 42, 27, 182, 0, 217, 104]
abbrev dktX2_beyond_0 : List UInt8 := dkwX2_beyond_0 ++ dktX2_beyond_1
theorem dksX2_beyond_0 : cX2_beyond.data.toList.drop 0 = dktX2_beyond_0 := by decide +kernel
theorem dksX2_beyond_1 : cX2_beyond.data.toList.drop 24 = dktX2_beyond_1 := dk_seg dksX2_beyond_0 24 rfl rfl
theorem dX2_beyond_0 : decode cX2_beyond 0 = .ok (.aload_n 0, 1) := dk_42 (dk_at dksX2_beyond_0 0 rfl rfl)
theorem dX2_beyond_1 : decode cX2_beyond 1 = .ok (.getfield 87, 3) := dk_180 0 87 (dk_at dksX2_beyond_0 1 rfl rfl)
theorem dX2_beyond_4 : decode cX2_beyond 4 = .ok (.iload_n 1, 1) := dk_27 (dk_at dksX2_beyond_0 4 rfl rfl)
theorem dX2_beyond_5 : decode cX2_beyond 5 = .ok (.iaload, 1) := dk_46 (dk_at dksX2_beyond_0 5 rfl rfl)
theorem dX2_beyond_6 : decode cX2_beyond 6 = .ok (.aload_n 0, 1) := dk_42 (dk_at dksX2_beyond_0 6 rfl rfl)
theorem dX2_beyond_7 : decode cX2_beyond 7 = .ok (.iload_n 2, 1) := dk_28 (dk_at dksX2_beyond_0 7 rfl rfl)
theorem dX2_beyond_8 : decode cX2_beyond 8 = .ok (.invokevirtual 217, 3) := dk_182 0 217 (dk_at dksX2_beyond_0 8 rfl rfl)
theorem dX2_beyond_11 : decode cX2_beyond 11 = .ok (.imul, 1) := dk_104 (dk_at dksX2_beyond_0 11 rfl rfl)
theorem dX2_beyond_12 : decode cX2_beyond 12 = .ok (.aload_n 0, 1) := dk_42 (dk_at dksX2_beyond_0 12 rfl rfl)
theorem dX2_beyond_13 : decode cX2_beyond 13 = .ok (.getfield 87, 3) := dk_180 0 87 (dk_at dksX2_beyond_0 13 rfl rfl)
theorem dX2_beyond_16 : decode cX2_beyond 16 = .ok (.iload_n 2, 1) := dk_28 (dk_at dksX2_beyond_0 16 rfl rfl)
theorem dX2_beyond_17 : decode cX2_beyond 17 = .ok (.iaload, 1) := dk_46 (dk_at dksX2_beyond_0 17 rfl rfl)
theorem dX2_beyond_18 : decode cX2_beyond 18 = .ok (.aload_n 0, 1) := dk_42 (dk_at dksX2_beyond_0 18 rfl rfl)
theorem dX2_beyond_19 : decode cX2_beyond 19 = .ok (.iload_n 1, 1) := dk_27 (dk_at dksX2_beyond_0 19 rfl rfl)
theorem dX2_beyond_20 : decode cX2_beyond 20 = .ok (.invokevirtual 217, 3) := dk_182 0 217 (dk_at dksX2_beyond_0 20 rfl rfl)
theorem dX2_beyond_23 : decode cX2_beyond 23 = .ok (.imul, 1) := dk_104 (dk_at dksX2_beyond_0 23 rfl rfl)
theorem dX2_beyond_24 : decode cX2_beyond 24 = .ok (.isub, 1) := dk_100 (dk_at dksX2_beyond_1 0 rfl rfl)
theorem dX2_beyond_25 : decode cX2_beyond 25 = .ok (.ireturn, 1) := dk_172 (dk_at dksX2_beyond_1 1 rfl rfl)
abbrev cX2_divisor : ByteArray := prog_14_method_55_code
def yX2_divisor : MethodName := ⟨RX2, "divisor", "(I)I"⟩
def dkwX2_divisor_1 : List UInt8 := [27, 46, 4, 96, 172]
abbrev dktX2_divisor_1 : List UInt8 := dkwX2_divisor_1 ++ []
def dkwX2_divisor_0 : List UInt8 := [42, 180, 0, 187, 153, 0, 16, 5, 42, 180, 0, 90, 27, 46, 104, 4, 96, 167, 0, 11, 42, 180, 0, 90]
abbrev dktX2_divisor_0 : List UInt8 := dkwX2_divisor_0 ++ dktX2_divisor_1
theorem dksX2_divisor_0 : cX2_divisor.data.toList.drop 0 = dktX2_divisor_0 := by decide +kernel
theorem dksX2_divisor_1 : cX2_divisor.data.toList.drop 24 = dktX2_divisor_1 := dk_seg dksX2_divisor_0 24 rfl rfl
theorem dX2_divisor_0 : decode cX2_divisor 0 = .ok (.aload_n 0, 1) := dk_42 (dk_at dksX2_divisor_0 0 rfl rfl)
theorem dX2_divisor_1 : decode cX2_divisor 1 = .ok (.getfield 187, 3) := dk_180 0 187 (dk_at dksX2_divisor_0 1 rfl rfl)
theorem dX2_divisor_4 : decode cX2_divisor 4 = .ok (.ifCond .eq 16, 3) := dk_153 0 16 (dk_at dksX2_divisor_0 4 rfl rfl)
theorem dX2_divisor_7 : decode cX2_divisor 7 = .ok (.iconst 2, 1) := dk_5 (dk_at dksX2_divisor_0 7 rfl rfl)
theorem dX2_divisor_8 : decode cX2_divisor 8 = .ok (.aload_n 0, 1) := dk_42 (dk_at dksX2_divisor_0 8 rfl rfl)
theorem dX2_divisor_9 : decode cX2_divisor 9 = .ok (.getfield 90, 3) := dk_180 0 90 (dk_at dksX2_divisor_0 9 rfl rfl)
theorem dX2_divisor_12 : decode cX2_divisor 12 = .ok (.iload_n 1, 1) := dk_27 (dk_at dksX2_divisor_0 12 rfl rfl)
theorem dX2_divisor_13 : decode cX2_divisor 13 = .ok (.iaload, 1) := dk_46 (dk_at dksX2_divisor_0 13 rfl rfl)
theorem dX2_divisor_14 : decode cX2_divisor 14 = .ok (.imul, 1) := dk_104 (dk_at dksX2_divisor_0 14 rfl rfl)
theorem dX2_divisor_15 : decode cX2_divisor 15 = .ok (.iconst 1, 1) := dk_4 (dk_at dksX2_divisor_0 15 rfl rfl)
theorem dX2_divisor_16 : decode cX2_divisor 16 = .ok (.iadd, 1) := dk_96 (dk_at dksX2_divisor_0 16 rfl rfl)
theorem dX2_divisor_17 : decode cX2_divisor 17 = .ok (.goto 11, 3) := dk_167 0 11 (dk_at dksX2_divisor_0 17 rfl rfl)
theorem dX2_divisor_20 : decode cX2_divisor 20 = .ok (.aload_n 0, 1) := dk_42 (dk_at dksX2_divisor_0 20 rfl rfl)
theorem dX2_divisor_21 : decode cX2_divisor 21 = .ok (.getfield 90, 3) := dk_180 0 90 (dk_at dksX2_divisor_0 21 rfl rfl)
theorem dX2_divisor_24 : decode cX2_divisor 24 = .ok (.iload_n 1, 1) := dk_27 (dk_at dksX2_divisor_1 0 rfl rfl)
theorem dX2_divisor_25 : decode cX2_divisor 25 = .ok (.iaload, 1) := dk_46 (dk_at dksX2_divisor_1 1 rfl rfl)
theorem dX2_divisor_26 : decode cX2_divisor 26 = .ok (.iconst 1, 1) := dk_4 (dk_at dksX2_divisor_1 2 rfl rfl)
theorem dX2_divisor_27 : decode cX2_divisor 27 = .ok (.iadd, 1) := dk_96 (dk_at dksX2_divisor_1 3 rfl rfl)
theorem dX2_divisor_28 : decode cX2_divisor 28 = .ok (.ireturn, 1) := dk_172 (dk_at dksX2_divisor_1 4 rfl rfl)
abbrev cX2_seats : ByteArray := prog_14_method_61_code
def yX2_seats : MethodName := ⟨RX2, "seats", "(I)I"⟩
def dkwX2_seats_1 : List UInt8 := [27, 46, 167, 0, 4, 2, 172]
abbrev dktX2_seats_1 : List UInt8 := dkwX2_seats_1 ++ []
def dkwX2_seats_0 : List UInt8 := [42, 27, 184, 0, 234, 182, 0, 133, 154, 0, 5, 3, 172, 42, 182, 0, 237, 153, 0, 12, 42, 180, 0, 90]
abbrev dktX2_seats_0 : List UInt8 := dkwX2_seats_0 ++ dktX2_seats_1
theorem dksX2_seats_0 : cX2_seats.data.toList.drop 0 = dktX2_seats_0 := by decide +kernel
theorem dksX2_seats_1 : cX2_seats.data.toList.drop 24 = dktX2_seats_1 := dk_seg dksX2_seats_0 24 rfl rfl
theorem dX2_seats_0 : decode cX2_seats 0 = .ok (.aload_n 0, 1) := dk_42 (dk_at dksX2_seats_0 0 rfl rfl)
theorem dX2_seats_1 : decode cX2_seats 1 = .ok (.iload_n 1, 1) := dk_27 (dk_at dksX2_seats_0 1 rfl rfl)
theorem dX2_seats_2 : decode cX2_seats 2 = .ok (.invokestatic 234, 3) := dk_184 0 234 (dk_at dksX2_seats_0 2 rfl rfl)
theorem dX2_seats_5 : decode cX2_seats 5 = .ok (.invokevirtual 133, 3) := dk_182 0 133 (dk_at dksX2_seats_0 5 rfl rfl)
theorem dX2_seats_8 : decode cX2_seats 8 = .ok (.ifCond .ne 5, 3) := dk_154 0 5 (dk_at dksX2_seats_0 8 rfl rfl)
theorem dX2_seats_11 : decode cX2_seats 11 = .ok (.iconst 0, 1) := dk_3 (dk_at dksX2_seats_0 11 rfl rfl)
theorem dX2_seats_12 : decode cX2_seats 12 = .ok (.ireturn, 1) := dk_172 (dk_at dksX2_seats_0 12 rfl rfl)
theorem dX2_seats_13 : decode cX2_seats 13 = .ok (.aload_n 0, 1) := dk_42 (dk_at dksX2_seats_0 13 rfl rfl)
theorem dX2_seats_14 : decode cX2_seats 14 = .ok (.invokevirtual 237, 3) := dk_182 0 237 (dk_at dksX2_seats_0 14 rfl rfl)
theorem dX2_seats_17 : decode cX2_seats 17 = .ok (.ifCond .eq 12, 3) := dk_153 0 12 (dk_at dksX2_seats_0 17 rfl rfl)
theorem dX2_seats_20 : decode cX2_seats 20 = .ok (.aload_n 0, 1) := dk_42 (dk_at dksX2_seats_0 20 rfl rfl)
theorem dX2_seats_21 : decode cX2_seats 21 = .ok (.getfield 90, 3) := dk_180 0 90 (dk_at dksX2_seats_0 21 rfl rfl)
theorem dX2_seats_24 : decode cX2_seats 24 = .ok (.iload_n 1, 1) := dk_27 (dk_at dksX2_seats_1 0 rfl rfl)
theorem dX2_seats_25 : decode cX2_seats 25 = .ok (.iaload, 1) := dk_46 (dk_at dksX2_seats_1 1 rfl rfl)
theorem dX2_seats_26 : decode cX2_seats 26 = .ok (.goto 4, 3) := dk_167 0 4 (dk_at dksX2_seats_1 2 rfl rfl)
theorem dX2_seats_29 : decode cX2_seats 29 = .ok (.iconst (-1), 1) := dk_2 (dk_at dksX2_seats_1 5 rfl rfl)
theorem dX2_seats_30 : decode cX2_seats 30 = .ok (.ireturn, 1) := dk_172 (dk_at dksX2_seats_1 6 rfl rfl)
abbrev cX2_seatAt : ByteArray := prog_14_method_62_code
def yX2_seatAt : MethodName := ⟨RX2, "seatAt", "(I)I"⟩
def dkwX2_seatAt_1 : List UInt8 := [153, 0, 20, 27, 42, 180, 0, 220, 162, 0, 12, 42, 180, 0, 93, 27, 46, 167, 0, 4, 2, 172]
abbrev dktX2_seatAt_1 : List UInt8 := dkwX2_seatAt_1 ++ []
def dkwX2_seatAt_0 : List UInt8 := [42, 27, 155, 0, 7, 4, 167, 0, 4, 3, 182, 0, 133, 154, 0, 5, 3, 172, 42, 182, 0, 237]
abbrev dktX2_seatAt_0 : List UInt8 := dkwX2_seatAt_0 ++ dktX2_seatAt_1
theorem dksX2_seatAt_0 : cX2_seatAt.data.toList.drop 0 = dktX2_seatAt_0 := by decide +kernel
theorem dksX2_seatAt_1 : cX2_seatAt.data.toList.drop 22 = dktX2_seatAt_1 := dk_seg dksX2_seatAt_0 22 rfl rfl
theorem dX2_seatAt_0 : decode cX2_seatAt 0 = .ok (.aload_n 0, 1) := dk_42 (dk_at dksX2_seatAt_0 0 rfl rfl)
theorem dX2_seatAt_1 : decode cX2_seatAt 1 = .ok (.iload_n 1, 1) := dk_27 (dk_at dksX2_seatAt_0 1 rfl rfl)
theorem dX2_seatAt_2 : decode cX2_seatAt 2 = .ok (.ifCond .lt 7, 3) := dk_155 0 7 (dk_at dksX2_seatAt_0 2 rfl rfl)
theorem dX2_seatAt_5 : decode cX2_seatAt 5 = .ok (.iconst 1, 1) := dk_4 (dk_at dksX2_seatAt_0 5 rfl rfl)
theorem dX2_seatAt_6 : decode cX2_seatAt 6 = .ok (.goto 4, 3) := dk_167 0 4 (dk_at dksX2_seatAt_0 6 rfl rfl)
theorem dX2_seatAt_9 : decode cX2_seatAt 9 = .ok (.iconst 0, 1) := dk_3 (dk_at dksX2_seatAt_0 9 rfl rfl)
theorem dX2_seatAt_10 : decode cX2_seatAt 10 = .ok (.invokevirtual 133, 3) := dk_182 0 133 (dk_at dksX2_seatAt_0 10 rfl rfl)
theorem dX2_seatAt_13 : decode cX2_seatAt 13 = .ok (.ifCond .ne 5, 3) := dk_154 0 5 (dk_at dksX2_seatAt_0 13 rfl rfl)
theorem dX2_seatAt_16 : decode cX2_seatAt 16 = .ok (.iconst 0, 1) := dk_3 (dk_at dksX2_seatAt_0 16 rfl rfl)
theorem dX2_seatAt_17 : decode cX2_seatAt 17 = .ok (.ireturn, 1) := dk_172 (dk_at dksX2_seatAt_0 17 rfl rfl)
theorem dX2_seatAt_18 : decode cX2_seatAt 18 = .ok (.aload_n 0, 1) := dk_42 (dk_at dksX2_seatAt_0 18 rfl rfl)
theorem dX2_seatAt_19 : decode cX2_seatAt 19 = .ok (.invokevirtual 237, 3) := dk_182 0 237 (dk_at dksX2_seatAt_0 19 rfl rfl)
theorem dX2_seatAt_22 : decode cX2_seatAt 22 = .ok (.ifCond .eq 20, 3) := dk_153 0 20 (dk_at dksX2_seatAt_1 0 rfl rfl)
theorem dX2_seatAt_25 : decode cX2_seatAt 25 = .ok (.iload_n 1, 1) := dk_27 (dk_at dksX2_seatAt_1 3 rfl rfl)
theorem dX2_seatAt_26 : decode cX2_seatAt 26 = .ok (.aload_n 0, 1) := dk_42 (dk_at dksX2_seatAt_1 4 rfl rfl)
theorem dX2_seatAt_27 : decode cX2_seatAt 27 = .ok (.getfield 220, 3) := dk_180 0 220 (dk_at dksX2_seatAt_1 5 rfl rfl)
theorem dX2_seatAt_30 : decode cX2_seatAt 30 = .ok (.if_icmp .ge 12, 3) := dk_162 0 12 (dk_at dksX2_seatAt_1 8 rfl rfl)
theorem dX2_seatAt_33 : decode cX2_seatAt 33 = .ok (.aload_n 0, 1) := dk_42 (dk_at dksX2_seatAt_1 11 rfl rfl)
theorem dX2_seatAt_34 : decode cX2_seatAt 34 = .ok (.getfield 93, 3) := dk_180 0 93 (dk_at dksX2_seatAt_1 12 rfl rfl)
theorem dX2_seatAt_37 : decode cX2_seatAt 37 = .ok (.iload_n 1, 1) := dk_27 (dk_at dksX2_seatAt_1 15 rfl rfl)
theorem dX2_seatAt_38 : decode cX2_seatAt 38 = .ok (.iaload, 1) := dk_46 (dk_at dksX2_seatAt_1 16 rfl rfl)
theorem dX2_seatAt_39 : decode cX2_seatAt 39 = .ok (.goto 4, 3) := dk_167 0 4 (dk_at dksX2_seatAt_1 17 rfl rfl)
theorem dX2_seatAt_42 : decode cX2_seatAt 42 = .ok (.iconst (-1), 1) := dk_2 (dk_at dksX2_seatAt_1 20 rfl rfl)
theorem dX2_seatAt_43 : decode cX2_seatAt 43 = .ok (.ireturn, 1) := dk_172 (dk_at dksX2_seatAt_1 21 rfl rfl)
abbrev cX2_lots : ByteArray := prog_14_method_63_code
def yX2_lots : MethodName := ⟨RX2, "lots", "()I"⟩
def dkwX2_lots_0 : List UInt8 := [42, 3, 181, 0, 108, 42, 182, 0, 237, 153, 0, 10, 42, 180, 0, 223, 167, 0, 4, 2, 172]
abbrev dktX2_lots_0 : List UInt8 := dkwX2_lots_0 ++ []
theorem dksX2_lots_0 : cX2_lots.data.toList.drop 0 = dktX2_lots_0 := by decide +kernel
theorem dX2_lots_0 : decode cX2_lots 0 = .ok (.aload_n 0, 1) := dk_42 (dk_at dksX2_lots_0 0 rfl rfl)
theorem dX2_lots_1 : decode cX2_lots 1 = .ok (.iconst 0, 1) := dk_3 (dk_at dksX2_lots_0 1 rfl rfl)
theorem dX2_lots_2 : decode cX2_lots 2 = .ok (.putfield 108, 3) := dk_181 0 108 (dk_at dksX2_lots_0 2 rfl rfl)
theorem dX2_lots_5 : decode cX2_lots 5 = .ok (.aload_n 0, 1) := dk_42 (dk_at dksX2_lots_0 5 rfl rfl)
theorem dX2_lots_6 : decode cX2_lots 6 = .ok (.invokevirtual 237, 3) := dk_182 0 237 (dk_at dksX2_lots_0 6 rfl rfl)
theorem dX2_lots_9 : decode cX2_lots 9 = .ok (.ifCond .eq 10, 3) := dk_153 0 10 (dk_at dksX2_lots_0 9 rfl rfl)
theorem dX2_lots_12 : decode cX2_lots 12 = .ok (.aload_n 0, 1) := dk_42 (dk_at dksX2_lots_0 12 rfl rfl)
theorem dX2_lots_13 : decode cX2_lots 13 = .ok (.getfield 223, 3) := dk_180 0 223 (dk_at dksX2_lots_0 13 rfl rfl)
theorem dX2_lots_16 : decode cX2_lots 16 = .ok (.goto 4, 3) := dk_167 0 4 (dk_at dksX2_lots_0 16 rfl rfl)
theorem dX2_lots_19 : decode cX2_lots 19 = .ok (.iconst (-1), 1) := dk_2 (dk_at dksX2_lots_0 19 rfl rfl)
theorem dX2_lots_20 : decode cX2_lots 20 = .ok (.ireturn, 1) := dk_172 (dk_at dksX2_lots_0 20 rfl rfl)
abbrev cX2_seatsByBallots : ByteArray := prog_14_method_64_code
def yX2_seatsByBallots : MethodName := ⟨RX2, "seatsByBallots", "(I)I"⟩
def dkwX2_seatsByBallots_1 : List UInt8 := [4, 182, 0, 230, 42, 180, 0, 90, 27, 46, 172]
abbrev dktX2_seatsByBallots_1 : List UInt8 := dkwX2_seatsByBallots_1 ++ []
def dkwX2_seatsByBallots_0 : List UInt8 := [42, 27, 184, 0, 234, 182, 0, 133, 154, 0, 5, 3, 172, 42, 180, 0, 41, 7, 162, 0, 5, 2, 172, 42]
abbrev dktX2_seatsByBallots_0 : List UInt8 := dkwX2_seatsByBallots_0 ++ dktX2_seatsByBallots_1
theorem dksX2_seatsByBallots_0 : cX2_seatsByBallots.data.toList.drop 0 = dktX2_seatsByBallots_0 := by decide +kernel
theorem dksX2_seatsByBallots_1 : cX2_seatsByBallots.data.toList.drop 24 = dktX2_seatsByBallots_1 := dk_seg dksX2_seatsByBallots_0 24 rfl rfl
theorem dX2_seatsByBallots_0 : decode cX2_seatsByBallots 0 = .ok (.aload_n 0, 1) := dk_42 (dk_at dksX2_seatsByBallots_0 0 rfl rfl)
theorem dX2_seatsByBallots_1 : decode cX2_seatsByBallots 1 = .ok (.iload_n 1, 1) := dk_27 (dk_at dksX2_seatsByBallots_0 1 rfl rfl)
theorem dX2_seatsByBallots_2 : decode cX2_seatsByBallots 2 = .ok (.invokestatic 234, 3) := dk_184 0 234 (dk_at dksX2_seatsByBallots_0 2 rfl rfl)
theorem dX2_seatsByBallots_5 : decode cX2_seatsByBallots 5 = .ok (.invokevirtual 133, 3) := dk_182 0 133 (dk_at dksX2_seatsByBallots_0 5 rfl rfl)
theorem dX2_seatsByBallots_8 : decode cX2_seatsByBallots 8 = .ok (.ifCond .ne 5, 3) := dk_154 0 5 (dk_at dksX2_seatsByBallots_0 8 rfl rfl)
theorem dX2_seatsByBallots_11 : decode cX2_seatsByBallots 11 = .ok (.iconst 0, 1) := dk_3 (dk_at dksX2_seatsByBallots_0 11 rfl rfl)
theorem dX2_seatsByBallots_12 : decode cX2_seatsByBallots 12 = .ok (.ireturn, 1) := dk_172 (dk_at dksX2_seatsByBallots_0 12 rfl rfl)
theorem dX2_seatsByBallots_13 : decode cX2_seatsByBallots 13 = .ok (.aload_n 0, 1) := dk_42 (dk_at dksX2_seatsByBallots_0 13 rfl rfl)
theorem dX2_seatsByBallots_14 : decode cX2_seatsByBallots 14 = .ok (.getfield 41, 3) := dk_180 0 41 (dk_at dksX2_seatsByBallots_0 14 rfl rfl)
theorem dX2_seatsByBallots_17 : decode cX2_seatsByBallots 17 = .ok (.iconst 4, 1) := dk_7 (dk_at dksX2_seatsByBallots_0 17 rfl rfl)
theorem dX2_seatsByBallots_18 : decode cX2_seatsByBallots 18 = .ok (.if_icmp .ge 5, 3) := dk_162 0 5 (dk_at dksX2_seatsByBallots_0 18 rfl rfl)
theorem dX2_seatsByBallots_21 : decode cX2_seatsByBallots 21 = .ok (.iconst (-1), 1) := dk_2 (dk_at dksX2_seatsByBallots_0 21 rfl rfl)
theorem dX2_seatsByBallots_22 : decode cX2_seatsByBallots 22 = .ok (.ireturn, 1) := dk_172 (dk_at dksX2_seatsByBallots_0 22 rfl rfl)
theorem dX2_seatsByBallots_23 : decode cX2_seatsByBallots 23 = .ok (.aload_n 0, 1) := dk_42 (dk_at dksX2_seatsByBallots_0 23 rfl rfl)
theorem dX2_seatsByBallots_24 : decode cX2_seatsByBallots 24 = .ok (.iconst 1, 1) := dk_4 (dk_at dksX2_seatsByBallots_1 0 rfl rfl)
theorem dX2_seatsByBallots_25 : decode cX2_seatsByBallots 25 = .ok (.invokevirtual 230, 3) := dk_182 0 230 (dk_at dksX2_seatsByBallots_1 1 rfl rfl)
theorem dX2_seatsByBallots_28 : decode cX2_seatsByBallots 28 = .ok (.aload_n 0, 1) := dk_42 (dk_at dksX2_seatsByBallots_1 4 rfl rfl)
theorem dX2_seatsByBallots_29 : decode cX2_seatsByBallots 29 = .ok (.getfield 90, 3) := dk_180 0 90 (dk_at dksX2_seatsByBallots_1 5 rfl rfl)
theorem dX2_seatsByBallots_32 : decode cX2_seatsByBallots 32 = .ok (.iload_n 1, 1) := dk_27 (dk_at dksX2_seatsByBallots_1 8 rfl rfl)
theorem dX2_seatsByBallots_33 : decode cX2_seatsByBallots 33 = .ok (.iaload, 1) := dk_46 (dk_at dksX2_seatsByBallots_1 9 rfl rfl)
theorem dX2_seatsByBallots_34 : decode cX2_seatsByBallots 34 = .ok (.ireturn, 1) := dk_172 (dk_at dksX2_seatsByBallots_1 10 rfl rfl)
abbrev cX2_notes_2 : ByteArray := prog_14_method_65_code
def yX2_notes_2 : MethodName := ⟨RX2, "notes", "()I"⟩
def dkwX2_notes_2_0 : List UInt8 := [42, 42, 180, 0, 162, 182, 0, 204, 172]
abbrev dktX2_notes_2_0 : List UInt8 := dkwX2_notes_2_0 ++ []
theorem dksX2_notes_2_0 : cX2_notes_2.data.toList.drop 0 = dktX2_notes_2_0 := by decide +kernel
theorem dX2_notes_2_0 : decode cX2_notes_2 0 = .ok (.aload_n 0, 1) := dk_42 (dk_at dksX2_notes_2_0 0 rfl rfl)
theorem dX2_notes_2_1 : decode cX2_notes_2 1 = .ok (.aload_n 0, 1) := dk_42 (dk_at dksX2_notes_2_0 1 rfl rfl)
theorem dX2_notes_2_2 : decode cX2_notes_2 2 = .ok (.getfield 162, 3) := dk_180 0 162 (dk_at dksX2_notes_2_0 2 rfl rfl)
theorem dX2_notes_2_5 : decode cX2_notes_2 5 = .ok (.invokevirtual 204, 3) := dk_182 0 204 (dk_at dksX2_notes_2_0 5 rfl rfl)
theorem dX2_notes_2_8 : decode cX2_notes_2 8 = .ok (.ireturn, 1) := dk_172 (dk_at dksX2_notes_2_0 8 rfl rfl)
abbrev cX2_signAt : ByteArray := prog_14_method_68_code
def yX2_signAt : MethodName := ⟨RX2, "signAt", "(II)I"⟩
def dkwX2_signAt_4 : List UInt8 := [4, 100, 184, 0, 244, 167, 0, 4, 2, 172]
abbrev dktX2_signAt_4 : List UInt8 := dkwX2_signAt_4 ++ []
def dkwX2_signAt_3 : List UInt8 := [100, 4, 100, 42, 180, 0, 102, 27, 46, 184, 0, 241, 162, 0, 20, 42, 180, 0, 102, 27, 46, 28, 29, 100]
abbrev dktX2_signAt_3 : List UInt8 := dkwX2_signAt_3 ++ dktX2_signAt_4
def dkwX2_signAt_2 : List UInt8 := [180, 0, 96, 27, 46, 28, 184, 0, 244, 172, 28, 29, 160, 0, 10, 42, 180, 0, 99, 27, 46, 172, 28, 29]
abbrev dktX2_signAt_2 : List UInt8 := dkwX2_signAt_2 ++ dktX2_signAt_3
def dkwX2_signAt_1 : List UInt8 := [182, 0, 133, 154, 0, 5, 3, 172, 42, 180, 0, 96, 27, 46, 184, 0, 241, 62, 28, 29, 162, 0, 14, 42]
abbrev dktX2_signAt_1 : List UInt8 := dkwX2_signAt_1 ++ dktX2_signAt_2
def dkwX2_signAt_0 : List UInt8 := [42, 27, 3, 42, 180, 0, 162, 4, 100, 184, 0, 111, 153, 0, 11, 28, 155, 0, 7, 4, 167, 0, 4, 3]
abbrev dktX2_signAt_0 : List UInt8 := dkwX2_signAt_0 ++ dktX2_signAt_1
theorem dksX2_signAt_0 : cX2_signAt.data.toList.drop 0 = dktX2_signAt_0 := by decide +kernel
theorem dksX2_signAt_1 : cX2_signAt.data.toList.drop 24 = dktX2_signAt_1 := dk_seg dksX2_signAt_0 24 rfl rfl
theorem dksX2_signAt_2 : cX2_signAt.data.toList.drop 48 = dktX2_signAt_2 := dk_seg dksX2_signAt_1 24 rfl rfl
theorem dksX2_signAt_3 : cX2_signAt.data.toList.drop 72 = dktX2_signAt_3 := dk_seg dksX2_signAt_2 24 rfl rfl
theorem dksX2_signAt_4 : cX2_signAt.data.toList.drop 96 = dktX2_signAt_4 := dk_seg dksX2_signAt_3 24 rfl rfl
theorem dX2_signAt_0 : decode cX2_signAt 0 = .ok (.aload_n 0, 1) := dk_42 (dk_at dksX2_signAt_0 0 rfl rfl)
theorem dX2_signAt_1 : decode cX2_signAt 1 = .ok (.iload_n 1, 1) := dk_27 (dk_at dksX2_signAt_0 1 rfl rfl)
theorem dX2_signAt_2 : decode cX2_signAt 2 = .ok (.iconst 0, 1) := dk_3 (dk_at dksX2_signAt_0 2 rfl rfl)
theorem dX2_signAt_3 : decode cX2_signAt 3 = .ok (.aload_n 0, 1) := dk_42 (dk_at dksX2_signAt_0 3 rfl rfl)
theorem dX2_signAt_4 : decode cX2_signAt 4 = .ok (.getfield 162, 3) := dk_180 0 162 (dk_at dksX2_signAt_0 4 rfl rfl)
theorem dX2_signAt_7 : decode cX2_signAt 7 = .ok (.iconst 1, 1) := dk_4 (dk_at dksX2_signAt_0 7 rfl rfl)
theorem dX2_signAt_8 : decode cX2_signAt 8 = .ok (.isub, 1) := dk_100 (dk_at dksX2_signAt_0 8 rfl rfl)
theorem dX2_signAt_9 : decode cX2_signAt 9 = .ok (.invokestatic 111, 3) := dk_184 0 111 (dk_at dksX2_signAt_0 9 rfl rfl)
theorem dX2_signAt_12 : decode cX2_signAt 12 = .ok (.ifCond .eq 11, 3) := dk_153 0 11 (dk_at dksX2_signAt_0 12 rfl rfl)
theorem dX2_signAt_15 : decode cX2_signAt 15 = .ok (.iload_n 2, 1) := dk_28 (dk_at dksX2_signAt_0 15 rfl rfl)
theorem dX2_signAt_16 : decode cX2_signAt 16 = .ok (.ifCond .lt 7, 3) := dk_155 0 7 (dk_at dksX2_signAt_0 16 rfl rfl)
theorem dX2_signAt_19 : decode cX2_signAt 19 = .ok (.iconst 1, 1) := dk_4 (dk_at dksX2_signAt_0 19 rfl rfl)
theorem dX2_signAt_20 : decode cX2_signAt 20 = .ok (.goto 4, 3) := dk_167 0 4 (dk_at dksX2_signAt_0 20 rfl rfl)
theorem dX2_signAt_23 : decode cX2_signAt 23 = .ok (.iconst 0, 1) := dk_3 (dk_at dksX2_signAt_0 23 rfl rfl)
theorem dX2_signAt_24 : decode cX2_signAt 24 = .ok (.invokevirtual 133, 3) := dk_182 0 133 (dk_at dksX2_signAt_1 0 rfl rfl)
theorem dX2_signAt_27 : decode cX2_signAt 27 = .ok (.ifCond .ne 5, 3) := dk_154 0 5 (dk_at dksX2_signAt_1 3 rfl rfl)
theorem dX2_signAt_30 : decode cX2_signAt 30 = .ok (.iconst 0, 1) := dk_3 (dk_at dksX2_signAt_1 6 rfl rfl)
theorem dX2_signAt_31 : decode cX2_signAt 31 = .ok (.ireturn, 1) := dk_172 (dk_at dksX2_signAt_1 7 rfl rfl)
theorem dX2_signAt_32 : decode cX2_signAt 32 = .ok (.aload_n 0, 1) := dk_42 (dk_at dksX2_signAt_1 8 rfl rfl)
theorem dX2_signAt_33 : decode cX2_signAt 33 = .ok (.getfield 96, 3) := dk_180 0 96 (dk_at dksX2_signAt_1 9 rfl rfl)
theorem dX2_signAt_36 : decode cX2_signAt 36 = .ok (.iload_n 1, 1) := dk_27 (dk_at dksX2_signAt_1 12 rfl rfl)
theorem dX2_signAt_37 : decode cX2_signAt 37 = .ok (.iaload, 1) := dk_46 (dk_at dksX2_signAt_1 13 rfl rfl)
theorem dX2_signAt_38 : decode cX2_signAt 38 = .ok (.invokestatic 241, 3) := dk_184 0 241 (dk_at dksX2_signAt_1 14 rfl rfl)
theorem dX2_signAt_41 : decode cX2_signAt 41 = .ok (.istore_n 3, 1) := dk_62 (dk_at dksX2_signAt_1 17 rfl rfl)
theorem dX2_signAt_42 : decode cX2_signAt 42 = .ok (.iload_n 2, 1) := dk_28 (dk_at dksX2_signAt_1 18 rfl rfl)
theorem dX2_signAt_43 : decode cX2_signAt 43 = .ok (.iload_n 3, 1) := dk_29 (dk_at dksX2_signAt_1 19 rfl rfl)
theorem dX2_signAt_44 : decode cX2_signAt 44 = .ok (.if_icmp .ge 14, 3) := dk_162 0 14 (dk_at dksX2_signAt_1 20 rfl rfl)
theorem dX2_signAt_47 : decode cX2_signAt 47 = .ok (.aload_n 0, 1) := dk_42 (dk_at dksX2_signAt_1 23 rfl rfl)
theorem dX2_signAt_48 : decode cX2_signAt 48 = .ok (.getfield 96, 3) := dk_180 0 96 (dk_at dksX2_signAt_2 0 rfl rfl)
theorem dX2_signAt_51 : decode cX2_signAt 51 = .ok (.iload_n 1, 1) := dk_27 (dk_at dksX2_signAt_2 3 rfl rfl)
theorem dX2_signAt_52 : decode cX2_signAt 52 = .ok (.iaload, 1) := dk_46 (dk_at dksX2_signAt_2 4 rfl rfl)
theorem dX2_signAt_53 : decode cX2_signAt 53 = .ok (.iload_n 2, 1) := dk_28 (dk_at dksX2_signAt_2 5 rfl rfl)
theorem dX2_signAt_54 : decode cX2_signAt 54 = .ok (.invokestatic 244, 3) := dk_184 0 244 (dk_at dksX2_signAt_2 6 rfl rfl)
theorem dX2_signAt_57 : decode cX2_signAt 57 = .ok (.ireturn, 1) := dk_172 (dk_at dksX2_signAt_2 9 rfl rfl)
theorem dX2_signAt_58 : decode cX2_signAt 58 = .ok (.iload_n 2, 1) := dk_28 (dk_at dksX2_signAt_2 10 rfl rfl)
theorem dX2_signAt_59 : decode cX2_signAt 59 = .ok (.iload_n 3, 1) := dk_29 (dk_at dksX2_signAt_2 11 rfl rfl)
theorem dX2_signAt_60 : decode cX2_signAt 60 = .ok (.if_icmp .ne 10, 3) := dk_160 0 10 (dk_at dksX2_signAt_2 12 rfl rfl)
theorem dX2_signAt_63 : decode cX2_signAt 63 = .ok (.aload_n 0, 1) := dk_42 (dk_at dksX2_signAt_2 15 rfl rfl)
theorem dX2_signAt_64 : decode cX2_signAt 64 = .ok (.getfield 99, 3) := dk_180 0 99 (dk_at dksX2_signAt_2 16 rfl rfl)
theorem dX2_signAt_67 : decode cX2_signAt 67 = .ok (.iload_n 1, 1) := dk_27 (dk_at dksX2_signAt_2 19 rfl rfl)
theorem dX2_signAt_68 : decode cX2_signAt 68 = .ok (.iaload, 1) := dk_46 (dk_at dksX2_signAt_2 20 rfl rfl)
theorem dX2_signAt_69 : decode cX2_signAt 69 = .ok (.ireturn, 1) := dk_172 (dk_at dksX2_signAt_2 21 rfl rfl)
theorem dX2_signAt_70 : decode cX2_signAt 70 = .ok (.iload_n 2, 1) := dk_28 (dk_at dksX2_signAt_2 22 rfl rfl)
theorem dX2_signAt_71 : decode cX2_signAt 71 = .ok (.iload_n 3, 1) := dk_29 (dk_at dksX2_signAt_2 23 rfl rfl)
theorem dX2_signAt_72 : decode cX2_signAt 72 = .ok (.isub, 1) := dk_100 (dk_at dksX2_signAt_3 0 rfl rfl)
theorem dX2_signAt_73 : decode cX2_signAt 73 = .ok (.iconst 1, 1) := dk_4 (dk_at dksX2_signAt_3 1 rfl rfl)
theorem dX2_signAt_74 : decode cX2_signAt 74 = .ok (.isub, 1) := dk_100 (dk_at dksX2_signAt_3 2 rfl rfl)
theorem dX2_signAt_75 : decode cX2_signAt 75 = .ok (.aload_n 0, 1) := dk_42 (dk_at dksX2_signAt_3 3 rfl rfl)
theorem dX2_signAt_76 : decode cX2_signAt 76 = .ok (.getfield 102, 3) := dk_180 0 102 (dk_at dksX2_signAt_3 4 rfl rfl)
theorem dX2_signAt_79 : decode cX2_signAt 79 = .ok (.iload_n 1, 1) := dk_27 (dk_at dksX2_signAt_3 7 rfl rfl)
theorem dX2_signAt_80 : decode cX2_signAt 80 = .ok (.iaload, 1) := dk_46 (dk_at dksX2_signAt_3 8 rfl rfl)
theorem dX2_signAt_81 : decode cX2_signAt 81 = .ok (.invokestatic 241, 3) := dk_184 0 241 (dk_at dksX2_signAt_3 9 rfl rfl)
theorem dX2_signAt_84 : decode cX2_signAt 84 = .ok (.if_icmp .ge 20, 3) := dk_162 0 20 (dk_at dksX2_signAt_3 12 rfl rfl)
theorem dX2_signAt_87 : decode cX2_signAt 87 = .ok (.aload_n 0, 1) := dk_42 (dk_at dksX2_signAt_3 15 rfl rfl)
theorem dX2_signAt_88 : decode cX2_signAt 88 = .ok (.getfield 102, 3) := dk_180 0 102 (dk_at dksX2_signAt_3 16 rfl rfl)
theorem dX2_signAt_91 : decode cX2_signAt 91 = .ok (.iload_n 1, 1) := dk_27 (dk_at dksX2_signAt_3 19 rfl rfl)
theorem dX2_signAt_92 : decode cX2_signAt 92 = .ok (.iaload, 1) := dk_46 (dk_at dksX2_signAt_3 20 rfl rfl)
theorem dX2_signAt_93 : decode cX2_signAt 93 = .ok (.iload_n 2, 1) := dk_28 (dk_at dksX2_signAt_3 21 rfl rfl)
theorem dX2_signAt_94 : decode cX2_signAt 94 = .ok (.iload_n 3, 1) := dk_29 (dk_at dksX2_signAt_3 22 rfl rfl)
theorem dX2_signAt_95 : decode cX2_signAt 95 = .ok (.isub, 1) := dk_100 (dk_at dksX2_signAt_3 23 rfl rfl)
theorem dX2_signAt_96 : decode cX2_signAt 96 = .ok (.iconst 1, 1) := dk_4 (dk_at dksX2_signAt_4 0 rfl rfl)
theorem dX2_signAt_97 : decode cX2_signAt 97 = .ok (.isub, 1) := dk_100 (dk_at dksX2_signAt_4 1 rfl rfl)
theorem dX2_signAt_98 : decode cX2_signAt 98 = .ok (.invokestatic 244, 3) := dk_184 0 244 (dk_at dksX2_signAt_4 2 rfl rfl)
theorem dX2_signAt_101 : decode cX2_signAt 101 = .ok (.goto 4, 3) := dk_167 0 4 (dk_at dksX2_signAt_4 5 rfl rfl)
theorem dX2_signAt_104 : decode cX2_signAt 104 = .ok (.iconst (-1), 1) := dk_2 (dk_at dksX2_signAt_4 8 rfl rfl)
theorem dX2_signAt_105 : decode cX2_signAt 105 = .ok (.ireturn, 1) := dk_172 (dk_at dksX2_signAt_4 9 rfl rfl)
abbrev cX2_digits : ByteArray := prog_14_method_66_code
def yX2_digits : MethodName := ⟨RX2, "digits", "(I)I"⟩
def dkwX2_digits_0 : List UInt8 := [4, 60, 26, 16, 10, 108, 61, 28, 158, 0, 14, 132, 1, 1, 28, 16, 10, 108, 61, 167, 255, 244, 27, 172]
abbrev dktX2_digits_0 : List UInt8 := dkwX2_digits_0 ++ []
theorem dksX2_digits_0 : cX2_digits.data.toList.drop 0 = dktX2_digits_0 := by decide +kernel
theorem dX2_digits_0 : decode cX2_digits 0 = .ok (.iconst 1, 1) := dk_4 (dk_at dksX2_digits_0 0 rfl rfl)
theorem dX2_digits_1 : decode cX2_digits 1 = .ok (.istore_n 1, 1) := dk_60 (dk_at dksX2_digits_0 1 rfl rfl)
theorem dX2_digits_2 : decode cX2_digits 2 = .ok (.iload_n 0, 1) := dk_26 (dk_at dksX2_digits_0 2 rfl rfl)
theorem dX2_digits_3 : decode cX2_digits 3 = .ok (.bipush 10, 2) := dk_16 10 (dk_at dksX2_digits_0 3 rfl rfl)
theorem dX2_digits_5 : decode cX2_digits 5 = .ok (.idiv, 1) := dk_108 (dk_at dksX2_digits_0 5 rfl rfl)
theorem dX2_digits_6 : decode cX2_digits 6 = .ok (.istore_n 2, 1) := dk_61 (dk_at dksX2_digits_0 6 rfl rfl)
theorem dX2_digits_7 : decode cX2_digits 7 = .ok (.iload_n 2, 1) := dk_28 (dk_at dksX2_digits_0 7 rfl rfl)
theorem dX2_digits_8 : decode cX2_digits 8 = .ok (.ifCond .le 14, 3) := dk_158 0 14 (dk_at dksX2_digits_0 8 rfl rfl)
theorem dX2_digits_11 : decode cX2_digits 11 = .ok (.iinc 1 1, 3) := dk_132 1 1 (dk_at dksX2_digits_0 11 rfl rfl)
theorem dX2_digits_14 : decode cX2_digits 14 = .ok (.iload_n 2, 1) := dk_28 (dk_at dksX2_digits_0 14 rfl rfl)
theorem dX2_digits_15 : decode cX2_digits 15 = .ok (.bipush 10, 2) := dk_16 10 (dk_at dksX2_digits_0 15 rfl rfl)
theorem dX2_digits_17 : decode cX2_digits 17 = .ok (.idiv, 1) := dk_108 (dk_at dksX2_digits_0 17 rfl rfl)
theorem dX2_digits_18 : decode cX2_digits 18 = .ok (.istore_n 2, 1) := dk_61 (dk_at dksX2_digits_0 18 rfl rfl)
theorem dX2_digits_19 : decode cX2_digits 19 = .ok (.goto (-12), 3) := dk_167 255 244 (dk_at dksX2_digits_0 19 rfl rfl)
theorem dX2_digits_22 : decode cX2_digits 22 = .ok (.iload_n 1, 1) := dk_27 (dk_at dksX2_digits_0 22 rfl rfl)
theorem dX2_digits_23 : decode cX2_digits 23 = .ok (.ireturn, 1) := dk_172 (dk_at dksX2_digits_0 23 rfl rfl)
abbrev cX2_digitAt : ByteArray := prog_14_method_67_code
def yX2_digitAt : MethodName := ⟨RX2, "digitAt", "(II)I"⟩
def dkwX2_digitAt_1 : List UInt8 := [167, 255, 243, 16, 48, 28, 16, 10, 112, 96, 172]
abbrev dktX2_digitAt_1 : List UInt8 := dkwX2_digitAt_1 ++ []
def dkwX2_digitAt_0 : List UInt8 := [26, 61, 26, 184, 0, 241, 4, 100, 62, 29, 27, 164, 0, 14, 28, 16, 10, 108, 61, 132, 3, 255]
abbrev dktX2_digitAt_0 : List UInt8 := dkwX2_digitAt_0 ++ dktX2_digitAt_1
theorem dksX2_digitAt_0 : cX2_digitAt.data.toList.drop 0 = dktX2_digitAt_0 := by decide +kernel
theorem dksX2_digitAt_1 : cX2_digitAt.data.toList.drop 22 = dktX2_digitAt_1 := dk_seg dksX2_digitAt_0 22 rfl rfl
theorem dX2_digitAt_0 : decode cX2_digitAt 0 = .ok (.iload_n 0, 1) := dk_26 (dk_at dksX2_digitAt_0 0 rfl rfl)
theorem dX2_digitAt_1 : decode cX2_digitAt 1 = .ok (.istore_n 2, 1) := dk_61 (dk_at dksX2_digitAt_0 1 rfl rfl)
theorem dX2_digitAt_2 : decode cX2_digitAt 2 = .ok (.iload_n 0, 1) := dk_26 (dk_at dksX2_digitAt_0 2 rfl rfl)
theorem dX2_digitAt_3 : decode cX2_digitAt 3 = .ok (.invokestatic 241, 3) := dk_184 0 241 (dk_at dksX2_digitAt_0 3 rfl rfl)
theorem dX2_digitAt_6 : decode cX2_digitAt 6 = .ok (.iconst 1, 1) := dk_4 (dk_at dksX2_digitAt_0 6 rfl rfl)
theorem dX2_digitAt_7 : decode cX2_digitAt 7 = .ok (.isub, 1) := dk_100 (dk_at dksX2_digitAt_0 7 rfl rfl)
theorem dX2_digitAt_8 : decode cX2_digitAt 8 = .ok (.istore_n 3, 1) := dk_62 (dk_at dksX2_digitAt_0 8 rfl rfl)
theorem dX2_digitAt_9 : decode cX2_digitAt 9 = .ok (.iload_n 3, 1) := dk_29 (dk_at dksX2_digitAt_0 9 rfl rfl)
theorem dX2_digitAt_10 : decode cX2_digitAt 10 = .ok (.iload_n 1, 1) := dk_27 (dk_at dksX2_digitAt_0 10 rfl rfl)
theorem dX2_digitAt_11 : decode cX2_digitAt 11 = .ok (.if_icmp .le 14, 3) := dk_164 0 14 (dk_at dksX2_digitAt_0 11 rfl rfl)
theorem dX2_digitAt_14 : decode cX2_digitAt 14 = .ok (.iload_n 2, 1) := dk_28 (dk_at dksX2_digitAt_0 14 rfl rfl)
theorem dX2_digitAt_15 : decode cX2_digitAt 15 = .ok (.bipush 10, 2) := dk_16 10 (dk_at dksX2_digitAt_0 15 rfl rfl)
theorem dX2_digitAt_17 : decode cX2_digitAt 17 = .ok (.idiv, 1) := dk_108 (dk_at dksX2_digitAt_0 17 rfl rfl)
theorem dX2_digitAt_18 : decode cX2_digitAt 18 = .ok (.istore_n 2, 1) := dk_61 (dk_at dksX2_digitAt_0 18 rfl rfl)
theorem dX2_digitAt_19 : decode cX2_digitAt 19 = .ok (.iinc 3 (-1), 3) := dk_132 3 255 (dk_at dksX2_digitAt_0 19 rfl rfl)
theorem dX2_digitAt_22 : decode cX2_digitAt 22 = .ok (.goto (-13), 3) := dk_167 255 243 (dk_at dksX2_digitAt_1 0 rfl rfl)
theorem dX2_digitAt_25 : decode cX2_digitAt 25 = .ok (.bipush 48, 2) := dk_16 48 (dk_at dksX2_digitAt_1 3 rfl rfl)
theorem dX2_digitAt_27 : decode cX2_digitAt 27 = .ok (.iload_n 2, 1) := dk_28 (dk_at dksX2_digitAt_1 5 rfl rfl)
theorem dX2_digitAt_28 : decode cX2_digitAt 28 = .ok (.bipush 10, 2) := dk_16 10 (dk_at dksX2_digitAt_1 6 rfl rfl)
theorem dX2_digitAt_30 : decode cX2_digitAt 30 = .ok (.irem, 1) := dk_112 (dk_at dksX2_digitAt_1 8 rfl rfl)
theorem dX2_digitAt_31 : decode cX2_digitAt 31 = .ok (.iadd, 1) := dk_96 (dk_at dksX2_digitAt_1 9 rfl rfl)
theorem dX2_digitAt_32 : decode cX2_digitAt 32 = .ok (.ireturn, 1) := dk_172 (dk_at dksX2_digitAt_1 10 rfl rfl)
theorem q48 : (Jvm.Cond.initialized "BallotFoundryModel") ∈ lw_all := lw_g (lw_at lw_m1 5 rfl) rfl
theorem q521 : (Jvm.Cond.selects "BallotFoundryModel" ({ cls := "java/lang/Object", name := "getClass", desc := "()Ljava/lang/Class;" } : Jvm.MethodName) ({ cls := "java/lang/Object", name := "getClass", desc := "()Ljava/lang/Class;" } : Jvm.MethodName)) ∈ lw_all := lw_g (lw_at lw_m2 238 rfl) rfl
theorem q947 : (Jvm.Cond.selects "BallotFoundryModel" ({ cls := "java/lang/Object", name := "equals", desc := "(Ljava/lang/Object;)Z" } : Jvm.MethodName) ({ cls := "java/lang/Object", name := "equals", desc := "(Ljava/lang/Object;)Z" } : Jvm.MethodName)) ∈ lw_all := lw_g (lw_at lw_m4 184 rfl) rfl
theorem q1379 : (Jvm.Cond.instantiable "BallotFoundryModel" (44 : Nat)) ∈ lw_all := lw_g (lw_at lw_m6 136 rfl) rfl
theorem q1381 : (Jvm.Cond.instanceMethod ({ cls := "BallotFoundryModel", name := "<init>", desc := "()V" } : Jvm.MethodName)) ∈ lw_all := lw_g (lw_at lw_m6 138 rfl) rfl
theorem q1382 : (Jvm.Cond.code ({ cls := "BallotFoundryModel", name := "<init>", desc := "()V" } : Jvm.MethodName) prog_14_method_1_code (1 : Nat) (Option.none : Option Jvm.ClassFile.FieldType)) ∈ lw_all := lw_g (lw_at lw_m6 139 rfl) rfl
theorem q1383 : (Jvm.Cond.methodLink "BallotFoundryModel" (1 : Nat) ({ cls := "java/lang/Object", name := "<init>", desc := "()V" } : Jvm.MethodName)) ∈ lw_all := lw_g (lw_at lw_m6 140 rfl) rfl
theorem q1384 : (Jvm.Cond.methodLink "BallotFoundryModel" (105 : Nat) ({ cls := "BallotFoundryModel", name := "clears", desc := "()V" } : Jvm.MethodName)) ∈ lw_all := lw_g (lw_at lw_m6 141 rfl) rfl
theorem q1385 : (Jvm.Cond.privateMethod ({ cls := "BallotFoundryModel", name := "clears", desc := "()V" } : Jvm.MethodName)) ∈ lw_tbl := lw_at lw_m6 142 rfl
theorem q1386 : (Jvm.Cond.instanceMethod ({ cls := "BallotFoundryModel", name := "clears", desc := "()V" } : Jvm.MethodName)) ∈ lw_all := lw_g (lw_at lw_m6 143 rfl) rfl
theorem q1387 : (Jvm.Cond.code ({ cls := "BallotFoundryModel", name := "clears", desc := "()V" } : Jvm.MethodName) prog_14_method_26_code (2 : Nat) (Option.none : Option Jvm.ClassFile.FieldType)) ∈ lw_all := lw_g (lw_at lw_m6 144 rfl) rfl
theorem q1388 : (Jvm.Cond.fieldLink "BallotFoundryModel" (149 : Nat) "BallotFoundryModel" "today" "I") ∈ lw_all := lw_g (lw_at lw_m6 145 rfl) rfl
theorem q1389 : (Jvm.Cond.fieldLink "BallotFoundryModel" (7 : Nat) "BallotFoundryModel" "barred" "[Z") ∈ lw_all := lw_g (lw_at lw_m6 146 rfl) rfl
theorem q1390 : (Jvm.Cond.fieldLink "BallotFoundryModel" (13 : Nat) "BallotFoundryModel" "far" "[I") ∈ lw_all := lw_g (lw_at lw_m6 147 rfl) rfl
theorem q1391 : (Jvm.Cond.fieldLink "BallotFoundryModel" (17 : Nat) "BallotFoundryModel" "row" "[I") ∈ lw_all := lw_g (lw_at lw_m6 148 rfl) rfl
theorem q1392 : (Jvm.Cond.fieldLink "BallotFoundryModel" (20 : Nat) "BallotFoundryModel" "stationAt" "[I") ∈ lw_all := lw_g (lw_at lw_m6 149 rfl) rfl
theorem q1393 : (Jvm.Cond.fieldLink "BallotFoundryModel" (23 : Nat) "BallotFoundryModel" "room" "[I") ∈ lw_all := lw_g (lw_at lw_m6 150 rfl) rfl
theorem q1394 : (Jvm.Cond.fieldLink "BallotFoundryModel" (115 : Nat) "BallotFoundryModel" "stations" "I") ∈ lw_all := lw_g (lw_at lw_m6 151 rfl) rfl
theorem q1395 : (Jvm.Cond.fieldLink "BallotFoundryModel" (26 : Nat) "BallotFoundryModel" "ofAge" "[I") ∈ lw_all := lw_g (lw_at lw_m6 152 rfl) rfl
theorem q1396 : (Jvm.Cond.fieldLink "BallotFoundryModel" (29 : Nat) "BallotFoundryModel" "died" "[Z") ∈ lw_all := lw_g (lw_at lw_m6 153 rfl) rfl
theorem q1397 : (Jvm.Cond.fieldLink "BallotFoundryModel" (118 : Nat) "BallotFoundryModel" "people" "I") ∈ lw_all := lw_g (lw_at lw_m6 154 rfl) rfl
theorem q1398 : (Jvm.Cond.fieldLink "BallotFoundryModel" (32 : Nat) "BallotFoundryModel" "who" "[I") ∈ lw_all := lw_g (lw_at lw_m6 155 rfl) rfl
theorem q1399 : (Jvm.Cond.fieldLink "BallotFoundryModel" (35 : Nat) "BallotFoundryModel" "when" "[I") ∈ lw_all := lw_g (lw_at lw_m6 156 rfl) rfl
theorem q1400 : (Jvm.Cond.fieldLink "BallotFoundryModel" (38 : Nat) "BallotFoundryModel" "where" "[I") ∈ lw_all := lw_g (lw_at lw_m6 157 rfl) rfl
theorem q1401 : (Jvm.Cond.fieldLink "BallotFoundryModel" (146 : Nat) "BallotFoundryModel" "moves" "I") ∈ lw_all := lw_g (lw_at lw_m6 158 rfl) rfl
theorem q1402 : (Jvm.Cond.fieldLink "BallotFoundryModel" (41 : Nat) "BallotFoundryModel" "stage" "I") ∈ lw_all := lw_g (lw_at lw_m6 159 rfl) rfl
theorem q1403 : (Jvm.Cond.fieldLink "BallotFoundryModel" (181 : Nat) "BallotFoundryModel" "day" "I") ∈ lw_all := lw_g (lw_at lw_m6 160 rfl) rfl
theorem q1404 : (Jvm.Cond.fieldLink "BallotFoundryModel" (184 : Nat) "BallotFoundryModel" "seats" "I") ∈ lw_all := lw_g (lw_at lw_m6 161 rfl) rfl
theorem q1405 : (Jvm.Cond.fieldLink "BallotFoundryModel" (187 : Nat) "BallotFoundryModel" "odd" "Z") ∈ lw_all := lw_g (lw_at lw_m6 162 rfl) rfl
theorem q1406 : (Jvm.Cond.fieldLink "BallotFoundryModel" (45 : Nat) "BallotFoundryModel" "seed" "[I") ∈ lw_all := lw_g (lw_at lw_m6 163 rfl) rfl
theorem q1407 : (Jvm.Cond.fieldLink "BallotFoundryModel" (178 : Nat) "BallotFoundryModel" "inElection" "I") ∈ lw_all := lw_g (lw_at lw_m6 164 rfl) rfl
theorem q1408 : (Jvm.Cond.fieldLink "BallotFoundryModel" (48 : Nat) "BallotFoundryModel" "ownStation" "[I") ∈ lw_all := lw_g (lw_at lw_m6 165 rfl) rfl
theorem q1409 : (Jvm.Cond.fieldLink "BallotFoundryModel" (51 : Nat) "BallotFoundryModel" "crowd" "[I") ∈ lw_all := lw_g (lw_at lw_m6 166 rfl) rfl
theorem q1410 : (Jvm.Cond.fieldLink "BallotFoundryModel" (54 : Nat) "BallotFoundryModel" "voted" "[Z") ∈ lw_all := lw_g (lw_at lw_m6 167 rfl) rfl
theorem q1411 : (Jvm.Cond.fieldLink "BallotFoundryModel" (57 : Nat) "BallotFoundryModel" "envelopeOf" "[I") ∈ lw_all := lw_g (lw_at lw_m6 168 rfl) rfl
theorem q1412 : (Jvm.Cond.fieldLink "BallotFoundryModel" (60 : Nat) "BallotFoundryModel" "vote" "[I") ∈ lw_all := lw_g (lw_at lw_m6 169 rfl) rfl
theorem q1413 : (Jvm.Cond.fieldLink "BallotFoundryModel" (63 : Nat) "BallotFoundryModel" "state" "[I") ∈ lw_all := lw_g (lw_at lw_m6 170 rfl) rfl
theorem q1414 : (Jvm.Cond.fieldLink "BallotFoundryModel" (165 : Nat) "BallotFoundryModel" "envelopes" "I") ∈ lw_all := lw_g (lw_at lw_m6 171 rfl) rfl
theorem q1415 : (Jvm.Cond.fieldLink "BallotFoundryModel" (66 : Nat) "BallotFoundryModel" "box" "[I") ∈ lw_all := lw_g (lw_at lw_m6 172 rfl) rfl
theorem q1416 : (Jvm.Cond.fieldLink "BallotFoundryModel" (69 : Nat) "BallotFoundryModel" "ballots" "[I") ∈ lw_all := lw_g (lw_at lw_m6 173 rfl) rfl
theorem q1417 : (Jvm.Cond.fieldLink "BallotFoundryModel" (72 : Nat) "BallotFoundryModel" "number" "[I") ∈ lw_all := lw_g (lw_at lw_m6 174 rfl) rfl
theorem q1418 : (Jvm.Cond.fieldLink "BallotFoundryModel" (75 : Nat) "BallotFoundryModel" "counter" "[I") ∈ lw_all := lw_g (lw_at lw_m6 175 rfl) rfl
theorem q1419 : (Jvm.Cond.fieldLink "BallotFoundryModel" (78 : Nat) "BallotFoundryModel" "counts" "[I") ∈ lw_all := lw_g (lw_at lw_m6 176 rfl) rfl
theorem q1420 : (Jvm.Cond.fieldLink "BallotFoundryModel" (81 : Nat) "BallotFoundryModel" "settled" "[I") ∈ lw_all := lw_g (lw_at lw_m6 177 rfl) rfl
theorem q1421 : (Jvm.Cond.fieldLink "BallotFoundryModel" (84 : Nat) "BallotFoundryModel" "slip" "[I") ∈ lw_all := lw_g (lw_at lw_m6 178 rfl) rfl
theorem q1422 : (Jvm.Cond.fieldLink "BallotFoundryModel" (87 : Nat) "BallotFoundryModel" "sum" "[I") ∈ lw_all := lw_g (lw_at lw_m6 179 rfl) rfl
theorem q1423 : (Jvm.Cond.fieldLink "BallotFoundryModel" (90 : Nat) "BallotFoundryModel" "given" "[I") ∈ lw_all := lw_g (lw_at lw_m6 180 rfl) rfl
theorem q1424 : (Jvm.Cond.fieldLink "BallotFoundryModel" (93 : Nat) "BallotFoundryModel" "order" "[I") ∈ lw_all := lw_g (lw_at lw_m6 181 rfl) rfl
theorem q1425 : (Jvm.Cond.fieldLink "BallotFoundryModel" (220 : Nat) "BallotFoundryModel" "givenAll" "I") ∈ lw_all := lw_g (lw_at lw_m6 182 rfl) rfl
theorem q1426 : (Jvm.Cond.fieldLink "BallotFoundryModel" (223 : Nat) "BallotFoundryModel" "lots" "I") ∈ lw_all := lw_g (lw_at lw_m6 183 rfl) rfl
theorem q1427 : (Jvm.Cond.fieldLink "BallotFoundryModel" (96 : Nat) "BallotFoundryModel" "noteDay" "[I") ∈ lw_all := lw_g (lw_at lw_m6 184 rfl) rfl
theorem q1428 : (Jvm.Cond.fieldLink "BallotFoundryModel" (99 : Nat) "BallotFoundryModel" "noteSign" "[I") ∈ lw_all := lw_g (lw_at lw_m6 185 rfl) rfl
theorem q1429 : (Jvm.Cond.fieldLink "BallotFoundryModel" (102 : Nat) "BallotFoundryModel" "noteNumber" "[I") ∈ lw_all := lw_g (lw_at lw_m6 186 rfl) rfl
theorem q1430 : (Jvm.Cond.fieldLink "BallotFoundryModel" (162 : Nat) "BallotFoundryModel" "notes" "I") ∈ lw_all := lw_g (lw_at lw_m6 187 rfl) rfl
theorem q1431 : (Jvm.Cond.fieldLink "BallotFoundryModel" (108 : Nat) "BallotFoundryModel" "thrown" "I") ∈ lw_all := lw_g (lw_at lw_m6 188 rfl) rfl
theorem q1432 : (Jvm.Cond.lays "BallotFoundryModel" "BallotFoundryModel" "today" "I") ∈ lw_all := lw_g (lw_at lw_m6 189 rfl) rfl
theorem q1433 : (Jvm.Cond.soleField "BallotFoundryModel" "today") ∈ lw_all := lw_g (lw_at lw_m6 190 rfl) rfl
theorem q1434 : (Jvm.Cond.laysFinal "BallotFoundryModel" "BallotFoundryModel" "barred" "[Z") ∈ lw_all := lw_g (lw_at lw_m6 191 rfl) rfl
theorem q1435 : (Jvm.Cond.soleField "BallotFoundryModel" "barred") ∈ lw_all := lw_g (lw_at lw_m6 192 rfl) rfl
theorem q1436 : (Jvm.Cond.laysFinal "BallotFoundryModel" "BallotFoundryModel" "far" "[I") ∈ lw_all := lw_g (lw_at lw_m6 193 rfl) rfl
theorem q1437 : (Jvm.Cond.soleField "BallotFoundryModel" "far") ∈ lw_all := lw_g (lw_at lw_m6 194 rfl) rfl
theorem q1438 : (Jvm.Cond.laysFinal "BallotFoundryModel" "BallotFoundryModel" "row" "[I") ∈ lw_all := lw_g (lw_at lw_m6 195 rfl) rfl
theorem q1439 : (Jvm.Cond.soleField "BallotFoundryModel" "row") ∈ lw_all := lw_g (lw_at lw_m6 196 rfl) rfl
theorem q1440 : (Jvm.Cond.laysFinal "BallotFoundryModel" "BallotFoundryModel" "stationAt" "[I") ∈ lw_all := lw_g (lw_at lw_m6 197 rfl) rfl
theorem q1441 : (Jvm.Cond.soleField "BallotFoundryModel" "stationAt") ∈ lw_all := lw_g (lw_at lw_m6 198 rfl) rfl
theorem q1442 : (Jvm.Cond.laysFinal "BallotFoundryModel" "BallotFoundryModel" "room" "[I") ∈ lw_all := lw_g (lw_at lw_m6 199 rfl) rfl
theorem q1443 : (Jvm.Cond.soleField "BallotFoundryModel" "room") ∈ lw_all := lw_g (lw_at lw_m6 200 rfl) rfl
theorem q1444 : (Jvm.Cond.lays "BallotFoundryModel" "BallotFoundryModel" "stations" "I") ∈ lw_all := lw_g (lw_at lw_m6 201 rfl) rfl
theorem q1445 : (Jvm.Cond.soleField "BallotFoundryModel" "stations") ∈ lw_all := lw_g (lw_at lw_m6 202 rfl) rfl
theorem q1446 : (Jvm.Cond.laysFinal "BallotFoundryModel" "BallotFoundryModel" "ofAge" "[I") ∈ lw_all := lw_g (lw_at lw_m6 203 rfl) rfl
theorem q1447 : (Jvm.Cond.soleField "BallotFoundryModel" "ofAge") ∈ lw_all := lw_g (lw_at lw_m6 204 rfl) rfl
theorem q1448 : (Jvm.Cond.laysFinal "BallotFoundryModel" "BallotFoundryModel" "died" "[Z") ∈ lw_all := lw_g (lw_at lw_m6 205 rfl) rfl
theorem q1449 : (Jvm.Cond.soleField "BallotFoundryModel" "died") ∈ lw_all := lw_g (lw_at lw_m6 206 rfl) rfl
theorem q1450 : (Jvm.Cond.lays "BallotFoundryModel" "BallotFoundryModel" "people" "I") ∈ lw_all := lw_g (lw_at lw_m6 207 rfl) rfl
theorem q1451 : (Jvm.Cond.soleField "BallotFoundryModel" "people") ∈ lw_all := lw_g (lw_at lw_m6 208 rfl) rfl
theorem q1452 : (Jvm.Cond.laysFinal "BallotFoundryModel" "BallotFoundryModel" "who" "[I") ∈ lw_all := lw_g (lw_at lw_m6 209 rfl) rfl
theorem q1453 : (Jvm.Cond.soleField "BallotFoundryModel" "who") ∈ lw_all := lw_g (lw_at lw_m6 210 rfl) rfl
theorem q1454 : (Jvm.Cond.laysFinal "BallotFoundryModel" "BallotFoundryModel" "when" "[I") ∈ lw_all := lw_g (lw_at lw_m6 211 rfl) rfl
theorem q1455 : (Jvm.Cond.soleField "BallotFoundryModel" "when") ∈ lw_all := lw_g (lw_at lw_m6 212 rfl) rfl
theorem q1456 : (Jvm.Cond.laysFinal "BallotFoundryModel" "BallotFoundryModel" "where" "[I") ∈ lw_all := lw_g (lw_at lw_m6 213 rfl) rfl
theorem q1457 : (Jvm.Cond.soleField "BallotFoundryModel" "where") ∈ lw_all := lw_g (lw_at lw_m6 214 rfl) rfl
theorem q1458 : (Jvm.Cond.lays "BallotFoundryModel" "BallotFoundryModel" "moves" "I") ∈ lw_all := lw_g (lw_at lw_m6 215 rfl) rfl
theorem q1459 : (Jvm.Cond.soleField "BallotFoundryModel" "moves") ∈ lw_all := lw_g (lw_at lw_m6 216 rfl) rfl
theorem q1460 : (Jvm.Cond.lays "BallotFoundryModel" "BallotFoundryModel" "stage" "I") ∈ lw_all := lw_g (lw_at lw_m6 217 rfl) rfl
theorem q1461 : (Jvm.Cond.soleField "BallotFoundryModel" "stage") ∈ lw_all := lw_g (lw_at lw_m6 218 rfl) rfl
theorem q1462 : (Jvm.Cond.lays "BallotFoundryModel" "BallotFoundryModel" "day" "I") ∈ lw_all := lw_g (lw_at lw_m6 219 rfl) rfl
theorem q1463 : (Jvm.Cond.soleField "BallotFoundryModel" "day") ∈ lw_all := lw_g (lw_at lw_m6 220 rfl) rfl
theorem q1464 : (Jvm.Cond.lays "BallotFoundryModel" "BallotFoundryModel" "seats" "I") ∈ lw_all := lw_g (lw_at lw_m6 221 rfl) rfl
theorem q1465 : (Jvm.Cond.soleField "BallotFoundryModel" "seats") ∈ lw_all := lw_g (lw_at lw_m6 222 rfl) rfl
theorem q1466 : (Jvm.Cond.lays "BallotFoundryModel" "BallotFoundryModel" "odd" "Z") ∈ lw_all := lw_g (lw_at lw_m6 223 rfl) rfl
theorem q1467 : (Jvm.Cond.soleField "BallotFoundryModel" "odd") ∈ lw_all := lw_g (lw_at lw_m6 224 rfl) rfl
theorem q1468 : (Jvm.Cond.laysFinal "BallotFoundryModel" "BallotFoundryModel" "seed" "[I") ∈ lw_all := lw_g (lw_at lw_m6 225 rfl) rfl
theorem q1469 : (Jvm.Cond.soleField "BallotFoundryModel" "seed") ∈ lw_all := lw_g (lw_at lw_m6 226 rfl) rfl
theorem q1470 : (Jvm.Cond.lays "BallotFoundryModel" "BallotFoundryModel" "inElection" "I") ∈ lw_all := lw_g (lw_at lw_m6 227 rfl) rfl
theorem q1471 : (Jvm.Cond.soleField "BallotFoundryModel" "inElection") ∈ lw_all := lw_g (lw_at lw_m6 228 rfl) rfl
theorem q1472 : (Jvm.Cond.laysFinal "BallotFoundryModel" "BallotFoundryModel" "ownStation" "[I") ∈ lw_all := lw_g (lw_at lw_m6 229 rfl) rfl
theorem q1473 : (Jvm.Cond.soleField "BallotFoundryModel" "ownStation") ∈ lw_all := lw_g (lw_at lw_m6 230 rfl) rfl
theorem q1474 : (Jvm.Cond.laysFinal "BallotFoundryModel" "BallotFoundryModel" "crowd" "[I") ∈ lw_all := lw_g (lw_at lw_m6 231 rfl) rfl
theorem q1475 : (Jvm.Cond.soleField "BallotFoundryModel" "crowd") ∈ lw_all := lw_g (lw_at lw_m6 232 rfl) rfl
theorem q1476 : (Jvm.Cond.laysFinal "BallotFoundryModel" "BallotFoundryModel" "voted" "[Z") ∈ lw_all := lw_g (lw_at lw_m6 233 rfl) rfl
theorem q1477 : (Jvm.Cond.soleField "BallotFoundryModel" "voted") ∈ lw_all := lw_g (lw_at lw_m6 234 rfl) rfl
theorem q1478 : (Jvm.Cond.laysFinal "BallotFoundryModel" "BallotFoundryModel" "envelopeOf" "[I") ∈ lw_all := lw_g (lw_at lw_m6 235 rfl) rfl
theorem q1479 : (Jvm.Cond.soleField "BallotFoundryModel" "envelopeOf") ∈ lw_all := lw_g (lw_at lw_m6 236 rfl) rfl
theorem q1480 : (Jvm.Cond.laysFinal "BallotFoundryModel" "BallotFoundryModel" "vote" "[I") ∈ lw_all := lw_g (lw_at lw_m6 237 rfl) rfl
theorem q1481 : (Jvm.Cond.soleField "BallotFoundryModel" "vote") ∈ lw_all := lw_g (lw_at lw_m6 238 rfl) rfl
theorem q1482 : (Jvm.Cond.laysFinal "BallotFoundryModel" "BallotFoundryModel" "state" "[I") ∈ lw_all := lw_g (lw_at lw_m6 239 rfl) rfl
theorem q1483 : (Jvm.Cond.soleField "BallotFoundryModel" "state") ∈ lw_all := lw_g (lw_at lw_m7 0 rfl) rfl
theorem q1484 : (Jvm.Cond.lays "BallotFoundryModel" "BallotFoundryModel" "envelopes" "I") ∈ lw_all := lw_g (lw_at lw_m7 1 rfl) rfl
theorem q1485 : (Jvm.Cond.soleField "BallotFoundryModel" "envelopes") ∈ lw_all := lw_g (lw_at lw_m7 2 rfl) rfl
theorem q1486 : (Jvm.Cond.laysFinal "BallotFoundryModel" "BallotFoundryModel" "box" "[I") ∈ lw_all := lw_g (lw_at lw_m7 3 rfl) rfl
theorem q1487 : (Jvm.Cond.soleField "BallotFoundryModel" "box") ∈ lw_all := lw_g (lw_at lw_m7 4 rfl) rfl
theorem q1488 : (Jvm.Cond.laysFinal "BallotFoundryModel" "BallotFoundryModel" "ballots" "[I") ∈ lw_all := lw_g (lw_at lw_m7 5 rfl) rfl
theorem q1489 : (Jvm.Cond.soleField "BallotFoundryModel" "ballots") ∈ lw_all := lw_g (lw_at lw_m7 6 rfl) rfl
theorem q1490 : (Jvm.Cond.laysFinal "BallotFoundryModel" "BallotFoundryModel" "number" "[I") ∈ lw_all := lw_g (lw_at lw_m7 7 rfl) rfl
theorem q1491 : (Jvm.Cond.soleField "BallotFoundryModel" "number") ∈ lw_all := lw_g (lw_at lw_m7 8 rfl) rfl
theorem q1492 : (Jvm.Cond.laysFinal "BallotFoundryModel" "BallotFoundryModel" "counter" "[I") ∈ lw_all := lw_g (lw_at lw_m7 9 rfl) rfl
theorem q1493 : (Jvm.Cond.soleField "BallotFoundryModel" "counter") ∈ lw_all := lw_g (lw_at lw_m7 10 rfl) rfl
theorem q1494 : (Jvm.Cond.laysFinal "BallotFoundryModel" "BallotFoundryModel" "counts" "[I") ∈ lw_all := lw_g (lw_at lw_m7 11 rfl) rfl
theorem q1495 : (Jvm.Cond.soleField "BallotFoundryModel" "counts") ∈ lw_all := lw_g (lw_at lw_m7 12 rfl) rfl
theorem q1496 : (Jvm.Cond.laysFinal "BallotFoundryModel" "BallotFoundryModel" "settled" "[I") ∈ lw_all := lw_g (lw_at lw_m7 13 rfl) rfl
theorem q1497 : (Jvm.Cond.soleField "BallotFoundryModel" "settled") ∈ lw_all := lw_g (lw_at lw_m7 14 rfl) rfl
theorem q1498 : (Jvm.Cond.laysFinal "BallotFoundryModel" "BallotFoundryModel" "slip" "[I") ∈ lw_all := lw_g (lw_at lw_m7 15 rfl) rfl
theorem q1499 : (Jvm.Cond.soleField "BallotFoundryModel" "slip") ∈ lw_all := lw_g (lw_at lw_m7 16 rfl) rfl
theorem q1500 : (Jvm.Cond.laysFinal "BallotFoundryModel" "BallotFoundryModel" "sum" "[I") ∈ lw_all := lw_g (lw_at lw_m7 17 rfl) rfl
theorem q1501 : (Jvm.Cond.soleField "BallotFoundryModel" "sum") ∈ lw_all := lw_g (lw_at lw_m7 18 rfl) rfl
theorem q1502 : (Jvm.Cond.laysFinal "BallotFoundryModel" "BallotFoundryModel" "given" "[I") ∈ lw_all := lw_g (lw_at lw_m7 19 rfl) rfl
theorem q1503 : (Jvm.Cond.soleField "BallotFoundryModel" "given") ∈ lw_all := lw_g (lw_at lw_m7 20 rfl) rfl
theorem q1504 : (Jvm.Cond.laysFinal "BallotFoundryModel" "BallotFoundryModel" "order" "[I") ∈ lw_all := lw_g (lw_at lw_m7 21 rfl) rfl
theorem q1505 : (Jvm.Cond.soleField "BallotFoundryModel" "order") ∈ lw_all := lw_g (lw_at lw_m7 22 rfl) rfl
theorem q1506 : (Jvm.Cond.lays "BallotFoundryModel" "BallotFoundryModel" "givenAll" "I") ∈ lw_all := lw_g (lw_at lw_m7 23 rfl) rfl
theorem q1507 : (Jvm.Cond.soleField "BallotFoundryModel" "givenAll") ∈ lw_all := lw_g (lw_at lw_m7 24 rfl) rfl
theorem q1508 : (Jvm.Cond.lays "BallotFoundryModel" "BallotFoundryModel" "lots" "I") ∈ lw_all := lw_g (lw_at lw_m7 25 rfl) rfl
theorem q1509 : (Jvm.Cond.soleField "BallotFoundryModel" "lots") ∈ lw_all := lw_g (lw_at lw_m7 26 rfl) rfl
theorem q1510 : (Jvm.Cond.laysFinal "BallotFoundryModel" "BallotFoundryModel" "noteDay" "[I") ∈ lw_all := lw_g (lw_at lw_m7 27 rfl) rfl
theorem q1511 : (Jvm.Cond.soleField "BallotFoundryModel" "noteDay") ∈ lw_all := lw_g (lw_at lw_m7 28 rfl) rfl
theorem q1512 : (Jvm.Cond.laysFinal "BallotFoundryModel" "BallotFoundryModel" "noteSign" "[I") ∈ lw_all := lw_g (lw_at lw_m7 29 rfl) rfl
theorem q1513 : (Jvm.Cond.soleField "BallotFoundryModel" "noteSign") ∈ lw_all := lw_g (lw_at lw_m7 30 rfl) rfl
theorem q1514 : (Jvm.Cond.laysFinal "BallotFoundryModel" "BallotFoundryModel" "noteNumber" "[I") ∈ lw_all := lw_g (lw_at lw_m7 31 rfl) rfl
theorem q1515 : (Jvm.Cond.soleField "BallotFoundryModel" "noteNumber") ∈ lw_all := lw_g (lw_at lw_m7 32 rfl) rfl
theorem q1516 : (Jvm.Cond.lays "BallotFoundryModel" "BallotFoundryModel" "notes" "I") ∈ lw_all := lw_g (lw_at lw_m7 33 rfl) rfl
theorem q1517 : (Jvm.Cond.soleField "BallotFoundryModel" "notes") ∈ lw_all := lw_g (lw_at lw_m7 34 rfl) rfl
theorem q1518 : (Jvm.Cond.lays "BallotFoundryModel" "BallotFoundryModel" "thrown" "I") ∈ lw_all := lw_g (lw_at lw_m7 35 rfl) rfl
theorem q1519 : (Jvm.Cond.soleField "BallotFoundryModel" "thrown") ∈ lw_all := lw_g (lw_at lw_m7 36 rfl) rfl
theorem q1520 : (Jvm.Cond.superclass "BallotFoundryModel" "java/lang/Object") ∈ lw_all := lw_g (lw_at lw_m7 37 rfl) rfl
theorem q1522 : (Jvm.Cond.instanceMethod ({ cls := "BallotFoundryModel", name := "thrown", desc := "()I" } : Jvm.MethodName)) ∈ lw_all := lw_g (lw_at lw_m7 39 rfl) rfl
theorem q1523 : (Jvm.Cond.selects "BallotFoundryModel" ({ cls := "BallotFoundryModel", name := "thrown", desc := "()I" } : Jvm.MethodName) ({ cls := "BallotFoundryModel", name := "thrown", desc := "()I" } : Jvm.MethodName)) ∈ lw_all := lw_g (lw_at lw_m7 40 rfl) rfl
theorem q1524 : (Jvm.Cond.code ({ cls := "BallotFoundryModel", name := "thrown", desc := "()I" } : Jvm.MethodName) prog_14_method_2_code (1 : Nat) (Option.some Jvm.ClassFile.FieldType.int)) ∈ lw_all := lw_g (lw_at lw_m7 41 rfl) rfl
theorem q1526 : (Jvm.Cond.instanceMethod ({ cls := "BallotFoundryModel", name := "bar", desc := "(IIZ)Z" } : Jvm.MethodName)) ∈ lw_all := lw_g (lw_at lw_m7 43 rfl) rfl
theorem q1527 : (Jvm.Cond.selects "BallotFoundryModel" ({ cls := "BallotFoundryModel", name := "bar", desc := "(IIZ)Z" } : Jvm.MethodName) ({ cls := "BallotFoundryModel", name := "bar", desc := "(IIZ)Z" } : Jvm.MethodName)) ∈ lw_all := lw_g (lw_at lw_m7 44 rfl) rfl
theorem q1528 : (Jvm.Cond.code ({ cls := "BallotFoundryModel", name := "bar", desc := "(IIZ)Z" } : Jvm.MethodName) prog_14_method_12_code (7 : Nat) (Option.some Jvm.ClassFile.FieldType.boolean)) ∈ lw_all := lw_g (lw_at lw_m7 45 rfl) rfl
theorem q1529 : (Jvm.Cond.methodLink "BallotFoundryModel" (121 : Nat) ({ cls := "BallotFoundryModel", name := "isCrossing", desc := "(I)Z" } : Jvm.MethodName)) ∈ lw_all := lw_g (lw_at lw_m7 46 rfl) rfl
theorem q1530 : (Jvm.Cond.static ({ cls := "BallotFoundryModel", name := "isCrossing", desc := "(I)Z" } : Jvm.MethodName)) ∈ lw_all := lw_g (lw_at lw_m7 47 rfl) rfl
theorem q1531 : (Jvm.Cond.code ({ cls := "BallotFoundryModel", name := "isCrossing", desc := "(I)Z" } : Jvm.MethodName) prog_14_method_8_code (1 : Nat) (Option.some Jvm.ClassFile.FieldType.boolean)) ∈ lw_all := lw_g (lw_at lw_m7 48 rfl) rfl
theorem q1532 : (Jvm.Cond.methodLink "BallotFoundryModel" (111 : Nat) ({ cls := "BallotFoundryModel", name := "in", desc := "(III)Z" } : Jvm.MethodName)) ∈ lw_all := lw_g (lw_at lw_m7 49 rfl) rfl
theorem q1533 : (Jvm.Cond.static ({ cls := "BallotFoundryModel", name := "in", desc := "(III)Z" } : Jvm.MethodName)) ∈ lw_all := lw_g (lw_at lw_m7 50 rfl) rfl
theorem q1534 : (Jvm.Cond.code ({ cls := "BallotFoundryModel", name := "in", desc := "(III)Z" } : Jvm.MethodName) prog_14_method_3_code (3 : Nat) (Option.some Jvm.ClassFile.FieldType.boolean)) ∈ lw_all := lw_g (lw_at lw_m7 51 rfl) rfl
theorem q1535 : (Jvm.Cond.methodLink "BallotFoundryModel" (125 : Nat) ({ cls := "BallotFoundryModel", name := "street", desc := "(II)I" } : Jvm.MethodName)) ∈ lw_all := lw_g (lw_at lw_m7 52 rfl) rfl
theorem q1536 : (Jvm.Cond.static ({ cls := "BallotFoundryModel", name := "street", desc := "(II)I" } : Jvm.MethodName)) ∈ lw_all := lw_g (lw_at lw_m7 53 rfl) rfl
theorem q1537 : (Jvm.Cond.code ({ cls := "BallotFoundryModel", name := "street", desc := "(II)I" } : Jvm.MethodName) prog_14_method_11_code (4 : Nat) (Option.some Jvm.ClassFile.FieldType.int)) ∈ lw_all := lw_g (lw_at lw_m7 54 rfl) rfl
theorem q1538 : (Jvm.Cond.methodLink "BallotFoundryModel" (129 : Nat) ({ cls := "BallotFoundryModel", name := "asked", desc := "(ZZ)Z" } : Jvm.MethodName)) ∈ lw_all := lw_g (lw_at lw_m7 55 rfl) rfl
theorem q1539 : (Jvm.Cond.privateMethod ({ cls := "BallotFoundryModel", name := "asked", desc := "(ZZ)Z" } : Jvm.MethodName)) ∈ lw_tbl := lw_at lw_m7 56 rfl
theorem q1540 : (Jvm.Cond.instanceMethod ({ cls := "BallotFoundryModel", name := "asked", desc := "(ZZ)Z" } : Jvm.MethodName)) ∈ lw_all := lw_g (lw_at lw_m7 57 rfl) rfl
theorem q1541 : (Jvm.Cond.code ({ cls := "BallotFoundryModel", name := "asked", desc := "(ZZ)Z" } : Jvm.MethodName) prog_14_method_5_code (3 : Nat) (Option.some Jvm.ClassFile.FieldType.boolean)) ∈ lw_all := lw_g (lw_at lw_m7 58 rfl) rfl
theorem q1543 : (Jvm.Cond.instanceMethod ({ cls := "BallotFoundryModel", name := "way", desc := "(II)I" } : Jvm.MethodName)) ∈ lw_all := lw_g (lw_at lw_m7 60 rfl) rfl
theorem q1544 : (Jvm.Cond.selects "BallotFoundryModel" ({ cls := "BallotFoundryModel", name := "way", desc := "(II)I" } : Jvm.MethodName) ({ cls := "BallotFoundryModel", name := "way", desc := "(II)I" } : Jvm.MethodName)) ∈ lw_all := lw_g (lw_at lw_m7 61 rfl) rfl
theorem q1545 : (Jvm.Cond.code ({ cls := "BallotFoundryModel", name := "way", desc := "(II)I" } : Jvm.MethodName) prog_14_method_14_code (3 : Nat) (Option.some Jvm.ClassFile.FieldType.int)) ∈ lw_all := lw_g (lw_at lw_m7 62 rfl) rfl
theorem q1546 : (Jvm.Cond.methodLink "BallotFoundryModel" (133 : Nat) ({ cls := "BallotFoundryModel", name := "asked", desc := "(Z)Z" } : Jvm.MethodName)) ∈ lw_all := lw_g (lw_at lw_m7 63 rfl) rfl
theorem q1547 : (Jvm.Cond.privateMethod ({ cls := "BallotFoundryModel", name := "asked", desc := "(Z)Z" } : Jvm.MethodName)) ∈ lw_tbl := lw_at lw_m7 64 rfl
theorem q1548 : (Jvm.Cond.instanceMethod ({ cls := "BallotFoundryModel", name := "asked", desc := "(Z)Z" } : Jvm.MethodName)) ∈ lw_all := lw_g (lw_at lw_m7 65 rfl) rfl
theorem q1549 : (Jvm.Cond.code ({ cls := "BallotFoundryModel", name := "asked", desc := "(Z)Z" } : Jvm.MethodName) prog_14_method_4_code (2 : Nat) (Option.some Jvm.ClassFile.FieldType.boolean)) ∈ lw_all := lw_g (lw_at lw_m7 66 rfl) rfl
theorem q1550 : (Jvm.Cond.methodLink "BallotFoundryModel" (136 : Nat) ({ cls := "BallotFoundryModel", name := "finds", desc := "(I)V" } : Jvm.MethodName)) ∈ lw_all := lw_g (lw_at lw_m7 67 rfl) rfl
theorem q1551 : (Jvm.Cond.privateMethod ({ cls := "BallotFoundryModel", name := "finds", desc := "(I)V" } : Jvm.MethodName)) ∈ lw_tbl := lw_at lw_m7 68 rfl
theorem q1552 : (Jvm.Cond.instanceMethod ({ cls := "BallotFoundryModel", name := "finds", desc := "(I)V" } : Jvm.MethodName)) ∈ lw_all := lw_g (lw_at lw_m7 69 rfl) rfl
theorem q1553 : (Jvm.Cond.code ({ cls := "BallotFoundryModel", name := "finds", desc := "(I)V" } : Jvm.MethodName) prog_14_method_13_code (6 : Nat) (Option.none : Option Jvm.ClassFile.FieldType)) ∈ lw_all := lw_g (lw_at lw_m7 70 rfl) rfl
theorem q1555 : (Jvm.Cond.instanceMethod ({ cls := "BallotFoundryModel", name := "station", desc := "(II)I" } : Jvm.MethodName)) ∈ lw_all := lw_g (lw_at lw_m7 72 rfl) rfl
theorem q1556 : (Jvm.Cond.selects "BallotFoundryModel" ({ cls := "BallotFoundryModel", name := "station", desc := "(II)I" } : Jvm.MethodName) ({ cls := "BallotFoundryModel", name := "station", desc := "(II)I" } : Jvm.MethodName)) ∈ lw_all := lw_g (lw_at lw_m7 73 rfl) rfl
theorem q1557 : (Jvm.Cond.code ({ cls := "BallotFoundryModel", name := "station", desc := "(II)I" } : Jvm.MethodName) prog_14_method_15_code (3 : Nat) (Option.some Jvm.ClassFile.FieldType.int)) ∈ lw_all := lw_g (lw_at lw_m7 74 rfl) rfl
theorem q1558 : (Jvm.Cond.methodLink "BallotFoundryModel" (140 : Nat) ({ cls := "BallotFoundryModel", name := "asked", desc := "(ZZZ)Z" } : Jvm.MethodName)) ∈ lw_all := lw_g (lw_at lw_m7 75 rfl) rfl
theorem q1559 : (Jvm.Cond.privateMethod ({ cls := "BallotFoundryModel", name := "asked", desc := "(ZZZ)Z" } : Jvm.MethodName)) ∈ lw_tbl := lw_at lw_m7 76 rfl
theorem q1560 : (Jvm.Cond.instanceMethod ({ cls := "BallotFoundryModel", name := "asked", desc := "(ZZZ)Z" } : Jvm.MethodName)) ∈ lw_all := lw_g (lw_at lw_m7 77 rfl) rfl
theorem q1561 : (Jvm.Cond.code ({ cls := "BallotFoundryModel", name := "asked", desc := "(ZZZ)Z" } : Jvm.MethodName) prog_14_method_6_code (4 : Nat) (Option.some Jvm.ClassFile.FieldType.boolean)) ∈ lw_all := lw_g (lw_at lw_m7 78 rfl) rfl
theorem q1563 : (Jvm.Cond.instanceMethod ({ cls := "BallotFoundryModel", name := "setSeats", desc := "(II)I" } : Jvm.MethodName)) ∈ lw_all := lw_g (lw_at lw_m7 80 rfl) rfl
theorem q1564 : (Jvm.Cond.selects "BallotFoundryModel" ({ cls := "BallotFoundryModel", name := "setSeats", desc := "(II)I" } : Jvm.MethodName) ({ cls := "BallotFoundryModel", name := "setSeats", desc := "(II)I" } : Jvm.MethodName)) ∈ lw_all := lw_g (lw_at lw_m7 81 rfl) rfl
theorem q1565 : (Jvm.Cond.code ({ cls := "BallotFoundryModel", name := "setSeats", desc := "(II)I" } : Jvm.MethodName) prog_14_method_16_code (4 : Nat) (Option.some Jvm.ClassFile.FieldType.int)) ∈ lw_all := lw_g (lw_at lw_m7 82 rfl) rfl
theorem q1566 : (Jvm.Cond.methodLink "BallotFoundryModel" (143 : Nat) ({ cls := "BallotFoundryModel", name := "isStation", desc := "(I)Z" } : Jvm.MethodName)) ∈ lw_all := lw_g (lw_at lw_m7 83 rfl) rfl
theorem q1567 : (Jvm.Cond.privateMethod ({ cls := "BallotFoundryModel", name := "isStation", desc := "(I)Z" } : Jvm.MethodName)) ∈ lw_tbl := lw_at lw_m7 84 rfl
theorem q1568 : (Jvm.Cond.instanceMethod ({ cls := "BallotFoundryModel", name := "isStation", desc := "(I)Z" } : Jvm.MethodName)) ∈ lw_all := lw_g (lw_at lw_m7 85 rfl) rfl
theorem q1569 : (Jvm.Cond.code ({ cls := "BallotFoundryModel", name := "isStation", desc := "(I)Z" } : Jvm.MethodName) prog_14_method_9_code (2 : Nat) (Option.some Jvm.ClassFile.FieldType.boolean)) ∈ lw_all := lw_g (lw_at lw_m7 86 rfl) rfl
theorem q1571 : (Jvm.Cond.instanceMethod ({ cls := "BallotFoundryModel", name := "person", desc := "(II)I" } : Jvm.MethodName)) ∈ lw_all := lw_g (lw_at lw_m7 88 rfl) rfl
theorem q1572 : (Jvm.Cond.selects "BallotFoundryModel" ({ cls := "BallotFoundryModel", name := "person", desc := "(II)I" } : Jvm.MethodName) ({ cls := "BallotFoundryModel", name := "person", desc := "(II)I" } : Jvm.MethodName)) ∈ lw_all := lw_g (lw_at lw_m7 89 rfl) rfl
theorem q1573 : (Jvm.Cond.code ({ cls := "BallotFoundryModel", name := "person", desc := "(II)I" } : Jvm.MethodName) prog_14_method_19_code (3 : Nat) (Option.some Jvm.ClassFile.FieldType.int)) ∈ lw_all := lw_g (lw_at lw_m7 90 rfl) rfl
theorem q1574 : (Jvm.Cond.methodLink "BallotFoundryModel" (152 : Nat) ({ cls := "BallotFoundryModel", name := "comes", desc := "(II)V" } : Jvm.MethodName)) ∈ lw_all := lw_g (lw_at lw_m7 91 rfl) rfl
theorem q1575 : (Jvm.Cond.privateMethod ({ cls := "BallotFoundryModel", name := "comes", desc := "(II)V" } : Jvm.MethodName)) ∈ lw_tbl := lw_at lw_m7 92 rfl
theorem q1576 : (Jvm.Cond.instanceMethod ({ cls := "BallotFoundryModel", name := "comes", desc := "(II)V" } : Jvm.MethodName)) ∈ lw_all := lw_g (lw_at lw_m7 93 rfl) rfl
theorem q1577 : (Jvm.Cond.code ({ cls := "BallotFoundryModel", name := "comes", desc := "(II)V" } : Jvm.MethodName) prog_14_method_17_code (3 : Nat) (Option.none : Option Jvm.ClassFile.FieldType)) ∈ lw_all := lw_g (lw_at lw_m7 94 rfl) rfl
theorem q1579 : (Jvm.Cond.instanceMethod ({ cls := "BallotFoundryModel", name := "move", desc := "(II)I" } : Jvm.MethodName)) ∈ lw_all := lw_g (lw_at lw_m7 96 rfl) rfl
theorem q1580 : (Jvm.Cond.selects "BallotFoundryModel" ({ cls := "BallotFoundryModel", name := "move", desc := "(II)I" } : Jvm.MethodName) ({ cls := "BallotFoundryModel", name := "move", desc := "(II)I" } : Jvm.MethodName)) ∈ lw_all := lw_g (lw_at lw_m7 97 rfl) rfl
theorem q1581 : (Jvm.Cond.code ({ cls := "BallotFoundryModel", name := "move", desc := "(II)I" } : Jvm.MethodName) prog_14_method_20_code (5 : Nat) (Option.some Jvm.ClassFile.FieldType.int)) ∈ lw_all := lw_g (lw_at lw_m7 98 rfl) rfl
theorem q1582 : (Jvm.Cond.methodLink "BallotFoundryModel" (156 : Nat) ({ cls := "BallotFoundryModel", name := "isPerson", desc := "(I)Z" } : Jvm.MethodName)) ∈ lw_all := lw_g (lw_at lw_m7 99 rfl) rfl
theorem q1583 : (Jvm.Cond.privateMethod ({ cls := "BallotFoundryModel", name := "isPerson", desc := "(I)Z" } : Jvm.MethodName)) ∈ lw_tbl := lw_at lw_m7 100 rfl
theorem q1584 : (Jvm.Cond.instanceMethod ({ cls := "BallotFoundryModel", name := "isPerson", desc := "(I)Z" } : Jvm.MethodName)) ∈ lw_all := lw_g (lw_at lw_m7 101 rfl) rfl
theorem q1585 : (Jvm.Cond.code ({ cls := "BallotFoundryModel", name := "isPerson", desc := "(I)Z" } : Jvm.MethodName) prog_14_method_10_code (2 : Nat) (Option.some Jvm.ClassFile.FieldType.boolean)) ∈ lw_all := lw_g (lw_at lw_m7 102 rfl) rfl
theorem q1586 : (Jvm.Cond.methodLink "BallotFoundryModel" (159 : Nat) ({ cls := "BallotFoundryModel", name := "dwelt", desc := "(II)I" } : Jvm.MethodName)) ∈ lw_all := lw_g (lw_at lw_m7 103 rfl) rfl
theorem q1587 : (Jvm.Cond.privateMethod ({ cls := "BallotFoundryModel", name := "dwelt", desc := "(II)I" } : Jvm.MethodName)) ∈ lw_tbl := lw_at lw_m7 104 rfl
theorem q1588 : (Jvm.Cond.instanceMethod ({ cls := "BallotFoundryModel", name := "dwelt", desc := "(II)I" } : Jvm.MethodName)) ∈ lw_all := lw_g (lw_at lw_m7 105 rfl) rfl
theorem q1589 : (Jvm.Cond.code ({ cls := "BallotFoundryModel", name := "dwelt", desc := "(II)I" } : Jvm.MethodName) prog_14_method_18_code (5 : Nat) (Option.some Jvm.ClassFile.FieldType.int)) ∈ lw_all := lw_g (lw_at lw_m7 106 rfl) rfl
theorem q1591 : (Jvm.Cond.instanceMethod ({ cls := "BallotFoundryModel", name := "die", desc := "(I)Z" } : Jvm.MethodName)) ∈ lw_all := lw_g (lw_at lw_m7 108 rfl) rfl
theorem q1592 : (Jvm.Cond.selects "BallotFoundryModel" ({ cls := "BallotFoundryModel", name := "die", desc := "(I)Z" } : Jvm.MethodName) ({ cls := "BallotFoundryModel", name := "die", desc := "(I)Z" } : Jvm.MethodName)) ∈ lw_all := lw_g (lw_at lw_m7 109 rfl) rfl
theorem q1593 : (Jvm.Cond.code ({ cls := "BallotFoundryModel", name := "die", desc := "(I)Z" } : Jvm.MethodName) prog_14_method_24_code (3 : Nat) (Option.some Jvm.ClassFile.FieldType.boolean)) ∈ lw_all := lw_g (lw_at lw_m7 110 rfl) rfl
theorem q1594 : (Jvm.Cond.methodLink "BallotFoundryModel" (175 : Nat) ({ cls := "BallotFoundryModel", name := "voids", desc := "(I)Z" } : Jvm.MethodName)) ∈ lw_all := lw_g (lw_at lw_m7 111 rfl) rfl
theorem q1595 : (Jvm.Cond.privateMethod ({ cls := "BallotFoundryModel", name := "voids", desc := "(I)Z" } : Jvm.MethodName)) ∈ lw_tbl := lw_at lw_m7 112 rfl
theorem q1596 : (Jvm.Cond.instanceMethod ({ cls := "BallotFoundryModel", name := "voids", desc := "(I)Z" } : Jvm.MethodName)) ∈ lw_all := lw_g (lw_at lw_m7 113 rfl) rfl
theorem q1597 : (Jvm.Cond.code ({ cls := "BallotFoundryModel", name := "voids", desc := "(I)Z" } : Jvm.MethodName) prog_14_method_23_code (3 : Nat) (Option.some Jvm.ClassFile.FieldType.boolean)) ∈ lw_all := lw_g (lw_at lw_m7 114 rfl) rfl
theorem q1598 : (Jvm.Cond.methodLink "BallotFoundryModel" (168 : Nat) ({ cls := "BallotFoundryModel", name := "sealedOf", desc := "(I)I" } : Jvm.MethodName)) ∈ lw_all := lw_g (lw_at lw_m7 115 rfl) rfl
theorem q1599 : (Jvm.Cond.privateMethod ({ cls := "BallotFoundryModel", name := "sealedOf", desc := "(I)I" } : Jvm.MethodName)) ∈ lw_tbl := lw_at lw_m7 116 rfl
theorem q1600 : (Jvm.Cond.instanceMethod ({ cls := "BallotFoundryModel", name := "sealedOf", desc := "(I)I" } : Jvm.MethodName)) ∈ lw_all := lw_g (lw_at lw_m7 117 rfl) rfl
theorem q1601 : (Jvm.Cond.code ({ cls := "BallotFoundryModel", name := "sealedOf", desc := "(I)I" } : Jvm.MethodName) prog_14_method_22_code (4 : Nat) (Option.some Jvm.ClassFile.FieldType.int)) ∈ lw_all := lw_g (lw_at lw_m7 118 rfl) rfl
theorem q1602 : (Jvm.Cond.methodLink "BallotFoundryModel" (172 : Nat) ({ cls := "BallotFoundryModel", name := "notes", desc := "(III)V" } : Jvm.MethodName)) ∈ lw_all := lw_g (lw_at lw_m7 119 rfl) rfl
theorem q1603 : (Jvm.Cond.privateMethod ({ cls := "BallotFoundryModel", name := "notes", desc := "(III)V" } : Jvm.MethodName)) ∈ lw_tbl := lw_at lw_m7 120 rfl
theorem q1604 : (Jvm.Cond.instanceMethod ({ cls := "BallotFoundryModel", name := "notes", desc := "(III)V" } : Jvm.MethodName)) ∈ lw_all := lw_g (lw_at lw_m7 121 rfl) rfl
theorem q1605 : (Jvm.Cond.code ({ cls := "BallotFoundryModel", name := "notes", desc := "(III)V" } : Jvm.MethodName) prog_14_method_21_code (4 : Nat) (Option.none : Option Jvm.ClassFile.FieldType)) ∈ lw_all := lw_g (lw_at lw_m7 122 rfl) rfl
theorem q1607 : (Jvm.Cond.instanceMethod ({ cls := "BallotFoundryModel", name := "dwells", desc := "(II)I" } : Jvm.MethodName)) ∈ lw_all := lw_g (lw_at lw_m7 124 rfl) rfl
theorem q1608 : (Jvm.Cond.selects "BallotFoundryModel" ({ cls := "BallotFoundryModel", name := "dwells", desc := "(II)I" } : Jvm.MethodName) ({ cls := "BallotFoundryModel", name := "dwells", desc := "(II)I" } : Jvm.MethodName)) ∈ lw_all := lw_g (lw_at lw_m7 125 rfl) rfl
theorem q1609 : (Jvm.Cond.code ({ cls := "BallotFoundryModel", name := "dwells", desc := "(II)I" } : Jvm.MethodName) prog_14_method_25_code (3 : Nat) (Option.some Jvm.ClassFile.FieldType.int)) ∈ lw_all := lw_g (lw_at lw_m7 126 rfl) rfl
theorem q1611 : (Jvm.Cond.instanceMethod ({ cls := "BallotFoundryModel", name := "call", desc := "(IIZ)I" } : Jvm.MethodName)) ∈ lw_all := lw_g (lw_at lw_m7 128 rfl) rfl
theorem q1612 : (Jvm.Cond.selects "BallotFoundryModel" ({ cls := "BallotFoundryModel", name := "call", desc := "(IIZ)I" } : Jvm.MethodName) ({ cls := "BallotFoundryModel", name := "call", desc := "(IIZ)I" } : Jvm.MethodName)) ∈ lw_all := lw_g (lw_at lw_m7 129 rfl) rfl
theorem q1613 : (Jvm.Cond.code ({ cls := "BallotFoundryModel", name := "call", desc := "(IIZ)I" } : Jvm.MethodName) prog_14_method_27_code (5 : Nat) (Option.some Jvm.ClassFile.FieldType.int)) ∈ lw_all := lw_g (lw_at lw_m7 130 rfl) rfl
theorem q1615 : (Jvm.Cond.instanceMethod ({ cls := "BallotFoundryModel", name := "seed", desc := "(II)I" } : Jvm.MethodName)) ∈ lw_all := lw_g (lw_at lw_m7 132 rfl) rfl
theorem q1616 : (Jvm.Cond.selects "BallotFoundryModel" ({ cls := "BallotFoundryModel", name := "seed", desc := "(II)I" } : Jvm.MethodName) ({ cls := "BallotFoundryModel", name := "seed", desc := "(II)I" } : Jvm.MethodName)) ∈ lw_all := lw_g (lw_at lw_m7 133 rfl) rfl
theorem q1617 : (Jvm.Cond.code ({ cls := "BallotFoundryModel", name := "seed", desc := "(II)I" } : Jvm.MethodName) prog_14_method_28_code (5 : Nat) (Option.some Jvm.ClassFile.FieldType.int)) ∈ lw_all := lw_g (lw_at lw_m7 134 rfl) rfl
theorem q1619 : (Jvm.Cond.instanceMethod ({ cls := "BallotFoundryModel", name := "advance", desc := "(I)I" } : Jvm.MethodName)) ∈ lw_all := lw_g (lw_at lw_m7 136 rfl) rfl
theorem q1620 : (Jvm.Cond.selects "BallotFoundryModel" ({ cls := "BallotFoundryModel", name := "advance", desc := "(I)I" } : Jvm.MethodName) ({ cls := "BallotFoundryModel", name := "advance", desc := "(I)I" } : Jvm.MethodName)) ∈ lw_all := lw_g (lw_at lw_m7 137 rfl) rfl
theorem q1621 : (Jvm.Cond.code ({ cls := "BallotFoundryModel", name := "advance", desc := "(I)I" } : Jvm.MethodName) prog_14_method_33_code (4 : Nat) (Option.some Jvm.ClassFile.FieldType.int)) ∈ lw_all := lw_g (lw_at lw_m7 138 rfl) rfl
theorem q1622 : (Jvm.Cond.methodLink "BallotFoundryModel" (198 : Nat) ({ cls := "BallotFoundryModel", name := "makesRoll", desc := "()V" } : Jvm.MethodName)) ∈ lw_all := lw_g (lw_at lw_m7 139 rfl) rfl
theorem q1623 : (Jvm.Cond.privateMethod ({ cls := "BallotFoundryModel", name := "makesRoll", desc := "()V" } : Jvm.MethodName)) ∈ lw_tbl := lw_at lw_m7 140 rfl
theorem q1624 : (Jvm.Cond.instanceMethod ({ cls := "BallotFoundryModel", name := "makesRoll", desc := "()V" } : Jvm.MethodName)) ∈ lw_all := lw_g (lw_at lw_m7 141 rfl) rfl
theorem q1625 : (Jvm.Cond.code ({ cls := "BallotFoundryModel", name := "makesRoll", desc := "()V" } : Jvm.MethodName) prog_14_method_30_code (2 : Nat) (Option.none : Option Jvm.ClassFile.FieldType)) ∈ lw_all := lw_g (lw_at lw_m7 142 rfl) rfl
theorem q1626 : (Jvm.Cond.methodLink "BallotFoundryModel" (191 : Nat) ({ cls := "BallotFoundryModel", name := "stationFor", desc := "()I" } : Jvm.MethodName)) ∈ lw_all := lw_g (lw_at lw_m7 143 rfl) rfl
theorem q1627 : (Jvm.Cond.privateMethod ({ cls := "BallotFoundryModel", name := "stationFor", desc := "()I" } : Jvm.MethodName)) ∈ lw_tbl := lw_at lw_m7 144 rfl
theorem q1628 : (Jvm.Cond.instanceMethod ({ cls := "BallotFoundryModel", name := "stationFor", desc := "()I" } : Jvm.MethodName)) ∈ lw_all := lw_g (lw_at lw_m7 145 rfl) rfl
theorem q1629 : (Jvm.Cond.code ({ cls := "BallotFoundryModel", name := "stationFor", desc := "()I" } : Jvm.MethodName) prog_14_method_29_code (4 : Nat) (Option.some Jvm.ClassFile.FieldType.int)) ∈ lw_all := lw_g (lw_at lw_m7 146 rfl) rfl
theorem q1630 : (Jvm.Cond.methodLink "BallotFoundryModel" (201 : Nat) ({ cls := "BallotFoundryModel", name := "closes", desc := "()V" } : Jvm.MethodName)) ∈ lw_all := lw_g (lw_at lw_m7 147 rfl) rfl
theorem q1631 : (Jvm.Cond.privateMethod ({ cls := "BallotFoundryModel", name := "closes", desc := "()V" } : Jvm.MethodName)) ∈ lw_tbl := lw_at lw_m7 148 rfl
theorem q1632 : (Jvm.Cond.instanceMethod ({ cls := "BallotFoundryModel", name := "closes", desc := "()V" } : Jvm.MethodName)) ∈ lw_all := lw_g (lw_at lw_m7 149 rfl) rfl
theorem q1633 : (Jvm.Cond.code ({ cls := "BallotFoundryModel", name := "closes", desc := "()V" } : Jvm.MethodName) prog_14_method_32_code (2 : Nat) (Option.none : Option Jvm.ClassFile.FieldType)) ∈ lw_all := lw_g (lw_at lw_m7 150 rfl) rfl
theorem q1634 : (Jvm.Cond.methodLink "BallotFoundryModel" (195 : Nat) ({ cls := "BallotFoundryModel", name := "casts", desc := "(II)I" } : Jvm.MethodName)) ∈ lw_all := lw_g (lw_at lw_m7 151 rfl) rfl
theorem q1635 : (Jvm.Cond.privateMethod ({ cls := "BallotFoundryModel", name := "casts", desc := "(II)I" } : Jvm.MethodName)) ∈ lw_tbl := lw_at lw_m7 152 rfl
theorem q1636 : (Jvm.Cond.instanceMethod ({ cls := "BallotFoundryModel", name := "casts", desc := "(II)I" } : Jvm.MethodName)) ∈ lw_all := lw_g (lw_at lw_m7 153 rfl) rfl
theorem q1637 : (Jvm.Cond.code ({ cls := "BallotFoundryModel", name := "casts", desc := "(II)I" } : Jvm.MethodName) prog_14_method_31_code (4 : Nat) (Option.some Jvm.ClassFile.FieldType.int)) ∈ lw_all := lw_g (lw_at lw_m7 154 rfl) rfl
theorem q1639 : (Jvm.Cond.instanceMethod ({ cls := "BallotFoundryModel", name := "today", desc := "()I" } : Jvm.MethodName)) ∈ lw_all := lw_g (lw_at lw_m7 156 rfl) rfl
theorem q1640 : (Jvm.Cond.selects "BallotFoundryModel" ({ cls := "BallotFoundryModel", name := "today", desc := "()I" } : Jvm.MethodName) ({ cls := "BallotFoundryModel", name := "today", desc := "()I" } : Jvm.MethodName)) ∈ lw_all := lw_g (lw_at lw_m7 157 rfl) rfl
theorem q1641 : (Jvm.Cond.code ({ cls := "BallotFoundryModel", name := "today", desc := "()I" } : Jvm.MethodName) prog_14_method_34_code (1 : Nat) (Option.some Jvm.ClassFile.FieldType.int)) ∈ lw_all := lw_g (lw_at lw_m7 158 rfl) rfl
theorem q1642 : (Jvm.Cond.methodLink "BallotFoundryModel" (204 : Nat) ({ cls := "BallotFoundryModel", name := "told", desc := "(I)I" } : Jvm.MethodName)) ∈ lw_all := lw_g (lw_at lw_m7 159 rfl) rfl
theorem q1643 : (Jvm.Cond.privateMethod ({ cls := "BallotFoundryModel", name := "told", desc := "(I)I" } : Jvm.MethodName)) ∈ lw_tbl := lw_at lw_m7 160 rfl
theorem q1644 : (Jvm.Cond.instanceMethod ({ cls := "BallotFoundryModel", name := "told", desc := "(I)I" } : Jvm.MethodName)) ∈ lw_all := lw_g (lw_at lw_m7 161 rfl) rfl
theorem q1645 : (Jvm.Cond.code ({ cls := "BallotFoundryModel", name := "told", desc := "(I)I" } : Jvm.MethodName) prog_14_method_7_code (2 : Nat) (Option.some Jvm.ClassFile.FieldType.int)) ∈ lw_all := lw_g (lw_at lw_m7 162 rfl) rfl
theorem q1647 : (Jvm.Cond.instanceMethod ({ cls := "BallotFoundryModel", name := "stage", desc := "()I" } : Jvm.MethodName)) ∈ lw_all := lw_g (lw_at lw_m7 164 rfl) rfl
theorem q1648 : (Jvm.Cond.selects "BallotFoundryModel" ({ cls := "BallotFoundryModel", name := "stage", desc := "()I" } : Jvm.MethodName) ({ cls := "BallotFoundryModel", name := "stage", desc := "()I" } : Jvm.MethodName)) ∈ lw_all := lw_g (lw_at lw_m7 165 rfl) rfl
theorem q1649 : (Jvm.Cond.code ({ cls := "BallotFoundryModel", name := "stage", desc := "()I" } : Jvm.MethodName) prog_14_method_35_code (1 : Nat) (Option.some Jvm.ClassFile.FieldType.int)) ∈ lw_all := lw_g (lw_at lw_m7 166 rfl) rfl
theorem q1651 : (Jvm.Cond.instanceMethod ({ cls := "BallotFoundryModel", name := "isOnRoll", desc := "(I)Z" } : Jvm.MethodName)) ∈ lw_all := lw_g (lw_at lw_m7 168 rfl) rfl
theorem q1652 : (Jvm.Cond.selects "BallotFoundryModel" ({ cls := "BallotFoundryModel", name := "isOnRoll", desc := "(I)Z" } : Jvm.MethodName) ({ cls := "BallotFoundryModel", name := "isOnRoll", desc := "(I)Z" } : Jvm.MethodName)) ∈ lw_all := lw_g (lw_at lw_m7 169 rfl) rfl
theorem q1653 : (Jvm.Cond.code ({ cls := "BallotFoundryModel", name := "isOnRoll", desc := "(I)Z" } : Jvm.MethodName) prog_14_method_36_code (2 : Nat) (Option.some Jvm.ClassFile.FieldType.boolean)) ∈ lw_all := lw_g (lw_at lw_m7 170 rfl) rfl
theorem q1655 : (Jvm.Cond.instanceMethod ({ cls := "BallotFoundryModel", name := "stationOf", desc := "(I)I" } : Jvm.MethodName)) ∈ lw_all := lw_g (lw_at lw_m7 172 rfl) rfl
theorem q1656 : (Jvm.Cond.selects "BallotFoundryModel" ({ cls := "BallotFoundryModel", name := "stationOf", desc := "(I)I" } : Jvm.MethodName) ({ cls := "BallotFoundryModel", name := "stationOf", desc := "(I)I" } : Jvm.MethodName)) ∈ lw_all := lw_g (lw_at lw_m7 173 rfl) rfl
theorem q1657 : (Jvm.Cond.code ({ cls := "BallotFoundryModel", name := "stationOf", desc := "(I)I" } : Jvm.MethodName) prog_14_method_37_code (2 : Nat) (Option.some Jvm.ClassFile.FieldType.int)) ∈ lw_all := lw_g (lw_at lw_m7 174 rfl) rfl
theorem q1659 : (Jvm.Cond.instanceMethod ({ cls := "BallotFoundryModel", name := "peopleOf", desc := "(I)I" } : Jvm.MethodName)) ∈ lw_all := lw_g (lw_at lw_m7 176 rfl) rfl
theorem q1660 : (Jvm.Cond.selects "BallotFoundryModel" ({ cls := "BallotFoundryModel", name := "peopleOf", desc := "(I)I" } : Jvm.MethodName) ({ cls := "BallotFoundryModel", name := "peopleOf", desc := "(I)I" } : Jvm.MethodName)) ∈ lw_all := lw_g (lw_at lw_m7 177 rfl) rfl
theorem q1661 : (Jvm.Cond.code ({ cls := "BallotFoundryModel", name := "peopleOf", desc := "(I)I" } : Jvm.MethodName) prog_14_method_38_code (2 : Nat) (Option.some Jvm.ClassFile.FieldType.int)) ∈ lw_all := lw_g (lw_at lw_m7 178 rfl) rfl
theorem q1663 : (Jvm.Cond.instanceMethod ({ cls := "BallotFoundryModel", name := "early", desc := "(II)I" } : Jvm.MethodName)) ∈ lw_all := lw_g (lw_at lw_m7 180 rfl) rfl
theorem q1664 : (Jvm.Cond.selects "BallotFoundryModel" ({ cls := "BallotFoundryModel", name := "early", desc := "(II)I" } : Jvm.MethodName) ({ cls := "BallotFoundryModel", name := "early", desc := "(II)I" } : Jvm.MethodName)) ∈ lw_all := lw_g (lw_at lw_m7 181 rfl) rfl
theorem q1665 : (Jvm.Cond.code ({ cls := "BallotFoundryModel", name := "early", desc := "(II)I" } : Jvm.MethodName) prog_14_method_40_code (4 : Nat) (Option.some Jvm.ClassFile.FieldType.int)) ∈ lw_all := lw_g (lw_at lw_m7 182 rfl) rfl
theorem q1666 : (Jvm.Cond.methodLink "BallotFoundryModel" (207 : Nat) ({ cls := "BallotFoundryModel", name := "canVote", desc := "(I)Z" } : Jvm.MethodName)) ∈ lw_all := lw_g (lw_at lw_m7 183 rfl) rfl
theorem q1667 : (Jvm.Cond.privateMethod ({ cls := "BallotFoundryModel", name := "canVote", desc := "(I)Z" } : Jvm.MethodName)) ∈ lw_tbl := lw_at lw_m7 184 rfl
theorem q1668 : (Jvm.Cond.instanceMethod ({ cls := "BallotFoundryModel", name := "canVote", desc := "(I)Z" } : Jvm.MethodName)) ∈ lw_all := lw_g (lw_at lw_m7 185 rfl) rfl
theorem q1669 : (Jvm.Cond.code ({ cls := "BallotFoundryModel", name := "canVote", desc := "(I)Z" } : Jvm.MethodName) prog_14_method_39_code (2 : Nat) (Option.some Jvm.ClassFile.FieldType.boolean)) ∈ lw_all := lw_g (lw_at lw_m7 186 rfl) rfl
theorem q1671 : (Jvm.Cond.instanceMethod ({ cls := "BallotFoundryModel", name := "vote", desc := "(III)I" } : Jvm.MethodName)) ∈ lw_all := lw_g (lw_at lw_m7 188 rfl) rfl
theorem q1672 : (Jvm.Cond.selects "BallotFoundryModel" ({ cls := "BallotFoundryModel", name := "vote", desc := "(III)I" } : Jvm.MethodName) ({ cls := "BallotFoundryModel", name := "vote", desc := "(III)I" } : Jvm.MethodName)) ∈ lw_all := lw_g (lw_at lw_m7 189 rfl) rfl
theorem q1673 : (Jvm.Cond.code ({ cls := "BallotFoundryModel", name := "vote", desc := "(III)I" } : Jvm.MethodName) prog_14_method_41_code (5 : Nat) (Option.some Jvm.ClassFile.FieldType.int)) ∈ lw_all := lw_g (lw_at lw_m7 190 rfl) rfl
theorem q1675 : (Jvm.Cond.instanceMethod ({ cls := "BallotFoundryModel", name := "open", desc := "(I)I" } : Jvm.MethodName)) ∈ lw_all := lw_g (lw_at lw_m7 192 rfl) rfl
theorem q1676 : (Jvm.Cond.selects "BallotFoundryModel" ({ cls := "BallotFoundryModel", name := "open", desc := "(I)I" } : Jvm.MethodName) ({ cls := "BallotFoundryModel", name := "open", desc := "(I)I" } : Jvm.MethodName)) ∈ lw_all := lw_g (lw_at lw_m7 193 rfl) rfl
theorem q1677 : (Jvm.Cond.code ({ cls := "BallotFoundryModel", name := "open", desc := "(I)I" } : Jvm.MethodName) prog_14_method_42_code (4 : Nat) (Option.some Jvm.ClassFile.FieldType.int)) ∈ lw_all := lw_g (lw_at lw_m7 194 rfl) rfl
theorem q1679 : (Jvm.Cond.instanceMethod ({ cls := "BallotFoundryModel", name := "envelopes", desc := "()I" } : Jvm.MethodName)) ∈ lw_all := lw_g (lw_at lw_m7 196 rfl) rfl
theorem q1680 : (Jvm.Cond.selects "BallotFoundryModel" ({ cls := "BallotFoundryModel", name := "envelopes", desc := "()I" } : Jvm.MethodName) ({ cls := "BallotFoundryModel", name := "envelopes", desc := "()I" } : Jvm.MethodName)) ∈ lw_all := lw_g (lw_at lw_m7 197 rfl) rfl
theorem q1681 : (Jvm.Cond.code ({ cls := "BallotFoundryModel", name := "envelopes", desc := "()I" } : Jvm.MethodName) prog_14_method_43_code (1 : Nat) (Option.some Jvm.ClassFile.FieldType.int)) ∈ lw_all := lw_g (lw_at lw_m7 198 rfl) rfl
theorem q1683 : (Jvm.Cond.instanceMethod ({ cls := "BallotFoundryModel", name := "stateOf", desc := "(I)I" } : Jvm.MethodName)) ∈ lw_all := lw_g (lw_at lw_m7 200 rfl) rfl
theorem q1684 : (Jvm.Cond.selects "BallotFoundryModel" ({ cls := "BallotFoundryModel", name := "stateOf", desc := "(I)I" } : Jvm.MethodName) ({ cls := "BallotFoundryModel", name := "stateOf", desc := "(I)I" } : Jvm.MethodName)) ∈ lw_all := lw_g (lw_at lw_m7 201 rfl) rfl
theorem q1685 : (Jvm.Cond.code ({ cls := "BallotFoundryModel", name := "stateOf", desc := "(I)I" } : Jvm.MethodName) prog_14_method_44_code (2 : Nat) (Option.some Jvm.ClassFile.FieldType.int)) ∈ lw_all := lw_g (lw_at lw_m7 202 rfl) rfl
theorem q1687 : (Jvm.Cond.instanceMethod ({ cls := "BallotFoundryModel", name := "personOf", desc := "(I)I" } : Jvm.MethodName)) ∈ lw_all := lw_g (lw_at lw_m7 204 rfl) rfl
theorem q1688 : (Jvm.Cond.selects "BallotFoundryModel" ({ cls := "BallotFoundryModel", name := "personOf", desc := "(I)I" } : Jvm.MethodName) ({ cls := "BallotFoundryModel", name := "personOf", desc := "(I)I" } : Jvm.MethodName)) ∈ lw_all := lw_g (lw_at lw_m7 205 rfl) rfl
theorem q1689 : (Jvm.Cond.code ({ cls := "BallotFoundryModel", name := "personOf", desc := "(I)I" } : Jvm.MethodName) prog_14_method_45_code (2 : Nat) (Option.some Jvm.ClassFile.FieldType.int)) ∈ lw_all := lw_g (lw_at lw_m7 206 rfl) rfl
theorem q1691 : (Jvm.Cond.instanceMethod ({ cls := "BallotFoundryModel", name := "ballots", desc := "(I)I" } : Jvm.MethodName)) ∈ lw_all := lw_g (lw_at lw_m7 208 rfl) rfl
theorem q1692 : (Jvm.Cond.selects "BallotFoundryModel" ({ cls := "BallotFoundryModel", name := "ballots", desc := "(I)I" } : Jvm.MethodName) ({ cls := "BallotFoundryModel", name := "ballots", desc := "(I)I" } : Jvm.MethodName)) ∈ lw_all := lw_g (lw_at lw_m7 209 rfl) rfl
theorem q1693 : (Jvm.Cond.code ({ cls := "BallotFoundryModel", name := "ballots", desc := "(I)I" } : Jvm.MethodName) prog_14_method_46_code (2 : Nat) (Option.some Jvm.ClassFile.FieldType.int)) ∈ lw_all := lw_g (lw_at lw_m7 210 rfl) rfl
theorem q1695 : (Jvm.Cond.instanceMethod ({ cls := "BallotFoundryModel", name := "setSlip", desc := "(II)I" } : Jvm.MethodName)) ∈ lw_all := lw_g (lw_at lw_m7 212 rfl) rfl
theorem q1696 : (Jvm.Cond.selects "BallotFoundryModel" ({ cls := "BallotFoundryModel", name := "setSlip", desc := "(II)I" } : Jvm.MethodName) ({ cls := "BallotFoundryModel", name := "setSlip", desc := "(II)I" } : Jvm.MethodName)) ∈ lw_all := lw_g (lw_at lw_m7 213 rfl) rfl
theorem q1697 : (Jvm.Cond.code ({ cls := "BallotFoundryModel", name := "setSlip", desc := "(II)I" } : Jvm.MethodName) prog_14_method_47_code (4 : Nat) (Option.some Jvm.ClassFile.FieldType.int)) ∈ lw_all := lw_g (lw_at lw_m7 214 rfl) rfl
theorem q1699 : (Jvm.Cond.instanceMethod ({ cls := "BallotFoundryModel", name := "count", desc := "(II)Z" } : Jvm.MethodName)) ∈ lw_all := lw_g (lw_at lw_m7 216 rfl) rfl
theorem q1700 : (Jvm.Cond.selects "BallotFoundryModel" ({ cls := "BallotFoundryModel", name := "count", desc := "(II)Z" } : Jvm.MethodName) ({ cls := "BallotFoundryModel", name := "count", desc := "(II)Z" } : Jvm.MethodName)) ∈ lw_all := lw_g (lw_at lw_m7 217 rfl) rfl
theorem q1701 : (Jvm.Cond.code ({ cls := "BallotFoundryModel", name := "count", desc := "(II)Z" } : Jvm.MethodName) prog_14_method_49_code (7 : Nat) (Option.some Jvm.ClassFile.FieldType.boolean)) ∈ lw_all := lw_g (lw_at lw_m7 218 rfl) rfl
theorem q1702 : (Jvm.Cond.methodLink "BallotFoundryModel" (210 : Nat) ({ cls := "BallotFoundryModel", name := "areAlike", desc := "(II)Z" } : Jvm.MethodName)) ∈ lw_all := lw_g (lw_at lw_m7 219 rfl) rfl
theorem q1703 : (Jvm.Cond.privateMethod ({ cls := "BallotFoundryModel", name := "areAlike", desc := "(II)Z" } : Jvm.MethodName)) ∈ lw_tbl := lw_at lw_m7 220 rfl
theorem q1704 : (Jvm.Cond.instanceMethod ({ cls := "BallotFoundryModel", name := "areAlike", desc := "(II)Z" } : Jvm.MethodName)) ∈ lw_all := lw_g (lw_at lw_m7 221 rfl) rfl
theorem q1705 : (Jvm.Cond.code ({ cls := "BallotFoundryModel", name := "areAlike", desc := "(II)Z" } : Jvm.MethodName) prog_14_method_48_code (5 : Nat) (Option.some Jvm.ClassFile.FieldType.boolean)) ∈ lw_all := lw_g (lw_at lw_m7 222 rfl) rfl
theorem q1707 : (Jvm.Cond.instanceMethod ({ cls := "BallotFoundryModel", name := "recount", desc := "(I)I" } : Jvm.MethodName)) ∈ lw_all := lw_g (lw_at lw_m7 224 rfl) rfl
theorem q1708 : (Jvm.Cond.selects "BallotFoundryModel" ({ cls := "BallotFoundryModel", name := "recount", desc := "(I)I" } : Jvm.MethodName) ({ cls := "BallotFoundryModel", name := "recount", desc := "(I)I" } : Jvm.MethodName)) ∈ lw_all := lw_g (lw_at lw_m7 225 rfl) rfl
theorem q1709 : (Jvm.Cond.code ({ cls := "BallotFoundryModel", name := "recount", desc := "(I)I" } : Jvm.MethodName) prog_14_method_50_code (4 : Nat) (Option.some Jvm.ClassFile.FieldType.int)) ∈ lw_all := lw_g (lw_at lw_m7 226 rfl) rfl
theorem q1711 : (Jvm.Cond.instanceMethod ({ cls := "BallotFoundryModel", name := "isSettled", desc := "(I)Z" } : Jvm.MethodName)) ∈ lw_all := lw_g (lw_at lw_m7 228 rfl) rfl
theorem q1712 : (Jvm.Cond.selects "BallotFoundryModel" ({ cls := "BallotFoundryModel", name := "isSettled", desc := "(I)Z" } : Jvm.MethodName) ({ cls := "BallotFoundryModel", name := "isSettled", desc := "(I)Z" } : Jvm.MethodName)) ∈ lw_all := lw_g (lw_at lw_m7 229 rfl) rfl
theorem q1713 : (Jvm.Cond.code ({ cls := "BallotFoundryModel", name := "isSettled", desc := "(I)Z" } : Jvm.MethodName) prog_14_method_51_code (2 : Nat) (Option.some Jvm.ClassFile.FieldType.boolean)) ∈ lw_all := lw_g (lw_at lw_m7 230 rfl) rfl
theorem q1715 : (Jvm.Cond.instanceMethod ({ cls := "BallotFoundryModel", name := "numberOf", desc := "(II)I" } : Jvm.MethodName)) ∈ lw_all := lw_g (lw_at lw_m7 232 rfl) rfl
theorem q1716 : (Jvm.Cond.selects "BallotFoundryModel" ({ cls := "BallotFoundryModel", name := "numberOf", desc := "(II)I" } : Jvm.MethodName) ({ cls := "BallotFoundryModel", name := "numberOf", desc := "(II)I" } : Jvm.MethodName)) ∈ lw_all := lw_g (lw_at lw_m7 233 rfl) rfl
theorem q1717 : (Jvm.Cond.code ({ cls := "BallotFoundryModel", name := "numberOf", desc := "(II)I" } : Jvm.MethodName) prog_14_method_52_code (3 : Nat) (Option.some Jvm.ClassFile.FieldType.int)) ∈ lw_all := lw_g (lw_at lw_m7 234 rfl) rfl
theorem q1719 : (Jvm.Cond.instanceMethod ({ cls := "BallotFoundryModel", name := "misread", desc := "(I)I" } : Jvm.MethodName)) ∈ lw_all := lw_g (lw_at lw_m7 236 rfl) rfl
theorem q1720 : (Jvm.Cond.selects "BallotFoundryModel" ({ cls := "BallotFoundryModel", name := "misread", desc := "(I)I" } : Jvm.MethodName) ({ cls := "BallotFoundryModel", name := "misread", desc := "(I)I" } : Jvm.MethodName)) ∈ lw_all := lw_g (lw_at lw_m7 237 rfl) rfl
theorem q1721 : (Jvm.Cond.code ({ cls := "BallotFoundryModel", name := "misread", desc := "(I)I" } : Jvm.MethodName) prog_14_method_54_code (5 : Nat) (Option.some Jvm.ClassFile.FieldType.int)) ∈ lw_all := lw_g (lw_at lw_m7 238 rfl) rfl
theorem q1722 : (Jvm.Cond.methodLink "BallotFoundryModel" (214 : Nat) ({ cls := "BallotFoundryModel", name := "inBox", desc := "(II)I" } : Jvm.MethodName)) ∈ lw_all := lw_g (lw_at lw_m7 239 rfl) rfl
theorem q1723 : (Jvm.Cond.privateMethod ({ cls := "BallotFoundryModel", name := "inBox", desc := "(II)I" } : Jvm.MethodName)) ∈ lw_tbl := lw_at lw_m8 0 rfl
theorem q1724 : (Jvm.Cond.instanceMethod ({ cls := "BallotFoundryModel", name := "inBox", desc := "(II)I" } : Jvm.MethodName)) ∈ lw_all := lw_g (lw_at lw_m8 1 rfl) rfl
theorem q1725 : (Jvm.Cond.code ({ cls := "BallotFoundryModel", name := "inBox", desc := "(II)I" } : Jvm.MethodName) prog_14_method_53_code (5 : Nat) (Option.some Jvm.ClassFile.FieldType.int)) ∈ lw_all := lw_g (lw_at lw_m8 2 rfl) rfl
theorem q1727 : (Jvm.Cond.instanceMethod ({ cls := "BallotFoundryModel", name := "votes", desc := "(I)I" } : Jvm.MethodName)) ∈ lw_all := lw_g (lw_at lw_m8 4 rfl) rfl
theorem q1728 : (Jvm.Cond.selects "BallotFoundryModel" ({ cls := "BallotFoundryModel", name := "votes", desc := "(I)I" } : Jvm.MethodName) ({ cls := "BallotFoundryModel", name := "votes", desc := "(I)I" } : Jvm.MethodName)) ∈ lw_all := lw_g (lw_at lw_m8 5 rfl) rfl
theorem q1729 : (Jvm.Cond.code ({ cls := "BallotFoundryModel", name := "votes", desc := "(I)I" } : Jvm.MethodName) prog_14_method_60_code (2 : Nat) (Option.some Jvm.ClassFile.FieldType.int)) ∈ lw_all := lw_g (lw_at lw_m8 6 rfl) rfl
theorem q1730 : (Jvm.Cond.methodLink "BallotFoundryModel" (234 : Nat) ({ cls := "BallotFoundryModel", name := "isParty", desc := "(I)Z" } : Jvm.MethodName)) ∈ lw_all := lw_g (lw_at lw_m8 7 rfl) rfl
theorem q1731 : (Jvm.Cond.static ({ cls := "BallotFoundryModel", name := "isParty", desc := "(I)Z" } : Jvm.MethodName)) ∈ lw_all := lw_g (lw_at lw_m8 8 rfl) rfl
theorem q1732 : (Jvm.Cond.code ({ cls := "BallotFoundryModel", name := "isParty", desc := "(I)Z" } : Jvm.MethodName) prog_14_method_59_code (1 : Nat) (Option.some Jvm.ClassFile.FieldType.boolean)) ∈ lw_all := lw_g (lw_at lw_m8 9 rfl) rfl
theorem q1733 : (Jvm.Cond.methodLink "BallotFoundryModel" (237 : Nat) ({ cls := "BallotFoundryModel", name := "done", desc := "()Z" } : Jvm.MethodName)) ∈ lw_all := lw_g (lw_at lw_m8 10 rfl) rfl
theorem q1734 : (Jvm.Cond.privateMethod ({ cls := "BallotFoundryModel", name := "done", desc := "()Z" } : Jvm.MethodName)) ∈ lw_tbl := lw_at lw_m8 11 rfl
theorem q1735 : (Jvm.Cond.instanceMethod ({ cls := "BallotFoundryModel", name := "done", desc := "()Z" } : Jvm.MethodName)) ∈ lw_all := lw_g (lw_at lw_m8 12 rfl) rfl
theorem q1736 : (Jvm.Cond.code ({ cls := "BallotFoundryModel", name := "done", desc := "()Z" } : Jvm.MethodName) prog_14_method_58_code (1 : Nat) (Option.some Jvm.ClassFile.FieldType.boolean)) ∈ lw_all := lw_g (lw_at lw_m8 13 rfl) rfl
theorem q1737 : (Jvm.Cond.methodLink "BallotFoundryModel" (230 : Nat) ({ cls := "BallotFoundryModel", name := "gives", desc := "(Z)V" } : Jvm.MethodName)) ∈ lw_all := lw_g (lw_at lw_m8 14 rfl) rfl
theorem q1738 : (Jvm.Cond.privateMethod ({ cls := "BallotFoundryModel", name := "gives", desc := "(Z)V" } : Jvm.MethodName)) ∈ lw_tbl := lw_at lw_m8 15 rfl
theorem q1739 : (Jvm.Cond.instanceMethod ({ cls := "BallotFoundryModel", name := "gives", desc := "(Z)V" } : Jvm.MethodName)) ∈ lw_all := lw_g (lw_at lw_m8 16 rfl) rfl
theorem q1740 : (Jvm.Cond.code ({ cls := "BallotFoundryModel", name := "gives", desc := "(Z)V" } : Jvm.MethodName) prog_14_method_57_code (8 : Nat) (Option.none : Option Jvm.ClassFile.FieldType)) ∈ lw_all := lw_g (lw_at lw_m8 17 rfl) rfl
theorem q1741 : (Jvm.Cond.methodLink "BallotFoundryModel" (226 : Nat) ({ cls := "BallotFoundryModel", name := "beyond", desc := "(II)I" } : Jvm.MethodName)) ∈ lw_all := lw_g (lw_at lw_m8 18 rfl) rfl
theorem q1742 : (Jvm.Cond.privateMethod ({ cls := "BallotFoundryModel", name := "beyond", desc := "(II)I" } : Jvm.MethodName)) ∈ lw_tbl := lw_at lw_m8 19 rfl
theorem q1743 : (Jvm.Cond.instanceMethod ({ cls := "BallotFoundryModel", name := "beyond", desc := "(II)I" } : Jvm.MethodName)) ∈ lw_all := lw_g (lw_at lw_m8 20 rfl) rfl
theorem q1744 : (Jvm.Cond.code ({ cls := "BallotFoundryModel", name := "beyond", desc := "(II)I" } : Jvm.MethodName) prog_14_method_56_code (3 : Nat) (Option.some Jvm.ClassFile.FieldType.int)) ∈ lw_all := lw_g (lw_at lw_m8 21 rfl) rfl
theorem q1745 : (Jvm.Cond.methodLink "BallotFoundryModel" (217 : Nat) ({ cls := "BallotFoundryModel", name := "divisor", desc := "(I)I" } : Jvm.MethodName)) ∈ lw_all := lw_g (lw_at lw_m8 22 rfl) rfl
theorem q1746 : (Jvm.Cond.privateMethod ({ cls := "BallotFoundryModel", name := "divisor", desc := "(I)I" } : Jvm.MethodName)) ∈ lw_tbl := lw_at lw_m8 23 rfl
theorem q1747 : (Jvm.Cond.instanceMethod ({ cls := "BallotFoundryModel", name := "divisor", desc := "(I)I" } : Jvm.MethodName)) ∈ lw_all := lw_g (lw_at lw_m8 24 rfl) rfl
theorem q1748 : (Jvm.Cond.code ({ cls := "BallotFoundryModel", name := "divisor", desc := "(I)I" } : Jvm.MethodName) prog_14_method_55_code (2 : Nat) (Option.some Jvm.ClassFile.FieldType.int)) ∈ lw_all := lw_g (lw_at lw_m8 25 rfl) rfl
theorem q1749 : (Jvm.Cond.constant "BallotFoundryModel" (229 : Nat) (65536 : Int32)) ∈ lw_all := lw_g (lw_at lw_m8 26 rfl) rfl
theorem q1751 : (Jvm.Cond.instanceMethod ({ cls := "BallotFoundryModel", name := "seats", desc := "(I)I" } : Jvm.MethodName)) ∈ lw_all := lw_g (lw_at lw_m8 28 rfl) rfl
theorem q1752 : (Jvm.Cond.selects "BallotFoundryModel" ({ cls := "BallotFoundryModel", name := "seats", desc := "(I)I" } : Jvm.MethodName) ({ cls := "BallotFoundryModel", name := "seats", desc := "(I)I" } : Jvm.MethodName)) ∈ lw_all := lw_g (lw_at lw_m8 29 rfl) rfl
theorem q1753 : (Jvm.Cond.code ({ cls := "BallotFoundryModel", name := "seats", desc := "(I)I" } : Jvm.MethodName) prog_14_method_61_code (2 : Nat) (Option.some Jvm.ClassFile.FieldType.int)) ∈ lw_all := lw_g (lw_at lw_m8 30 rfl) rfl
theorem q1755 : (Jvm.Cond.instanceMethod ({ cls := "BallotFoundryModel", name := "seatAt", desc := "(I)I" } : Jvm.MethodName)) ∈ lw_all := lw_g (lw_at lw_m8 32 rfl) rfl
theorem q1756 : (Jvm.Cond.selects "BallotFoundryModel" ({ cls := "BallotFoundryModel", name := "seatAt", desc := "(I)I" } : Jvm.MethodName) ({ cls := "BallotFoundryModel", name := "seatAt", desc := "(I)I" } : Jvm.MethodName)) ∈ lw_all := lw_g (lw_at lw_m8 33 rfl) rfl
theorem q1757 : (Jvm.Cond.code ({ cls := "BallotFoundryModel", name := "seatAt", desc := "(I)I" } : Jvm.MethodName) prog_14_method_62_code (2 : Nat) (Option.some Jvm.ClassFile.FieldType.int)) ∈ lw_all := lw_g (lw_at lw_m8 34 rfl) rfl
theorem q1759 : (Jvm.Cond.instanceMethod ({ cls := "BallotFoundryModel", name := "lots", desc := "()I" } : Jvm.MethodName)) ∈ lw_all := lw_g (lw_at lw_m8 36 rfl) rfl
theorem q1760 : (Jvm.Cond.selects "BallotFoundryModel" ({ cls := "BallotFoundryModel", name := "lots", desc := "()I" } : Jvm.MethodName) ({ cls := "BallotFoundryModel", name := "lots", desc := "()I" } : Jvm.MethodName)) ∈ lw_all := lw_g (lw_at lw_m8 37 rfl) rfl
theorem q1761 : (Jvm.Cond.code ({ cls := "BallotFoundryModel", name := "lots", desc := "()I" } : Jvm.MethodName) prog_14_method_63_code (1 : Nat) (Option.some Jvm.ClassFile.FieldType.int)) ∈ lw_all := lw_g (lw_at lw_m8 38 rfl) rfl
theorem q1763 : (Jvm.Cond.instanceMethod ({ cls := "BallotFoundryModel", name := "seatsByBallots", desc := "(I)I" } : Jvm.MethodName)) ∈ lw_all := lw_g (lw_at lw_m8 40 rfl) rfl
theorem q1764 : (Jvm.Cond.selects "BallotFoundryModel" ({ cls := "BallotFoundryModel", name := "seatsByBallots", desc := "(I)I" } : Jvm.MethodName) ({ cls := "BallotFoundryModel", name := "seatsByBallots", desc := "(I)I" } : Jvm.MethodName)) ∈ lw_all := lw_g (lw_at lw_m8 41 rfl) rfl
theorem q1765 : (Jvm.Cond.code ({ cls := "BallotFoundryModel", name := "seatsByBallots", desc := "(I)I" } : Jvm.MethodName) prog_14_method_64_code (2 : Nat) (Option.some Jvm.ClassFile.FieldType.int)) ∈ lw_all := lw_g (lw_at lw_m8 42 rfl) rfl
theorem q1767 : (Jvm.Cond.instanceMethod ({ cls := "BallotFoundryModel", name := "notes", desc := "()I" } : Jvm.MethodName)) ∈ lw_all := lw_g (lw_at lw_m8 44 rfl) rfl
theorem q1768 : (Jvm.Cond.selects "BallotFoundryModel" ({ cls := "BallotFoundryModel", name := "notes", desc := "()I" } : Jvm.MethodName) ({ cls := "BallotFoundryModel", name := "notes", desc := "()I" } : Jvm.MethodName)) ∈ lw_all := lw_g (lw_at lw_m8 45 rfl) rfl
theorem q1769 : (Jvm.Cond.code ({ cls := "BallotFoundryModel", name := "notes", desc := "()I" } : Jvm.MethodName) prog_14_method_65_code (1 : Nat) (Option.some Jvm.ClassFile.FieldType.int)) ∈ lw_all := lw_g (lw_at lw_m8 46 rfl) rfl
theorem q1771 : (Jvm.Cond.instanceMethod ({ cls := "BallotFoundryModel", name := "signAt", desc := "(II)I" } : Jvm.MethodName)) ∈ lw_all := lw_g (lw_at lw_m8 48 rfl) rfl
theorem q1772 : (Jvm.Cond.selects "BallotFoundryModel" ({ cls := "BallotFoundryModel", name := "signAt", desc := "(II)I" } : Jvm.MethodName) ({ cls := "BallotFoundryModel", name := "signAt", desc := "(II)I" } : Jvm.MethodName)) ∈ lw_all := lw_g (lw_at lw_m8 49 rfl) rfl
theorem q1773 : (Jvm.Cond.code ({ cls := "BallotFoundryModel", name := "signAt", desc := "(II)I" } : Jvm.MethodName) prog_14_method_68_code (4 : Nat) (Option.some Jvm.ClassFile.FieldType.int)) ∈ lw_all := lw_g (lw_at lw_m8 50 rfl) rfl
theorem q1774 : (Jvm.Cond.methodLink "BallotFoundryModel" (241 : Nat) ({ cls := "BallotFoundryModel", name := "digits", desc := "(I)I" } : Jvm.MethodName)) ∈ lw_all := lw_g (lw_at lw_m8 51 rfl) rfl
theorem q1775 : (Jvm.Cond.static ({ cls := "BallotFoundryModel", name := "digits", desc := "(I)I" } : Jvm.MethodName)) ∈ lw_all := lw_g (lw_at lw_m8 52 rfl) rfl
theorem q1776 : (Jvm.Cond.code ({ cls := "BallotFoundryModel", name := "digits", desc := "(I)I" } : Jvm.MethodName) prog_14_method_66_code (3 : Nat) (Option.some Jvm.ClassFile.FieldType.int)) ∈ lw_all := lw_g (lw_at lw_m8 53 rfl) rfl
theorem q1777 : (Jvm.Cond.methodLink "BallotFoundryModel" (244 : Nat) ({ cls := "BallotFoundryModel", name := "digitAt", desc := "(II)I" } : Jvm.MethodName)) ∈ lw_all := lw_g (lw_at lw_m8 54 rfl) rfl
theorem q1778 : (Jvm.Cond.static ({ cls := "BallotFoundryModel", name := "digitAt", desc := "(II)I" } : Jvm.MethodName)) ∈ lw_all := lw_g (lw_at lw_m8 55 rfl) rfl
theorem q1779 : (Jvm.Cond.code ({ cls := "BallotFoundryModel", name := "digitAt", desc := "(II)I" } : Jvm.MethodName) prog_14_method_67_code (4 : Nat) (Option.some Jvm.ClassFile.FieldType.int)) ∈ lw_all := lw_g (lw_at lw_m8 56 rfl) rfl
theorem q1796 : (Jvm.Cond.castable "BallotFoundryModel" "java/lang/Object") ∈ lw_tbl := lw_at lw_m8 73 rfl
theorem in_X2 : ∀ w ∈ wsX20, w ∈ lw_all := lw_in wsX20 [1432, 1434, 1436, 1438, 1440, 1442, 1444, 1446, 1448, 1450, 1452, 1454, 1456, 1458, 1460, 1462, 1464, 1466, 1468, 1470, 1472, 1474, 1476, 1478, 1480, 1482, 1484, 1486, 1488, 1490, 1492, 1494, 1496, 1498, 1500, 1502, 1504, 1506, 1508, 1510, 1512, 1514, 1516, 1518] (by decide +kernel) (by decide +kernel)
