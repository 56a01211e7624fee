/-! BallotFoundry -/
set_option maxRecDepth 100000
def RX1 : String := "BallotFoundry"
def TX1 : u_T := fun k => match k with
  | 0 => ("BallotFoundry", "isBarred", "[Z", true)
  | 1 => ("BallotFoundry", "people", "Ljava/util/List;", true)
  | 2 => ("BallotFoundry", "stations", "Ljava/util/List;", true)
  | 3 => ("BallotFoundry", "slips", "[I", true)
  | 4 => ("BallotFoundry", "election", "LBallotFoundry$Election;", false)
  | 5 => ("BallotFoundry", "today", "I", false)
  | 6 => ("BallotFoundry", "ways", "[I", true)
  | _ => ("BallotFoundry", "reached", "[I", true)
def tyX1 : Nat → FieldType := fun k => match k with
  | 0 => .array .boolean
  | 1 => .object "java/util/List"
  | 2 => .object "java/util/List"
  | 3 => .array .int
  | 4 => .object "BallotFoundry$Election"
  | 5 => .int
  | 6 => .array .int
  | _ => .array .int
abbrev wsX10 : List Cond := u_ws RX1 TX1 8
theorem nmX1 : ∀ a, a < 8 → ∀ b, b < 8 → a ≠ b → (TX1 a).2.1 ≠ (TX1 b).2.1 := by decide +kernel
theorem tyX1_ok : ∀ k, k < 8 → parseFieldDescriptor (TX1 k).2.2.1 = some (tyX1 k) := by decide +kernel
abbrev cX1_init : ByteArray := prog_1_method_1_code
def yX1_init : MethodName := ⟨RX1, "<init>", "()V"⟩
def dkwX1_init_2 : List UInt8 := [181, 0, 27, 42, 16, 36, 188, 10, 181, 0, 30, 177]
abbrev dktX1_init_2 : List UInt8 := dkwX1_init_2 ++ []
def dkwX1_init_1 : List UInt8 := [187, 0, 13, 89, 183, 0, 15, 181, 0, 20, 42, 7, 188, 10, 181, 0, 23, 42, 16, 36, 188, 10]
abbrev dktX1_init_1 : List UInt8 := dkwX1_init_1 ++ dktX1_init_2
def dkwX1_init_0 : List UInt8 := [42, 183, 0, 1, 42, 16, 72, 188, 4, 181, 0, 9, 42, 187, 0, 13, 89, 183, 0, 15, 181, 0, 16, 42]
abbrev dktX1_init_0 : List UInt8 := dkwX1_init_0 ++ dktX1_init_1
theorem dksX1_init_0 : cX1_init.data.toList.drop 0 = dktX1_init_0 := by decide +kernel
theorem dksX1_init_1 : cX1_init.data.toList.drop 24 = dktX1_init_1 := dk_seg dksX1_init_0 24 rfl rfl
theorem dksX1_init_2 : cX1_init.data.toList.drop 46 = dktX1_init_2 := dk_seg dksX1_init_1 22 rfl rfl
theorem dX1_init_0 : decode cX1_init 0 = .ok (.aload_n 0, 1) := dk_42 (dk_at dksX1_init_0 0 rfl rfl)
theorem dX1_init_1 : decode cX1_init 1 = .ok (.invokespecial 1, 3) := dk_183 0 1 (dk_at dksX1_init_0 1 rfl rfl)
theorem dX1_init_4 : decode cX1_init 4 = .ok (.aload_n 0, 1) := dk_42 (dk_at dksX1_init_0 4 rfl rfl)
theorem dX1_init_5 : decode cX1_init 5 = .ok (.bipush 72, 2) := dk_16 72 (dk_at dksX1_init_0 5 rfl rfl)
theorem dX1_init_7 : decode cX1_init 7 = .ok (.newarray .boolean, 2) := dk_188_4 (dk_at dksX1_init_0 7 rfl rfl)
theorem dX1_init_9 : decode cX1_init 9 = .ok (.putfield 9, 3) := dk_181 0 9 (dk_at dksX1_init_0 9 rfl rfl)
theorem dX1_init_12 : decode cX1_init 12 = .ok (.aload_n 0, 1) := dk_42 (dk_at dksX1_init_0 12 rfl rfl)
theorem dX1_init_13 : decode cX1_init 13 = .ok (.new 13, 3) := dk_187 0 13 (dk_at dksX1_init_0 13 rfl rfl)
theorem dX1_init_16 : decode cX1_init 16 = .ok (.dup, 1) := dk_89 (dk_at dksX1_init_0 16 rfl rfl)
theorem dX1_init_17 : decode cX1_init 17 = .ok (.invokespecial 15, 3) := dk_183 0 15 (dk_at dksX1_init_0 17 rfl rfl)
theorem dX1_init_20 : decode cX1_init 20 = .ok (.putfield 16, 3) := dk_181 0 16 (dk_at dksX1_init_0 20 rfl rfl)
theorem dX1_init_23 : decode cX1_init 23 = .ok (.aload_n 0, 1) := dk_42 (dk_at dksX1_init_0 23 rfl rfl)
theorem dX1_init_24 : decode cX1_init 24 = .ok (.new 13, 3) := dk_187 0 13 (dk_at dksX1_init_1 0 rfl rfl)
theorem dX1_init_27 : decode cX1_init 27 = .ok (.dup, 1) := dk_89 (dk_at dksX1_init_1 3 rfl rfl)
theorem dX1_init_28 : decode cX1_init 28 = .ok (.invokespecial 15, 3) := dk_183 0 15 (dk_at dksX1_init_1 4 rfl rfl)
theorem dX1_init_31 : decode cX1_init 31 = .ok (.putfield 20, 3) := dk_181 0 20 (dk_at dksX1_init_1 7 rfl rfl)
theorem dX1_init_34 : decode cX1_init 34 = .ok (.aload_n 0, 1) := dk_42 (dk_at dksX1_init_1 10 rfl rfl)
theorem dX1_init_35 : decode cX1_init 35 = .ok (.iconst 4, 1) := dk_7 (dk_at dksX1_init_1 11 rfl rfl)
theorem dX1_init_36 : decode cX1_init 36 = .ok (.newarray .int, 2) := dk_188_10 (dk_at dksX1_init_1 12 rfl rfl)
theorem dX1_init_38 : decode cX1_init 38 = .ok (.putfield 23, 3) := dk_181 0 23 (dk_at dksX1_init_1 14 rfl rfl)
theorem dX1_init_41 : decode cX1_init 41 = .ok (.aload_n 0, 1) := dk_42 (dk_at dksX1_init_1 17 rfl rfl)
theorem dX1_init_42 : decode cX1_init 42 = .ok (.bipush 36, 2) := dk_16 36 (dk_at dksX1_init_1 18 rfl rfl)
theorem dX1_init_44 : decode cX1_init 44 = .ok (.newarray .int, 2) := dk_188_10 (dk_at dksX1_init_1 20 rfl rfl)
theorem dX1_init_46 : decode cX1_init 46 = .ok (.putfield 27, 3) := dk_181 0 27 (dk_at dksX1_init_2 0 rfl rfl)
theorem dX1_init_49 : decode cX1_init 49 = .ok (.aload_n 0, 1) := dk_42 (dk_at dksX1_init_2 3 rfl rfl)
theorem dX1_init_50 : decode cX1_init 50 = .ok (.bipush 36, 2) := dk_16 36 (dk_at dksX1_init_2 4 rfl rfl)
theorem dX1_init_52 : decode cX1_init 52 = .ok (.newarray .int, 2) := dk_188_10 (dk_at dksX1_init_2 6 rfl rfl)
theorem dX1_init_54 : decode cX1_init 54 = .ok (.putfield 30, 3) := dk_181 0 30 (dk_at dksX1_init_2 8 rfl rfl)
theorem dX1_init_57 : decode cX1_init 57 = .ok (.return_, 1) := dk_177 (dk_at dksX1_init_2 11 rfl rfl)
abbrev cX1_today : ByteArray := prog_1_method_24_code
def yX1_today : MethodName := ⟨RX1, "today", "()I"⟩
theorem dX1_today_0 : decode cX1_today 0 = .ok (.aload_n 0, 1) := by decide +kernel
theorem dX1_today_1 : decode cX1_today 1 = .ok (.getfield 110, 3) := by decide +kernel
theorem dX1_today_4 : decode cX1_today 4 = .ok (.ireturn, 1) := by decide +kernel
abbrev cX1_stage : ByteArray := prog_1_method_25_code
def yX1_stage : MethodName := ⟨RX1, "stage", "()I"⟩
def dkwX1_stage_0 : List UInt8 := [42, 180, 0, 58, 199, 0, 7, 3, 167, 0, 10, 42, 180, 0, 58, 180, 0, 170, 172]
abbrev dktX1_stage_0 : List UInt8 := dkwX1_stage_0 ++ []
theorem dksX1_stage_0 : cX1_stage.data.toList.drop 0 = dktX1_stage_0 := by decide +kernel
theorem dX1_stage_0 : decode cX1_stage 0 = .ok (.aload_n 0, 1) := dk_42 (dk_at dksX1_stage_0 0 rfl rfl)
theorem dX1_stage_1 : decode cX1_stage 1 = .ok (.getfield 58, 3) := dk_180 0 58 (dk_at dksX1_stage_0 1 rfl rfl)
theorem dX1_stage_4 : decode cX1_stage 4 = .ok (.ifnonnull 7, 3) := dk_199 0 7 (dk_at dksX1_stage_0 4 rfl rfl)
theorem dX1_stage_7 : decode cX1_stage 7 = .ok (.iconst 0, 1) := dk_3 (dk_at dksX1_stage_0 7 rfl rfl)
theorem dX1_stage_8 : decode cX1_stage 8 = .ok (.goto 10, 3) := dk_167 0 10 (dk_at dksX1_stage_0 8 rfl rfl)
theorem dX1_stage_11 : decode cX1_stage 11 = .ok (.aload_n 0, 1) := dk_42 (dk_at dksX1_stage_0 11 rfl rfl)
theorem dX1_stage_12 : decode cX1_stage 12 = .ok (.getfield 58, 3) := dk_180 0 58 (dk_at dksX1_stage_0 12 rfl rfl)
theorem dX1_stage_15 : decode cX1_stage 15 = .ok (.getfield 170, 3) := dk_180 0 170 (dk_at dksX1_stage_0 15 rfl rfl)
theorem dX1_stage_18 : decode cX1_stage 18 = .ok (.ireturn, 1) := dk_172 (dk_at dksX1_stage_0 18 rfl rfl)
abbrev cX1_envelopes : ByteArray := prog_1_method_34_code
def yX1_envelopes : MethodName := ⟨RX1, "envelopes", "()I"⟩
def dkwX1_envelopes_0 : List UInt8 := [42, 180, 0, 58, 199, 0, 7, 3, 167, 0, 15, 42, 180, 0, 58, 180, 0, 193, 185, 0, 42, 1, 0, 172]
abbrev dktX1_envelopes_0 : List UInt8 := dkwX1_envelopes_0 ++ []
theorem dksX1_envelopes_0 : cX1_envelopes.data.toList.drop 0 = dktX1_envelopes_0 := by decide +kernel
theorem dX1_envelopes_0 : decode cX1_envelopes 0 = .ok (.aload_n 0, 1) := dk_42 (dk_at dksX1_envelopes_0 0 rfl rfl)
theorem dX1_envelopes_1 : decode cX1_envelopes 1 = .ok (.getfield 58, 3) := dk_180 0 58 (dk_at dksX1_envelopes_0 1 rfl rfl)
theorem dX1_envelopes_4 : decode cX1_envelopes 4 = .ok (.ifnonnull 7, 3) := dk_199 0 7 (dk_at dksX1_envelopes_0 4 rfl rfl)
theorem dX1_envelopes_7 : decode cX1_envelopes 7 = .ok (.iconst 0, 1) := dk_3 (dk_at dksX1_envelopes_0 7 rfl rfl)
theorem dX1_envelopes_8 : decode cX1_envelopes 8 = .ok (.goto 15, 3) := dk_167 0 15 (dk_at dksX1_envelopes_0 8 rfl rfl)
theorem dX1_envelopes_11 : decode cX1_envelopes 11 = .ok (.aload_n 0, 1) := dk_42 (dk_at dksX1_envelopes_0 11 rfl rfl)
theorem dX1_envelopes_12 : decode cX1_envelopes 12 = .ok (.getfield 58, 3) := dk_180 0 58 (dk_at dksX1_envelopes_0 12 rfl rfl)
theorem dX1_envelopes_15 : decode cX1_envelopes 15 = .ok (.getfield 193, 3) := dk_180 0 193 (dk_at dksX1_envelopes_0 15 rfl rfl)
theorem dX1_envelopes_18 : decode cX1_envelopes 18 = .ok (.invokeinterface 42 1, 5) := by decide +kernel
theorem dX1_envelopes_23 : decode cX1_envelopes 23 = .ok (.ireturn, 1) := dk_172 (dk_at dksX1_envelopes_0 23 rfl rfl)
abbrev cX1_lots : ByteArray := prog_1_method_49_code
def yX1_lots : MethodName := ⟨RX1, "lots", "()I"⟩
def dkwX1_lots_0 : List UInt8 := [42, 182, 1, 21, 76, 43, 199, 0, 7, 2, 167, 0, 7, 43, 180, 1, 36, 172]
abbrev dktX1_lots_0 : List UInt8 := dkwX1_lots_0 ++ []
theorem dksX1_lots_0 : cX1_lots.data.toList.drop 0 = dktX1_lots_0 := by decide +kernel
theorem dX1_lots_0 : decode cX1_lots 0 = .ok (.aload_n 0, 1) := dk_42 (dk_at dksX1_lots_0 0 rfl rfl)
theorem dX1_lots_1 : decode cX1_lots 1 = .ok (.invokevirtual 277, 3) := dk_182 1 21 (dk_at dksX1_lots_0 1 rfl rfl)
theorem dX1_lots_4 : decode cX1_lots 4 = .ok (.astore_n 1, 1) := dk_76 (dk_at dksX1_lots_0 4 rfl rfl)
theorem dX1_lots_5 : decode cX1_lots 5 = .ok (.aload_n 1, 1) := dk_43 (dk_at dksX1_lots_0 5 rfl rfl)
theorem dX1_lots_6 : decode cX1_lots 6 = .ok (.ifnonnull 7, 3) := dk_199 0 7 (dk_at dksX1_lots_0 6 rfl rfl)
theorem dX1_lots_9 : decode cX1_lots 9 = .ok (.iconst (-1), 1) := dk_2 (dk_at dksX1_lots_0 9 rfl rfl)
theorem dX1_lots_10 : decode cX1_lots 10 = .ok (.goto 7, 3) := dk_167 0 7 (dk_at dksX1_lots_0 10 rfl rfl)
theorem dX1_lots_13 : decode cX1_lots 13 = .ok (.aload_n 1, 1) := dk_43 (dk_at dksX1_lots_0 13 rfl rfl)
theorem dX1_lots_14 : decode cX1_lots 14 = .ok (.getfield 292, 3) := dk_180 1 36 (dk_at dksX1_lots_0 14 rfl rfl)
theorem dX1_lots_17 : decode cX1_lots 17 = .ok (.ireturn, 1) := dk_172 (dk_at dksX1_lots_0 17 rfl rfl)
abbrev cX1_house : ByteArray := prog_1_method_45_code
def yX1_house : MethodName := ⟨RX1, "house", "()LBallotFoundry$House;"⟩
def dkwX1_house_1 : List UInt8 := [176]
abbrev dktX1_house_1 : List UInt8 := dkwX1_house_1 ++ []
def dkwX1_house_0 : List UInt8 := [42, 182, 0, 137, 8, 160, 0, 18, 187, 1, 16, 89, 42, 180, 0, 58, 3, 183, 1, 18, 167, 0, 4, 1]
abbrev dktX1_house_0 : List UInt8 := dkwX1_house_0 ++ dktX1_house_1
theorem dksX1_house_0 : cX1_house.data.toList.drop 0 = dktX1_house_0 := by decide +kernel
theorem dksX1_house_1 : cX1_house.data.toList.drop 24 = dktX1_house_1 := dk_seg dksX1_house_0 24 rfl rfl
theorem dX1_house_0 : decode cX1_house 0 = .ok (.aload_n 0, 1) := dk_42 (dk_at dksX1_house_0 0 rfl rfl)
theorem dX1_house_1 : decode cX1_house 1 = .ok (.invokevirtual 137, 3) := dk_182 0 137 (dk_at dksX1_house_0 1 rfl rfl)
theorem dX1_house_4 : decode cX1_house 4 = .ok (.iconst 5, 1) := dk_8 (dk_at dksX1_house_0 4 rfl rfl)
theorem dX1_house_5 : decode cX1_house 5 = .ok (.if_icmp .ne 18, 3) := dk_160 0 18 (dk_at dksX1_house_0 5 rfl rfl)
theorem dX1_house_8 : decode cX1_house 8 = .ok (.new 272, 3) := dk_187 1 16 (dk_at dksX1_house_0 8 rfl rfl)
theorem dX1_house_11 : decode cX1_house 11 = .ok (.dup, 1) := dk_89 (dk_at dksX1_house_0 11 rfl rfl)
theorem dX1_house_12 : decode cX1_house 12 = .ok (.aload_n 0, 1) := dk_42 (dk_at dksX1_house_0 12 rfl rfl)
theorem dX1_house_13 : decode cX1_house 13 = .ok (.getfield 58, 3) := dk_180 0 58 (dk_at dksX1_house_0 13 rfl rfl)
theorem dX1_house_16 : decode cX1_house 16 = .ok (.iconst 0, 1) := dk_3 (dk_at dksX1_house_0 16 rfl rfl)
theorem dX1_house_17 : decode cX1_house 17 = .ok (.invokespecial 274, 3) := dk_183 1 18 (dk_at dksX1_house_0 17 rfl rfl)
theorem dX1_house_20 : decode cX1_house 20 = .ok (.goto 4, 3) := dk_167 0 4 (dk_at dksX1_house_0 20 rfl rfl)
theorem dX1_house_23 : decode cX1_house 23 = .ok (.aconst_null, 1) := dk_1 (dk_at dksX1_house_0 23 rfl rfl)
theorem dX1_house_24 : decode cX1_house 24 = .ok (.areturn, 1) := dk_176 (dk_at dksX1_house_1 0 rfl rfl)
abbrev cX1_notes : ByteArray := prog_1_method_51_code
def yX1_notes : MethodName := ⟨RX1, "notes", "()I"⟩
def dkwX1_notes_0 : List UInt8 := [42, 180, 0, 58, 199, 0, 7, 3, 167, 0, 15, 42, 180, 0, 58, 180, 1, 39, 185, 0, 42, 1, 0, 172]
abbrev dktX1_notes_0 : List UInt8 := dkwX1_notes_0 ++ []
theorem dksX1_notes_0 : cX1_notes.data.toList.drop 0 = dktX1_notes_0 := by decide +kernel
theorem dX1_notes_0 : decode cX1_notes 0 = .ok (.aload_n 0, 1) := dk_42 (dk_at dksX1_notes_0 0 rfl rfl)
theorem dX1_notes_1 : decode cX1_notes 1 = .ok (.getfield 58, 3) := dk_180 0 58 (dk_at dksX1_notes_0 1 rfl rfl)
theorem dX1_notes_4 : decode cX1_notes 4 = .ok (.ifnonnull 7, 3) := dk_199 0 7 (dk_at dksX1_notes_0 4 rfl rfl)
theorem dX1_notes_7 : decode cX1_notes 7 = .ok (.iconst 0, 1) := dk_3 (dk_at dksX1_notes_0 7 rfl rfl)
theorem dX1_notes_8 : decode cX1_notes 8 = .ok (.goto 15, 3) := dk_167 0 15 (dk_at dksX1_notes_0 8 rfl rfl)
theorem dX1_notes_11 : decode cX1_notes 11 = .ok (.aload_n 0, 1) := dk_42 (dk_at dksX1_notes_0 11 rfl rfl)
theorem dX1_notes_12 : decode cX1_notes 12 = .ok (.getfield 58, 3) := dk_180 0 58 (dk_at dksX1_notes_0 12 rfl rfl)
theorem dX1_notes_15 : decode cX1_notes 15 = .ok (.getfield 295, 3) := dk_180 1 39 (dk_at dksX1_notes_0 15 rfl rfl)
theorem dX1_notes_18 : decode cX1_notes 18 = .ok (.invokeinterface 42 1, 5) := by decide +kernel
theorem dX1_notes_23 : decode cX1_notes 23 = .ok (.ireturn, 1) := dk_172 (dk_at dksX1_notes_0 23 rfl rfl)
abbrev cX1_bar : ByteArray := prog_1_method_9_code
def yX1_bar : MethodName := ⟨RX1, "bar", "(IIZ)Z"⟩
def dkwX1_bar_2 : List UInt8 := [180, 0, 9, 21, 4, 51, 54, 5, 42, 180, 0, 9, 21, 4, 29, 84, 21, 5, 172]
abbrev dktX1_bar_2 : List UInt8 := dkwX1_bar_2 ++ []
def dkwX1_bar_1 : List UInt8 := [27, 28, 184, 0, 79, 54, 4, 21, 4, 2, 159, 0, 7, 4, 167, 0, 4, 3, 184, 0, 82, 42]
abbrev dktX1_bar_1 : List UInt8 := dkwX1_bar_1 ++ dktX1_bar_2
def dkwX1_bar_0 : List UInt8 := [7, 188, 10, 89, 3, 27, 79, 89, 4, 16, 36, 79, 89, 5, 28, 79, 89, 6, 16, 36, 79, 184, 0, 48]
abbrev dktX1_bar_0 : List UInt8 := dkwX1_bar_0 ++ dktX1_bar_1
theorem dksX1_bar_0 : cX1_bar.data.toList.drop 0 = dktX1_bar_0 := by decide +kernel
theorem dksX1_bar_1 : cX1_bar.data.toList.drop 24 = dktX1_bar_1 := dk_seg dksX1_bar_0 24 rfl rfl
theorem dksX1_bar_2 : cX1_bar.data.toList.drop 46 = dktX1_bar_2 := dk_seg dksX1_bar_1 22 rfl rfl
theorem dX1_bar_0 : decode cX1_bar 0 = .ok (.iconst 4, 1) := dk_7 (dk_at dksX1_bar_0 0 rfl rfl)
theorem dX1_bar_1 : decode cX1_bar 1 = .ok (.newarray .int, 2) := dk_188_10 (dk_at dksX1_bar_0 1 rfl rfl)
theorem dX1_bar_3 : decode cX1_bar 3 = .ok (.dup, 1) := dk_89 (dk_at dksX1_bar_0 3 rfl rfl)
theorem dX1_bar_4 : decode cX1_bar 4 = .ok (.iconst 0, 1) := dk_3 (dk_at dksX1_bar_0 4 rfl rfl)
theorem dX1_bar_5 : decode cX1_bar 5 = .ok (.iload_n 1, 1) := dk_27 (dk_at dksX1_bar_0 5 rfl rfl)
theorem dX1_bar_6 : decode cX1_bar 6 = .ok (.iastore, 1) := dk_79 (dk_at dksX1_bar_0 6 rfl rfl)
theorem dX1_bar_7 : decode cX1_bar 7 = .ok (.dup, 1) := dk_89 (dk_at dksX1_bar_0 7 rfl rfl)
theorem dX1_bar_8 : decode cX1_bar 8 = .ok (.iconst 1, 1) := dk_4 (dk_at dksX1_bar_0 8 rfl rfl)
theorem dX1_bar_9 : decode cX1_bar 9 = .ok (.bipush 36, 2) := dk_16 36 (dk_at dksX1_bar_0 9 rfl rfl)
theorem dX1_bar_11 : decode cX1_bar 11 = .ok (.iastore, 1) := dk_79 (dk_at dksX1_bar_0 11 rfl rfl)
theorem dX1_bar_12 : decode cX1_bar 12 = .ok (.dup, 1) := dk_89 (dk_at dksX1_bar_0 12 rfl rfl)
theorem dX1_bar_13 : decode cX1_bar 13 = .ok (.iconst 2, 1) := dk_5 (dk_at dksX1_bar_0 13 rfl rfl)
theorem dX1_bar_14 : decode cX1_bar 14 = .ok (.iload_n 2, 1) := dk_28 (dk_at dksX1_bar_0 14 rfl rfl)
theorem dX1_bar_15 : decode cX1_bar 15 = .ok (.iastore, 1) := dk_79 (dk_at dksX1_bar_0 15 rfl rfl)
theorem dX1_bar_16 : decode cX1_bar 16 = .ok (.dup, 1) := dk_89 (dk_at dksX1_bar_0 16 rfl rfl)
theorem dX1_bar_17 : decode cX1_bar 17 = .ok (.iconst 3, 1) := dk_6 (dk_at dksX1_bar_0 17 rfl rfl)
theorem dX1_bar_18 : decode cX1_bar 18 = .ok (.bipush 36, 2) := dk_16 36 (dk_at dksX1_bar_0 18 rfl rfl)
theorem dX1_bar_20 : decode cX1_bar 20 = .ok (.iastore, 1) := dk_79 (dk_at dksX1_bar_0 20 rfl rfl)
theorem dX1_bar_21 : decode cX1_bar 21 = .ok (.invokestatic 48, 3) := dk_184 0 48 (dk_at dksX1_bar_0 21 rfl rfl)
theorem dX1_bar_24 : decode cX1_bar 24 = .ok (.iload_n 1, 1) := dk_27 (dk_at dksX1_bar_1 0 rfl rfl)
theorem dX1_bar_25 : decode cX1_bar 25 = .ok (.iload_n 2, 1) := dk_28 (dk_at dksX1_bar_1 1 rfl rfl)
theorem dX1_bar_26 : decode cX1_bar 26 = .ok (.invokestatic 79, 3) := dk_184 0 79 (dk_at dksX1_bar_1 2 rfl rfl)
theorem dX1_bar_29 : decode cX1_bar 29 = .ok (.istore 4, 2) := dk_54 4 (dk_at dksX1_bar_1 5 rfl rfl)
theorem dX1_bar_31 : decode cX1_bar 31 = .ok (.iload 4, 2) := dk_21 4 (dk_at dksX1_bar_1 7 rfl rfl)
theorem dX1_bar_33 : decode cX1_bar 33 = .ok (.iconst (-1), 1) := dk_2 (dk_at dksX1_bar_1 9 rfl rfl)
theorem dX1_bar_34 : decode cX1_bar 34 = .ok (.if_icmp .eq 7, 3) := dk_159 0 7 (dk_at dksX1_bar_1 10 rfl rfl)
theorem dX1_bar_37 : decode cX1_bar 37 = .ok (.iconst 1, 1) := dk_4 (dk_at dksX1_bar_1 13 rfl rfl)
theorem dX1_bar_38 : decode cX1_bar 38 = .ok (.goto 4, 3) := dk_167 0 4 (dk_at dksX1_bar_1 14 rfl rfl)
theorem dX1_bar_41 : decode cX1_bar 41 = .ok (.iconst 0, 1) := dk_3 (dk_at dksX1_bar_1 17 rfl rfl)
theorem dX1_bar_42 : decode cX1_bar 42 = .ok (.invokestatic 82, 3) := dk_184 0 82 (dk_at dksX1_bar_1 18 rfl rfl)
theorem dX1_bar_45 : decode cX1_bar 45 = .ok (.aload_n 0, 1) := dk_42 (dk_at dksX1_bar_1 21 rfl rfl)
theorem dX1_bar_46 : decode cX1_bar 46 = .ok (.getfield 9, 3) := dk_180 0 9 (dk_at dksX1_bar_2 0 rfl rfl)
theorem dX1_bar_49 : decode cX1_bar 49 = .ok (.iload 4, 2) := dk_21 4 (dk_at dksX1_bar_2 3 rfl rfl)
theorem dX1_bar_51 : decode cX1_bar 51 = .ok (.baload, 1) := dk_51 (dk_at dksX1_bar_2 5 rfl rfl)
theorem dX1_bar_52 : decode cX1_bar 52 = .ok (.istore 5, 2) := dk_54 5 (dk_at dksX1_bar_2 6 rfl rfl)
theorem dX1_bar_54 : decode cX1_bar 54 = .ok (.aload_n 0, 1) := dk_42 (dk_at dksX1_bar_2 8 rfl rfl)
theorem dX1_bar_55 : decode cX1_bar 55 = .ok (.getfield 9, 3) := dk_180 0 9 (dk_at dksX1_bar_2 9 rfl rfl)
theorem dX1_bar_58 : decode cX1_bar 58 = .ok (.iload 4, 2) := dk_21 4 (dk_at dksX1_bar_2 12 rfl rfl)
theorem dX1_bar_60 : decode cX1_bar 60 = .ok (.iload_n 3, 1) := dk_29 (dk_at dksX1_bar_2 14 rfl rfl)
theorem dX1_bar_61 : decode cX1_bar 61 = .ok (.bastore, 1) := dk_84 (dk_at dksX1_bar_2 15 rfl rfl)
theorem dX1_bar_62 : decode cX1_bar 62 = .ok (.iload 5, 2) := dk_21 5 (dk_at dksX1_bar_2 16 rfl rfl)
theorem dX1_bar_64 : decode cX1_bar 64 = .ok (.ireturn, 1) := dk_172 (dk_at dksX1_bar_2 18 rfl rfl)
abbrev cX1_exist : ByteArray := prog_1_method_4_code
def yX1_exist : MethodName := ⟨RX1, "exist", "([I)V"⟩
def dkwX1_exist_1 : List UInt8 := [161, 0, 11, 187, 0, 39, 89, 183, 0, 41, 191, 132, 1, 2, 167, 255, 222, 177]
abbrev dktX1_exist_1 : List UInt8 := dkwX1_exist_1 ++ []
def dkwX1_exist_0 : List UInt8 := [3, 60, 27, 42, 190, 162, 0, 34, 42, 27, 46, 155, 0, 14, 42, 27, 46, 42, 27, 4, 96, 46]
abbrev dktX1_exist_0 : List UInt8 := dkwX1_exist_0 ++ dktX1_exist_1
theorem dksX1_exist_0 : cX1_exist.data.toList.drop 0 = dktX1_exist_0 := by decide +kernel
theorem dksX1_exist_1 : cX1_exist.data.toList.drop 22 = dktX1_exist_1 := dk_seg dksX1_exist_0 22 rfl rfl
theorem dX1_exist_0 : decode cX1_exist 0 = .ok (.iconst 0, 1) := dk_3 (dk_at dksX1_exist_0 0 rfl rfl)
theorem dX1_exist_1 : decode cX1_exist 1 = .ok (.istore_n 1, 1) := dk_60 (dk_at dksX1_exist_0 1 rfl rfl)
theorem dX1_exist_2 : decode cX1_exist 2 = .ok (.iload_n 1, 1) := dk_27 (dk_at dksX1_exist_0 2 rfl rfl)
theorem dX1_exist_3 : decode cX1_exist 3 = .ok (.aload_n 0, 1) := dk_42 (dk_at dksX1_exist_0 3 rfl rfl)
theorem dX1_exist_4 : decode cX1_exist 4 = .ok (.arraylength, 1) := dk_190 (dk_at dksX1_exist_0 4 rfl rfl)
theorem dX1_exist_5 : decode cX1_exist 5 = .ok (.if_icmp .ge 34, 3) := dk_162 0 34 (dk_at dksX1_exist_0 5 rfl rfl)
theorem dX1_exist_8 : decode cX1_exist 8 = .ok (.aload_n 0, 1) := dk_42 (dk_at dksX1_exist_0 8 rfl rfl)
theorem dX1_exist_9 : decode cX1_exist 9 = .ok (.iload_n 1, 1) := dk_27 (dk_at dksX1_exist_0 9 rfl rfl)
theorem dX1_exist_10 : decode cX1_exist 10 = .ok (.iaload, 1) := dk_46 (dk_at dksX1_exist_0 10 rfl rfl)
theorem dX1_exist_11 : decode cX1_exist 11 = .ok (.ifCond .lt 14, 3) := dk_155 0 14 (dk_at dksX1_exist_0 11 rfl rfl)
theorem dX1_exist_14 : decode cX1_exist 14 = .ok (.aload_n 0, 1) := dk_42 (dk_at dksX1_exist_0 14 rfl rfl)
theorem dX1_exist_15 : decode cX1_exist 15 = .ok (.iload_n 1, 1) := dk_27 (dk_at dksX1_exist_0 15 rfl rfl)
theorem dX1_exist_16 : decode cX1_exist 16 = .ok (.iaload, 1) := dk_46 (dk_at dksX1_exist_0 16 rfl rfl)
theorem dX1_exist_17 : decode cX1_exist 17 = .ok (.aload_n 0, 1) := dk_42 (dk_at dksX1_exist_0 17 rfl rfl)
theorem dX1_exist_18 : decode cX1_exist 18 = .ok (.iload_n 1, 1) := dk_27 (dk_at dksX1_exist_0 18 rfl rfl)
theorem dX1_exist_19 : decode cX1_exist 19 = .ok (.iconst 1, 1) := dk_4 (dk_at dksX1_exist_0 19 rfl rfl)
theorem dX1_exist_20 : decode cX1_exist 20 = .ok (.iadd, 1) := dk_96 (dk_at dksX1_exist_0 20 rfl rfl)
theorem dX1_exist_21 : decode cX1_exist 21 = .ok (.iaload, 1) := dk_46 (dk_at dksX1_exist_0 21 rfl rfl)
theorem dX1_exist_22 : decode cX1_exist 22 = .ok (.if_icmp .lt 11, 3) := dk_161 0 11 (dk_at dksX1_exist_1 0 rfl rfl)
theorem dX1_exist_25 : decode cX1_exist 25 = .ok (.new 39, 3) := dk_187 0 39 (dk_at dksX1_exist_1 3 rfl rfl)
theorem dX1_exist_28 : decode cX1_exist 28 = .ok (.dup, 1) := dk_89 (dk_at dksX1_exist_1 6 rfl rfl)
theorem dX1_exist_29 : decode cX1_exist 29 = .ok (.invokespecial 41, 3) := dk_183 0 41 (dk_at dksX1_exist_1 7 rfl rfl)
theorem dX1_exist_32 : decode cX1_exist 32 = .ok (.athrow, 1) := dk_191 (dk_at dksX1_exist_1 10 rfl rfl)
theorem dX1_exist_33 : decode cX1_exist 33 = .ok (.iinc 1 2, 3) := dk_132 1 2 (dk_at dksX1_exist_1 11 rfl rfl)
theorem dX1_exist_36 : decode cX1_exist 36 = .ok (.goto (-34), 3) := dk_167 255 222 (dk_at dksX1_exist_1 14 rfl rfl)
theorem dX1_exist_39 : decode cX1_exist 39 = .ok (.return_, 1) := dk_177 (dk_at dksX1_exist_1 17 rfl rfl)
abbrev cX1_street : ByteArray := prog_1_method_8_code
def yX1_street : MethodName := ⟨RX1, "street", "(II)I"⟩
def dkwX1_street_1 : List UInt8 := [172, 29, 28, 100, 4, 160, 0, 14, 29, 16, 6, 112, 153, 0, 7, 28, 167, 0, 4, 2, 172]
abbrev dktX1_street_1 : List UInt8 := dkwX1_street_1 ++ []
def dkwX1_street_0 : List UInt8 := [26, 27, 184, 0, 70, 61, 26, 27, 184, 0, 76, 62, 29, 28, 100, 16, 6, 160, 0, 8, 16, 36, 28, 96]
abbrev dktX1_street_0 : List UInt8 := dkwX1_street_0 ++ dktX1_street_1
theorem dksX1_street_0 : cX1_street.data.toList.drop 0 = dktX1_street_0 := by decide +kernel
theorem dksX1_street_1 : cX1_street.data.toList.drop 24 = dktX1_street_1 := dk_seg dksX1_street_0 24 rfl rfl
theorem dX1_street_0 : decode cX1_street 0 = .ok (.iload_n 0, 1) := dk_26 (dk_at dksX1_street_0 0 rfl rfl)
theorem dX1_street_1 : decode cX1_street 1 = .ok (.iload_n 1, 1) := dk_27 (dk_at dksX1_street_0 1 rfl rfl)
theorem dX1_street_2 : decode cX1_street 2 = .ok (.invokestatic 70, 3) := dk_184 0 70 (dk_at dksX1_street_0 2 rfl rfl)
theorem dX1_street_5 : decode cX1_street 5 = .ok (.istore_n 2, 1) := dk_61 (dk_at dksX1_street_0 5 rfl rfl)
theorem dX1_street_6 : decode cX1_street 6 = .ok (.iload_n 0, 1) := dk_26 (dk_at dksX1_street_0 6 rfl rfl)
theorem dX1_street_7 : decode cX1_street 7 = .ok (.iload_n 1, 1) := dk_27 (dk_at dksX1_street_0 7 rfl rfl)
theorem dX1_street_8 : decode cX1_street 8 = .ok (.invokestatic 76, 3) := dk_184 0 76 (dk_at dksX1_street_0 8 rfl rfl)
theorem dX1_street_11 : decode cX1_street 11 = .ok (.istore_n 3, 1) := dk_62 (dk_at dksX1_street_0 11 rfl rfl)
theorem dX1_street_12 : decode cX1_street 12 = .ok (.iload_n 3, 1) := dk_29 (dk_at dksX1_street_0 12 rfl rfl)
theorem dX1_street_13 : decode cX1_street 13 = .ok (.iload_n 2, 1) := dk_28 (dk_at dksX1_street_0 13 rfl rfl)
theorem dX1_street_14 : decode cX1_street 14 = .ok (.isub, 1) := dk_100 (dk_at dksX1_street_0 14 rfl rfl)
theorem dX1_street_15 : decode cX1_street 15 = .ok (.bipush 6, 2) := dk_16 6 (dk_at dksX1_street_0 15 rfl rfl)
theorem dX1_street_17 : decode cX1_street 17 = .ok (.if_icmp .ne 8, 3) := dk_160 0 8 (dk_at dksX1_street_0 17 rfl rfl)
theorem dX1_street_20 : decode cX1_street 20 = .ok (.bipush 36, 2) := dk_16 36 (dk_at dksX1_street_0 20 rfl rfl)
theorem dX1_street_22 : decode cX1_street 22 = .ok (.iload_n 2, 1) := dk_28 (dk_at dksX1_street_0 22 rfl rfl)
theorem dX1_street_23 : decode cX1_street 23 = .ok (.iadd, 1) := dk_96 (dk_at dksX1_street_0 23 rfl rfl)
theorem dX1_street_24 : decode cX1_street 24 = .ok (.ireturn, 1) := dk_172 (dk_at dksX1_street_1 0 rfl rfl)
theorem dX1_street_25 : decode cX1_street 25 = .ok (.iload_n 3, 1) := dk_29 (dk_at dksX1_street_1 1 rfl rfl)
theorem dX1_street_26 : decode cX1_street 26 = .ok (.iload_n 2, 1) := dk_28 (dk_at dksX1_street_1 2 rfl rfl)
theorem dX1_street_27 : decode cX1_street 27 = .ok (.isub, 1) := dk_100 (dk_at dksX1_street_1 3 rfl rfl)
theorem dX1_street_28 : decode cX1_street 28 = .ok (.iconst 1, 1) := dk_4 (dk_at dksX1_street_1 4 rfl rfl)
theorem dX1_street_29 : decode cX1_street 29 = .ok (.if_icmp .ne 14, 3) := dk_160 0 14 (dk_at dksX1_street_1 5 rfl rfl)
theorem dX1_street_32 : decode cX1_street 32 = .ok (.iload_n 3, 1) := dk_29 (dk_at dksX1_street_1 8 rfl rfl)
theorem dX1_street_33 : decode cX1_street 33 = .ok (.bipush 6, 2) := dk_16 6 (dk_at dksX1_street_1 9 rfl rfl)
theorem dX1_street_35 : decode cX1_street 35 = .ok (.irem, 1) := dk_112 (dk_at dksX1_street_1 11 rfl rfl)
theorem dX1_street_36 : decode cX1_street 36 = .ok (.ifCond .eq 7, 3) := dk_153 0 7 (dk_at dksX1_street_1 12 rfl rfl)
theorem dX1_street_39 : decode cX1_street 39 = .ok (.iload_n 2, 1) := dk_28 (dk_at dksX1_street_1 15 rfl rfl)
theorem dX1_street_40 : decode cX1_street 40 = .ok (.goto 4, 3) := dk_167 0 4 (dk_at dksX1_street_1 16 rfl rfl)
theorem dX1_street_43 : decode cX1_street 43 = .ok (.iconst (-1), 1) := dk_2 (dk_at dksX1_street_1 19 rfl rfl)
theorem dX1_street_44 : decode cX1_street 44 = .ok (.ireturn, 1) := dk_172 (dk_at dksX1_street_1 20 rfl rfl)
abbrev cX1_want : ByteArray := prog_1_method_2_code
def yX1_want : MethodName := ⟨RX1, "want", "(Z)V"⟩
def dkwX1_want_0 : List UInt8 := [26, 154, 0, 11, 187, 0, 33, 89, 183, 0, 35, 191, 177]
abbrev dktX1_want_0 : List UInt8 := dkwX1_want_0 ++ []
theorem dksX1_want_0 : cX1_want.data.toList.drop 0 = dktX1_want_0 := by decide +kernel
theorem dX1_want_0 : decode cX1_want 0 = .ok (.iload_n 0, 1) := dk_26 (dk_at dksX1_want_0 0 rfl rfl)
theorem dX1_want_1 : decode cX1_want 1 = .ok (.ifCond .ne 11, 3) := dk_154 0 11 (dk_at dksX1_want_0 1 rfl rfl)
theorem dX1_want_4 : decode cX1_want 4 = .ok (.new 33, 3) := dk_187 0 33 (dk_at dksX1_want_0 4 rfl rfl)
theorem dX1_want_7 : decode cX1_want 7 = .ok (.dup, 1) := dk_89 (dk_at dksX1_want_0 7 rfl rfl)
theorem dX1_want_8 : decode cX1_want 8 = .ok (.invokespecial 35, 3) := dk_183 0 35 (dk_at dksX1_want_0 8 rfl rfl)
theorem dX1_want_11 : decode cX1_want 11 = .ok (.athrow, 1) := dk_191 (dk_at dksX1_want_0 11 rfl rfl)
theorem dX1_want_12 : decode cX1_want 12 = .ok (.return_, 1) := dk_177 (dk_at dksX1_want_0 12 rfl rfl)
abbrev cX1_way : ByteArray := prog_1_method_11_code
def yX1_way : MethodName := ⟨RX1, "way", "(II)I"⟩
def dkwX1_way_1 : List UInt8 := [42, 27, 182, 0, 86, 42, 180, 0, 27, 28, 46, 172]
abbrev dktX1_way_1 : List UInt8 := dkwX1_way_1 ++ []
def dkwX1_way_0 : List UInt8 := [7, 188, 10, 89, 3, 27, 79, 89, 4, 16, 36, 79, 89, 5, 28, 79, 89, 6, 16, 36, 79, 184, 0, 48]
abbrev dktX1_way_0 : List UInt8 := dkwX1_way_0 ++ dktX1_way_1
theorem dksX1_way_0 : cX1_way.data.toList.drop 0 = dktX1_way_0 := by decide +kernel
theorem dksX1_way_1 : cX1_way.data.toList.drop 24 = dktX1_way_1 := dk_seg dksX1_way_0 24 rfl rfl
theorem dX1_way_0 : decode cX1_way 0 = .ok (.iconst 4, 1) := dk_7 (dk_at dksX1_way_0 0 rfl rfl)
theorem dX1_way_1 : decode cX1_way 1 = .ok (.newarray .int, 2) := dk_188_10 (dk_at dksX1_way_0 1 rfl rfl)
theorem dX1_way_3 : decode cX1_way 3 = .ok (.dup, 1) := dk_89 (dk_at dksX1_way_0 3 rfl rfl)
theorem dX1_way_4 : decode cX1_way 4 = .ok (.iconst 0, 1) := dk_3 (dk_at dksX1_way_0 4 rfl rfl)
theorem dX1_way_5 : decode cX1_way 5 = .ok (.iload_n 1, 1) := dk_27 (dk_at dksX1_way_0 5 rfl rfl)
theorem dX1_way_6 : decode cX1_way 6 = .ok (.iastore, 1) := dk_79 (dk_at dksX1_way_0 6 rfl rfl)
theorem dX1_way_7 : decode cX1_way 7 = .ok (.dup, 1) := dk_89 (dk_at dksX1_way_0 7 rfl rfl)
theorem dX1_way_8 : decode cX1_way 8 = .ok (.iconst 1, 1) := dk_4 (dk_at dksX1_way_0 8 rfl rfl)
theorem dX1_way_9 : decode cX1_way 9 = .ok (.bipush 36, 2) := dk_16 36 (dk_at dksX1_way_0 9 rfl rfl)
theorem dX1_way_11 : decode cX1_way 11 = .ok (.iastore, 1) := dk_79 (dk_at dksX1_way_0 11 rfl rfl)
theorem dX1_way_12 : decode cX1_way 12 = .ok (.dup, 1) := dk_89 (dk_at dksX1_way_0 12 rfl rfl)
theorem dX1_way_13 : decode cX1_way 13 = .ok (.iconst 2, 1) := dk_5 (dk_at dksX1_way_0 13 rfl rfl)
theorem dX1_way_14 : decode cX1_way 14 = .ok (.iload_n 2, 1) := dk_28 (dk_at dksX1_way_0 14 rfl rfl)
theorem dX1_way_15 : decode cX1_way 15 = .ok (.iastore, 1) := dk_79 (dk_at dksX1_way_0 15 rfl rfl)
theorem dX1_way_16 : decode cX1_way 16 = .ok (.dup, 1) := dk_89 (dk_at dksX1_way_0 16 rfl rfl)
theorem dX1_way_17 : decode cX1_way 17 = .ok (.iconst 3, 1) := dk_6 (dk_at dksX1_way_0 17 rfl rfl)
theorem dX1_way_18 : decode cX1_way 18 = .ok (.bipush 36, 2) := dk_16 36 (dk_at dksX1_way_0 18 rfl rfl)
theorem dX1_way_20 : decode cX1_way 20 = .ok (.iastore, 1) := dk_79 (dk_at dksX1_way_0 20 rfl rfl)
theorem dX1_way_21 : decode cX1_way 21 = .ok (.invokestatic 48, 3) := dk_184 0 48 (dk_at dksX1_way_0 21 rfl rfl)
theorem dX1_way_24 : decode cX1_way 24 = .ok (.aload_n 0, 1) := dk_42 (dk_at dksX1_way_1 0 rfl rfl)
theorem dX1_way_25 : decode cX1_way 25 = .ok (.iload_n 1, 1) := dk_27 (dk_at dksX1_way_1 1 rfl rfl)
theorem dX1_way_26 : decode cX1_way 26 = .ok (.invokevirtual 86, 3) := dk_182 0 86 (dk_at dksX1_way_1 2 rfl rfl)
theorem dX1_way_29 : decode cX1_way 29 = .ok (.aload_n 0, 1) := dk_42 (dk_at dksX1_way_1 5 rfl rfl)
theorem dX1_way_30 : decode cX1_way 30 = .ok (.getfield 27, 3) := dk_180 0 27 (dk_at dksX1_way_1 6 rfl rfl)
theorem dX1_way_33 : decode cX1_way 33 = .ok (.iload_n 2, 1) := dk_28 (dk_at dksX1_way_1 9 rfl rfl)
theorem dX1_way_34 : decode cX1_way 34 = .ok (.iaload, 1) := dk_46 (dk_at dksX1_way_1 10 rfl rfl)
theorem dX1_way_35 : decode cX1_way 35 = .ok (.ireturn, 1) := dk_172 (dk_at dksX1_way_1 11 rfl rfl)
abbrev cX1_walkFrom : ByteArray := prog_1_method_10_code
def yX1_walkFrom : MethodName := ⟨RX1, "walkFrom", "(I)V"⟩
def dkwX1_walkFrom_5 : List UInt8 := [180, 0, 30, 28, 21, 4, 79, 132, 2, 1, 132, 4, 1, 167, 255, 175, 132, 3, 1, 167, 255, 161, 177]
abbrev dktX1_walkFrom_5 : List UInt8 := dkwX1_walkFrom_5 ++ []
def dkwX1_walkFrom_4 : List UInt8 := [160, 0, 34, 42, 180, 0, 27, 21, 4, 42, 180, 0, 27, 42, 180, 0, 30, 29, 46, 46, 4, 96, 79, 42]
abbrev dktX1_walkFrom_4 : List UInt8 := dkwX1_walkFrom_4 ++ dktX1_walkFrom_5
def dkwX1_walkFrom_3 : List UInt8 := [2, 159, 0, 55, 42, 180, 0, 9, 21, 5, 51, 154, 0, 45, 42, 180, 0, 27, 21, 4, 46, 2]
abbrev dktX1_walkFrom_3 : List UInt8 := dkwX1_walkFrom_3 ++ dktX1_walkFrom_4
def dkwX1_walkFrom_2 : List UInt8 := [54, 4, 21, 4, 16, 36, 162, 0, 80, 42, 180, 0, 30, 29, 46, 21, 4, 184, 0, 79, 54, 5, 21, 5]
abbrev dktX1_walkFrom_2 : List UInt8 := dkwX1_walkFrom_2 ++ dktX1_walkFrom_3
def dkwX1_walkFrom_1 : List UInt8 := [132, 2, 1, 167, 255, 231, 42, 180, 0, 30, 3, 27, 79, 4, 61, 3, 62, 29, 28, 162, 0, 96, 3]
abbrev dktX1_walkFrom_1 : List UInt8 := dkwX1_walkFrom_1 ++ dktX1_walkFrom_2
def dkwX1_walkFrom_0 : List UInt8 := [3, 61, 28, 16, 36, 162, 0, 25, 42, 180, 0, 27, 28, 28, 27, 160, 0, 7, 3, 167, 0, 4, 2, 79]
abbrev dktX1_walkFrom_0 : List UInt8 := dkwX1_walkFrom_0 ++ dktX1_walkFrom_1
theorem dksX1_walkFrom_0 : cX1_walkFrom.data.toList.drop 0 = dktX1_walkFrom_0 := by decide +kernel
theorem dksX1_walkFrom_1 : cX1_walkFrom.data.toList.drop 24 = dktX1_walkFrom_1 := dk_seg dksX1_walkFrom_0 24 rfl rfl
theorem dksX1_walkFrom_2 : cX1_walkFrom.data.toList.drop 47 = dktX1_walkFrom_2 := dk_seg dksX1_walkFrom_1 23 rfl rfl
theorem dksX1_walkFrom_3 : cX1_walkFrom.data.toList.drop 71 = dktX1_walkFrom_3 := dk_seg dksX1_walkFrom_2 24 rfl rfl
theorem dksX1_walkFrom_4 : cX1_walkFrom.data.toList.drop 93 = dktX1_walkFrom_4 := dk_seg dksX1_walkFrom_3 22 rfl rfl
theorem dksX1_walkFrom_5 : cX1_walkFrom.data.toList.drop 117 = dktX1_walkFrom_5 := dk_seg dksX1_walkFrom_4 24 rfl rfl
theorem dX1_walkFrom_0 : decode cX1_walkFrom 0 = .ok (.iconst 0, 1) := dk_3 (dk_at dksX1_walkFrom_0 0 rfl rfl)
theorem dX1_walkFrom_1 : decode cX1_walkFrom 1 = .ok (.istore_n 2, 1) := dk_61 (dk_at dksX1_walkFrom_0 1 rfl rfl)
theorem dX1_walkFrom_2 : decode cX1_walkFrom 2 = .ok (.iload_n 2, 1) := dk_28 (dk_at dksX1_walkFrom_0 2 rfl rfl)
theorem dX1_walkFrom_3 : decode cX1_walkFrom 3 = .ok (.bipush 36, 2) := dk_16 36 (dk_at dksX1_walkFrom_0 3 rfl rfl)
theorem dX1_walkFrom_5 : decode cX1_walkFrom 5 = .ok (.if_icmp .ge 25, 3) := dk_162 0 25 (dk_at dksX1_walkFrom_0 5 rfl rfl)
theorem dX1_walkFrom_8 : decode cX1_walkFrom 8 = .ok (.aload_n 0, 1) := dk_42 (dk_at dksX1_walkFrom_0 8 rfl rfl)
theorem dX1_walkFrom_9 : decode cX1_walkFrom 9 = .ok (.getfield 27, 3) := dk_180 0 27 (dk_at dksX1_walkFrom_0 9 rfl rfl)
theorem dX1_walkFrom_12 : decode cX1_walkFrom 12 = .ok (.iload_n 2, 1) := dk_28 (dk_at dksX1_walkFrom_0 12 rfl rfl)
theorem dX1_walkFrom_13 : decode cX1_walkFrom 13 = .ok (.iload_n 2, 1) := dk_28 (dk_at dksX1_walkFrom_0 13 rfl rfl)
theorem dX1_walkFrom_14 : decode cX1_walkFrom 14 = .ok (.iload_n 1, 1) := dk_27 (dk_at dksX1_walkFrom_0 14 rfl rfl)
theorem dX1_walkFrom_15 : decode cX1_walkFrom 15 = .ok (.if_icmp .ne 7, 3) := dk_160 0 7 (dk_at dksX1_walkFrom_0 15 rfl rfl)
theorem dX1_walkFrom_18 : decode cX1_walkFrom 18 = .ok (.iconst 0, 1) := dk_3 (dk_at dksX1_walkFrom_0 18 rfl rfl)
theorem dX1_walkFrom_19 : decode cX1_walkFrom 19 = .ok (.goto 4, 3) := dk_167 0 4 (dk_at dksX1_walkFrom_0 19 rfl rfl)
theorem dX1_walkFrom_22 : decode cX1_walkFrom 22 = .ok (.iconst (-1), 1) := dk_2 (dk_at dksX1_walkFrom_0 22 rfl rfl)
theorem dX1_walkFrom_23 : decode cX1_walkFrom 23 = .ok (.iastore, 1) := dk_79 (dk_at dksX1_walkFrom_0 23 rfl rfl)
theorem dX1_walkFrom_24 : decode cX1_walkFrom 24 = .ok (.iinc 2 1, 3) := dk_132 2 1 (dk_at dksX1_walkFrom_1 0 rfl rfl)
theorem dX1_walkFrom_27 : decode cX1_walkFrom 27 = .ok (.goto (-25), 3) := dk_167 255 231 (dk_at dksX1_walkFrom_1 3 rfl rfl)
theorem dX1_walkFrom_30 : decode cX1_walkFrom 30 = .ok (.aload_n 0, 1) := dk_42 (dk_at dksX1_walkFrom_1 6 rfl rfl)
theorem dX1_walkFrom_31 : decode cX1_walkFrom 31 = .ok (.getfield 30, 3) := dk_180 0 30 (dk_at dksX1_walkFrom_1 7 rfl rfl)
theorem dX1_walkFrom_34 : decode cX1_walkFrom 34 = .ok (.iconst 0, 1) := dk_3 (dk_at dksX1_walkFrom_1 10 rfl rfl)
theorem dX1_walkFrom_35 : decode cX1_walkFrom 35 = .ok (.iload_n 1, 1) := dk_27 (dk_at dksX1_walkFrom_1 11 rfl rfl)
theorem dX1_walkFrom_36 : decode cX1_walkFrom 36 = .ok (.iastore, 1) := dk_79 (dk_at dksX1_walkFrom_1 12 rfl rfl)
theorem dX1_walkFrom_37 : decode cX1_walkFrom 37 = .ok (.iconst 1, 1) := dk_4 (dk_at dksX1_walkFrom_1 13 rfl rfl)
theorem dX1_walkFrom_38 : decode cX1_walkFrom 38 = .ok (.istore_n 2, 1) := dk_61 (dk_at dksX1_walkFrom_1 14 rfl rfl)
theorem dX1_walkFrom_39 : decode cX1_walkFrom 39 = .ok (.iconst 0, 1) := dk_3 (dk_at dksX1_walkFrom_1 15 rfl rfl)
theorem dX1_walkFrom_40 : decode cX1_walkFrom 40 = .ok (.istore_n 3, 1) := dk_62 (dk_at dksX1_walkFrom_1 16 rfl rfl)
theorem dX1_walkFrom_41 : decode cX1_walkFrom 41 = .ok (.iload_n 3, 1) := dk_29 (dk_at dksX1_walkFrom_1 17 rfl rfl)
theorem dX1_walkFrom_42 : decode cX1_walkFrom 42 = .ok (.iload_n 2, 1) := dk_28 (dk_at dksX1_walkFrom_1 18 rfl rfl)
theorem dX1_walkFrom_43 : decode cX1_walkFrom 43 = .ok (.if_icmp .ge 96, 3) := dk_162 0 96 (dk_at dksX1_walkFrom_1 19 rfl rfl)
theorem dX1_walkFrom_46 : decode cX1_walkFrom 46 = .ok (.iconst 0, 1) := dk_3 (dk_at dksX1_walkFrom_1 22 rfl rfl)
theorem dX1_walkFrom_47 : decode cX1_walkFrom 47 = .ok (.istore 4, 2) := dk_54 4 (dk_at dksX1_walkFrom_2 0 rfl rfl)
theorem dX1_walkFrom_49 : decode cX1_walkFrom 49 = .ok (.iload 4, 2) := dk_21 4 (dk_at dksX1_walkFrom_2 2 rfl rfl)
theorem dX1_walkFrom_51 : decode cX1_walkFrom 51 = .ok (.bipush 36, 2) := dk_16 36 (dk_at dksX1_walkFrom_2 4 rfl rfl)
theorem dX1_walkFrom_53 : decode cX1_walkFrom 53 = .ok (.if_icmp .ge 80, 3) := dk_162 0 80 (dk_at dksX1_walkFrom_2 6 rfl rfl)
theorem dX1_walkFrom_56 : decode cX1_walkFrom 56 = .ok (.aload_n 0, 1) := dk_42 (dk_at dksX1_walkFrom_2 9 rfl rfl)
theorem dX1_walkFrom_57 : decode cX1_walkFrom 57 = .ok (.getfield 30, 3) := dk_180 0 30 (dk_at dksX1_walkFrom_2 10 rfl rfl)
theorem dX1_walkFrom_60 : decode cX1_walkFrom 60 = .ok (.iload_n 3, 1) := dk_29 (dk_at dksX1_walkFrom_2 13 rfl rfl)
theorem dX1_walkFrom_61 : decode cX1_walkFrom 61 = .ok (.iaload, 1) := dk_46 (dk_at dksX1_walkFrom_2 14 rfl rfl)
theorem dX1_walkFrom_62 : decode cX1_walkFrom 62 = .ok (.iload 4, 2) := dk_21 4 (dk_at dksX1_walkFrom_2 15 rfl rfl)
theorem dX1_walkFrom_64 : decode cX1_walkFrom 64 = .ok (.invokestatic 79, 3) := dk_184 0 79 (dk_at dksX1_walkFrom_2 17 rfl rfl)
theorem dX1_walkFrom_67 : decode cX1_walkFrom 67 = .ok (.istore 5, 2) := dk_54 5 (dk_at dksX1_walkFrom_2 20 rfl rfl)
theorem dX1_walkFrom_69 : decode cX1_walkFrom 69 = .ok (.iload 5, 2) := dk_21 5 (dk_at dksX1_walkFrom_2 22 rfl rfl)
theorem dX1_walkFrom_71 : decode cX1_walkFrom 71 = .ok (.iconst (-1), 1) := dk_2 (dk_at dksX1_walkFrom_3 0 rfl rfl)
theorem dX1_walkFrom_72 : decode cX1_walkFrom 72 = .ok (.if_icmp .eq 55, 3) := dk_159 0 55 (dk_at dksX1_walkFrom_3 1 rfl rfl)
theorem dX1_walkFrom_75 : decode cX1_walkFrom 75 = .ok (.aload_n 0, 1) := dk_42 (dk_at dksX1_walkFrom_3 4 rfl rfl)
theorem dX1_walkFrom_76 : decode cX1_walkFrom 76 = .ok (.getfield 9, 3) := dk_180 0 9 (dk_at dksX1_walkFrom_3 5 rfl rfl)
theorem dX1_walkFrom_79 : decode cX1_walkFrom 79 = .ok (.iload 5, 2) := dk_21 5 (dk_at dksX1_walkFrom_3 8 rfl rfl)
theorem dX1_walkFrom_81 : decode cX1_walkFrom 81 = .ok (.baload, 1) := dk_51 (dk_at dksX1_walkFrom_3 10 rfl rfl)
theorem dX1_walkFrom_82 : decode cX1_walkFrom 82 = .ok (.ifCond .ne 45, 3) := dk_154 0 45 (dk_at dksX1_walkFrom_3 11 rfl rfl)
theorem dX1_walkFrom_85 : decode cX1_walkFrom 85 = .ok (.aload_n 0, 1) := dk_42 (dk_at dksX1_walkFrom_3 14 rfl rfl)
theorem dX1_walkFrom_86 : decode cX1_walkFrom 86 = .ok (.getfield 27, 3) := dk_180 0 27 (dk_at dksX1_walkFrom_3 15 rfl rfl)
theorem dX1_walkFrom_89 : decode cX1_walkFrom 89 = .ok (.iload 4, 2) := dk_21 4 (dk_at dksX1_walkFrom_3 18 rfl rfl)
theorem dX1_walkFrom_91 : decode cX1_walkFrom 91 = .ok (.iaload, 1) := dk_46 (dk_at dksX1_walkFrom_3 20 rfl rfl)
theorem dX1_walkFrom_92 : decode cX1_walkFrom 92 = .ok (.iconst (-1), 1) := dk_2 (dk_at dksX1_walkFrom_3 21 rfl rfl)
theorem dX1_walkFrom_93 : decode cX1_walkFrom 93 = .ok (.if_icmp .ne 34, 3) := dk_160 0 34 (dk_at dksX1_walkFrom_4 0 rfl rfl)
theorem dX1_walkFrom_96 : decode cX1_walkFrom 96 = .ok (.aload_n 0, 1) := dk_42 (dk_at dksX1_walkFrom_4 3 rfl rfl)
theorem dX1_walkFrom_97 : decode cX1_walkFrom 97 = .ok (.getfield 27, 3) := dk_180 0 27 (dk_at dksX1_walkFrom_4 4 rfl rfl)
theorem dX1_walkFrom_100 : decode cX1_walkFrom 100 = .ok (.iload 4, 2) := dk_21 4 (dk_at dksX1_walkFrom_4 7 rfl rfl)
theorem dX1_walkFrom_102 : decode cX1_walkFrom 102 = .ok (.aload_n 0, 1) := dk_42 (dk_at dksX1_walkFrom_4 9 rfl rfl)
theorem dX1_walkFrom_103 : decode cX1_walkFrom 103 = .ok (.getfield 27, 3) := dk_180 0 27 (dk_at dksX1_walkFrom_4 10 rfl rfl)
theorem dX1_walkFrom_106 : decode cX1_walkFrom 106 = .ok (.aload_n 0, 1) := dk_42 (dk_at dksX1_walkFrom_4 13 rfl rfl)
theorem dX1_walkFrom_107 : decode cX1_walkFrom 107 = .ok (.getfield 30, 3) := dk_180 0 30 (dk_at dksX1_walkFrom_4 14 rfl rfl)
theorem dX1_walkFrom_110 : decode cX1_walkFrom 110 = .ok (.iload_n 3, 1) := dk_29 (dk_at dksX1_walkFrom_4 17 rfl rfl)
theorem dX1_walkFrom_111 : decode cX1_walkFrom 111 = .ok (.iaload, 1) := dk_46 (dk_at dksX1_walkFrom_4 18 rfl rfl)
theorem dX1_walkFrom_112 : decode cX1_walkFrom 112 = .ok (.iaload, 1) := dk_46 (dk_at dksX1_walkFrom_4 19 rfl rfl)
theorem dX1_walkFrom_113 : decode cX1_walkFrom 113 = .ok (.iconst 1, 1) := dk_4 (dk_at dksX1_walkFrom_4 20 rfl rfl)
theorem dX1_walkFrom_114 : decode cX1_walkFrom 114 = .ok (.iadd, 1) := dk_96 (dk_at dksX1_walkFrom_4 21 rfl rfl)
theorem dX1_walkFrom_115 : decode cX1_walkFrom 115 = .ok (.iastore, 1) := dk_79 (dk_at dksX1_walkFrom_4 22 rfl rfl)
theorem dX1_walkFrom_116 : decode cX1_walkFrom 116 = .ok (.aload_n 0, 1) := dk_42 (dk_at dksX1_walkFrom_4 23 rfl rfl)
theorem dX1_walkFrom_117 : decode cX1_walkFrom 117 = .ok (.getfield 30, 3) := dk_180 0 30 (dk_at dksX1_walkFrom_5 0 rfl rfl)
theorem dX1_walkFrom_120 : decode cX1_walkFrom 120 = .ok (.iload_n 2, 1) := dk_28 (dk_at dksX1_walkFrom_5 3 rfl rfl)
theorem dX1_walkFrom_121 : decode cX1_walkFrom 121 = .ok (.iload 4, 2) := dk_21 4 (dk_at dksX1_walkFrom_5 4 rfl rfl)
theorem dX1_walkFrom_123 : decode cX1_walkFrom 123 = .ok (.iastore, 1) := dk_79 (dk_at dksX1_walkFrom_5 6 rfl rfl)
theorem dX1_walkFrom_124 : decode cX1_walkFrom 124 = .ok (.iinc 2 1, 3) := dk_132 2 1 (dk_at dksX1_walkFrom_5 7 rfl rfl)
theorem dX1_walkFrom_127 : decode cX1_walkFrom 127 = .ok (.iinc 4 1, 3) := dk_132 4 1 (dk_at dksX1_walkFrom_5 10 rfl rfl)
theorem dX1_walkFrom_130 : decode cX1_walkFrom 130 = .ok (.goto (-81), 3) := dk_167 255 175 (dk_at dksX1_walkFrom_5 13 rfl rfl)
theorem dX1_walkFrom_133 : decode cX1_walkFrom 133 = .ok (.iinc 3 1, 3) := dk_132 3 1 (dk_at dksX1_walkFrom_5 16 rfl rfl)
theorem dX1_walkFrom_136 : decode cX1_walkFrom 136 = .ok (.goto (-95), 3) := dk_167 255 161 (dk_at dksX1_walkFrom_5 19 rfl rfl)
theorem dX1_walkFrom_139 : decode cX1_walkFrom 139 = .ok (.return_, 1) := dk_177 (dk_at dksX1_walkFrom_5 22 rfl rfl)
abbrev cX1_station : ByteArray := prog_1_method_12_code
def yX1_station : MethodName := ⟨RX1, "station", "(II)I"⟩
def dkwX1_station_3 : List UInt8 := [185, 0, 42, 1, 0, 4, 100, 172]
abbrev dktX1_station_3 : List UInt8 := dkwX1_station_3 ++ []
def dkwX1_station_2 : List UInt8 := [42, 180, 0, 20, 187, 0, 97, 89, 27, 28, 183, 0, 99, 185, 0, 102, 2, 0, 87, 42, 180, 0, 20]
abbrev dktX1_station_2 : List UInt8 := dkwX1_station_2 ++ dktX1_station_3
def dkwX1_station_1 : List UInt8 := [184, 0, 82, 42, 180, 0, 20, 185, 0, 42, 1, 0, 8, 162, 0, 7, 4, 167, 0, 4, 3, 184, 0, 94]
abbrev dktX1_station_1 : List UInt8 := dkwX1_station_1 ++ dktX1_station_2
def dkwX1_station_0 : List UInt8 := [5, 188, 10, 89, 3, 27, 79, 89, 4, 16, 36, 79, 184, 0, 48, 28, 3, 16, 20, 184, 0, 90]
abbrev dktX1_station_0 : List UInt8 := dkwX1_station_0 ++ dktX1_station_1
theorem dksX1_station_0 : cX1_station.data.toList.drop 0 = dktX1_station_0 := by decide +kernel
theorem dksX1_station_1 : cX1_station.data.toList.drop 22 = dktX1_station_1 := dk_seg dksX1_station_0 22 rfl rfl
theorem dksX1_station_2 : cX1_station.data.toList.drop 46 = dktX1_station_2 := dk_seg dksX1_station_1 24 rfl rfl
theorem dksX1_station_3 : cX1_station.data.toList.drop 69 = dktX1_station_3 := dk_seg dksX1_station_2 23 rfl rfl
theorem dX1_station_0 : decode cX1_station 0 = .ok (.iconst 2, 1) := dk_5 (dk_at dksX1_station_0 0 rfl rfl)
theorem dX1_station_1 : decode cX1_station 1 = .ok (.newarray .int, 2) := dk_188_10 (dk_at dksX1_station_0 1 rfl rfl)
theorem dX1_station_3 : decode cX1_station 3 = .ok (.dup, 1) := dk_89 (dk_at dksX1_station_0 3 rfl rfl)
theorem dX1_station_4 : decode cX1_station 4 = .ok (.iconst 0, 1) := dk_3 (dk_at dksX1_station_0 4 rfl rfl)
theorem dX1_station_5 : decode cX1_station 5 = .ok (.iload_n 1, 1) := dk_27 (dk_at dksX1_station_0 5 rfl rfl)
theorem dX1_station_6 : decode cX1_station 6 = .ok (.iastore, 1) := dk_79 (dk_at dksX1_station_0 6 rfl rfl)
theorem dX1_station_7 : decode cX1_station 7 = .ok (.dup, 1) := dk_89 (dk_at dksX1_station_0 7 rfl rfl)
theorem dX1_station_8 : decode cX1_station 8 = .ok (.iconst 1, 1) := dk_4 (dk_at dksX1_station_0 8 rfl rfl)
theorem dX1_station_9 : decode cX1_station 9 = .ok (.bipush 36, 2) := dk_16 36 (dk_at dksX1_station_0 9 rfl rfl)
theorem dX1_station_11 : decode cX1_station 11 = .ok (.iastore, 1) := dk_79 (dk_at dksX1_station_0 11 rfl rfl)
theorem dX1_station_12 : decode cX1_station 12 = .ok (.invokestatic 48, 3) := dk_184 0 48 (dk_at dksX1_station_0 12 rfl rfl)
theorem dX1_station_15 : decode cX1_station 15 = .ok (.iload_n 2, 1) := dk_28 (dk_at dksX1_station_0 15 rfl rfl)
theorem dX1_station_16 : decode cX1_station 16 = .ok (.iconst 0, 1) := dk_3 (dk_at dksX1_station_0 16 rfl rfl)
theorem dX1_station_17 : decode cX1_station 17 = .ok (.bipush 20, 2) := dk_16 20 (dk_at dksX1_station_0 17 rfl rfl)
theorem dX1_station_19 : decode cX1_station 19 = .ok (.invokestatic 90, 3) := dk_184 0 90 (dk_at dksX1_station_0 19 rfl rfl)
theorem dX1_station_22 : decode cX1_station 22 = .ok (.invokestatic 82, 3) := dk_184 0 82 (dk_at dksX1_station_1 0 rfl rfl)
theorem dX1_station_25 : decode cX1_station 25 = .ok (.aload_n 0, 1) := dk_42 (dk_at dksX1_station_1 3 rfl rfl)
theorem dX1_station_26 : decode cX1_station 26 = .ok (.getfield 20, 3) := dk_180 0 20 (dk_at dksX1_station_1 4 rfl rfl)
theorem dX1_station_29 : decode cX1_station 29 = .ok (.invokeinterface 42 1, 5) := by decide +kernel
theorem dX1_station_34 : decode cX1_station 34 = .ok (.iconst 5, 1) := dk_8 (dk_at dksX1_station_1 12 rfl rfl)
theorem dX1_station_35 : decode cX1_station 35 = .ok (.if_icmp .ge 7, 3) := dk_162 0 7 (dk_at dksX1_station_1 13 rfl rfl)
theorem dX1_station_38 : decode cX1_station 38 = .ok (.iconst 1, 1) := dk_4 (dk_at dksX1_station_1 16 rfl rfl)
theorem dX1_station_39 : decode cX1_station 39 = .ok (.goto 4, 3) := dk_167 0 4 (dk_at dksX1_station_1 17 rfl rfl)
theorem dX1_station_42 : decode cX1_station 42 = .ok (.iconst 0, 1) := dk_3 (dk_at dksX1_station_1 20 rfl rfl)
theorem dX1_station_43 : decode cX1_station 43 = .ok (.invokestatic 94, 3) := dk_184 0 94 (dk_at dksX1_station_1 21 rfl rfl)
theorem dX1_station_46 : decode cX1_station 46 = .ok (.aload_n 0, 1) := dk_42 (dk_at dksX1_station_2 0 rfl rfl)
theorem dX1_station_47 : decode cX1_station 47 = .ok (.getfield 20, 3) := dk_180 0 20 (dk_at dksX1_station_2 1 rfl rfl)
theorem dX1_station_50 : decode cX1_station 50 = .ok (.new 97, 3) := dk_187 0 97 (dk_at dksX1_station_2 4 rfl rfl)
theorem dX1_station_53 : decode cX1_station 53 = .ok (.dup, 1) := dk_89 (dk_at dksX1_station_2 7 rfl rfl)
theorem dX1_station_54 : decode cX1_station 54 = .ok (.iload_n 1, 1) := dk_27 (dk_at dksX1_station_2 8 rfl rfl)
theorem dX1_station_55 : decode cX1_station 55 = .ok (.iload_n 2, 1) := dk_28 (dk_at dksX1_station_2 9 rfl rfl)
theorem dX1_station_56 : decode cX1_station 56 = .ok (.invokespecial 99, 3) := dk_183 0 99 (dk_at dksX1_station_2 10 rfl rfl)
theorem dX1_station_59 : decode cX1_station 59 = .ok (.invokeinterface 102 2, 5) := by decide +kernel
theorem dX1_station_64 : decode cX1_station 64 = .ok (.pop, 1) := dk_87 (dk_at dksX1_station_2 18 rfl rfl)
theorem dX1_station_65 : decode cX1_station 65 = .ok (.aload_n 0, 1) := dk_42 (dk_at dksX1_station_2 19 rfl rfl)
theorem dX1_station_66 : decode cX1_station 66 = .ok (.getfield 20, 3) := dk_180 0 20 (dk_at dksX1_station_2 20 rfl rfl)
theorem dX1_station_69 : decode cX1_station 69 = .ok (.invokeinterface 42 1, 5) := by decide +kernel
theorem dX1_station_74 : decode cX1_station 74 = .ok (.iconst 1, 1) := dk_4 (dk_at dksX1_station_3 5 rfl rfl)
theorem dX1_station_75 : decode cX1_station 75 = .ok (.isub, 1) := dk_100 (dk_at dksX1_station_3 6 rfl rfl)
theorem dX1_station_76 : decode cX1_station 76 = .ok (.ireturn, 1) := dk_172 (dk_at dksX1_station_3 7 rfl rfl)
abbrev cX1_isIn : ByteArray := prog_1_method_5_code
def yX1_isIn : MethodName := ⟨RX1, "isIn", "(III)Z"⟩
def dkwX1_isIn_0 : List UInt8 := [26, 27, 161, 0, 12, 26, 28, 163, 0, 7, 4, 167, 0, 4, 3, 172]
abbrev dktX1_isIn_0 : List UInt8 := dkwX1_isIn_0 ++ []
theorem dksX1_isIn_0 : cX1_isIn.data.toList.drop 0 = dktX1_isIn_0 := by decide +kernel
theorem dX1_isIn_0 : decode cX1_isIn 0 = .ok (.iload_n 0, 1) := dk_26 (dk_at dksX1_isIn_0 0 rfl rfl)
theorem dX1_isIn_1 : decode cX1_isIn 1 = .ok (.iload_n 1, 1) := dk_27 (dk_at dksX1_isIn_0 1 rfl rfl)
theorem dX1_isIn_2 : decode cX1_isIn 2 = .ok (.if_icmp .lt 12, 3) := dk_161 0 12 (dk_at dksX1_isIn_0 2 rfl rfl)
theorem dX1_isIn_5 : decode cX1_isIn 5 = .ok (.iload_n 0, 1) := dk_26 (dk_at dksX1_isIn_0 5 rfl rfl)
theorem dX1_isIn_6 : decode cX1_isIn 6 = .ok (.iload_n 2, 1) := dk_28 (dk_at dksX1_isIn_0 6 rfl rfl)
theorem dX1_isIn_7 : decode cX1_isIn 7 = .ok (.if_icmp .gt 7, 3) := dk_163 0 7 (dk_at dksX1_isIn_0 7 rfl rfl)
theorem dX1_isIn_10 : decode cX1_isIn 10 = .ok (.iconst 1, 1) := dk_4 (dk_at dksX1_isIn_0 10 rfl rfl)
theorem dX1_isIn_11 : decode cX1_isIn 11 = .ok (.goto 4, 3) := dk_167 0 4 (dk_at dksX1_isIn_0 11 rfl rfl)
theorem dX1_isIn_14 : decode cX1_isIn 14 = .ok (.iconst 0, 1) := dk_3 (dk_at dksX1_isIn_0 14 rfl rfl)
theorem dX1_isIn_15 : decode cX1_isIn 15 = .ok (.ireturn, 1) := dk_172 (dk_at dksX1_isIn_0 15 rfl rfl)
abbrev cX1_allow : ByteArray := prog_1_method_3_code
def yX1_allow : MethodName := ⟨RX1, "allow", "(Z)V"⟩
def dkwX1_allow_0 : List UInt8 := [26, 154, 0, 11, 187, 0, 36, 89, 183, 0, 38, 191, 177]
abbrev dktX1_allow_0 : List UInt8 := dkwX1_allow_0 ++ []
theorem dksX1_allow_0 : cX1_allow.data.toList.drop 0 = dktX1_allow_0 := by decide +kernel
theorem dX1_allow_0 : decode cX1_allow 0 = .ok (.iload_n 0, 1) := dk_26 (dk_at dksX1_allow_0 0 rfl rfl)
theorem dX1_allow_1 : decode cX1_allow 1 = .ok (.ifCond .ne 11, 3) := dk_154 0 11 (dk_at dksX1_allow_0 1 rfl rfl)
theorem dX1_allow_4 : decode cX1_allow 4 = .ok (.new 36, 3) := dk_187 0 36 (dk_at dksX1_allow_0 4 rfl rfl)
theorem dX1_allow_7 : decode cX1_allow 7 = .ok (.dup, 1) := dk_89 (dk_at dksX1_allow_0 7 rfl rfl)
theorem dX1_allow_8 : decode cX1_allow 8 = .ok (.invokespecial 38, 3) := dk_183 0 38 (dk_at dksX1_allow_0 8 rfl rfl)
theorem dX1_allow_11 : decode cX1_allow 11 = .ok (.athrow, 1) := dk_191 (dk_at dksX1_allow_0 11 rfl rfl)
theorem dX1_allow_12 : decode cX1_allow 12 = .ok (.return_, 1) := dk_177 (dk_at dksX1_allow_0 12 rfl rfl)
abbrev cX1_setSeats : ByteArray := prog_1_method_13_code
def yX1_setSeats : MethodName := ⟨RX1, "setSeats", "(II)I"⟩
def dkwX1_setSeats_2 : List UInt8 := [62, 42, 180, 0, 20, 27, 185, 0, 52, 2, 0, 192, 0, 97, 28, 181, 0, 106, 29, 172]
abbrev dktX1_setSeats_2 : List UInt8 := dkwX1_setSeats_2 ++ []
def dkwX1_setSeats_1 : List UInt8 := [16, 20, 184, 0, 90, 184, 0, 82, 42, 180, 0, 20, 27, 185, 0, 52, 2, 0, 192, 0, 97, 180, 0, 106]
abbrev dktX1_setSeats_1 : List UInt8 := dkwX1_setSeats_1 ++ dktX1_setSeats_2
def dkwX1_setSeats_0 : List UInt8 := [5, 188, 10, 89, 3, 27, 79, 89, 4, 42, 180, 0, 20, 185, 0, 42, 1, 0, 79, 184, 0, 48, 28, 3]
abbrev dktX1_setSeats_0 : List UInt8 := dkwX1_setSeats_0 ++ dktX1_setSeats_1
theorem dksX1_setSeats_0 : cX1_setSeats.data.toList.drop 0 = dktX1_setSeats_0 := by decide +kernel
theorem dksX1_setSeats_1 : cX1_setSeats.data.toList.drop 24 = dktX1_setSeats_1 := dk_seg dksX1_setSeats_0 24 rfl rfl
theorem dksX1_setSeats_2 : cX1_setSeats.data.toList.drop 48 = dktX1_setSeats_2 := dk_seg dksX1_setSeats_1 24 rfl rfl
theorem dX1_setSeats_0 : decode cX1_setSeats 0 = .ok (.iconst 2, 1) := dk_5 (dk_at dksX1_setSeats_0 0 rfl rfl)
theorem dX1_setSeats_1 : decode cX1_setSeats 1 = .ok (.newarray .int, 2) := dk_188_10 (dk_at dksX1_setSeats_0 1 rfl rfl)
theorem dX1_setSeats_3 : decode cX1_setSeats 3 = .ok (.dup, 1) := dk_89 (dk_at dksX1_setSeats_0 3 rfl rfl)
theorem dX1_setSeats_4 : decode cX1_setSeats 4 = .ok (.iconst 0, 1) := dk_3 (dk_at dksX1_setSeats_0 4 rfl rfl)
theorem dX1_setSeats_5 : decode cX1_setSeats 5 = .ok (.iload_n 1, 1) := dk_27 (dk_at dksX1_setSeats_0 5 rfl rfl)
theorem dX1_setSeats_6 : decode cX1_setSeats 6 = .ok (.iastore, 1) := dk_79 (dk_at dksX1_setSeats_0 6 rfl rfl)
theorem dX1_setSeats_7 : decode cX1_setSeats 7 = .ok (.dup, 1) := dk_89 (dk_at dksX1_setSeats_0 7 rfl rfl)
theorem dX1_setSeats_8 : decode cX1_setSeats 8 = .ok (.iconst 1, 1) := dk_4 (dk_at dksX1_setSeats_0 8 rfl rfl)
theorem dX1_setSeats_9 : decode cX1_setSeats 9 = .ok (.aload_n 0, 1) := dk_42 (dk_at dksX1_setSeats_0 9 rfl rfl)
theorem dX1_setSeats_10 : decode cX1_setSeats 10 = .ok (.getfield 20, 3) := dk_180 0 20 (dk_at dksX1_setSeats_0 10 rfl rfl)
theorem dX1_setSeats_13 : decode cX1_setSeats 13 = .ok (.invokeinterface 42 1, 5) := by decide +kernel
theorem dX1_setSeats_18 : decode cX1_setSeats 18 = .ok (.iastore, 1) := dk_79 (dk_at dksX1_setSeats_0 18 rfl rfl)
theorem dX1_setSeats_19 : decode cX1_setSeats 19 = .ok (.invokestatic 48, 3) := dk_184 0 48 (dk_at dksX1_setSeats_0 19 rfl rfl)
theorem dX1_setSeats_22 : decode cX1_setSeats 22 = .ok (.iload_n 2, 1) := dk_28 (dk_at dksX1_setSeats_0 22 rfl rfl)
theorem dX1_setSeats_23 : decode cX1_setSeats 23 = .ok (.iconst 0, 1) := dk_3 (dk_at dksX1_setSeats_0 23 rfl rfl)
theorem dX1_setSeats_24 : decode cX1_setSeats 24 = .ok (.bipush 20, 2) := dk_16 20 (dk_at dksX1_setSeats_1 0 rfl rfl)
theorem dX1_setSeats_26 : decode cX1_setSeats 26 = .ok (.invokestatic 90, 3) := dk_184 0 90 (dk_at dksX1_setSeats_1 2 rfl rfl)
theorem dX1_setSeats_29 : decode cX1_setSeats 29 = .ok (.invokestatic 82, 3) := dk_184 0 82 (dk_at dksX1_setSeats_1 5 rfl rfl)
theorem dX1_setSeats_32 : decode cX1_setSeats 32 = .ok (.aload_n 0, 1) := dk_42 (dk_at dksX1_setSeats_1 8 rfl rfl)
theorem dX1_setSeats_33 : decode cX1_setSeats 33 = .ok (.getfield 20, 3) := dk_180 0 20 (dk_at dksX1_setSeats_1 9 rfl rfl)
theorem dX1_setSeats_36 : decode cX1_setSeats 36 = .ok (.iload_n 1, 1) := dk_27 (dk_at dksX1_setSeats_1 12 rfl rfl)
theorem dX1_setSeats_37 : decode cX1_setSeats 37 = .ok (.invokeinterface 52 2, 5) := by decide +kernel
theorem dX1_setSeats_42 : decode cX1_setSeats 42 = .ok (.checkcast 97, 3) := dk_192 0 97 (dk_at dksX1_setSeats_1 18 rfl rfl)
theorem dX1_setSeats_45 : decode cX1_setSeats 45 = .ok (.getfield 106, 3) := dk_180 0 106 (dk_at dksX1_setSeats_1 21 rfl rfl)
theorem dX1_setSeats_48 : decode cX1_setSeats 48 = .ok (.istore_n 3, 1) := dk_62 (dk_at dksX1_setSeats_2 0 rfl rfl)
theorem dX1_setSeats_49 : decode cX1_setSeats 49 = .ok (.aload_n 0, 1) := dk_42 (dk_at dksX1_setSeats_2 1 rfl rfl)
theorem dX1_setSeats_50 : decode cX1_setSeats 50 = .ok (.getfield 20, 3) := dk_180 0 20 (dk_at dksX1_setSeats_2 2 rfl rfl)
theorem dX1_setSeats_53 : decode cX1_setSeats 53 = .ok (.iload_n 1, 1) := dk_27 (dk_at dksX1_setSeats_2 5 rfl rfl)
theorem dX1_setSeats_54 : decode cX1_setSeats 54 = .ok (.invokeinterface 52 2, 5) := by decide +kernel
theorem dX1_setSeats_59 : decode cX1_setSeats 59 = .ok (.checkcast 97, 3) := dk_192 0 97 (dk_at dksX1_setSeats_2 11 rfl rfl)
theorem dX1_setSeats_62 : decode cX1_setSeats 62 = .ok (.iload_n 2, 1) := dk_28 (dk_at dksX1_setSeats_2 14 rfl rfl)
theorem dX1_setSeats_63 : decode cX1_setSeats 63 = .ok (.putfield 106, 3) := dk_181 0 106 (dk_at dksX1_setSeats_2 15 rfl rfl)
theorem dX1_setSeats_66 : decode cX1_setSeats 66 = .ok (.iload_n 3, 1) := dk_29 (dk_at dksX1_setSeats_2 18 rfl rfl)
theorem dX1_setSeats_67 : decode cX1_setSeats 67 = .ok (.ireturn, 1) := dk_172 (dk_at dksX1_setSeats_2 19 rfl rfl)
abbrev cX1_person : ByteArray := prog_1_method_14_code
def yX1_person : MethodName := ⟨RX1, "person", "(II)I"⟩
def dkwX1_person_4 : List UInt8 := [172]
abbrev dktX1_person_4 : List UInt8 := dkwX1_person_4 ++ []
def dkwX1_person_3 : List UInt8 := [180, 0, 110, 27, 183, 0, 113, 185, 0, 102, 2, 0, 87, 42, 180, 0, 16, 185, 0, 42, 1, 0, 4, 100]
abbrev dktX1_person_3 : List UInt8 := dkwX1_person_3 ++ dktX1_person_4
def dkwX1_person_2 : List UInt8 := [184, 0, 94, 42, 180, 0, 16, 187, 0, 56, 89, 42, 180, 0, 16, 185, 0, 42, 1, 0, 28, 42]
abbrev dktX1_person_2 : List UInt8 := dkwX1_person_2 ++ dktX1_person_3
def dkwX1_person_1 : List UInt8 := [184, 0, 82, 42, 180, 0, 16, 185, 0, 42, 1, 0, 16, 20, 162, 0, 7, 4, 167, 0, 4, 3]
abbrev dktX1_person_1 : List UInt8 := dkwX1_person_1 ++ dktX1_person_2
def dkwX1_person_0 : List UInt8 := [5, 188, 10, 89, 3, 27, 79, 89, 4, 16, 36, 79, 184, 0, 48, 28, 3, 17, 7, 208, 184, 0, 90]
abbrev dktX1_person_0 : List UInt8 := dkwX1_person_0 ++ dktX1_person_1
theorem dksX1_person_0 : cX1_person.data.toList.drop 0 = dktX1_person_0 := by decide +kernel
theorem dksX1_person_1 : cX1_person.data.toList.drop 23 = dktX1_person_1 := dk_seg dksX1_person_0 23 rfl rfl
theorem dksX1_person_2 : cX1_person.data.toList.drop 45 = dktX1_person_2 := dk_seg dksX1_person_1 22 rfl rfl
theorem dksX1_person_3 : cX1_person.data.toList.drop 67 = dktX1_person_3 := dk_seg dksX1_person_2 22 rfl rfl
theorem dksX1_person_4 : cX1_person.data.toList.drop 91 = dktX1_person_4 := dk_seg dksX1_person_3 24 rfl rfl
theorem dX1_person_0 : decode cX1_person 0 = .ok (.iconst 2, 1) := dk_5 (dk_at dksX1_person_0 0 rfl rfl)
theorem dX1_person_1 : decode cX1_person 1 = .ok (.newarray .int, 2) := dk_188_10 (dk_at dksX1_person_0 1 rfl rfl)
theorem dX1_person_3 : decode cX1_person 3 = .ok (.dup, 1) := dk_89 (dk_at dksX1_person_0 3 rfl rfl)
theorem dX1_person_4 : decode cX1_person 4 = .ok (.iconst 0, 1) := dk_3 (dk_at dksX1_person_0 4 rfl rfl)
theorem dX1_person_5 : decode cX1_person 5 = .ok (.iload_n 1, 1) := dk_27 (dk_at dksX1_person_0 5 rfl rfl)
theorem dX1_person_6 : decode cX1_person 6 = .ok (.iastore, 1) := dk_79 (dk_at dksX1_person_0 6 rfl rfl)
theorem dX1_person_7 : decode cX1_person 7 = .ok (.dup, 1) := dk_89 (dk_at dksX1_person_0 7 rfl rfl)
theorem dX1_person_8 : decode cX1_person 8 = .ok (.iconst 1, 1) := dk_4 (dk_at dksX1_person_0 8 rfl rfl)
theorem dX1_person_9 : decode cX1_person 9 = .ok (.bipush 36, 2) := dk_16 36 (dk_at dksX1_person_0 9 rfl rfl)
theorem dX1_person_11 : decode cX1_person 11 = .ok (.iastore, 1) := dk_79 (dk_at dksX1_person_0 11 rfl rfl)
theorem dX1_person_12 : decode cX1_person 12 = .ok (.invokestatic 48, 3) := dk_184 0 48 (dk_at dksX1_person_0 12 rfl rfl)
theorem dX1_person_15 : decode cX1_person 15 = .ok (.iload_n 2, 1) := dk_28 (dk_at dksX1_person_0 15 rfl rfl)
theorem dX1_person_16 : decode cX1_person 16 = .ok (.iconst 0, 1) := dk_3 (dk_at dksX1_person_0 16 rfl rfl)
theorem dX1_person_17 : decode cX1_person 17 = .ok (.sipush 2000, 3) := dk_17 7 208 (dk_at dksX1_person_0 17 rfl rfl)
theorem dX1_person_20 : decode cX1_person 20 = .ok (.invokestatic 90, 3) := dk_184 0 90 (dk_at dksX1_person_0 20 rfl rfl)
theorem dX1_person_23 : decode cX1_person 23 = .ok (.invokestatic 82, 3) := dk_184 0 82 (dk_at dksX1_person_1 0 rfl rfl)
theorem dX1_person_26 : decode cX1_person 26 = .ok (.aload_n 0, 1) := dk_42 (dk_at dksX1_person_1 3 rfl rfl)
theorem dX1_person_27 : decode cX1_person 27 = .ok (.getfield 16, 3) := dk_180 0 16 (dk_at dksX1_person_1 4 rfl rfl)
theorem dX1_person_30 : decode cX1_person 30 = .ok (.invokeinterface 42 1, 5) := by decide +kernel
theorem dX1_person_35 : decode cX1_person 35 = .ok (.bipush 20, 2) := dk_16 20 (dk_at dksX1_person_1 12 rfl rfl)
theorem dX1_person_37 : decode cX1_person 37 = .ok (.if_icmp .ge 7, 3) := dk_162 0 7 (dk_at dksX1_person_1 14 rfl rfl)
theorem dX1_person_40 : decode cX1_person 40 = .ok (.iconst 1, 1) := dk_4 (dk_at dksX1_person_1 17 rfl rfl)
theorem dX1_person_41 : decode cX1_person 41 = .ok (.goto 4, 3) := dk_167 0 4 (dk_at dksX1_person_1 18 rfl rfl)
theorem dX1_person_44 : decode cX1_person 44 = .ok (.iconst 0, 1) := dk_3 (dk_at dksX1_person_1 21 rfl rfl)
theorem dX1_person_45 : decode cX1_person 45 = .ok (.invokestatic 94, 3) := dk_184 0 94 (dk_at dksX1_person_2 0 rfl rfl)
theorem dX1_person_48 : decode cX1_person 48 = .ok (.aload_n 0, 1) := dk_42 (dk_at dksX1_person_2 3 rfl rfl)
theorem dX1_person_49 : decode cX1_person 49 = .ok (.getfield 16, 3) := dk_180 0 16 (dk_at dksX1_person_2 4 rfl rfl)
theorem dX1_person_52 : decode cX1_person 52 = .ok (.new 56, 3) := dk_187 0 56 (dk_at dksX1_person_2 7 rfl rfl)
theorem dX1_person_55 : decode cX1_person 55 = .ok (.dup, 1) := dk_89 (dk_at dksX1_person_2 10 rfl rfl)
theorem dX1_person_56 : decode cX1_person 56 = .ok (.aload_n 0, 1) := dk_42 (dk_at dksX1_person_2 11 rfl rfl)
theorem dX1_person_57 : decode cX1_person 57 = .ok (.getfield 16, 3) := dk_180 0 16 (dk_at dksX1_person_2 12 rfl rfl)
theorem dX1_person_60 : decode cX1_person 60 = .ok (.invokeinterface 42 1, 5) := by decide +kernel
theorem dX1_person_65 : decode cX1_person 65 = .ok (.iload_n 2, 1) := dk_28 (dk_at dksX1_person_2 20 rfl rfl)
theorem dX1_person_66 : decode cX1_person 66 = .ok (.aload_n 0, 1) := dk_42 (dk_at dksX1_person_2 21 rfl rfl)
theorem dX1_person_67 : decode cX1_person 67 = .ok (.getfield 110, 3) := dk_180 0 110 (dk_at dksX1_person_3 0 rfl rfl)
theorem dX1_person_70 : decode cX1_person 70 = .ok (.iload_n 1, 1) := dk_27 (dk_at dksX1_person_3 3 rfl rfl)
theorem dX1_person_71 : decode cX1_person 71 = .ok (.invokespecial 113, 3) := dk_183 0 113 (dk_at dksX1_person_3 4 rfl rfl)
theorem dX1_person_74 : decode cX1_person 74 = .ok (.invokeinterface 102 2, 5) := by decide +kernel
theorem dX1_person_79 : decode cX1_person 79 = .ok (.pop, 1) := dk_87 (dk_at dksX1_person_3 12 rfl rfl)
theorem dX1_person_80 : decode cX1_person 80 = .ok (.aload_n 0, 1) := dk_42 (dk_at dksX1_person_3 13 rfl rfl)
theorem dX1_person_81 : decode cX1_person 81 = .ok (.getfield 16, 3) := dk_180 0 16 (dk_at dksX1_person_3 14 rfl rfl)
theorem dX1_person_84 : decode cX1_person 84 = .ok (.invokeinterface 42 1, 5) := by decide +kernel
theorem dX1_person_89 : decode cX1_person 89 = .ok (.iconst 1, 1) := dk_4 (dk_at dksX1_person_3 22 rfl rfl)
theorem dX1_person_90 : decode cX1_person 90 = .ok (.isub, 1) := dk_100 (dk_at dksX1_person_3 23 rfl rfl)
theorem dX1_person_91 : decode cX1_person 91 = .ok (.ireturn, 1) := dk_172 (dk_at dksX1_person_4 0 rfl rfl)
abbrev cX1_move : ByteArray := prog_1_method_15_code
def yX1_move : MethodName := ⟨RX1, "move", "(II)I"⟩
def dkwX1_move_2 : List UInt8 := [180, 0, 110, 28, 182, 0, 127, 21, 4, 172]
abbrev dktX1_move_2 : List UInt8 := dkwX1_move_2 ++ []
def dkwX1_move_1 : List UInt8 := [180, 0, 120, 154, 0, 7, 4, 167, 0, 4, 3, 184, 0, 94, 45, 182, 0, 124, 54, 4, 45, 42]
abbrev dktX1_move_1 : List UInt8 := dkwX1_move_1 ++ dktX1_move_2
def dkwX1_move_0 : List UInt8 := [42, 27, 182, 0, 116, 78, 5, 188, 10, 89, 3, 28, 79, 89, 4, 16, 36, 79, 184, 0, 48, 45]
abbrev dktX1_move_0 : List UInt8 := dkwX1_move_0 ++ dktX1_move_1
theorem dksX1_move_0 : cX1_move.data.toList.drop 0 = dktX1_move_0 := by decide +kernel
theorem dksX1_move_1 : cX1_move.data.toList.drop 22 = dktX1_move_1 := dk_seg dksX1_move_0 22 rfl rfl
theorem dksX1_move_2 : cX1_move.data.toList.drop 44 = dktX1_move_2 := dk_seg dksX1_move_1 22 rfl rfl
theorem dX1_move_0 : decode cX1_move 0 = .ok (.aload_n 0, 1) := dk_42 (dk_at dksX1_move_0 0 rfl rfl)
theorem dX1_move_1 : decode cX1_move 1 = .ok (.iload_n 1, 1) := dk_27 (dk_at dksX1_move_0 1 rfl rfl)
theorem dX1_move_2 : decode cX1_move 2 = .ok (.invokevirtual 116, 3) := dk_182 0 116 (dk_at dksX1_move_0 2 rfl rfl)
theorem dX1_move_5 : decode cX1_move 5 = .ok (.astore_n 3, 1) := dk_78 (dk_at dksX1_move_0 5 rfl rfl)
theorem dX1_move_6 : decode cX1_move 6 = .ok (.iconst 2, 1) := dk_5 (dk_at dksX1_move_0 6 rfl rfl)
theorem dX1_move_7 : decode cX1_move 7 = .ok (.newarray .int, 2) := dk_188_10 (dk_at dksX1_move_0 7 rfl rfl)
theorem dX1_move_9 : decode cX1_move 9 = .ok (.dup, 1) := dk_89 (dk_at dksX1_move_0 9 rfl rfl)
theorem dX1_move_10 : decode cX1_move 10 = .ok (.iconst 0, 1) := dk_3 (dk_at dksX1_move_0 10 rfl rfl)
theorem dX1_move_11 : decode cX1_move 11 = .ok (.iload_n 2, 1) := dk_28 (dk_at dksX1_move_0 11 rfl rfl)
theorem dX1_move_12 : decode cX1_move 12 = .ok (.iastore, 1) := dk_79 (dk_at dksX1_move_0 12 rfl rfl)
theorem dX1_move_13 : decode cX1_move 13 = .ok (.dup, 1) := dk_89 (dk_at dksX1_move_0 13 rfl rfl)
theorem dX1_move_14 : decode cX1_move 14 = .ok (.iconst 1, 1) := dk_4 (dk_at dksX1_move_0 14 rfl rfl)
theorem dX1_move_15 : decode cX1_move 15 = .ok (.bipush 36, 2) := dk_16 36 (dk_at dksX1_move_0 15 rfl rfl)
theorem dX1_move_17 : decode cX1_move 17 = .ok (.iastore, 1) := dk_79 (dk_at dksX1_move_0 17 rfl rfl)
theorem dX1_move_18 : decode cX1_move 18 = .ok (.invokestatic 48, 3) := dk_184 0 48 (dk_at dksX1_move_0 18 rfl rfl)
theorem dX1_move_21 : decode cX1_move 21 = .ok (.aload_n 3, 1) := dk_45 (dk_at dksX1_move_0 21 rfl rfl)
theorem dX1_move_22 : decode cX1_move 22 = .ok (.getfield 120, 3) := dk_180 0 120 (dk_at dksX1_move_1 0 rfl rfl)
theorem dX1_move_25 : decode cX1_move 25 = .ok (.ifCond .ne 7, 3) := dk_154 0 7 (dk_at dksX1_move_1 3 rfl rfl)
theorem dX1_move_28 : decode cX1_move 28 = .ok (.iconst 1, 1) := dk_4 (dk_at dksX1_move_1 6 rfl rfl)
theorem dX1_move_29 : decode cX1_move 29 = .ok (.goto 4, 3) := dk_167 0 4 (dk_at dksX1_move_1 7 rfl rfl)
theorem dX1_move_32 : decode cX1_move 32 = .ok (.iconst 0, 1) := dk_3 (dk_at dksX1_move_1 10 rfl rfl)
theorem dX1_move_33 : decode cX1_move 33 = .ok (.invokestatic 94, 3) := dk_184 0 94 (dk_at dksX1_move_1 11 rfl rfl)
theorem dX1_move_36 : decode cX1_move 36 = .ok (.aload_n 3, 1) := dk_45 (dk_at dksX1_move_1 14 rfl rfl)
theorem dX1_move_37 : decode cX1_move 37 = .ok (.invokevirtual 124, 3) := dk_182 0 124 (dk_at dksX1_move_1 15 rfl rfl)
theorem dX1_move_40 : decode cX1_move 40 = .ok (.istore 4, 2) := dk_54 4 (dk_at dksX1_move_1 18 rfl rfl)
theorem dX1_move_42 : decode cX1_move 42 = .ok (.aload_n 3, 1) := dk_45 (dk_at dksX1_move_1 20 rfl rfl)
theorem dX1_move_43 : decode cX1_move 43 = .ok (.aload_n 0, 1) := dk_42 (dk_at dksX1_move_1 21 rfl rfl)
theorem dX1_move_44 : decode cX1_move 44 = .ok (.getfield 110, 3) := dk_180 0 110 (dk_at dksX1_move_2 0 rfl rfl)
theorem dX1_move_47 : decode cX1_move 47 = .ok (.iload_n 2, 1) := dk_28 (dk_at dksX1_move_2 3 rfl rfl)
theorem dX1_move_48 : decode cX1_move 48 = .ok (.invokevirtual 127, 3) := dk_182 0 127 (dk_at dksX1_move_2 4 rfl rfl)
theorem dX1_move_51 : decode cX1_move 51 = .ok (.iload 4, 2) := dk_21 4 (dk_at dksX1_move_2 7 rfl rfl)
theorem dX1_move_53 : decode cX1_move 53 = .ok (.ireturn, 1) := dk_172 (dk_at dksX1_move_2 9 rfl rfl)
abbrev cX1_find : ByteArray := prog_1_method_6_code
def yX1_find : MethodName := ⟨RX1, "find", "(I)LBallotFoundry$Person;"⟩
def dkwX1_find_1 : List UInt8 := [180, 0, 16, 27, 185, 0, 52, 2, 0, 192, 0, 56, 176]
abbrev dktX1_find_1 : List UInt8 := dkwX1_find_1 ++ []
def dkwX1_find_0 : List UInt8 := [5, 188, 10, 89, 3, 27, 79, 89, 4, 42, 180, 0, 16, 185, 0, 42, 1, 0, 79, 184, 0, 48, 42]
abbrev dktX1_find_0 : List UInt8 := dkwX1_find_0 ++ dktX1_find_1
theorem dksX1_find_0 : cX1_find.data.toList.drop 0 = dktX1_find_0 := by decide +kernel
theorem dksX1_find_1 : cX1_find.data.toList.drop 23 = dktX1_find_1 := dk_seg dksX1_find_0 23 rfl rfl
theorem dX1_find_0 : decode cX1_find 0 = .ok (.iconst 2, 1) := dk_5 (dk_at dksX1_find_0 0 rfl rfl)
theorem dX1_find_1 : decode cX1_find 1 = .ok (.newarray .int, 2) := dk_188_10 (dk_at dksX1_find_0 1 rfl rfl)
theorem dX1_find_3 : decode cX1_find 3 = .ok (.dup, 1) := dk_89 (dk_at dksX1_find_0 3 rfl rfl)
theorem dX1_find_4 : decode cX1_find 4 = .ok (.iconst 0, 1) := dk_3 (dk_at dksX1_find_0 4 rfl rfl)
theorem dX1_find_5 : decode cX1_find 5 = .ok (.iload_n 1, 1) := dk_27 (dk_at dksX1_find_0 5 rfl rfl)
theorem dX1_find_6 : decode cX1_find 6 = .ok (.iastore, 1) := dk_79 (dk_at dksX1_find_0 6 rfl rfl)
theorem dX1_find_7 : decode cX1_find 7 = .ok (.dup, 1) := dk_89 (dk_at dksX1_find_0 7 rfl rfl)
theorem dX1_find_8 : decode cX1_find 8 = .ok (.iconst 1, 1) := dk_4 (dk_at dksX1_find_0 8 rfl rfl)
theorem dX1_find_9 : decode cX1_find 9 = .ok (.aload_n 0, 1) := dk_42 (dk_at dksX1_find_0 9 rfl rfl)
theorem dX1_find_10 : decode cX1_find 10 = .ok (.getfield 16, 3) := dk_180 0 16 (dk_at dksX1_find_0 10 rfl rfl)
theorem dX1_find_13 : decode cX1_find 13 = .ok (.invokeinterface 42 1, 5) := by decide +kernel
theorem dX1_find_18 : decode cX1_find 18 = .ok (.iastore, 1) := dk_79 (dk_at dksX1_find_0 18 rfl rfl)
theorem dX1_find_19 : decode cX1_find 19 = .ok (.invokestatic 48, 3) := dk_184 0 48 (dk_at dksX1_find_0 19 rfl rfl)
theorem dX1_find_22 : decode cX1_find 22 = .ok (.aload_n 0, 1) := dk_42 (dk_at dksX1_find_0 22 rfl rfl)
theorem dX1_find_23 : decode cX1_find 23 = .ok (.getfield 16, 3) := dk_180 0 16 (dk_at dksX1_find_1 0 rfl rfl)
theorem dX1_find_26 : decode cX1_find 26 = .ok (.iload_n 1, 1) := dk_27 (dk_at dksX1_find_1 3 rfl rfl)
theorem dX1_find_27 : decode cX1_find 27 = .ok (.invokeinterface 52 2, 5) := by decide +kernel
theorem dX1_find_32 : decode cX1_find 32 = .ok (.checkcast 56, 3) := dk_192 0 56 (dk_at dksX1_find_1 9 rfl rfl)
theorem dX1_find_35 : decode cX1_find 35 = .ok (.areturn, 1) := dk_176 (dk_at dksX1_find_1 12 rfl rfl)
abbrev cX1_die : ByteArray := prog_1_method_16_code
def yX1_die : MethodName := ⟨RX1, "die", "(I)Z"⟩
def dkwX1_die_2 : List UInt8 := [153, 0, 7, 4, 167, 0, 4, 3, 172]
abbrev dktX1_die_2 : List UInt8 := dkwX1_die_2 ++ []
def dkwX1_die_1 : List UInt8 := [181, 0, 120, 42, 180, 0, 58, 198, 0, 22, 42, 180, 0, 58, 44, 42, 180, 0, 110, 182, 0, 130]
abbrev dktX1_die_1 : List UInt8 := dkwX1_die_1 ++ dktX1_die_2
def dkwX1_die_0 : List UInt8 := [42, 27, 182, 0, 116, 77, 44, 180, 0, 120, 154, 0, 7, 4, 167, 0, 4, 3, 184, 0, 94, 44, 4]
abbrev dktX1_die_0 : List UInt8 := dkwX1_die_0 ++ dktX1_die_1
theorem dksX1_die_0 : cX1_die.data.toList.drop 0 = dktX1_die_0 := by decide +kernel
theorem dksX1_die_1 : cX1_die.data.toList.drop 23 = dktX1_die_1 := dk_seg dksX1_die_0 23 rfl rfl
theorem dksX1_die_2 : cX1_die.data.toList.drop 45 = dktX1_die_2 := dk_seg dksX1_die_1 22 rfl rfl
theorem dX1_die_0 : decode cX1_die 0 = .ok (.aload_n 0, 1) := dk_42 (dk_at dksX1_die_0 0 rfl rfl)
theorem dX1_die_1 : decode cX1_die 1 = .ok (.iload_n 1, 1) := dk_27 (dk_at dksX1_die_0 1 rfl rfl)
theorem dX1_die_2 : decode cX1_die 2 = .ok (.invokevirtual 116, 3) := dk_182 0 116 (dk_at dksX1_die_0 2 rfl rfl)
theorem dX1_die_5 : decode cX1_die 5 = .ok (.astore_n 2, 1) := dk_77 (dk_at dksX1_die_0 5 rfl rfl)
theorem dX1_die_6 : decode cX1_die 6 = .ok (.aload_n 2, 1) := dk_44 (dk_at dksX1_die_0 6 rfl rfl)
theorem dX1_die_7 : decode cX1_die 7 = .ok (.getfield 120, 3) := dk_180 0 120 (dk_at dksX1_die_0 7 rfl rfl)
theorem dX1_die_10 : decode cX1_die 10 = .ok (.ifCond .ne 7, 3) := dk_154 0 7 (dk_at dksX1_die_0 10 rfl rfl)
theorem dX1_die_13 : decode cX1_die 13 = .ok (.iconst 1, 1) := dk_4 (dk_at dksX1_die_0 13 rfl rfl)
theorem dX1_die_14 : decode cX1_die 14 = .ok (.goto 4, 3) := dk_167 0 4 (dk_at dksX1_die_0 14 rfl rfl)
theorem dX1_die_17 : decode cX1_die 17 = .ok (.iconst 0, 1) := dk_3 (dk_at dksX1_die_0 17 rfl rfl)
theorem dX1_die_18 : decode cX1_die 18 = .ok (.invokestatic 94, 3) := dk_184 0 94 (dk_at dksX1_die_0 18 rfl rfl)
theorem dX1_die_21 : decode cX1_die 21 = .ok (.aload_n 2, 1) := dk_44 (dk_at dksX1_die_0 21 rfl rfl)
theorem dX1_die_22 : decode cX1_die 22 = .ok (.iconst 1, 1) := dk_4 (dk_at dksX1_die_0 22 rfl rfl)
theorem dX1_die_23 : decode cX1_die 23 = .ok (.putfield 120, 3) := dk_181 0 120 (dk_at dksX1_die_1 0 rfl rfl)
theorem dX1_die_26 : decode cX1_die 26 = .ok (.aload_n 0, 1) := dk_42 (dk_at dksX1_die_1 3 rfl rfl)
theorem dX1_die_27 : decode cX1_die 27 = .ok (.getfield 58, 3) := dk_180 0 58 (dk_at dksX1_die_1 4 rfl rfl)
theorem dX1_die_30 : decode cX1_die 30 = .ok (.ifnull 22, 3) := dk_198 0 22 (dk_at dksX1_die_1 7 rfl rfl)
theorem dX1_die_33 : decode cX1_die 33 = .ok (.aload_n 0, 1) := dk_42 (dk_at dksX1_die_1 10 rfl rfl)
theorem dX1_die_34 : decode cX1_die 34 = .ok (.getfield 58, 3) := dk_180 0 58 (dk_at dksX1_die_1 11 rfl rfl)
theorem dX1_die_37 : decode cX1_die 37 = .ok (.aload_n 2, 1) := dk_44 (dk_at dksX1_die_1 14 rfl rfl)
theorem dX1_die_38 : decode cX1_die 38 = .ok (.aload_n 0, 1) := dk_42 (dk_at dksX1_die_1 15 rfl rfl)
theorem dX1_die_39 : decode cX1_die 39 = .ok (.getfield 110, 3) := dk_180 0 110 (dk_at dksX1_die_1 16 rfl rfl)
theorem dX1_die_42 : decode cX1_die 42 = .ok (.invokevirtual 130, 3) := dk_182 0 130 (dk_at dksX1_die_1 19 rfl rfl)
theorem dX1_die_45 : decode cX1_die 45 = .ok (.ifCond .eq 7, 3) := dk_153 0 7 (dk_at dksX1_die_2 0 rfl rfl)
theorem dX1_die_48 : decode cX1_die 48 = .ok (.iconst 1, 1) := dk_4 (dk_at dksX1_die_2 3 rfl rfl)
theorem dX1_die_49 : decode cX1_die 49 = .ok (.goto 4, 3) := dk_167 0 4 (dk_at dksX1_die_2 4 rfl rfl)
theorem dX1_die_52 : decode cX1_die 52 = .ok (.iconst 0, 1) := dk_3 (dk_at dksX1_die_2 7 rfl rfl)
theorem dX1_die_53 : decode cX1_die 53 = .ok (.ireturn, 1) := dk_172 (dk_at dksX1_die_2 8 rfl rfl)
abbrev cX1_dwells : ByteArray := prog_1_method_17_code
def yX1_dwells : MethodName := ⟨RX1, "dwells", "(II)I"⟩
def dkwX1_dwells_0 : List UInt8 := [42, 27, 182, 0, 116, 78, 28, 3, 42, 180, 0, 110, 184, 0, 90, 184, 0, 82, 45, 28, 182, 0, 134, 172]
abbrev dktX1_dwells_0 : List UInt8 := dkwX1_dwells_0 ++ []
theorem dksX1_dwells_0 : cX1_dwells.data.toList.drop 0 = dktX1_dwells_0 := by decide +kernel
theorem dX1_dwells_0 : decode cX1_dwells 0 = .ok (.aload_n 0, 1) := dk_42 (dk_at dksX1_dwells_0 0 rfl rfl)
theorem dX1_dwells_1 : decode cX1_dwells 1 = .ok (.iload_n 1, 1) := dk_27 (dk_at dksX1_dwells_0 1 rfl rfl)
theorem dX1_dwells_2 : decode cX1_dwells 2 = .ok (.invokevirtual 116, 3) := dk_182 0 116 (dk_at dksX1_dwells_0 2 rfl rfl)
theorem dX1_dwells_5 : decode cX1_dwells 5 = .ok (.astore_n 3, 1) := dk_78 (dk_at dksX1_dwells_0 5 rfl rfl)
theorem dX1_dwells_6 : decode cX1_dwells 6 = .ok (.iload_n 2, 1) := dk_28 (dk_at dksX1_dwells_0 6 rfl rfl)
theorem dX1_dwells_7 : decode cX1_dwells 7 = .ok (.iconst 0, 1) := dk_3 (dk_at dksX1_dwells_0 7 rfl rfl)
theorem dX1_dwells_8 : decode cX1_dwells 8 = .ok (.aload_n 0, 1) := dk_42 (dk_at dksX1_dwells_0 8 rfl rfl)
theorem dX1_dwells_9 : decode cX1_dwells 9 = .ok (.getfield 110, 3) := dk_180 0 110 (dk_at dksX1_dwells_0 9 rfl rfl)
theorem dX1_dwells_12 : decode cX1_dwells 12 = .ok (.invokestatic 90, 3) := dk_184 0 90 (dk_at dksX1_dwells_0 12 rfl rfl)
theorem dX1_dwells_15 : decode cX1_dwells 15 = .ok (.invokestatic 82, 3) := dk_184 0 82 (dk_at dksX1_dwells_0 15 rfl rfl)
theorem dX1_dwells_18 : decode cX1_dwells 18 = .ok (.aload_n 3, 1) := dk_45 (dk_at dksX1_dwells_0 18 rfl rfl)
theorem dX1_dwells_19 : decode cX1_dwells 19 = .ok (.iload_n 2, 1) := dk_28 (dk_at dksX1_dwells_0 19 rfl rfl)
theorem dX1_dwells_20 : decode cX1_dwells 20 = .ok (.invokevirtual 134, 3) := dk_182 0 134 (dk_at dksX1_dwells_0 20 rfl rfl)
theorem dX1_dwells_23 : decode cX1_dwells 23 = .ok (.ireturn, 1) := dk_172 (dk_at dksX1_dwells_0 23 rfl rfl)
abbrev cX1_call : ByteArray := prog_1_method_18_code
def yX1_call : MethodName := ⟨RX1, "call", "(IIZ)I"⟩
def dkwX1_call_4 : List UInt8 := [181, 0, 58, 42, 180, 0, 58, 180, 0, 147, 172]
abbrev dktX1_call_4 : List UInt8 := dkwX1_call_4 ++ []
def dkwX1_call_3 : List UInt8 := [167, 0, 4, 3, 184, 0, 94, 42, 187, 0, 63, 89, 42, 180, 0, 110, 27, 96, 28, 29, 183, 0, 144]
abbrev dktX1_call_3 : List UInt8 := dkwX1_call_3 ++ dktX1_call_4
def dkwX1_call_2 : List UInt8 := [180, 0, 20, 185, 0, 140, 1, 0, 154, 0, 19, 42, 180, 0, 110, 27, 96, 17, 7, 208, 163, 0, 7, 4]
abbrev dktX1_call_2 : List UInt8 := dkwX1_call_2 ++ dktX1_call_3
def dkwX1_call_1 : List UInt8 := [167, 0, 4, 3, 184, 0, 82, 42, 182, 0, 137, 153, 0, 11, 42, 182, 0, 137, 8, 160, 0, 31, 42]
abbrev dktX1_call_1 : List UInt8 := dkwX1_call_1 ++ dktX1_call_2
def dkwX1_call_0 : List UInt8 := [27, 16, 8, 16, 100, 184, 0, 90, 153, 0, 17, 28, 3, 16, 30, 184, 0, 90, 153, 0, 7, 4]
abbrev dktX1_call_0 : List UInt8 := dkwX1_call_0 ++ dktX1_call_1
theorem dksX1_call_0 : cX1_call.data.toList.drop 0 = dktX1_call_0 := by decide +kernel
theorem dksX1_call_1 : cX1_call.data.toList.drop 22 = dktX1_call_1 := dk_seg dksX1_call_0 22 rfl rfl
theorem dksX1_call_2 : cX1_call.data.toList.drop 45 = dktX1_call_2 := dk_seg dksX1_call_1 23 rfl rfl
theorem dksX1_call_3 : cX1_call.data.toList.drop 69 = dktX1_call_3 := dk_seg dksX1_call_2 24 rfl rfl
theorem dksX1_call_4 : cX1_call.data.toList.drop 92 = dktX1_call_4 := dk_seg dksX1_call_3 23 rfl rfl
theorem dX1_call_0 : decode cX1_call 0 = .ok (.iload_n 1, 1) := dk_27 (dk_at dksX1_call_0 0 rfl rfl)
theorem dX1_call_1 : decode cX1_call 1 = .ok (.bipush 8, 2) := dk_16 8 (dk_at dksX1_call_0 1 rfl rfl)
theorem dX1_call_3 : decode cX1_call 3 = .ok (.bipush 100, 2) := dk_16 100 (dk_at dksX1_call_0 3 rfl rfl)
theorem dX1_call_5 : decode cX1_call 5 = .ok (.invokestatic 90, 3) := dk_184 0 90 (dk_at dksX1_call_0 5 rfl rfl)
theorem dX1_call_8 : decode cX1_call 8 = .ok (.ifCond .eq 17, 3) := dk_153 0 17 (dk_at dksX1_call_0 8 rfl rfl)
theorem dX1_call_11 : decode cX1_call 11 = .ok (.iload_n 2, 1) := dk_28 (dk_at dksX1_call_0 11 rfl rfl)
theorem dX1_call_12 : decode cX1_call 12 = .ok (.iconst 0, 1) := dk_3 (dk_at dksX1_call_0 12 rfl rfl)
theorem dX1_call_13 : decode cX1_call 13 = .ok (.bipush 30, 2) := dk_16 30 (dk_at dksX1_call_0 13 rfl rfl)
theorem dX1_call_15 : decode cX1_call 15 = .ok (.invokestatic 90, 3) := dk_184 0 90 (dk_at dksX1_call_0 15 rfl rfl)
theorem dX1_call_18 : decode cX1_call 18 = .ok (.ifCond .eq 7, 3) := dk_153 0 7 (dk_at dksX1_call_0 18 rfl rfl)
theorem dX1_call_21 : decode cX1_call 21 = .ok (.iconst 1, 1) := dk_4 (dk_at dksX1_call_0 21 rfl rfl)
theorem dX1_call_22 : decode cX1_call 22 = .ok (.goto 4, 3) := dk_167 0 4 (dk_at dksX1_call_1 0 rfl rfl)
theorem dX1_call_25 : decode cX1_call 25 = .ok (.iconst 0, 1) := dk_3 (dk_at dksX1_call_1 3 rfl rfl)
theorem dX1_call_26 : decode cX1_call 26 = .ok (.invokestatic 82, 3) := dk_184 0 82 (dk_at dksX1_call_1 4 rfl rfl)
theorem dX1_call_29 : decode cX1_call 29 = .ok (.aload_n 0, 1) := dk_42 (dk_at dksX1_call_1 7 rfl rfl)
theorem dX1_call_30 : decode cX1_call 30 = .ok (.invokevirtual 137, 3) := dk_182 0 137 (dk_at dksX1_call_1 8 rfl rfl)
theorem dX1_call_33 : decode cX1_call 33 = .ok (.ifCond .eq 11, 3) := dk_153 0 11 (dk_at dksX1_call_1 11 rfl rfl)
theorem dX1_call_36 : decode cX1_call 36 = .ok (.aload_n 0, 1) := dk_42 (dk_at dksX1_call_1 14 rfl rfl)
theorem dX1_call_37 : decode cX1_call 37 = .ok (.invokevirtual 137, 3) := dk_182 0 137 (dk_at dksX1_call_1 15 rfl rfl)
theorem dX1_call_40 : decode cX1_call 40 = .ok (.iconst 5, 1) := dk_8 (dk_at dksX1_call_1 18 rfl rfl)
theorem dX1_call_41 : decode cX1_call 41 = .ok (.if_icmp .ne 31, 3) := dk_160 0 31 (dk_at dksX1_call_1 19 rfl rfl)
theorem dX1_call_44 : decode cX1_call 44 = .ok (.aload_n 0, 1) := dk_42 (dk_at dksX1_call_1 22 rfl rfl)
theorem dX1_call_45 : decode cX1_call 45 = .ok (.getfield 20, 3) := dk_180 0 20 (dk_at dksX1_call_2 0 rfl rfl)
theorem dX1_call_48 : decode cX1_call 48 = .ok (.invokeinterface 140 1, 5) := by decide +kernel
theorem dX1_call_53 : decode cX1_call 53 = .ok (.ifCond .ne 19, 3) := dk_154 0 19 (dk_at dksX1_call_2 8 rfl rfl)
theorem dX1_call_56 : decode cX1_call 56 = .ok (.aload_n 0, 1) := dk_42 (dk_at dksX1_call_2 11 rfl rfl)
theorem dX1_call_57 : decode cX1_call 57 = .ok (.getfield 110, 3) := dk_180 0 110 (dk_at dksX1_call_2 12 rfl rfl)
theorem dX1_call_60 : decode cX1_call 60 = .ok (.iload_n 1, 1) := dk_27 (dk_at dksX1_call_2 15 rfl rfl)
theorem dX1_call_61 : decode cX1_call 61 = .ok (.iadd, 1) := dk_96 (dk_at dksX1_call_2 16 rfl rfl)
theorem dX1_call_62 : decode cX1_call 62 = .ok (.sipush 2000, 3) := dk_17 7 208 (dk_at dksX1_call_2 17 rfl rfl)
theorem dX1_call_65 : decode cX1_call 65 = .ok (.if_icmp .gt 7, 3) := dk_163 0 7 (dk_at dksX1_call_2 20 rfl rfl)
theorem dX1_call_68 : decode cX1_call 68 = .ok (.iconst 1, 1) := dk_4 (dk_at dksX1_call_2 23 rfl rfl)
theorem dX1_call_69 : decode cX1_call 69 = .ok (.goto 4, 3) := dk_167 0 4 (dk_at dksX1_call_3 0 rfl rfl)
theorem dX1_call_72 : decode cX1_call 72 = .ok (.iconst 0, 1) := dk_3 (dk_at dksX1_call_3 3 rfl rfl)
theorem dX1_call_73 : decode cX1_call 73 = .ok (.invokestatic 94, 3) := dk_184 0 94 (dk_at dksX1_call_3 4 rfl rfl)
theorem dX1_call_76 : decode cX1_call 76 = .ok (.aload_n 0, 1) := dk_42 (dk_at dksX1_call_3 7 rfl rfl)
theorem dX1_call_77 : decode cX1_call 77 = .ok (.new 63, 3) := dk_187 0 63 (dk_at dksX1_call_3 8 rfl rfl)
theorem dX1_call_80 : decode cX1_call 80 = .ok (.dup, 1) := dk_89 (dk_at dksX1_call_3 11 rfl rfl)
theorem dX1_call_81 : decode cX1_call 81 = .ok (.aload_n 0, 1) := dk_42 (dk_at dksX1_call_3 12 rfl rfl)
theorem dX1_call_82 : decode cX1_call 82 = .ok (.getfield 110, 3) := dk_180 0 110 (dk_at dksX1_call_3 13 rfl rfl)
theorem dX1_call_85 : decode cX1_call 85 = .ok (.iload_n 1, 1) := dk_27 (dk_at dksX1_call_3 16 rfl rfl)
theorem dX1_call_86 : decode cX1_call 86 = .ok (.iadd, 1) := dk_96 (dk_at dksX1_call_3 17 rfl rfl)
theorem dX1_call_87 : decode cX1_call 87 = .ok (.iload_n 2, 1) := dk_28 (dk_at dksX1_call_3 18 rfl rfl)
theorem dX1_call_88 : decode cX1_call 88 = .ok (.iload_n 3, 1) := dk_29 (dk_at dksX1_call_3 19 rfl rfl)
theorem dX1_call_89 : decode cX1_call 89 = .ok (.invokespecial 144, 3) := dk_183 0 144 (dk_at dksX1_call_3 20 rfl rfl)
theorem dX1_call_92 : decode cX1_call 92 = .ok (.putfield 58, 3) := dk_181 0 58 (dk_at dksX1_call_4 0 rfl rfl)
theorem dX1_call_95 : decode cX1_call 95 = .ok (.aload_n 0, 1) := dk_42 (dk_at dksX1_call_4 3 rfl rfl)
theorem dX1_call_96 : decode cX1_call 96 = .ok (.getfield 58, 3) := dk_180 0 58 (dk_at dksX1_call_4 4 rfl rfl)
theorem dX1_call_99 : decode cX1_call 99 = .ok (.getfield 147, 3) := dk_180 0 147 (dk_at dksX1_call_4 7 rfl rfl)
theorem dX1_call_102 : decode cX1_call 102 = .ok (.ireturn, 1) := dk_172 (dk_at dksX1_call_4 10 rfl rfl)
abbrev cX1_seed : ByteArray := prog_1_method_19_code
def yX1_seed : MethodName := ⟨RX1, "seed", "(II)I"⟩
def dkwX1_seed_3 : List UInt8 := [172]
abbrev dktX1_seed_3 : List UInt8 := dkwX1_seed_3 ++ []
def dkwX1_seed_2 : List UInt8 := [184, 0, 94, 42, 180, 0, 58, 180, 0, 150, 27, 46, 62, 42, 180, 0, 58, 180, 0, 150, 27, 28, 79, 29]
abbrev dktX1_seed_2 : List UInt8 := dkwX1_seed_2 ++ dktX1_seed_3
def dkwX1_seed_1 : List UInt8 := [184, 0, 82, 42, 182, 0, 137, 4, 159, 0, 11, 42, 182, 0, 137, 5, 160, 0, 7, 4, 167, 0, 4, 3]
abbrev dktX1_seed_1 : List UInt8 := dkwX1_seed_1 ++ dktX1_seed_2
def dkwX1_seed_0 : List UInt8 := [5, 188, 10, 89, 3, 27, 79, 89, 4, 8, 79, 184, 0, 48, 28, 3, 17, 39, 15, 184, 0, 90]
abbrev dktX1_seed_0 : List UInt8 := dkwX1_seed_0 ++ dktX1_seed_1
theorem dksX1_seed_0 : cX1_seed.data.toList.drop 0 = dktX1_seed_0 := by decide +kernel
theorem dksX1_seed_1 : cX1_seed.data.toList.drop 22 = dktX1_seed_1 := dk_seg dksX1_seed_0 22 rfl rfl
theorem dksX1_seed_2 : cX1_seed.data.toList.drop 46 = dktX1_seed_2 := dk_seg dksX1_seed_1 24 rfl rfl
theorem dksX1_seed_3 : cX1_seed.data.toList.drop 70 = dktX1_seed_3 := dk_seg dksX1_seed_2 24 rfl rfl
theorem dX1_seed_0 : decode cX1_seed 0 = .ok (.iconst 2, 1) := dk_5 (dk_at dksX1_seed_0 0 rfl rfl)
theorem dX1_seed_1 : decode cX1_seed 1 = .ok (.newarray .int, 2) := dk_188_10 (dk_at dksX1_seed_0 1 rfl rfl)
theorem dX1_seed_3 : decode cX1_seed 3 = .ok (.dup, 1) := dk_89 (dk_at dksX1_seed_0 3 rfl rfl)
theorem dX1_seed_4 : decode cX1_seed 4 = .ok (.iconst 0, 1) := dk_3 (dk_at dksX1_seed_0 4 rfl rfl)
theorem dX1_seed_5 : decode cX1_seed 5 = .ok (.iload_n 1, 1) := dk_27 (dk_at dksX1_seed_0 5 rfl rfl)
theorem dX1_seed_6 : decode cX1_seed 6 = .ok (.iastore, 1) := dk_79 (dk_at dksX1_seed_0 6 rfl rfl)
theorem dX1_seed_7 : decode cX1_seed 7 = .ok (.dup, 1) := dk_89 (dk_at dksX1_seed_0 7 rfl rfl)
theorem dX1_seed_8 : decode cX1_seed 8 = .ok (.iconst 1, 1) := dk_4 (dk_at dksX1_seed_0 8 rfl rfl)
theorem dX1_seed_9 : decode cX1_seed 9 = .ok (.iconst 5, 1) := dk_8 (dk_at dksX1_seed_0 9 rfl rfl)
theorem dX1_seed_10 : decode cX1_seed 10 = .ok (.iastore, 1) := dk_79 (dk_at dksX1_seed_0 10 rfl rfl)
theorem dX1_seed_11 : decode cX1_seed 11 = .ok (.invokestatic 48, 3) := dk_184 0 48 (dk_at dksX1_seed_0 11 rfl rfl)
theorem dX1_seed_14 : decode cX1_seed 14 = .ok (.iload_n 2, 1) := dk_28 (dk_at dksX1_seed_0 14 rfl rfl)
theorem dX1_seed_15 : decode cX1_seed 15 = .ok (.iconst 0, 1) := dk_3 (dk_at dksX1_seed_0 15 rfl rfl)
theorem dX1_seed_16 : decode cX1_seed 16 = .ok (.sipush 9999, 3) := dk_17 39 15 (dk_at dksX1_seed_0 16 rfl rfl)
theorem dX1_seed_19 : decode cX1_seed 19 = .ok (.invokestatic 90, 3) := dk_184 0 90 (dk_at dksX1_seed_0 19 rfl rfl)
theorem dX1_seed_22 : decode cX1_seed 22 = .ok (.invokestatic 82, 3) := dk_184 0 82 (dk_at dksX1_seed_1 0 rfl rfl)
theorem dX1_seed_25 : decode cX1_seed 25 = .ok (.aload_n 0, 1) := dk_42 (dk_at dksX1_seed_1 3 rfl rfl)
theorem dX1_seed_26 : decode cX1_seed 26 = .ok (.invokevirtual 137, 3) := dk_182 0 137 (dk_at dksX1_seed_1 4 rfl rfl)
theorem dX1_seed_29 : decode cX1_seed 29 = .ok (.iconst 1, 1) := dk_4 (dk_at dksX1_seed_1 7 rfl rfl)
theorem dX1_seed_30 : decode cX1_seed 30 = .ok (.if_icmp .eq 11, 3) := dk_159 0 11 (dk_at dksX1_seed_1 8 rfl rfl)
theorem dX1_seed_33 : decode cX1_seed 33 = .ok (.aload_n 0, 1) := dk_42 (dk_at dksX1_seed_1 11 rfl rfl)
theorem dX1_seed_34 : decode cX1_seed 34 = .ok (.invokevirtual 137, 3) := dk_182 0 137 (dk_at dksX1_seed_1 12 rfl rfl)
theorem dX1_seed_37 : decode cX1_seed 37 = .ok (.iconst 2, 1) := dk_5 (dk_at dksX1_seed_1 15 rfl rfl)
theorem dX1_seed_38 : decode cX1_seed 38 = .ok (.if_icmp .ne 7, 3) := dk_160 0 7 (dk_at dksX1_seed_1 16 rfl rfl)
theorem dX1_seed_41 : decode cX1_seed 41 = .ok (.iconst 1, 1) := dk_4 (dk_at dksX1_seed_1 19 rfl rfl)
theorem dX1_seed_42 : decode cX1_seed 42 = .ok (.goto 4, 3) := dk_167 0 4 (dk_at dksX1_seed_1 20 rfl rfl)
theorem dX1_seed_45 : decode cX1_seed 45 = .ok (.iconst 0, 1) := dk_3 (dk_at dksX1_seed_1 23 rfl rfl)
theorem dX1_seed_46 : decode cX1_seed 46 = .ok (.invokestatic 94, 3) := dk_184 0 94 (dk_at dksX1_seed_2 0 rfl rfl)
theorem dX1_seed_49 : decode cX1_seed 49 = .ok (.aload_n 0, 1) := dk_42 (dk_at dksX1_seed_2 3 rfl rfl)
theorem dX1_seed_50 : decode cX1_seed 50 = .ok (.getfield 58, 3) := dk_180 0 58 (dk_at dksX1_seed_2 4 rfl rfl)
theorem dX1_seed_53 : decode cX1_seed 53 = .ok (.getfield 150, 3) := dk_180 0 150 (dk_at dksX1_seed_2 7 rfl rfl)
theorem dX1_seed_56 : decode cX1_seed 56 = .ok (.iload_n 1, 1) := dk_27 (dk_at dksX1_seed_2 10 rfl rfl)
theorem dX1_seed_57 : decode cX1_seed 57 = .ok (.iaload, 1) := dk_46 (dk_at dksX1_seed_2 11 rfl rfl)
theorem dX1_seed_58 : decode cX1_seed 58 = .ok (.istore_n 3, 1) := dk_62 (dk_at dksX1_seed_2 12 rfl rfl)
theorem dX1_seed_59 : decode cX1_seed 59 = .ok (.aload_n 0, 1) := dk_42 (dk_at dksX1_seed_2 13 rfl rfl)
theorem dX1_seed_60 : decode cX1_seed 60 = .ok (.getfield 58, 3) := dk_180 0 58 (dk_at dksX1_seed_2 14 rfl rfl)
theorem dX1_seed_63 : decode cX1_seed 63 = .ok (.getfield 150, 3) := dk_180 0 150 (dk_at dksX1_seed_2 17 rfl rfl)
theorem dX1_seed_66 : decode cX1_seed 66 = .ok (.iload_n 1, 1) := dk_27 (dk_at dksX1_seed_2 20 rfl rfl)
theorem dX1_seed_67 : decode cX1_seed 67 = .ok (.iload_n 2, 1) := dk_28 (dk_at dksX1_seed_2 21 rfl rfl)
theorem dX1_seed_68 : decode cX1_seed 68 = .ok (.iastore, 1) := dk_79 (dk_at dksX1_seed_2 22 rfl rfl)
theorem dX1_seed_69 : decode cX1_seed 69 = .ok (.iload_n 3, 1) := dk_29 (dk_at dksX1_seed_2 23 rfl rfl)
theorem dX1_seed_70 : decode cX1_seed 70 = .ok (.ireturn, 1) := dk_172 (dk_at dksX1_seed_3 0 rfl rfl)
abbrev cX1_advance : ByteArray := prog_1_method_23_code
def yX1_advance : MethodName := ⟨RX1, "advance", "(I)I"⟩
def dkwX1_advance_2 : List UInt8 := [42, 182, 0, 175, 132, 2, 1, 167, 255, 234, 42, 180, 0, 110, 172]
abbrev dktX1_advance_2 : List UInt8 := dkwX1_advance_2 ++ []
def dkwX1_advance_1 : List UInt8 := [167, 0, 4, 3, 184, 0, 94, 3, 61, 28, 27, 162, 0, 23, 42, 89, 180, 0, 110, 4, 96, 181, 0, 110]
abbrev dktX1_advance_1 : List UInt8 := dkwX1_advance_1 ++ dktX1_advance_2
def dkwX1_advance_0 : List UInt8 := [27, 4, 16, 100, 184, 0, 90, 184, 0, 82, 42, 180, 0, 110, 27, 96, 17, 8, 52, 163, 0, 7, 4]
abbrev dktX1_advance_0 : List UInt8 := dkwX1_advance_0 ++ dktX1_advance_1
theorem dksX1_advance_0 : cX1_advance.data.toList.drop 0 = dktX1_advance_0 := by decide +kernel
theorem dksX1_advance_1 : cX1_advance.data.toList.drop 23 = dktX1_advance_1 := dk_seg dksX1_advance_0 23 rfl rfl
theorem dksX1_advance_2 : cX1_advance.data.toList.drop 47 = dktX1_advance_2 := dk_seg dksX1_advance_1 24 rfl rfl
theorem dX1_advance_0 : decode cX1_advance 0 = .ok (.iload_n 1, 1) := dk_27 (dk_at dksX1_advance_0 0 rfl rfl)
theorem dX1_advance_1 : decode cX1_advance 1 = .ok (.iconst 1, 1) := dk_4 (dk_at dksX1_advance_0 1 rfl rfl)
theorem dX1_advance_2 : decode cX1_advance 2 = .ok (.bipush 100, 2) := dk_16 100 (dk_at dksX1_advance_0 2 rfl rfl)
theorem dX1_advance_4 : decode cX1_advance 4 = .ok (.invokestatic 90, 3) := dk_184 0 90 (dk_at dksX1_advance_0 4 rfl rfl)
theorem dX1_advance_7 : decode cX1_advance 7 = .ok (.invokestatic 82, 3) := dk_184 0 82 (dk_at dksX1_advance_0 7 rfl rfl)
theorem dX1_advance_10 : decode cX1_advance 10 = .ok (.aload_n 0, 1) := dk_42 (dk_at dksX1_advance_0 10 rfl rfl)
theorem dX1_advance_11 : decode cX1_advance 11 = .ok (.getfield 110, 3) := dk_180 0 110 (dk_at dksX1_advance_0 11 rfl rfl)
theorem dX1_advance_14 : decode cX1_advance 14 = .ok (.iload_n 1, 1) := dk_27 (dk_at dksX1_advance_0 14 rfl rfl)
theorem dX1_advance_15 : decode cX1_advance 15 = .ok (.iadd, 1) := dk_96 (dk_at dksX1_advance_0 15 rfl rfl)
theorem dX1_advance_16 : decode cX1_advance 16 = .ok (.sipush 2100, 3) := dk_17 8 52 (dk_at dksX1_advance_0 16 rfl rfl)
theorem dX1_advance_19 : decode cX1_advance 19 = .ok (.if_icmp .gt 7, 3) := dk_163 0 7 (dk_at dksX1_advance_0 19 rfl rfl)
theorem dX1_advance_22 : decode cX1_advance 22 = .ok (.iconst 1, 1) := dk_4 (dk_at dksX1_advance_0 22 rfl rfl)
theorem dX1_advance_23 : decode cX1_advance 23 = .ok (.goto 4, 3) := dk_167 0 4 (dk_at dksX1_advance_1 0 rfl rfl)
theorem dX1_advance_26 : decode cX1_advance 26 = .ok (.iconst 0, 1) := dk_3 (dk_at dksX1_advance_1 3 rfl rfl)
theorem dX1_advance_27 : decode cX1_advance 27 = .ok (.invokestatic 94, 3) := dk_184 0 94 (dk_at dksX1_advance_1 4 rfl rfl)
theorem dX1_advance_30 : decode cX1_advance 30 = .ok (.iconst 0, 1) := dk_3 (dk_at dksX1_advance_1 7 rfl rfl)
theorem dX1_advance_31 : decode cX1_advance 31 = .ok (.istore_n 2, 1) := dk_61 (dk_at dksX1_advance_1 8 rfl rfl)
theorem dX1_advance_32 : decode cX1_advance 32 = .ok (.iload_n 2, 1) := dk_28 (dk_at dksX1_advance_1 9 rfl rfl)
theorem dX1_advance_33 : decode cX1_advance 33 = .ok (.iload_n 1, 1) := dk_27 (dk_at dksX1_advance_1 10 rfl rfl)
theorem dX1_advance_34 : decode cX1_advance 34 = .ok (.if_icmp .ge 23, 3) := dk_162 0 23 (dk_at dksX1_advance_1 11 rfl rfl)
theorem dX1_advance_37 : decode cX1_advance 37 = .ok (.aload_n 0, 1) := dk_42 (dk_at dksX1_advance_1 14 rfl rfl)
theorem dX1_advance_38 : decode cX1_advance 38 = .ok (.dup, 1) := dk_89 (dk_at dksX1_advance_1 15 rfl rfl)
theorem dX1_advance_39 : decode cX1_advance 39 = .ok (.getfield 110, 3) := dk_180 0 110 (dk_at dksX1_advance_1 16 rfl rfl)
theorem dX1_advance_42 : decode cX1_advance 42 = .ok (.iconst 1, 1) := dk_4 (dk_at dksX1_advance_1 19 rfl rfl)
theorem dX1_advance_43 : decode cX1_advance 43 = .ok (.iadd, 1) := dk_96 (dk_at dksX1_advance_1 20 rfl rfl)
theorem dX1_advance_44 : decode cX1_advance 44 = .ok (.putfield 110, 3) := dk_181 0 110 (dk_at dksX1_advance_1 21 rfl rfl)
theorem dX1_advance_47 : decode cX1_advance 47 = .ok (.aload_n 0, 1) := dk_42 (dk_at dksX1_advance_2 0 rfl rfl)
theorem dX1_advance_48 : decode cX1_advance 48 = .ok (.invokevirtual 175, 3) := dk_182 0 175 (dk_at dksX1_advance_2 1 rfl rfl)
theorem dX1_advance_51 : decode cX1_advance 51 = .ok (.iinc 2 1, 3) := dk_132 2 1 (dk_at dksX1_advance_2 4 rfl rfl)
theorem dX1_advance_54 : decode cX1_advance 54 = .ok (.goto (-22), 3) := dk_167 255 234 (dk_at dksX1_advance_2 7 rfl rfl)
theorem dX1_advance_57 : decode cX1_advance 57 = .ok (.aload_n 0, 1) := dk_42 (dk_at dksX1_advance_2 10 rfl rfl)
theorem dX1_advance_58 : decode cX1_advance 58 = .ok (.getfield 110, 3) := dk_180 0 110 (dk_at dksX1_advance_2 11 rfl rfl)
theorem dX1_advance_61 : decode cX1_advance 61 = .ok (.ireturn, 1) := dk_172 (dk_at dksX1_advance_2 14 rfl rfl)
abbrev cX1_begin : ByteArray := prog_1_method_22_code
def yX1_begin : MethodName := ⟨RX1, "begin", "()V"⟩
def dkwX1_begin_4 : List UInt8 := [180, 0, 58, 7, 181, 0, 170, 177]
abbrev dktX1_begin_4 : List UInt8 := dkwX1_begin_4 ++ []
def dkwX1_begin_3 : List UInt8 := [181, 0, 170, 167, 0, 26, 42, 182, 0, 137, 6, 160, 0, 18, 42, 180, 0, 58, 182, 0, 172, 42]
abbrev dktX1_begin_3 : List UInt8 := dkwX1_begin_3 ++ dktX1_begin_4
def dkwX1_begin_2 : List UInt8 := [160, 0, 28, 42, 180, 0, 110, 42, 180, 0, 58, 180, 0, 147, 160, 0, 14, 42, 180, 0, 58, 6]
abbrev dktX1_begin_2 : List UInt8 := dkwX1_begin_2 ++ dktX1_begin_3
def dkwX1_begin_1 : List UInt8 := [160, 0, 18, 42, 182, 0, 167, 42, 180, 0, 58, 5, 181, 0, 170, 167, 0, 59, 42, 182, 0, 137, 5]
abbrev dktX1_begin_1 : List UInt8 := dkwX1_begin_1 ++ dktX1_begin_2
def dkwX1_begin_0 : List UInt8 := [42, 182, 0, 137, 4, 160, 0, 37, 42, 180, 0, 110, 42, 180, 0, 58, 180, 0, 147, 16, 7, 100, 4, 96]
abbrev dktX1_begin_0 : List UInt8 := dkwX1_begin_0 ++ dktX1_begin_1
theorem dksX1_begin_0 : cX1_begin.data.toList.drop 0 = dktX1_begin_0 := by decide +kernel
theorem dksX1_begin_1 : cX1_begin.data.toList.drop 24 = dktX1_begin_1 := dk_seg dksX1_begin_0 24 rfl rfl
theorem dksX1_begin_2 : cX1_begin.data.toList.drop 47 = dktX1_begin_2 := dk_seg dksX1_begin_1 23 rfl rfl
theorem dksX1_begin_3 : cX1_begin.data.toList.drop 69 = dktX1_begin_3 := dk_seg dksX1_begin_2 22 rfl rfl
theorem dksX1_begin_4 : cX1_begin.data.toList.drop 91 = dktX1_begin_4 := dk_seg dksX1_begin_3 22 rfl rfl
theorem dX1_begin_0 : decode cX1_begin 0 = .ok (.aload_n 0, 1) := dk_42 (dk_at dksX1_begin_0 0 rfl rfl)
theorem dX1_begin_1 : decode cX1_begin 1 = .ok (.invokevirtual 137, 3) := dk_182 0 137 (dk_at dksX1_begin_0 1 rfl rfl)
theorem dX1_begin_4 : decode cX1_begin 4 = .ok (.iconst 1, 1) := dk_4 (dk_at dksX1_begin_0 4 rfl rfl)
theorem dX1_begin_5 : decode cX1_begin 5 = .ok (.if_icmp .ne 37, 3) := dk_160 0 37 (dk_at dksX1_begin_0 5 rfl rfl)
theorem dX1_begin_8 : decode cX1_begin 8 = .ok (.aload_n 0, 1) := dk_42 (dk_at dksX1_begin_0 8 rfl rfl)
theorem dX1_begin_9 : decode cX1_begin 9 = .ok (.getfield 110, 3) := dk_180 0 110 (dk_at dksX1_begin_0 9 rfl rfl)
theorem dX1_begin_12 : decode cX1_begin 12 = .ok (.aload_n 0, 1) := dk_42 (dk_at dksX1_begin_0 12 rfl rfl)
theorem dX1_begin_13 : decode cX1_begin 13 = .ok (.getfield 58, 3) := dk_180 0 58 (dk_at dksX1_begin_0 13 rfl rfl)
theorem dX1_begin_16 : decode cX1_begin 16 = .ok (.getfield 147, 3) := dk_180 0 147 (dk_at dksX1_begin_0 16 rfl rfl)
theorem dX1_begin_19 : decode cX1_begin 19 = .ok (.bipush 7, 2) := dk_16 7 (dk_at dksX1_begin_0 19 rfl rfl)
theorem dX1_begin_21 : decode cX1_begin 21 = .ok (.isub, 1) := dk_100 (dk_at dksX1_begin_0 21 rfl rfl)
theorem dX1_begin_22 : decode cX1_begin 22 = .ok (.iconst 1, 1) := dk_4 (dk_at dksX1_begin_0 22 rfl rfl)
theorem dX1_begin_23 : decode cX1_begin 23 = .ok (.iadd, 1) := dk_96 (dk_at dksX1_begin_0 23 rfl rfl)
theorem dX1_begin_24 : decode cX1_begin 24 = .ok (.if_icmp .ne 18, 3) := dk_160 0 18 (dk_at dksX1_begin_1 0 rfl rfl)
theorem dX1_begin_27 : decode cX1_begin 27 = .ok (.aload_n 0, 1) := dk_42 (dk_at dksX1_begin_1 3 rfl rfl)
theorem dX1_begin_28 : decode cX1_begin 28 = .ok (.invokevirtual 167, 3) := dk_182 0 167 (dk_at dksX1_begin_1 4 rfl rfl)
theorem dX1_begin_31 : decode cX1_begin 31 = .ok (.aload_n 0, 1) := dk_42 (dk_at dksX1_begin_1 7 rfl rfl)
theorem dX1_begin_32 : decode cX1_begin 32 = .ok (.getfield 58, 3) := dk_180 0 58 (dk_at dksX1_begin_1 8 rfl rfl)
theorem dX1_begin_35 : decode cX1_begin 35 = .ok (.iconst 2, 1) := dk_5 (dk_at dksX1_begin_1 11 rfl rfl)
theorem dX1_begin_36 : decode cX1_begin 36 = .ok (.putfield 170, 3) := dk_181 0 170 (dk_at dksX1_begin_1 12 rfl rfl)
theorem dX1_begin_39 : decode cX1_begin 39 = .ok (.goto 59, 3) := dk_167 0 59 (dk_at dksX1_begin_1 15 rfl rfl)
theorem dX1_begin_42 : decode cX1_begin 42 = .ok (.aload_n 0, 1) := dk_42 (dk_at dksX1_begin_1 18 rfl rfl)
theorem dX1_begin_43 : decode cX1_begin 43 = .ok (.invokevirtual 137, 3) := dk_182 0 137 (dk_at dksX1_begin_1 19 rfl rfl)
theorem dX1_begin_46 : decode cX1_begin 46 = .ok (.iconst 2, 1) := dk_5 (dk_at dksX1_begin_1 22 rfl rfl)
theorem dX1_begin_47 : decode cX1_begin 47 = .ok (.if_icmp .ne 28, 3) := dk_160 0 28 (dk_at dksX1_begin_2 0 rfl rfl)
theorem dX1_begin_50 : decode cX1_begin 50 = .ok (.aload_n 0, 1) := dk_42 (dk_at dksX1_begin_2 3 rfl rfl)
theorem dX1_begin_51 : decode cX1_begin 51 = .ok (.getfield 110, 3) := dk_180 0 110 (dk_at dksX1_begin_2 4 rfl rfl)
theorem dX1_begin_54 : decode cX1_begin 54 = .ok (.aload_n 0, 1) := dk_42 (dk_at dksX1_begin_2 7 rfl rfl)
theorem dX1_begin_55 : decode cX1_begin 55 = .ok (.getfield 58, 3) := dk_180 0 58 (dk_at dksX1_begin_2 8 rfl rfl)
theorem dX1_begin_58 : decode cX1_begin 58 = .ok (.getfield 147, 3) := dk_180 0 147 (dk_at dksX1_begin_2 11 rfl rfl)
theorem dX1_begin_61 : decode cX1_begin 61 = .ok (.if_icmp .ne 14, 3) := dk_160 0 14 (dk_at dksX1_begin_2 14 rfl rfl)
theorem dX1_begin_64 : decode cX1_begin 64 = .ok (.aload_n 0, 1) := dk_42 (dk_at dksX1_begin_2 17 rfl rfl)
theorem dX1_begin_65 : decode cX1_begin 65 = .ok (.getfield 58, 3) := dk_180 0 58 (dk_at dksX1_begin_2 18 rfl rfl)
theorem dX1_begin_68 : decode cX1_begin 68 = .ok (.iconst 3, 1) := dk_6 (dk_at dksX1_begin_2 21 rfl rfl)
theorem dX1_begin_69 : decode cX1_begin 69 = .ok (.putfield 170, 3) := dk_181 0 170 (dk_at dksX1_begin_3 0 rfl rfl)
theorem dX1_begin_72 : decode cX1_begin 72 = .ok (.goto 26, 3) := dk_167 0 26 (dk_at dksX1_begin_3 3 rfl rfl)
theorem dX1_begin_75 : decode cX1_begin 75 = .ok (.aload_n 0, 1) := dk_42 (dk_at dksX1_begin_3 6 rfl rfl)
theorem dX1_begin_76 : decode cX1_begin 76 = .ok (.invokevirtual 137, 3) := dk_182 0 137 (dk_at dksX1_begin_3 7 rfl rfl)
theorem dX1_begin_79 : decode cX1_begin 79 = .ok (.iconst 3, 1) := dk_6 (dk_at dksX1_begin_3 10 rfl rfl)
theorem dX1_begin_80 : decode cX1_begin 80 = .ok (.if_icmp .ne 18, 3) := dk_160 0 18 (dk_at dksX1_begin_3 11 rfl rfl)
theorem dX1_begin_83 : decode cX1_begin 83 = .ok (.aload_n 0, 1) := dk_42 (dk_at dksX1_begin_3 14 rfl rfl)
theorem dX1_begin_84 : decode cX1_begin 84 = .ok (.getfield 58, 3) := dk_180 0 58 (dk_at dksX1_begin_3 15 rfl rfl)
theorem dX1_begin_87 : decode cX1_begin 87 = .ok (.invokevirtual 172, 3) := dk_182 0 172 (dk_at dksX1_begin_3 18 rfl rfl)
theorem dX1_begin_90 : decode cX1_begin 90 = .ok (.aload_n 0, 1) := dk_42 (dk_at dksX1_begin_3 21 rfl rfl)
theorem dX1_begin_91 : decode cX1_begin 91 = .ok (.getfield 58, 3) := dk_180 0 58 (dk_at dksX1_begin_4 0 rfl rfl)
theorem dX1_begin_94 : decode cX1_begin 94 = .ok (.iconst 4, 1) := dk_7 (dk_at dksX1_begin_4 3 rfl rfl)
theorem dX1_begin_95 : decode cX1_begin 95 = .ok (.putfield 170, 3) := dk_181 0 170 (dk_at dksX1_begin_4 4 rfl rfl)
theorem dX1_begin_98 : decode cX1_begin 98 = .ok (.return_, 1) := dk_177 (dk_at dksX1_begin_4 7 rfl rfl)
abbrev cX1_makeRoll : ByteArray := prog_1_method_21_code
def yX1_makeRoll : MethodName := ⟨RX1, "makeRoll", "()V"⟩
def dkwX1_makeRoll_8 : List UInt8 := [181, 0, 156, 132, 1, 1, 167, 255, 108, 177]
abbrev dktX1_makeRoll_8 : List UInt8 := dkwX1_makeRoll_8 ++ []
def dkwX1_makeRoll_7 : List UInt8 := [180, 0, 58, 180, 0, 165, 27, 46, 185, 0, 52, 2, 0, 192, 0, 67, 89, 180, 0, 156, 4, 96]
abbrev dktX1_makeRoll_7 : List UInt8 := dkwX1_makeRoll_7 ++ dktX1_makeRoll_8
def dkwX1_makeRoll_6 : List UInt8 := [180, 0, 58, 180, 0, 165, 27, 21, 4, 3, 184, 0, 76, 79, 42, 180, 0, 58, 180, 0, 62, 42]
abbrev dktX1_makeRoll_6 : List UInt8 := dkwX1_makeRoll_6 ++ dktX1_makeRoll_7
def dkwX1_makeRoll_5 : List UInt8 := [4, 182, 0, 161, 2, 159, 0, 11, 42, 4, 182, 0, 161, 167, 0, 8, 42, 3, 182, 0, 161, 54, 4, 42]
abbrev dktX1_makeRoll_5 : List UInt8 := dkwX1_makeRoll_5 ++ dktX1_makeRoll_6
def dkwX1_makeRoll_4 : List UInt8 := [180, 0, 158, 42, 180, 0, 58, 180, 0, 147, 163, 0, 85, 29, 2, 159, 0, 80, 42, 29, 182, 0, 86, 42]
abbrev dktX1_makeRoll_4 : List UInt8 := dkwX1_makeRoll_4 ++ dktX1_makeRoll_5
def dkwX1_makeRoll_3 : List UInt8 := [77, 44, 42, 180, 0, 58, 180, 0, 147, 16, 7, 100, 182, 0, 134, 62, 44, 180, 0, 120, 154, 0, 99, 44]
abbrev dktX1_makeRoll_3 : List UInt8 := dkwX1_makeRoll_3 ++ dktX1_makeRoll_4
def dkwX1_makeRoll_2 : List UInt8 := [180, 0, 16, 185, 0, 42, 1, 0, 162, 0, 141, 42, 180, 0, 16, 27, 185, 0, 52, 2, 0, 192, 0, 56]
abbrev dktX1_makeRoll_2 : List UInt8 := dkwX1_makeRoll_2 ++ dktX1_makeRoll_3
def dkwX1_makeRoll_1 : List UInt8 := [187, 0, 67, 89, 183, 0, 69, 185, 0, 102, 2, 0, 87, 132, 1, 1, 167, 255, 220, 3, 60, 27, 42]
abbrev dktX1_makeRoll_1 : List UInt8 := dkwX1_makeRoll_1 ++ dktX1_makeRoll_2
def dkwX1_makeRoll_0 : List UInt8 := [3, 60, 27, 42, 180, 0, 20, 185, 0, 42, 1, 0, 162, 0, 29, 42, 180, 0, 58, 180, 0, 62]
abbrev dktX1_makeRoll_0 : List UInt8 := dkwX1_makeRoll_0 ++ dktX1_makeRoll_1
theorem dksX1_makeRoll_0 : cX1_makeRoll.data.toList.drop 0 = dktX1_makeRoll_0 := by decide +kernel
theorem dksX1_makeRoll_1 : cX1_makeRoll.data.toList.drop 22 = dktX1_makeRoll_1 := dk_seg dksX1_makeRoll_0 22 rfl rfl
theorem dksX1_makeRoll_2 : cX1_makeRoll.data.toList.drop 45 = dktX1_makeRoll_2 := dk_seg dksX1_makeRoll_1 23 rfl rfl
theorem dksX1_makeRoll_3 : cX1_makeRoll.data.toList.drop 69 = dktX1_makeRoll_3 := dk_seg dksX1_makeRoll_2 24 rfl rfl
theorem dksX1_makeRoll_4 : cX1_makeRoll.data.toList.drop 93 = dktX1_makeRoll_4 := dk_seg dksX1_makeRoll_3 24 rfl rfl
theorem dksX1_makeRoll_5 : cX1_makeRoll.data.toList.drop 117 = dktX1_makeRoll_5 := dk_seg dksX1_makeRoll_4 24 rfl rfl
theorem dksX1_makeRoll_6 : cX1_makeRoll.data.toList.drop 141 = dktX1_makeRoll_6 := dk_seg dksX1_makeRoll_5 24 rfl rfl
theorem dksX1_makeRoll_7 : cX1_makeRoll.data.toList.drop 163 = dktX1_makeRoll_7 := dk_seg dksX1_makeRoll_6 22 rfl rfl
theorem dksX1_makeRoll_8 : cX1_makeRoll.data.toList.drop 185 = dktX1_makeRoll_8 := dk_seg dksX1_makeRoll_7 22 rfl rfl
theorem dX1_makeRoll_0 : decode cX1_makeRoll 0 = .ok (.iconst 0, 1) := dk_3 (dk_at dksX1_makeRoll_0 0 rfl rfl)
theorem dX1_makeRoll_1 : decode cX1_makeRoll 1 = .ok (.istore_n 1, 1) := dk_60 (dk_at dksX1_makeRoll_0 1 rfl rfl)
theorem dX1_makeRoll_2 : decode cX1_makeRoll 2 = .ok (.iload_n 1, 1) := dk_27 (dk_at dksX1_makeRoll_0 2 rfl rfl)
theorem dX1_makeRoll_3 : decode cX1_makeRoll 3 = .ok (.aload_n 0, 1) := dk_42 (dk_at dksX1_makeRoll_0 3 rfl rfl)
theorem dX1_makeRoll_4 : decode cX1_makeRoll 4 = .ok (.getfield 20, 3) := dk_180 0 20 (dk_at dksX1_makeRoll_0 4 rfl rfl)
theorem dX1_makeRoll_7 : decode cX1_makeRoll 7 = .ok (.invokeinterface 42 1, 5) := by decide +kernel
theorem dX1_makeRoll_12 : decode cX1_makeRoll 12 = .ok (.if_icmp .ge 29, 3) := dk_162 0 29 (dk_at dksX1_makeRoll_0 12 rfl rfl)
theorem dX1_makeRoll_15 : decode cX1_makeRoll 15 = .ok (.aload_n 0, 1) := dk_42 (dk_at dksX1_makeRoll_0 15 rfl rfl)
theorem dX1_makeRoll_16 : decode cX1_makeRoll 16 = .ok (.getfield 58, 3) := dk_180 0 58 (dk_at dksX1_makeRoll_0 16 rfl rfl)
theorem dX1_makeRoll_19 : decode cX1_makeRoll 19 = .ok (.getfield 62, 3) := dk_180 0 62 (dk_at dksX1_makeRoll_0 19 rfl rfl)
theorem dX1_makeRoll_22 : decode cX1_makeRoll 22 = .ok (.new 67, 3) := dk_187 0 67 (dk_at dksX1_makeRoll_1 0 rfl rfl)
theorem dX1_makeRoll_25 : decode cX1_makeRoll 25 = .ok (.dup, 1) := dk_89 (dk_at dksX1_makeRoll_1 3 rfl rfl)
theorem dX1_makeRoll_26 : decode cX1_makeRoll 26 = .ok (.invokespecial 69, 3) := dk_183 0 69 (dk_at dksX1_makeRoll_1 4 rfl rfl)
theorem dX1_makeRoll_29 : decode cX1_makeRoll 29 = .ok (.invokeinterface 102 2, 5) := by decide +kernel
theorem dX1_makeRoll_34 : decode cX1_makeRoll 34 = .ok (.pop, 1) := dk_87 (dk_at dksX1_makeRoll_1 12 rfl rfl)
theorem dX1_makeRoll_35 : decode cX1_makeRoll 35 = .ok (.iinc 1 1, 3) := dk_132 1 1 (dk_at dksX1_makeRoll_1 13 rfl rfl)
theorem dX1_makeRoll_38 : decode cX1_makeRoll 38 = .ok (.goto (-36), 3) := dk_167 255 220 (dk_at dksX1_makeRoll_1 16 rfl rfl)
theorem dX1_makeRoll_41 : decode cX1_makeRoll 41 = .ok (.iconst 0, 1) := dk_3 (dk_at dksX1_makeRoll_1 19 rfl rfl)
theorem dX1_makeRoll_42 : decode cX1_makeRoll 42 = .ok (.istore_n 1, 1) := dk_60 (dk_at dksX1_makeRoll_1 20 rfl rfl)
theorem dX1_makeRoll_43 : decode cX1_makeRoll 43 = .ok (.iload_n 1, 1) := dk_27 (dk_at dksX1_makeRoll_1 21 rfl rfl)
theorem dX1_makeRoll_44 : decode cX1_makeRoll 44 = .ok (.aload_n 0, 1) := dk_42 (dk_at dksX1_makeRoll_1 22 rfl rfl)
theorem dX1_makeRoll_45 : decode cX1_makeRoll 45 = .ok (.getfield 16, 3) := dk_180 0 16 (dk_at dksX1_makeRoll_2 0 rfl rfl)
theorem dX1_makeRoll_48 : decode cX1_makeRoll 48 = .ok (.invokeinterface 42 1, 5) := by decide +kernel
theorem dX1_makeRoll_53 : decode cX1_makeRoll 53 = .ok (.if_icmp .ge 141, 3) := dk_162 0 141 (dk_at dksX1_makeRoll_2 8 rfl rfl)
theorem dX1_makeRoll_56 : decode cX1_makeRoll 56 = .ok (.aload_n 0, 1) := dk_42 (dk_at dksX1_makeRoll_2 11 rfl rfl)
theorem dX1_makeRoll_57 : decode cX1_makeRoll 57 = .ok (.getfield 16, 3) := dk_180 0 16 (dk_at dksX1_makeRoll_2 12 rfl rfl)
theorem dX1_makeRoll_60 : decode cX1_makeRoll 60 = .ok (.iload_n 1, 1) := dk_27 (dk_at dksX1_makeRoll_2 15 rfl rfl)
theorem dX1_makeRoll_61 : decode cX1_makeRoll 61 = .ok (.invokeinterface 52 2, 5) := by decide +kernel
theorem dX1_makeRoll_66 : decode cX1_makeRoll 66 = .ok (.checkcast 56, 3) := dk_192 0 56 (dk_at dksX1_makeRoll_2 21 rfl rfl)
theorem dX1_makeRoll_69 : decode cX1_makeRoll 69 = .ok (.astore_n 2, 1) := dk_77 (dk_at dksX1_makeRoll_3 0 rfl rfl)
theorem dX1_makeRoll_70 : decode cX1_makeRoll 70 = .ok (.aload_n 2, 1) := dk_44 (dk_at dksX1_makeRoll_3 1 rfl rfl)
theorem dX1_makeRoll_71 : decode cX1_makeRoll 71 = .ok (.aload_n 0, 1) := dk_42 (dk_at dksX1_makeRoll_3 2 rfl rfl)
theorem dX1_makeRoll_72 : decode cX1_makeRoll 72 = .ok (.getfield 58, 3) := dk_180 0 58 (dk_at dksX1_makeRoll_3 3 rfl rfl)
theorem dX1_makeRoll_75 : decode cX1_makeRoll 75 = .ok (.getfield 147, 3) := dk_180 0 147 (dk_at dksX1_makeRoll_3 6 rfl rfl)
theorem dX1_makeRoll_78 : decode cX1_makeRoll 78 = .ok (.bipush 7, 2) := dk_16 7 (dk_at dksX1_makeRoll_3 9 rfl rfl)
theorem dX1_makeRoll_80 : decode cX1_makeRoll 80 = .ok (.isub, 1) := dk_100 (dk_at dksX1_makeRoll_3 11 rfl rfl)
theorem dX1_makeRoll_81 : decode cX1_makeRoll 81 = .ok (.invokevirtual 134, 3) := dk_182 0 134 (dk_at dksX1_makeRoll_3 12 rfl rfl)
theorem dX1_makeRoll_84 : decode cX1_makeRoll 84 = .ok (.istore_n 3, 1) := dk_62 (dk_at dksX1_makeRoll_3 15 rfl rfl)
theorem dX1_makeRoll_85 : decode cX1_makeRoll 85 = .ok (.aload_n 2, 1) := dk_44 (dk_at dksX1_makeRoll_3 16 rfl rfl)
theorem dX1_makeRoll_86 : decode cX1_makeRoll 86 = .ok (.getfield 120, 3) := dk_180 0 120 (dk_at dksX1_makeRoll_3 17 rfl rfl)
theorem dX1_makeRoll_89 : decode cX1_makeRoll 89 = .ok (.ifCond .ne 99, 3) := dk_154 0 99 (dk_at dksX1_makeRoll_3 20 rfl rfl)
theorem dX1_makeRoll_92 : decode cX1_makeRoll 92 = .ok (.aload_n 2, 1) := dk_44 (dk_at dksX1_makeRoll_3 23 rfl rfl)
theorem dX1_makeRoll_93 : decode cX1_makeRoll 93 = .ok (.getfield 158, 3) := dk_180 0 158 (dk_at dksX1_makeRoll_4 0 rfl rfl)
theorem dX1_makeRoll_96 : decode cX1_makeRoll 96 = .ok (.aload_n 0, 1) := dk_42 (dk_at dksX1_makeRoll_4 3 rfl rfl)
theorem dX1_makeRoll_97 : decode cX1_makeRoll 97 = .ok (.getfield 58, 3) := dk_180 0 58 (dk_at dksX1_makeRoll_4 4 rfl rfl)
theorem dX1_makeRoll_100 : decode cX1_makeRoll 100 = .ok (.getfield 147, 3) := dk_180 0 147 (dk_at dksX1_makeRoll_4 7 rfl rfl)
theorem dX1_makeRoll_103 : decode cX1_makeRoll 103 = .ok (.if_icmp .gt 85, 3) := dk_163 0 85 (dk_at dksX1_makeRoll_4 10 rfl rfl)
theorem dX1_makeRoll_106 : decode cX1_makeRoll 106 = .ok (.iload_n 3, 1) := dk_29 (dk_at dksX1_makeRoll_4 13 rfl rfl)
theorem dX1_makeRoll_107 : decode cX1_makeRoll 107 = .ok (.iconst (-1), 1) := dk_2 (dk_at dksX1_makeRoll_4 14 rfl rfl)
theorem dX1_makeRoll_108 : decode cX1_makeRoll 108 = .ok (.if_icmp .eq 80, 3) := dk_159 0 80 (dk_at dksX1_makeRoll_4 15 rfl rfl)
theorem dX1_makeRoll_111 : decode cX1_makeRoll 111 = .ok (.aload_n 0, 1) := dk_42 (dk_at dksX1_makeRoll_4 18 rfl rfl)
theorem dX1_makeRoll_112 : decode cX1_makeRoll 112 = .ok (.iload_n 3, 1) := dk_29 (dk_at dksX1_makeRoll_4 19 rfl rfl)
theorem dX1_makeRoll_113 : decode cX1_makeRoll 113 = .ok (.invokevirtual 86, 3) := dk_182 0 86 (dk_at dksX1_makeRoll_4 20 rfl rfl)
theorem dX1_makeRoll_116 : decode cX1_makeRoll 116 = .ok (.aload_n 0, 1) := dk_42 (dk_at dksX1_makeRoll_4 23 rfl rfl)
theorem dX1_makeRoll_117 : decode cX1_makeRoll 117 = .ok (.iconst 1, 1) := dk_4 (dk_at dksX1_makeRoll_5 0 rfl rfl)
theorem dX1_makeRoll_118 : decode cX1_makeRoll 118 = .ok (.invokevirtual 161, 3) := dk_182 0 161 (dk_at dksX1_makeRoll_5 1 rfl rfl)
theorem dX1_makeRoll_121 : decode cX1_makeRoll 121 = .ok (.iconst (-1), 1) := dk_2 (dk_at dksX1_makeRoll_5 4 rfl rfl)
theorem dX1_makeRoll_122 : decode cX1_makeRoll 122 = .ok (.if_icmp .eq 11, 3) := dk_159 0 11 (dk_at dksX1_makeRoll_5 5 rfl rfl)
theorem dX1_makeRoll_125 : decode cX1_makeRoll 125 = .ok (.aload_n 0, 1) := dk_42 (dk_at dksX1_makeRoll_5 8 rfl rfl)
theorem dX1_makeRoll_126 : decode cX1_makeRoll 126 = .ok (.iconst 1, 1) := dk_4 (dk_at dksX1_makeRoll_5 9 rfl rfl)
theorem dX1_makeRoll_127 : decode cX1_makeRoll 127 = .ok (.invokevirtual 161, 3) := dk_182 0 161 (dk_at dksX1_makeRoll_5 10 rfl rfl)
theorem dX1_makeRoll_130 : decode cX1_makeRoll 130 = .ok (.goto 8, 3) := dk_167 0 8 (dk_at dksX1_makeRoll_5 13 rfl rfl)
theorem dX1_makeRoll_133 : decode cX1_makeRoll 133 = .ok (.aload_n 0, 1) := dk_42 (dk_at dksX1_makeRoll_5 16 rfl rfl)
theorem dX1_makeRoll_134 : decode cX1_makeRoll 134 = .ok (.iconst 0, 1) := dk_3 (dk_at dksX1_makeRoll_5 17 rfl rfl)
theorem dX1_makeRoll_135 : decode cX1_makeRoll 135 = .ok (.invokevirtual 161, 3) := dk_182 0 161 (dk_at dksX1_makeRoll_5 18 rfl rfl)
theorem dX1_makeRoll_138 : decode cX1_makeRoll 138 = .ok (.istore 4, 2) := dk_54 4 (dk_at dksX1_makeRoll_5 21 rfl rfl)
theorem dX1_makeRoll_140 : decode cX1_makeRoll 140 = .ok (.aload_n 0, 1) := dk_42 (dk_at dksX1_makeRoll_5 23 rfl rfl)
theorem dX1_makeRoll_141 : decode cX1_makeRoll 141 = .ok (.getfield 58, 3) := dk_180 0 58 (dk_at dksX1_makeRoll_6 0 rfl rfl)
theorem dX1_makeRoll_144 : decode cX1_makeRoll 144 = .ok (.getfield 165, 3) := dk_180 0 165 (dk_at dksX1_makeRoll_6 3 rfl rfl)
theorem dX1_makeRoll_147 : decode cX1_makeRoll 147 = .ok (.iload_n 1, 1) := dk_27 (dk_at dksX1_makeRoll_6 6 rfl rfl)
theorem dX1_makeRoll_148 : decode cX1_makeRoll 148 = .ok (.iload 4, 2) := dk_21 4 (dk_at dksX1_makeRoll_6 7 rfl rfl)
theorem dX1_makeRoll_150 : decode cX1_makeRoll 150 = .ok (.iconst 0, 1) := dk_3 (dk_at dksX1_makeRoll_6 9 rfl rfl)
theorem dX1_makeRoll_151 : decode cX1_makeRoll 151 = .ok (.invokestatic 76, 3) := dk_184 0 76 (dk_at dksX1_makeRoll_6 10 rfl rfl)
theorem dX1_makeRoll_154 : decode cX1_makeRoll 154 = .ok (.iastore, 1) := dk_79 (dk_at dksX1_makeRoll_6 13 rfl rfl)
theorem dX1_makeRoll_155 : decode cX1_makeRoll 155 = .ok (.aload_n 0, 1) := dk_42 (dk_at dksX1_makeRoll_6 14 rfl rfl)
theorem dX1_makeRoll_156 : decode cX1_makeRoll 156 = .ok (.getfield 58, 3) := dk_180 0 58 (dk_at dksX1_makeRoll_6 15 rfl rfl)
theorem dX1_makeRoll_159 : decode cX1_makeRoll 159 = .ok (.getfield 62, 3) := dk_180 0 62 (dk_at dksX1_makeRoll_6 18 rfl rfl)
theorem dX1_makeRoll_162 : decode cX1_makeRoll 162 = .ok (.aload_n 0, 1) := dk_42 (dk_at dksX1_makeRoll_6 21 rfl rfl)
theorem dX1_makeRoll_163 : decode cX1_makeRoll 163 = .ok (.getfield 58, 3) := dk_180 0 58 (dk_at dksX1_makeRoll_7 0 rfl rfl)
theorem dX1_makeRoll_166 : decode cX1_makeRoll 166 = .ok (.getfield 165, 3) := dk_180 0 165 (dk_at dksX1_makeRoll_7 3 rfl rfl)
theorem dX1_makeRoll_169 : decode cX1_makeRoll 169 = .ok (.iload_n 1, 1) := dk_27 (dk_at dksX1_makeRoll_7 6 rfl rfl)
theorem dX1_makeRoll_170 : decode cX1_makeRoll 170 = .ok (.iaload, 1) := dk_46 (dk_at dksX1_makeRoll_7 7 rfl rfl)
theorem dX1_makeRoll_171 : decode cX1_makeRoll 171 = .ok (.invokeinterface 52 2, 5) := by decide +kernel
theorem dX1_makeRoll_176 : decode cX1_makeRoll 176 = .ok (.checkcast 67, 3) := dk_192 0 67 (dk_at dksX1_makeRoll_7 13 rfl rfl)
theorem dX1_makeRoll_179 : decode cX1_makeRoll 179 = .ok (.dup, 1) := dk_89 (dk_at dksX1_makeRoll_7 16 rfl rfl)
theorem dX1_makeRoll_180 : decode cX1_makeRoll 180 = .ok (.getfield 156, 3) := dk_180 0 156 (dk_at dksX1_makeRoll_7 17 rfl rfl)
theorem dX1_makeRoll_183 : decode cX1_makeRoll 183 = .ok (.iconst 1, 1) := dk_4 (dk_at dksX1_makeRoll_7 20 rfl rfl)
theorem dX1_makeRoll_184 : decode cX1_makeRoll 184 = .ok (.iadd, 1) := dk_96 (dk_at dksX1_makeRoll_7 21 rfl rfl)
theorem dX1_makeRoll_185 : decode cX1_makeRoll 185 = .ok (.putfield 156, 3) := dk_181 0 156 (dk_at dksX1_makeRoll_8 0 rfl rfl)
theorem dX1_makeRoll_188 : decode cX1_makeRoll 188 = .ok (.iinc 1 1, 3) := dk_132 1 1 (dk_at dksX1_makeRoll_8 3 rfl rfl)
theorem dX1_makeRoll_191 : decode cX1_makeRoll 191 = .ok (.goto (-148), 3) := dk_167 255 108 (dk_at dksX1_makeRoll_8 6 rfl rfl)
theorem dX1_makeRoll_194 : decode cX1_makeRoll 194 = .ok (.return_, 1) := dk_177 (dk_at dksX1_makeRoll_8 9 rfl rfl)
abbrev cX1_nearest : ByteArray := prog_1_method_20_code
def yX1_nearest : MethodName := ⟨RX1, "nearest", "(Z)I"⟩
def dkwX1_nearest_8 : List UInt8 := [21, 7, 21, 8, 162, 0, 7, 29, 167, 0, 4, 28, 61, 132, 3, 1, 167, 255, 64, 28, 172]
abbrev dktX1_nearest_8 : List UInt8 := dkwX1_nearest_8 ++ []
def dkwX1_nearest_7 : List UInt8 := [185, 0, 52, 2, 0, 192, 0, 67, 180, 0, 156, 54, 8, 21, 6, 153, 0, 19, 28, 2, 159, 0, 10]
abbrev dktX1_nearest_7 : List UInt8 := dkwX1_nearest_7 ++ dktX1_nearest_8
def dkwX1_nearest_6 : List UInt8 := [185, 0, 52, 2, 0, 192, 0, 97, 180, 0, 153, 46, 167, 0, 22, 42, 180, 0, 58, 180, 0, 62, 28]
abbrev dktX1_nearest_6 : List UInt8 := dkwX1_nearest_6 ++ dktX1_nearest_7
def dkwX1_nearest_5 : List UInt8 := [160, 0, 7, 2, 167, 0, 50, 27, 153, 0, 27, 42, 180, 0, 27, 42, 180, 0, 20, 28]
abbrev dktX1_nearest_5 : List UInt8 := dkwX1_nearest_5 ++ dktX1_nearest_6
def dkwX1_nearest_4 : List UInt8 := [4, 167, 0, 4, 3, 54, 6, 27, 153, 0, 8, 21, 4, 167, 0, 5, 21, 5, 54, 7, 28, 2]
abbrev dktX1_nearest_4 : List UInt8 := dkwX1_nearest_4 ++ dktX1_nearest_5
def dkwX1_nearest_3 : List UInt8 := [153, 0, 24, 21, 5, 42, 180, 0, 20, 29, 185, 0, 52, 2, 0, 192, 0, 97, 180, 0, 106, 162, 0, 7]
abbrev dktX1_nearest_3 : List UInt8 := dkwX1_nearest_3 ++ dktX1_nearest_4
def dkwX1_nearest_2 : List UInt8 := [180, 0, 62, 29, 185, 0, 52, 2, 0, 192, 0, 67, 180, 0, 156, 54, 5, 21, 4, 2, 159, 0, 32, 27]
abbrev dktX1_nearest_2 : List UInt8 := dkwX1_nearest_2 ++ dktX1_nearest_3
def dkwX1_nearest_1 : List UInt8 := [180, 0, 20, 29, 185, 0, 52, 2, 0, 192, 0, 97, 180, 0, 153, 46, 54, 4, 42, 180, 0, 58]
abbrev dktX1_nearest_1 : List UInt8 := dkwX1_nearest_1 ++ dktX1_nearest_2
def dkwX1_nearest_0 : List UInt8 := [2, 61, 3, 62, 29, 42, 180, 0, 20, 185, 0, 42, 1, 0, 162, 0, 185, 42, 180, 0, 27, 42]
abbrev dktX1_nearest_0 : List UInt8 := dkwX1_nearest_0 ++ dktX1_nearest_1
theorem dksX1_nearest_0 : cX1_nearest.data.toList.drop 0 = dktX1_nearest_0 := by decide +kernel
theorem dksX1_nearest_1 : cX1_nearest.data.toList.drop 22 = dktX1_nearest_1 := dk_seg dksX1_nearest_0 22 rfl rfl
theorem dksX1_nearest_2 : cX1_nearest.data.toList.drop 44 = dktX1_nearest_2 := dk_seg dksX1_nearest_1 22 rfl rfl
theorem dksX1_nearest_3 : cX1_nearest.data.toList.drop 68 = dktX1_nearest_3 := dk_seg dksX1_nearest_2 24 rfl rfl
theorem dksX1_nearest_4 : cX1_nearest.data.toList.drop 92 = dktX1_nearest_4 := dk_seg dksX1_nearest_3 24 rfl rfl
theorem dksX1_nearest_5 : cX1_nearest.data.toList.drop 114 = dktX1_nearest_5 := dk_seg dksX1_nearest_4 22 rfl rfl
theorem dksX1_nearest_6 : cX1_nearest.data.toList.drop 134 = dktX1_nearest_6 := dk_seg dksX1_nearest_5 20 rfl rfl
theorem dksX1_nearest_7 : cX1_nearest.data.toList.drop 157 = dktX1_nearest_7 := dk_seg dksX1_nearest_6 23 rfl rfl
theorem dksX1_nearest_8 : cX1_nearest.data.toList.drop 180 = dktX1_nearest_8 := dk_seg dksX1_nearest_7 23 rfl rfl
theorem dX1_nearest_0 : decode cX1_nearest 0 = .ok (.iconst (-1), 1) := dk_2 (dk_at dksX1_nearest_0 0 rfl rfl)
theorem dX1_nearest_1 : decode cX1_nearest 1 = .ok (.istore_n 2, 1) := dk_61 (dk_at dksX1_nearest_0 1 rfl rfl)
theorem dX1_nearest_2 : decode cX1_nearest 2 = .ok (.iconst 0, 1) := dk_3 (dk_at dksX1_nearest_0 2 rfl rfl)
theorem dX1_nearest_3 : decode cX1_nearest 3 = .ok (.istore_n 3, 1) := dk_62 (dk_at dksX1_nearest_0 3 rfl rfl)
theorem dX1_nearest_4 : decode cX1_nearest 4 = .ok (.iload_n 3, 1) := dk_29 (dk_at dksX1_nearest_0 4 rfl rfl)
theorem dX1_nearest_5 : decode cX1_nearest 5 = .ok (.aload_n 0, 1) := dk_42 (dk_at dksX1_nearest_0 5 rfl rfl)
theorem dX1_nearest_6 : decode cX1_nearest 6 = .ok (.getfield 20, 3) := dk_180 0 20 (dk_at dksX1_nearest_0 6 rfl rfl)
theorem dX1_nearest_9 : decode cX1_nearest 9 = .ok (.invokeinterface 42 1, 5) := by decide +kernel
theorem dX1_nearest_14 : decode cX1_nearest 14 = .ok (.if_icmp .ge 185, 3) := dk_162 0 185 (dk_at dksX1_nearest_0 14 rfl rfl)
theorem dX1_nearest_17 : decode cX1_nearest 17 = .ok (.aload_n 0, 1) := dk_42 (dk_at dksX1_nearest_0 17 rfl rfl)
theorem dX1_nearest_18 : decode cX1_nearest 18 = .ok (.getfield 27, 3) := dk_180 0 27 (dk_at dksX1_nearest_0 18 rfl rfl)
theorem dX1_nearest_21 : decode cX1_nearest 21 = .ok (.aload_n 0, 1) := dk_42 (dk_at dksX1_nearest_0 21 rfl rfl)
theorem dX1_nearest_22 : decode cX1_nearest 22 = .ok (.getfield 20, 3) := dk_180 0 20 (dk_at dksX1_nearest_1 0 rfl rfl)
theorem dX1_nearest_25 : decode cX1_nearest 25 = .ok (.iload_n 3, 1) := dk_29 (dk_at dksX1_nearest_1 3 rfl rfl)
theorem dX1_nearest_26 : decode cX1_nearest 26 = .ok (.invokeinterface 52 2, 5) := by decide +kernel
theorem dX1_nearest_31 : decode cX1_nearest 31 = .ok (.checkcast 97, 3) := dk_192 0 97 (dk_at dksX1_nearest_1 9 rfl rfl)
theorem dX1_nearest_34 : decode cX1_nearest 34 = .ok (.getfield 153, 3) := dk_180 0 153 (dk_at dksX1_nearest_1 12 rfl rfl)
theorem dX1_nearest_37 : decode cX1_nearest 37 = .ok (.iaload, 1) := dk_46 (dk_at dksX1_nearest_1 15 rfl rfl)
theorem dX1_nearest_38 : decode cX1_nearest 38 = .ok (.istore 4, 2) := dk_54 4 (dk_at dksX1_nearest_1 16 rfl rfl)
theorem dX1_nearest_40 : decode cX1_nearest 40 = .ok (.aload_n 0, 1) := dk_42 (dk_at dksX1_nearest_1 18 rfl rfl)
theorem dX1_nearest_41 : decode cX1_nearest 41 = .ok (.getfield 58, 3) := dk_180 0 58 (dk_at dksX1_nearest_1 19 rfl rfl)
theorem dX1_nearest_44 : decode cX1_nearest 44 = .ok (.getfield 62, 3) := dk_180 0 62 (dk_at dksX1_nearest_2 0 rfl rfl)
theorem dX1_nearest_47 : decode cX1_nearest 47 = .ok (.iload_n 3, 1) := dk_29 (dk_at dksX1_nearest_2 3 rfl rfl)
theorem dX1_nearest_48 : decode cX1_nearest 48 = .ok (.invokeinterface 52 2, 5) := by decide +kernel
theorem dX1_nearest_53 : decode cX1_nearest 53 = .ok (.checkcast 67, 3) := dk_192 0 67 (dk_at dksX1_nearest_2 9 rfl rfl)
theorem dX1_nearest_56 : decode cX1_nearest 56 = .ok (.getfield 156, 3) := dk_180 0 156 (dk_at dksX1_nearest_2 12 rfl rfl)
theorem dX1_nearest_59 : decode cX1_nearest 59 = .ok (.istore 5, 2) := dk_54 5 (dk_at dksX1_nearest_2 15 rfl rfl)
theorem dX1_nearest_61 : decode cX1_nearest 61 = .ok (.iload 4, 2) := dk_21 4 (dk_at dksX1_nearest_2 17 rfl rfl)
theorem dX1_nearest_63 : decode cX1_nearest 63 = .ok (.iconst (-1), 1) := dk_2 (dk_at dksX1_nearest_2 19 rfl rfl)
theorem dX1_nearest_64 : decode cX1_nearest 64 = .ok (.if_icmp .eq 32, 3) := dk_159 0 32 (dk_at dksX1_nearest_2 20 rfl rfl)
theorem dX1_nearest_67 : decode cX1_nearest 67 = .ok (.iload_n 1, 1) := dk_27 (dk_at dksX1_nearest_2 23 rfl rfl)
theorem dX1_nearest_68 : decode cX1_nearest 68 = .ok (.ifCond .eq 24, 3) := dk_153 0 24 (dk_at dksX1_nearest_3 0 rfl rfl)
theorem dX1_nearest_71 : decode cX1_nearest 71 = .ok (.iload 5, 2) := dk_21 5 (dk_at dksX1_nearest_3 3 rfl rfl)
theorem dX1_nearest_73 : decode cX1_nearest 73 = .ok (.aload_n 0, 1) := dk_42 (dk_at dksX1_nearest_3 5 rfl rfl)
theorem dX1_nearest_74 : decode cX1_nearest 74 = .ok (.getfield 20, 3) := dk_180 0 20 (dk_at dksX1_nearest_3 6 rfl rfl)
theorem dX1_nearest_77 : decode cX1_nearest 77 = .ok (.iload_n 3, 1) := dk_29 (dk_at dksX1_nearest_3 9 rfl rfl)
theorem dX1_nearest_78 : decode cX1_nearest 78 = .ok (.invokeinterface 52 2, 5) := by decide +kernel
theorem dX1_nearest_83 : decode cX1_nearest 83 = .ok (.checkcast 97, 3) := dk_192 0 97 (dk_at dksX1_nearest_3 15 rfl rfl)
theorem dX1_nearest_86 : decode cX1_nearest 86 = .ok (.getfield 106, 3) := dk_180 0 106 (dk_at dksX1_nearest_3 18 rfl rfl)
theorem dX1_nearest_89 : decode cX1_nearest 89 = .ok (.if_icmp .ge 7, 3) := dk_162 0 7 (dk_at dksX1_nearest_3 21 rfl rfl)
theorem dX1_nearest_92 : decode cX1_nearest 92 = .ok (.iconst 1, 1) := dk_4 (dk_at dksX1_nearest_4 0 rfl rfl)
theorem dX1_nearest_93 : decode cX1_nearest 93 = .ok (.goto 4, 3) := dk_167 0 4 (dk_at dksX1_nearest_4 1 rfl rfl)
theorem dX1_nearest_96 : decode cX1_nearest 96 = .ok (.iconst 0, 1) := dk_3 (dk_at dksX1_nearest_4 4 rfl rfl)
theorem dX1_nearest_97 : decode cX1_nearest 97 = .ok (.istore 6, 2) := dk_54 6 (dk_at dksX1_nearest_4 5 rfl rfl)
theorem dX1_nearest_99 : decode cX1_nearest 99 = .ok (.iload_n 1, 1) := dk_27 (dk_at dksX1_nearest_4 7 rfl rfl)
theorem dX1_nearest_100 : decode cX1_nearest 100 = .ok (.ifCond .eq 8, 3) := dk_153 0 8 (dk_at dksX1_nearest_4 8 rfl rfl)
theorem dX1_nearest_103 : decode cX1_nearest 103 = .ok (.iload 4, 2) := dk_21 4 (dk_at dksX1_nearest_4 11 rfl rfl)
theorem dX1_nearest_105 : decode cX1_nearest 105 = .ok (.goto 5, 3) := dk_167 0 5 (dk_at dksX1_nearest_4 13 rfl rfl)
theorem dX1_nearest_108 : decode cX1_nearest 108 = .ok (.iload 5, 2) := dk_21 5 (dk_at dksX1_nearest_4 16 rfl rfl)
theorem dX1_nearest_110 : decode cX1_nearest 110 = .ok (.istore 7, 2) := dk_54 7 (dk_at dksX1_nearest_4 18 rfl rfl)
theorem dX1_nearest_112 : decode cX1_nearest 112 = .ok (.iload_n 2, 1) := dk_28 (dk_at dksX1_nearest_4 20 rfl rfl)
theorem dX1_nearest_113 : decode cX1_nearest 113 = .ok (.iconst (-1), 1) := dk_2 (dk_at dksX1_nearest_4 21 rfl rfl)
theorem dX1_nearest_114 : decode cX1_nearest 114 = .ok (.if_icmp .ne 7, 3) := dk_160 0 7 (dk_at dksX1_nearest_5 0 rfl rfl)
theorem dX1_nearest_117 : decode cX1_nearest 117 = .ok (.iconst (-1), 1) := dk_2 (dk_at dksX1_nearest_5 3 rfl rfl)
theorem dX1_nearest_118 : decode cX1_nearest 118 = .ok (.goto 50, 3) := dk_167 0 50 (dk_at dksX1_nearest_5 4 rfl rfl)
theorem dX1_nearest_121 : decode cX1_nearest 121 = .ok (.iload_n 1, 1) := dk_27 (dk_at dksX1_nearest_5 7 rfl rfl)
theorem dX1_nearest_122 : decode cX1_nearest 122 = .ok (.ifCond .eq 27, 3) := dk_153 0 27 (dk_at dksX1_nearest_5 8 rfl rfl)
theorem dX1_nearest_125 : decode cX1_nearest 125 = .ok (.aload_n 0, 1) := dk_42 (dk_at dksX1_nearest_5 11 rfl rfl)
theorem dX1_nearest_126 : decode cX1_nearest 126 = .ok (.getfield 27, 3) := dk_180 0 27 (dk_at dksX1_nearest_5 12 rfl rfl)
theorem dX1_nearest_129 : decode cX1_nearest 129 = .ok (.aload_n 0, 1) := dk_42 (dk_at dksX1_nearest_5 15 rfl rfl)
theorem dX1_nearest_130 : decode cX1_nearest 130 = .ok (.getfield 20, 3) := dk_180 0 20 (dk_at dksX1_nearest_5 16 rfl rfl)
theorem dX1_nearest_133 : decode cX1_nearest 133 = .ok (.iload_n 2, 1) := dk_28 (dk_at dksX1_nearest_5 19 rfl rfl)
theorem dX1_nearest_134 : decode cX1_nearest 134 = .ok (.invokeinterface 52 2, 5) := by decide +kernel
theorem dX1_nearest_139 : decode cX1_nearest 139 = .ok (.checkcast 97, 3) := dk_192 0 97 (dk_at dksX1_nearest_6 5 rfl rfl)
theorem dX1_nearest_142 : decode cX1_nearest 142 = .ok (.getfield 153, 3) := dk_180 0 153 (dk_at dksX1_nearest_6 8 rfl rfl)
theorem dX1_nearest_145 : decode cX1_nearest 145 = .ok (.iaload, 1) := dk_46 (dk_at dksX1_nearest_6 11 rfl rfl)
theorem dX1_nearest_146 : decode cX1_nearest 146 = .ok (.goto 22, 3) := dk_167 0 22 (dk_at dksX1_nearest_6 12 rfl rfl)
theorem dX1_nearest_149 : decode cX1_nearest 149 = .ok (.aload_n 0, 1) := dk_42 (dk_at dksX1_nearest_6 15 rfl rfl)
theorem dX1_nearest_150 : decode cX1_nearest 150 = .ok (.getfield 58, 3) := dk_180 0 58 (dk_at dksX1_nearest_6 16 rfl rfl)
theorem dX1_nearest_153 : decode cX1_nearest 153 = .ok (.getfield 62, 3) := dk_180 0 62 (dk_at dksX1_nearest_6 19 rfl rfl)
theorem dX1_nearest_156 : decode cX1_nearest 156 = .ok (.iload_n 2, 1) := dk_28 (dk_at dksX1_nearest_6 22 rfl rfl)
theorem dX1_nearest_157 : decode cX1_nearest 157 = .ok (.invokeinterface 52 2, 5) := by decide +kernel
theorem dX1_nearest_162 : decode cX1_nearest 162 = .ok (.checkcast 67, 3) := dk_192 0 67 (dk_at dksX1_nearest_7 5 rfl rfl)
theorem dX1_nearest_165 : decode cX1_nearest 165 = .ok (.getfield 156, 3) := dk_180 0 156 (dk_at dksX1_nearest_7 8 rfl rfl)
theorem dX1_nearest_168 : decode cX1_nearest 168 = .ok (.istore 8, 2) := dk_54 8 (dk_at dksX1_nearest_7 11 rfl rfl)
theorem dX1_nearest_170 : decode cX1_nearest 170 = .ok (.iload 6, 2) := dk_21 6 (dk_at dksX1_nearest_7 13 rfl rfl)
theorem dX1_nearest_172 : decode cX1_nearest 172 = .ok (.ifCond .eq 19, 3) := dk_153 0 19 (dk_at dksX1_nearest_7 15 rfl rfl)
theorem dX1_nearest_175 : decode cX1_nearest 175 = .ok (.iload_n 2, 1) := dk_28 (dk_at dksX1_nearest_7 18 rfl rfl)
theorem dX1_nearest_176 : decode cX1_nearest 176 = .ok (.iconst (-1), 1) := dk_2 (dk_at dksX1_nearest_7 19 rfl rfl)
theorem dX1_nearest_177 : decode cX1_nearest 177 = .ok (.if_icmp .eq 10, 3) := dk_159 0 10 (dk_at dksX1_nearest_7 20 rfl rfl)
theorem dX1_nearest_180 : decode cX1_nearest 180 = .ok (.iload 7, 2) := dk_21 7 (dk_at dksX1_nearest_8 0 rfl rfl)
theorem dX1_nearest_182 : decode cX1_nearest 182 = .ok (.iload 8, 2) := dk_21 8 (dk_at dksX1_nearest_8 2 rfl rfl)
theorem dX1_nearest_184 : decode cX1_nearest 184 = .ok (.if_icmp .ge 7, 3) := dk_162 0 7 (dk_at dksX1_nearest_8 4 rfl rfl)
theorem dX1_nearest_187 : decode cX1_nearest 187 = .ok (.iload_n 3, 1) := dk_29 (dk_at dksX1_nearest_8 7 rfl rfl)
theorem dX1_nearest_188 : decode cX1_nearest 188 = .ok (.goto 4, 3) := dk_167 0 4 (dk_at dksX1_nearest_8 8 rfl rfl)
theorem dX1_nearest_191 : decode cX1_nearest 191 = .ok (.iload_n 2, 1) := dk_28 (dk_at dksX1_nearest_8 11 rfl rfl)
theorem dX1_nearest_192 : decode cX1_nearest 192 = .ok (.istore_n 2, 1) := dk_61 (dk_at dksX1_nearest_8 12 rfl rfl)
theorem dX1_nearest_193 : decode cX1_nearest 193 = .ok (.iinc 3 1, 3) := dk_132 3 1 (dk_at dksX1_nearest_8 13 rfl rfl)
theorem dX1_nearest_196 : decode cX1_nearest 196 = .ok (.goto (-192), 3) := dk_167 255 64 (dk_at dksX1_nearest_8 16 rfl rfl)
theorem dX1_nearest_199 : decode cX1_nearest 199 = .ok (.iload_n 2, 1) := dk_28 (dk_at dksX1_nearest_8 19 rfl rfl)
theorem dX1_nearest_200 : decode cX1_nearest 200 = .ok (.ireturn, 1) := dk_172 (dk_at dksX1_nearest_8 20 rfl rfl)
abbrev cX1_isOnRoll : ByteArray := prog_1_method_27_code
def yX1_isOnRoll : MethodName := ⟨RX1, "isOnRoll", "(I)Z"⟩
def dkwX1_isOnRoll_0 : List UInt8 := [42, 42, 27, 182, 0, 116, 182, 0, 181, 172]
abbrev dktX1_isOnRoll_0 : List UInt8 := dkwX1_isOnRoll_0 ++ []
theorem dksX1_isOnRoll_0 : cX1_isOnRoll.data.toList.drop 0 = dktX1_isOnRoll_0 := by decide +kernel
theorem dX1_isOnRoll_0 : decode cX1_isOnRoll 0 = .ok (.aload_n 0, 1) := dk_42 (dk_at dksX1_isOnRoll_0 0 rfl rfl)
theorem dX1_isOnRoll_1 : decode cX1_isOnRoll 1 = .ok (.aload_n 0, 1) := dk_42 (dk_at dksX1_isOnRoll_0 1 rfl rfl)
theorem dX1_isOnRoll_2 : decode cX1_isOnRoll 2 = .ok (.iload_n 1, 1) := dk_27 (dk_at dksX1_isOnRoll_0 2 rfl rfl)
theorem dX1_isOnRoll_3 : decode cX1_isOnRoll 3 = .ok (.invokevirtual 116, 3) := dk_182 0 116 (dk_at dksX1_isOnRoll_0 3 rfl rfl)
theorem dX1_isOnRoll_6 : decode cX1_isOnRoll 6 = .ok (.invokevirtual 181, 3) := dk_182 0 181 (dk_at dksX1_isOnRoll_0 6 rfl rfl)
theorem dX1_isOnRoll_9 : decode cX1_isOnRoll 9 = .ok (.ireturn, 1) := dk_172 (dk_at dksX1_isOnRoll_0 9 rfl rfl)
abbrev cX1_isRolled : ByteArray := prog_1_method_26_code
def yX1_isRolled : MethodName := ⟨RX1, "isRolled", "(LBallotFoundry$Person;)Z"⟩
def dkwX1_isRolled_1 : List UInt8 := [167, 0, 4, 3, 172]
abbrev dktX1_isRolled_1 : List UInt8 := dkwX1_isRolled_1 ++ []
def dkwX1_isRolled_0 : List UInt8 := [42, 180, 0, 58, 198, 0, 23, 42, 180, 0, 58, 180, 0, 165, 43, 180, 0, 178, 46, 2, 159, 0, 7, 4]
abbrev dktX1_isRolled_0 : List UInt8 := dkwX1_isRolled_0 ++ dktX1_isRolled_1
theorem dksX1_isRolled_0 : cX1_isRolled.data.toList.drop 0 = dktX1_isRolled_0 := by decide +kernel
theorem dksX1_isRolled_1 : cX1_isRolled.data.toList.drop 24 = dktX1_isRolled_1 := dk_seg dksX1_isRolled_0 24 rfl rfl
theorem dX1_isRolled_0 : decode cX1_isRolled 0 = .ok (.aload_n 0, 1) := dk_42 (dk_at dksX1_isRolled_0 0 rfl rfl)
theorem dX1_isRolled_1 : decode cX1_isRolled 1 = .ok (.getfield 58, 3) := dk_180 0 58 (dk_at dksX1_isRolled_0 1 rfl rfl)
theorem dX1_isRolled_4 : decode cX1_isRolled 4 = .ok (.ifnull 23, 3) := dk_198 0 23 (dk_at dksX1_isRolled_0 4 rfl rfl)
theorem dX1_isRolled_7 : decode cX1_isRolled 7 = .ok (.aload_n 0, 1) := dk_42 (dk_at dksX1_isRolled_0 7 rfl rfl)
theorem dX1_isRolled_8 : decode cX1_isRolled 8 = .ok (.getfield 58, 3) := dk_180 0 58 (dk_at dksX1_isRolled_0 8 rfl rfl)
theorem dX1_isRolled_11 : decode cX1_isRolled 11 = .ok (.getfield 165, 3) := dk_180 0 165 (dk_at dksX1_isRolled_0 11 rfl rfl)
theorem dX1_isRolled_14 : decode cX1_isRolled 14 = .ok (.aload_n 1, 1) := dk_43 (dk_at dksX1_isRolled_0 14 rfl rfl)
theorem dX1_isRolled_15 : decode cX1_isRolled 15 = .ok (.getfield 178, 3) := dk_180 0 178 (dk_at dksX1_isRolled_0 15 rfl rfl)
theorem dX1_isRolled_18 : decode cX1_isRolled 18 = .ok (.iaload, 1) := dk_46 (dk_at dksX1_isRolled_0 18 rfl rfl)
theorem dX1_isRolled_19 : decode cX1_isRolled 19 = .ok (.iconst (-1), 1) := dk_2 (dk_at dksX1_isRolled_0 19 rfl rfl)
theorem dX1_isRolled_20 : decode cX1_isRolled 20 = .ok (.if_icmp .eq 7, 3) := dk_159 0 7 (dk_at dksX1_isRolled_0 20 rfl rfl)
theorem dX1_isRolled_23 : decode cX1_isRolled 23 = .ok (.iconst 1, 1) := dk_4 (dk_at dksX1_isRolled_0 23 rfl rfl)
theorem dX1_isRolled_24 : decode cX1_isRolled 24 = .ok (.goto 4, 3) := dk_167 0 4 (dk_at dksX1_isRolled_1 0 rfl rfl)
theorem dX1_isRolled_27 : decode cX1_isRolled 27 = .ok (.iconst 0, 1) := dk_3 (dk_at dksX1_isRolled_1 3 rfl rfl)
theorem dX1_isRolled_28 : decode cX1_isRolled 28 = .ok (.ireturn, 1) := dk_172 (dk_at dksX1_isRolled_1 4 rfl rfl)
abbrev cX1_stationOf : ByteArray := prog_1_method_28_code
def yX1_stationOf : MethodName := ⟨RX1, "stationOf", "(I)I"⟩
def dkwX1_stationOf_1 : List UInt8 := [44, 180, 0, 178, 46, 172]
abbrev dktX1_stationOf_1 : List UInt8 := dkwX1_stationOf_1 ++ []
def dkwX1_stationOf_0 : List UInt8 := [42, 27, 182, 0, 116, 77, 42, 180, 0, 58, 199, 0, 7, 2, 167, 0, 15, 42, 180, 0, 58, 180, 0, 165]
abbrev dktX1_stationOf_0 : List UInt8 := dkwX1_stationOf_0 ++ dktX1_stationOf_1
theorem dksX1_stationOf_0 : cX1_stationOf.data.toList.drop 0 = dktX1_stationOf_0 := by decide +kernel
theorem dksX1_stationOf_1 : cX1_stationOf.data.toList.drop 24 = dktX1_stationOf_1 := dk_seg dksX1_stationOf_0 24 rfl rfl
theorem dX1_stationOf_0 : decode cX1_stationOf 0 = .ok (.aload_n 0, 1) := dk_42 (dk_at dksX1_stationOf_0 0 rfl rfl)
theorem dX1_stationOf_1 : decode cX1_stationOf 1 = .ok (.iload_n 1, 1) := dk_27 (dk_at dksX1_stationOf_0 1 rfl rfl)
theorem dX1_stationOf_2 : decode cX1_stationOf 2 = .ok (.invokevirtual 116, 3) := dk_182 0 116 (dk_at dksX1_stationOf_0 2 rfl rfl)
theorem dX1_stationOf_5 : decode cX1_stationOf 5 = .ok (.astore_n 2, 1) := dk_77 (dk_at dksX1_stationOf_0 5 rfl rfl)
theorem dX1_stationOf_6 : decode cX1_stationOf 6 = .ok (.aload_n 0, 1) := dk_42 (dk_at dksX1_stationOf_0 6 rfl rfl)
theorem dX1_stationOf_7 : decode cX1_stationOf 7 = .ok (.getfield 58, 3) := dk_180 0 58 (dk_at dksX1_stationOf_0 7 rfl rfl)
theorem dX1_stationOf_10 : decode cX1_stationOf 10 = .ok (.ifnonnull 7, 3) := dk_199 0 7 (dk_at dksX1_stationOf_0 10 rfl rfl)
theorem dX1_stationOf_13 : decode cX1_stationOf 13 = .ok (.iconst (-1), 1) := dk_2 (dk_at dksX1_stationOf_0 13 rfl rfl)
theorem dX1_stationOf_14 : decode cX1_stationOf 14 = .ok (.goto 15, 3) := dk_167 0 15 (dk_at dksX1_stationOf_0 14 rfl rfl)
theorem dX1_stationOf_17 : decode cX1_stationOf 17 = .ok (.aload_n 0, 1) := dk_42 (dk_at dksX1_stationOf_0 17 rfl rfl)
theorem dX1_stationOf_18 : decode cX1_stationOf 18 = .ok (.getfield 58, 3) := dk_180 0 58 (dk_at dksX1_stationOf_0 18 rfl rfl)
theorem dX1_stationOf_21 : decode cX1_stationOf 21 = .ok (.getfield 165, 3) := dk_180 0 165 (dk_at dksX1_stationOf_0 21 rfl rfl)
theorem dX1_stationOf_24 : decode cX1_stationOf 24 = .ok (.aload_n 2, 1) := dk_44 (dk_at dksX1_stationOf_1 0 rfl rfl)
theorem dX1_stationOf_25 : decode cX1_stationOf 25 = .ok (.getfield 178, 3) := dk_180 0 178 (dk_at dksX1_stationOf_1 1 rfl rfl)
theorem dX1_stationOf_28 : decode cX1_stationOf 28 = .ok (.iaload, 1) := dk_46 (dk_at dksX1_stationOf_1 4 rfl rfl)
theorem dX1_stationOf_29 : decode cX1_stationOf 29 = .ok (.ireturn, 1) := dk_172 (dk_at dksX1_stationOf_1 5 rfl rfl)
abbrev cX1_peopleOf : ByteArray := prog_1_method_29_code
def yX1_peopleOf : MethodName := ⟨RX1, "peopleOf", "(I)I"⟩
def dkwX1_peopleOf_0 : List UInt8 := [42, 27, 182, 0, 185, 180, 0, 156, 172]
abbrev dktX1_peopleOf_0 : List UInt8 := dkwX1_peopleOf_0 ++ []
theorem dksX1_peopleOf_0 : cX1_peopleOf.data.toList.drop 0 = dktX1_peopleOf_0 := by decide +kernel
theorem dX1_peopleOf_0 : decode cX1_peopleOf 0 = .ok (.aload_n 0, 1) := dk_42 (dk_at dksX1_peopleOf_0 0 rfl rfl)
theorem dX1_peopleOf_1 : decode cX1_peopleOf 1 = .ok (.iload_n 1, 1) := dk_27 (dk_at dksX1_peopleOf_0 1 rfl rfl)
theorem dX1_peopleOf_2 : decode cX1_peopleOf 2 = .ok (.invokevirtual 185, 3) := dk_182 0 185 (dk_at dksX1_peopleOf_0 2 rfl rfl)
theorem dX1_peopleOf_5 : decode cX1_peopleOf 5 = .ok (.getfield 156, 3) := dk_180 0 156 (dk_at dksX1_peopleOf_0 5 rfl rfl)
theorem dX1_peopleOf_8 : decode cX1_peopleOf 8 = .ok (.ireturn, 1) := dk_172 (dk_at dksX1_peopleOf_0 8 rfl rfl)
abbrev cX1_box : ByteArray := prog_1_method_7_code
def yX1_box : MethodName := ⟨RX1, "box", "(I)LBallotFoundry$Box;"⟩
def dkwX1_box_3 : List UInt8 := [192, 0, 67, 167, 0, 10, 187, 0, 67, 89, 183, 0, 69, 176]
abbrev dktX1_box_3 : List UInt8 := dkwX1_box_3 ++ []
def dkwX1_box_2 : List UInt8 := [167, 0, 4, 3, 61, 28, 153, 0, 22, 42, 180, 0, 58, 180, 0, 62, 27, 185, 0, 52, 2, 0]
abbrev dktX1_box_2 : List UInt8 := dkwX1_box_2 ++ dktX1_box_3
def dkwX1_box_1 : List UInt8 := [180, 0, 58, 198, 0, 23, 27, 42, 180, 0, 58, 180, 0, 62, 185, 0, 42, 1, 0, 162, 0, 7, 4]
abbrev dktX1_box_1 : List UInt8 := dkwX1_box_1 ++ dktX1_box_2
def dkwX1_box_0 : List UInt8 := [5, 188, 10, 89, 3, 27, 79, 89, 4, 42, 180, 0, 20, 185, 0, 42, 1, 0, 79, 184, 0, 48, 42]
abbrev dktX1_box_0 : List UInt8 := dkwX1_box_0 ++ dktX1_box_1
theorem dksX1_box_0 : cX1_box.data.toList.drop 0 = dktX1_box_0 := by decide +kernel
theorem dksX1_box_1 : cX1_box.data.toList.drop 23 = dktX1_box_1 := dk_seg dksX1_box_0 23 rfl rfl
theorem dksX1_box_2 : cX1_box.data.toList.drop 46 = dktX1_box_2 := dk_seg dksX1_box_1 23 rfl rfl
theorem dksX1_box_3 : cX1_box.data.toList.drop 68 = dktX1_box_3 := dk_seg dksX1_box_2 22 rfl rfl
theorem dX1_box_0 : decode cX1_box 0 = .ok (.iconst 2, 1) := dk_5 (dk_at dksX1_box_0 0 rfl rfl)
theorem dX1_box_1 : decode cX1_box 1 = .ok (.newarray .int, 2) := dk_188_10 (dk_at dksX1_box_0 1 rfl rfl)
theorem dX1_box_3 : decode cX1_box 3 = .ok (.dup, 1) := dk_89 (dk_at dksX1_box_0 3 rfl rfl)
theorem dX1_box_4 : decode cX1_box 4 = .ok (.iconst 0, 1) := dk_3 (dk_at dksX1_box_0 4 rfl rfl)
theorem dX1_box_5 : decode cX1_box 5 = .ok (.iload_n 1, 1) := dk_27 (dk_at dksX1_box_0 5 rfl rfl)
theorem dX1_box_6 : decode cX1_box 6 = .ok (.iastore, 1) := dk_79 (dk_at dksX1_box_0 6 rfl rfl)
theorem dX1_box_7 : decode cX1_box 7 = .ok (.dup, 1) := dk_89 (dk_at dksX1_box_0 7 rfl rfl)
theorem dX1_box_8 : decode cX1_box 8 = .ok (.iconst 1, 1) := dk_4 (dk_at dksX1_box_0 8 rfl rfl)
theorem dX1_box_9 : decode cX1_box 9 = .ok (.aload_n 0, 1) := dk_42 (dk_at dksX1_box_0 9 rfl rfl)
theorem dX1_box_10 : decode cX1_box 10 = .ok (.getfield 20, 3) := dk_180 0 20 (dk_at dksX1_box_0 10 rfl rfl)
theorem dX1_box_13 : decode cX1_box 13 = .ok (.invokeinterface 42 1, 5) := by decide +kernel
theorem dX1_box_18 : decode cX1_box 18 = .ok (.iastore, 1) := dk_79 (dk_at dksX1_box_0 18 rfl rfl)
theorem dX1_box_19 : decode cX1_box 19 = .ok (.invokestatic 48, 3) := dk_184 0 48 (dk_at dksX1_box_0 19 rfl rfl)
theorem dX1_box_22 : decode cX1_box 22 = .ok (.aload_n 0, 1) := dk_42 (dk_at dksX1_box_0 22 rfl rfl)
theorem dX1_box_23 : decode cX1_box 23 = .ok (.getfield 58, 3) := dk_180 0 58 (dk_at dksX1_box_1 0 rfl rfl)
theorem dX1_box_26 : decode cX1_box 26 = .ok (.ifnull 23, 3) := dk_198 0 23 (dk_at dksX1_box_1 3 rfl rfl)
theorem dX1_box_29 : decode cX1_box 29 = .ok (.iload_n 1, 1) := dk_27 (dk_at dksX1_box_1 6 rfl rfl)
theorem dX1_box_30 : decode cX1_box 30 = .ok (.aload_n 0, 1) := dk_42 (dk_at dksX1_box_1 7 rfl rfl)
theorem dX1_box_31 : decode cX1_box 31 = .ok (.getfield 58, 3) := dk_180 0 58 (dk_at dksX1_box_1 8 rfl rfl)
theorem dX1_box_34 : decode cX1_box 34 = .ok (.getfield 62, 3) := dk_180 0 62 (dk_at dksX1_box_1 11 rfl rfl)
theorem dX1_box_37 : decode cX1_box 37 = .ok (.invokeinterface 42 1, 5) := by decide +kernel
theorem dX1_box_42 : decode cX1_box 42 = .ok (.if_icmp .ge 7, 3) := dk_162 0 7 (dk_at dksX1_box_1 19 rfl rfl)
theorem dX1_box_45 : decode cX1_box 45 = .ok (.iconst 1, 1) := dk_4 (dk_at dksX1_box_1 22 rfl rfl)
theorem dX1_box_46 : decode cX1_box 46 = .ok (.goto 4, 3) := dk_167 0 4 (dk_at dksX1_box_2 0 rfl rfl)
theorem dX1_box_49 : decode cX1_box 49 = .ok (.iconst 0, 1) := dk_3 (dk_at dksX1_box_2 3 rfl rfl)
theorem dX1_box_50 : decode cX1_box 50 = .ok (.istore_n 2, 1) := dk_61 (dk_at dksX1_box_2 4 rfl rfl)
theorem dX1_box_51 : decode cX1_box 51 = .ok (.iload_n 2, 1) := dk_28 (dk_at dksX1_box_2 5 rfl rfl)
theorem dX1_box_52 : decode cX1_box 52 = .ok (.ifCond .eq 22, 3) := dk_153 0 22 (dk_at dksX1_box_2 6 rfl rfl)
theorem dX1_box_55 : decode cX1_box 55 = .ok (.aload_n 0, 1) := dk_42 (dk_at dksX1_box_2 9 rfl rfl)
theorem dX1_box_56 : decode cX1_box 56 = .ok (.getfield 58, 3) := dk_180 0 58 (dk_at dksX1_box_2 10 rfl rfl)
theorem dX1_box_59 : decode cX1_box 59 = .ok (.getfield 62, 3) := dk_180 0 62 (dk_at dksX1_box_2 13 rfl rfl)
theorem dX1_box_62 : decode cX1_box 62 = .ok (.iload_n 1, 1) := dk_27 (dk_at dksX1_box_2 16 rfl rfl)
theorem dX1_box_63 : decode cX1_box 63 = .ok (.invokeinterface 52 2, 5) := by decide +kernel
theorem dX1_box_68 : decode cX1_box 68 = .ok (.checkcast 67, 3) := dk_192 0 67 (dk_at dksX1_box_3 0 rfl rfl)
theorem dX1_box_71 : decode cX1_box 71 = .ok (.goto 10, 3) := dk_167 0 10 (dk_at dksX1_box_3 3 rfl rfl)
theorem dX1_box_74 : decode cX1_box 74 = .ok (.new 67, 3) := dk_187 0 67 (dk_at dksX1_box_3 6 rfl rfl)
theorem dX1_box_77 : decode cX1_box 77 = .ok (.dup, 1) := dk_89 (dk_at dksX1_box_3 9 rfl rfl)
theorem dX1_box_78 : decode cX1_box 78 = .ok (.invokespecial 69, 3) := dk_183 0 69 (dk_at dksX1_box_3 10 rfl rfl)
theorem dX1_box_81 : decode cX1_box 81 = .ok (.areturn, 1) := dk_176 (dk_at dksX1_box_3 13 rfl rfl)
abbrev cX1_early : ByteArray := prog_1_method_31_code
def yX1_early : MethodName := ⟨RX1, "early", "(II)I"⟩
def dkwX1_early_5 : List UInt8 := [180, 0, 193, 185, 0, 42, 1, 0, 4, 100, 172]
abbrev dktX1_early_5 : List UInt8 := dkwX1_early_5 ++ []
def dkwX1_early_4 : List UInt8 := [185, 0, 102, 2, 0, 87, 42, 180, 0, 58, 42, 180, 0, 110, 16, 101, 27, 182, 0, 201, 42, 180, 0, 58]
abbrev dktX1_early_4 : List UInt8 := dkwX1_early_4 ++ dktX1_early_5
def dkwX1_early_3 : List UInt8 := [180, 0, 110, 182, 0, 130, 54, 4, 42, 180, 0, 58, 180, 0, 193, 187, 0, 196, 89, 45, 28, 183, 0, 198]
abbrev dktX1_early_3 : List UInt8 := dkwX1_early_3 ++ dktX1_early_4
def dkwX1_early_2 : List UInt8 := [185, 0, 42, 1, 0, 16, 60, 162, 0, 7, 4, 167, 0, 4, 3, 184, 0, 94, 42, 180, 0, 58, 45, 42]
abbrev dktX1_early_2 : List UInt8 := dkwX1_early_2 ++ dktX1_early_3
def dkwX1_early_1 : List UInt8 := [182, 0, 181, 153, 0, 31, 45, 180, 0, 120, 154, 0, 24, 42, 180, 0, 58, 180, 0, 193]
abbrev dktX1_early_1 : List UInt8 := dkwX1_early_1 ++ dktX1_early_2
def dkwX1_early_0 : List UInt8 := [42, 27, 182, 0, 116, 78, 28, 184, 0, 189, 184, 0, 82, 42, 182, 0, 137, 5, 160, 0, 39, 42, 45]
abbrev dktX1_early_0 : List UInt8 := dkwX1_early_0 ++ dktX1_early_1
theorem dksX1_early_0 : cX1_early.data.toList.drop 0 = dktX1_early_0 := by decide +kernel
theorem dksX1_early_1 : cX1_early.data.toList.drop 23 = dktX1_early_1 := dk_seg dksX1_early_0 23 rfl rfl
theorem dksX1_early_2 : cX1_early.data.toList.drop 43 = dktX1_early_2 := dk_seg dksX1_early_1 20 rfl rfl
theorem dksX1_early_3 : cX1_early.data.toList.drop 67 = dktX1_early_3 := dk_seg dksX1_early_2 24 rfl rfl
theorem dksX1_early_4 : cX1_early.data.toList.drop 91 = dktX1_early_4 := dk_seg dksX1_early_3 24 rfl rfl
theorem dksX1_early_5 : cX1_early.data.toList.drop 115 = dktX1_early_5 := dk_seg dksX1_early_4 24 rfl rfl
theorem dX1_early_0 : decode cX1_early 0 = .ok (.aload_n 0, 1) := dk_42 (dk_at dksX1_early_0 0 rfl rfl)
theorem dX1_early_1 : decode cX1_early 1 = .ok (.iload_n 1, 1) := dk_27 (dk_at dksX1_early_0 1 rfl rfl)
theorem dX1_early_2 : decode cX1_early 2 = .ok (.invokevirtual 116, 3) := dk_182 0 116 (dk_at dksX1_early_0 2 rfl rfl)
theorem dX1_early_5 : decode cX1_early 5 = .ok (.astore_n 3, 1) := dk_78 (dk_at dksX1_early_0 5 rfl rfl)
theorem dX1_early_6 : decode cX1_early 6 = .ok (.iload_n 2, 1) := dk_28 (dk_at dksX1_early_0 6 rfl rfl)
theorem dX1_early_7 : decode cX1_early 7 = .ok (.invokestatic 189, 3) := dk_184 0 189 (dk_at dksX1_early_0 7 rfl rfl)
theorem dX1_early_10 : decode cX1_early 10 = .ok (.invokestatic 82, 3) := dk_184 0 82 (dk_at dksX1_early_0 10 rfl rfl)
theorem dX1_early_13 : decode cX1_early 13 = .ok (.aload_n 0, 1) := dk_42 (dk_at dksX1_early_0 13 rfl rfl)
theorem dX1_early_14 : decode cX1_early 14 = .ok (.invokevirtual 137, 3) := dk_182 0 137 (dk_at dksX1_early_0 14 rfl rfl)
theorem dX1_early_17 : decode cX1_early 17 = .ok (.iconst 2, 1) := dk_5 (dk_at dksX1_early_0 17 rfl rfl)
theorem dX1_early_18 : decode cX1_early 18 = .ok (.if_icmp .ne 39, 3) := dk_160 0 39 (dk_at dksX1_early_0 18 rfl rfl)
theorem dX1_early_21 : decode cX1_early 21 = .ok (.aload_n 0, 1) := dk_42 (dk_at dksX1_early_0 21 rfl rfl)
theorem dX1_early_22 : decode cX1_early 22 = .ok (.aload_n 3, 1) := dk_45 (dk_at dksX1_early_0 22 rfl rfl)
theorem dX1_early_23 : decode cX1_early 23 = .ok (.invokevirtual 181, 3) := dk_182 0 181 (dk_at dksX1_early_1 0 rfl rfl)
theorem dX1_early_26 : decode cX1_early 26 = .ok (.ifCond .eq 31, 3) := dk_153 0 31 (dk_at dksX1_early_1 3 rfl rfl)
theorem dX1_early_29 : decode cX1_early 29 = .ok (.aload_n 3, 1) := dk_45 (dk_at dksX1_early_1 6 rfl rfl)
theorem dX1_early_30 : decode cX1_early 30 = .ok (.getfield 120, 3) := dk_180 0 120 (dk_at dksX1_early_1 7 rfl rfl)
theorem dX1_early_33 : decode cX1_early 33 = .ok (.ifCond .ne 24, 3) := dk_154 0 24 (dk_at dksX1_early_1 10 rfl rfl)
theorem dX1_early_36 : decode cX1_early 36 = .ok (.aload_n 0, 1) := dk_42 (dk_at dksX1_early_1 13 rfl rfl)
theorem dX1_early_37 : decode cX1_early 37 = .ok (.getfield 58, 3) := dk_180 0 58 (dk_at dksX1_early_1 14 rfl rfl)
theorem dX1_early_40 : decode cX1_early 40 = .ok (.getfield 193, 3) := dk_180 0 193 (dk_at dksX1_early_1 17 rfl rfl)
theorem dX1_early_43 : decode cX1_early 43 = .ok (.invokeinterface 42 1, 5) := by decide +kernel
theorem dX1_early_48 : decode cX1_early 48 = .ok (.bipush 60, 2) := dk_16 60 (dk_at dksX1_early_2 5 rfl rfl)
theorem dX1_early_50 : decode cX1_early 50 = .ok (.if_icmp .ge 7, 3) := dk_162 0 7 (dk_at dksX1_early_2 7 rfl rfl)
theorem dX1_early_53 : decode cX1_early 53 = .ok (.iconst 1, 1) := dk_4 (dk_at dksX1_early_2 10 rfl rfl)
theorem dX1_early_54 : decode cX1_early 54 = .ok (.goto 4, 3) := dk_167 0 4 (dk_at dksX1_early_2 11 rfl rfl)
theorem dX1_early_57 : decode cX1_early 57 = .ok (.iconst 0, 1) := dk_3 (dk_at dksX1_early_2 14 rfl rfl)
theorem dX1_early_58 : decode cX1_early 58 = .ok (.invokestatic 94, 3) := dk_184 0 94 (dk_at dksX1_early_2 15 rfl rfl)
theorem dX1_early_61 : decode cX1_early 61 = .ok (.aload_n 0, 1) := dk_42 (dk_at dksX1_early_2 18 rfl rfl)
theorem dX1_early_62 : decode cX1_early 62 = .ok (.getfield 58, 3) := dk_180 0 58 (dk_at dksX1_early_2 19 rfl rfl)
theorem dX1_early_65 : decode cX1_early 65 = .ok (.aload_n 3, 1) := dk_45 (dk_at dksX1_early_2 22 rfl rfl)
theorem dX1_early_66 : decode cX1_early 66 = .ok (.aload_n 0, 1) := dk_42 (dk_at dksX1_early_2 23 rfl rfl)
theorem dX1_early_67 : decode cX1_early 67 = .ok (.getfield 110, 3) := dk_180 0 110 (dk_at dksX1_early_3 0 rfl rfl)
theorem dX1_early_70 : decode cX1_early 70 = .ok (.invokevirtual 130, 3) := dk_182 0 130 (dk_at dksX1_early_3 3 rfl rfl)
theorem dX1_early_73 : decode cX1_early 73 = .ok (.istore 4, 2) := dk_54 4 (dk_at dksX1_early_3 6 rfl rfl)
theorem dX1_early_75 : decode cX1_early 75 = .ok (.aload_n 0, 1) := dk_42 (dk_at dksX1_early_3 8 rfl rfl)
theorem dX1_early_76 : decode cX1_early 76 = .ok (.getfield 58, 3) := dk_180 0 58 (dk_at dksX1_early_3 9 rfl rfl)
theorem dX1_early_79 : decode cX1_early 79 = .ok (.getfield 193, 3) := dk_180 0 193 (dk_at dksX1_early_3 12 rfl rfl)
theorem dX1_early_82 : decode cX1_early 82 = .ok (.new 196, 3) := dk_187 0 196 (dk_at dksX1_early_3 15 rfl rfl)
theorem dX1_early_85 : decode cX1_early 85 = .ok (.dup, 1) := dk_89 (dk_at dksX1_early_3 18 rfl rfl)
theorem dX1_early_86 : decode cX1_early 86 = .ok (.aload_n 3, 1) := dk_45 (dk_at dksX1_early_3 19 rfl rfl)
theorem dX1_early_87 : decode cX1_early 87 = .ok (.iload_n 2, 1) := dk_28 (dk_at dksX1_early_3 20 rfl rfl)
theorem dX1_early_88 : decode cX1_early 88 = .ok (.invokespecial 198, 3) := dk_183 0 198 (dk_at dksX1_early_3 21 rfl rfl)
theorem dX1_early_91 : decode cX1_early 91 = .ok (.invokeinterface 102 2, 5) := by decide +kernel
theorem dX1_early_96 : decode cX1_early 96 = .ok (.pop, 1) := dk_87 (dk_at dksX1_early_4 5 rfl rfl)
theorem dX1_early_97 : decode cX1_early 97 = .ok (.aload_n 0, 1) := dk_42 (dk_at dksX1_early_4 6 rfl rfl)
theorem dX1_early_98 : decode cX1_early 98 = .ok (.getfield 58, 3) := dk_180 0 58 (dk_at dksX1_early_4 7 rfl rfl)
theorem dX1_early_101 : decode cX1_early 101 = .ok (.aload_n 0, 1) := dk_42 (dk_at dksX1_early_4 10 rfl rfl)
theorem dX1_early_102 : decode cX1_early 102 = .ok (.getfield 110, 3) := dk_180 0 110 (dk_at dksX1_early_4 11 rfl rfl)
theorem dX1_early_105 : decode cX1_early 105 = .ok (.bipush 101, 2) := dk_16 101 (dk_at dksX1_early_4 14 rfl rfl)
theorem dX1_early_107 : decode cX1_early 107 = .ok (.iload_n 1, 1) := dk_27 (dk_at dksX1_early_4 16 rfl rfl)
theorem dX1_early_108 : decode cX1_early 108 = .ok (.invokevirtual 201, 3) := dk_182 0 201 (dk_at dksX1_early_4 17 rfl rfl)
theorem dX1_early_111 : decode cX1_early 111 = .ok (.aload_n 0, 1) := dk_42 (dk_at dksX1_early_4 20 rfl rfl)
theorem dX1_early_112 : decode cX1_early 112 = .ok (.getfield 58, 3) := dk_180 0 58 (dk_at dksX1_early_4 21 rfl rfl)
theorem dX1_early_115 : decode cX1_early 115 = .ok (.getfield 193, 3) := dk_180 0 193 (dk_at dksX1_early_5 0 rfl rfl)
theorem dX1_early_118 : decode cX1_early 118 = .ok (.invokeinterface 42 1, 5) := by decide +kernel
theorem dX1_early_123 : decode cX1_early 123 = .ok (.iconst 1, 1) := dk_4 (dk_at dksX1_early_5 8 rfl rfl)
theorem dX1_early_124 : decode cX1_early 124 = .ok (.isub, 1) := dk_100 (dk_at dksX1_early_5 9 rfl rfl)
theorem dX1_early_125 : decode cX1_early 125 = .ok (.ireturn, 1) := dk_172 (dk_at dksX1_early_5 10 rfl rfl)
abbrev cX1_isBallot : ByteArray := prog_1_method_30_code
def yX1_isBallot : MethodName := ⟨RX1, "isBallot", "(I)Z"⟩
def dkwX1_isBallot_0 : List UInt8 := [26, 3, 8, 184, 0, 90, 172]
abbrev dktX1_isBallot_0 : List UInt8 := dkwX1_isBallot_0 ++ []
theorem dksX1_isBallot_0 : cX1_isBallot.data.toList.drop 0 = dktX1_isBallot_0 := by decide +kernel
theorem dX1_isBallot_0 : decode cX1_isBallot 0 = .ok (.iload_n 0, 1) := dk_26 (dk_at dksX1_isBallot_0 0 rfl rfl)
theorem dX1_isBallot_1 : decode cX1_isBallot 1 = .ok (.iconst 0, 1) := dk_3 (dk_at dksX1_isBallot_0 1 rfl rfl)
theorem dX1_isBallot_2 : decode cX1_isBallot 2 = .ok (.iconst 5, 1) := dk_8 (dk_at dksX1_isBallot_0 2 rfl rfl)
theorem dX1_isBallot_3 : decode cX1_isBallot 3 = .ok (.invokestatic 90, 3) := dk_184 0 90 (dk_at dksX1_isBallot_0 3 rfl rfl)
theorem dX1_isBallot_6 : decode cX1_isBallot 6 = .ok (.ireturn, 1) := dk_172 (dk_at dksX1_isBallot_0 6 rfl rfl)
abbrev cX1_vote : ByteArray := prog_1_method_32_code
def yX1_vote : MethodName := ⟨RX1, "vote", "(III)I"⟩
def dkwX1_vote_7 : List UInt8 := [25, 4, 182, 0, 208, 180, 0, 212, 185, 0, 42, 1, 0, 172]
abbrev dktX1_vote_7 : List UInt8 := dkwX1_vote_7 ++ []
def dkwX1_vote_6 : List UInt8 := [185, 0, 102, 2, 0, 87, 42, 180, 0, 58, 42, 180, 0, 110, 16, 118, 27, 182, 0, 201, 42, 180, 0, 58]
abbrev dktX1_vote_6 : List UInt8 := dkwX1_vote_6 ++ dktX1_vote_7
def dkwX1_vote_5 : List UInt8 := [180, 0, 205, 27, 4, 84, 42, 180, 0, 58, 25, 4, 182, 0, 208, 180, 0, 212, 29, 184, 0, 215]
abbrev dktX1_vote_5 : List UInt8 := dkwX1_vote_5 ++ dktX1_vote_6
def dkwX1_vote_4 : List UInt8 := [184, 0, 94, 42, 180, 0, 58, 25, 4, 42, 180, 0, 110, 182, 0, 130, 54, 5, 42, 180, 0, 58]
abbrev dktX1_vote_4 : List UInt8 := dkwX1_vote_4 ++ dktX1_vote_5
def dkwX1_vote_3 : List UInt8 := [27, 51, 154, 0, 20, 42, 180, 0, 58, 180, 0, 165, 27, 46, 28, 160, 0, 7, 4, 167, 0, 4, 3]
abbrev dktX1_vote_3 : List UInt8 := dkwX1_vote_3 ++ dktX1_vote_4
def dkwX1_vote_2 : List UInt8 := [42, 25, 4, 182, 0, 181, 153, 0, 40, 25, 4, 180, 0, 120, 154, 0, 32, 42, 180, 0, 58, 180, 0, 205]
abbrev dktX1_vote_2 : List UInt8 := dkwX1_vote_2 ++ dktX1_vote_3
def dkwX1_vote_1 : List UInt8 := [185, 0, 42, 1, 0, 79, 184, 0, 48, 29, 184, 0, 189, 184, 0, 82, 42, 182, 0, 137, 6, 160, 0, 49]
abbrev dktX1_vote_1 : List UInt8 := dkwX1_vote_1 ++ dktX1_vote_2
def dkwX1_vote_0 : List UInt8 := [42, 27, 182, 0, 116, 58, 4, 5, 188, 10, 89, 3, 28, 79, 89, 4, 42, 180, 0, 20]
abbrev dktX1_vote_0 : List UInt8 := dkwX1_vote_0 ++ dktX1_vote_1
theorem dksX1_vote_0 : cX1_vote.data.toList.drop 0 = dktX1_vote_0 := by decide +kernel
theorem dksX1_vote_1 : cX1_vote.data.toList.drop 20 = dktX1_vote_1 := dk_seg dksX1_vote_0 20 rfl rfl
theorem dksX1_vote_2 : cX1_vote.data.toList.drop 44 = dktX1_vote_2 := dk_seg dksX1_vote_1 24 rfl rfl
theorem dksX1_vote_3 : cX1_vote.data.toList.drop 68 = dktX1_vote_3 := dk_seg dksX1_vote_2 24 rfl rfl
theorem dksX1_vote_4 : cX1_vote.data.toList.drop 91 = dktX1_vote_4 := dk_seg dksX1_vote_3 23 rfl rfl
theorem dksX1_vote_5 : cX1_vote.data.toList.drop 113 = dktX1_vote_5 := dk_seg dksX1_vote_4 22 rfl rfl
theorem dksX1_vote_6 : cX1_vote.data.toList.drop 135 = dktX1_vote_6 := dk_seg dksX1_vote_5 22 rfl rfl
theorem dksX1_vote_7 : cX1_vote.data.toList.drop 159 = dktX1_vote_7 := dk_seg dksX1_vote_6 24 rfl rfl
theorem dX1_vote_0 : decode cX1_vote 0 = .ok (.aload_n 0, 1) := dk_42 (dk_at dksX1_vote_0 0 rfl rfl)
theorem dX1_vote_1 : decode cX1_vote 1 = .ok (.iload_n 1, 1) := dk_27 (dk_at dksX1_vote_0 1 rfl rfl)
theorem dX1_vote_2 : decode cX1_vote 2 = .ok (.invokevirtual 116, 3) := dk_182 0 116 (dk_at dksX1_vote_0 2 rfl rfl)
theorem dX1_vote_5 : decode cX1_vote 5 = .ok (.astore 4, 2) := dk_58 4 (dk_at dksX1_vote_0 5 rfl rfl)
theorem dX1_vote_7 : decode cX1_vote 7 = .ok (.iconst 2, 1) := dk_5 (dk_at dksX1_vote_0 7 rfl rfl)
theorem dX1_vote_8 : decode cX1_vote 8 = .ok (.newarray .int, 2) := dk_188_10 (dk_at dksX1_vote_0 8 rfl rfl)
theorem dX1_vote_10 : decode cX1_vote 10 = .ok (.dup, 1) := dk_89 (dk_at dksX1_vote_0 10 rfl rfl)
theorem dX1_vote_11 : decode cX1_vote 11 = .ok (.iconst 0, 1) := dk_3 (dk_at dksX1_vote_0 11 rfl rfl)
theorem dX1_vote_12 : decode cX1_vote 12 = .ok (.iload_n 2, 1) := dk_28 (dk_at dksX1_vote_0 12 rfl rfl)
theorem dX1_vote_13 : decode cX1_vote 13 = .ok (.iastore, 1) := dk_79 (dk_at dksX1_vote_0 13 rfl rfl)
theorem dX1_vote_14 : decode cX1_vote 14 = .ok (.dup, 1) := dk_89 (dk_at dksX1_vote_0 14 rfl rfl)
theorem dX1_vote_15 : decode cX1_vote 15 = .ok (.iconst 1, 1) := dk_4 (dk_at dksX1_vote_0 15 rfl rfl)
theorem dX1_vote_16 : decode cX1_vote 16 = .ok (.aload_n 0, 1) := dk_42 (dk_at dksX1_vote_0 16 rfl rfl)
theorem dX1_vote_17 : decode cX1_vote 17 = .ok (.getfield 20, 3) := dk_180 0 20 (dk_at dksX1_vote_0 17 rfl rfl)
theorem dX1_vote_20 : decode cX1_vote 20 = .ok (.invokeinterface 42 1, 5) := by decide +kernel
theorem dX1_vote_25 : decode cX1_vote 25 = .ok (.iastore, 1) := dk_79 (dk_at dksX1_vote_1 5 rfl rfl)
theorem dX1_vote_26 : decode cX1_vote 26 = .ok (.invokestatic 48, 3) := dk_184 0 48 (dk_at dksX1_vote_1 6 rfl rfl)
theorem dX1_vote_29 : decode cX1_vote 29 = .ok (.iload_n 3, 1) := dk_29 (dk_at dksX1_vote_1 9 rfl rfl)
theorem dX1_vote_30 : decode cX1_vote 30 = .ok (.invokestatic 189, 3) := dk_184 0 189 (dk_at dksX1_vote_1 10 rfl rfl)
theorem dX1_vote_33 : decode cX1_vote 33 = .ok (.invokestatic 82, 3) := dk_184 0 82 (dk_at dksX1_vote_1 13 rfl rfl)
theorem dX1_vote_36 : decode cX1_vote 36 = .ok (.aload_n 0, 1) := dk_42 (dk_at dksX1_vote_1 16 rfl rfl)
theorem dX1_vote_37 : decode cX1_vote 37 = .ok (.invokevirtual 137, 3) := dk_182 0 137 (dk_at dksX1_vote_1 17 rfl rfl)
theorem dX1_vote_40 : decode cX1_vote 40 = .ok (.iconst 3, 1) := dk_6 (dk_at dksX1_vote_1 20 rfl rfl)
theorem dX1_vote_41 : decode cX1_vote 41 = .ok (.if_icmp .ne 49, 3) := dk_160 0 49 (dk_at dksX1_vote_1 21 rfl rfl)
theorem dX1_vote_44 : decode cX1_vote 44 = .ok (.aload_n 0, 1) := dk_42 (dk_at dksX1_vote_2 0 rfl rfl)
theorem dX1_vote_45 : decode cX1_vote 45 = .ok (.aload 4, 2) := dk_25 4 (dk_at dksX1_vote_2 1 rfl rfl)
theorem dX1_vote_47 : decode cX1_vote 47 = .ok (.invokevirtual 181, 3) := dk_182 0 181 (dk_at dksX1_vote_2 3 rfl rfl)
theorem dX1_vote_50 : decode cX1_vote 50 = .ok (.ifCond .eq 40, 3) := dk_153 0 40 (dk_at dksX1_vote_2 6 rfl rfl)
theorem dX1_vote_53 : decode cX1_vote 53 = .ok (.aload 4, 2) := dk_25 4 (dk_at dksX1_vote_2 9 rfl rfl)
theorem dX1_vote_55 : decode cX1_vote 55 = .ok (.getfield 120, 3) := dk_180 0 120 (dk_at dksX1_vote_2 11 rfl rfl)
theorem dX1_vote_58 : decode cX1_vote 58 = .ok (.ifCond .ne 32, 3) := dk_154 0 32 (dk_at dksX1_vote_2 14 rfl rfl)
theorem dX1_vote_61 : decode cX1_vote 61 = .ok (.aload_n 0, 1) := dk_42 (dk_at dksX1_vote_2 17 rfl rfl)
theorem dX1_vote_62 : decode cX1_vote 62 = .ok (.getfield 58, 3) := dk_180 0 58 (dk_at dksX1_vote_2 18 rfl rfl)
theorem dX1_vote_65 : decode cX1_vote 65 = .ok (.getfield 205, 3) := dk_180 0 205 (dk_at dksX1_vote_2 21 rfl rfl)
theorem dX1_vote_68 : decode cX1_vote 68 = .ok (.iload_n 1, 1) := dk_27 (dk_at dksX1_vote_3 0 rfl rfl)
theorem dX1_vote_69 : decode cX1_vote 69 = .ok (.baload, 1) := dk_51 (dk_at dksX1_vote_3 1 rfl rfl)
theorem dX1_vote_70 : decode cX1_vote 70 = .ok (.ifCond .ne 20, 3) := dk_154 0 20 (dk_at dksX1_vote_3 2 rfl rfl)
theorem dX1_vote_73 : decode cX1_vote 73 = .ok (.aload_n 0, 1) := dk_42 (dk_at dksX1_vote_3 5 rfl rfl)
theorem dX1_vote_74 : decode cX1_vote 74 = .ok (.getfield 58, 3) := dk_180 0 58 (dk_at dksX1_vote_3 6 rfl rfl)
theorem dX1_vote_77 : decode cX1_vote 77 = .ok (.getfield 165, 3) := dk_180 0 165 (dk_at dksX1_vote_3 9 rfl rfl)
theorem dX1_vote_80 : decode cX1_vote 80 = .ok (.iload_n 1, 1) := dk_27 (dk_at dksX1_vote_3 12 rfl rfl)
theorem dX1_vote_81 : decode cX1_vote 81 = .ok (.iaload, 1) := dk_46 (dk_at dksX1_vote_3 13 rfl rfl)
theorem dX1_vote_82 : decode cX1_vote 82 = .ok (.iload_n 2, 1) := dk_28 (dk_at dksX1_vote_3 14 rfl rfl)
theorem dX1_vote_83 : decode cX1_vote 83 = .ok (.if_icmp .ne 7, 3) := dk_160 0 7 (dk_at dksX1_vote_3 15 rfl rfl)
theorem dX1_vote_86 : decode cX1_vote 86 = .ok (.iconst 1, 1) := dk_4 (dk_at dksX1_vote_3 18 rfl rfl)
theorem dX1_vote_87 : decode cX1_vote 87 = .ok (.goto 4, 3) := dk_167 0 4 (dk_at dksX1_vote_3 19 rfl rfl)
theorem dX1_vote_90 : decode cX1_vote 90 = .ok (.iconst 0, 1) := dk_3 (dk_at dksX1_vote_3 22 rfl rfl)
theorem dX1_vote_91 : decode cX1_vote 91 = .ok (.invokestatic 94, 3) := dk_184 0 94 (dk_at dksX1_vote_4 0 rfl rfl)
theorem dX1_vote_94 : decode cX1_vote 94 = .ok (.aload_n 0, 1) := dk_42 (dk_at dksX1_vote_4 3 rfl rfl)
theorem dX1_vote_95 : decode cX1_vote 95 = .ok (.getfield 58, 3) := dk_180 0 58 (dk_at dksX1_vote_4 4 rfl rfl)
theorem dX1_vote_98 : decode cX1_vote 98 = .ok (.aload 4, 2) := dk_25 4 (dk_at dksX1_vote_4 7 rfl rfl)
theorem dX1_vote_100 : decode cX1_vote 100 = .ok (.aload_n 0, 1) := dk_42 (dk_at dksX1_vote_4 9 rfl rfl)
theorem dX1_vote_101 : decode cX1_vote 101 = .ok (.getfield 110, 3) := dk_180 0 110 (dk_at dksX1_vote_4 10 rfl rfl)
theorem dX1_vote_104 : decode cX1_vote 104 = .ok (.invokevirtual 130, 3) := dk_182 0 130 (dk_at dksX1_vote_4 13 rfl rfl)
theorem dX1_vote_107 : decode cX1_vote 107 = .ok (.istore 5, 2) := dk_54 5 (dk_at dksX1_vote_4 16 rfl rfl)
theorem dX1_vote_109 : decode cX1_vote 109 = .ok (.aload_n 0, 1) := dk_42 (dk_at dksX1_vote_4 18 rfl rfl)
theorem dX1_vote_110 : decode cX1_vote 110 = .ok (.getfield 58, 3) := dk_180 0 58 (dk_at dksX1_vote_4 19 rfl rfl)
theorem dX1_vote_113 : decode cX1_vote 113 = .ok (.getfield 205, 3) := dk_180 0 205 (dk_at dksX1_vote_5 0 rfl rfl)
theorem dX1_vote_116 : decode cX1_vote 116 = .ok (.iload_n 1, 1) := dk_27 (dk_at dksX1_vote_5 3 rfl rfl)
theorem dX1_vote_117 : decode cX1_vote 117 = .ok (.iconst 1, 1) := dk_4 (dk_at dksX1_vote_5 4 rfl rfl)
theorem dX1_vote_118 : decode cX1_vote 118 = .ok (.bastore, 1) := dk_84 (dk_at dksX1_vote_5 5 rfl rfl)
theorem dX1_vote_119 : decode cX1_vote 119 = .ok (.aload_n 0, 1) := dk_42 (dk_at dksX1_vote_5 6 rfl rfl)
theorem dX1_vote_120 : decode cX1_vote 120 = .ok (.getfield 58, 3) := dk_180 0 58 (dk_at dksX1_vote_5 7 rfl rfl)
theorem dX1_vote_123 : decode cX1_vote 123 = .ok (.aload 4, 2) := dk_25 4 (dk_at dksX1_vote_5 10 rfl rfl)
theorem dX1_vote_125 : decode cX1_vote 125 = .ok (.invokevirtual 208, 3) := dk_182 0 208 (dk_at dksX1_vote_5 12 rfl rfl)
theorem dX1_vote_128 : decode cX1_vote 128 = .ok (.getfield 212, 3) := dk_180 0 212 (dk_at dksX1_vote_5 15 rfl rfl)
theorem dX1_vote_131 : decode cX1_vote 131 = .ok (.iload_n 3, 1) := dk_29 (dk_at dksX1_vote_5 18 rfl rfl)
theorem dX1_vote_132 : decode cX1_vote 132 = .ok (.invokestatic 215, 3) := dk_184 0 215 (dk_at dksX1_vote_5 19 rfl rfl)
theorem dX1_vote_135 : decode cX1_vote 135 = .ok (.invokeinterface 102 2, 5) := by decide +kernel
theorem dX1_vote_140 : decode cX1_vote 140 = .ok (.pop, 1) := dk_87 (dk_at dksX1_vote_6 5 rfl rfl)
theorem dX1_vote_141 : decode cX1_vote 141 = .ok (.aload_n 0, 1) := dk_42 (dk_at dksX1_vote_6 6 rfl rfl)
theorem dX1_vote_142 : decode cX1_vote 142 = .ok (.getfield 58, 3) := dk_180 0 58 (dk_at dksX1_vote_6 7 rfl rfl)
theorem dX1_vote_145 : decode cX1_vote 145 = .ok (.aload_n 0, 1) := dk_42 (dk_at dksX1_vote_6 10 rfl rfl)
theorem dX1_vote_146 : decode cX1_vote 146 = .ok (.getfield 110, 3) := dk_180 0 110 (dk_at dksX1_vote_6 11 rfl rfl)
theorem dX1_vote_149 : decode cX1_vote 149 = .ok (.bipush 118, 2) := dk_16 118 (dk_at dksX1_vote_6 14 rfl rfl)
theorem dX1_vote_151 : decode cX1_vote 151 = .ok (.iload_n 1, 1) := dk_27 (dk_at dksX1_vote_6 16 rfl rfl)
theorem dX1_vote_152 : decode cX1_vote 152 = .ok (.invokevirtual 201, 3) := dk_182 0 201 (dk_at dksX1_vote_6 17 rfl rfl)
theorem dX1_vote_155 : decode cX1_vote 155 = .ok (.aload_n 0, 1) := dk_42 (dk_at dksX1_vote_6 20 rfl rfl)
theorem dX1_vote_156 : decode cX1_vote 156 = .ok (.getfield 58, 3) := dk_180 0 58 (dk_at dksX1_vote_6 21 rfl rfl)
theorem dX1_vote_159 : decode cX1_vote 159 = .ok (.aload 4, 2) := dk_25 4 (dk_at dksX1_vote_7 0 rfl rfl)
theorem dX1_vote_161 : decode cX1_vote 161 = .ok (.invokevirtual 208, 3) := dk_182 0 208 (dk_at dksX1_vote_7 2 rfl rfl)
theorem dX1_vote_164 : decode cX1_vote 164 = .ok (.getfield 212, 3) := dk_180 0 212 (dk_at dksX1_vote_7 5 rfl rfl)
theorem dX1_vote_167 : decode cX1_vote 167 = .ok (.invokeinterface 42 1, 5) := by decide +kernel
theorem dX1_vote_172 : decode cX1_vote 172 = .ok (.ireturn, 1) := dk_172 (dk_at dksX1_vote_7 13 rfl rfl)
abbrev cX1_open : ByteArray := prog_1_method_33_code
def yX1_open : MethodName := ⟨RX1, "open", "(I)I"⟩
def dkwX1_open_2 : List UInt8 := [45, 16, 111, 182, 0, 225, 42, 180, 0, 58, 180, 0, 193, 45, 185, 0, 229, 2, 0, 172]
abbrev dktX1_open_2 : List UInt8 := dkwX1_open_2 ++ []
def dkwX1_open_1 : List UInt8 := [198, 0, 7, 4, 167, 0, 4, 3, 184, 0, 94, 42, 180, 0, 58, 44, 182, 0, 221, 78, 42, 180, 0, 58]
abbrev dktX1_open_1 : List UInt8 := dkwX1_open_1 ++ dktX1_open_2
def dkwX1_open_0 : List UInt8 := [42, 27, 182, 0, 116, 77, 42, 182, 0, 137, 6, 160, 0, 18, 42, 180, 0, 58, 44, 182, 0, 221]
abbrev dktX1_open_0 : List UInt8 := dkwX1_open_0 ++ dktX1_open_1
theorem dksX1_open_0 : cX1_open.data.toList.drop 0 = dktX1_open_0 := by decide +kernel
theorem dksX1_open_1 : cX1_open.data.toList.drop 22 = dktX1_open_1 := dk_seg dksX1_open_0 22 rfl rfl
theorem dksX1_open_2 : cX1_open.data.toList.drop 46 = dktX1_open_2 := dk_seg dksX1_open_1 24 rfl rfl
theorem dX1_open_0 : decode cX1_open 0 = .ok (.aload_n 0, 1) := dk_42 (dk_at dksX1_open_0 0 rfl rfl)
theorem dX1_open_1 : decode cX1_open 1 = .ok (.iload_n 1, 1) := dk_27 (dk_at dksX1_open_0 1 rfl rfl)
theorem dX1_open_2 : decode cX1_open 2 = .ok (.invokevirtual 116, 3) := dk_182 0 116 (dk_at dksX1_open_0 2 rfl rfl)
theorem dX1_open_5 : decode cX1_open 5 = .ok (.astore_n 2, 1) := dk_77 (dk_at dksX1_open_0 5 rfl rfl)
theorem dX1_open_6 : decode cX1_open 6 = .ok (.aload_n 0, 1) := dk_42 (dk_at dksX1_open_0 6 rfl rfl)
theorem dX1_open_7 : decode cX1_open 7 = .ok (.invokevirtual 137, 3) := dk_182 0 137 (dk_at dksX1_open_0 7 rfl rfl)
theorem dX1_open_10 : decode cX1_open 10 = .ok (.iconst 3, 1) := dk_6 (dk_at dksX1_open_0 10 rfl rfl)
theorem dX1_open_11 : decode cX1_open 11 = .ok (.if_icmp .ne 18, 3) := dk_160 0 18 (dk_at dksX1_open_0 11 rfl rfl)
theorem dX1_open_14 : decode cX1_open 14 = .ok (.aload_n 0, 1) := dk_42 (dk_at dksX1_open_0 14 rfl rfl)
theorem dX1_open_15 : decode cX1_open 15 = .ok (.getfield 58, 3) := dk_180 0 58 (dk_at dksX1_open_0 15 rfl rfl)
theorem dX1_open_18 : decode cX1_open 18 = .ok (.aload_n 2, 1) := dk_44 (dk_at dksX1_open_0 18 rfl rfl)
theorem dX1_open_19 : decode cX1_open 19 = .ok (.invokevirtual 221, 3) := dk_182 0 221 (dk_at dksX1_open_0 19 rfl rfl)
theorem dX1_open_22 : decode cX1_open 22 = .ok (.ifnull 7, 3) := dk_198 0 7 (dk_at dksX1_open_1 0 rfl rfl)
theorem dX1_open_25 : decode cX1_open 25 = .ok (.iconst 1, 1) := dk_4 (dk_at dksX1_open_1 3 rfl rfl)
theorem dX1_open_26 : decode cX1_open 26 = .ok (.goto 4, 3) := dk_167 0 4 (dk_at dksX1_open_1 4 rfl rfl)
theorem dX1_open_29 : decode cX1_open 29 = .ok (.iconst 0, 1) := dk_3 (dk_at dksX1_open_1 7 rfl rfl)
theorem dX1_open_30 : decode cX1_open 30 = .ok (.invokestatic 94, 3) := dk_184 0 94 (dk_at dksX1_open_1 8 rfl rfl)
theorem dX1_open_33 : decode cX1_open 33 = .ok (.aload_n 0, 1) := dk_42 (dk_at dksX1_open_1 11 rfl rfl)
theorem dX1_open_34 : decode cX1_open 34 = .ok (.getfield 58, 3) := dk_180 0 58 (dk_at dksX1_open_1 12 rfl rfl)
theorem dX1_open_37 : decode cX1_open 37 = .ok (.aload_n 2, 1) := dk_44 (dk_at dksX1_open_1 15 rfl rfl)
theorem dX1_open_38 : decode cX1_open 38 = .ok (.invokevirtual 221, 3) := dk_182 0 221 (dk_at dksX1_open_1 16 rfl rfl)
theorem dX1_open_41 : decode cX1_open 41 = .ok (.astore_n 3, 1) := dk_78 (dk_at dksX1_open_1 19 rfl rfl)
theorem dX1_open_42 : decode cX1_open 42 = .ok (.aload_n 0, 1) := dk_42 (dk_at dksX1_open_1 20 rfl rfl)
theorem dX1_open_43 : decode cX1_open 43 = .ok (.getfield 58, 3) := dk_180 0 58 (dk_at dksX1_open_1 21 rfl rfl)
theorem dX1_open_46 : decode cX1_open 46 = .ok (.aload_n 3, 1) := dk_45 (dk_at dksX1_open_2 0 rfl rfl)
theorem dX1_open_47 : decode cX1_open 47 = .ok (.bipush 111, 2) := dk_16 111 (dk_at dksX1_open_2 1 rfl rfl)
theorem dX1_open_49 : decode cX1_open 49 = .ok (.invokevirtual 225, 3) := dk_182 0 225 (dk_at dksX1_open_2 3 rfl rfl)
theorem dX1_open_52 : decode cX1_open 52 = .ok (.aload_n 0, 1) := dk_42 (dk_at dksX1_open_2 6 rfl rfl)
theorem dX1_open_53 : decode cX1_open 53 = .ok (.getfield 58, 3) := dk_180 0 58 (dk_at dksX1_open_2 7 rfl rfl)
theorem dX1_open_56 : decode cX1_open 56 = .ok (.getfield 193, 3) := dk_180 0 193 (dk_at dksX1_open_2 10 rfl rfl)
theorem dX1_open_59 : decode cX1_open 59 = .ok (.aload_n 3, 1) := dk_45 (dk_at dksX1_open_2 13 rfl rfl)
theorem dX1_open_60 : decode cX1_open 60 = .ok (.invokeinterface 229 2, 5) := by decide +kernel
theorem dX1_open_65 : decode cX1_open 65 = .ok (.ireturn, 1) := dk_172 (dk_at dksX1_open_2 19 rfl rfl)
abbrev cX1_stateOf : ByteArray := prog_1_method_36_code
def yX1_stateOf : MethodName := ⟨RX1, "stateOf", "(I)I"⟩
def dkwX1_stateOf_0 : List UInt8 := [42, 27, 182, 0, 235, 180, 0, 239, 172]
abbrev dktX1_stateOf_0 : List UInt8 := dkwX1_stateOf_0 ++ []
theorem dksX1_stateOf_0 : cX1_stateOf.data.toList.drop 0 = dktX1_stateOf_0 := by decide +kernel
theorem dX1_stateOf_0 : decode cX1_stateOf 0 = .ok (.aload_n 0, 1) := dk_42 (dk_at dksX1_stateOf_0 0 rfl rfl)
theorem dX1_stateOf_1 : decode cX1_stateOf 1 = .ok (.iload_n 1, 1) := dk_27 (dk_at dksX1_stateOf_0 1 rfl rfl)
theorem dX1_stateOf_2 : decode cX1_stateOf 2 = .ok (.invokevirtual 235, 3) := dk_182 0 235 (dk_at dksX1_stateOf_0 2 rfl rfl)
theorem dX1_stateOf_5 : decode cX1_stateOf 5 = .ok (.getfield 239, 3) := dk_180 0 239 (dk_at dksX1_stateOf_0 5 rfl rfl)
theorem dX1_stateOf_8 : decode cX1_stateOf 8 = .ok (.ireturn, 1) := dk_172 (dk_at dksX1_stateOf_0 8 rfl rfl)
abbrev cX1_envelope : ByteArray := prog_1_method_35_code
def yX1_envelope : MethodName := ⟨RX1, "envelope", "(I)LBallotFoundry$Envelope;"⟩
def dkwX1_envelope_1 : List UInt8 := [27, 185, 0, 52, 2, 0, 192, 0, 196, 176]
abbrev dktX1_envelope_1 : List UInt8 := dkwX1_envelope_1 ++ []
def dkwX1_envelope_0 : List UInt8 := [5, 188, 10, 89, 3, 27, 79, 89, 4, 42, 182, 0, 233, 79, 184, 0, 48, 42, 180, 0, 58, 180, 0, 193]
abbrev dktX1_envelope_0 : List UInt8 := dkwX1_envelope_0 ++ dktX1_envelope_1
theorem dksX1_envelope_0 : cX1_envelope.data.toList.drop 0 = dktX1_envelope_0 := by decide +kernel
theorem dksX1_envelope_1 : cX1_envelope.data.toList.drop 24 = dktX1_envelope_1 := dk_seg dksX1_envelope_0 24 rfl rfl
theorem dX1_envelope_0 : decode cX1_envelope 0 = .ok (.iconst 2, 1) := dk_5 (dk_at dksX1_envelope_0 0 rfl rfl)
theorem dX1_envelope_1 : decode cX1_envelope 1 = .ok (.newarray .int, 2) := dk_188_10 (dk_at dksX1_envelope_0 1 rfl rfl)
theorem dX1_envelope_3 : decode cX1_envelope 3 = .ok (.dup, 1) := dk_89 (dk_at dksX1_envelope_0 3 rfl rfl)
theorem dX1_envelope_4 : decode cX1_envelope 4 = .ok (.iconst 0, 1) := dk_3 (dk_at dksX1_envelope_0 4 rfl rfl)
theorem dX1_envelope_5 : decode cX1_envelope 5 = .ok (.iload_n 1, 1) := dk_27 (dk_at dksX1_envelope_0 5 rfl rfl)
theorem dX1_envelope_6 : decode cX1_envelope 6 = .ok (.iastore, 1) := dk_79 (dk_at dksX1_envelope_0 6 rfl rfl)
theorem dX1_envelope_7 : decode cX1_envelope 7 = .ok (.dup, 1) := dk_89 (dk_at dksX1_envelope_0 7 rfl rfl)
theorem dX1_envelope_8 : decode cX1_envelope 8 = .ok (.iconst 1, 1) := dk_4 (dk_at dksX1_envelope_0 8 rfl rfl)
theorem dX1_envelope_9 : decode cX1_envelope 9 = .ok (.aload_n 0, 1) := dk_42 (dk_at dksX1_envelope_0 9 rfl rfl)
theorem dX1_envelope_10 : decode cX1_envelope 10 = .ok (.invokevirtual 233, 3) := dk_182 0 233 (dk_at dksX1_envelope_0 10 rfl rfl)
theorem dX1_envelope_13 : decode cX1_envelope 13 = .ok (.iastore, 1) := dk_79 (dk_at dksX1_envelope_0 13 rfl rfl)
theorem dX1_envelope_14 : decode cX1_envelope 14 = .ok (.invokestatic 48, 3) := dk_184 0 48 (dk_at dksX1_envelope_0 14 rfl rfl)
theorem dX1_envelope_17 : decode cX1_envelope 17 = .ok (.aload_n 0, 1) := dk_42 (dk_at dksX1_envelope_0 17 rfl rfl)
theorem dX1_envelope_18 : decode cX1_envelope 18 = .ok (.getfield 58, 3) := dk_180 0 58 (dk_at dksX1_envelope_0 18 rfl rfl)
theorem dX1_envelope_21 : decode cX1_envelope 21 = .ok (.getfield 193, 3) := dk_180 0 193 (dk_at dksX1_envelope_0 21 rfl rfl)
theorem dX1_envelope_24 : decode cX1_envelope 24 = .ok (.iload_n 1, 1) := dk_27 (dk_at dksX1_envelope_1 0 rfl rfl)
theorem dX1_envelope_25 : decode cX1_envelope 25 = .ok (.invokeinterface 52 2, 5) := by decide +kernel
theorem dX1_envelope_30 : decode cX1_envelope 30 = .ok (.checkcast 196, 3) := dk_192 0 196 (dk_at dksX1_envelope_1 6 rfl rfl)
theorem dX1_envelope_33 : decode cX1_envelope 33 = .ok (.areturn, 1) := dk_176 (dk_at dksX1_envelope_1 9 rfl rfl)
abbrev cX1_personOf : ByteArray := prog_1_method_37_code
def yX1_personOf : MethodName := ⟨RX1, "personOf", "(I)I"⟩
def dkwX1_personOf_0 : List UInt8 := [42, 27, 182, 0, 235, 180, 0, 242, 180, 0, 178, 172]
abbrev dktX1_personOf_0 : List UInt8 := dkwX1_personOf_0 ++ []
theorem dksX1_personOf_0 : cX1_personOf.data.toList.drop 0 = dktX1_personOf_0 := by decide +kernel
theorem dX1_personOf_0 : decode cX1_personOf 0 = .ok (.aload_n 0, 1) := dk_42 (dk_at dksX1_personOf_0 0 rfl rfl)
theorem dX1_personOf_1 : decode cX1_personOf 1 = .ok (.iload_n 1, 1) := dk_27 (dk_at dksX1_personOf_0 1 rfl rfl)
theorem dX1_personOf_2 : decode cX1_personOf 2 = .ok (.invokevirtual 235, 3) := dk_182 0 235 (dk_at dksX1_personOf_0 2 rfl rfl)
theorem dX1_personOf_5 : decode cX1_personOf 5 = .ok (.getfield 242, 3) := dk_180 0 242 (dk_at dksX1_personOf_0 5 rfl rfl)
theorem dX1_personOf_8 : decode cX1_personOf 8 = .ok (.getfield 178, 3) := dk_180 0 178 (dk_at dksX1_personOf_0 8 rfl rfl)
theorem dX1_personOf_11 : decode cX1_personOf 11 = .ok (.ireturn, 1) := dk_172 (dk_at dksX1_personOf_0 11 rfl rfl)
abbrev cX1_ballots : ByteArray := prog_1_method_38_code
def yX1_ballots : MethodName := ⟨RX1, "ballots", "(I)I"⟩
def dkwX1_ballots_0 : List UInt8 := [42, 27, 182, 0, 185, 180, 0, 212, 185, 0, 42, 1, 0, 172]
abbrev dktX1_ballots_0 : List UInt8 := dkwX1_ballots_0 ++ []
theorem dksX1_ballots_0 : cX1_ballots.data.toList.drop 0 = dktX1_ballots_0 := by decide +kernel
theorem dX1_ballots_0 : decode cX1_ballots 0 = .ok (.aload_n 0, 1) := dk_42 (dk_at dksX1_ballots_0 0 rfl rfl)
theorem dX1_ballots_1 : decode cX1_ballots 1 = .ok (.iload_n 1, 1) := dk_27 (dk_at dksX1_ballots_0 1 rfl rfl)
theorem dX1_ballots_2 : decode cX1_ballots 2 = .ok (.invokevirtual 185, 3) := dk_182 0 185 (dk_at dksX1_ballots_0 2 rfl rfl)
theorem dX1_ballots_5 : decode cX1_ballots 5 = .ok (.getfield 212, 3) := dk_180 0 212 (dk_at dksX1_ballots_0 5 rfl rfl)
theorem dX1_ballots_8 : decode cX1_ballots 8 = .ok (.invokeinterface 42 1, 5) := by decide +kernel
theorem dX1_ballots_13 : decode cX1_ballots 13 = .ok (.ireturn, 1) := dk_172 (dk_at dksX1_ballots_0 13 rfl rfl)
abbrev cX1_setSlip : ByteArray := prog_1_method_39_code
def yX1_setSlip : MethodName := ⟨RX1, "setSlip", "(II)I"⟩
def dkwX1_setSlip_2 : List UInt8 := [180, 0, 23, 27, 28, 79, 29, 172]
abbrev dktX1_setSlip_2 : List UInt8 := dkwX1_setSlip_2 ++ []
def dkwX1_setSlip_1 : List UInt8 := [184, 0, 90, 153, 0, 7, 4, 167, 0, 4, 3, 184, 0, 82, 42, 180, 0, 23, 27, 46, 62, 42]
abbrev dktX1_setSlip_1 : List UInt8 := dkwX1_setSlip_1 ++ dktX1_setSlip_2
def dkwX1_setSlip_0 : List UInt8 := [5, 188, 10, 89, 3, 27, 79, 89, 4, 7, 79, 184, 0, 48, 28, 153, 0, 13, 28, 5, 16, 20]
abbrev dktX1_setSlip_0 : List UInt8 := dkwX1_setSlip_0 ++ dktX1_setSlip_1
theorem dksX1_setSlip_0 : cX1_setSlip.data.toList.drop 0 = dktX1_setSlip_0 := by decide +kernel
theorem dksX1_setSlip_1 : cX1_setSlip.data.toList.drop 22 = dktX1_setSlip_1 := dk_seg dksX1_setSlip_0 22 rfl rfl
theorem dksX1_setSlip_2 : cX1_setSlip.data.toList.drop 44 = dktX1_setSlip_2 := dk_seg dksX1_setSlip_1 22 rfl rfl
theorem dX1_setSlip_0 : decode cX1_setSlip 0 = .ok (.iconst 2, 1) := dk_5 (dk_at dksX1_setSlip_0 0 rfl rfl)
theorem dX1_setSlip_1 : decode cX1_setSlip 1 = .ok (.newarray .int, 2) := dk_188_10 (dk_at dksX1_setSlip_0 1 rfl rfl)
theorem dX1_setSlip_3 : decode cX1_setSlip 3 = .ok (.dup, 1) := dk_89 (dk_at dksX1_setSlip_0 3 rfl rfl)
theorem dX1_setSlip_4 : decode cX1_setSlip 4 = .ok (.iconst 0, 1) := dk_3 (dk_at dksX1_setSlip_0 4 rfl rfl)
theorem dX1_setSlip_5 : decode cX1_setSlip 5 = .ok (.iload_n 1, 1) := dk_27 (dk_at dksX1_setSlip_0 5 rfl rfl)
theorem dX1_setSlip_6 : decode cX1_setSlip 6 = .ok (.iastore, 1) := dk_79 (dk_at dksX1_setSlip_0 6 rfl rfl)
theorem dX1_setSlip_7 : decode cX1_setSlip 7 = .ok (.dup, 1) := dk_89 (dk_at dksX1_setSlip_0 7 rfl rfl)
theorem dX1_setSlip_8 : decode cX1_setSlip 8 = .ok (.iconst 1, 1) := dk_4 (dk_at dksX1_setSlip_0 8 rfl rfl)
theorem dX1_setSlip_9 : decode cX1_setSlip 9 = .ok (.iconst 4, 1) := dk_7 (dk_at dksX1_setSlip_0 9 rfl rfl)
theorem dX1_setSlip_10 : decode cX1_setSlip 10 = .ok (.iastore, 1) := dk_79 (dk_at dksX1_setSlip_0 10 rfl rfl)
theorem dX1_setSlip_11 : decode cX1_setSlip 11 = .ok (.invokestatic 48, 3) := dk_184 0 48 (dk_at dksX1_setSlip_0 11 rfl rfl)
theorem dX1_setSlip_14 : decode cX1_setSlip 14 = .ok (.iload_n 2, 1) := dk_28 (dk_at dksX1_setSlip_0 14 rfl rfl)
theorem dX1_setSlip_15 : decode cX1_setSlip 15 = .ok (.ifCond .eq 13, 3) := dk_153 0 13 (dk_at dksX1_setSlip_0 15 rfl rfl)
theorem dX1_setSlip_18 : decode cX1_setSlip 18 = .ok (.iload_n 2, 1) := dk_28 (dk_at dksX1_setSlip_0 18 rfl rfl)
theorem dX1_setSlip_19 : decode cX1_setSlip 19 = .ok (.iconst 2, 1) := dk_5 (dk_at dksX1_setSlip_0 19 rfl rfl)
theorem dX1_setSlip_20 : decode cX1_setSlip 20 = .ok (.bipush 20, 2) := dk_16 20 (dk_at dksX1_setSlip_0 20 rfl rfl)
theorem dX1_setSlip_22 : decode cX1_setSlip 22 = .ok (.invokestatic 90, 3) := dk_184 0 90 (dk_at dksX1_setSlip_1 0 rfl rfl)
theorem dX1_setSlip_25 : decode cX1_setSlip 25 = .ok (.ifCond .eq 7, 3) := dk_153 0 7 (dk_at dksX1_setSlip_1 3 rfl rfl)
theorem dX1_setSlip_28 : decode cX1_setSlip 28 = .ok (.iconst 1, 1) := dk_4 (dk_at dksX1_setSlip_1 6 rfl rfl)
theorem dX1_setSlip_29 : decode cX1_setSlip 29 = .ok (.goto 4, 3) := dk_167 0 4 (dk_at dksX1_setSlip_1 7 rfl rfl)
theorem dX1_setSlip_32 : decode cX1_setSlip 32 = .ok (.iconst 0, 1) := dk_3 (dk_at dksX1_setSlip_1 10 rfl rfl)
theorem dX1_setSlip_33 : decode cX1_setSlip 33 = .ok (.invokestatic 82, 3) := dk_184 0 82 (dk_at dksX1_setSlip_1 11 rfl rfl)
theorem dX1_setSlip_36 : decode cX1_setSlip 36 = .ok (.aload_n 0, 1) := dk_42 (dk_at dksX1_setSlip_1 14 rfl rfl)
theorem dX1_setSlip_37 : decode cX1_setSlip 37 = .ok (.getfield 23, 3) := dk_180 0 23 (dk_at dksX1_setSlip_1 15 rfl rfl)
theorem dX1_setSlip_40 : decode cX1_setSlip 40 = .ok (.iload_n 1, 1) := dk_27 (dk_at dksX1_setSlip_1 18 rfl rfl)
theorem dX1_setSlip_41 : decode cX1_setSlip 41 = .ok (.iaload, 1) := dk_46 (dk_at dksX1_setSlip_1 19 rfl rfl)
theorem dX1_setSlip_42 : decode cX1_setSlip 42 = .ok (.istore_n 3, 1) := dk_62 (dk_at dksX1_setSlip_1 20 rfl rfl)
theorem dX1_setSlip_43 : decode cX1_setSlip 43 = .ok (.aload_n 0, 1) := dk_42 (dk_at dksX1_setSlip_1 21 rfl rfl)
theorem dX1_setSlip_44 : decode cX1_setSlip 44 = .ok (.getfield 23, 3) := dk_180 0 23 (dk_at dksX1_setSlip_2 0 rfl rfl)
theorem dX1_setSlip_47 : decode cX1_setSlip 47 = .ok (.iload_n 1, 1) := dk_27 (dk_at dksX1_setSlip_2 3 rfl rfl)
theorem dX1_setSlip_48 : decode cX1_setSlip 48 = .ok (.iload_n 2, 1) := dk_28 (dk_at dksX1_setSlip_2 4 rfl rfl)
theorem dX1_setSlip_49 : decode cX1_setSlip 49 = .ok (.iastore, 1) := dk_79 (dk_at dksX1_setSlip_2 5 rfl rfl)
theorem dX1_setSlip_50 : decode cX1_setSlip 50 = .ok (.iload_n 3, 1) := dk_29 (dk_at dksX1_setSlip_2 6 rfl rfl)
theorem dX1_setSlip_51 : decode cX1_setSlip 51 = .ok (.ireturn, 1) := dk_172 (dk_at dksX1_setSlip_2 7 rfl rfl)
abbrev cX1_count : ByteArray := prog_1_method_40_code
def yX1_count : MethodName := ⟨RX1, "count", "(II)Z"⟩
def dkwX1_count_7 : List UInt8 := [181, 0, 170, 45, 180, 0, 246, 198, 0, 7, 4, 167, 0, 4, 3, 172]
abbrev dktX1_count_7 : List UInt8 := dkwX1_count_7 ++ []
def dkwX1_count_6 : List UInt8 := [182, 0, 201, 42, 180, 0, 58, 42, 180, 0, 58, 182, 1, 5, 153, 0, 7, 8, 167, 0, 4, 7]
abbrev dktX1_count_6 : List UInt8 := dkwX1_count_6 ++ dktX1_count_7
def dkwX1_count_5 : List UInt8 := [180, 0, 23, 28, 46, 182, 0, 253, 182, 1, 1, 42, 180, 0, 58, 42, 180, 0, 110, 16, 99, 27]
abbrev dktX1_count_5 : List UInt8 := dkwX1_count_5 ++ dktX1_count_6
def dkwX1_count_4 : List UInt8 := [185, 0, 42, 1, 0, 16, 8, 162, 0, 7, 4, 167, 0, 4, 3, 184, 0, 94, 45, 45, 28, 42]
abbrev dktX1_count_4 : List UInt8 := dkwX1_count_4 ++ dktX1_count_5
def dkwX1_count_3 : List UInt8 := [185, 0, 52, 2, 0, 192, 0, 67, 78, 45, 180, 0, 246, 199, 0, 21, 45, 180, 0, 250]
abbrev dktX1_count_3 : List UInt8 := dkwX1_count_3 ++ dktX1_count_4
def dkwX1_count_2 : List UInt8 := [185, 0, 42, 1, 0, 162, 0, 7, 4, 167, 0, 4, 3, 184, 0, 94, 42, 180, 0, 58, 180, 0, 62, 27]
abbrev dktX1_count_2 : List UInt8 := dkwX1_count_2 ++ dktX1_count_3
def dkwX1_count_1 : List UInt8 := [6, 7, 79, 184, 0, 48, 42, 182, 0, 137, 7, 160, 0, 23, 27, 42, 180, 0, 58, 180, 0, 62]
abbrev dktX1_count_1 : List UInt8 := dkwX1_count_1 ++ dktX1_count_2
def dkwX1_count_0 : List UInt8 := [7, 188, 10, 89, 3, 27, 79, 89, 4, 42, 180, 0, 20, 185, 0, 42, 1, 0, 79, 89, 5, 28, 79, 89]
abbrev dktX1_count_0 : List UInt8 := dkwX1_count_0 ++ dktX1_count_1
theorem dksX1_count_0 : cX1_count.data.toList.drop 0 = dktX1_count_0 := by decide +kernel
theorem dksX1_count_1 : cX1_count.data.toList.drop 24 = dktX1_count_1 := dk_seg dksX1_count_0 24 rfl rfl
theorem dksX1_count_2 : cX1_count.data.toList.drop 46 = dktX1_count_2 := dk_seg dksX1_count_1 22 rfl rfl
theorem dksX1_count_3 : cX1_count.data.toList.drop 70 = dktX1_count_3 := dk_seg dksX1_count_2 24 rfl rfl
theorem dksX1_count_4 : cX1_count.data.toList.drop 90 = dktX1_count_4 := dk_seg dksX1_count_3 20 rfl rfl
theorem dksX1_count_5 : cX1_count.data.toList.drop 112 = dktX1_count_5 := dk_seg dksX1_count_4 22 rfl rfl
theorem dksX1_count_6 : cX1_count.data.toList.drop 134 = dktX1_count_6 := dk_seg dksX1_count_5 22 rfl rfl
theorem dksX1_count_7 : cX1_count.data.toList.drop 156 = dktX1_count_7 := dk_seg dksX1_count_6 22 rfl rfl
theorem dX1_count_0 : decode cX1_count 0 = .ok (.iconst 4, 1) := dk_7 (dk_at dksX1_count_0 0 rfl rfl)
theorem dX1_count_1 : decode cX1_count 1 = .ok (.newarray .int, 2) := dk_188_10 (dk_at dksX1_count_0 1 rfl rfl)
theorem dX1_count_3 : decode cX1_count 3 = .ok (.dup, 1) := dk_89 (dk_at dksX1_count_0 3 rfl rfl)
theorem dX1_count_4 : decode cX1_count 4 = .ok (.iconst 0, 1) := dk_3 (dk_at dksX1_count_0 4 rfl rfl)
theorem dX1_count_5 : decode cX1_count 5 = .ok (.iload_n 1, 1) := dk_27 (dk_at dksX1_count_0 5 rfl rfl)
theorem dX1_count_6 : decode cX1_count 6 = .ok (.iastore, 1) := dk_79 (dk_at dksX1_count_0 6 rfl rfl)
theorem dX1_count_7 : decode cX1_count 7 = .ok (.dup, 1) := dk_89 (dk_at dksX1_count_0 7 rfl rfl)
theorem dX1_count_8 : decode cX1_count 8 = .ok (.iconst 1, 1) := dk_4 (dk_at dksX1_count_0 8 rfl rfl)
theorem dX1_count_9 : decode cX1_count 9 = .ok (.aload_n 0, 1) := dk_42 (dk_at dksX1_count_0 9 rfl rfl)
theorem dX1_count_10 : decode cX1_count 10 = .ok (.getfield 20, 3) := dk_180 0 20 (dk_at dksX1_count_0 10 rfl rfl)
theorem dX1_count_13 : decode cX1_count 13 = .ok (.invokeinterface 42 1, 5) := by decide +kernel
theorem dX1_count_18 : decode cX1_count 18 = .ok (.iastore, 1) := dk_79 (dk_at dksX1_count_0 18 rfl rfl)
theorem dX1_count_19 : decode cX1_count 19 = .ok (.dup, 1) := dk_89 (dk_at dksX1_count_0 19 rfl rfl)
theorem dX1_count_20 : decode cX1_count 20 = .ok (.iconst 2, 1) := dk_5 (dk_at dksX1_count_0 20 rfl rfl)
theorem dX1_count_21 : decode cX1_count 21 = .ok (.iload_n 2, 1) := dk_28 (dk_at dksX1_count_0 21 rfl rfl)
theorem dX1_count_22 : decode cX1_count 22 = .ok (.iastore, 1) := dk_79 (dk_at dksX1_count_0 22 rfl rfl)
theorem dX1_count_23 : decode cX1_count 23 = .ok (.dup, 1) := dk_89 (dk_at dksX1_count_0 23 rfl rfl)
theorem dX1_count_24 : decode cX1_count 24 = .ok (.iconst 3, 1) := dk_6 (dk_at dksX1_count_1 0 rfl rfl)
theorem dX1_count_25 : decode cX1_count 25 = .ok (.iconst 4, 1) := dk_7 (dk_at dksX1_count_1 1 rfl rfl)
theorem dX1_count_26 : decode cX1_count 26 = .ok (.iastore, 1) := dk_79 (dk_at dksX1_count_1 2 rfl rfl)
theorem dX1_count_27 : decode cX1_count 27 = .ok (.invokestatic 48, 3) := dk_184 0 48 (dk_at dksX1_count_1 3 rfl rfl)
theorem dX1_count_30 : decode cX1_count 30 = .ok (.aload_n 0, 1) := dk_42 (dk_at dksX1_count_1 6 rfl rfl)
theorem dX1_count_31 : decode cX1_count 31 = .ok (.invokevirtual 137, 3) := dk_182 0 137 (dk_at dksX1_count_1 7 rfl rfl)
theorem dX1_count_34 : decode cX1_count 34 = .ok (.iconst 4, 1) := dk_7 (dk_at dksX1_count_1 10 rfl rfl)
theorem dX1_count_35 : decode cX1_count 35 = .ok (.if_icmp .ne 23, 3) := dk_160 0 23 (dk_at dksX1_count_1 11 rfl rfl)
theorem dX1_count_38 : decode cX1_count 38 = .ok (.iload_n 1, 1) := dk_27 (dk_at dksX1_count_1 14 rfl rfl)
theorem dX1_count_39 : decode cX1_count 39 = .ok (.aload_n 0, 1) := dk_42 (dk_at dksX1_count_1 15 rfl rfl)
theorem dX1_count_40 : decode cX1_count 40 = .ok (.getfield 58, 3) := dk_180 0 58 (dk_at dksX1_count_1 16 rfl rfl)
theorem dX1_count_43 : decode cX1_count 43 = .ok (.getfield 62, 3) := dk_180 0 62 (dk_at dksX1_count_1 19 rfl rfl)
theorem dX1_count_46 : decode cX1_count 46 = .ok (.invokeinterface 42 1, 5) := by decide +kernel
theorem dX1_count_51 : decode cX1_count 51 = .ok (.if_icmp .ge 7, 3) := dk_162 0 7 (dk_at dksX1_count_2 5 rfl rfl)
theorem dX1_count_54 : decode cX1_count 54 = .ok (.iconst 1, 1) := dk_4 (dk_at dksX1_count_2 8 rfl rfl)
theorem dX1_count_55 : decode cX1_count 55 = .ok (.goto 4, 3) := dk_167 0 4 (dk_at dksX1_count_2 9 rfl rfl)
theorem dX1_count_58 : decode cX1_count 58 = .ok (.iconst 0, 1) := dk_3 (dk_at dksX1_count_2 12 rfl rfl)
theorem dX1_count_59 : decode cX1_count 59 = .ok (.invokestatic 94, 3) := dk_184 0 94 (dk_at dksX1_count_2 13 rfl rfl)
theorem dX1_count_62 : decode cX1_count 62 = .ok (.aload_n 0, 1) := dk_42 (dk_at dksX1_count_2 16 rfl rfl)
theorem dX1_count_63 : decode cX1_count 63 = .ok (.getfield 58, 3) := dk_180 0 58 (dk_at dksX1_count_2 17 rfl rfl)
theorem dX1_count_66 : decode cX1_count 66 = .ok (.getfield 62, 3) := dk_180 0 62 (dk_at dksX1_count_2 20 rfl rfl)
theorem dX1_count_69 : decode cX1_count 69 = .ok (.iload_n 1, 1) := dk_27 (dk_at dksX1_count_2 23 rfl rfl)
theorem dX1_count_70 : decode cX1_count 70 = .ok (.invokeinterface 52 2, 5) := by decide +kernel
theorem dX1_count_75 : decode cX1_count 75 = .ok (.checkcast 67, 3) := dk_192 0 67 (dk_at dksX1_count_3 5 rfl rfl)
theorem dX1_count_78 : decode cX1_count 78 = .ok (.astore_n 3, 1) := dk_78 (dk_at dksX1_count_3 8 rfl rfl)
theorem dX1_count_79 : decode cX1_count 79 = .ok (.aload_n 3, 1) := dk_45 (dk_at dksX1_count_3 9 rfl rfl)
theorem dX1_count_80 : decode cX1_count 80 = .ok (.getfield 246, 3) := dk_180 0 246 (dk_at dksX1_count_3 10 rfl rfl)
theorem dX1_count_83 : decode cX1_count 83 = .ok (.ifnonnull 21, 3) := dk_199 0 21 (dk_at dksX1_count_3 13 rfl rfl)
theorem dX1_count_86 : decode cX1_count 86 = .ok (.aload_n 3, 1) := dk_45 (dk_at dksX1_count_3 16 rfl rfl)
theorem dX1_count_87 : decode cX1_count 87 = .ok (.getfield 250, 3) := dk_180 0 250 (dk_at dksX1_count_3 17 rfl rfl)
theorem dX1_count_90 : decode cX1_count 90 = .ok (.invokeinterface 42 1, 5) := by decide +kernel
theorem dX1_count_95 : decode cX1_count 95 = .ok (.bipush 8, 2) := dk_16 8 (dk_at dksX1_count_4 5 rfl rfl)
theorem dX1_count_97 : decode cX1_count 97 = .ok (.if_icmp .ge 7, 3) := dk_162 0 7 (dk_at dksX1_count_4 7 rfl rfl)
theorem dX1_count_100 : decode cX1_count 100 = .ok (.iconst 1, 1) := dk_4 (dk_at dksX1_count_4 10 rfl rfl)
theorem dX1_count_101 : decode cX1_count 101 = .ok (.goto 4, 3) := dk_167 0 4 (dk_at dksX1_count_4 11 rfl rfl)
theorem dX1_count_104 : decode cX1_count 104 = .ok (.iconst 0, 1) := dk_3 (dk_at dksX1_count_4 14 rfl rfl)
theorem dX1_count_105 : decode cX1_count 105 = .ok (.invokestatic 94, 3) := dk_184 0 94 (dk_at dksX1_count_4 15 rfl rfl)
theorem dX1_count_108 : decode cX1_count 108 = .ok (.aload_n 3, 1) := dk_45 (dk_at dksX1_count_4 18 rfl rfl)
theorem dX1_count_109 : decode cX1_count 109 = .ok (.aload_n 3, 1) := dk_45 (dk_at dksX1_count_4 19 rfl rfl)
theorem dX1_count_110 : decode cX1_count 110 = .ok (.iload_n 2, 1) := dk_28 (dk_at dksX1_count_4 20 rfl rfl)
theorem dX1_count_111 : decode cX1_count 111 = .ok (.aload_n 0, 1) := dk_42 (dk_at dksX1_count_4 21 rfl rfl)
theorem dX1_count_112 : decode cX1_count 112 = .ok (.getfield 23, 3) := dk_180 0 23 (dk_at dksX1_count_5 0 rfl rfl)
theorem dX1_count_115 : decode cX1_count 115 = .ok (.iload_n 2, 1) := dk_28 (dk_at dksX1_count_5 3 rfl rfl)
theorem dX1_count_116 : decode cX1_count 116 = .ok (.iaload, 1) := dk_46 (dk_at dksX1_count_5 4 rfl rfl)
theorem dX1_count_117 : decode cX1_count 117 = .ok (.invokevirtual 253, 3) := dk_182 0 253 (dk_at dksX1_count_5 5 rfl rfl)
theorem dX1_count_120 : decode cX1_count 120 = .ok (.invokevirtual 257, 3) := dk_182 1 1 (dk_at dksX1_count_5 8 rfl rfl)
theorem dX1_count_123 : decode cX1_count 123 = .ok (.aload_n 0, 1) := dk_42 (dk_at dksX1_count_5 11 rfl rfl)
theorem dX1_count_124 : decode cX1_count 124 = .ok (.getfield 58, 3) := dk_180 0 58 (dk_at dksX1_count_5 12 rfl rfl)
theorem dX1_count_127 : decode cX1_count 127 = .ok (.aload_n 0, 1) := dk_42 (dk_at dksX1_count_5 15 rfl rfl)
theorem dX1_count_128 : decode cX1_count 128 = .ok (.getfield 110, 3) := dk_180 0 110 (dk_at dksX1_count_5 16 rfl rfl)
theorem dX1_count_131 : decode cX1_count 131 = .ok (.bipush 99, 2) := dk_16 99 (dk_at dksX1_count_5 19 rfl rfl)
theorem dX1_count_133 : decode cX1_count 133 = .ok (.iload_n 1, 1) := dk_27 (dk_at dksX1_count_5 21 rfl rfl)
theorem dX1_count_134 : decode cX1_count 134 = .ok (.invokevirtual 201, 3) := dk_182 0 201 (dk_at dksX1_count_6 0 rfl rfl)
theorem dX1_count_137 : decode cX1_count 137 = .ok (.aload_n 0, 1) := dk_42 (dk_at dksX1_count_6 3 rfl rfl)
theorem dX1_count_138 : decode cX1_count 138 = .ok (.getfield 58, 3) := dk_180 0 58 (dk_at dksX1_count_6 4 rfl rfl)
theorem dX1_count_141 : decode cX1_count 141 = .ok (.aload_n 0, 1) := dk_42 (dk_at dksX1_count_6 7 rfl rfl)
theorem dX1_count_142 : decode cX1_count 142 = .ok (.getfield 58, 3) := dk_180 0 58 (dk_at dksX1_count_6 8 rfl rfl)
theorem dX1_count_145 : decode cX1_count 145 = .ok (.invokevirtual 261, 3) := dk_182 1 5 (dk_at dksX1_count_6 11 rfl rfl)
theorem dX1_count_148 : decode cX1_count 148 = .ok (.ifCond .eq 7, 3) := dk_153 0 7 (dk_at dksX1_count_6 14 rfl rfl)
theorem dX1_count_151 : decode cX1_count 151 = .ok (.iconst 5, 1) := dk_8 (dk_at dksX1_count_6 17 rfl rfl)
theorem dX1_count_152 : decode cX1_count 152 = .ok (.goto 4, 3) := dk_167 0 4 (dk_at dksX1_count_6 18 rfl rfl)
theorem dX1_count_155 : decode cX1_count 155 = .ok (.iconst 4, 1) := dk_7 (dk_at dksX1_count_6 21 rfl rfl)
theorem dX1_count_156 : decode cX1_count 156 = .ok (.putfield 170, 3) := dk_181 0 170 (dk_at dksX1_count_7 0 rfl rfl)
theorem dX1_count_159 : decode cX1_count 159 = .ok (.aload_n 3, 1) := dk_45 (dk_at dksX1_count_7 3 rfl rfl)
theorem dX1_count_160 : decode cX1_count 160 = .ok (.getfield 246, 3) := dk_180 0 246 (dk_at dksX1_count_7 4 rfl rfl)
theorem dX1_count_163 : decode cX1_count 163 = .ok (.ifnull 7, 3) := dk_198 0 7 (dk_at dksX1_count_7 7 rfl rfl)
theorem dX1_count_166 : decode cX1_count 166 = .ok (.iconst 1, 1) := dk_4 (dk_at dksX1_count_7 10 rfl rfl)
theorem dX1_count_167 : decode cX1_count 167 = .ok (.goto 4, 3) := dk_167 0 4 (dk_at dksX1_count_7 11 rfl rfl)
theorem dX1_count_170 : decode cX1_count 170 = .ok (.iconst 0, 1) := dk_3 (dk_at dksX1_count_7 14 rfl rfl)
theorem dX1_count_171 : decode cX1_count 171 = .ok (.ireturn, 1) := dk_172 (dk_at dksX1_count_7 15 rfl rfl)
abbrev cX1_recount : ByteArray := prog_1_method_41_code
def yX1_recount : MethodName := ⟨RX1, "recount", "(I)I"⟩
def dkwX1_recount_2 : List UInt8 := [172]
abbrev dktX1_recount_2 : List UInt8 := dkwX1_recount_2 ++ []
def dkwX1_recount_1 : List UInt8 := [180, 0, 250, 185, 0, 42, 1, 0, 62, 44, 180, 0, 250, 185, 1, 8, 1, 0, 44, 1, 181, 0, 246, 29]
abbrev dktX1_recount_1 : List UInt8 := dkwX1_recount_1 ++ dktX1_recount_2
def dkwX1_recount_0 : List UInt8 := [42, 27, 182, 0, 185, 77, 42, 182, 0, 137, 7, 160, 0, 7, 4, 167, 0, 4, 3, 184, 0, 94, 44]
abbrev dktX1_recount_0 : List UInt8 := dkwX1_recount_0 ++ dktX1_recount_1
theorem dksX1_recount_0 : cX1_recount.data.toList.drop 0 = dktX1_recount_0 := by decide +kernel
theorem dksX1_recount_1 : cX1_recount.data.toList.drop 23 = dktX1_recount_1 := dk_seg dksX1_recount_0 23 rfl rfl
theorem dksX1_recount_2 : cX1_recount.data.toList.drop 47 = dktX1_recount_2 := dk_seg dksX1_recount_1 24 rfl rfl
theorem dX1_recount_0 : decode cX1_recount 0 = .ok (.aload_n 0, 1) := dk_42 (dk_at dksX1_recount_0 0 rfl rfl)
theorem dX1_recount_1 : decode cX1_recount 1 = .ok (.iload_n 1, 1) := dk_27 (dk_at dksX1_recount_0 1 rfl rfl)
theorem dX1_recount_2 : decode cX1_recount 2 = .ok (.invokevirtual 185, 3) := dk_182 0 185 (dk_at dksX1_recount_0 2 rfl rfl)
theorem dX1_recount_5 : decode cX1_recount 5 = .ok (.astore_n 2, 1) := dk_77 (dk_at dksX1_recount_0 5 rfl rfl)
theorem dX1_recount_6 : decode cX1_recount 6 = .ok (.aload_n 0, 1) := dk_42 (dk_at dksX1_recount_0 6 rfl rfl)
theorem dX1_recount_7 : decode cX1_recount 7 = .ok (.invokevirtual 137, 3) := dk_182 0 137 (dk_at dksX1_recount_0 7 rfl rfl)
theorem dX1_recount_10 : decode cX1_recount 10 = .ok (.iconst 4, 1) := dk_7 (dk_at dksX1_recount_0 10 rfl rfl)
theorem dX1_recount_11 : decode cX1_recount 11 = .ok (.if_icmp .ne 7, 3) := dk_160 0 7 (dk_at dksX1_recount_0 11 rfl rfl)
theorem dX1_recount_14 : decode cX1_recount 14 = .ok (.iconst 1, 1) := dk_4 (dk_at dksX1_recount_0 14 rfl rfl)
theorem dX1_recount_15 : decode cX1_recount 15 = .ok (.goto 4, 3) := dk_167 0 4 (dk_at dksX1_recount_0 15 rfl rfl)
theorem dX1_recount_18 : decode cX1_recount 18 = .ok (.iconst 0, 1) := dk_3 (dk_at dksX1_recount_0 18 rfl rfl)
theorem dX1_recount_19 : decode cX1_recount 19 = .ok (.invokestatic 94, 3) := dk_184 0 94 (dk_at dksX1_recount_0 19 rfl rfl)
theorem dX1_recount_22 : decode cX1_recount 22 = .ok (.aload_n 2, 1) := dk_44 (dk_at dksX1_recount_0 22 rfl rfl)
theorem dX1_recount_23 : decode cX1_recount 23 = .ok (.getfield 250, 3) := dk_180 0 250 (dk_at dksX1_recount_1 0 rfl rfl)
theorem dX1_recount_26 : decode cX1_recount 26 = .ok (.invokeinterface 42 1, 5) := by decide +kernel
theorem dX1_recount_31 : decode cX1_recount 31 = .ok (.istore_n 3, 1) := dk_62 (dk_at dksX1_recount_1 8 rfl rfl)
theorem dX1_recount_32 : decode cX1_recount 32 = .ok (.aload_n 2, 1) := dk_44 (dk_at dksX1_recount_1 9 rfl rfl)
theorem dX1_recount_33 : decode cX1_recount 33 = .ok (.getfield 250, 3) := dk_180 0 250 (dk_at dksX1_recount_1 10 rfl rfl)
theorem dX1_recount_36 : decode cX1_recount 36 = .ok (.invokeinterface 264 1, 5) := by decide +kernel
theorem dX1_recount_41 : decode cX1_recount 41 = .ok (.aload_n 2, 1) := dk_44 (dk_at dksX1_recount_1 18 rfl rfl)
theorem dX1_recount_42 : decode cX1_recount 42 = .ok (.aconst_null, 1) := dk_1 (dk_at dksX1_recount_1 19 rfl rfl)
theorem dX1_recount_43 : decode cX1_recount 43 = .ok (.putfield 246, 3) := dk_181 0 246 (dk_at dksX1_recount_1 20 rfl rfl)
theorem dX1_recount_46 : decode cX1_recount 46 = .ok (.iload_n 3, 1) := dk_29 (dk_at dksX1_recount_1 23 rfl rfl)
theorem dX1_recount_47 : decode cX1_recount 47 = .ok (.ireturn, 1) := dk_172 (dk_at dksX1_recount_2 0 rfl rfl)
abbrev cX1_isSettled : ByteArray := prog_1_method_42_code
def yX1_isSettled : MethodName := ⟨RX1, "isSettled", "(I)Z"⟩
def dkwX1_isSettled_0 : List UInt8 := [42, 27, 182, 0, 185, 180, 0, 246, 198, 0, 7, 4, 167, 0, 4, 3, 172]
abbrev dktX1_isSettled_0 : List UInt8 := dkwX1_isSettled_0 ++ []
theorem dksX1_isSettled_0 : cX1_isSettled.data.toList.drop 0 = dktX1_isSettled_0 := by decide +kernel
theorem dX1_isSettled_0 : decode cX1_isSettled 0 = .ok (.aload_n 0, 1) := dk_42 (dk_at dksX1_isSettled_0 0 rfl rfl)
theorem dX1_isSettled_1 : decode cX1_isSettled 1 = .ok (.iload_n 1, 1) := dk_27 (dk_at dksX1_isSettled_0 1 rfl rfl)
theorem dX1_isSettled_2 : decode cX1_isSettled 2 = .ok (.invokevirtual 185, 3) := dk_182 0 185 (dk_at dksX1_isSettled_0 2 rfl rfl)
theorem dX1_isSettled_5 : decode cX1_isSettled 5 = .ok (.getfield 246, 3) := dk_180 0 246 (dk_at dksX1_isSettled_0 5 rfl rfl)
theorem dX1_isSettled_8 : decode cX1_isSettled 8 = .ok (.ifnull 7, 3) := dk_198 0 7 (dk_at dksX1_isSettled_0 8 rfl rfl)
theorem dX1_isSettled_11 : decode cX1_isSettled 11 = .ok (.iconst 1, 1) := dk_4 (dk_at dksX1_isSettled_0 11 rfl rfl)
theorem dX1_isSettled_12 : decode cX1_isSettled 12 = .ok (.goto 4, 3) := dk_167 0 4 (dk_at dksX1_isSettled_0 12 rfl rfl)
theorem dX1_isSettled_15 : decode cX1_isSettled 15 = .ok (.iconst 0, 1) := dk_3 (dk_at dksX1_isSettled_0 15 rfl rfl)
theorem dX1_isSettled_16 : decode cX1_isSettled 16 = .ok (.ireturn, 1) := dk_172 (dk_at dksX1_isSettled_0 16 rfl rfl)
abbrev cX1_numberOf : ByteArray := prog_1_method_43_code
def yX1_numberOf : MethodName := ⟨RX1, "numberOf", "(II)I"⟩
def dkwX1_numberOf_1 : List UInt8 := [45, 180, 0, 246, 180, 1, 11, 28, 46, 172]
abbrev dktX1_numberOf_1 : List UInt8 := dkwX1_numberOf_1 ++ []
def dkwX1_numberOf_0 : List UInt8 := [42, 27, 182, 0, 185, 78, 28, 184, 0, 189, 184, 0, 82, 45, 180, 0, 246, 199, 0, 7, 2, 167, 0, 12]
abbrev dktX1_numberOf_0 : List UInt8 := dkwX1_numberOf_0 ++ dktX1_numberOf_1
theorem dksX1_numberOf_0 : cX1_numberOf.data.toList.drop 0 = dktX1_numberOf_0 := by decide +kernel
theorem dksX1_numberOf_1 : cX1_numberOf.data.toList.drop 24 = dktX1_numberOf_1 := dk_seg dksX1_numberOf_0 24 rfl rfl
theorem dX1_numberOf_0 : decode cX1_numberOf 0 = .ok (.aload_n 0, 1) := dk_42 (dk_at dksX1_numberOf_0 0 rfl rfl)
theorem dX1_numberOf_1 : decode cX1_numberOf 1 = .ok (.iload_n 1, 1) := dk_27 (dk_at dksX1_numberOf_0 1 rfl rfl)
theorem dX1_numberOf_2 : decode cX1_numberOf 2 = .ok (.invokevirtual 185, 3) := dk_182 0 185 (dk_at dksX1_numberOf_0 2 rfl rfl)
theorem dX1_numberOf_5 : decode cX1_numberOf 5 = .ok (.astore_n 3, 1) := dk_78 (dk_at dksX1_numberOf_0 5 rfl rfl)
theorem dX1_numberOf_6 : decode cX1_numberOf 6 = .ok (.iload_n 2, 1) := dk_28 (dk_at dksX1_numberOf_0 6 rfl rfl)
theorem dX1_numberOf_7 : decode cX1_numberOf 7 = .ok (.invokestatic 189, 3) := dk_184 0 189 (dk_at dksX1_numberOf_0 7 rfl rfl)
theorem dX1_numberOf_10 : decode cX1_numberOf 10 = .ok (.invokestatic 82, 3) := dk_184 0 82 (dk_at dksX1_numberOf_0 10 rfl rfl)
theorem dX1_numberOf_13 : decode cX1_numberOf 13 = .ok (.aload_n 3, 1) := dk_45 (dk_at dksX1_numberOf_0 13 rfl rfl)
theorem dX1_numberOf_14 : decode cX1_numberOf 14 = .ok (.getfield 246, 3) := dk_180 0 246 (dk_at dksX1_numberOf_0 14 rfl rfl)
theorem dX1_numberOf_17 : decode cX1_numberOf 17 = .ok (.ifnonnull 7, 3) := dk_199 0 7 (dk_at dksX1_numberOf_0 17 rfl rfl)
theorem dX1_numberOf_20 : decode cX1_numberOf 20 = .ok (.iconst (-1), 1) := dk_2 (dk_at dksX1_numberOf_0 20 rfl rfl)
theorem dX1_numberOf_21 : decode cX1_numberOf 21 = .ok (.goto 12, 3) := dk_167 0 12 (dk_at dksX1_numberOf_0 21 rfl rfl)
theorem dX1_numberOf_24 : decode cX1_numberOf 24 = .ok (.aload_n 3, 1) := dk_45 (dk_at dksX1_numberOf_1 0 rfl rfl)
theorem dX1_numberOf_25 : decode cX1_numberOf 25 = .ok (.getfield 246, 3) := dk_180 0 246 (dk_at dksX1_numberOf_1 1 rfl rfl)
theorem dX1_numberOf_28 : decode cX1_numberOf 28 = .ok (.getfield 267, 3) := dk_180 1 11 (dk_at dksX1_numberOf_1 4 rfl rfl)
theorem dX1_numberOf_31 : decode cX1_numberOf 31 = .ok (.iload_n 2, 1) := dk_28 (dk_at dksX1_numberOf_1 7 rfl rfl)
theorem dX1_numberOf_32 : decode cX1_numberOf 32 = .ok (.iaload, 1) := dk_46 (dk_at dksX1_numberOf_1 8 rfl rfl)
theorem dX1_numberOf_33 : decode cX1_numberOf 33 = .ok (.ireturn, 1) := dk_172 (dk_at dksX1_numberOf_1 9 rfl rfl)
abbrev cX1_misread : ByteArray := prog_1_method_44_code
def yX1_misread : MethodName := ⟨RX1, "misread", "(I)I"⟩
def dkwX1_misread_3 : List UInt8 := [172]
abbrev dktX1_misread_3 : List UInt8 := dkwX1_misread_3 ++ []
def dkwX1_misread_2 : List UInt8 := [180, 0, 246, 180, 1, 11, 21, 5, 46, 100, 184, 0, 76, 96, 54, 4, 132, 5, 1, 167, 255, 219, 21, 4]
abbrev dktX1_misread_2 : List UInt8 := dkwX1_misread_2 ++ dktX1_misread_3
def dkwX1_misread_1 : List UInt8 := [54, 4, 3, 54, 5, 21, 5, 16, 6, 162, 0, 36, 21, 4, 3, 45, 180, 1, 11, 21, 5, 46, 44]
abbrev dktX1_misread_1 : List UInt8 := dkwX1_misread_1 ++ dktX1_misread_2
def dkwX1_misread_0 : List UInt8 := [42, 27, 182, 0, 185, 77, 44, 180, 0, 246, 199, 0, 5, 2, 172, 44, 3, 3, 182, 0, 253, 78, 3]
abbrev dktX1_misread_0 : List UInt8 := dkwX1_misread_0 ++ dktX1_misread_1
theorem dksX1_misread_0 : cX1_misread.data.toList.drop 0 = dktX1_misread_0 := by decide +kernel
theorem dksX1_misread_1 : cX1_misread.data.toList.drop 23 = dktX1_misread_1 := dk_seg dksX1_misread_0 23 rfl rfl
theorem dksX1_misread_2 : cX1_misread.data.toList.drop 46 = dktX1_misread_2 := dk_seg dksX1_misread_1 23 rfl rfl
theorem dksX1_misread_3 : cX1_misread.data.toList.drop 70 = dktX1_misread_3 := dk_seg dksX1_misread_2 24 rfl rfl
theorem dX1_misread_0 : decode cX1_misread 0 = .ok (.aload_n 0, 1) := dk_42 (dk_at dksX1_misread_0 0 rfl rfl)
theorem dX1_misread_1 : decode cX1_misread 1 = .ok (.iload_n 1, 1) := dk_27 (dk_at dksX1_misread_0 1 rfl rfl)
theorem dX1_misread_2 : decode cX1_misread 2 = .ok (.invokevirtual 185, 3) := dk_182 0 185 (dk_at dksX1_misread_0 2 rfl rfl)
theorem dX1_misread_5 : decode cX1_misread 5 = .ok (.astore_n 2, 1) := dk_77 (dk_at dksX1_misread_0 5 rfl rfl)
theorem dX1_misread_6 : decode cX1_misread 6 = .ok (.aload_n 2, 1) := dk_44 (dk_at dksX1_misread_0 6 rfl rfl)
theorem dX1_misread_7 : decode cX1_misread 7 = .ok (.getfield 246, 3) := dk_180 0 246 (dk_at dksX1_misread_0 7 rfl rfl)
theorem dX1_misread_10 : decode cX1_misread 10 = .ok (.ifnonnull 5, 3) := dk_199 0 5 (dk_at dksX1_misread_0 10 rfl rfl)
theorem dX1_misread_13 : decode cX1_misread 13 = .ok (.iconst (-1), 1) := dk_2 (dk_at dksX1_misread_0 13 rfl rfl)
theorem dX1_misread_14 : decode cX1_misread 14 = .ok (.ireturn, 1) := dk_172 (dk_at dksX1_misread_0 14 rfl rfl)
theorem dX1_misread_15 : decode cX1_misread 15 = .ok (.aload_n 2, 1) := dk_44 (dk_at dksX1_misread_0 15 rfl rfl)
theorem dX1_misread_16 : decode cX1_misread 16 = .ok (.iconst 0, 1) := dk_3 (dk_at dksX1_misread_0 16 rfl rfl)
theorem dX1_misread_17 : decode cX1_misread 17 = .ok (.iconst 0, 1) := dk_3 (dk_at dksX1_misread_0 17 rfl rfl)
theorem dX1_misread_18 : decode cX1_misread 18 = .ok (.invokevirtual 253, 3) := dk_182 0 253 (dk_at dksX1_misread_0 18 rfl rfl)
theorem dX1_misread_21 : decode cX1_misread 21 = .ok (.astore_n 3, 1) := dk_78 (dk_at dksX1_misread_0 21 rfl rfl)
theorem dX1_misread_22 : decode cX1_misread 22 = .ok (.iconst 0, 1) := dk_3 (dk_at dksX1_misread_0 22 rfl rfl)
theorem dX1_misread_23 : decode cX1_misread 23 = .ok (.istore 4, 2) := dk_54 4 (dk_at dksX1_misread_1 0 rfl rfl)
theorem dX1_misread_25 : decode cX1_misread 25 = .ok (.iconst 0, 1) := dk_3 (dk_at dksX1_misread_1 2 rfl rfl)
theorem dX1_misread_26 : decode cX1_misread 26 = .ok (.istore 5, 2) := dk_54 5 (dk_at dksX1_misread_1 3 rfl rfl)
theorem dX1_misread_28 : decode cX1_misread 28 = .ok (.iload 5, 2) := dk_21 5 (dk_at dksX1_misread_1 5 rfl rfl)
theorem dX1_misread_30 : decode cX1_misread 30 = .ok (.bipush 6, 2) := dk_16 6 (dk_at dksX1_misread_1 7 rfl rfl)
theorem dX1_misread_32 : decode cX1_misread 32 = .ok (.if_icmp .ge 36, 3) := dk_162 0 36 (dk_at dksX1_misread_1 9 rfl rfl)
theorem dX1_misread_35 : decode cX1_misread 35 = .ok (.iload 4, 2) := dk_21 4 (dk_at dksX1_misread_1 12 rfl rfl)
theorem dX1_misread_37 : decode cX1_misread 37 = .ok (.iconst 0, 1) := dk_3 (dk_at dksX1_misread_1 14 rfl rfl)
theorem dX1_misread_38 : decode cX1_misread 38 = .ok (.aload_n 3, 1) := dk_45 (dk_at dksX1_misread_1 15 rfl rfl)
theorem dX1_misread_39 : decode cX1_misread 39 = .ok (.getfield 267, 3) := dk_180 1 11 (dk_at dksX1_misread_1 16 rfl rfl)
theorem dX1_misread_42 : decode cX1_misread 42 = .ok (.iload 5, 2) := dk_21 5 (dk_at dksX1_misread_1 19 rfl rfl)
theorem dX1_misread_44 : decode cX1_misread 44 = .ok (.iaload, 1) := dk_46 (dk_at dksX1_misread_1 21 rfl rfl)
theorem dX1_misread_45 : decode cX1_misread 45 = .ok (.aload_n 2, 1) := dk_44 (dk_at dksX1_misread_1 22 rfl rfl)
theorem dX1_misread_46 : decode cX1_misread 46 = .ok (.getfield 246, 3) := dk_180 0 246 (dk_at dksX1_misread_2 0 rfl rfl)
theorem dX1_misread_49 : decode cX1_misread 49 = .ok (.getfield 267, 3) := dk_180 1 11 (dk_at dksX1_misread_2 3 rfl rfl)
theorem dX1_misread_52 : decode cX1_misread 52 = .ok (.iload 5, 2) := dk_21 5 (dk_at dksX1_misread_2 6 rfl rfl)
theorem dX1_misread_54 : decode cX1_misread 54 = .ok (.iaload, 1) := dk_46 (dk_at dksX1_misread_2 8 rfl rfl)
theorem dX1_misread_55 : decode cX1_misread 55 = .ok (.isub, 1) := dk_100 (dk_at dksX1_misread_2 9 rfl rfl)
theorem dX1_misread_56 : decode cX1_misread 56 = .ok (.invokestatic 76, 3) := dk_184 0 76 (dk_at dksX1_misread_2 10 rfl rfl)
theorem dX1_misread_59 : decode cX1_misread 59 = .ok (.iadd, 1) := dk_96 (dk_at dksX1_misread_2 13 rfl rfl)
theorem dX1_misread_60 : decode cX1_misread 60 = .ok (.istore 4, 2) := dk_54 4 (dk_at dksX1_misread_2 14 rfl rfl)
theorem dX1_misread_62 : decode cX1_misread 62 = .ok (.iinc 5 1, 3) := dk_132 5 1 (dk_at dksX1_misread_2 16 rfl rfl)
theorem dX1_misread_65 : decode cX1_misread 65 = .ok (.goto (-37), 3) := dk_167 255 219 (dk_at dksX1_misread_2 19 rfl rfl)
theorem dX1_misread_68 : decode cX1_misread 68 = .ok (.iload 4, 2) := dk_21 4 (dk_at dksX1_misread_2 22 rfl rfl)
theorem dX1_misread_70 : decode cX1_misread 70 = .ok (.ireturn, 1) := dk_172 (dk_at dksX1_misread_3 0 rfl rfl)
abbrev cX1_votes : ByteArray := prog_1_method_46_code
def yX1_votes : MethodName := ⟨RX1, "votes", "(I)I"⟩
def dkwX1_votes_1 : List UInt8 := [167, 0, 9, 44, 180, 1, 25, 27, 46, 172]
abbrev dktX1_votes_1 : List UInt8 := dkwX1_votes_1 ++ []
def dkwX1_votes_0 : List UInt8 := [5, 188, 10, 89, 3, 27, 79, 89, 4, 8, 79, 184, 0, 48, 42, 182, 1, 21, 77, 44, 199, 0, 7, 2]
abbrev dktX1_votes_0 : List UInt8 := dkwX1_votes_0 ++ dktX1_votes_1
theorem dksX1_votes_0 : cX1_votes.data.toList.drop 0 = dktX1_votes_0 := by decide +kernel
theorem dksX1_votes_1 : cX1_votes.data.toList.drop 24 = dktX1_votes_1 := dk_seg dksX1_votes_0 24 rfl rfl
theorem dX1_votes_0 : decode cX1_votes 0 = .ok (.iconst 2, 1) := dk_5 (dk_at dksX1_votes_0 0 rfl rfl)
theorem dX1_votes_1 : decode cX1_votes 1 = .ok (.newarray .int, 2) := dk_188_10 (dk_at dksX1_votes_0 1 rfl rfl)
theorem dX1_votes_3 : decode cX1_votes 3 = .ok (.dup, 1) := dk_89 (dk_at dksX1_votes_0 3 rfl rfl)
theorem dX1_votes_4 : decode cX1_votes 4 = .ok (.iconst 0, 1) := dk_3 (dk_at dksX1_votes_0 4 rfl rfl)
theorem dX1_votes_5 : decode cX1_votes 5 = .ok (.iload_n 1, 1) := dk_27 (dk_at dksX1_votes_0 5 rfl rfl)
theorem dX1_votes_6 : decode cX1_votes 6 = .ok (.iastore, 1) := dk_79 (dk_at dksX1_votes_0 6 rfl rfl)
theorem dX1_votes_7 : decode cX1_votes 7 = .ok (.dup, 1) := dk_89 (dk_at dksX1_votes_0 7 rfl rfl)
theorem dX1_votes_8 : decode cX1_votes 8 = .ok (.iconst 1, 1) := dk_4 (dk_at dksX1_votes_0 8 rfl rfl)
theorem dX1_votes_9 : decode cX1_votes 9 = .ok (.iconst 5, 1) := dk_8 (dk_at dksX1_votes_0 9 rfl rfl)
theorem dX1_votes_10 : decode cX1_votes 10 = .ok (.iastore, 1) := dk_79 (dk_at dksX1_votes_0 10 rfl rfl)
theorem dX1_votes_11 : decode cX1_votes 11 = .ok (.invokestatic 48, 3) := dk_184 0 48 (dk_at dksX1_votes_0 11 rfl rfl)
theorem dX1_votes_14 : decode cX1_votes 14 = .ok (.aload_n 0, 1) := dk_42 (dk_at dksX1_votes_0 14 rfl rfl)
theorem dX1_votes_15 : decode cX1_votes 15 = .ok (.invokevirtual 277, 3) := dk_182 1 21 (dk_at dksX1_votes_0 15 rfl rfl)
theorem dX1_votes_18 : decode cX1_votes 18 = .ok (.astore_n 2, 1) := dk_77 (dk_at dksX1_votes_0 18 rfl rfl)
theorem dX1_votes_19 : decode cX1_votes 19 = .ok (.aload_n 2, 1) := dk_44 (dk_at dksX1_votes_0 19 rfl rfl)
theorem dX1_votes_20 : decode cX1_votes 20 = .ok (.ifnonnull 7, 3) := dk_199 0 7 (dk_at dksX1_votes_0 20 rfl rfl)
theorem dX1_votes_23 : decode cX1_votes 23 = .ok (.iconst (-1), 1) := dk_2 (dk_at dksX1_votes_0 23 rfl rfl)
theorem dX1_votes_24 : decode cX1_votes 24 = .ok (.goto 9, 3) := dk_167 0 9 (dk_at dksX1_votes_1 0 rfl rfl)
theorem dX1_votes_27 : decode cX1_votes 27 = .ok (.aload_n 2, 1) := dk_44 (dk_at dksX1_votes_1 3 rfl rfl)
theorem dX1_votes_28 : decode cX1_votes 28 = .ok (.getfield 281, 3) := dk_180 1 25 (dk_at dksX1_votes_1 4 rfl rfl)
theorem dX1_votes_31 : decode cX1_votes 31 = .ok (.iload_n 1, 1) := dk_27 (dk_at dksX1_votes_1 7 rfl rfl)
theorem dX1_votes_32 : decode cX1_votes 32 = .ok (.iaload, 1) := dk_46 (dk_at dksX1_votes_1 8 rfl rfl)
theorem dX1_votes_33 : decode cX1_votes 33 = .ok (.ireturn, 1) := dk_172 (dk_at dksX1_votes_1 9 rfl rfl)
abbrev cX1_seats : ByteArray := prog_1_method_47_code
def yX1_seats : MethodName := ⟨RX1, "seats", "(I)I"⟩
def dkwX1_seats_1 : List UInt8 := [167, 0, 9, 44, 180, 1, 28, 27, 46, 172]
abbrev dktX1_seats_1 : List UInt8 := dkwX1_seats_1 ++ []
def dkwX1_seats_0 : List UInt8 := [5, 188, 10, 89, 3, 27, 79, 89, 4, 8, 79, 184, 0, 48, 42, 182, 1, 21, 77, 44, 199, 0, 7, 2]
abbrev dktX1_seats_0 : List UInt8 := dkwX1_seats_0 ++ dktX1_seats_1
theorem dksX1_seats_0 : cX1_seats.data.toList.drop 0 = dktX1_seats_0 := by decide +kernel
theorem dksX1_seats_1 : cX1_seats.data.toList.drop 24 = dktX1_seats_1 := dk_seg dksX1_seats_0 24 rfl rfl
theorem dX1_seats_0 : decode cX1_seats 0 = .ok (.iconst 2, 1) := dk_5 (dk_at dksX1_seats_0 0 rfl rfl)
theorem dX1_seats_1 : decode cX1_seats 1 = .ok (.newarray .int, 2) := dk_188_10 (dk_at dksX1_seats_0 1 rfl rfl)
theorem dX1_seats_3 : decode cX1_seats 3 = .ok (.dup, 1) := dk_89 (dk_at dksX1_seats_0 3 rfl rfl)
theorem dX1_seats_4 : decode cX1_seats 4 = .ok (.iconst 0, 1) := dk_3 (dk_at dksX1_seats_0 4 rfl rfl)
theorem dX1_seats_5 : decode cX1_seats 5 = .ok (.iload_n 1, 1) := dk_27 (dk_at dksX1_seats_0 5 rfl rfl)
theorem dX1_seats_6 : decode cX1_seats 6 = .ok (.iastore, 1) := dk_79 (dk_at dksX1_seats_0 6 rfl rfl)
theorem dX1_seats_7 : decode cX1_seats 7 = .ok (.dup, 1) := dk_89 (dk_at dksX1_seats_0 7 rfl rfl)
theorem dX1_seats_8 : decode cX1_seats 8 = .ok (.iconst 1, 1) := dk_4 (dk_at dksX1_seats_0 8 rfl rfl)
theorem dX1_seats_9 : decode cX1_seats 9 = .ok (.iconst 5, 1) := dk_8 (dk_at dksX1_seats_0 9 rfl rfl)
theorem dX1_seats_10 : decode cX1_seats 10 = .ok (.iastore, 1) := dk_79 (dk_at dksX1_seats_0 10 rfl rfl)
theorem dX1_seats_11 : decode cX1_seats 11 = .ok (.invokestatic 48, 3) := dk_184 0 48 (dk_at dksX1_seats_0 11 rfl rfl)
theorem dX1_seats_14 : decode cX1_seats 14 = .ok (.aload_n 0, 1) := dk_42 (dk_at dksX1_seats_0 14 rfl rfl)
theorem dX1_seats_15 : decode cX1_seats 15 = .ok (.invokevirtual 277, 3) := dk_182 1 21 (dk_at dksX1_seats_0 15 rfl rfl)
theorem dX1_seats_18 : decode cX1_seats 18 = .ok (.astore_n 2, 1) := dk_77 (dk_at dksX1_seats_0 18 rfl rfl)
theorem dX1_seats_19 : decode cX1_seats 19 = .ok (.aload_n 2, 1) := dk_44 (dk_at dksX1_seats_0 19 rfl rfl)
theorem dX1_seats_20 : decode cX1_seats 20 = .ok (.ifnonnull 7, 3) := dk_199 0 7 (dk_at dksX1_seats_0 20 rfl rfl)
theorem dX1_seats_23 : decode cX1_seats 23 = .ok (.iconst (-1), 1) := dk_2 (dk_at dksX1_seats_0 23 rfl rfl)
theorem dX1_seats_24 : decode cX1_seats 24 = .ok (.goto 9, 3) := dk_167 0 9 (dk_at dksX1_seats_1 0 rfl rfl)
theorem dX1_seats_27 : decode cX1_seats 27 = .ok (.aload_n 2, 1) := dk_44 (dk_at dksX1_seats_1 3 rfl rfl)
theorem dX1_seats_28 : decode cX1_seats 28 = .ok (.getfield 284, 3) := dk_180 1 28 (dk_at dksX1_seats_1 4 rfl rfl)
theorem dX1_seats_31 : decode cX1_seats 31 = .ok (.iload_n 1, 1) := dk_27 (dk_at dksX1_seats_1 7 rfl rfl)
theorem dX1_seats_32 : decode cX1_seats 32 = .ok (.iaload, 1) := dk_46 (dk_at dksX1_seats_1 8 rfl rfl)
theorem dX1_seats_33 : decode cX1_seats 33 = .ok (.ireturn, 1) := dk_172 (dk_at dksX1_seats_1 9 rfl rfl)
abbrev cX1_seatAt : ByteArray := prog_1_method_48_code
def yX1_seatAt : MethodName := ⟨RX1, "seatAt", "(I)I"⟩
def dkwX1_seatAt_2 : List UInt8 := [27, 46, 172]
abbrev dktX1_seatAt_2 : List UInt8 := dkwX1_seatAt_2 ++ []
def dkwX1_seatAt_1 : List UInt8 := [182, 1, 21, 77, 44, 198, 0, 11, 27, 44, 180, 1, 30, 161, 0, 7, 2, 167, 0, 9, 44, 180, 1, 33]
abbrev dktX1_seatAt_1 : List UInt8 := dkwX1_seatAt_1 ++ dktX1_seatAt_2
def dkwX1_seatAt_0 : List UInt8 := [5, 188, 10, 89, 3, 27, 156, 0, 7, 2, 167, 0, 4, 3, 79, 89, 4, 4, 79, 184, 0, 48, 42]
abbrev dktX1_seatAt_0 : List UInt8 := dkwX1_seatAt_0 ++ dktX1_seatAt_1
theorem dksX1_seatAt_0 : cX1_seatAt.data.toList.drop 0 = dktX1_seatAt_0 := by decide +kernel
theorem dksX1_seatAt_1 : cX1_seatAt.data.toList.drop 23 = dktX1_seatAt_1 := dk_seg dksX1_seatAt_0 23 rfl rfl
theorem dksX1_seatAt_2 : cX1_seatAt.data.toList.drop 47 = dktX1_seatAt_2 := dk_seg dksX1_seatAt_1 24 rfl rfl
theorem dX1_seatAt_0 : decode cX1_seatAt 0 = .ok (.iconst 2, 1) := dk_5 (dk_at dksX1_seatAt_0 0 rfl rfl)
theorem dX1_seatAt_1 : decode cX1_seatAt 1 = .ok (.newarray .int, 2) := dk_188_10 (dk_at dksX1_seatAt_0 1 rfl rfl)
theorem dX1_seatAt_3 : decode cX1_seatAt 3 = .ok (.dup, 1) := dk_89 (dk_at dksX1_seatAt_0 3 rfl rfl)
theorem dX1_seatAt_4 : decode cX1_seatAt 4 = .ok (.iconst 0, 1) := dk_3 (dk_at dksX1_seatAt_0 4 rfl rfl)
theorem dX1_seatAt_5 : decode cX1_seatAt 5 = .ok (.iload_n 1, 1) := dk_27 (dk_at dksX1_seatAt_0 5 rfl rfl)
theorem dX1_seatAt_6 : decode cX1_seatAt 6 = .ok (.ifCond .ge 7, 3) := dk_156 0 7 (dk_at dksX1_seatAt_0 6 rfl rfl)
theorem dX1_seatAt_9 : decode cX1_seatAt 9 = .ok (.iconst (-1), 1) := dk_2 (dk_at dksX1_seatAt_0 9 rfl rfl)
theorem dX1_seatAt_10 : decode cX1_seatAt 10 = .ok (.goto 4, 3) := dk_167 0 4 (dk_at dksX1_seatAt_0 10 rfl rfl)
theorem dX1_seatAt_13 : decode cX1_seatAt 13 = .ok (.iconst 0, 1) := dk_3 (dk_at dksX1_seatAt_0 13 rfl rfl)
theorem dX1_seatAt_14 : decode cX1_seatAt 14 = .ok (.iastore, 1) := dk_79 (dk_at dksX1_seatAt_0 14 rfl rfl)
theorem dX1_seatAt_15 : decode cX1_seatAt 15 = .ok (.dup, 1) := dk_89 (dk_at dksX1_seatAt_0 15 rfl rfl)
theorem dX1_seatAt_16 : decode cX1_seatAt 16 = .ok (.iconst 1, 1) := dk_4 (dk_at dksX1_seatAt_0 16 rfl rfl)
theorem dX1_seatAt_17 : decode cX1_seatAt 17 = .ok (.iconst 1, 1) := dk_4 (dk_at dksX1_seatAt_0 17 rfl rfl)
theorem dX1_seatAt_18 : decode cX1_seatAt 18 = .ok (.iastore, 1) := dk_79 (dk_at dksX1_seatAt_0 18 rfl rfl)
theorem dX1_seatAt_19 : decode cX1_seatAt 19 = .ok (.invokestatic 48, 3) := dk_184 0 48 (dk_at dksX1_seatAt_0 19 rfl rfl)
theorem dX1_seatAt_22 : decode cX1_seatAt 22 = .ok (.aload_n 0, 1) := dk_42 (dk_at dksX1_seatAt_0 22 rfl rfl)
theorem dX1_seatAt_23 : decode cX1_seatAt 23 = .ok (.invokevirtual 277, 3) := dk_182 1 21 (dk_at dksX1_seatAt_1 0 rfl rfl)
theorem dX1_seatAt_26 : decode cX1_seatAt 26 = .ok (.astore_n 2, 1) := dk_77 (dk_at dksX1_seatAt_1 3 rfl rfl)
theorem dX1_seatAt_27 : decode cX1_seatAt 27 = .ok (.aload_n 2, 1) := dk_44 (dk_at dksX1_seatAt_1 4 rfl rfl)
theorem dX1_seatAt_28 : decode cX1_seatAt 28 = .ok (.ifnull 11, 3) := dk_198 0 11 (dk_at dksX1_seatAt_1 5 rfl rfl)
theorem dX1_seatAt_31 : decode cX1_seatAt 31 = .ok (.iload_n 1, 1) := dk_27 (dk_at dksX1_seatAt_1 8 rfl rfl)
theorem dX1_seatAt_32 : decode cX1_seatAt 32 = .ok (.aload_n 2, 1) := dk_44 (dk_at dksX1_seatAt_1 9 rfl rfl)
theorem dX1_seatAt_33 : decode cX1_seatAt 33 = .ok (.getfield 286, 3) := dk_180 1 30 (dk_at dksX1_seatAt_1 10 rfl rfl)
theorem dX1_seatAt_36 : decode cX1_seatAt 36 = .ok (.if_icmp .lt 7, 3) := dk_161 0 7 (dk_at dksX1_seatAt_1 13 rfl rfl)
theorem dX1_seatAt_39 : decode cX1_seatAt 39 = .ok (.iconst (-1), 1) := dk_2 (dk_at dksX1_seatAt_1 16 rfl rfl)
theorem dX1_seatAt_40 : decode cX1_seatAt 40 = .ok (.goto 9, 3) := dk_167 0 9 (dk_at dksX1_seatAt_1 17 rfl rfl)
theorem dX1_seatAt_43 : decode cX1_seatAt 43 = .ok (.aload_n 2, 1) := dk_44 (dk_at dksX1_seatAt_1 20 rfl rfl)
theorem dX1_seatAt_44 : decode cX1_seatAt 44 = .ok (.getfield 289, 3) := dk_180 1 33 (dk_at dksX1_seatAt_1 21 rfl rfl)
theorem dX1_seatAt_47 : decode cX1_seatAt 47 = .ok (.iload_n 1, 1) := dk_27 (dk_at dksX1_seatAt_2 0 rfl rfl)
theorem dX1_seatAt_48 : decode cX1_seatAt 48 = .ok (.iaload, 1) := dk_46 (dk_at dksX1_seatAt_2 1 rfl rfl)
theorem dX1_seatAt_49 : decode cX1_seatAt 49 = .ok (.ireturn, 1) := dk_172 (dk_at dksX1_seatAt_2 2 rfl rfl)
abbrev cX1_seatsByBallots : ByteArray := prog_1_method_50_code
def yX1_seatsByBallots : MethodName := ⟨RX1, "seatsByBallots", "(I)I"⟩
def dkwX1_seatsByBallots_1 : List UInt8 := [167, 0, 20, 187, 1, 16, 89, 42, 180, 0, 58, 4, 183, 1, 18, 180, 1, 28, 27, 46, 172]
abbrev dktX1_seatsByBallots_1 : List UInt8 := dkwX1_seatsByBallots_1 ++ []
def dkwX1_seatsByBallots_0 : List UInt8 := [5, 188, 10, 89, 3, 27, 79, 89, 4, 8, 79, 184, 0, 48, 42, 182, 0, 137, 7, 162, 0, 7, 2]
abbrev dktX1_seatsByBallots_0 : List UInt8 := dkwX1_seatsByBallots_0 ++ dktX1_seatsByBallots_1
theorem dksX1_seatsByBallots_0 : cX1_seatsByBallots.data.toList.drop 0 = dktX1_seatsByBallots_0 := by decide +kernel
theorem dksX1_seatsByBallots_1 : cX1_seatsByBallots.data.toList.drop 23 = dktX1_seatsByBallots_1 := dk_seg dksX1_seatsByBallots_0 23 rfl rfl
theorem dX1_seatsByBallots_0 : decode cX1_seatsByBallots 0 = .ok (.iconst 2, 1) := dk_5 (dk_at dksX1_seatsByBallots_0 0 rfl rfl)
theorem dX1_seatsByBallots_1 : decode cX1_seatsByBallots 1 = .ok (.newarray .int, 2) := dk_188_10 (dk_at dksX1_seatsByBallots_0 1 rfl rfl)
theorem dX1_seatsByBallots_3 : decode cX1_seatsByBallots 3 = .ok (.dup, 1) := dk_89 (dk_at dksX1_seatsByBallots_0 3 rfl rfl)
theorem dX1_seatsByBallots_4 : decode cX1_seatsByBallots 4 = .ok (.iconst 0, 1) := dk_3 (dk_at dksX1_seatsByBallots_0 4 rfl rfl)
theorem dX1_seatsByBallots_5 : decode cX1_seatsByBallots 5 = .ok (.iload_n 1, 1) := dk_27 (dk_at dksX1_seatsByBallots_0 5 rfl rfl)
theorem dX1_seatsByBallots_6 : decode cX1_seatsByBallots 6 = .ok (.iastore, 1) := dk_79 (dk_at dksX1_seatsByBallots_0 6 rfl rfl)
theorem dX1_seatsByBallots_7 : decode cX1_seatsByBallots 7 = .ok (.dup, 1) := dk_89 (dk_at dksX1_seatsByBallots_0 7 rfl rfl)
theorem dX1_seatsByBallots_8 : decode cX1_seatsByBallots 8 = .ok (.iconst 1, 1) := dk_4 (dk_at dksX1_seatsByBallots_0 8 rfl rfl)
theorem dX1_seatsByBallots_9 : decode cX1_seatsByBallots 9 = .ok (.iconst 5, 1) := dk_8 (dk_at dksX1_seatsByBallots_0 9 rfl rfl)
theorem dX1_seatsByBallots_10 : decode cX1_seatsByBallots 10 = .ok (.iastore, 1) := dk_79 (dk_at dksX1_seatsByBallots_0 10 rfl rfl)
theorem dX1_seatsByBallots_11 : decode cX1_seatsByBallots 11 = .ok (.invokestatic 48, 3) := dk_184 0 48 (dk_at dksX1_seatsByBallots_0 11 rfl rfl)
theorem dX1_seatsByBallots_14 : decode cX1_seatsByBallots 14 = .ok (.aload_n 0, 1) := dk_42 (dk_at dksX1_seatsByBallots_0 14 rfl rfl)
theorem dX1_seatsByBallots_15 : decode cX1_seatsByBallots 15 = .ok (.invokevirtual 137, 3) := dk_182 0 137 (dk_at dksX1_seatsByBallots_0 15 rfl rfl)
theorem dX1_seatsByBallots_18 : decode cX1_seatsByBallots 18 = .ok (.iconst 4, 1) := dk_7 (dk_at dksX1_seatsByBallots_0 18 rfl rfl)
theorem dX1_seatsByBallots_19 : decode cX1_seatsByBallots 19 = .ok (.if_icmp .ge 7, 3) := dk_162 0 7 (dk_at dksX1_seatsByBallots_0 19 rfl rfl)
theorem dX1_seatsByBallots_22 : decode cX1_seatsByBallots 22 = .ok (.iconst (-1), 1) := dk_2 (dk_at dksX1_seatsByBallots_0 22 rfl rfl)
theorem dX1_seatsByBallots_23 : decode cX1_seatsByBallots 23 = .ok (.goto 20, 3) := dk_167 0 20 (dk_at dksX1_seatsByBallots_1 0 rfl rfl)
theorem dX1_seatsByBallots_26 : decode cX1_seatsByBallots 26 = .ok (.new 272, 3) := dk_187 1 16 (dk_at dksX1_seatsByBallots_1 3 rfl rfl)
theorem dX1_seatsByBallots_29 : decode cX1_seatsByBallots 29 = .ok (.dup, 1) := dk_89 (dk_at dksX1_seatsByBallots_1 6 rfl rfl)
theorem dX1_seatsByBallots_30 : decode cX1_seatsByBallots 30 = .ok (.aload_n 0, 1) := dk_42 (dk_at dksX1_seatsByBallots_1 7 rfl rfl)
theorem dX1_seatsByBallots_31 : decode cX1_seatsByBallots 31 = .ok (.getfield 58, 3) := dk_180 0 58 (dk_at dksX1_seatsByBallots_1 8 rfl rfl)
theorem dX1_seatsByBallots_34 : decode cX1_seatsByBallots 34 = .ok (.iconst 1, 1) := dk_4 (dk_at dksX1_seatsByBallots_1 11 rfl rfl)
theorem dX1_seatsByBallots_35 : decode cX1_seatsByBallots 35 = .ok (.invokespecial 274, 3) := dk_183 1 18 (dk_at dksX1_seatsByBallots_1 12 rfl rfl)
theorem dX1_seatsByBallots_38 : decode cX1_seatsByBallots 38 = .ok (.getfield 284, 3) := dk_180 1 28 (dk_at dksX1_seatsByBallots_1 15 rfl rfl)
theorem dX1_seatsByBallots_41 : decode cX1_seatsByBallots 41 = .ok (.iload_n 1, 1) := dk_27 (dk_at dksX1_seatsByBallots_1 18 rfl rfl)
theorem dX1_seatsByBallots_42 : decode cX1_seatsByBallots 42 = .ok (.iaload, 1) := dk_46 (dk_at dksX1_seatsByBallots_1 19 rfl rfl)
theorem dX1_seatsByBallots_43 : decode cX1_seatsByBallots 43 = .ok (.ireturn, 1) := dk_172 (dk_at dksX1_seatsByBallots_1 20 rfl rfl)
abbrev cX1_signAt : ByteArray := prog_1_method_52_code
def yX1_signAt : MethodName := ⟨RX1, "signAt", "(II)I"⟩
def dkwX1_signAt_3 : List UInt8 := [182, 1, 56, 167, 0, 4, 2, 172]
abbrev dktX1_signAt_3 : List UInt8 := dkwX1_signAt_3 ++ []
def dkwX1_signAt_2 : List UInt8 := [185, 0, 52, 2, 0, 192, 1, 45, 182, 1, 47, 78, 28, 45, 182, 1, 51, 162, 0, 11, 45, 28]
abbrev dktX1_signAt_2 : List UInt8 := dkwX1_signAt_2 ++ dktX1_signAt_3
def dkwX1_signAt_1 : List UInt8 := [156, 0, 7, 2, 167, 0, 4, 3, 79, 89, 4, 4, 79, 184, 0, 48, 42, 180, 0, 58, 180, 1, 39, 27]
abbrev dktX1_signAt_1 : List UInt8 := dkwX1_signAt_1 ++ dktX1_signAt_2
def dkwX1_signAt_0 : List UInt8 := [5, 188, 10, 89, 3, 27, 79, 89, 4, 42, 182, 1, 42, 79, 184, 0, 48, 5, 188, 10, 89, 3, 28]
abbrev dktX1_signAt_0 : List UInt8 := dkwX1_signAt_0 ++ dktX1_signAt_1
theorem dksX1_signAt_0 : cX1_signAt.data.toList.drop 0 = dktX1_signAt_0 := by decide +kernel
theorem dksX1_signAt_1 : cX1_signAt.data.toList.drop 23 = dktX1_signAt_1 := dk_seg dksX1_signAt_0 23 rfl rfl
theorem dksX1_signAt_2 : cX1_signAt.data.toList.drop 47 = dktX1_signAt_2 := dk_seg dksX1_signAt_1 24 rfl rfl
theorem dksX1_signAt_3 : cX1_signAt.data.toList.drop 69 = dktX1_signAt_3 := dk_seg dksX1_signAt_2 22 rfl rfl
theorem dX1_signAt_0 : decode cX1_signAt 0 = .ok (.iconst 2, 1) := dk_5 (dk_at dksX1_signAt_0 0 rfl rfl)
theorem dX1_signAt_1 : decode cX1_signAt 1 = .ok (.newarray .int, 2) := dk_188_10 (dk_at dksX1_signAt_0 1 rfl rfl)
theorem dX1_signAt_3 : decode cX1_signAt 3 = .ok (.dup, 1) := dk_89 (dk_at dksX1_signAt_0 3 rfl rfl)
theorem dX1_signAt_4 : decode cX1_signAt 4 = .ok (.iconst 0, 1) := dk_3 (dk_at dksX1_signAt_0 4 rfl rfl)
theorem dX1_signAt_5 : decode cX1_signAt 5 = .ok (.iload_n 1, 1) := dk_27 (dk_at dksX1_signAt_0 5 rfl rfl)
theorem dX1_signAt_6 : decode cX1_signAt 6 = .ok (.iastore, 1) := dk_79 (dk_at dksX1_signAt_0 6 rfl rfl)
theorem dX1_signAt_7 : decode cX1_signAt 7 = .ok (.dup, 1) := dk_89 (dk_at dksX1_signAt_0 7 rfl rfl)
theorem dX1_signAt_8 : decode cX1_signAt 8 = .ok (.iconst 1, 1) := dk_4 (dk_at dksX1_signAt_0 8 rfl rfl)
theorem dX1_signAt_9 : decode cX1_signAt 9 = .ok (.aload_n 0, 1) := dk_42 (dk_at dksX1_signAt_0 9 rfl rfl)
theorem dX1_signAt_10 : decode cX1_signAt 10 = .ok (.invokevirtual 298, 3) := dk_182 1 42 (dk_at dksX1_signAt_0 10 rfl rfl)
theorem dX1_signAt_13 : decode cX1_signAt 13 = .ok (.iastore, 1) := dk_79 (dk_at dksX1_signAt_0 13 rfl rfl)
theorem dX1_signAt_14 : decode cX1_signAt 14 = .ok (.invokestatic 48, 3) := dk_184 0 48 (dk_at dksX1_signAt_0 14 rfl rfl)
theorem dX1_signAt_17 : decode cX1_signAt 17 = .ok (.iconst 2, 1) := dk_5 (dk_at dksX1_signAt_0 17 rfl rfl)
theorem dX1_signAt_18 : decode cX1_signAt 18 = .ok (.newarray .int, 2) := dk_188_10 (dk_at dksX1_signAt_0 18 rfl rfl)
theorem dX1_signAt_20 : decode cX1_signAt 20 = .ok (.dup, 1) := dk_89 (dk_at dksX1_signAt_0 20 rfl rfl)
theorem dX1_signAt_21 : decode cX1_signAt 21 = .ok (.iconst 0, 1) := dk_3 (dk_at dksX1_signAt_0 21 rfl rfl)
theorem dX1_signAt_22 : decode cX1_signAt 22 = .ok (.iload_n 2, 1) := dk_28 (dk_at dksX1_signAt_0 22 rfl rfl)
theorem dX1_signAt_23 : decode cX1_signAt 23 = .ok (.ifCond .ge 7, 3) := dk_156 0 7 (dk_at dksX1_signAt_1 0 rfl rfl)
theorem dX1_signAt_26 : decode cX1_signAt 26 = .ok (.iconst (-1), 1) := dk_2 (dk_at dksX1_signAt_1 3 rfl rfl)
theorem dX1_signAt_27 : decode cX1_signAt 27 = .ok (.goto 4, 3) := dk_167 0 4 (dk_at dksX1_signAt_1 4 rfl rfl)
theorem dX1_signAt_30 : decode cX1_signAt 30 = .ok (.iconst 0, 1) := dk_3 (dk_at dksX1_signAt_1 7 rfl rfl)
theorem dX1_signAt_31 : decode cX1_signAt 31 = .ok (.iastore, 1) := dk_79 (dk_at dksX1_signAt_1 8 rfl rfl)
theorem dX1_signAt_32 : decode cX1_signAt 32 = .ok (.dup, 1) := dk_89 (dk_at dksX1_signAt_1 9 rfl rfl)
theorem dX1_signAt_33 : decode cX1_signAt 33 = .ok (.iconst 1, 1) := dk_4 (dk_at dksX1_signAt_1 10 rfl rfl)
theorem dX1_signAt_34 : decode cX1_signAt 34 = .ok (.iconst 1, 1) := dk_4 (dk_at dksX1_signAt_1 11 rfl rfl)
theorem dX1_signAt_35 : decode cX1_signAt 35 = .ok (.iastore, 1) := dk_79 (dk_at dksX1_signAt_1 12 rfl rfl)
theorem dX1_signAt_36 : decode cX1_signAt 36 = .ok (.invokestatic 48, 3) := dk_184 0 48 (dk_at dksX1_signAt_1 13 rfl rfl)
theorem dX1_signAt_39 : decode cX1_signAt 39 = .ok (.aload_n 0, 1) := dk_42 (dk_at dksX1_signAt_1 16 rfl rfl)
theorem dX1_signAt_40 : decode cX1_signAt 40 = .ok (.getfield 58, 3) := dk_180 0 58 (dk_at dksX1_signAt_1 17 rfl rfl)
theorem dX1_signAt_43 : decode cX1_signAt 43 = .ok (.getfield 295, 3) := dk_180 1 39 (dk_at dksX1_signAt_1 20 rfl rfl)
theorem dX1_signAt_46 : decode cX1_signAt 46 = .ok (.iload_n 1, 1) := dk_27 (dk_at dksX1_signAt_1 23 rfl rfl)
theorem dX1_signAt_47 : decode cX1_signAt 47 = .ok (.invokeinterface 52 2, 5) := by decide +kernel
theorem dX1_signAt_52 : decode cX1_signAt 52 = .ok (.checkcast 301, 3) := dk_192 1 45 (dk_at dksX1_signAt_2 5 rfl rfl)
theorem dX1_signAt_55 : decode cX1_signAt 55 = .ok (.invokevirtual 303, 3) := dk_182 1 47 (dk_at dksX1_signAt_2 8 rfl rfl)
theorem dX1_signAt_58 : decode cX1_signAt 58 = .ok (.astore_n 3, 1) := dk_78 (dk_at dksX1_signAt_2 11 rfl rfl)
theorem dX1_signAt_59 : decode cX1_signAt 59 = .ok (.iload_n 2, 1) := dk_28 (dk_at dksX1_signAt_2 12 rfl rfl)
theorem dX1_signAt_60 : decode cX1_signAt 60 = .ok (.aload_n 3, 1) := dk_45 (dk_at dksX1_signAt_2 13 rfl rfl)
theorem dX1_signAt_61 : decode cX1_signAt 61 = .ok (.invokevirtual 307, 3) := dk_182 1 51 (dk_at dksX1_signAt_2 14 rfl rfl)
theorem dX1_signAt_64 : decode cX1_signAt 64 = .ok (.if_icmp .ge 11, 3) := dk_162 0 11 (dk_at dksX1_signAt_2 17 rfl rfl)
theorem dX1_signAt_67 : decode cX1_signAt 67 = .ok (.aload_n 3, 1) := dk_45 (dk_at dksX1_signAt_2 20 rfl rfl)
theorem dX1_signAt_68 : decode cX1_signAt 68 = .ok (.iload_n 2, 1) := dk_28 (dk_at dksX1_signAt_2 21 rfl rfl)
theorem dX1_signAt_69 : decode cX1_signAt 69 = .ok (.invokevirtual 312, 3) := dk_182 1 56 (dk_at dksX1_signAt_3 0 rfl rfl)
theorem dX1_signAt_72 : decode cX1_signAt 72 = .ok (.goto 4, 3) := dk_167 0 4 (dk_at dksX1_signAt_3 3 rfl rfl)
theorem dX1_signAt_75 : decode cX1_signAt 75 = .ok (.iconst (-1), 1) := dk_2 (dk_at dksX1_signAt_3 6 rfl rfl)
theorem dX1_signAt_76 : decode cX1_signAt 76 = .ok (.ireturn, 1) := dk_172 (dk_at dksX1_signAt_3 7 rfl rfl)
theorem q44 : (Jvm.Cond.initialized "BallotFoundry") ∈ lw_all := lw_g (lw_at lw_m1 1 rfl) rfl
theorem q82 : (Jvm.Cond.instantiable "BallotFoundry" (8 : Nat)) ∈ lw_all := lw_g (lw_at lw_m1 39 rfl) rfl
theorem q84 : (Jvm.Cond.instanceMethod ({ cls := "BallotFoundry", name := "<init>", desc := "()V" } : Jvm.MethodName)) ∈ lw_all := lw_g (lw_at lw_m1 41 rfl) rfl
theorem q85 : (Jvm.Cond.code ({ cls := "BallotFoundry", name := "<init>", desc := "()V" } : Jvm.MethodName) prog_1_method_1_code (1 : Nat) (Option.none : Option Jvm.ClassFile.FieldType)) ∈ lw_all := lw_g (lw_at lw_m1 42 rfl) rfl
theorem q86 : (Jvm.Cond.methodLink "BallotFoundry" (1 : Nat) ({ cls := "java/lang/Object", name := "<init>", desc := "()V" } : Jvm.MethodName)) ∈ lw_all := lw_g (lw_at lw_m1 43 rfl) rfl
theorem q89 : (Jvm.Cond.classLink "BallotFoundry" (13 : Nat) "java/util/ArrayList") ∈ lw_all := lw_g (lw_at lw_m1 46 rfl) rfl
theorem q91 : (Jvm.Cond.methodLink "BallotFoundry" (15 : Nat) ({ cls := "java/util/ArrayList", name := "<init>", desc := "()V" } : Jvm.MethodName)) ∈ lw_all := lw_g (lw_at lw_m1 48 rfl) rfl
theorem q116 : (Jvm.Cond.fieldLink "BallotFoundry" (9 : Nat) "BallotFoundry" "isBarred" "[Z") ∈ lw_all := lw_g (lw_at lw_m1 73 rfl) rfl
theorem q117 : (Jvm.Cond.fieldLink "BallotFoundry" (16 : Nat) "BallotFoundry" "people" "Ljava/util/List;") ∈ lw_all := lw_g (lw_at lw_m1 74 rfl) rfl
theorem q118 : (Jvm.Cond.fieldLink "BallotFoundry" (20 : Nat) "BallotFoundry" "stations" "Ljava/util/List;") ∈ lw_all := lw_g (lw_at lw_m1 75 rfl) rfl
theorem q119 : (Jvm.Cond.fieldLink "BallotFoundry" (23 : Nat) "BallotFoundry" "slips" "[I") ∈ lw_all := lw_g (lw_at lw_m1 76 rfl) rfl
theorem q120 : (Jvm.Cond.fieldLink "BallotFoundry" (58 : Nat) "BallotFoundry" "election" "LBallotFoundry$Election;") ∈ lw_all := lw_g (lw_at lw_m1 77 rfl) rfl
theorem q121 : (Jvm.Cond.fieldLink "BallotFoundry" (110 : Nat) "BallotFoundry" "today" "I") ∈ lw_all := lw_g (lw_at lw_m1 78 rfl) rfl
theorem q122 : (Jvm.Cond.fieldLink "BallotFoundry" (27 : Nat) "BallotFoundry" "ways" "[I") ∈ lw_all := lw_g (lw_at lw_m1 79 rfl) rfl
theorem q123 : (Jvm.Cond.fieldLink "BallotFoundry" (30 : Nat) "BallotFoundry" "reached" "[I") ∈ lw_all := lw_g (lw_at lw_m1 80 rfl) rfl
theorem q124 : (Jvm.Cond.laysFinal "BallotFoundry" "BallotFoundry" "isBarred" "[Z") ∈ lw_all := lw_g (lw_at lw_m1 81 rfl) rfl
theorem q125 : (Jvm.Cond.soleField "BallotFoundry" "isBarred") ∈ lw_all := lw_g (lw_at lw_m1 82 rfl) rfl
theorem q126 : (Jvm.Cond.laysFinal "BallotFoundry" "BallotFoundry" "people" "Ljava/util/List;") ∈ lw_all := lw_g (lw_at lw_m1 83 rfl) rfl
theorem q127 : (Jvm.Cond.soleField "BallotFoundry" "people") ∈ lw_all := lw_g (lw_at lw_m1 84 rfl) rfl
theorem q128 : (Jvm.Cond.laysFinal "BallotFoundry" "BallotFoundry" "stations" "Ljava/util/List;") ∈ lw_all := lw_g (lw_at lw_m1 85 rfl) rfl
theorem q129 : (Jvm.Cond.soleField "BallotFoundry" "stations") ∈ lw_all := lw_g (lw_at lw_m1 86 rfl) rfl
theorem q130 : (Jvm.Cond.laysFinal "BallotFoundry" "BallotFoundry" "slips" "[I") ∈ lw_all := lw_g (lw_at lw_m1 87 rfl) rfl
theorem q131 : (Jvm.Cond.soleField "BallotFoundry" "slips") ∈ lw_all := lw_g (lw_at lw_m1 88 rfl) rfl
theorem q132 : (Jvm.Cond.lays "BallotFoundry" "BallotFoundry" "election" "LBallotFoundry$Election;") ∈ lw_all := lw_g (lw_at lw_m1 89 rfl) rfl
theorem q133 : (Jvm.Cond.soleField "BallotFoundry" "election") ∈ lw_all := lw_g (lw_at lw_m1 90 rfl) rfl
theorem q134 : (Jvm.Cond.lays "BallotFoundry" "BallotFoundry" "today" "I") ∈ lw_all := lw_g (lw_at lw_m1 91 rfl) rfl
theorem q135 : (Jvm.Cond.soleField "BallotFoundry" "today") ∈ lw_all := lw_g (lw_at lw_m1 92 rfl) rfl
theorem q136 : (Jvm.Cond.laysFinal "BallotFoundry" "BallotFoundry" "ways" "[I") ∈ lw_all := lw_g (lw_at lw_m1 93 rfl) rfl
theorem q137 : (Jvm.Cond.soleField "BallotFoundry" "ways") ∈ lw_all := lw_g (lw_at lw_m1 94 rfl) rfl
theorem q138 : (Jvm.Cond.laysFinal "BallotFoundry" "BallotFoundry" "reached" "[I") ∈ lw_all := lw_g (lw_at lw_m1 95 rfl) rfl
theorem q139 : (Jvm.Cond.soleField "BallotFoundry" "reached") ∈ lw_all := lw_g (lw_at lw_m1 96 rfl) rfl
theorem q140 : (Jvm.Cond.superclass "BallotFoundry" "java/lang/Object") ∈ lw_all := lw_g (lw_at lw_m1 97 rfl) rfl
theorem q143 : (Jvm.Cond.instanceMethod ({ cls := "BallotFoundry", name := "today", desc := "()I" } : Jvm.MethodName)) ∈ lw_all := lw_g (lw_at lw_m1 100 rfl) rfl
theorem q144 : (Jvm.Cond.selects "BallotFoundry" ({ cls := "BallotFoundry", name := "today", desc := "()I" } : Jvm.MethodName) ({ cls := "BallotFoundry", name := "today", desc := "()I" } : Jvm.MethodName)) ∈ lw_all := lw_g (lw_at lw_m1 101 rfl) rfl
theorem q145 : (Jvm.Cond.code ({ cls := "BallotFoundry", name := "today", desc := "()I" } : Jvm.MethodName) prog_1_method_24_code (1 : Nat) (Option.some Jvm.ClassFile.FieldType.int)) ∈ lw_all := lw_g (lw_at lw_m1 102 rfl) rfl
theorem q147 : (Jvm.Cond.instanceMethod ({ cls := "BallotFoundry", name := "stage", desc := "()I" } : Jvm.MethodName)) ∈ lw_all := lw_g (lw_at lw_m1 104 rfl) rfl
theorem q148 : (Jvm.Cond.selects "BallotFoundry" ({ cls := "BallotFoundry", name := "stage", desc := "()I" } : Jvm.MethodName) ({ cls := "BallotFoundry", name := "stage", desc := "()I" } : Jvm.MethodName)) ∈ lw_all := lw_g (lw_at lw_m1 105 rfl) rfl
theorem q149 : (Jvm.Cond.code ({ cls := "BallotFoundry", name := "stage", desc := "()I" } : Jvm.MethodName) prog_1_method_25_code (1 : Nat) (Option.some Jvm.ClassFile.FieldType.int)) ∈ lw_all := lw_g (lw_at lw_m1 106 rfl) rfl
theorem q151 : (Jvm.Cond.instanceMethod ({ cls := "BallotFoundry", name := "envelopes", desc := "()I" } : Jvm.MethodName)) ∈ lw_all := lw_g (lw_at lw_m1 108 rfl) rfl
theorem q152 : (Jvm.Cond.selects "BallotFoundry" ({ cls := "BallotFoundry", name := "envelopes", desc := "()I" } : Jvm.MethodName) ({ cls := "BallotFoundry", name := "envelopes", desc := "()I" } : Jvm.MethodName)) ∈ lw_all := lw_g (lw_at lw_m1 109 rfl) rfl
theorem q153 : (Jvm.Cond.code ({ cls := "BallotFoundry", name := "envelopes", desc := "()I" } : Jvm.MethodName) prog_1_method_34_code (1 : Nat) (Option.some Jvm.ClassFile.FieldType.int)) ∈ lw_all := lw_g (lw_at lw_m1 110 rfl) rfl
theorem q154 : (Jvm.Cond.interfaceEntry "BallotFoundry" (42 : Nat)) ∈ lw_tbl := lw_at lw_m1 111 rfl
theorem q155 : (Jvm.Cond.methodLink "BallotFoundry" (42 : Nat) ({ cls := "java/util/List", name := "size", desc := "()I" } : Jvm.MethodName)) ∈ lw_all := lw_g (lw_at lw_m1 112 rfl) rfl
theorem q165 : (Jvm.Cond.instanceMethod ({ cls := "BallotFoundry", name := "lots", desc := "()I" } : Jvm.MethodName)) ∈ lw_all := lw_g (lw_at lw_m1 122 rfl) rfl
theorem q166 : (Jvm.Cond.selects "BallotFoundry" ({ cls := "BallotFoundry", name := "lots", desc := "()I" } : Jvm.MethodName) ({ cls := "BallotFoundry", name := "lots", desc := "()I" } : Jvm.MethodName)) ∈ lw_all := lw_g (lw_at lw_m1 123 rfl) rfl
theorem q167 : (Jvm.Cond.code ({ cls := "BallotFoundry", name := "lots", desc := "()I" } : Jvm.MethodName) prog_1_method_49_code (2 : Nat) (Option.some Jvm.ClassFile.FieldType.int)) ∈ lw_all := lw_g (lw_at lw_m1 124 rfl) rfl
theorem q168 : (Jvm.Cond.methodLink "BallotFoundry" (277 : Nat) ({ cls := "BallotFoundry", name := "house", desc := "()LBallotFoundry$House;" } : Jvm.MethodName)) ∈ lw_all := lw_g (lw_at lw_m1 125 rfl) rfl
theorem q169 : (Jvm.Cond.privateMethod ({ cls := "BallotFoundry", name := "house", desc := "()LBallotFoundry$House;" } : Jvm.MethodName)) ∈ lw_tbl := lw_at lw_m1 126 rfl
theorem q170 : (Jvm.Cond.instanceMethod ({ cls := "BallotFoundry", name := "house", desc := "()LBallotFoundry$House;" } : Jvm.MethodName)) ∈ lw_all := lw_g (lw_at lw_m1 127 rfl) rfl
theorem q171 : (Jvm.Cond.code ({ cls := "BallotFoundry", name := "house", desc := "()LBallotFoundry$House;" } : Jvm.MethodName) prog_1_method_45_code (1 : Nat) (Option.some (Jvm.ClassFile.FieldType.object "BallotFoundry$House"))) ∈ lw_all := lw_g (lw_at lw_m1 128 rfl) rfl
theorem q172 : (Jvm.Cond.methodLink "BallotFoundry" (137 : Nat) ({ cls := "BallotFoundry", name := "stage", desc := "()I" } : Jvm.MethodName)) ∈ lw_all := lw_g (lw_at lw_m1 129 rfl) rfl
theorem q173 : (Jvm.Cond.classLink "BallotFoundry" (272 : Nat) "BallotFoundry$House") ∈ lw_all := lw_g (lw_at lw_m1 130 rfl) rfl
theorem q175 : (Jvm.Cond.methodLink "BallotFoundry" (274 : Nat) ({ cls := "BallotFoundry$House", name := "<init>", desc := "(LBallotFoundry$Election;Z)V" } : Jvm.MethodName)) ∈ lw_all := lw_g (lw_at lw_m1 132 rfl) rfl
theorem q215 : (Jvm.Cond.fieldLink "BallotFoundry" (267 : Nat) "BallotFoundry$Count" "numbers" "[I") ∈ lw_all := lw_g (lw_at lw_m1 172 rfl) rfl
theorem q224 : (Jvm.Cond.laysStatic "BallotFoundry" "SLIPPED" "[I") ∈ lw_tbl := lw_at lw_m1 181 rfl
theorem q258 : (Jvm.Cond.fieldLinkNest "BallotFoundry" (281 : Nat) "BallotFoundry$House" "votes" "[I" "BallotFoundry") ∈ lw_tbl := lw_at lw_m1 215 rfl
theorem q260 : (Jvm.Cond.fieldLinkNest "BallotFoundry" (284 : Nat) "BallotFoundry$House" "seats" "[I" "BallotFoundry") ∈ lw_tbl := lw_at lw_m1 217 rfl
theorem q262 : (Jvm.Cond.fieldLinkNest "BallotFoundry" (289 : Nat) "BallotFoundry$House" "given" "[I" "BallotFoundry") ∈ lw_tbl := lw_at lw_m1 219 rfl
theorem q264 : (Jvm.Cond.fieldLinkNest "BallotFoundry" (286 : Nat) "BallotFoundry$House" "many" "I" "BallotFoundry") ∈ lw_tbl := lw_at lw_m1 221 rfl
theorem q266 : (Jvm.Cond.fieldLinkNest "BallotFoundry" (292 : Nat) "BallotFoundry$House" "lots" "I" "BallotFoundry") ∈ lw_tbl := lw_at lw_m1 223 rfl
theorem q282 : (Jvm.Cond.instanceMethod ({ cls := "BallotFoundry", name := "notes", desc := "()I" } : Jvm.MethodName)) ∈ lw_all := lw_g (lw_at lw_m1 239 rfl) rfl
theorem q283 : (Jvm.Cond.selects "BallotFoundry" ({ cls := "BallotFoundry", name := "notes", desc := "()I" } : Jvm.MethodName) ({ cls := "BallotFoundry", name := "notes", desc := "()I" } : Jvm.MethodName)) ∈ lw_all := lw_g (lw_at lw_m2 0 rfl) rfl
theorem q284 : (Jvm.Cond.code ({ cls := "BallotFoundry", name := "notes", desc := "()I" } : Jvm.MethodName) prog_1_method_51_code (1 : Nat) (Option.some Jvm.ClassFile.FieldType.int)) ∈ lw_all := lw_g (lw_at lw_m2 1 rfl) rfl
theorem q367 : (Jvm.Cond.instanceMethod ({ cls := "BallotFoundry", name := "bar", desc := "(IIZ)Z" } : Jvm.MethodName)) ∈ lw_all := lw_g (lw_at lw_m2 84 rfl) rfl
theorem q368 : (Jvm.Cond.selects "BallotFoundry" ({ cls := "BallotFoundry", name := "bar", desc := "(IIZ)Z" } : Jvm.MethodName) ({ cls := "BallotFoundry", name := "bar", desc := "(IIZ)Z" } : Jvm.MethodName)) ∈ lw_all := lw_g (lw_at lw_m2 85 rfl) rfl
theorem q369 : (Jvm.Cond.code ({ cls := "BallotFoundry", name := "bar", desc := "(IIZ)Z" } : Jvm.MethodName) prog_1_method_9_code (6 : Nat) (Option.some Jvm.ClassFile.FieldType.boolean)) ∈ lw_all := lw_g (lw_at lw_m2 86 rfl) rfl
theorem q370 : (Jvm.Cond.methodLink "BallotFoundry" (48 : Nat) ({ cls := "BallotFoundry", name := "exist", desc := "([I)V" } : Jvm.MethodName)) ∈ lw_all := lw_g (lw_at lw_m2 87 rfl) rfl
theorem q371 : (Jvm.Cond.static ({ cls := "BallotFoundry", name := "exist", desc := "([I)V" } : Jvm.MethodName)) ∈ lw_all := lw_g (lw_at lw_m2 88 rfl) rfl
theorem q372 : (Jvm.Cond.code ({ cls := "BallotFoundry", name := "exist", desc := "([I)V" } : Jvm.MethodName) prog_1_method_4_code (2 : Nat) (Option.none : Option Jvm.ClassFile.FieldType)) ∈ lw_all := lw_g (lw_at lw_m2 89 rfl) rfl
theorem q373 : (Jvm.Cond.classLink "BallotFoundry" (39 : Nat) "java/lang/IndexOutOfBoundsException") ∈ lw_all := lw_g (lw_at lw_m2 90 rfl) rfl
theorem q382 : (Jvm.Cond.methodLink "BallotFoundry" (41 : Nat) ({ cls := "java/lang/IndexOutOfBoundsException", name := "<init>", desc := "()V" } : Jvm.MethodName)) ∈ lw_all := lw_g (lw_at lw_m2 99 rfl) rfl
theorem q394 : (Jvm.Cond.methodLink "BallotFoundry" (79 : Nat) ({ cls := "BallotFoundry", name := "street", desc := "(II)I" } : Jvm.MethodName)) ∈ lw_all := lw_g (lw_at lw_m2 111 rfl) rfl
theorem q395 : (Jvm.Cond.static ({ cls := "BallotFoundry", name := "street", desc := "(II)I" } : Jvm.MethodName)) ∈ lw_all := lw_g (lw_at lw_m2 112 rfl) rfl
theorem q396 : (Jvm.Cond.code ({ cls := "BallotFoundry", name := "street", desc := "(II)I" } : Jvm.MethodName) prog_1_method_8_code (4 : Nat) (Option.some Jvm.ClassFile.FieldType.int)) ∈ lw_all := lw_g (lw_at lw_m2 113 rfl) rfl
theorem q397 : (Jvm.Cond.methodLink "BallotFoundry" (70 : Nat) ({ cls := "java/lang/Math", name := "min", desc := "(II)I" } : Jvm.MethodName)) ∈ lw_all := lw_g (lw_at lw_m2 114 rfl) rfl
theorem q400 : (Jvm.Cond.methodLink "BallotFoundry" (76 : Nat) ({ cls := "java/lang/Math", name := "max", desc := "(II)I" } : Jvm.MethodName)) ∈ lw_all := lw_g (lw_at lw_m2 117 rfl) rfl
theorem q403 : (Jvm.Cond.methodLink "BallotFoundry" (82 : Nat) ({ cls := "BallotFoundry", name := "want", desc := "(Z)V" } : Jvm.MethodName)) ∈ lw_all := lw_g (lw_at lw_m2 120 rfl) rfl
theorem q404 : (Jvm.Cond.static ({ cls := "BallotFoundry", name := "want", desc := "(Z)V" } : Jvm.MethodName)) ∈ lw_all := lw_g (lw_at lw_m2 121 rfl) rfl
theorem q405 : (Jvm.Cond.code ({ cls := "BallotFoundry", name := "want", desc := "(Z)V" } : Jvm.MethodName) prog_1_method_2_code (1 : Nat) (Option.none : Option Jvm.ClassFile.FieldType)) ∈ lw_all := lw_g (lw_at lw_m2 122 rfl) rfl
theorem q406 : (Jvm.Cond.classLink "BallotFoundry" (33 : Nat) "java/lang/IllegalArgumentException") ∈ lw_all := lw_g (lw_at lw_m2 123 rfl) rfl
theorem q415 : (Jvm.Cond.methodLink "BallotFoundry" (35 : Nat) ({ cls := "java/lang/IllegalArgumentException", name := "<init>", desc := "()V" } : Jvm.MethodName)) ∈ lw_all := lw_g (lw_at lw_m2 132 rfl) rfl
theorem q425 : (Jvm.Cond.instanceMethod ({ cls := "BallotFoundry", name := "way", desc := "(II)I" } : Jvm.MethodName)) ∈ lw_all := lw_g (lw_at lw_m2 142 rfl) rfl
theorem q426 : (Jvm.Cond.selects "BallotFoundry" ({ cls := "BallotFoundry", name := "way", desc := "(II)I" } : Jvm.MethodName) ({ cls := "BallotFoundry", name := "way", desc := "(II)I" } : Jvm.MethodName)) ∈ lw_all := lw_g (lw_at lw_m2 143 rfl) rfl
theorem q427 : (Jvm.Cond.code ({ cls := "BallotFoundry", name := "way", desc := "(II)I" } : Jvm.MethodName) prog_1_method_11_code (3 : Nat) (Option.some Jvm.ClassFile.FieldType.int)) ∈ lw_all := lw_g (lw_at lw_m2 144 rfl) rfl
theorem q428 : (Jvm.Cond.methodLink "BallotFoundry" (86 : Nat) ({ cls := "BallotFoundry", name := "walkFrom", desc := "(I)V" } : Jvm.MethodName)) ∈ lw_all := lw_g (lw_at lw_m2 145 rfl) rfl
theorem q429 : (Jvm.Cond.privateMethod ({ cls := "BallotFoundry", name := "walkFrom", desc := "(I)V" } : Jvm.MethodName)) ∈ lw_tbl := lw_at lw_m2 146 rfl
theorem q430 : (Jvm.Cond.instanceMethod ({ cls := "BallotFoundry", name := "walkFrom", desc := "(I)V" } : Jvm.MethodName)) ∈ lw_all := lw_g (lw_at lw_m2 147 rfl) rfl
theorem q431 : (Jvm.Cond.code ({ cls := "BallotFoundry", name := "walkFrom", desc := "(I)V" } : Jvm.MethodName) prog_1_method_10_code (6 : Nat) (Option.none : Option Jvm.ClassFile.FieldType)) ∈ lw_all := lw_g (lw_at lw_m2 148 rfl) rfl
theorem q437 : (Jvm.Cond.instanceMethod ({ cls := "BallotFoundry", name := "station", desc := "(II)I" } : Jvm.MethodName)) ∈ lw_all := lw_g (lw_at lw_m2 154 rfl) rfl
theorem q438 : (Jvm.Cond.selects "BallotFoundry" ({ cls := "BallotFoundry", name := "station", desc := "(II)I" } : Jvm.MethodName) ({ cls := "BallotFoundry", name := "station", desc := "(II)I" } : Jvm.MethodName)) ∈ lw_all := lw_g (lw_at lw_m2 155 rfl) rfl
theorem q439 : (Jvm.Cond.code ({ cls := "BallotFoundry", name := "station", desc := "(II)I" } : Jvm.MethodName) prog_1_method_12_code (3 : Nat) (Option.some Jvm.ClassFile.FieldType.int)) ∈ lw_all := lw_g (lw_at lw_m2 156 rfl) rfl
theorem q440 : (Jvm.Cond.methodLink "BallotFoundry" (90 : Nat) ({ cls := "BallotFoundry", name := "isIn", desc := "(III)Z" } : Jvm.MethodName)) ∈ lw_all := lw_g (lw_at lw_m2 157 rfl) rfl
theorem q441 : (Jvm.Cond.static ({ cls := "BallotFoundry", name := "isIn", desc := "(III)Z" } : Jvm.MethodName)) ∈ lw_all := lw_g (lw_at lw_m2 158 rfl) rfl
theorem q442 : (Jvm.Cond.code ({ cls := "BallotFoundry", name := "isIn", desc := "(III)Z" } : Jvm.MethodName) prog_1_method_5_code (3 : Nat) (Option.some Jvm.ClassFile.FieldType.boolean)) ∈ lw_all := lw_g (lw_at lw_m2 159 rfl) rfl
theorem q443 : (Jvm.Cond.methodLink "BallotFoundry" (94 : Nat) ({ cls := "BallotFoundry", name := "allow", desc := "(Z)V" } : Jvm.MethodName)) ∈ lw_all := lw_g (lw_at lw_m2 160 rfl) rfl
theorem q444 : (Jvm.Cond.static ({ cls := "BallotFoundry", name := "allow", desc := "(Z)V" } : Jvm.MethodName)) ∈ lw_all := lw_g (lw_at lw_m2 161 rfl) rfl
theorem q445 : (Jvm.Cond.code ({ cls := "BallotFoundry", name := "allow", desc := "(Z)V" } : Jvm.MethodName) prog_1_method_3_code (1 : Nat) (Option.none : Option Jvm.ClassFile.FieldType)) ∈ lw_all := lw_g (lw_at lw_m2 162 rfl) rfl
theorem q446 : (Jvm.Cond.classLink "BallotFoundry" (36 : Nat) "java/lang/IllegalStateException") ∈ lw_all := lw_g (lw_at lw_m2 163 rfl) rfl
theorem q455 : (Jvm.Cond.methodLink "BallotFoundry" (38 : Nat) ({ cls := "java/lang/IllegalStateException", name := "<init>", desc := "()V" } : Jvm.MethodName)) ∈ lw_all := lw_g (lw_at lw_m2 172 rfl) rfl
theorem q461 : (Jvm.Cond.classLink "BallotFoundry" (97 : Nat) "BallotFoundry$Station") ∈ lw_all := lw_g (lw_at lw_m2 178 rfl) rfl
theorem q463 : (Jvm.Cond.methodLink "BallotFoundry" (99 : Nat) ({ cls := "BallotFoundry$Station", name := "<init>", desc := "(II)V" } : Jvm.MethodName)) ∈ lw_all := lw_g (lw_at lw_m2 180 rfl) rfl
theorem q468 : (Jvm.Cond.fieldLink "BallotFoundry" (153 : Nat) "BallotFoundry$Station" "crossing" "I") ∈ lw_all := lw_g (lw_at lw_m2 185 rfl) rfl
theorem q470 : (Jvm.Cond.fieldLink "BallotFoundry" (106 : Nat) "BallotFoundry$Station" "seats" "I") ∈ lw_all := lw_g (lw_at lw_m2 187 rfl) rfl
theorem q476 : (Jvm.Cond.interfaceEntry "BallotFoundry" (102 : Nat)) ∈ lw_tbl := lw_at lw_m2 193 rfl
theorem q477 : (Jvm.Cond.methodLink "BallotFoundry" (102 : Nat) ({ cls := "java/util/List", name := "add", desc := "(Ljava/lang/Object;)Z" } : Jvm.MethodName)) ∈ lw_all := lw_g (lw_at lw_m2 194 rfl) rfl
theorem q511 : (Jvm.Cond.selects "BallotFoundry" ({ cls := "java/lang/Object", name := "getClass", desc := "()Ljava/lang/Class;" } : Jvm.MethodName) ({ cls := "java/lang/Object", name := "getClass", desc := "()Ljava/lang/Class;" } : Jvm.MethodName)) ∈ lw_all := lw_g (lw_at lw_m2 228 rfl) rfl
theorem q547 : (Jvm.Cond.instanceMethod ({ cls := "BallotFoundry", name := "setSeats", desc := "(II)I" } : Jvm.MethodName)) ∈ lw_all := lw_g (lw_at lw_m3 24 rfl) rfl
theorem q548 : (Jvm.Cond.selects "BallotFoundry" ({ cls := "BallotFoundry", name := "setSeats", desc := "(II)I" } : Jvm.MethodName) ({ cls := "BallotFoundry", name := "setSeats", desc := "(II)I" } : Jvm.MethodName)) ∈ lw_all := lw_g (lw_at lw_m3 25 rfl) rfl
theorem q549 : (Jvm.Cond.code ({ cls := "BallotFoundry", name := "setSeats", desc := "(II)I" } : Jvm.MethodName) prog_1_method_13_code (4 : Nat) (Option.some Jvm.ClassFile.FieldType.int)) ∈ lw_all := lw_g (lw_at lw_m3 26 rfl) rfl
theorem q550 : (Jvm.Cond.interfaceEntry "BallotFoundry" (52 : Nat)) ∈ lw_tbl := lw_at lw_m3 27 rfl
theorem q551 : (Jvm.Cond.methodLink "BallotFoundry" (52 : Nat) ({ cls := "java/util/List", name := "get", desc := "(I)Ljava/lang/Object;" } : Jvm.MethodName)) ∈ lw_all := lw_g (lw_at lw_m3 28 rfl) rfl
theorem q556 : (Jvm.Cond.instanceMethod ({ cls := "BallotFoundry", name := "person", desc := "(II)I" } : Jvm.MethodName)) ∈ lw_all := lw_g (lw_at lw_m3 33 rfl) rfl
theorem q557 : (Jvm.Cond.selects "BallotFoundry" ({ cls := "BallotFoundry", name := "person", desc := "(II)I" } : Jvm.MethodName) ({ cls := "BallotFoundry", name := "person", desc := "(II)I" } : Jvm.MethodName)) ∈ lw_all := lw_g (lw_at lw_m3 34 rfl) rfl
theorem q558 : (Jvm.Cond.code ({ cls := "BallotFoundry", name := "person", desc := "(II)I" } : Jvm.MethodName) prog_1_method_14_code (3 : Nat) (Option.some Jvm.ClassFile.FieldType.int)) ∈ lw_all := lw_g (lw_at lw_m3 35 rfl) rfl
theorem q559 : (Jvm.Cond.classLink "BallotFoundry" (56 : Nat) "BallotFoundry$Person") ∈ lw_all := lw_g (lw_at lw_m3 36 rfl) rfl
theorem q561 : (Jvm.Cond.methodLink "BallotFoundry" (113 : Nat) ({ cls := "BallotFoundry$Person", name := "<init>", desc := "(IIII)V" } : Jvm.MethodName)) ∈ lw_all := lw_g (lw_at lw_m3 38 rfl) rfl
theorem q572 : (Jvm.Cond.fieldLink "BallotFoundry" (178 : Nat) "BallotFoundry$Person" "number" "I") ∈ lw_all := lw_g (lw_at lw_m3 49 rfl) rfl
theorem q574 : (Jvm.Cond.fieldLink "BallotFoundry" (158 : Nat) "BallotFoundry$Person" "age" "I") ∈ lw_all := lw_g (lw_at lw_m3 51 rfl) rfl
theorem q576 : (Jvm.Cond.fieldLink "BallotFoundry" (120 : Nat) "BallotFoundry$Person" "hasDied" "Z") ∈ lw_all := lw_g (lw_at lw_m3 53 rfl) rfl
theorem q611 : (Jvm.Cond.instanceMethod ({ cls := "BallotFoundry", name := "move", desc := "(II)I" } : Jvm.MethodName)) ∈ lw_all := lw_g (lw_at lw_m3 88 rfl) rfl
theorem q612 : (Jvm.Cond.selects "BallotFoundry" ({ cls := "BallotFoundry", name := "move", desc := "(II)I" } : Jvm.MethodName) ({ cls := "BallotFoundry", name := "move", desc := "(II)I" } : Jvm.MethodName)) ∈ lw_all := lw_g (lw_at lw_m3 89 rfl) rfl
theorem q613 : (Jvm.Cond.code ({ cls := "BallotFoundry", name := "move", desc := "(II)I" } : Jvm.MethodName) prog_1_method_15_code (5 : Nat) (Option.some Jvm.ClassFile.FieldType.int)) ∈ lw_all := lw_g (lw_at lw_m3 90 rfl) rfl
theorem q614 : (Jvm.Cond.methodLink "BallotFoundry" (116 : Nat) ({ cls := "BallotFoundry", name := "find", desc := "(I)LBallotFoundry$Person;" } : Jvm.MethodName)) ∈ lw_all := lw_g (lw_at lw_m3 91 rfl) rfl
theorem q615 : (Jvm.Cond.privateMethod ({ cls := "BallotFoundry", name := "find", desc := "(I)LBallotFoundry$Person;" } : Jvm.MethodName)) ∈ lw_tbl := lw_at lw_m3 92 rfl
theorem q616 : (Jvm.Cond.instanceMethod ({ cls := "BallotFoundry", name := "find", desc := "(I)LBallotFoundry$Person;" } : Jvm.MethodName)) ∈ lw_all := lw_g (lw_at lw_m3 93 rfl) rfl
theorem q617 : (Jvm.Cond.code ({ cls := "BallotFoundry", name := "find", desc := "(I)LBallotFoundry$Person;" } : Jvm.MethodName) prog_1_method_6_code (2 : Nat) (Option.some (Jvm.ClassFile.FieldType.object "BallotFoundry$Person"))) ∈ lw_all := lw_g (lw_at lw_m3 94 rfl) rfl
theorem q618 : (Jvm.Cond.methodLink "BallotFoundry" (124 : Nat) ({ cls := "BallotFoundry$Person", name := "dwells", desc := "()I" } : Jvm.MethodName)) ∈ lw_all := lw_g (lw_at lw_m3 95 rfl) rfl
theorem q626 : (Jvm.Cond.methodLink "BallotFoundry" (127 : Nat) ({ cls := "BallotFoundry$Person", name := "come", desc := "(II)V" } : Jvm.MethodName)) ∈ lw_all := lw_g (lw_at lw_m3 103 rfl) rfl
theorem q631 : (Jvm.Cond.instanceMethod ({ cls := "BallotFoundry", name := "die", desc := "(I)Z" } : Jvm.MethodName)) ∈ lw_all := lw_g (lw_at lw_m3 108 rfl) rfl
theorem q632 : (Jvm.Cond.selects "BallotFoundry" ({ cls := "BallotFoundry", name := "die", desc := "(I)Z" } : Jvm.MethodName) ({ cls := "BallotFoundry", name := "die", desc := "(I)Z" } : Jvm.MethodName)) ∈ lw_all := lw_g (lw_at lw_m3 109 rfl) rfl
theorem q633 : (Jvm.Cond.code ({ cls := "BallotFoundry", name := "die", desc := "(I)Z" } : Jvm.MethodName) prog_1_method_16_code (3 : Nat) (Option.some Jvm.ClassFile.FieldType.boolean)) ∈ lw_all := lw_g (lw_at lw_m3 110 rfl) rfl
theorem q634 : (Jvm.Cond.methodLink "BallotFoundry" (130 : Nat) ({ cls := "BallotFoundry$Election", name := "voidSealed", desc := "(LBallotFoundry$Person;I)Z" } : Jvm.MethodName)) ∈ lw_all := lw_g (lw_at lw_m3 111 rfl) rfl
theorem q681 : (Jvm.Cond.instanceMethod ({ cls := "BallotFoundry", name := "dwells", desc := "(II)I" } : Jvm.MethodName)) ∈ lw_all := lw_g (lw_at lw_m3 158 rfl) rfl
theorem q682 : (Jvm.Cond.selects "BallotFoundry" ({ cls := "BallotFoundry", name := "dwells", desc := "(II)I" } : Jvm.MethodName) ({ cls := "BallotFoundry", name := "dwells", desc := "(II)I" } : Jvm.MethodName)) ∈ lw_all := lw_g (lw_at lw_m3 159 rfl) rfl
theorem q683 : (Jvm.Cond.code ({ cls := "BallotFoundry", name := "dwells", desc := "(II)I" } : Jvm.MethodName) prog_1_method_17_code (4 : Nat) (Option.some Jvm.ClassFile.FieldType.int)) ∈ lw_all := lw_g (lw_at lw_m3 160 rfl) rfl
theorem q684 : (Jvm.Cond.methodLink "BallotFoundry" (134 : Nat) ({ cls := "BallotFoundry$Person", name := "dwells", desc := "(I)I" } : Jvm.MethodName)) ∈ lw_all := lw_g (lw_at lw_m3 161 rfl) rfl
theorem q692 : (Jvm.Cond.instanceMethod ({ cls := "BallotFoundry", name := "call", desc := "(IIZ)I" } : Jvm.MethodName)) ∈ lw_all := lw_g (lw_at lw_m3 169 rfl) rfl
theorem q693 : (Jvm.Cond.selects "BallotFoundry" ({ cls := "BallotFoundry", name := "call", desc := "(IIZ)I" } : Jvm.MethodName) ({ cls := "BallotFoundry", name := "call", desc := "(IIZ)I" } : Jvm.MethodName)) ∈ lw_all := lw_g (lw_at lw_m3 170 rfl) rfl
theorem q694 : (Jvm.Cond.code ({ cls := "BallotFoundry", name := "call", desc := "(IIZ)I" } : Jvm.MethodName) prog_1_method_18_code (4 : Nat) (Option.some Jvm.ClassFile.FieldType.int)) ∈ lw_all := lw_g (lw_at lw_m3 171 rfl) rfl
theorem q695 : (Jvm.Cond.interfaceEntry "BallotFoundry" (140 : Nat)) ∈ lw_tbl := lw_at lw_m3 172 rfl
theorem q696 : (Jvm.Cond.methodLink "BallotFoundry" (140 : Nat) ({ cls := "java/util/List", name := "isEmpty", desc := "()Z" } : Jvm.MethodName)) ∈ lw_all := lw_g (lw_at lw_m3 173 rfl) rfl
theorem q704 : (Jvm.Cond.classLink "BallotFoundry" (63 : Nat) "BallotFoundry$Election") ∈ lw_all := lw_g (lw_at lw_m3 181 rfl) rfl
theorem q706 : (Jvm.Cond.methodLink "BallotFoundry" (144 : Nat) ({ cls := "BallotFoundry$Election", name := "<init>", desc := "(IIZ)V" } : Jvm.MethodName)) ∈ lw_all := lw_g (lw_at lw_m3 183 rfl) rfl
theorem q713 : (Jvm.Cond.fieldLink "BallotFoundry" (147 : Nat) "BallotFoundry$Election" "day" "I") ∈ lw_all := lw_g (lw_at lw_m3 190 rfl) rfl
theorem q720 : (Jvm.Cond.fieldLink "BallotFoundry" (150 : Nat) "BallotFoundry$Election" "seeds" "[I") ∈ lw_all := lw_g (lw_at lw_m3 197 rfl) rfl
theorem q722 : (Jvm.Cond.fieldLink "BallotFoundry" (165 : Nat) "BallotFoundry$Election" "stations" "[I") ∈ lw_all := lw_g (lw_at lw_m3 199 rfl) rfl
theorem q724 : (Jvm.Cond.fieldLink "BallotFoundry" (205 : Nat) "BallotFoundry$Election" "hasVoted" "[Z") ∈ lw_all := lw_g (lw_at lw_m3 201 rfl) rfl
theorem q727 : (Jvm.Cond.fieldLink "BallotFoundry" (62 : Nat) "BallotFoundry$Election" "boxes" "Ljava/util/List;") ∈ lw_all := lw_g (lw_at lw_m3 204 rfl) rfl
theorem q729 : (Jvm.Cond.fieldLink "BallotFoundry" (193 : Nat) "BallotFoundry$Election" "envelopes" "Ljava/util/List;") ∈ lw_all := lw_g (lw_at lw_m3 206 rfl) rfl
theorem q731 : (Jvm.Cond.fieldLink "BallotFoundry" (295 : Nat) "BallotFoundry$Election" "book" "Ljava/util/List;") ∈ lw_all := lw_g (lw_at lw_m3 208 rfl) rfl
theorem q733 : (Jvm.Cond.fieldLink "BallotFoundry" (170 : Nat) "BallotFoundry$Election" "stage" "I") ∈ lw_all := lw_g (lw_at lw_m3 210 rfl) rfl
theorem q759 : (Jvm.Cond.instanceMethod ({ cls := "BallotFoundry", name := "seed", desc := "(II)I" } : Jvm.MethodName)) ∈ lw_all := lw_g (lw_at lw_m3 236 rfl) rfl
theorem q760 : (Jvm.Cond.selects "BallotFoundry" ({ cls := "BallotFoundry", name := "seed", desc := "(II)I" } : Jvm.MethodName) ({ cls := "BallotFoundry", name := "seed", desc := "(II)I" } : Jvm.MethodName)) ∈ lw_all := lw_g (lw_at lw_m3 237 rfl) rfl
theorem q761 : (Jvm.Cond.code ({ cls := "BallotFoundry", name := "seed", desc := "(II)I" } : Jvm.MethodName) prog_1_method_19_code (4 : Nat) (Option.some Jvm.ClassFile.FieldType.int)) ∈ lw_all := lw_g (lw_at lw_m3 238 rfl) rfl
theorem q766 : (Jvm.Cond.instanceMethod ({ cls := "BallotFoundry", name := "advance", desc := "(I)I" } : Jvm.MethodName)) ∈ lw_all := lw_g (lw_at lw_m4 3 rfl) rfl
theorem q767 : (Jvm.Cond.selects "BallotFoundry" ({ cls := "BallotFoundry", name := "advance", desc := "(I)I" } : Jvm.MethodName) ({ cls := "BallotFoundry", name := "advance", desc := "(I)I" } : Jvm.MethodName)) ∈ lw_all := lw_g (lw_at lw_m4 4 rfl) rfl
theorem q768 : (Jvm.Cond.code ({ cls := "BallotFoundry", name := "advance", desc := "(I)I" } : Jvm.MethodName) prog_1_method_23_code (3 : Nat) (Option.some Jvm.ClassFile.FieldType.int)) ∈ lw_all := lw_g (lw_at lw_m4 5 rfl) rfl
theorem q769 : (Jvm.Cond.methodLink "BallotFoundry" (175 : Nat) ({ cls := "BallotFoundry", name := "begin", desc := "()V" } : Jvm.MethodName)) ∈ lw_all := lw_g (lw_at lw_m4 6 rfl) rfl
theorem q770 : (Jvm.Cond.privateMethod ({ cls := "BallotFoundry", name := "begin", desc := "()V" } : Jvm.MethodName)) ∈ lw_tbl := lw_at lw_m4 7 rfl
theorem q771 : (Jvm.Cond.instanceMethod ({ cls := "BallotFoundry", name := "begin", desc := "()V" } : Jvm.MethodName)) ∈ lw_all := lw_g (lw_at lw_m4 8 rfl) rfl
theorem q772 : (Jvm.Cond.code ({ cls := "BallotFoundry", name := "begin", desc := "()V" } : Jvm.MethodName) prog_1_method_22_code (1 : Nat) (Option.none : Option Jvm.ClassFile.FieldType)) ∈ lw_all := lw_g (lw_at lw_m4 9 rfl) rfl
theorem q773 : (Jvm.Cond.methodLink "BallotFoundry" (167 : Nat) ({ cls := "BallotFoundry", name := "makeRoll", desc := "()V" } : Jvm.MethodName)) ∈ lw_all := lw_g (lw_at lw_m4 10 rfl) rfl
theorem q774 : (Jvm.Cond.privateMethod ({ cls := "BallotFoundry", name := "makeRoll", desc := "()V" } : Jvm.MethodName)) ∈ lw_tbl := lw_at lw_m4 11 rfl
theorem q775 : (Jvm.Cond.instanceMethod ({ cls := "BallotFoundry", name := "makeRoll", desc := "()V" } : Jvm.MethodName)) ∈ lw_all := lw_g (lw_at lw_m4 12 rfl) rfl
theorem q776 : (Jvm.Cond.code ({ cls := "BallotFoundry", name := "makeRoll", desc := "()V" } : Jvm.MethodName) prog_1_method_21_code (5 : Nat) (Option.none : Option Jvm.ClassFile.FieldType)) ∈ lw_all := lw_g (lw_at lw_m4 13 rfl) rfl
theorem q777 : (Jvm.Cond.classLink "BallotFoundry" (67 : Nat) "BallotFoundry$Box") ∈ lw_all := lw_g (lw_at lw_m4 14 rfl) rfl
theorem q779 : (Jvm.Cond.methodLinkNest "BallotFoundry" (69 : Nat) ({ cls := "BallotFoundry$Box", name := "<init>", desc := "()V" } : Jvm.MethodName) "BallotFoundry") ∈ lw_tbl := lw_at lw_m4 16 rfl
theorem q787 : (Jvm.Cond.fieldLink "BallotFoundry" (212 : Nat) "BallotFoundry$Box" "ballots" "Ljava/util/List;") ∈ lw_all := lw_g (lw_at lw_m4 24 rfl) rfl
theorem q789 : (Jvm.Cond.fieldLink "BallotFoundry" (250 : Nat) "BallotFoundry$Box" "counts" "Ljava/util/List;") ∈ lw_all := lw_g (lw_at lw_m4 26 rfl) rfl
theorem q793 : (Jvm.Cond.fieldLink "BallotFoundry" (246 : Nat) "BallotFoundry$Box" "settled" "LBallotFoundry$Count;") ∈ lw_all := lw_g (lw_at lw_m4 30 rfl) rfl
theorem q794 : (Jvm.Cond.fieldLink "BallotFoundry" (156 : Nat) "BallotFoundry$Box" "people" "I") ∈ lw_all := lw_g (lw_at lw_m4 31 rfl) rfl
theorem q804 : (Jvm.Cond.methodLink "BallotFoundry" (161 : Nat) ({ cls := "BallotFoundry", name := "nearest", desc := "(Z)I" } : Jvm.MethodName)) ∈ lw_all := lw_g (lw_at lw_m4 41 rfl) rfl
theorem q805 : (Jvm.Cond.privateMethod ({ cls := "BallotFoundry", name := "nearest", desc := "(Z)I" } : Jvm.MethodName)) ∈ lw_tbl := lw_at lw_m4 42 rfl
theorem q806 : (Jvm.Cond.instanceMethod ({ cls := "BallotFoundry", name := "nearest", desc := "(Z)I" } : Jvm.MethodName)) ∈ lw_all := lw_g (lw_at lw_m4 43 rfl) rfl
theorem q807 : (Jvm.Cond.code ({ cls := "BallotFoundry", name := "nearest", desc := "(Z)I" } : Jvm.MethodName) prog_1_method_20_code (9 : Nat) (Option.some Jvm.ClassFile.FieldType.int)) ∈ lw_all := lw_g (lw_at lw_m4 44 rfl) rfl
theorem q808 : (Jvm.Cond.methodLink "BallotFoundry" (172 : Nat) ({ cls := "BallotFoundry$Election", name := "openAll", desc := "()V" } : Jvm.MethodName)) ∈ lw_all := lw_g (lw_at lw_m4 45 rfl) rfl
theorem q845 : (Jvm.Cond.instanceMethod ({ cls := "BallotFoundry", name := "isOnRoll", desc := "(I)Z" } : Jvm.MethodName)) ∈ lw_all := lw_g (lw_at lw_m4 82 rfl) rfl
theorem q846 : (Jvm.Cond.selects "BallotFoundry" ({ cls := "BallotFoundry", name := "isOnRoll", desc := "(I)Z" } : Jvm.MethodName) ({ cls := "BallotFoundry", name := "isOnRoll", desc := "(I)Z" } : Jvm.MethodName)) ∈ lw_all := lw_g (lw_at lw_m4 83 rfl) rfl
theorem q847 : (Jvm.Cond.code ({ cls := "BallotFoundry", name := "isOnRoll", desc := "(I)Z" } : Jvm.MethodName) prog_1_method_27_code (2 : Nat) (Option.some Jvm.ClassFile.FieldType.boolean)) ∈ lw_all := lw_g (lw_at lw_m4 84 rfl) rfl
theorem q848 : (Jvm.Cond.methodLink "BallotFoundry" (181 : Nat) ({ cls := "BallotFoundry", name := "isRolled", desc := "(LBallotFoundry$Person;)Z" } : Jvm.MethodName)) ∈ lw_all := lw_g (lw_at lw_m4 85 rfl) rfl
theorem q849 : (Jvm.Cond.privateMethod ({ cls := "BallotFoundry", name := "isRolled", desc := "(LBallotFoundry$Person;)Z" } : Jvm.MethodName)) ∈ lw_tbl := lw_at lw_m4 86 rfl
theorem q850 : (Jvm.Cond.instanceMethod ({ cls := "BallotFoundry", name := "isRolled", desc := "(LBallotFoundry$Person;)Z" } : Jvm.MethodName)) ∈ lw_all := lw_g (lw_at lw_m4 87 rfl) rfl
theorem q851 : (Jvm.Cond.code ({ cls := "BallotFoundry", name := "isRolled", desc := "(LBallotFoundry$Person;)Z" } : Jvm.MethodName) prog_1_method_26_code (2 : Nat) (Option.some Jvm.ClassFile.FieldType.boolean)) ∈ lw_all := lw_g (lw_at lw_m4 88 rfl) rfl
theorem q856 : (Jvm.Cond.instanceMethod ({ cls := "BallotFoundry", name := "stationOf", desc := "(I)I" } : Jvm.MethodName)) ∈ lw_all := lw_g (lw_at lw_m4 93 rfl) rfl
theorem q857 : (Jvm.Cond.selects "BallotFoundry" ({ cls := "BallotFoundry", name := "stationOf", desc := "(I)I" } : Jvm.MethodName) ({ cls := "BallotFoundry", name := "stationOf", desc := "(I)I" } : Jvm.MethodName)) ∈ lw_all := lw_g (lw_at lw_m4 94 rfl) rfl
theorem q858 : (Jvm.Cond.code ({ cls := "BallotFoundry", name := "stationOf", desc := "(I)I" } : Jvm.MethodName) prog_1_method_28_code (3 : Nat) (Option.some Jvm.ClassFile.FieldType.int)) ∈ lw_all := lw_g (lw_at lw_m4 95 rfl) rfl
theorem q863 : (Jvm.Cond.instanceMethod ({ cls := "BallotFoundry", name := "peopleOf", desc := "(I)I" } : Jvm.MethodName)) ∈ lw_all := lw_g (lw_at lw_m4 100 rfl) rfl
theorem q864 : (Jvm.Cond.selects "BallotFoundry" ({ cls := "BallotFoundry", name := "peopleOf", desc := "(I)I" } : Jvm.MethodName) ({ cls := "BallotFoundry", name := "peopleOf", desc := "(I)I" } : Jvm.MethodName)) ∈ lw_all := lw_g (lw_at lw_m4 101 rfl) rfl
theorem q865 : (Jvm.Cond.code ({ cls := "BallotFoundry", name := "peopleOf", desc := "(I)I" } : Jvm.MethodName) prog_1_method_29_code (2 : Nat) (Option.some Jvm.ClassFile.FieldType.int)) ∈ lw_all := lw_g (lw_at lw_m4 102 rfl) rfl
theorem q866 : (Jvm.Cond.methodLink "BallotFoundry" (185 : Nat) ({ cls := "BallotFoundry", name := "box", desc := "(I)LBallotFoundry$Box;" } : Jvm.MethodName)) ∈ lw_all := lw_g (lw_at lw_m4 103 rfl) rfl
theorem q867 : (Jvm.Cond.privateMethod ({ cls := "BallotFoundry", name := "box", desc := "(I)LBallotFoundry$Box;" } : Jvm.MethodName)) ∈ lw_tbl := lw_at lw_m4 104 rfl
theorem q868 : (Jvm.Cond.instanceMethod ({ cls := "BallotFoundry", name := "box", desc := "(I)LBallotFoundry$Box;" } : Jvm.MethodName)) ∈ lw_all := lw_g (lw_at lw_m4 105 rfl) rfl
theorem q869 : (Jvm.Cond.code ({ cls := "BallotFoundry", name := "box", desc := "(I)LBallotFoundry$Box;" } : Jvm.MethodName) prog_1_method_7_code (3 : Nat) (Option.some (Jvm.ClassFile.FieldType.object "BallotFoundry$Box"))) ∈ lw_all := lw_g (lw_at lw_m4 106 rfl) rfl
theorem q874 : (Jvm.Cond.instanceMethod ({ cls := "BallotFoundry", name := "early", desc := "(II)I" } : Jvm.MethodName)) ∈ lw_all := lw_g (lw_at lw_m4 111 rfl) rfl
theorem q875 : (Jvm.Cond.selects "BallotFoundry" ({ cls := "BallotFoundry", name := "early", desc := "(II)I" } : Jvm.MethodName) ({ cls := "BallotFoundry", name := "early", desc := "(II)I" } : Jvm.MethodName)) ∈ lw_all := lw_g (lw_at lw_m4 112 rfl) rfl
theorem q876 : (Jvm.Cond.code ({ cls := "BallotFoundry", name := "early", desc := "(II)I" } : Jvm.MethodName) prog_1_method_31_code (5 : Nat) (Option.some Jvm.ClassFile.FieldType.int)) ∈ lw_all := lw_g (lw_at lw_m4 113 rfl) rfl
theorem q877 : (Jvm.Cond.methodLink "BallotFoundry" (189 : Nat) ({ cls := "BallotFoundry", name := "isBallot", desc := "(I)Z" } : Jvm.MethodName)) ∈ lw_all := lw_g (lw_at lw_m4 114 rfl) rfl
theorem q878 : (Jvm.Cond.static ({ cls := "BallotFoundry", name := "isBallot", desc := "(I)Z" } : Jvm.MethodName)) ∈ lw_all := lw_g (lw_at lw_m4 115 rfl) rfl
theorem q879 : (Jvm.Cond.code ({ cls := "BallotFoundry", name := "isBallot", desc := "(I)Z" } : Jvm.MethodName) prog_1_method_30_code (1 : Nat) (Option.some Jvm.ClassFile.FieldType.boolean)) ∈ lw_all := lw_g (lw_at lw_m4 116 rfl) rfl
theorem q880 : (Jvm.Cond.classLink "BallotFoundry" (196 : Nat) "BallotFoundry$Envelope") ∈ lw_all := lw_g (lw_at lw_m4 117 rfl) rfl
theorem q882 : (Jvm.Cond.methodLink "BallotFoundry" (198 : Nat) ({ cls := "BallotFoundry$Envelope", name := "<init>", desc := "(LBallotFoundry$Person;I)V" } : Jvm.MethodName)) ∈ lw_all := lw_g (lw_at lw_m4 119 rfl) rfl
theorem q888 : (Jvm.Cond.fieldLink "BallotFoundry" (242 : Nat) "BallotFoundry$Envelope" "person" "LBallotFoundry$Person;") ∈ lw_all := lw_g (lw_at lw_m4 125 rfl) rfl
theorem q893 : (Jvm.Cond.fieldLink "BallotFoundry" (239 : Nat) "BallotFoundry$Envelope" "state" "I") ∈ lw_all := lw_g (lw_at lw_m4 130 rfl) rfl
theorem q901 : (Jvm.Cond.methodLink "BallotFoundry" (201 : Nat) ({ cls := "BallotFoundry$Election", name := "note", desc := "(ICI)V" } : Jvm.MethodName)) ∈ lw_all := lw_g (lw_at lw_m4 138 rfl) rfl
theorem q906 : (Jvm.Cond.instanceMethod ({ cls := "BallotFoundry", name := "vote", desc := "(III)I" } : Jvm.MethodName)) ∈ lw_all := lw_g (lw_at lw_m4 143 rfl) rfl
theorem q907 : (Jvm.Cond.selects "BallotFoundry" ({ cls := "BallotFoundry", name := "vote", desc := "(III)I" } : Jvm.MethodName) ({ cls := "BallotFoundry", name := "vote", desc := "(III)I" } : Jvm.MethodName)) ∈ lw_all := lw_g (lw_at lw_m4 144 rfl) rfl
theorem q908 : (Jvm.Cond.code ({ cls := "BallotFoundry", name := "vote", desc := "(III)I" } : Jvm.MethodName) prog_1_method_32_code (6 : Nat) (Option.some Jvm.ClassFile.FieldType.int)) ∈ lw_all := lw_g (lw_at lw_m4 145 rfl) rfl
theorem q909 : (Jvm.Cond.methodLink "BallotFoundry" (208 : Nat) ({ cls := "BallotFoundry$Election", name := "boxOf", desc := "(LBallotFoundry$Person;)LBallotFoundry$Box;" } : Jvm.MethodName)) ∈ lw_all := lw_g (lw_at lw_m4 146 rfl) rfl
theorem q910 : (Jvm.Cond.methodLink "BallotFoundry" (215 : Nat) ({ cls := "java/lang/Integer", name := "valueOf", desc := "(I)Ljava/lang/Integer;" } : Jvm.MethodName)) ∈ lw_all := lw_g (lw_at lw_m4 147 rfl) rfl
theorem q915 : (Jvm.Cond.instanceMethod ({ cls := "BallotFoundry", name := "open", desc := "(I)I" } : Jvm.MethodName)) ∈ lw_all := lw_g (lw_at lw_m4 152 rfl) rfl
theorem q916 : (Jvm.Cond.selects "BallotFoundry" ({ cls := "BallotFoundry", name := "open", desc := "(I)I" } : Jvm.MethodName) ({ cls := "BallotFoundry", name := "open", desc := "(I)I" } : Jvm.MethodName)) ∈ lw_all := lw_g (lw_at lw_m4 153 rfl) rfl
theorem q917 : (Jvm.Cond.code ({ cls := "BallotFoundry", name := "open", desc := "(I)I" } : Jvm.MethodName) prog_1_method_33_code (4 : Nat) (Option.some Jvm.ClassFile.FieldType.int)) ∈ lw_all := lw_g (lw_at lw_m4 154 rfl) rfl
theorem q918 : (Jvm.Cond.methodLink "BallotFoundry" (221 : Nat) ({ cls := "BallotFoundry$Election", name := "sealedOf", desc := "(LBallotFoundry$Person;)LBallotFoundry$Envelope;" } : Jvm.MethodName)) ∈ lw_all := lw_g (lw_at lw_m4 155 rfl) rfl
theorem q919 : (Jvm.Cond.methodLink "BallotFoundry" (225 : Nat) ({ cls := "BallotFoundry$Election", name := "open", desc := "(LBallotFoundry$Envelope;C)V" } : Jvm.MethodName)) ∈ lw_all := lw_g (lw_at lw_m4 156 rfl) rfl
theorem q920 : (Jvm.Cond.interfaceEntry "BallotFoundry" (229 : Nat)) ∈ lw_tbl := lw_at lw_m4 157 rfl
theorem q921 : (Jvm.Cond.methodLink "BallotFoundry" (229 : Nat) ({ cls := "java/util/List", name := "indexOf", desc := "(Ljava/lang/Object;)I" } : Jvm.MethodName)) ∈ lw_all := lw_g (lw_at lw_m4 158 rfl) rfl
theorem q937 : (Jvm.Cond.selects "BallotFoundry" ({ cls := "java/lang/Object", name := "equals", desc := "(Ljava/lang/Object;)Z" } : Jvm.MethodName) ({ cls := "java/lang/Object", name := "equals", desc := "(Ljava/lang/Object;)Z" } : Jvm.MethodName)) ∈ lw_all := lw_g (lw_at lw_m4 174 rfl) rfl
theorem q971 : (Jvm.Cond.instanceMethod ({ cls := "BallotFoundry", name := "stateOf", desc := "(I)I" } : Jvm.MethodName)) ∈ lw_all := lw_g (lw_at lw_m4 208 rfl) rfl
theorem q972 : (Jvm.Cond.selects "BallotFoundry" ({ cls := "BallotFoundry", name := "stateOf", desc := "(I)I" } : Jvm.MethodName) ({ cls := "BallotFoundry", name := "stateOf", desc := "(I)I" } : Jvm.MethodName)) ∈ lw_all := lw_g (lw_at lw_m4 209 rfl) rfl
theorem q973 : (Jvm.Cond.code ({ cls := "BallotFoundry", name := "stateOf", desc := "(I)I" } : Jvm.MethodName) prog_1_method_36_code (2 : Nat) (Option.some Jvm.ClassFile.FieldType.int)) ∈ lw_all := lw_g (lw_at lw_m4 210 rfl) rfl
theorem q974 : (Jvm.Cond.methodLink "BallotFoundry" (235 : Nat) ({ cls := "BallotFoundry", name := "envelope", desc := "(I)LBallotFoundry$Envelope;" } : Jvm.MethodName)) ∈ lw_all := lw_g (lw_at lw_m4 211 rfl) rfl
theorem q975 : (Jvm.Cond.privateMethod ({ cls := "BallotFoundry", name := "envelope", desc := "(I)LBallotFoundry$Envelope;" } : Jvm.MethodName)) ∈ lw_tbl := lw_at lw_m4 212 rfl
theorem q976 : (Jvm.Cond.instanceMethod ({ cls := "BallotFoundry", name := "envelope", desc := "(I)LBallotFoundry$Envelope;" } : Jvm.MethodName)) ∈ lw_all := lw_g (lw_at lw_m4 213 rfl) rfl
theorem q977 : (Jvm.Cond.code ({ cls := "BallotFoundry", name := "envelope", desc := "(I)LBallotFoundry$Envelope;" } : Jvm.MethodName) prog_1_method_35_code (2 : Nat) (Option.some (Jvm.ClassFile.FieldType.object "BallotFoundry$Envelope"))) ∈ lw_all := lw_g (lw_at lw_m4 214 rfl) rfl
theorem q978 : (Jvm.Cond.methodLink "BallotFoundry" (233 : Nat) ({ cls := "BallotFoundry", name := "envelopes", desc := "()I" } : Jvm.MethodName)) ∈ lw_all := lw_g (lw_at lw_m4 215 rfl) rfl
theorem q983 : (Jvm.Cond.instanceMethod ({ cls := "BallotFoundry", name := "personOf", desc := "(I)I" } : Jvm.MethodName)) ∈ lw_all := lw_g (lw_at lw_m4 220 rfl) rfl
theorem q984 : (Jvm.Cond.selects "BallotFoundry" ({ cls := "BallotFoundry", name := "personOf", desc := "(I)I" } : Jvm.MethodName) ({ cls := "BallotFoundry", name := "personOf", desc := "(I)I" } : Jvm.MethodName)) ∈ lw_all := lw_g (lw_at lw_m4 221 rfl) rfl
theorem q985 : (Jvm.Cond.code ({ cls := "BallotFoundry", name := "personOf", desc := "(I)I" } : Jvm.MethodName) prog_1_method_37_code (2 : Nat) (Option.some Jvm.ClassFile.FieldType.int)) ∈ lw_all := lw_g (lw_at lw_m4 222 rfl) rfl
theorem q990 : (Jvm.Cond.instanceMethod ({ cls := "BallotFoundry", name := "ballots", desc := "(I)I" } : Jvm.MethodName)) ∈ lw_all := lw_g (lw_at lw_m4 227 rfl) rfl
theorem q991 : (Jvm.Cond.selects "BallotFoundry" ({ cls := "BallotFoundry", name := "ballots", desc := "(I)I" } : Jvm.MethodName) ({ cls := "BallotFoundry", name := "ballots", desc := "(I)I" } : Jvm.MethodName)) ∈ lw_all := lw_g (lw_at lw_m4 228 rfl) rfl
theorem q992 : (Jvm.Cond.code ({ cls := "BallotFoundry", name := "ballots", desc := "(I)I" } : Jvm.MethodName) prog_1_method_38_code (2 : Nat) (Option.some Jvm.ClassFile.FieldType.int)) ∈ lw_all := lw_g (lw_at lw_m4 229 rfl) rfl
theorem q997 : (Jvm.Cond.instanceMethod ({ cls := "BallotFoundry", name := "setSlip", desc := "(II)I" } : Jvm.MethodName)) ∈ lw_all := lw_g (lw_at lw_m4 234 rfl) rfl
theorem q998 : (Jvm.Cond.selects "BallotFoundry" ({ cls := "BallotFoundry", name := "setSlip", desc := "(II)I" } : Jvm.MethodName) ({ cls := "BallotFoundry", name := "setSlip", desc := "(II)I" } : Jvm.MethodName)) ∈ lw_all := lw_g (lw_at lw_m4 235 rfl) rfl
theorem q999 : (Jvm.Cond.code ({ cls := "BallotFoundry", name := "setSlip", desc := "(II)I" } : Jvm.MethodName) prog_1_method_39_code (4 : Nat) (Option.some Jvm.ClassFile.FieldType.int)) ∈ lw_all := lw_g (lw_at lw_m4 236 rfl) rfl
theorem q1004 : (Jvm.Cond.instanceMethod ({ cls := "BallotFoundry", name := "count", desc := "(II)Z" } : Jvm.MethodName)) ∈ lw_all := lw_g (lw_at lw_m5 1 rfl) rfl
theorem q1005 : (Jvm.Cond.selects "BallotFoundry" ({ cls := "BallotFoundry", name := "count", desc := "(II)Z" } : Jvm.MethodName) ({ cls := "BallotFoundry", name := "count", desc := "(II)Z" } : Jvm.MethodName)) ∈ lw_all := lw_g (lw_at lw_m5 2 rfl) rfl
theorem q1006 : (Jvm.Cond.code ({ cls := "BallotFoundry", name := "count", desc := "(II)Z" } : Jvm.MethodName) prog_1_method_40_code (4 : Nat) (Option.some Jvm.ClassFile.FieldType.boolean)) ∈ lw_all := lw_g (lw_at lw_m5 3 rfl) rfl
theorem q1007 : (Jvm.Cond.methodLink "BallotFoundry" (253 : Nat) ({ cls := "BallotFoundry$Box", name := "read", desc := "(II)LBallotFoundry$Count;" } : Jvm.MethodName)) ∈ lw_all := lw_g (lw_at lw_m5 4 rfl) rfl
theorem q1008 : (Jvm.Cond.methodLink "BallotFoundry" (257 : Nat) ({ cls := "BallotFoundry$Box", name := "take", desc := "(LBallotFoundry$Count;)V" } : Jvm.MethodName)) ∈ lw_all := lw_g (lw_at lw_m5 5 rfl) rfl
theorem q1022 : (Jvm.Cond.methodLink "BallotFoundry" (261 : Nat) ({ cls := "BallotFoundry$Election", name := "isSettled", desc := "()Z" } : Jvm.MethodName)) ∈ lw_all := lw_g (lw_at lw_m5 19 rfl) rfl
theorem q1030 : (Jvm.Cond.instanceMethod ({ cls := "BallotFoundry", name := "recount", desc := "(I)I" } : Jvm.MethodName)) ∈ lw_all := lw_g (lw_at lw_m5 27 rfl) rfl
theorem q1031 : (Jvm.Cond.selects "BallotFoundry" ({ cls := "BallotFoundry", name := "recount", desc := "(I)I" } : Jvm.MethodName) ({ cls := "BallotFoundry", name := "recount", desc := "(I)I" } : Jvm.MethodName)) ∈ lw_all := lw_g (lw_at lw_m5 28 rfl) rfl
theorem q1032 : (Jvm.Cond.code ({ cls := "BallotFoundry", name := "recount", desc := "(I)I" } : Jvm.MethodName) prog_1_method_41_code (4 : Nat) (Option.some Jvm.ClassFile.FieldType.int)) ∈ lw_all := lw_g (lw_at lw_m5 29 rfl) rfl
theorem q1033 : (Jvm.Cond.interfaceEntry "BallotFoundry" (264 : Nat)) ∈ lw_tbl := lw_at lw_m5 30 rfl
theorem q1034 : (Jvm.Cond.methodLink "BallotFoundry" (264 : Nat) ({ cls := "java/util/List", name := "clear", desc := "()V" } : Jvm.MethodName)) ∈ lw_all := lw_g (lw_at lw_m5 31 rfl) rfl
theorem q1046 : (Jvm.Cond.instanceMethod ({ cls := "BallotFoundry", name := "isSettled", desc := "(I)Z" } : Jvm.MethodName)) ∈ lw_all := lw_g (lw_at lw_m5 43 rfl) rfl
theorem q1047 : (Jvm.Cond.selects "BallotFoundry" ({ cls := "BallotFoundry", name := "isSettled", desc := "(I)Z" } : Jvm.MethodName) ({ cls := "BallotFoundry", name := "isSettled", desc := "(I)Z" } : Jvm.MethodName)) ∈ lw_all := lw_g (lw_at lw_m5 44 rfl) rfl
theorem q1048 : (Jvm.Cond.code ({ cls := "BallotFoundry", name := "isSettled", desc := "(I)Z" } : Jvm.MethodName) prog_1_method_42_code (2 : Nat) (Option.some Jvm.ClassFile.FieldType.boolean)) ∈ lw_all := lw_g (lw_at lw_m5 45 rfl) rfl
theorem q1053 : (Jvm.Cond.instanceMethod ({ cls := "BallotFoundry", name := "numberOf", desc := "(II)I" } : Jvm.MethodName)) ∈ lw_all := lw_g (lw_at lw_m5 50 rfl) rfl
theorem q1054 : (Jvm.Cond.selects "BallotFoundry" ({ cls := "BallotFoundry", name := "numberOf", desc := "(II)I" } : Jvm.MethodName) ({ cls := "BallotFoundry", name := "numberOf", desc := "(II)I" } : Jvm.MethodName)) ∈ lw_all := lw_g (lw_at lw_m5 51 rfl) rfl
theorem q1055 : (Jvm.Cond.code ({ cls := "BallotFoundry", name := "numberOf", desc := "(II)I" } : Jvm.MethodName) prog_1_method_43_code (4 : Nat) (Option.some Jvm.ClassFile.FieldType.int)) ∈ lw_all := lw_g (lw_at lw_m5 52 rfl) rfl
theorem q1060 : (Jvm.Cond.instanceMethod ({ cls := "BallotFoundry", name := "misread", desc := "(I)I" } : Jvm.MethodName)) ∈ lw_all := lw_g (lw_at lw_m5 57 rfl) rfl
theorem q1061 : (Jvm.Cond.selects "BallotFoundry" ({ cls := "BallotFoundry", name := "misread", desc := "(I)I" } : Jvm.MethodName) ({ cls := "BallotFoundry", name := "misread", desc := "(I)I" } : Jvm.MethodName)) ∈ lw_all := lw_g (lw_at lw_m5 58 rfl) rfl
theorem q1062 : (Jvm.Cond.code ({ cls := "BallotFoundry", name := "misread", desc := "(I)I" } : Jvm.MethodName) prog_1_method_44_code (6 : Nat) (Option.some Jvm.ClassFile.FieldType.int)) ∈ lw_all := lw_g (lw_at lw_m5 59 rfl) rfl
theorem q1067 : (Jvm.Cond.instanceMethod ({ cls := "BallotFoundry", name := "votes", desc := "(I)I" } : Jvm.MethodName)) ∈ lw_all := lw_g (lw_at lw_m5 64 rfl) rfl
theorem q1068 : (Jvm.Cond.selects "BallotFoundry" ({ cls := "BallotFoundry", name := "votes", desc := "(I)I" } : Jvm.MethodName) ({ cls := "BallotFoundry", name := "votes", desc := "(I)I" } : Jvm.MethodName)) ∈ lw_all := lw_g (lw_at lw_m5 65 rfl) rfl
theorem q1069 : (Jvm.Cond.code ({ cls := "BallotFoundry", name := "votes", desc := "(I)I" } : Jvm.MethodName) prog_1_method_46_code (3 : Nat) (Option.some Jvm.ClassFile.FieldType.int)) ∈ lw_all := lw_g (lw_at lw_m5 66 rfl) rfl
theorem q1074 : (Jvm.Cond.instanceMethod ({ cls := "BallotFoundry", name := "seats", desc := "(I)I" } : Jvm.MethodName)) ∈ lw_all := lw_g (lw_at lw_m5 71 rfl) rfl
theorem q1075 : (Jvm.Cond.selects "BallotFoundry" ({ cls := "BallotFoundry", name := "seats", desc := "(I)I" } : Jvm.MethodName) ({ cls := "BallotFoundry", name := "seats", desc := "(I)I" } : Jvm.MethodName)) ∈ lw_all := lw_g (lw_at lw_m5 72 rfl) rfl
theorem q1076 : (Jvm.Cond.code ({ cls := "BallotFoundry", name := "seats", desc := "(I)I" } : Jvm.MethodName) prog_1_method_47_code (3 : Nat) (Option.some Jvm.ClassFile.FieldType.int)) ∈ lw_all := lw_g (lw_at lw_m5 73 rfl) rfl
theorem q1081 : (Jvm.Cond.instanceMethod ({ cls := "BallotFoundry", name := "seatAt", desc := "(I)I" } : Jvm.MethodName)) ∈ lw_all := lw_g (lw_at lw_m5 78 rfl) rfl
theorem q1082 : (Jvm.Cond.selects "BallotFoundry" ({ cls := "BallotFoundry", name := "seatAt", desc := "(I)I" } : Jvm.MethodName) ({ cls := "BallotFoundry", name := "seatAt", desc := "(I)I" } : Jvm.MethodName)) ∈ lw_all := lw_g (lw_at lw_m5 79 rfl) rfl
theorem q1083 : (Jvm.Cond.code ({ cls := "BallotFoundry", name := "seatAt", desc := "(I)I" } : Jvm.MethodName) prog_1_method_48_code (3 : Nat) (Option.some Jvm.ClassFile.FieldType.int)) ∈ lw_all := lw_g (lw_at lw_m5 80 rfl) rfl
theorem q1088 : (Jvm.Cond.instanceMethod ({ cls := "BallotFoundry", name := "seatsByBallots", desc := "(I)I" } : Jvm.MethodName)) ∈ lw_all := lw_g (lw_at lw_m5 85 rfl) rfl
theorem q1089 : (Jvm.Cond.selects "BallotFoundry" ({ cls := "BallotFoundry", name := "seatsByBallots", desc := "(I)I" } : Jvm.MethodName) ({ cls := "BallotFoundry", name := "seatsByBallots", desc := "(I)I" } : Jvm.MethodName)) ∈ lw_all := lw_g (lw_at lw_m5 86 rfl) rfl
theorem q1090 : (Jvm.Cond.code ({ cls := "BallotFoundry", name := "seatsByBallots", desc := "(I)I" } : Jvm.MethodName) prog_1_method_50_code (2 : Nat) (Option.some Jvm.ClassFile.FieldType.int)) ∈ lw_all := lw_g (lw_at lw_m5 87 rfl) rfl
theorem q1095 : (Jvm.Cond.instanceMethod ({ cls := "BallotFoundry", name := "signAt", desc := "(II)I" } : Jvm.MethodName)) ∈ lw_all := lw_g (lw_at lw_m5 92 rfl) rfl
theorem q1096 : (Jvm.Cond.selects "BallotFoundry" ({ cls := "BallotFoundry", name := "signAt", desc := "(II)I" } : Jvm.MethodName) ({ cls := "BallotFoundry", name := "signAt", desc := "(II)I" } : Jvm.MethodName)) ∈ lw_all := lw_g (lw_at lw_m5 93 rfl) rfl
theorem q1097 : (Jvm.Cond.code ({ cls := "BallotFoundry", name := "signAt", desc := "(II)I" } : Jvm.MethodName) prog_1_method_52_code (4 : Nat) (Option.some Jvm.ClassFile.FieldType.int)) ∈ lw_all := lw_g (lw_at lw_m5 94 rfl) rfl
theorem q1098 : (Jvm.Cond.methodLink "BallotFoundry" (298 : Nat) ({ cls := "BallotFoundry", name := "notes", desc := "()I" } : Jvm.MethodName)) ∈ lw_all := lw_g (lw_at lw_m5 95 rfl) rfl
theorem q1099 : (Jvm.Cond.classLink "BallotFoundry" (301 : Nat) "BallotFoundry$Note") ∈ lw_all := lw_g (lw_at lw_m5 96 rfl) rfl
theorem q1100 : (Jvm.Cond.methodLink "BallotFoundry" (303 : Nat) ({ cls := "BallotFoundry$Note", name := "toString", desc := "()Ljava/lang/String;" } : Jvm.MethodName)) ∈ lw_all := lw_g (lw_at lw_m5 97 rfl) rfl
theorem q1362 : (Jvm.Cond.methodLink "BallotFoundry" (307 : Nat) ({ cls := "java/lang/String", name := "length", desc := "()I" } : Jvm.MethodName)) ∈ lw_all := lw_g (lw_at lw_m6 119 rfl) rfl
theorem q1363 : (Jvm.Cond.methodLink "BallotFoundry" (312 : Nat) ({ cls := "java/lang/String", name := "charAt", desc := "(I)C" } : Jvm.MethodName)) ∈ lw_all := lw_g (lw_at lw_m6 120 rfl) rfl
theorem q1794 : (Jvm.Cond.castable "BallotFoundry" "java/lang/Object") ∈ lw_tbl := lw_at lw_m8 71 rfl
theorem in_X1 : ∀ w ∈ wsX10, w ∈ lw_all := lw_in wsX10 [124, 126, 128, 130, 132, 134, 136, 138] (by decide +kernel) (by decide +kernel)

/-! BallotFoundry$Station -/
set_option maxRecDepth 100000
def RX3 : String := "BallotFoundry$Station"
def TX3 : u_T := fun k => match k with
  | 0 => ("BallotFoundry$Station", "crossing", "I", true)
  | _ => ("BallotFoundry$Station", "seats", "I", false)
def tyX3 : Nat → FieldType := fun k => match k with
  | 0 => .int
  | _ => .int
abbrev wsX30 : List Cond := u_ws RX3 TX3 2
theorem nmX3 : ∀ a, a < 2 → ∀ b, b < 2 → a ≠ b → (TX3 a).2.1 ≠ (TX3 b).2.1 := by decide +kernel
theorem tyX3_ok : ∀ k, k < 2 → parseFieldDescriptor (TX3 k).2.2.1 = some (tyX3 k) := by decide +kernel
abbrev cX3_init : ByteArray := prog_12_method_1_code
def yX3_init : MethodName := ⟨RX3, "<init>", "(II)V"⟩
def dkwX3_init_0 : List UInt8 := [42, 183, 0, 1, 42, 27, 181, 0, 7, 42, 28, 181, 0, 13, 177]
abbrev dktX3_init_0 : List UInt8 := dkwX3_init_0 ++ []
theorem dksX3_init_0 : cX3_init.data.toList.drop 0 = dktX3_init_0 := by decide +kernel
theorem dX3_init_0 : decode cX3_init 0 = .ok (.aload_n 0, 1) := dk_42 (dk_at dksX3_init_0 0 rfl rfl)
theorem dX3_init_1 : decode cX3_init 1 = .ok (.invokespecial 1, 3) := dk_183 0 1 (dk_at dksX3_init_0 1 rfl rfl)
theorem dX3_init_4 : decode cX3_init 4 = .ok (.aload_n 0, 1) := dk_42 (dk_at dksX3_init_0 4 rfl rfl)
theorem dX3_init_5 : decode cX3_init 5 = .ok (.iload_n 1, 1) := dk_27 (dk_at dksX3_init_0 5 rfl rfl)
theorem dX3_init_6 : decode cX3_init 6 = .ok (.putfield 7, 3) := dk_181 0 7 (dk_at dksX3_init_0 6 rfl rfl)
theorem dX3_init_9 : decode cX3_init 9 = .ok (.aload_n 0, 1) := dk_42 (dk_at dksX3_init_0 9 rfl rfl)
theorem dX3_init_10 : decode cX3_init 10 = .ok (.iload_n 2, 1) := dk_28 (dk_at dksX3_init_0 10 rfl rfl)
theorem dX3_init_11 : decode cX3_init 11 = .ok (.putfield 13, 3) := dk_181 0 13 (dk_at dksX3_init_0 11 rfl rfl)
theorem dX3_init_14 : decode cX3_init 14 = .ok (.return_, 1) := dk_177 (dk_at dksX3_init_0 14 rfl rfl)
theorem q58 : (Jvm.Cond.initialized "BallotFoundry$Station") ∈ lw_all := lw_g (lw_at lw_m1 15 rfl) rfl
theorem q462 : (Jvm.Cond.instantiable "BallotFoundry$Station" (2 : Nat)) ∈ lw_all := lw_g (lw_at lw_m2 179 rfl) rfl
theorem q464 : (Jvm.Cond.instanceMethod ({ cls := "BallotFoundry$Station", name := "<init>", desc := "(II)V" } : Jvm.MethodName)) ∈ lw_all := lw_g (lw_at lw_m2 181 rfl) rfl
theorem q465 : (Jvm.Cond.code ({ cls := "BallotFoundry$Station", name := "<init>", desc := "(II)V" } : Jvm.MethodName) prog_12_method_1_code (3 : Nat) (Option.none : Option Jvm.ClassFile.FieldType)) ∈ lw_all := lw_g (lw_at lw_m2 182 rfl) rfl
theorem q466 : (Jvm.Cond.methodLink "BallotFoundry$Station" (1 : Nat) ({ cls := "java/lang/Object", name := "<init>", desc := "()V" } : Jvm.MethodName)) ∈ lw_all := lw_g (lw_at lw_m2 183 rfl) rfl
theorem q467 : (Jvm.Cond.fieldLink "BallotFoundry$Station" (7 : Nat) "BallotFoundry$Station" "crossing" "I") ∈ lw_all := lw_g (lw_at lw_m2 184 rfl) rfl
theorem q469 : (Jvm.Cond.fieldLink "BallotFoundry$Station" (13 : Nat) "BallotFoundry$Station" "seats" "I") ∈ lw_all := lw_g (lw_at lw_m2 186 rfl) rfl
theorem q471 : (Jvm.Cond.laysFinal "BallotFoundry$Station" "BallotFoundry$Station" "crossing" "I") ∈ lw_all := lw_g (lw_at lw_m2 188 rfl) rfl
theorem q472 : (Jvm.Cond.soleField "BallotFoundry$Station" "crossing") ∈ lw_all := lw_g (lw_at lw_m2 189 rfl) rfl
theorem q473 : (Jvm.Cond.lays "BallotFoundry$Station" "BallotFoundry$Station" "seats" "I") ∈ lw_all := lw_g (lw_at lw_m2 190 rfl) rfl
theorem q474 : (Jvm.Cond.soleField "BallotFoundry$Station" "seats") ∈ lw_all := lw_g (lw_at lw_m2 191 rfl) rfl
theorem q475 : (Jvm.Cond.superclass "BallotFoundry$Station" "java/lang/Object") ∈ lw_all := lw_g (lw_at lw_m2 192 rfl) rfl
theorem q520 : (Jvm.Cond.selects "BallotFoundry$Station" ({ cls := "java/lang/Object", name := "getClass", desc := "()Ljava/lang/Class;" } : Jvm.MethodName) ({ cls := "java/lang/Object", name := "getClass", desc := "()Ljava/lang/Class;" } : Jvm.MethodName)) ∈ lw_all := lw_g (lw_at lw_m2 237 rfl) rfl
theorem q946 : (Jvm.Cond.selects "BallotFoundry$Station" ({ cls := "java/lang/Object", name := "equals", desc := "(Ljava/lang/Object;)Z" } : Jvm.MethodName) ({ cls := "java/lang/Object", name := "equals", desc := "(Ljava/lang/Object;)Z" } : Jvm.MethodName)) ∈ lw_all := lw_g (lw_at lw_m4 183 rfl) rfl
theorem q1801 : (Jvm.Cond.castable "BallotFoundry$Station" "java/lang/Object") ∈ lw_tbl := lw_at lw_m8 78 rfl
theorem in_X3 : ∀ w ∈ wsX30, w ∈ lw_all := lw_in wsX30 [471, 473] (by decide +kernel) (by decide +kernel)

/-! BallotFoundry$Person -/
set_option maxRecDepth 100000
def RX4 : String := "BallotFoundry$Person"
def TX4 : u_T := fun k => match k with
  | 0 => ("BallotFoundry$Person", "number", "I", true)
  | 1 => ("BallotFoundry$Person", "age", "I", true)
  | 2 => ("BallotFoundry$Person", "dwellings", "Ljava/util/List;", true)
  | _ => ("BallotFoundry$Person", "hasDied", "Z", false)
def tyX4 : Nat → FieldType := fun k => match k with
  | 0 => .int
  | 1 => .int
  | 2 => .object "java/util/List"
  | _ => .boolean
abbrev wsX40 : List Cond := u_ws RX4 TX4 4
theorem nmX4 : ∀ a, a < 4 → ∀ b, b < 4 → a ≠ b → (TX4 a).2.1 ≠ (TX4 b).2.1 := by decide +kernel
theorem tyX4_ok : ∀ k, k < 4 → parseFieldDescriptor (TX4 k).2.2.1 = some (tyX4 k) := by decide +kernel
abbrev cX4_init : ByteArray := prog_10_method_2_code
def yX4_init : MethodName := ⟨RX4, "<init>", "(IIII)V"⟩
def dkwX4_init_0 : List UInt8 := [42, 27, 28, 183, 0, 25, 42, 29, 21, 4, 182, 0, 28, 177]
abbrev dktX4_init_0 : List UInt8 := dkwX4_init_0 ++ []
theorem dksX4_init_0 : cX4_init.data.toList.drop 0 = dktX4_init_0 := by decide +kernel
theorem dX4_init_0 : decode cX4_init 0 = .ok (.aload_n 0, 1) := dk_42 (dk_at dksX4_init_0 0 rfl rfl)
theorem dX4_init_1 : decode cX4_init 1 = .ok (.iload_n 1, 1) := dk_27 (dk_at dksX4_init_0 1 rfl rfl)
theorem dX4_init_2 : decode cX4_init 2 = .ok (.iload_n 2, 1) := dk_28 (dk_at dksX4_init_0 2 rfl rfl)
theorem dX4_init_3 : decode cX4_init 3 = .ok (.invokespecial 25, 3) := dk_183 0 25 (dk_at dksX4_init_0 3 rfl rfl)
theorem dX4_init_6 : decode cX4_init 6 = .ok (.aload_n 0, 1) := dk_42 (dk_at dksX4_init_0 6 rfl rfl)
theorem dX4_init_7 : decode cX4_init 7 = .ok (.iload_n 3, 1) := dk_29 (dk_at dksX4_init_0 7 rfl rfl)
theorem dX4_init_8 : decode cX4_init 8 = .ok (.iload 4, 2) := dk_21 4 (dk_at dksX4_init_0 8 rfl rfl)
theorem dX4_init_10 : decode cX4_init 10 = .ok (.invokevirtual 28, 3) := dk_182 0 28 (dk_at dksX4_init_0 10 rfl rfl)
theorem dX4_init_13 : decode cX4_init 13 = .ok (.return_, 1) := dk_177 (dk_at dksX4_init_0 13 rfl rfl)
abbrev cX4_init_2 : ByteArray := prog_10_method_1_code
def yX4_init_2 : MethodName := ⟨RX4, "<init>", "(II)V"⟩
def dkwX4_init_2_1 : List UInt8 := [181, 0, 22, 177]
abbrev dktX4_init_2_1 : List UInt8 := dkwX4_init_2_1 ++ []
def dkwX4_init_2_0 : List UInt8 := [42, 183, 0, 3, 42, 187, 0, 9, 89, 183, 0, 11, 181, 0, 12, 42, 27, 181, 0, 18, 42, 28]
abbrev dktX4_init_2_0 : List UInt8 := dkwX4_init_2_0 ++ dktX4_init_2_1
theorem dksX4_init_2_0 : cX4_init_2.data.toList.drop 0 = dktX4_init_2_0 := by decide +kernel
theorem dksX4_init_2_1 : cX4_init_2.data.toList.drop 22 = dktX4_init_2_1 := dk_seg dksX4_init_2_0 22 rfl rfl
theorem dX4_init_2_0 : decode cX4_init_2 0 = .ok (.aload_n 0, 1) := dk_42 (dk_at dksX4_init_2_0 0 rfl rfl)
theorem dX4_init_2_1 : decode cX4_init_2 1 = .ok (.invokespecial 3, 3) := dk_183 0 3 (dk_at dksX4_init_2_0 1 rfl rfl)
theorem dX4_init_2_4 : decode cX4_init_2 4 = .ok (.aload_n 0, 1) := dk_42 (dk_at dksX4_init_2_0 4 rfl rfl)
theorem dX4_init_2_5 : decode cX4_init_2 5 = .ok (.new 9, 3) := dk_187 0 9 (dk_at dksX4_init_2_0 5 rfl rfl)
theorem dX4_init_2_8 : decode cX4_init_2 8 = .ok (.dup, 1) := dk_89 (dk_at dksX4_init_2_0 8 rfl rfl)
theorem dX4_init_2_9 : decode cX4_init_2 9 = .ok (.invokespecial 11, 3) := dk_183 0 11 (dk_at dksX4_init_2_0 9 rfl rfl)
theorem dX4_init_2_12 : decode cX4_init_2 12 = .ok (.putfield 12, 3) := dk_181 0 12 (dk_at dksX4_init_2_0 12 rfl rfl)
theorem dX4_init_2_15 : decode cX4_init_2 15 = .ok (.aload_n 0, 1) := dk_42 (dk_at dksX4_init_2_0 15 rfl rfl)
theorem dX4_init_2_16 : decode cX4_init_2 16 = .ok (.iload_n 1, 1) := dk_27 (dk_at dksX4_init_2_0 16 rfl rfl)
theorem dX4_init_2_17 : decode cX4_init_2 17 = .ok (.putfield 18, 3) := dk_181 0 18 (dk_at dksX4_init_2_0 17 rfl rfl)
theorem dX4_init_2_20 : decode cX4_init_2 20 = .ok (.aload_n 0, 1) := dk_42 (dk_at dksX4_init_2_0 20 rfl rfl)
theorem dX4_init_2_21 : decode cX4_init_2 21 = .ok (.iload_n 2, 1) := dk_28 (dk_at dksX4_init_2_0 21 rfl rfl)
theorem dX4_init_2_22 : decode cX4_init_2 22 = .ok (.putfield 22, 3) := dk_181 0 22 (dk_at dksX4_init_2_1 0 rfl rfl)
theorem dX4_init_2_25 : decode cX4_init_2 25 = .ok (.return_, 1) := dk_177 (dk_at dksX4_init_2_1 3 rfl rfl)
abbrev cX4_come : ByteArray := prog_10_method_3_code
def yX4_come : MethodName := ⟨RX4, "come", "(II)V"⟩
def dkwX4_come_0 : List UInt8 := [42, 180, 0, 12, 187, 0, 31, 89, 27, 28, 183, 0, 33, 185, 0, 34, 2, 0, 87, 177]
abbrev dktX4_come_0 : List UInt8 := dkwX4_come_0 ++ []
theorem dksX4_come_0 : cX4_come.data.toList.drop 0 = dktX4_come_0 := by decide +kernel
theorem dX4_come_0 : decode cX4_come 0 = .ok (.aload_n 0, 1) := dk_42 (dk_at dksX4_come_0 0 rfl rfl)
theorem dX4_come_1 : decode cX4_come 1 = .ok (.getfield 12, 3) := dk_180 0 12 (dk_at dksX4_come_0 1 rfl rfl)
theorem dX4_come_4 : decode cX4_come 4 = .ok (.new 31, 3) := dk_187 0 31 (dk_at dksX4_come_0 4 rfl rfl)
theorem dX4_come_7 : decode cX4_come 7 = .ok (.dup, 1) := dk_89 (dk_at dksX4_come_0 7 rfl rfl)
theorem dX4_come_8 : decode cX4_come 8 = .ok (.iload_n 1, 1) := dk_27 (dk_at dksX4_come_0 8 rfl rfl)
theorem dX4_come_9 : decode cX4_come 9 = .ok (.iload_n 2, 1) := dk_28 (dk_at dksX4_come_0 9 rfl rfl)
theorem dX4_come_10 : decode cX4_come 10 = .ok (.invokespecial 33, 3) := dk_183 0 33 (dk_at dksX4_come_0 10 rfl rfl)
theorem dX4_come_13 : decode cX4_come 13 = .ok (.invokeinterface 34 2, 5) := by decide +kernel
theorem dX4_come_18 : decode cX4_come 18 = .ok (.pop, 1) := dk_87 (dk_at dksX4_come_0 18 rfl rfl)
theorem dX4_come_19 : decode cX4_come 19 = .ok (.return_, 1) := dk_177 (dk_at dksX4_come_0 19 rfl rfl)
abbrev cX4_dwells : ByteArray := prog_10_method_5_code
def yX4_dwells : MethodName := ⟨RX4, "dwells", "()I"⟩
def dkwX4_dwells_1 : List UInt8 := [180, 0, 51, 172]
abbrev dktX4_dwells_1 : List UInt8 := dkwX4_dwells_1 ++ []
def dkwX4_dwells_0 : List UInt8 := [42, 180, 0, 12, 42, 180, 0, 12, 185, 0, 40, 1, 0, 4, 100, 185, 0, 44, 2, 0, 192, 0, 31]
abbrev dktX4_dwells_0 : List UInt8 := dkwX4_dwells_0 ++ dktX4_dwells_1
theorem dksX4_dwells_0 : cX4_dwells.data.toList.drop 0 = dktX4_dwells_0 := by decide +kernel
theorem dksX4_dwells_1 : cX4_dwells.data.toList.drop 23 = dktX4_dwells_1 := dk_seg dksX4_dwells_0 23 rfl rfl
theorem dX4_dwells_0 : decode cX4_dwells 0 = .ok (.aload_n 0, 1) := dk_42 (dk_at dksX4_dwells_0 0 rfl rfl)
theorem dX4_dwells_1 : decode cX4_dwells 1 = .ok (.getfield 12, 3) := dk_180 0 12 (dk_at dksX4_dwells_0 1 rfl rfl)
theorem dX4_dwells_4 : decode cX4_dwells 4 = .ok (.aload_n 0, 1) := dk_42 (dk_at dksX4_dwells_0 4 rfl rfl)
theorem dX4_dwells_5 : decode cX4_dwells 5 = .ok (.getfield 12, 3) := dk_180 0 12 (dk_at dksX4_dwells_0 5 rfl rfl)
theorem dX4_dwells_8 : decode cX4_dwells 8 = .ok (.invokeinterface 40 1, 5) := by decide +kernel
theorem dX4_dwells_13 : decode cX4_dwells 13 = .ok (.iconst 1, 1) := dk_4 (dk_at dksX4_dwells_0 13 rfl rfl)
theorem dX4_dwells_14 : decode cX4_dwells 14 = .ok (.isub, 1) := dk_100 (dk_at dksX4_dwells_0 14 rfl rfl)
theorem dX4_dwells_15 : decode cX4_dwells 15 = .ok (.invokeinterface 44 2, 5) := by decide +kernel
theorem dX4_dwells_20 : decode cX4_dwells 20 = .ok (.checkcast 31, 3) := dk_192 0 31 (dk_at dksX4_dwells_0 20 rfl rfl)
theorem dX4_dwells_23 : decode cX4_dwells 23 = .ok (.getfield 51, 3) := dk_180 0 51 (dk_at dksX4_dwells_1 0 rfl rfl)
theorem dX4_dwells_26 : decode cX4_dwells 26 = .ok (.ireturn, 1) := dk_172 (dk_at dksX4_dwells_1 3 rfl rfl)
abbrev cX4_dwells_2 : ByteArray := prog_10_method_4_code
def yX4_dwells_2 : MethodName := ⟨RX4, "dwells", "(I)I"⟩
def dkwX4_dwells_2_2 : List UInt8 := [185, 0, 44, 2, 0, 192, 0, 31, 180, 0, 51, 167, 0, 4, 28, 61, 132, 3, 1, 167, 255, 199, 28, 172]
abbrev dktX4_dwells_2_2 : List UInt8 := dkwX4_dwells_2_2 ++ []
def dkwX4_dwells_2_1 : List UInt8 := [185, 0, 44, 2, 0, 192, 0, 31, 180, 0, 48, 27, 163, 0, 22, 42, 180, 0, 12, 29]
abbrev dktX4_dwells_2_1 : List UInt8 := dkwX4_dwells_2_1 ++ dktX4_dwells_2_2
def dkwX4_dwells_2_0 : List UInt8 := [2, 61, 3, 62, 29, 42, 180, 0, 12, 185, 0, 40, 1, 0, 162, 0, 50, 42, 180, 0, 12, 29]
abbrev dktX4_dwells_2_0 : List UInt8 := dkwX4_dwells_2_0 ++ dktX4_dwells_2_1
theorem dksX4_dwells_2_0 : cX4_dwells_2.data.toList.drop 0 = dktX4_dwells_2_0 := by decide +kernel
theorem dksX4_dwells_2_1 : cX4_dwells_2.data.toList.drop 22 = dktX4_dwells_2_1 := dk_seg dksX4_dwells_2_0 22 rfl rfl
theorem dksX4_dwells_2_2 : cX4_dwells_2.data.toList.drop 42 = dktX4_dwells_2_2 := dk_seg dksX4_dwells_2_1 20 rfl rfl
theorem dX4_dwells_2_0 : decode cX4_dwells_2 0 = .ok (.iconst (-1), 1) := dk_2 (dk_at dksX4_dwells_2_0 0 rfl rfl)
theorem dX4_dwells_2_1 : decode cX4_dwells_2 1 = .ok (.istore_n 2, 1) := dk_61 (dk_at dksX4_dwells_2_0 1 rfl rfl)
theorem dX4_dwells_2_2 : decode cX4_dwells_2 2 = .ok (.iconst 0, 1) := dk_3 (dk_at dksX4_dwells_2_0 2 rfl rfl)
theorem dX4_dwells_2_3 : decode cX4_dwells_2 3 = .ok (.istore_n 3, 1) := dk_62 (dk_at dksX4_dwells_2_0 3 rfl rfl)
theorem dX4_dwells_2_4 : decode cX4_dwells_2 4 = .ok (.iload_n 3, 1) := dk_29 (dk_at dksX4_dwells_2_0 4 rfl rfl)
theorem dX4_dwells_2_5 : decode cX4_dwells_2 5 = .ok (.aload_n 0, 1) := dk_42 (dk_at dksX4_dwells_2_0 5 rfl rfl)
theorem dX4_dwells_2_6 : decode cX4_dwells_2 6 = .ok (.getfield 12, 3) := dk_180 0 12 (dk_at dksX4_dwells_2_0 6 rfl rfl)
theorem dX4_dwells_2_9 : decode cX4_dwells_2 9 = .ok (.invokeinterface 40 1, 5) := by decide +kernel
theorem dX4_dwells_2_14 : decode cX4_dwells_2 14 = .ok (.if_icmp .ge 50, 3) := dk_162 0 50 (dk_at dksX4_dwells_2_0 14 rfl rfl)
theorem dX4_dwells_2_17 : decode cX4_dwells_2 17 = .ok (.aload_n 0, 1) := dk_42 (dk_at dksX4_dwells_2_0 17 rfl rfl)
theorem dX4_dwells_2_18 : decode cX4_dwells_2 18 = .ok (.getfield 12, 3) := dk_180 0 12 (dk_at dksX4_dwells_2_0 18 rfl rfl)
theorem dX4_dwells_2_21 : decode cX4_dwells_2 21 = .ok (.iload_n 3, 1) := dk_29 (dk_at dksX4_dwells_2_0 21 rfl rfl)
theorem dX4_dwells_2_22 : decode cX4_dwells_2 22 = .ok (.invokeinterface 44 2, 5) := by decide +kernel
theorem dX4_dwells_2_27 : decode cX4_dwells_2 27 = .ok (.checkcast 31, 3) := dk_192 0 31 (dk_at dksX4_dwells_2_1 5 rfl rfl)
theorem dX4_dwells_2_30 : decode cX4_dwells_2 30 = .ok (.getfield 48, 3) := dk_180 0 48 (dk_at dksX4_dwells_2_1 8 rfl rfl)
theorem dX4_dwells_2_33 : decode cX4_dwells_2 33 = .ok (.iload_n 1, 1) := dk_27 (dk_at dksX4_dwells_2_1 11 rfl rfl)
theorem dX4_dwells_2_34 : decode cX4_dwells_2 34 = .ok (.if_icmp .gt 22, 3) := dk_163 0 22 (dk_at dksX4_dwells_2_1 12 rfl rfl)
theorem dX4_dwells_2_37 : decode cX4_dwells_2 37 = .ok (.aload_n 0, 1) := dk_42 (dk_at dksX4_dwells_2_1 15 rfl rfl)
theorem dX4_dwells_2_38 : decode cX4_dwells_2 38 = .ok (.getfield 12, 3) := dk_180 0 12 (dk_at dksX4_dwells_2_1 16 rfl rfl)
theorem dX4_dwells_2_41 : decode cX4_dwells_2 41 = .ok (.iload_n 3, 1) := dk_29 (dk_at dksX4_dwells_2_1 19 rfl rfl)
theorem dX4_dwells_2_42 : decode cX4_dwells_2 42 = .ok (.invokeinterface 44 2, 5) := by decide +kernel
theorem dX4_dwells_2_47 : decode cX4_dwells_2 47 = .ok (.checkcast 31, 3) := dk_192 0 31 (dk_at dksX4_dwells_2_2 5 rfl rfl)
theorem dX4_dwells_2_50 : decode cX4_dwells_2 50 = .ok (.getfield 51, 3) := dk_180 0 51 (dk_at dksX4_dwells_2_2 8 rfl rfl)
theorem dX4_dwells_2_53 : decode cX4_dwells_2 53 = .ok (.goto 4, 3) := dk_167 0 4 (dk_at dksX4_dwells_2_2 11 rfl rfl)
theorem dX4_dwells_2_56 : decode cX4_dwells_2 56 = .ok (.iload_n 2, 1) := dk_28 (dk_at dksX4_dwells_2_2 14 rfl rfl)
theorem dX4_dwells_2_57 : decode cX4_dwells_2 57 = .ok (.istore_n 2, 1) := dk_61 (dk_at dksX4_dwells_2_2 15 rfl rfl)
theorem dX4_dwells_2_58 : decode cX4_dwells_2 58 = .ok (.iinc 3 1, 3) := dk_132 3 1 (dk_at dksX4_dwells_2_2 16 rfl rfl)
theorem dX4_dwells_2_61 : decode cX4_dwells_2 61 = .ok (.goto (-57), 3) := dk_167 255 199 (dk_at dksX4_dwells_2_2 19 rfl rfl)
theorem dX4_dwells_2_64 : decode cX4_dwells_2 64 = .ok (.iload_n 2, 1) := dk_28 (dk_at dksX4_dwells_2_2 22 rfl rfl)
theorem dX4_dwells_2_65 : decode cX4_dwells_2 65 = .ok (.ireturn, 1) := dk_172 (dk_at dksX4_dwells_2_2 23 rfl rfl)
theorem q64 : (Jvm.Cond.initialized "BallotFoundry$Person") ∈ lw_all := lw_g (lw_at lw_m1 21 rfl) rfl
theorem q519 : (Jvm.Cond.selects "BallotFoundry$Person" ({ cls := "java/lang/Object", name := "getClass", desc := "()Ljava/lang/Class;" } : Jvm.MethodName) ({ cls := "java/lang/Object", name := "getClass", desc := "()Ljava/lang/Class;" } : Jvm.MethodName)) ∈ lw_all := lw_g (lw_at lw_m2 236 rfl) rfl
theorem q560 : (Jvm.Cond.instantiable "BallotFoundry$Person" (4 : Nat)) ∈ lw_all := lw_g (lw_at lw_m3 37 rfl) rfl
theorem q562 : (Jvm.Cond.instanceMethod ({ cls := "BallotFoundry$Person", name := "<init>", desc := "(IIII)V" } : Jvm.MethodName)) ∈ lw_all := lw_g (lw_at lw_m3 39 rfl) rfl
theorem q563 : (Jvm.Cond.code ({ cls := "BallotFoundry$Person", name := "<init>", desc := "(IIII)V" } : Jvm.MethodName) prog_10_method_2_code (5 : Nat) (Option.none : Option Jvm.ClassFile.FieldType)) ∈ lw_all := lw_g (lw_at lw_m3 40 rfl) rfl
theorem q564 : (Jvm.Cond.methodLink "BallotFoundry$Person" (25 : Nat) ({ cls := "BallotFoundry$Person", name := "<init>", desc := "(II)V" } : Jvm.MethodName)) ∈ lw_all := lw_g (lw_at lw_m3 41 rfl) rfl
theorem q565 : (Jvm.Cond.instanceMethod ({ cls := "BallotFoundry$Person", name := "<init>", desc := "(II)V" } : Jvm.MethodName)) ∈ lw_all := lw_g (lw_at lw_m3 42 rfl) rfl
theorem q566 : (Jvm.Cond.code ({ cls := "BallotFoundry$Person", name := "<init>", desc := "(II)V" } : Jvm.MethodName) prog_10_method_1_code (3 : Nat) (Option.none : Option Jvm.ClassFile.FieldType)) ∈ lw_all := lw_g (lw_at lw_m3 43 rfl) rfl
theorem q567 : (Jvm.Cond.methodLink "BallotFoundry$Person" (3 : Nat) ({ cls := "java/lang/Object", name := "<init>", desc := "()V" } : Jvm.MethodName)) ∈ lw_all := lw_g (lw_at lw_m3 44 rfl) rfl
theorem q568 : (Jvm.Cond.classLink "BallotFoundry$Person" (9 : Nat) "java/util/ArrayList") ∈ lw_all := lw_g (lw_at lw_m3 45 rfl) rfl
theorem q569 : (Jvm.Cond.methodLink "BallotFoundry$Person" (11 : Nat) ({ cls := "java/util/ArrayList", name := "<init>", desc := "()V" } : Jvm.MethodName)) ∈ lw_all := lw_g (lw_at lw_m3 46 rfl) rfl
theorem q570 : (Jvm.Cond.fieldLink "BallotFoundry$Person" (18 : Nat) "BallotFoundry$Person" "number" "I") ∈ lw_all := lw_g (lw_at lw_m3 47 rfl) rfl
theorem q573 : (Jvm.Cond.fieldLink "BallotFoundry$Person" (22 : Nat) "BallotFoundry$Person" "age" "I") ∈ lw_all := lw_g (lw_at lw_m3 50 rfl) rfl
theorem q575 : (Jvm.Cond.fieldLink "BallotFoundry$Person" (12 : Nat) "BallotFoundry$Person" "dwellings" "Ljava/util/List;") ∈ lw_all := lw_g (lw_at lw_m3 52 rfl) rfl
theorem q577 : (Jvm.Cond.laysFinal "BallotFoundry$Person" "BallotFoundry$Person" "number" "I") ∈ lw_all := lw_g (lw_at lw_m3 54 rfl) rfl
theorem q578 : (Jvm.Cond.soleField "BallotFoundry$Person" "number") ∈ lw_all := lw_g (lw_at lw_m3 55 rfl) rfl
theorem q579 : (Jvm.Cond.laysFinal "BallotFoundry$Person" "BallotFoundry$Person" "age" "I") ∈ lw_all := lw_g (lw_at lw_m3 56 rfl) rfl
theorem q580 : (Jvm.Cond.soleField "BallotFoundry$Person" "age") ∈ lw_all := lw_g (lw_at lw_m3 57 rfl) rfl
theorem q581 : (Jvm.Cond.laysFinal "BallotFoundry$Person" "BallotFoundry$Person" "dwellings" "Ljava/util/List;") ∈ lw_all := lw_g (lw_at lw_m3 58 rfl) rfl
theorem q582 : (Jvm.Cond.soleField "BallotFoundry$Person" "dwellings") ∈ lw_all := lw_g (lw_at lw_m3 59 rfl) rfl
theorem q583 : (Jvm.Cond.lays "BallotFoundry$Person" "BallotFoundry$Person" "hasDied" "Z") ∈ lw_all := lw_g (lw_at lw_m3 60 rfl) rfl
theorem q584 : (Jvm.Cond.soleField "BallotFoundry$Person" "hasDied") ∈ lw_all := lw_g (lw_at lw_m3 61 rfl) rfl
theorem q585 : (Jvm.Cond.superclass "BallotFoundry$Person" "java/lang/Object") ∈ lw_all := lw_g (lw_at lw_m3 62 rfl) rfl
theorem q586 : (Jvm.Cond.methodLink "BallotFoundry$Person" (28 : Nat) ({ cls := "BallotFoundry$Person", name := "come", desc := "(II)V" } : Jvm.MethodName)) ∈ lw_all := lw_g (lw_at lw_m3 63 rfl) rfl
theorem q587 : (Jvm.Cond.instanceMethod ({ cls := "BallotFoundry$Person", name := "come", desc := "(II)V" } : Jvm.MethodName)) ∈ lw_all := lw_g (lw_at lw_m3 64 rfl) rfl
theorem q588 : (Jvm.Cond.selects "BallotFoundry$Person" ({ cls := "BallotFoundry$Person", name := "come", desc := "(II)V" } : Jvm.MethodName) ({ cls := "BallotFoundry$Person", name := "come", desc := "(II)V" } : Jvm.MethodName)) ∈ lw_all := lw_g (lw_at lw_m3 65 rfl) rfl
theorem q589 : (Jvm.Cond.code ({ cls := "BallotFoundry$Person", name := "come", desc := "(II)V" } : Jvm.MethodName) prog_10_method_3_code (3 : Nat) (Option.none : Option Jvm.ClassFile.FieldType)) ∈ lw_all := lw_g (lw_at lw_m3 66 rfl) rfl
theorem q590 : (Jvm.Cond.classLink "BallotFoundry$Person" (31 : Nat) "BallotFoundry$Dwelling") ∈ lw_all := lw_g (lw_at lw_m3 67 rfl) rfl
theorem q592 : (Jvm.Cond.methodLink "BallotFoundry$Person" (33 : Nat) ({ cls := "BallotFoundry$Dwelling", name := "<init>", desc := "(II)V" } : Jvm.MethodName)) ∈ lw_all := lw_g (lw_at lw_m3 69 rfl) rfl
theorem q597 : (Jvm.Cond.fieldLink "BallotFoundry$Person" (48 : Nat) "BallotFoundry$Dwelling" "day" "I") ∈ lw_all := lw_g (lw_at lw_m3 74 rfl) rfl
theorem q599 : (Jvm.Cond.fieldLink "BallotFoundry$Person" (51 : Nat) "BallotFoundry$Dwelling" "crossing" "I") ∈ lw_all := lw_g (lw_at lw_m3 76 rfl) rfl
theorem q605 : (Jvm.Cond.interfaceEntry "BallotFoundry$Person" (34 : Nat)) ∈ lw_tbl := lw_at lw_m3 82 rfl
theorem q606 : (Jvm.Cond.methodLink "BallotFoundry$Person" (34 : Nat) ({ cls := "java/util/List", name := "add", desc := "(Ljava/lang/Object;)Z" } : Jvm.MethodName)) ∈ lw_all := lw_g (lw_at lw_m3 83 rfl) rfl
theorem q619 : (Jvm.Cond.instanceMethod ({ cls := "BallotFoundry$Person", name := "dwells", desc := "()I" } : Jvm.MethodName)) ∈ lw_all := lw_g (lw_at lw_m3 96 rfl) rfl
theorem q620 : (Jvm.Cond.selects "BallotFoundry$Person" ({ cls := "BallotFoundry$Person", name := "dwells", desc := "()I" } : Jvm.MethodName) ({ cls := "BallotFoundry$Person", name := "dwells", desc := "()I" } : Jvm.MethodName)) ∈ lw_all := lw_g (lw_at lw_m3 97 rfl) rfl
theorem q621 : (Jvm.Cond.code ({ cls := "BallotFoundry$Person", name := "dwells", desc := "()I" } : Jvm.MethodName) prog_10_method_5_code (1 : Nat) (Option.some Jvm.ClassFile.FieldType.int)) ∈ lw_all := lw_g (lw_at lw_m3 98 rfl) rfl
theorem q622 : (Jvm.Cond.interfaceEntry "BallotFoundry$Person" (40 : Nat)) ∈ lw_tbl := lw_at lw_m3 99 rfl
theorem q623 : (Jvm.Cond.methodLink "BallotFoundry$Person" (40 : Nat) ({ cls := "java/util/List", name := "size", desc := "()I" } : Jvm.MethodName)) ∈ lw_all := lw_g (lw_at lw_m3 100 rfl) rfl
theorem q624 : (Jvm.Cond.interfaceEntry "BallotFoundry$Person" (44 : Nat)) ∈ lw_tbl := lw_at lw_m3 101 rfl
theorem q625 : (Jvm.Cond.methodLink "BallotFoundry$Person" (44 : Nat) ({ cls := "java/util/List", name := "get", desc := "(I)Ljava/lang/Object;" } : Jvm.MethodName)) ∈ lw_all := lw_g (lw_at lw_m3 102 rfl) rfl
theorem q685 : (Jvm.Cond.instanceMethod ({ cls := "BallotFoundry$Person", name := "dwells", desc := "(I)I" } : Jvm.MethodName)) ∈ lw_all := lw_g (lw_at lw_m3 162 rfl) rfl
theorem q686 : (Jvm.Cond.selects "BallotFoundry$Person" ({ cls := "BallotFoundry$Person", name := "dwells", desc := "(I)I" } : Jvm.MethodName) ({ cls := "BallotFoundry$Person", name := "dwells", desc := "(I)I" } : Jvm.MethodName)) ∈ lw_all := lw_g (lw_at lw_m3 163 rfl) rfl
theorem q687 : (Jvm.Cond.code ({ cls := "BallotFoundry$Person", name := "dwells", desc := "(I)I" } : Jvm.MethodName) prog_10_method_4_code (4 : Nat) (Option.some Jvm.ClassFile.FieldType.int)) ∈ lw_all := lw_g (lw_at lw_m3 164 rfl) rfl
theorem q945 : (Jvm.Cond.selects "BallotFoundry$Person" ({ cls := "java/lang/Object", name := "equals", desc := "(Ljava/lang/Object;)Z" } : Jvm.MethodName) ({ cls := "java/lang/Object", name := "equals", desc := "(Ljava/lang/Object;)Z" } : Jvm.MethodName)) ∈ lw_all := lw_g (lw_at lw_m4 182 rfl) rfl
theorem q1802 : (Jvm.Cond.castable "BallotFoundry$Person" "java/lang/Object") ∈ lw_tbl := lw_at lw_m8 79 rfl
theorem in_X4 : ∀ w ∈ wsX40, w ∈ lw_all := lw_in wsX40 [577, 579, 581, 583] (by decide +kernel) (by decide +kernel)

/-! BallotFoundry$Dwelling -/
set_option maxRecDepth 100000
def RX5 : String := "BallotFoundry$Dwelling"
def TX5 : u_T := fun k => match k with
  | 0 => ("BallotFoundry$Dwelling", "day", "I", true)
  | _ => ("BallotFoundry$Dwelling", "crossing", "I", true)
def tyX5 : Nat → FieldType := fun k => match k with
  | 0 => .int
  | _ => .int
abbrev wsX50 : List Cond := u_ws RX5 TX5 2
theorem nmX5 : ∀ a, a < 2 → ∀ b, b < 2 → a ≠ b → (TX5 a).2.1 ≠ (TX5 b).2.1 := by decide +kernel
theorem tyX5_ok : ∀ k, k < 2 → parseFieldDescriptor (TX5 k).2.2.1 = some (tyX5 k) := by decide +kernel
abbrev cX5_init : ByteArray := prog_4_method_1_code
def yX5_init : MethodName := ⟨RX5, "<init>", "(II)V"⟩
def dkwX5_init_0 : List UInt8 := [42, 183, 0, 1, 42, 27, 181, 0, 7, 42, 28, 181, 0, 13, 177]
abbrev dktX5_init_0 : List UInt8 := dkwX5_init_0 ++ []
theorem dksX5_init_0 : cX5_init.data.toList.drop 0 = dktX5_init_0 := by decide +kernel
theorem dX5_init_0 : decode cX5_init 0 = .ok (.aload_n 0, 1) := dk_42 (dk_at dksX5_init_0 0 rfl rfl)
theorem dX5_init_1 : decode cX5_init 1 = .ok (.invokespecial 1, 3) := dk_183 0 1 (dk_at dksX5_init_0 1 rfl rfl)
theorem dX5_init_4 : decode cX5_init 4 = .ok (.aload_n 0, 1) := dk_42 (dk_at dksX5_init_0 4 rfl rfl)
theorem dX5_init_5 : decode cX5_init 5 = .ok (.iload_n 1, 1) := dk_27 (dk_at dksX5_init_0 5 rfl rfl)
theorem dX5_init_6 : decode cX5_init 6 = .ok (.putfield 7, 3) := dk_181 0 7 (dk_at dksX5_init_0 6 rfl rfl)
theorem dX5_init_9 : decode cX5_init 9 = .ok (.aload_n 0, 1) := dk_42 (dk_at dksX5_init_0 9 rfl rfl)
theorem dX5_init_10 : decode cX5_init 10 = .ok (.iload_n 2, 1) := dk_28 (dk_at dksX5_init_0 10 rfl rfl)
theorem dX5_init_11 : decode cX5_init 11 = .ok (.putfield 13, 3) := dk_181 0 13 (dk_at dksX5_init_0 11 rfl rfl)
theorem dX5_init_14 : decode cX5_init 14 = .ok (.return_, 1) := dk_177 (dk_at dksX5_init_0 14 rfl rfl)
theorem q65 : (Jvm.Cond.initialized "BallotFoundry$Dwelling") ∈ lw_all := lw_g (lw_at lw_m1 22 rfl) rfl
theorem q514 : (Jvm.Cond.selects "BallotFoundry$Dwelling" ({ cls := "java/lang/Object", name := "getClass", desc := "()Ljava/lang/Class;" } : Jvm.MethodName) ({ cls := "java/lang/Object", name := "getClass", desc := "()Ljava/lang/Class;" } : Jvm.MethodName)) ∈ lw_all := lw_g (lw_at lw_m2 231 rfl) rfl
theorem q591 : (Jvm.Cond.instantiable "BallotFoundry$Dwelling" (2 : Nat)) ∈ lw_all := lw_g (lw_at lw_m3 68 rfl) rfl
theorem q593 : (Jvm.Cond.instanceMethod ({ cls := "BallotFoundry$Dwelling", name := "<init>", desc := "(II)V" } : Jvm.MethodName)) ∈ lw_all := lw_g (lw_at lw_m3 70 rfl) rfl
theorem q594 : (Jvm.Cond.code ({ cls := "BallotFoundry$Dwelling", name := "<init>", desc := "(II)V" } : Jvm.MethodName) prog_4_method_1_code (3 : Nat) (Option.none : Option Jvm.ClassFile.FieldType)) ∈ lw_all := lw_g (lw_at lw_m3 71 rfl) rfl
theorem q595 : (Jvm.Cond.methodLink "BallotFoundry$Dwelling" (1 : Nat) ({ cls := "java/lang/Object", name := "<init>", desc := "()V" } : Jvm.MethodName)) ∈ lw_all := lw_g (lw_at lw_m3 72 rfl) rfl
theorem q596 : (Jvm.Cond.fieldLink "BallotFoundry$Dwelling" (7 : Nat) "BallotFoundry$Dwelling" "day" "I") ∈ lw_all := lw_g (lw_at lw_m3 73 rfl) rfl
theorem q598 : (Jvm.Cond.fieldLink "BallotFoundry$Dwelling" (13 : Nat) "BallotFoundry$Dwelling" "crossing" "I") ∈ lw_all := lw_g (lw_at lw_m3 75 rfl) rfl
theorem q600 : (Jvm.Cond.laysFinal "BallotFoundry$Dwelling" "BallotFoundry$Dwelling" "day" "I") ∈ lw_all := lw_g (lw_at lw_m3 77 rfl) rfl
theorem q601 : (Jvm.Cond.soleField "BallotFoundry$Dwelling" "day") ∈ lw_all := lw_g (lw_at lw_m3 78 rfl) rfl
theorem q602 : (Jvm.Cond.laysFinal "BallotFoundry$Dwelling" "BallotFoundry$Dwelling" "crossing" "I") ∈ lw_all := lw_g (lw_at lw_m3 79 rfl) rfl
theorem q603 : (Jvm.Cond.soleField "BallotFoundry$Dwelling" "crossing") ∈ lw_all := lw_g (lw_at lw_m3 80 rfl) rfl
theorem q604 : (Jvm.Cond.superclass "BallotFoundry$Dwelling" "java/lang/Object") ∈ lw_all := lw_g (lw_at lw_m3 81 rfl) rfl
theorem q940 : (Jvm.Cond.selects "BallotFoundry$Dwelling" ({ cls := "java/lang/Object", name := "equals", desc := "(Ljava/lang/Object;)Z" } : Jvm.MethodName) ({ cls := "java/lang/Object", name := "equals", desc := "(Ljava/lang/Object;)Z" } : Jvm.MethodName)) ∈ lw_all := lw_g (lw_at lw_m4 177 rfl) rfl
theorem q1803 : (Jvm.Cond.castable "BallotFoundry$Dwelling" "java/lang/Object") ∈ lw_tbl := lw_at lw_m8 80 rfl
theorem in_X5 : ∀ w ∈ wsX50, w ∈ lw_all := lw_in wsX50 [600, 602] (by decide +kernel) (by decide +kernel)

/-! BallotFoundry$Note -/
set_option maxRecDepth 100000
def RX6 : String := "BallotFoundry$Note"
abbrev cX6_init : ByteArray := prog_9_method_1_code
def yX6_init : MethodName := ⟨RX6, "<init>", "(I)V"⟩
def dkwX6_init_0 : List UInt8 := [42, 183, 0, 1, 42, 27, 181, 0, 7, 177]
abbrev dktX6_init_0 : List UInt8 := dkwX6_init_0 ++ []
theorem dksX6_init_0 : cX6_init.data.toList.drop 0 = dktX6_init_0 := by decide +kernel
theorem dX6_init_0 : decode cX6_init 0 = .ok (.aload_n 0, 1) := dk_42 (dk_at dksX6_init_0 0 rfl rfl)
theorem dX6_init_1 : decode cX6_init 1 = .ok (.invokespecial 1, 3) := dk_183 0 1 (dk_at dksX6_init_0 1 rfl rfl)
theorem dX6_init_4 : decode cX6_init 4 = .ok (.aload_n 0, 1) := dk_42 (dk_at dksX6_init_0 4 rfl rfl)
theorem dX6_init_5 : decode cX6_init 5 = .ok (.iload_n 1, 1) := dk_27 (dk_at dksX6_init_0 5 rfl rfl)
theorem dX6_init_6 : decode cX6_init 6 = .ok (.putfield 7, 3) := dk_181 0 7 (dk_at dksX6_init_0 6 rfl rfl)
theorem dX6_init_9 : decode cX6_init 9 = .ok (.return_, 1) := dk_177 (dk_at dksX6_init_0 9 rfl rfl)
abbrev cX6_toString : ByteArray := prog_9_method_2_code
def yX6_toString : MethodName := ⟨RX6, "toString", "()Ljava/lang/String;"⟩
def dkwX6_toString_0 : List UInt8 := [187, 0, 13, 89, 183, 0, 15, 18, 16, 182, 0, 18, 42, 180, 0, 7, 182, 0, 22, 182, 0, 25, 176]
abbrev dktX6_toString_0 : List UInt8 := dkwX6_toString_0 ++ []
theorem dksX6_toString_0 : cX6_toString.data.toList.drop 0 = dktX6_toString_0 := by decide +kernel
theorem dX6_toString_0 : decode cX6_toString 0 = .ok (.new 13, 3) := dk_187 0 13 (dk_at dksX6_toString_0 0 rfl rfl)
theorem dX6_toString_3 : decode cX6_toString 3 = .ok (.dup, 1) := dk_89 (dk_at dksX6_toString_0 3 rfl rfl)
theorem dX6_toString_4 : decode cX6_toString 4 = .ok (.invokespecial 15, 3) := dk_183 0 15 (dk_at dksX6_toString_0 4 rfl rfl)
theorem dX6_toString_7 : decode cX6_toString 7 = .ok (.ldc 16, 2) := dk_18 16 (dk_at dksX6_toString_0 7 rfl rfl)
theorem dX6_toString_9 : decode cX6_toString 9 = .ok (.invokevirtual 18, 3) := dk_182 0 18 (dk_at dksX6_toString_0 9 rfl rfl)
theorem dX6_toString_12 : decode cX6_toString 12 = .ok (.aload_n 0, 1) := dk_42 (dk_at dksX6_toString_0 12 rfl rfl)
theorem dX6_toString_13 : decode cX6_toString 13 = .ok (.getfield 7, 3) := dk_180 0 7 (dk_at dksX6_toString_0 13 rfl rfl)
theorem dX6_toString_16 : decode cX6_toString 16 = .ok (.invokevirtual 22, 3) := dk_182 0 22 (dk_at dksX6_toString_0 16 rfl rfl)
theorem dX6_toString_19 : decode cX6_toString 19 = .ok (.invokevirtual 25, 3) := dk_182 0 25 (dk_at dksX6_toString_0 19 rfl rfl)
theorem dX6_toString_22 : decode cX6_toString 22 = .ok (.areturn, 1) := dk_176 (dk_at dksX6_toString_0 22 rfl rfl)
theorem q66 : (Jvm.Cond.initialized "BallotFoundry$Note") ∈ lw_all := lw_g (lw_at lw_m1 23 rfl) rfl
theorem q660 : (Jvm.Cond.instanceMethod ({ cls := "BallotFoundry$Note", name := "<init>", desc := "(I)V" } : Jvm.MethodName)) ∈ lw_all := lw_g (lw_at lw_m3 137 rfl) rfl
theorem q661 : (Jvm.Cond.code ({ cls := "BallotFoundry$Note", name := "<init>", desc := "(I)V" } : Jvm.MethodName) prog_9_method_1_code (2 : Nat) (Option.none : Option Jvm.ClassFile.FieldType)) ∈ lw_all := lw_g (lw_at lw_m3 138 rfl) rfl
theorem q662 : (Jvm.Cond.methodLink "BallotFoundry$Note" (1 : Nat) ({ cls := "java/lang/Object", name := "<init>", desc := "()V" } : Jvm.MethodName)) ∈ lw_all := lw_g (lw_at lw_m3 139 rfl) rfl
theorem q667 : (Jvm.Cond.fieldLink "BallotFoundry$Note" (7 : Nat) "BallotFoundry$Note" "day" "I") ∈ lw_all := lw_g (lw_at lw_m3 144 rfl) rfl
theorem q673 : (Jvm.Cond.soleField "BallotFoundry$Note" "day") ∈ lw_all := lw_g (lw_at lw_m3 150 rfl) rfl
theorem q1101 : (Jvm.Cond.instanceMethod ({ cls := "BallotFoundry$Note", name := "toString", desc := "()Ljava/lang/String;" } : Jvm.MethodName)) ∈ lw_all := lw_g (lw_at lw_m5 98 rfl) rfl
theorem q1102 : (Jvm.Cond.sameMethod "BallotFoundry$Note" "BallotFoundry$Note" "toString" "()Ljava/lang/String;") ∈ lw_all := lw_g (lw_at lw_m5 99 rfl) rfl
theorem q1138 : (Jvm.Cond.declares ({ cls := "BallotFoundry$Note", name := "toString", desc := "()Ljava/lang/String;" } : Jvm.MethodName)) ∈ lw_tbl := lw_at lw_m5 135 rfl
theorem q1140 : (Jvm.Cond.code ({ cls := "BallotFoundry$Note", name := "toString", desc := "()Ljava/lang/String;" } : Jvm.MethodName) prog_9_method_2_code (1 : Nat) (Option.some (Jvm.ClassFile.FieldType.object "java/lang/String"))) ∈ lw_all := lw_g (lw_at lw_m5 137 rfl) rfl
theorem q1141 : (Jvm.Cond.classLink "BallotFoundry$Note" (13 : Nat) "java/lang/StringBuilder") ∈ lw_all := lw_g (lw_at lw_m5 138 rfl) rfl
theorem q1142 : (Jvm.Cond.methodLink "BallotFoundry$Note" (15 : Nat) ({ cls := "java/lang/StringBuilder", name := "<init>", desc := "()V" } : Jvm.MethodName)) ∈ lw_all := lw_g (lw_at lw_m5 139 rfl) rfl
theorem q1143 : (Jvm.Cond.stringRef "BallotFoundry$Note" (16 : Nat) "") ∈ lw_tbl := lw_at lw_m5 140 rfl
theorem q1144 : (Jvm.Cond.methodLink "BallotFoundry$Note" (18 : Nat) ({ cls := "java/lang/StringBuilder", name := "append", desc := "(Ljava/lang/String;)Ljava/lang/StringBuilder;" } : Jvm.MethodName)) ∈ lw_all := lw_g (lw_at lw_m5 141 rfl) rfl
theorem q1248 : (Jvm.Cond.methodLink "BallotFoundry$Note" (22 : Nat) ({ cls := "java/lang/StringBuilder", name := "append", desc := "(I)Ljava/lang/StringBuilder;" } : Jvm.MethodName)) ∈ lw_all := lw_g (lw_at lw_m6 5 rfl) rfl
theorem q1273 : (Jvm.Cond.methodLink "BallotFoundry$Note" (25 : Nat) ({ cls := "java/lang/StringBuilder", name := "toString", desc := "()Ljava/lang/String;" } : Jvm.MethodName)) ∈ lw_all := lw_g (lw_at lw_m6 30 rfl) rfl

/-! BallotFoundry$SignedNote -/
set_option maxRecDepth 100000
def RX7 : String := "BallotFoundry$SignedNote"
abbrev cX7_init : ByteArray := prog_11_method_1_code
def yX7_init : MethodName := ⟨RX7, "<init>", "(IC)V"⟩
def dkwX7_init_0 : List UInt8 := [42, 27, 183, 0, 1, 42, 28, 181, 0, 7, 177]
abbrev dktX7_init_0 : List UInt8 := dkwX7_init_0 ++ []
theorem dksX7_init_0 : cX7_init.data.toList.drop 0 = dktX7_init_0 := by decide +kernel
theorem dX7_init_0 : decode cX7_init 0 = .ok (.aload_n 0, 1) := dk_42 (dk_at dksX7_init_0 0 rfl rfl)
theorem dX7_init_1 : decode cX7_init 1 = .ok (.iload_n 1, 1) := dk_27 (dk_at dksX7_init_0 1 rfl rfl)
theorem dX7_init_2 : decode cX7_init 2 = .ok (.invokespecial 1, 3) := dk_183 0 1 (dk_at dksX7_init_0 2 rfl rfl)
theorem dX7_init_5 : decode cX7_init 5 = .ok (.aload_n 0, 1) := dk_42 (dk_at dksX7_init_0 5 rfl rfl)
theorem dX7_init_6 : decode cX7_init 6 = .ok (.iload_n 2, 1) := dk_28 (dk_at dksX7_init_0 6 rfl rfl)
theorem dX7_init_7 : decode cX7_init 7 = .ok (.putfield 7, 3) := dk_181 0 7 (dk_at dksX7_init_0 7 rfl rfl)
theorem dX7_init_10 : decode cX7_init 10 = .ok (.return_, 1) := dk_177 (dk_at dksX7_init_0 10 rfl rfl)
theorem q67 : (Jvm.Cond.initialized "BallotFoundry$SignedNote") ∈ lw_all := lw_g (lw_at lw_m1 24 rfl) rfl
theorem q657 : (Jvm.Cond.instanceMethod ({ cls := "BallotFoundry$SignedNote", name := "<init>", desc := "(IC)V" } : Jvm.MethodName)) ∈ lw_all := lw_g (lw_at lw_m3 134 rfl) rfl
theorem q658 : (Jvm.Cond.code ({ cls := "BallotFoundry$SignedNote", name := "<init>", desc := "(IC)V" } : Jvm.MethodName) prog_11_method_1_code (3 : Nat) (Option.none : Option Jvm.ClassFile.FieldType)) ∈ lw_all := lw_g (lw_at lw_m3 135 rfl) rfl
theorem q659 : (Jvm.Cond.methodLink "BallotFoundry$SignedNote" (1 : Nat) ({ cls := "BallotFoundry$Note", name := "<init>", desc := "(I)V" } : Jvm.MethodName)) ∈ lw_all := lw_g (lw_at lw_m3 136 rfl) rfl
theorem q664 : (Jvm.Cond.fieldLink "BallotFoundry$SignedNote" (7 : Nat) "BallotFoundry$SignedNote" "sign" "C") ∈ lw_all := lw_g (lw_at lw_m3 141 rfl) rfl
theorem q671 : (Jvm.Cond.soleField "BallotFoundry$SignedNote" "sign") ∈ lw_all := lw_g (lw_at lw_m3 148 rfl) rfl
theorem q1137 : (Jvm.Cond.sameMethod "BallotFoundry$SignedNote" "BallotFoundry$Note" "toString" "()Ljava/lang/String;") ∈ lw_all := lw_g (lw_at lw_m5 134 rfl) rfl
theorem q1139 : (Jvm.Cond.superclass "BallotFoundry$SignedNote" "BallotFoundry$Note") ∈ lw_all := lw_g (lw_at lw_m5 136 rfl) rfl

/-! BallotFoundry$FullNote -/
set_option maxRecDepth 100000
def RX8 : String := "BallotFoundry$FullNote"
def TX8 : u_T := fun k => match k with
  | 0 => ("BallotFoundry$Note", "day", "I", true)
  | 1 => ("BallotFoundry$SignedNote", "sign", "C", true)
  | _ => ("BallotFoundry$FullNote", "number", "I", true)
def tyX8 : Nat → FieldType := fun k => match k with
  | 0 => .int
  | 1 => .char
  | _ => .int
abbrev wsX80 : List Cond := u_ws RX8 TX8 3
theorem nmX8 : ∀ a, a < 3 → ∀ b, b < 3 → a ≠ b → (TX8 a).2.1 ≠ (TX8 b).2.1 := by decide +kernel
theorem tyX8_ok : ∀ k, k < 3 → parseFieldDescriptor (TX8 k).2.2.1 = some (tyX8 k) := by decide +kernel
abbrev cX8_init : ByteArray := prog_7_method_1_code
def yX8_init : MethodName := ⟨RX8, "<init>", "(ICI)V"⟩
def dkwX8_init_0 : List UInt8 := [42, 27, 28, 183, 0, 1, 42, 29, 181, 0, 7, 177]
abbrev dktX8_init_0 : List UInt8 := dkwX8_init_0 ++ []
theorem dksX8_init_0 : cX8_init.data.toList.drop 0 = dktX8_init_0 := by decide +kernel
theorem dX8_init_0 : decode cX8_init 0 = .ok (.aload_n 0, 1) := dk_42 (dk_at dksX8_init_0 0 rfl rfl)
theorem dX8_init_1 : decode cX8_init 1 = .ok (.iload_n 1, 1) := dk_27 (dk_at dksX8_init_0 1 rfl rfl)
theorem dX8_init_2 : decode cX8_init 2 = .ok (.iload_n 2, 1) := dk_28 (dk_at dksX8_init_0 2 rfl rfl)
theorem dX8_init_3 : decode cX8_init 3 = .ok (.invokespecial 1, 3) := dk_183 0 1 (dk_at dksX8_init_0 3 rfl rfl)
theorem dX8_init_6 : decode cX8_init 6 = .ok (.aload_n 0, 1) := dk_42 (dk_at dksX8_init_0 6 rfl rfl)
theorem dX8_init_7 : decode cX8_init 7 = .ok (.iload_n 3, 1) := dk_29 (dk_at dksX8_init_0 7 rfl rfl)
theorem dX8_init_8 : decode cX8_init 8 = .ok (.putfield 7, 3) := dk_181 0 7 (dk_at dksX8_init_0 8 rfl rfl)
theorem dX8_init_11 : decode cX8_init 11 = .ok (.return_, 1) := dk_177 (dk_at dksX8_init_0 11 rfl rfl)
abbrev cX8_toString : ByteArray := prog_7_method_2_code
def yX8_toString : MethodName := ⟨RX8, "toString", "()Ljava/lang/String;"⟩
def dkwX8_toString_1 : List UInt8 := [180, 0, 7, 182, 0, 33, 182, 0, 36, 176]
abbrev dktX8_toString_1 : List UInt8 := dkwX8_toString_1 ++ []
def dkwX8_toString_0 : List UInt8 := [187, 0, 13, 89, 183, 0, 15, 42, 183, 0, 18, 182, 0, 22, 42, 180, 0, 26, 182, 0, 30, 42]
abbrev dktX8_toString_0 : List UInt8 := dkwX8_toString_0 ++ dktX8_toString_1
theorem dksX8_toString_0 : cX8_toString.data.toList.drop 0 = dktX8_toString_0 := by decide +kernel
theorem dksX8_toString_1 : cX8_toString.data.toList.drop 22 = dktX8_toString_1 := dk_seg dksX8_toString_0 22 rfl rfl
theorem dX8_toString_0 : decode cX8_toString 0 = .ok (.new 13, 3) := dk_187 0 13 (dk_at dksX8_toString_0 0 rfl rfl)
theorem dX8_toString_3 : decode cX8_toString 3 = .ok (.dup, 1) := dk_89 (dk_at dksX8_toString_0 3 rfl rfl)
theorem dX8_toString_4 : decode cX8_toString 4 = .ok (.invokespecial 15, 3) := dk_183 0 15 (dk_at dksX8_toString_0 4 rfl rfl)
theorem dX8_toString_7 : decode cX8_toString 7 = .ok (.aload_n 0, 1) := dk_42 (dk_at dksX8_toString_0 7 rfl rfl)
theorem dX8_toString_8 : decode cX8_toString 8 = .ok (.invokespecial 18, 3) := dk_183 0 18 (dk_at dksX8_toString_0 8 rfl rfl)
theorem dX8_toString_11 : decode cX8_toString 11 = .ok (.invokevirtual 22, 3) := dk_182 0 22 (dk_at dksX8_toString_0 11 rfl rfl)
theorem dX8_toString_14 : decode cX8_toString 14 = .ok (.aload_n 0, 1) := dk_42 (dk_at dksX8_toString_0 14 rfl rfl)
theorem dX8_toString_15 : decode cX8_toString 15 = .ok (.getfield 26, 3) := dk_180 0 26 (dk_at dksX8_toString_0 15 rfl rfl)
theorem dX8_toString_18 : decode cX8_toString 18 = .ok (.invokevirtual 30, 3) := dk_182 0 30 (dk_at dksX8_toString_0 18 rfl rfl)
theorem dX8_toString_21 : decode cX8_toString 21 = .ok (.aload_n 0, 1) := dk_42 (dk_at dksX8_toString_0 21 rfl rfl)
theorem dX8_toString_22 : decode cX8_toString 22 = .ok (.getfield 7, 3) := dk_180 0 7 (dk_at dksX8_toString_1 0 rfl rfl)
theorem dX8_toString_25 : decode cX8_toString 25 = .ok (.invokevirtual 33, 3) := dk_182 0 33 (dk_at dksX8_toString_1 3 rfl rfl)
theorem dX8_toString_28 : decode cX8_toString 28 = .ok (.invokevirtual 36, 3) := dk_182 0 36 (dk_at dksX8_toString_1 6 rfl rfl)
theorem dX8_toString_31 : decode cX8_toString 31 = .ok (.areturn, 1) := dk_176 (dk_at dksX8_toString_1 9 rfl rfl)
theorem q68 : (Jvm.Cond.initialized "BallotFoundry$FullNote") ∈ lw_all := lw_g (lw_at lw_m1 25 rfl) rfl
theorem q517 : (Jvm.Cond.selects "BallotFoundry$FullNote" ({ cls := "java/lang/Object", name := "getClass", desc := "()Ljava/lang/Class;" } : Jvm.MethodName) ({ cls := "java/lang/Object", name := "getClass", desc := "()Ljava/lang/Class;" } : Jvm.MethodName)) ∈ lw_all := lw_g (lw_at lw_m2 234 rfl) rfl
theorem q652 : (Jvm.Cond.instantiable "BallotFoundry$FullNote" (3 : Nat)) ∈ lw_all := lw_g (lw_at lw_m3 129 rfl) rfl
theorem q654 : (Jvm.Cond.instanceMethod ({ cls := "BallotFoundry$FullNote", name := "<init>", desc := "(ICI)V" } : Jvm.MethodName)) ∈ lw_all := lw_g (lw_at lw_m3 131 rfl) rfl
theorem q655 : (Jvm.Cond.code ({ cls := "BallotFoundry$FullNote", name := "<init>", desc := "(ICI)V" } : Jvm.MethodName) prog_7_method_1_code (4 : Nat) (Option.none : Option Jvm.ClassFile.FieldType)) ∈ lw_all := lw_g (lw_at lw_m3 132 rfl) rfl
theorem q656 : (Jvm.Cond.methodLink "BallotFoundry$FullNote" (1 : Nat) ({ cls := "BallotFoundry$SignedNote", name := "<init>", desc := "(IC)V" } : Jvm.MethodName)) ∈ lw_all := lw_g (lw_at lw_m3 133 rfl) rfl
theorem q663 : (Jvm.Cond.fieldLink "BallotFoundry$FullNote" (7 : Nat) "BallotFoundry$FullNote" "number" "I") ∈ lw_all := lw_g (lw_at lw_m3 140 rfl) rfl
theorem q665 : (Jvm.Cond.fieldLink "BallotFoundry$FullNote" (26 : Nat) "BallotFoundry$FullNote" "sign" "C") ∈ lw_all := lw_g (lw_at lw_m3 142 rfl) rfl
theorem q666 : (Jvm.Cond.sameField "BallotFoundry$FullNote" "BallotFoundry$SignedNote" "sign" "C") ∈ lw_all := lw_g (lw_at lw_m3 143 rfl) rfl
theorem q668 : (Jvm.Cond.laysFinal "BallotFoundry$FullNote" "BallotFoundry$FullNote" "number" "I") ∈ lw_all := lw_g (lw_at lw_m3 145 rfl) rfl
theorem q669 : (Jvm.Cond.soleField "BallotFoundry$FullNote" "number") ∈ lw_all := lw_g (lw_at lw_m3 146 rfl) rfl
theorem q670 : (Jvm.Cond.laysFinal "BallotFoundry$FullNote" "BallotFoundry$SignedNote" "sign" "C") ∈ lw_all := lw_g (lw_at lw_m3 147 rfl) rfl
theorem q672 : (Jvm.Cond.laysFinal "BallotFoundry$FullNote" "BallotFoundry$Note" "day" "I") ∈ lw_all := lw_g (lw_at lw_m3 149 rfl) rfl
theorem q674 : (Jvm.Cond.superclass "BallotFoundry$FullNote" "BallotFoundry$SignedNote") ∈ lw_all := lw_g (lw_at lw_m3 151 rfl) rfl
theorem q943 : (Jvm.Cond.selects "BallotFoundry$FullNote" ({ cls := "java/lang/Object", name := "equals", desc := "(Ljava/lang/Object;)Z" } : Jvm.MethodName) ({ cls := "java/lang/Object", name := "equals", desc := "(Ljava/lang/Object;)Z" } : Jvm.MethodName)) ∈ lw_all := lw_g (lw_at lw_m4 180 rfl) rfl
theorem q1103 : (Jvm.Cond.selects "BallotFoundry$FullNote" ({ cls := "BallotFoundry$Note", name := "toString", desc := "()Ljava/lang/String;" } : Jvm.MethodName) ({ cls := "BallotFoundry$FullNote", name := "toString", desc := "()Ljava/lang/String;" } : Jvm.MethodName)) ∈ lw_all := lw_g (lw_at lw_m5 100 rfl) rfl
theorem q1104 : (Jvm.Cond.instanceMethod ({ cls := "BallotFoundry$FullNote", name := "toString", desc := "()Ljava/lang/String;" } : Jvm.MethodName)) ∈ lw_all := lw_g (lw_at lw_m5 101 rfl) rfl
theorem q1105 : (Jvm.Cond.code ({ cls := "BallotFoundry$FullNote", name := "toString", desc := "()Ljava/lang/String;" } : Jvm.MethodName) prog_7_method_2_code (1 : Nat) (Option.some (Jvm.ClassFile.FieldType.object "java/lang/String"))) ∈ lw_all := lw_g (lw_at lw_m5 102 rfl) rfl
theorem q1106 : (Jvm.Cond.classLink "BallotFoundry$FullNote" (13 : Nat) "java/lang/StringBuilder") ∈ lw_all := lw_g (lw_at lw_m5 103 rfl) rfl
theorem q1108 : (Jvm.Cond.methodLink "BallotFoundry$FullNote" (15 : Nat) ({ cls := "java/lang/StringBuilder", name := "<init>", desc := "()V" } : Jvm.MethodName)) ∈ lw_all := lw_g (lw_at lw_m5 105 rfl) rfl
theorem q1136 : (Jvm.Cond.methodLink "BallotFoundry$FullNote" (18 : Nat) ({ cls := "BallotFoundry$SignedNote", name := "toString", desc := "()Ljava/lang/String;" } : Jvm.MethodName)) ∈ lw_all := lw_g (lw_at lw_m5 133 rfl) rfl
theorem q1339 : (Jvm.Cond.methodLink "BallotFoundry$FullNote" (22 : Nat) ({ cls := "java/lang/StringBuilder", name := "append", desc := "(Ljava/lang/String;)Ljava/lang/StringBuilder;" } : Jvm.MethodName)) ∈ lw_all := lw_g (lw_at lw_m6 96 rfl) rfl
theorem q1340 : (Jvm.Cond.methodLink "BallotFoundry$FullNote" (30 : Nat) ({ cls := "java/lang/StringBuilder", name := "append", desc := "(C)Ljava/lang/StringBuilder;" } : Jvm.MethodName)) ∈ lw_all := lw_g (lw_at lw_m6 97 rfl) rfl
theorem q1360 : (Jvm.Cond.methodLink "BallotFoundry$FullNote" (33 : Nat) ({ cls := "java/lang/StringBuilder", name := "append", desc := "(I)Ljava/lang/StringBuilder;" } : Jvm.MethodName)) ∈ lw_all := lw_g (lw_at lw_m6 117 rfl) rfl
theorem q1361 : (Jvm.Cond.methodLink "BallotFoundry$FullNote" (36 : Nat) ({ cls := "java/lang/StringBuilder", name := "toString", desc := "()Ljava/lang/String;" } : Jvm.MethodName)) ∈ lw_all := lw_g (lw_at lw_m6 118 rfl) rfl
theorem q1793 : (Jvm.Cond.castable "BallotFoundry$FullNote" "BallotFoundry$Note") ∈ lw_tbl := lw_at lw_m8 70 rfl
theorem q1804 : (Jvm.Cond.castable "BallotFoundry$FullNote" "java/lang/Object") ∈ lw_tbl := lw_at lw_m8 81 rfl
theorem in_X8 : ∀ w ∈ wsX80, w ∈ lw_all := lw_in wsX80 [672, 670, 668] (by decide +kernel) (by decide +kernel)

/-! BallotFoundry$Election -/
set_option maxRecDepth 100000
def RX9 : String := "BallotFoundry$Election"
def TX9 : u_T := fun k => match k with
  | 0 => ("BallotFoundry$Election", "day", "I", true)
  | 1 => ("BallotFoundry$Election", "seats", "I", true)
  | 2 => ("BallotFoundry$Election", "isOdd", "Z", true)
  | 3 => ("BallotFoundry$Election", "seeds", "[I", true)
  | 4 => ("BallotFoundry$Election", "stations", "[I", true)
  | 5 => ("BallotFoundry$Election", "hasVoted", "[Z", true)
  | 6 => ("BallotFoundry$Election", "boxes", "Ljava/util/List;", true)
  | 7 => ("BallotFoundry$Election", "envelopes", "Ljava/util/List;", true)
  | 8 => ("BallotFoundry$Election", "book", "Ljava/util/List;", true)
  | _ => ("BallotFoundry$Election", "stage", "I", false)
def tyX9 : Nat → FieldType := fun k => match k with
  | 0 => .int
  | 1 => .int
  | 2 => .boolean
  | 3 => .array .int
  | 4 => .array .int
  | 5 => .array .boolean
  | 6 => .object "java/util/List"
  | 7 => .object "java/util/List"
  | 8 => .object "java/util/List"
  | _ => .int
abbrev wsX90 : List Cond := u_ws RX9 TX9 10
theorem nmX9 : ∀ a, a < 10 → ∀ b, b < 10 → a ≠ b → (TX9 a).2.1 ≠ (TX9 b).2.1 := by decide +kernel
theorem tyX9_ok : ∀ k, k < 10 → parseFieldDescriptor (TX9 k).2.2.1 = some (tyX9 k) := by decide +kernel
abbrev cX9_voidSealed : ByteArray := prog_5_method_4_code
def yX9_voidSealed : MethodName := ⟨RX9, "voidSealed", "(LBallotFoundry$Person;I)Z"⟩
def dkwX9_voidSealed_1 : List UInt8 := [182, 0, 86, 45, 198, 0, 7, 4, 167, 0, 4, 3, 172]
abbrev dktX9_voidSealed_1 : List UInt8 := dkwX9_voidSealed_1 ++ []
def dkwX9_voidSealed_0 : List UInt8 := [42, 43, 182, 0, 77, 78, 45, 198, 0, 19, 45, 4, 181, 0, 74, 42, 28, 16, 120, 43, 180, 0, 81]
abbrev dktX9_voidSealed_0 : List UInt8 := dkwX9_voidSealed_0 ++ dktX9_voidSealed_1
theorem dksX9_voidSealed_0 : cX9_voidSealed.data.toList.drop 0 = dktX9_voidSealed_0 := by decide +kernel
theorem dksX9_voidSealed_1 : cX9_voidSealed.data.toList.drop 23 = dktX9_voidSealed_1 := dk_seg dksX9_voidSealed_0 23 rfl rfl
theorem dX9_voidSealed_0 : decode cX9_voidSealed 0 = .ok (.aload_n 0, 1) := dk_42 (dk_at dksX9_voidSealed_0 0 rfl rfl)
theorem dX9_voidSealed_1 : decode cX9_voidSealed 1 = .ok (.aload_n 1, 1) := dk_43 (dk_at dksX9_voidSealed_0 1 rfl rfl)
theorem dX9_voidSealed_2 : decode cX9_voidSealed 2 = .ok (.invokevirtual 77, 3) := dk_182 0 77 (dk_at dksX9_voidSealed_0 2 rfl rfl)
theorem dX9_voidSealed_5 : decode cX9_voidSealed 5 = .ok (.astore_n 3, 1) := dk_78 (dk_at dksX9_voidSealed_0 5 rfl rfl)
theorem dX9_voidSealed_6 : decode cX9_voidSealed 6 = .ok (.aload_n 3, 1) := dk_45 (dk_at dksX9_voidSealed_0 6 rfl rfl)
theorem dX9_voidSealed_7 : decode cX9_voidSealed 7 = .ok (.ifnull 19, 3) := dk_198 0 19 (dk_at dksX9_voidSealed_0 7 rfl rfl)
theorem dX9_voidSealed_10 : decode cX9_voidSealed 10 = .ok (.aload_n 3, 1) := dk_45 (dk_at dksX9_voidSealed_0 10 rfl rfl)
theorem dX9_voidSealed_11 : decode cX9_voidSealed 11 = .ok (.iconst 1, 1) := dk_4 (dk_at dksX9_voidSealed_0 11 rfl rfl)
theorem dX9_voidSealed_12 : decode cX9_voidSealed 12 = .ok (.putfield 74, 3) := dk_181 0 74 (dk_at dksX9_voidSealed_0 12 rfl rfl)
theorem dX9_voidSealed_15 : decode cX9_voidSealed 15 = .ok (.aload_n 0, 1) := dk_42 (dk_at dksX9_voidSealed_0 15 rfl rfl)
theorem dX9_voidSealed_16 : decode cX9_voidSealed 16 = .ok (.iload_n 2, 1) := dk_28 (dk_at dksX9_voidSealed_0 16 rfl rfl)
theorem dX9_voidSealed_17 : decode cX9_voidSealed 17 = .ok (.bipush 120, 2) := dk_16 120 (dk_at dksX9_voidSealed_0 17 rfl rfl)
theorem dX9_voidSealed_19 : decode cX9_voidSealed 19 = .ok (.aload_n 1, 1) := dk_43 (dk_at dksX9_voidSealed_0 19 rfl rfl)
theorem dX9_voidSealed_20 : decode cX9_voidSealed 20 = .ok (.getfield 81, 3) := dk_180 0 81 (dk_at dksX9_voidSealed_0 20 rfl rfl)
theorem dX9_voidSealed_23 : decode cX9_voidSealed 23 = .ok (.invokevirtual 86, 3) := dk_182 0 86 (dk_at dksX9_voidSealed_1 0 rfl rfl)
theorem dX9_voidSealed_26 : decode cX9_voidSealed 26 = .ok (.aload_n 3, 1) := dk_45 (dk_at dksX9_voidSealed_1 3 rfl rfl)
theorem dX9_voidSealed_27 : decode cX9_voidSealed 27 = .ok (.ifnull 7, 3) := dk_198 0 7 (dk_at dksX9_voidSealed_1 4 rfl rfl)
theorem dX9_voidSealed_30 : decode cX9_voidSealed 30 = .ok (.iconst 1, 1) := dk_4 (dk_at dksX9_voidSealed_1 7 rfl rfl)
theorem dX9_voidSealed_31 : decode cX9_voidSealed 31 = .ok (.goto 4, 3) := dk_167 0 4 (dk_at dksX9_voidSealed_1 8 rfl rfl)
theorem dX9_voidSealed_34 : decode cX9_voidSealed 34 = .ok (.iconst 0, 1) := dk_3 (dk_at dksX9_voidSealed_1 11 rfl rfl)
theorem dX9_voidSealed_35 : decode cX9_voidSealed 35 = .ok (.ireturn, 1) := dk_172 (dk_at dksX9_voidSealed_1 12 rfl rfl)
abbrev cX9_sealedOf : ByteArray := prog_5_method_3_code
def yX9_sealedOf : MethodName := ⟨RX9, "sealedOf", "(LBallotFoundry$Person;)LBallotFoundry$Envelope;"⟩
def dkwX9_sealedOf_2 : List UInt8 := [154, 0, 8, 25, 4, 167, 0, 4, 44, 77, 132, 3, 1, 167, 255, 201, 44, 176]
abbrev dktX9_sealedOf_2 : List UInt8 := dkwX9_sealedOf_2 ++ []
def dkwX9_sealedOf_1 : List UInt8 := [185, 0, 64, 2, 0, 192, 0, 68, 58, 4, 25, 4, 180, 0, 70, 43, 166, 0, 16, 25, 4, 180, 0, 74]
abbrev dktX9_sealedOf_1 : List UInt8 := dkwX9_sealedOf_1 ++ dktX9_sealedOf_2
def dkwX9_sealedOf_0 : List UInt8 := [1, 77, 3, 62, 29, 42, 180, 0, 29, 185, 0, 60, 1, 0, 162, 0, 48, 42, 180, 0, 29, 29]
abbrev dktX9_sealedOf_0 : List UInt8 := dkwX9_sealedOf_0 ++ dktX9_sealedOf_1
theorem dksX9_sealedOf_0 : cX9_sealedOf.data.toList.drop 0 = dktX9_sealedOf_0 := by decide +kernel
theorem dksX9_sealedOf_1 : cX9_sealedOf.data.toList.drop 22 = dktX9_sealedOf_1 := dk_seg dksX9_sealedOf_0 22 rfl rfl
theorem dksX9_sealedOf_2 : cX9_sealedOf.data.toList.drop 46 = dktX9_sealedOf_2 := dk_seg dksX9_sealedOf_1 24 rfl rfl
theorem dX9_sealedOf_0 : decode cX9_sealedOf 0 = .ok (.aconst_null, 1) := dk_1 (dk_at dksX9_sealedOf_0 0 rfl rfl)
theorem dX9_sealedOf_1 : decode cX9_sealedOf 1 = .ok (.astore_n 2, 1) := dk_77 (dk_at dksX9_sealedOf_0 1 rfl rfl)
theorem dX9_sealedOf_2 : decode cX9_sealedOf 2 = .ok (.iconst 0, 1) := dk_3 (dk_at dksX9_sealedOf_0 2 rfl rfl)
theorem dX9_sealedOf_3 : decode cX9_sealedOf 3 = .ok (.istore_n 3, 1) := dk_62 (dk_at dksX9_sealedOf_0 3 rfl rfl)
theorem dX9_sealedOf_4 : decode cX9_sealedOf 4 = .ok (.iload_n 3, 1) := dk_29 (dk_at dksX9_sealedOf_0 4 rfl rfl)
theorem dX9_sealedOf_5 : decode cX9_sealedOf 5 = .ok (.aload_n 0, 1) := dk_42 (dk_at dksX9_sealedOf_0 5 rfl rfl)
theorem dX9_sealedOf_6 : decode cX9_sealedOf 6 = .ok (.getfield 29, 3) := dk_180 0 29 (dk_at dksX9_sealedOf_0 6 rfl rfl)
theorem dX9_sealedOf_9 : decode cX9_sealedOf 9 = .ok (.invokeinterface 60 1, 5) := by decide +kernel
theorem dX9_sealedOf_14 : decode cX9_sealedOf 14 = .ok (.if_icmp .ge 48, 3) := dk_162 0 48 (dk_at dksX9_sealedOf_0 14 rfl rfl)
theorem dX9_sealedOf_17 : decode cX9_sealedOf 17 = .ok (.aload_n 0, 1) := dk_42 (dk_at dksX9_sealedOf_0 17 rfl rfl)
theorem dX9_sealedOf_18 : decode cX9_sealedOf 18 = .ok (.getfield 29, 3) := dk_180 0 29 (dk_at dksX9_sealedOf_0 18 rfl rfl)
theorem dX9_sealedOf_21 : decode cX9_sealedOf 21 = .ok (.iload_n 3, 1) := dk_29 (dk_at dksX9_sealedOf_0 21 rfl rfl)
theorem dX9_sealedOf_22 : decode cX9_sealedOf 22 = .ok (.invokeinterface 64 2, 5) := by decide +kernel
theorem dX9_sealedOf_27 : decode cX9_sealedOf 27 = .ok (.checkcast 68, 3) := dk_192 0 68 (dk_at dksX9_sealedOf_1 5 rfl rfl)
theorem dX9_sealedOf_30 : decode cX9_sealedOf 30 = .ok (.astore 4, 2) := dk_58 4 (dk_at dksX9_sealedOf_1 8 rfl rfl)
theorem dX9_sealedOf_32 : decode cX9_sealedOf 32 = .ok (.aload 4, 2) := dk_25 4 (dk_at dksX9_sealedOf_1 10 rfl rfl)
theorem dX9_sealedOf_34 : decode cX9_sealedOf 34 = .ok (.getfield 70, 3) := dk_180 0 70 (dk_at dksX9_sealedOf_1 12 rfl rfl)
theorem dX9_sealedOf_37 : decode cX9_sealedOf 37 = .ok (.aload_n 1, 1) := dk_43 (dk_at dksX9_sealedOf_1 15 rfl rfl)
theorem dX9_sealedOf_38 : decode cX9_sealedOf 38 = .ok (.if_acmp .ne 16, 3) := dk_166 0 16 (dk_at dksX9_sealedOf_1 16 rfl rfl)
theorem dX9_sealedOf_41 : decode cX9_sealedOf 41 = .ok (.aload 4, 2) := dk_25 4 (dk_at dksX9_sealedOf_1 19 rfl rfl)
theorem dX9_sealedOf_43 : decode cX9_sealedOf 43 = .ok (.getfield 74, 3) := dk_180 0 74 (dk_at dksX9_sealedOf_1 21 rfl rfl)
theorem dX9_sealedOf_46 : decode cX9_sealedOf 46 = .ok (.ifCond .ne 8, 3) := dk_154 0 8 (dk_at dksX9_sealedOf_2 0 rfl rfl)
theorem dX9_sealedOf_49 : decode cX9_sealedOf 49 = .ok (.aload 4, 2) := dk_25 4 (dk_at dksX9_sealedOf_2 3 rfl rfl)
theorem dX9_sealedOf_51 : decode cX9_sealedOf 51 = .ok (.goto 4, 3) := dk_167 0 4 (dk_at dksX9_sealedOf_2 5 rfl rfl)
theorem dX9_sealedOf_54 : decode cX9_sealedOf 54 = .ok (.aload_n 2, 1) := dk_44 (dk_at dksX9_sealedOf_2 8 rfl rfl)
theorem dX9_sealedOf_55 : decode cX9_sealedOf 55 = .ok (.astore_n 2, 1) := dk_77 (dk_at dksX9_sealedOf_2 9 rfl rfl)
theorem dX9_sealedOf_56 : decode cX9_sealedOf 56 = .ok (.iinc 3 1, 3) := dk_132 3 1 (dk_at dksX9_sealedOf_2 10 rfl rfl)
theorem dX9_sealedOf_59 : decode cX9_sealedOf 59 = .ok (.goto (-55), 3) := dk_167 255 201 (dk_at dksX9_sealedOf_2 13 rfl rfl)
theorem dX9_sealedOf_62 : decode cX9_sealedOf 62 = .ok (.aload_n 2, 1) := dk_44 (dk_at dksX9_sealedOf_2 16 rfl rfl)
theorem dX9_sealedOf_63 : decode cX9_sealedOf 63 = .ok (.areturn, 1) := dk_176 (dk_at dksX9_sealedOf_2 17 rfl rfl)
abbrev cX9_note : ByteArray := prog_5_method_2_code
def yX9_note : MethodName := ⟨RX9, "note", "(ICI)V"⟩
def dkwX9_note_0 : List UInt8 := [42, 180, 0, 32, 187, 0, 49, 89, 27, 28, 29, 183, 0, 51, 185, 0, 54, 2, 0, 87, 177]
abbrev dktX9_note_0 : List UInt8 := dkwX9_note_0 ++ []
theorem dksX9_note_0 : cX9_note.data.toList.drop 0 = dktX9_note_0 := by decide +kernel
theorem dX9_note_0 : decode cX9_note 0 = .ok (.aload_n 0, 1) := dk_42 (dk_at dksX9_note_0 0 rfl rfl)
theorem dX9_note_1 : decode cX9_note 1 = .ok (.getfield 32, 3) := dk_180 0 32 (dk_at dksX9_note_0 1 rfl rfl)
theorem dX9_note_4 : decode cX9_note 4 = .ok (.new 49, 3) := dk_187 0 49 (dk_at dksX9_note_0 4 rfl rfl)
theorem dX9_note_7 : decode cX9_note 7 = .ok (.dup, 1) := dk_89 (dk_at dksX9_note_0 7 rfl rfl)
theorem dX9_note_8 : decode cX9_note 8 = .ok (.iload_n 1, 1) := dk_27 (dk_at dksX9_note_0 8 rfl rfl)
theorem dX9_note_9 : decode cX9_note 9 = .ok (.iload_n 2, 1) := dk_28 (dk_at dksX9_note_0 9 rfl rfl)
theorem dX9_note_10 : decode cX9_note 10 = .ok (.iload_n 3, 1) := dk_29 (dk_at dksX9_note_0 10 rfl rfl)
theorem dX9_note_11 : decode cX9_note 11 = .ok (.invokespecial 51, 3) := dk_183 0 51 (dk_at dksX9_note_0 11 rfl rfl)
theorem dX9_note_14 : decode cX9_note 14 = .ok (.invokeinterface 54 2, 5) := by decide +kernel
theorem dX9_note_19 : decode cX9_note 19 = .ok (.pop, 1) := dk_87 (dk_at dksX9_note_0 19 rfl rfl)
theorem dX9_note_20 : decode cX9_note 20 = .ok (.return_, 1) := dk_177 (dk_at dksX9_note_0 20 rfl rfl)
abbrev cX9_init : ByteArray := prog_5_method_1_code
def yX9_init : MethodName := ⟨RX9, "<init>", "(IIZ)V"⟩
def dkwX9_init_4 : List UInt8 := [42, 28, 181, 0, 42, 42, 29, 181, 0, 45, 177]
abbrev dktX9_init_4 : List UInt8 := dkwX9_init_4 ++ []
def dkwX9_init_3 : List UInt8 := [16, 20, 162, 0, 17, 42, 180, 0, 15, 21, 4, 2, 79, 132, 4, 1, 167, 255, 238, 42, 27, 181, 0, 39]
abbrev dktX9_init_3 : List UInt8 := dkwX9_init_3 ++ dktX9_init_4
def dkwX9_init_2 : List UInt8 := [181, 0, 29, 42, 187, 0, 22, 89, 183, 0, 24, 181, 0, 32, 42, 4, 181, 0, 35, 3, 54, 4, 21, 4]
abbrev dktX9_init_2 : List UInt8 := dkwX9_init_2 ++ dktX9_init_3
def dkwX9_init_1 : List UInt8 := [181, 0, 18, 42, 187, 0, 22, 89, 183, 0, 24, 181, 0, 25, 42, 187, 0, 22, 89, 183, 0, 24]
abbrev dktX9_init_1 : List UInt8 := dkwX9_init_1 ++ dktX9_init_2
def dkwX9_init_0 : List UInt8 := [42, 183, 0, 3, 42, 8, 188, 10, 181, 0, 9, 42, 16, 20, 188, 10, 181, 0, 15, 42, 16, 20, 188, 4]
abbrev dktX9_init_0 : List UInt8 := dkwX9_init_0 ++ dktX9_init_1
theorem dksX9_init_0 : cX9_init.data.toList.drop 0 = dktX9_init_0 := by decide +kernel
theorem dksX9_init_1 : cX9_init.data.toList.drop 24 = dktX9_init_1 := dk_seg dksX9_init_0 24 rfl rfl
theorem dksX9_init_2 : cX9_init.data.toList.drop 46 = dktX9_init_2 := dk_seg dksX9_init_1 22 rfl rfl
theorem dksX9_init_3 : cX9_init.data.toList.drop 70 = dktX9_init_3 := dk_seg dksX9_init_2 24 rfl rfl
theorem dksX9_init_4 : cX9_init.data.toList.drop 94 = dktX9_init_4 := dk_seg dksX9_init_3 24 rfl rfl
theorem dX9_init_0 : decode cX9_init 0 = .ok (.aload_n 0, 1) := dk_42 (dk_at dksX9_init_0 0 rfl rfl)
theorem dX9_init_1 : decode cX9_init 1 = .ok (.invokespecial 3, 3) := dk_183 0 3 (dk_at dksX9_init_0 1 rfl rfl)
theorem dX9_init_4 : decode cX9_init 4 = .ok (.aload_n 0, 1) := dk_42 (dk_at dksX9_init_0 4 rfl rfl)
theorem dX9_init_5 : decode cX9_init 5 = .ok (.iconst 5, 1) := dk_8 (dk_at dksX9_init_0 5 rfl rfl)
theorem dX9_init_6 : decode cX9_init 6 = .ok (.newarray .int, 2) := dk_188_10 (dk_at dksX9_init_0 6 rfl rfl)
theorem dX9_init_8 : decode cX9_init 8 = .ok (.putfield 9, 3) := dk_181 0 9 (dk_at dksX9_init_0 8 rfl rfl)
theorem dX9_init_11 : decode cX9_init 11 = .ok (.aload_n 0, 1) := dk_42 (dk_at dksX9_init_0 11 rfl rfl)
theorem dX9_init_12 : decode cX9_init 12 = .ok (.bipush 20, 2) := dk_16 20 (dk_at dksX9_init_0 12 rfl rfl)
theorem dX9_init_14 : decode cX9_init 14 = .ok (.newarray .int, 2) := dk_188_10 (dk_at dksX9_init_0 14 rfl rfl)
theorem dX9_init_16 : decode cX9_init 16 = .ok (.putfield 15, 3) := dk_181 0 15 (dk_at dksX9_init_0 16 rfl rfl)
theorem dX9_init_19 : decode cX9_init 19 = .ok (.aload_n 0, 1) := dk_42 (dk_at dksX9_init_0 19 rfl rfl)
theorem dX9_init_20 : decode cX9_init 20 = .ok (.bipush 20, 2) := dk_16 20 (dk_at dksX9_init_0 20 rfl rfl)
theorem dX9_init_22 : decode cX9_init 22 = .ok (.newarray .boolean, 2) := dk_188_4 (dk_at dksX9_init_0 22 rfl rfl)
theorem dX9_init_24 : decode cX9_init 24 = .ok (.putfield 18, 3) := dk_181 0 18 (dk_at dksX9_init_1 0 rfl rfl)
theorem dX9_init_27 : decode cX9_init 27 = .ok (.aload_n 0, 1) := dk_42 (dk_at dksX9_init_1 3 rfl rfl)
theorem dX9_init_28 : decode cX9_init 28 = .ok (.new 22, 3) := dk_187 0 22 (dk_at dksX9_init_1 4 rfl rfl)
theorem dX9_init_31 : decode cX9_init 31 = .ok (.dup, 1) := dk_89 (dk_at dksX9_init_1 7 rfl rfl)
theorem dX9_init_32 : decode cX9_init 32 = .ok (.invokespecial 24, 3) := dk_183 0 24 (dk_at dksX9_init_1 8 rfl rfl)
theorem dX9_init_35 : decode cX9_init 35 = .ok (.putfield 25, 3) := dk_181 0 25 (dk_at dksX9_init_1 11 rfl rfl)
theorem dX9_init_38 : decode cX9_init 38 = .ok (.aload_n 0, 1) := dk_42 (dk_at dksX9_init_1 14 rfl rfl)
theorem dX9_init_39 : decode cX9_init 39 = .ok (.new 22, 3) := dk_187 0 22 (dk_at dksX9_init_1 15 rfl rfl)
theorem dX9_init_42 : decode cX9_init 42 = .ok (.dup, 1) := dk_89 (dk_at dksX9_init_1 18 rfl rfl)
theorem dX9_init_43 : decode cX9_init 43 = .ok (.invokespecial 24, 3) := dk_183 0 24 (dk_at dksX9_init_1 19 rfl rfl)
theorem dX9_init_46 : decode cX9_init 46 = .ok (.putfield 29, 3) := dk_181 0 29 (dk_at dksX9_init_2 0 rfl rfl)
theorem dX9_init_49 : decode cX9_init 49 = .ok (.aload_n 0, 1) := dk_42 (dk_at dksX9_init_2 3 rfl rfl)
theorem dX9_init_50 : decode cX9_init 50 = .ok (.new 22, 3) := dk_187 0 22 (dk_at dksX9_init_2 4 rfl rfl)
theorem dX9_init_53 : decode cX9_init 53 = .ok (.dup, 1) := dk_89 (dk_at dksX9_init_2 7 rfl rfl)
theorem dX9_init_54 : decode cX9_init 54 = .ok (.invokespecial 24, 3) := dk_183 0 24 (dk_at dksX9_init_2 8 rfl rfl)
theorem dX9_init_57 : decode cX9_init 57 = .ok (.putfield 32, 3) := dk_181 0 32 (dk_at dksX9_init_2 11 rfl rfl)
theorem dX9_init_60 : decode cX9_init 60 = .ok (.aload_n 0, 1) := dk_42 (dk_at dksX9_init_2 14 rfl rfl)
theorem dX9_init_61 : decode cX9_init 61 = .ok (.iconst 1, 1) := dk_4 (dk_at dksX9_init_2 15 rfl rfl)
theorem dX9_init_62 : decode cX9_init 62 = .ok (.putfield 35, 3) := dk_181 0 35 (dk_at dksX9_init_2 16 rfl rfl)
theorem dX9_init_65 : decode cX9_init 65 = .ok (.iconst 0, 1) := dk_3 (dk_at dksX9_init_2 19 rfl rfl)
theorem dX9_init_66 : decode cX9_init 66 = .ok (.istore 4, 2) := dk_54 4 (dk_at dksX9_init_2 20 rfl rfl)
theorem dX9_init_68 : decode cX9_init 68 = .ok (.iload 4, 2) := dk_21 4 (dk_at dksX9_init_2 22 rfl rfl)
theorem dX9_init_70 : decode cX9_init 70 = .ok (.bipush 20, 2) := dk_16 20 (dk_at dksX9_init_3 0 rfl rfl)
theorem dX9_init_72 : decode cX9_init 72 = .ok (.if_icmp .ge 17, 3) := dk_162 0 17 (dk_at dksX9_init_3 2 rfl rfl)
theorem dX9_init_75 : decode cX9_init 75 = .ok (.aload_n 0, 1) := dk_42 (dk_at dksX9_init_3 5 rfl rfl)
theorem dX9_init_76 : decode cX9_init 76 = .ok (.getfield 15, 3) := dk_180 0 15 (dk_at dksX9_init_3 6 rfl rfl)
theorem dX9_init_79 : decode cX9_init 79 = .ok (.iload 4, 2) := dk_21 4 (dk_at dksX9_init_3 9 rfl rfl)
theorem dX9_init_81 : decode cX9_init 81 = .ok (.iconst (-1), 1) := dk_2 (dk_at dksX9_init_3 11 rfl rfl)
theorem dX9_init_82 : decode cX9_init 82 = .ok (.iastore, 1) := dk_79 (dk_at dksX9_init_3 12 rfl rfl)
theorem dX9_init_83 : decode cX9_init 83 = .ok (.iinc 4 1, 3) := dk_132 4 1 (dk_at dksX9_init_3 13 rfl rfl)
theorem dX9_init_86 : decode cX9_init 86 = .ok (.goto (-18), 3) := dk_167 255 238 (dk_at dksX9_init_3 16 rfl rfl)
theorem dX9_init_89 : decode cX9_init 89 = .ok (.aload_n 0, 1) := dk_42 (dk_at dksX9_init_3 19 rfl rfl)
theorem dX9_init_90 : decode cX9_init 90 = .ok (.iload_n 1, 1) := dk_27 (dk_at dksX9_init_3 20 rfl rfl)
theorem dX9_init_91 : decode cX9_init 91 = .ok (.putfield 39, 3) := dk_181 0 39 (dk_at dksX9_init_3 21 rfl rfl)
theorem dX9_init_94 : decode cX9_init 94 = .ok (.aload_n 0, 1) := dk_42 (dk_at dksX9_init_4 0 rfl rfl)
theorem dX9_init_95 : decode cX9_init 95 = .ok (.iload_n 2, 1) := dk_28 (dk_at dksX9_init_4 1 rfl rfl)
theorem dX9_init_96 : decode cX9_init 96 = .ok (.putfield 42, 3) := dk_181 0 42 (dk_at dksX9_init_4 2 rfl rfl)
theorem dX9_init_99 : decode cX9_init 99 = .ok (.aload_n 0, 1) := dk_42 (dk_at dksX9_init_4 5 rfl rfl)
theorem dX9_init_100 : decode cX9_init 100 = .ok (.iload_n 3, 1) := dk_29 (dk_at dksX9_init_4 6 rfl rfl)
theorem dX9_init_101 : decode cX9_init 101 = .ok (.putfield 45, 3) := dk_181 0 45 (dk_at dksX9_init_4 7 rfl rfl)
theorem dX9_init_104 : decode cX9_init 104 = .ok (.return_, 1) := dk_177 (dk_at dksX9_init_4 10 rfl rfl)
abbrev cX9_openAll : ByteArray := prog_5_method_7_code
def yX9_openAll : MethodName := ⟨RX9, "openAll", "()V"⟩
def dkwX9_openAll_2 : List UInt8 := [185, 0, 64, 2, 0, 192, 0, 68, 16, 115, 182, 0, 107, 132, 1, 1, 167, 255, 202, 177]
abbrev dktX9_openAll_2 : List UInt8 := dkwX9_openAll_2 ++ []
def dkwX9_openAll_1 : List UInt8 := [185, 0, 64, 2, 0, 192, 0, 68, 180, 0, 74, 154, 0, 22, 42, 42, 180, 0, 29, 27]
abbrev dktX9_openAll_1 : List UInt8 := dkwX9_openAll_1 ++ dktX9_openAll_2
def dkwX9_openAll_0 : List UInt8 := [3, 60, 27, 42, 180, 0, 29, 185, 0, 60, 1, 0, 162, 0, 47, 42, 180, 0, 29, 27]
abbrev dktX9_openAll_0 : List UInt8 := dkwX9_openAll_0 ++ dktX9_openAll_1
theorem dksX9_openAll_0 : cX9_openAll.data.toList.drop 0 = dktX9_openAll_0 := by decide +kernel
theorem dksX9_openAll_1 : cX9_openAll.data.toList.drop 20 = dktX9_openAll_1 := dk_seg dksX9_openAll_0 20 rfl rfl
theorem dksX9_openAll_2 : cX9_openAll.data.toList.drop 40 = dktX9_openAll_2 := dk_seg dksX9_openAll_1 20 rfl rfl
theorem dX9_openAll_0 : decode cX9_openAll 0 = .ok (.iconst 0, 1) := dk_3 (dk_at dksX9_openAll_0 0 rfl rfl)
theorem dX9_openAll_1 : decode cX9_openAll 1 = .ok (.istore_n 1, 1) := dk_60 (dk_at dksX9_openAll_0 1 rfl rfl)
theorem dX9_openAll_2 : decode cX9_openAll 2 = .ok (.iload_n 1, 1) := dk_27 (dk_at dksX9_openAll_0 2 rfl rfl)
theorem dX9_openAll_3 : decode cX9_openAll 3 = .ok (.aload_n 0, 1) := dk_42 (dk_at dksX9_openAll_0 3 rfl rfl)
theorem dX9_openAll_4 : decode cX9_openAll 4 = .ok (.getfield 29, 3) := dk_180 0 29 (dk_at dksX9_openAll_0 4 rfl rfl)
theorem dX9_openAll_7 : decode cX9_openAll 7 = .ok (.invokeinterface 60 1, 5) := by decide +kernel
theorem dX9_openAll_12 : decode cX9_openAll 12 = .ok (.if_icmp .ge 47, 3) := dk_162 0 47 (dk_at dksX9_openAll_0 12 rfl rfl)
theorem dX9_openAll_15 : decode cX9_openAll 15 = .ok (.aload_n 0, 1) := dk_42 (dk_at dksX9_openAll_0 15 rfl rfl)
theorem dX9_openAll_16 : decode cX9_openAll 16 = .ok (.getfield 29, 3) := dk_180 0 29 (dk_at dksX9_openAll_0 16 rfl rfl)
theorem dX9_openAll_19 : decode cX9_openAll 19 = .ok (.iload_n 1, 1) := dk_27 (dk_at dksX9_openAll_0 19 rfl rfl)
theorem dX9_openAll_20 : decode cX9_openAll 20 = .ok (.invokeinterface 64 2, 5) := by decide +kernel
theorem dX9_openAll_25 : decode cX9_openAll 25 = .ok (.checkcast 68, 3) := dk_192 0 68 (dk_at dksX9_openAll_1 5 rfl rfl)
theorem dX9_openAll_28 : decode cX9_openAll 28 = .ok (.getfield 74, 3) := dk_180 0 74 (dk_at dksX9_openAll_1 8 rfl rfl)
theorem dX9_openAll_31 : decode cX9_openAll 31 = .ok (.ifCond .ne 22, 3) := dk_154 0 22 (dk_at dksX9_openAll_1 11 rfl rfl)
theorem dX9_openAll_34 : decode cX9_openAll 34 = .ok (.aload_n 0, 1) := dk_42 (dk_at dksX9_openAll_1 14 rfl rfl)
theorem dX9_openAll_35 : decode cX9_openAll 35 = .ok (.aload_n 0, 1) := dk_42 (dk_at dksX9_openAll_1 15 rfl rfl)
theorem dX9_openAll_36 : decode cX9_openAll 36 = .ok (.getfield 29, 3) := dk_180 0 29 (dk_at dksX9_openAll_1 16 rfl rfl)
theorem dX9_openAll_39 : decode cX9_openAll 39 = .ok (.iload_n 1, 1) := dk_27 (dk_at dksX9_openAll_1 19 rfl rfl)
theorem dX9_openAll_40 : decode cX9_openAll 40 = .ok (.invokeinterface 64 2, 5) := by decide +kernel
theorem dX9_openAll_45 : decode cX9_openAll 45 = .ok (.checkcast 68, 3) := dk_192 0 68 (dk_at dksX9_openAll_2 5 rfl rfl)
theorem dX9_openAll_48 : decode cX9_openAll 48 = .ok (.bipush 115, 2) := dk_16 115 (dk_at dksX9_openAll_2 8 rfl rfl)
theorem dX9_openAll_50 : decode cX9_openAll 50 = .ok (.invokevirtual 107, 3) := dk_182 0 107 (dk_at dksX9_openAll_2 10 rfl rfl)
theorem dX9_openAll_53 : decode cX9_openAll 53 = .ok (.iinc 1 1, 3) := dk_132 1 1 (dk_at dksX9_openAll_2 13 rfl rfl)
theorem dX9_openAll_56 : decode cX9_openAll 56 = .ok (.goto (-54), 3) := dk_167 255 202 (dk_at dksX9_openAll_2 16 rfl rfl)
theorem dX9_openAll_59 : decode cX9_openAll 59 = .ok (.return_, 1) := dk_177 (dk_at dksX9_openAll_2 19 rfl rfl)
abbrev cX9_open : ByteArray := prog_5_method_6_code
def yX9_open : MethodName := ⟨RX9, "open", "(LBallotFoundry$Envelope;C)V"⟩
def dkwX9_open_2 : List UInt8 := [28, 43, 180, 0, 70, 180, 0, 81, 182, 0, 86, 177]
abbrev dktX9_open_2 : List UInt8 := dkwX9_open_2 ++ []
def dkwX9_open_1 : List UInt8 := [182, 0, 91, 180, 0, 95, 43, 180, 0, 98, 184, 0, 101, 185, 0, 54, 2, 0, 87, 42, 42, 180, 0, 39]
abbrev dktX9_open_1 : List UInt8 := dkwX9_open_1 ++ dktX9_open_2
def dkwX9_open_0 : List UInt8 := [43, 5, 181, 0, 74, 42, 180, 0, 18, 43, 180, 0, 70, 180, 0, 81, 4, 84, 42, 43, 180, 0, 70]
abbrev dktX9_open_0 : List UInt8 := dkwX9_open_0 ++ dktX9_open_1
theorem dksX9_open_0 : cX9_open.data.toList.drop 0 = dktX9_open_0 := by decide +kernel
theorem dksX9_open_1 : cX9_open.data.toList.drop 23 = dktX9_open_1 := dk_seg dksX9_open_0 23 rfl rfl
theorem dksX9_open_2 : cX9_open.data.toList.drop 47 = dktX9_open_2 := dk_seg dksX9_open_1 24 rfl rfl
theorem dX9_open_0 : decode cX9_open 0 = .ok (.aload_n 1, 1) := dk_43 (dk_at dksX9_open_0 0 rfl rfl)
theorem dX9_open_1 : decode cX9_open 1 = .ok (.iconst 2, 1) := dk_5 (dk_at dksX9_open_0 1 rfl rfl)
theorem dX9_open_2 : decode cX9_open 2 = .ok (.putfield 74, 3) := dk_181 0 74 (dk_at dksX9_open_0 2 rfl rfl)
theorem dX9_open_5 : decode cX9_open 5 = .ok (.aload_n 0, 1) := dk_42 (dk_at dksX9_open_0 5 rfl rfl)
theorem dX9_open_6 : decode cX9_open 6 = .ok (.getfield 18, 3) := dk_180 0 18 (dk_at dksX9_open_0 6 rfl rfl)
theorem dX9_open_9 : decode cX9_open 9 = .ok (.aload_n 1, 1) := dk_43 (dk_at dksX9_open_0 9 rfl rfl)
theorem dX9_open_10 : decode cX9_open 10 = .ok (.getfield 70, 3) := dk_180 0 70 (dk_at dksX9_open_0 10 rfl rfl)
theorem dX9_open_13 : decode cX9_open 13 = .ok (.getfield 81, 3) := dk_180 0 81 (dk_at dksX9_open_0 13 rfl rfl)
theorem dX9_open_16 : decode cX9_open 16 = .ok (.iconst 1, 1) := dk_4 (dk_at dksX9_open_0 16 rfl rfl)
theorem dX9_open_17 : decode cX9_open 17 = .ok (.bastore, 1) := dk_84 (dk_at dksX9_open_0 17 rfl rfl)
theorem dX9_open_18 : decode cX9_open 18 = .ok (.aload_n 0, 1) := dk_42 (dk_at dksX9_open_0 18 rfl rfl)
theorem dX9_open_19 : decode cX9_open 19 = .ok (.aload_n 1, 1) := dk_43 (dk_at dksX9_open_0 19 rfl rfl)
theorem dX9_open_20 : decode cX9_open 20 = .ok (.getfield 70, 3) := dk_180 0 70 (dk_at dksX9_open_0 20 rfl rfl)
theorem dX9_open_23 : decode cX9_open 23 = .ok (.invokevirtual 91, 3) := dk_182 0 91 (dk_at dksX9_open_1 0 rfl rfl)
theorem dX9_open_26 : decode cX9_open 26 = .ok (.getfield 95, 3) := dk_180 0 95 (dk_at dksX9_open_1 3 rfl rfl)
theorem dX9_open_29 : decode cX9_open 29 = .ok (.aload_n 1, 1) := dk_43 (dk_at dksX9_open_1 6 rfl rfl)
theorem dX9_open_30 : decode cX9_open 30 = .ok (.getfield 98, 3) := dk_180 0 98 (dk_at dksX9_open_1 7 rfl rfl)
theorem dX9_open_33 : decode cX9_open 33 = .ok (.invokestatic 101, 3) := dk_184 0 101 (dk_at dksX9_open_1 10 rfl rfl)
theorem dX9_open_36 : decode cX9_open 36 = .ok (.invokeinterface 54 2, 5) := by decide +kernel
theorem dX9_open_41 : decode cX9_open 41 = .ok (.pop, 1) := dk_87 (dk_at dksX9_open_1 18 rfl rfl)
theorem dX9_open_42 : decode cX9_open 42 = .ok (.aload_n 0, 1) := dk_42 (dk_at dksX9_open_1 19 rfl rfl)
theorem dX9_open_43 : decode cX9_open 43 = .ok (.aload_n 0, 1) := dk_42 (dk_at dksX9_open_1 20 rfl rfl)
theorem dX9_open_44 : decode cX9_open 44 = .ok (.getfield 39, 3) := dk_180 0 39 (dk_at dksX9_open_1 21 rfl rfl)
theorem dX9_open_47 : decode cX9_open 47 = .ok (.iload_n 2, 1) := dk_28 (dk_at dksX9_open_2 0 rfl rfl)
theorem dX9_open_48 : decode cX9_open 48 = .ok (.aload_n 1, 1) := dk_43 (dk_at dksX9_open_2 1 rfl rfl)
theorem dX9_open_49 : decode cX9_open 49 = .ok (.getfield 70, 3) := dk_180 0 70 (dk_at dksX9_open_2 2 rfl rfl)
theorem dX9_open_52 : decode cX9_open 52 = .ok (.getfield 81, 3) := dk_180 0 81 (dk_at dksX9_open_2 5 rfl rfl)
theorem dX9_open_55 : decode cX9_open 55 = .ok (.invokevirtual 86, 3) := dk_182 0 86 (dk_at dksX9_open_2 8 rfl rfl)
theorem dX9_open_58 : decode cX9_open 58 = .ok (.return_, 1) := dk_177 (dk_at dksX9_open_2 11 rfl rfl)
abbrev cX9_boxOf : ByteArray := prog_5_method_5_code
def yX9_boxOf : MethodName := ⟨RX9, "boxOf", "(LBallotFoundry$Person;)LBallotFoundry$Box;"⟩
def dkwX9_boxOf_0 : List UInt8 := [42, 180, 0, 25, 42, 180, 0, 15, 43, 180, 0, 81, 46, 185, 0, 64, 2, 0, 192, 0, 89, 176]
abbrev dktX9_boxOf_0 : List UInt8 := dkwX9_boxOf_0 ++ []
theorem dksX9_boxOf_0 : cX9_boxOf.data.toList.drop 0 = dktX9_boxOf_0 := by decide +kernel
theorem dX9_boxOf_0 : decode cX9_boxOf 0 = .ok (.aload_n 0, 1) := dk_42 (dk_at dksX9_boxOf_0 0 rfl rfl)
theorem dX9_boxOf_1 : decode cX9_boxOf 1 = .ok (.getfield 25, 3) := dk_180 0 25 (dk_at dksX9_boxOf_0 1 rfl rfl)
theorem dX9_boxOf_4 : decode cX9_boxOf 4 = .ok (.aload_n 0, 1) := dk_42 (dk_at dksX9_boxOf_0 4 rfl rfl)
theorem dX9_boxOf_5 : decode cX9_boxOf 5 = .ok (.getfield 15, 3) := dk_180 0 15 (dk_at dksX9_boxOf_0 5 rfl rfl)
theorem dX9_boxOf_8 : decode cX9_boxOf 8 = .ok (.aload_n 1, 1) := dk_43 (dk_at dksX9_boxOf_0 8 rfl rfl)
theorem dX9_boxOf_9 : decode cX9_boxOf 9 = .ok (.getfield 81, 3) := dk_180 0 81 (dk_at dksX9_boxOf_0 9 rfl rfl)
theorem dX9_boxOf_12 : decode cX9_boxOf 12 = .ok (.iaload, 1) := dk_46 (dk_at dksX9_boxOf_0 12 rfl rfl)
theorem dX9_boxOf_13 : decode cX9_boxOf 13 = .ok (.invokeinterface 64 2, 5) := by decide +kernel
theorem dX9_boxOf_18 : decode cX9_boxOf 18 = .ok (.checkcast 89, 3) := dk_192 0 89 (dk_at dksX9_boxOf_0 18 rfl rfl)
theorem dX9_boxOf_21 : decode cX9_boxOf 21 = .ok (.areturn, 1) := dk_176 (dk_at dksX9_boxOf_0 21 rfl rfl)
abbrev cX9_isSettled : ByteArray := prog_5_method_8_code
def yX9_isSettled : MethodName := ⟨RX9, "isSettled", "()Z"⟩
def dkwX9_isSettled_2 : List UInt8 := [167, 255, 213, 27, 172]
abbrev dktX9_isSettled_2 : List UInt8 := dkwX9_isSettled_2 ++ []
def dkwX9_isSettled_1 : List UInt8 := [185, 0, 64, 2, 0, 192, 0, 89, 180, 0, 111, 198, 0, 7, 4, 167, 0, 4, 3, 126, 60, 132, 2, 1]
abbrev dktX9_isSettled_1 : List UInt8 := dkwX9_isSettled_1 ++ dktX9_isSettled_2
def dkwX9_isSettled_0 : List UInt8 := [4, 60, 3, 61, 28, 42, 180, 0, 25, 185, 0, 60, 1, 0, 162, 0, 36, 27, 42, 180, 0, 25, 28]
abbrev dktX9_isSettled_0 : List UInt8 := dkwX9_isSettled_0 ++ dktX9_isSettled_1
theorem dksX9_isSettled_0 : cX9_isSettled.data.toList.drop 0 = dktX9_isSettled_0 := by decide +kernel
theorem dksX9_isSettled_1 : cX9_isSettled.data.toList.drop 23 = dktX9_isSettled_1 := dk_seg dksX9_isSettled_0 23 rfl rfl
theorem dksX9_isSettled_2 : cX9_isSettled.data.toList.drop 47 = dktX9_isSettled_2 := dk_seg dksX9_isSettled_1 24 rfl rfl
theorem dX9_isSettled_0 : decode cX9_isSettled 0 = .ok (.iconst 1, 1) := dk_4 (dk_at dksX9_isSettled_0 0 rfl rfl)
theorem dX9_isSettled_1 : decode cX9_isSettled 1 = .ok (.istore_n 1, 1) := dk_60 (dk_at dksX9_isSettled_0 1 rfl rfl)
theorem dX9_isSettled_2 : decode cX9_isSettled 2 = .ok (.iconst 0, 1) := dk_3 (dk_at dksX9_isSettled_0 2 rfl rfl)
theorem dX9_isSettled_3 : decode cX9_isSettled 3 = .ok (.istore_n 2, 1) := dk_61 (dk_at dksX9_isSettled_0 3 rfl rfl)
theorem dX9_isSettled_4 : decode cX9_isSettled 4 = .ok (.iload_n 2, 1) := dk_28 (dk_at dksX9_isSettled_0 4 rfl rfl)
theorem dX9_isSettled_5 : decode cX9_isSettled 5 = .ok (.aload_n 0, 1) := dk_42 (dk_at dksX9_isSettled_0 5 rfl rfl)
theorem dX9_isSettled_6 : decode cX9_isSettled 6 = .ok (.getfield 25, 3) := dk_180 0 25 (dk_at dksX9_isSettled_0 6 rfl rfl)
theorem dX9_isSettled_9 : decode cX9_isSettled 9 = .ok (.invokeinterface 60 1, 5) := by decide +kernel
theorem dX9_isSettled_14 : decode cX9_isSettled 14 = .ok (.if_icmp .ge 36, 3) := dk_162 0 36 (dk_at dksX9_isSettled_0 14 rfl rfl)
theorem dX9_isSettled_17 : decode cX9_isSettled 17 = .ok (.iload_n 1, 1) := dk_27 (dk_at dksX9_isSettled_0 17 rfl rfl)
theorem dX9_isSettled_18 : decode cX9_isSettled 18 = .ok (.aload_n 0, 1) := dk_42 (dk_at dksX9_isSettled_0 18 rfl rfl)
theorem dX9_isSettled_19 : decode cX9_isSettled 19 = .ok (.getfield 25, 3) := dk_180 0 25 (dk_at dksX9_isSettled_0 19 rfl rfl)
theorem dX9_isSettled_22 : decode cX9_isSettled 22 = .ok (.iload_n 2, 1) := dk_28 (dk_at dksX9_isSettled_0 22 rfl rfl)
theorem dX9_isSettled_23 : decode cX9_isSettled 23 = .ok (.invokeinterface 64 2, 5) := by decide +kernel
theorem dX9_isSettled_28 : decode cX9_isSettled 28 = .ok (.checkcast 89, 3) := dk_192 0 89 (dk_at dksX9_isSettled_1 5 rfl rfl)
theorem dX9_isSettled_31 : decode cX9_isSettled 31 = .ok (.getfield 111, 3) := dk_180 0 111 (dk_at dksX9_isSettled_1 8 rfl rfl)
theorem dX9_isSettled_34 : decode cX9_isSettled 34 = .ok (.ifnull 7, 3) := dk_198 0 7 (dk_at dksX9_isSettled_1 11 rfl rfl)
theorem dX9_isSettled_37 : decode cX9_isSettled 37 = .ok (.iconst 1, 1) := dk_4 (dk_at dksX9_isSettled_1 14 rfl rfl)
theorem dX9_isSettled_38 : decode cX9_isSettled 38 = .ok (.goto 4, 3) := dk_167 0 4 (dk_at dksX9_isSettled_1 15 rfl rfl)
theorem dX9_isSettled_41 : decode cX9_isSettled 41 = .ok (.iconst 0, 1) := dk_3 (dk_at dksX9_isSettled_1 18 rfl rfl)
theorem dX9_isSettled_42 : decode cX9_isSettled 42 = .ok (.iand, 1) := dk_126 (dk_at dksX9_isSettled_1 19 rfl rfl)
theorem dX9_isSettled_43 : decode cX9_isSettled 43 = .ok (.istore_n 1, 1) := dk_60 (dk_at dksX9_isSettled_1 20 rfl rfl)
theorem dX9_isSettled_44 : decode cX9_isSettled 44 = .ok (.iinc 2 1, 3) := dk_132 2 1 (dk_at dksX9_isSettled_1 21 rfl rfl)
theorem dX9_isSettled_47 : decode cX9_isSettled 47 = .ok (.goto (-43), 3) := dk_167 255 213 (dk_at dksX9_isSettled_2 0 rfl rfl)
theorem dX9_isSettled_50 : decode cX9_isSettled 50 = .ok (.iload_n 1, 1) := dk_27 (dk_at dksX9_isSettled_2 3 rfl rfl)
theorem dX9_isSettled_51 : decode cX9_isSettled 51 = .ok (.ireturn, 1) := dk_172 (dk_at dksX9_isSettled_2 4 rfl rfl)
theorem q69 : (Jvm.Cond.initialized "BallotFoundry$Election") ∈ lw_all := lw_g (lw_at lw_m1 26 rfl) rfl
theorem q515 : (Jvm.Cond.selects "BallotFoundry$Election" ({ cls := "java/lang/Object", name := "getClass", desc := "()Ljava/lang/Class;" } : Jvm.MethodName) ({ cls := "java/lang/Object", name := "getClass", desc := "()Ljava/lang/Class;" } : Jvm.MethodName)) ∈ lw_all := lw_g (lw_at lw_m2 232 rfl) rfl
theorem q571 : (Jvm.Cond.fieldLink "BallotFoundry$Election" (81 : Nat) "BallotFoundry$Person" "number" "I") ∈ lw_all := lw_g (lw_at lw_m3 48 rfl) rfl
theorem q635 : (Jvm.Cond.instanceMethod ({ cls := "BallotFoundry$Election", name := "voidSealed", desc := "(LBallotFoundry$Person;I)Z" } : Jvm.MethodName)) ∈ lw_all := lw_g (lw_at lw_m3 112 rfl) rfl
theorem q636 : (Jvm.Cond.selects "BallotFoundry$Election" ({ cls := "BallotFoundry$Election", name := "voidSealed", desc := "(LBallotFoundry$Person;I)Z" } : Jvm.MethodName) ({ cls := "BallotFoundry$Election", name := "voidSealed", desc := "(LBallotFoundry$Person;I)Z" } : Jvm.MethodName)) ∈ lw_all := lw_g (lw_at lw_m3 113 rfl) rfl
theorem q637 : (Jvm.Cond.code ({ cls := "BallotFoundry$Election", name := "voidSealed", desc := "(LBallotFoundry$Person;I)Z" } : Jvm.MethodName) prog_5_method_4_code (4 : Nat) (Option.some Jvm.ClassFile.FieldType.boolean)) ∈ lw_all := lw_g (lw_at lw_m3 114 rfl) rfl
theorem q638 : (Jvm.Cond.methodLink "BallotFoundry$Election" (77 : Nat) ({ cls := "BallotFoundry$Election", name := "sealedOf", desc := "(LBallotFoundry$Person;)LBallotFoundry$Envelope;" } : Jvm.MethodName)) ∈ lw_all := lw_g (lw_at lw_m3 115 rfl) rfl
theorem q639 : (Jvm.Cond.instanceMethod ({ cls := "BallotFoundry$Election", name := "sealedOf", desc := "(LBallotFoundry$Person;)LBallotFoundry$Envelope;" } : Jvm.MethodName)) ∈ lw_all := lw_g (lw_at lw_m3 116 rfl) rfl
theorem q640 : (Jvm.Cond.selects "BallotFoundry$Election" ({ cls := "BallotFoundry$Election", name := "sealedOf", desc := "(LBallotFoundry$Person;)LBallotFoundry$Envelope;" } : Jvm.MethodName) ({ cls := "BallotFoundry$Election", name := "sealedOf", desc := "(LBallotFoundry$Person;)LBallotFoundry$Envelope;" } : Jvm.MethodName)) ∈ lw_all := lw_g (lw_at lw_m3 117 rfl) rfl
theorem q641 : (Jvm.Cond.code ({ cls := "BallotFoundry$Election", name := "sealedOf", desc := "(LBallotFoundry$Person;)LBallotFoundry$Envelope;" } : Jvm.MethodName) prog_5_method_3_code (5 : Nat) (Option.some (Jvm.ClassFile.FieldType.object "BallotFoundry$Envelope"))) ∈ lw_all := lw_g (lw_at lw_m3 118 rfl) rfl
theorem q642 : (Jvm.Cond.interfaceEntry "BallotFoundry$Election" (60 : Nat)) ∈ lw_tbl := lw_at lw_m3 119 rfl
theorem q643 : (Jvm.Cond.methodLink "BallotFoundry$Election" (60 : Nat) ({ cls := "java/util/List", name := "size", desc := "()I" } : Jvm.MethodName)) ∈ lw_all := lw_g (lw_at lw_m3 120 rfl) rfl
theorem q644 : (Jvm.Cond.interfaceEntry "BallotFoundry$Election" (64 : Nat)) ∈ lw_tbl := lw_at lw_m3 121 rfl
theorem q645 : (Jvm.Cond.methodLink "BallotFoundry$Election" (64 : Nat) ({ cls := "java/util/List", name := "get", desc := "(I)Ljava/lang/Object;" } : Jvm.MethodName)) ∈ lw_all := lw_g (lw_at lw_m3 122 rfl) rfl
theorem q646 : (Jvm.Cond.classLink "BallotFoundry$Election" (68 : Nat) "BallotFoundry$Envelope") ∈ lw_all := lw_g (lw_at lw_m3 123 rfl) rfl
theorem q647 : (Jvm.Cond.methodLink "BallotFoundry$Election" (86 : Nat) ({ cls := "BallotFoundry$Election", name := "note", desc := "(ICI)V" } : Jvm.MethodName)) ∈ lw_all := lw_g (lw_at lw_m3 124 rfl) rfl
theorem q648 : (Jvm.Cond.instanceMethod ({ cls := "BallotFoundry$Election", name := "note", desc := "(ICI)V" } : Jvm.MethodName)) ∈ lw_all := lw_g (lw_at lw_m3 125 rfl) rfl
theorem q649 : (Jvm.Cond.selects "BallotFoundry$Election" ({ cls := "BallotFoundry$Election", name := "note", desc := "(ICI)V" } : Jvm.MethodName) ({ cls := "BallotFoundry$Election", name := "note", desc := "(ICI)V" } : Jvm.MethodName)) ∈ lw_all := lw_g (lw_at lw_m3 126 rfl) rfl
theorem q650 : (Jvm.Cond.code ({ cls := "BallotFoundry$Election", name := "note", desc := "(ICI)V" } : Jvm.MethodName) prog_5_method_2_code (4 : Nat) (Option.none : Option Jvm.ClassFile.FieldType)) ∈ lw_all := lw_g (lw_at lw_m3 127 rfl) rfl
theorem q651 : (Jvm.Cond.classLink "BallotFoundry$Election" (49 : Nat) "BallotFoundry$FullNote") ∈ lw_all := lw_g (lw_at lw_m3 128 rfl) rfl
theorem q653 : (Jvm.Cond.methodLink "BallotFoundry$Election" (51 : Nat) ({ cls := "BallotFoundry$FullNote", name := "<init>", desc := "(ICI)V" } : Jvm.MethodName)) ∈ lw_all := lw_g (lw_at lw_m3 130 rfl) rfl
theorem q675 : (Jvm.Cond.interfaceEntry "BallotFoundry$Election" (54 : Nat)) ∈ lw_tbl := lw_at lw_m3 152 rfl
theorem q676 : (Jvm.Cond.methodLink "BallotFoundry$Election" (54 : Nat) ({ cls := "java/util/List", name := "add", desc := "(Ljava/lang/Object;)Z" } : Jvm.MethodName)) ∈ lw_all := lw_g (lw_at lw_m3 153 rfl) rfl
theorem q705 : (Jvm.Cond.instantiable "BallotFoundry$Election" (10 : Nat)) ∈ lw_all := lw_g (lw_at lw_m3 182 rfl) rfl
theorem q707 : (Jvm.Cond.instanceMethod ({ cls := "BallotFoundry$Election", name := "<init>", desc := "(IIZ)V" } : Jvm.MethodName)) ∈ lw_all := lw_g (lw_at lw_m3 184 rfl) rfl
theorem q708 : (Jvm.Cond.code ({ cls := "BallotFoundry$Election", name := "<init>", desc := "(IIZ)V" } : Jvm.MethodName) prog_5_method_1_code (5 : Nat) (Option.none : Option Jvm.ClassFile.FieldType)) ∈ lw_all := lw_g (lw_at lw_m3 185 rfl) rfl
theorem q709 : (Jvm.Cond.methodLink "BallotFoundry$Election" (3 : Nat) ({ cls := "java/lang/Object", name := "<init>", desc := "()V" } : Jvm.MethodName)) ∈ lw_all := lw_g (lw_at lw_m3 186 rfl) rfl
theorem q710 : (Jvm.Cond.classLink "BallotFoundry$Election" (22 : Nat) "java/util/ArrayList") ∈ lw_all := lw_g (lw_at lw_m3 187 rfl) rfl
theorem q711 : (Jvm.Cond.methodLink "BallotFoundry$Election" (24 : Nat) ({ cls := "java/util/ArrayList", name := "<init>", desc := "()V" } : Jvm.MethodName)) ∈ lw_all := lw_g (lw_at lw_m3 188 rfl) rfl
theorem q712 : (Jvm.Cond.fieldLink "BallotFoundry$Election" (39 : Nat) "BallotFoundry$Election" "day" "I") ∈ lw_all := lw_g (lw_at lw_m3 189 rfl) rfl
theorem q714 : (Jvm.Cond.fieldLink "BallotFoundry$Election" (42 : Nat) "BallotFoundry$Election" "seats" "I") ∈ lw_all := lw_g (lw_at lw_m3 191 rfl) rfl
theorem q716 : (Jvm.Cond.fieldLink "BallotFoundry$Election" (45 : Nat) "BallotFoundry$Election" "isOdd" "Z") ∈ lw_all := lw_g (lw_at lw_m3 193 rfl) rfl
theorem q718 : (Jvm.Cond.fieldLink "BallotFoundry$Election" (9 : Nat) "BallotFoundry$Election" "seeds" "[I") ∈ lw_all := lw_g (lw_at lw_m3 195 rfl) rfl
theorem q721 : (Jvm.Cond.fieldLink "BallotFoundry$Election" (15 : Nat) "BallotFoundry$Election" "stations" "[I") ∈ lw_all := lw_g (lw_at lw_m3 198 rfl) rfl
theorem q723 : (Jvm.Cond.fieldLink "BallotFoundry$Election" (18 : Nat) "BallotFoundry$Election" "hasVoted" "[Z") ∈ lw_all := lw_g (lw_at lw_m3 200 rfl) rfl
theorem q725 : (Jvm.Cond.fieldLink "BallotFoundry$Election" (25 : Nat) "BallotFoundry$Election" "boxes" "Ljava/util/List;") ∈ lw_all := lw_g (lw_at lw_m3 202 rfl) rfl
theorem q728 : (Jvm.Cond.fieldLink "BallotFoundry$Election" (29 : Nat) "BallotFoundry$Election" "envelopes" "Ljava/util/List;") ∈ lw_all := lw_g (lw_at lw_m3 205 rfl) rfl
theorem q730 : (Jvm.Cond.fieldLink "BallotFoundry$Election" (32 : Nat) "BallotFoundry$Election" "book" "Ljava/util/List;") ∈ lw_all := lw_g (lw_at lw_m3 207 rfl) rfl
theorem q732 : (Jvm.Cond.fieldLink "BallotFoundry$Election" (35 : Nat) "BallotFoundry$Election" "stage" "I") ∈ lw_all := lw_g (lw_at lw_m3 209 rfl) rfl
theorem q734 : (Jvm.Cond.laysFinal "BallotFoundry$Election" "BallotFoundry$Election" "day" "I") ∈ lw_all := lw_g (lw_at lw_m3 211 rfl) rfl
theorem q735 : (Jvm.Cond.soleField "BallotFoundry$Election" "day") ∈ lw_all := lw_g (lw_at lw_m3 212 rfl) rfl
theorem q736 : (Jvm.Cond.laysFinal "BallotFoundry$Election" "BallotFoundry$Election" "seats" "I") ∈ lw_all := lw_g (lw_at lw_m3 213 rfl) rfl
theorem q737 : (Jvm.Cond.soleField "BallotFoundry$Election" "seats") ∈ lw_all := lw_g (lw_at lw_m3 214 rfl) rfl
theorem q738 : (Jvm.Cond.laysFinal "BallotFoundry$Election" "BallotFoundry$Election" "isOdd" "Z") ∈ lw_all := lw_g (lw_at lw_m3 215 rfl) rfl
theorem q739 : (Jvm.Cond.soleField "BallotFoundry$Election" "isOdd") ∈ lw_all := lw_g (lw_at lw_m3 216 rfl) rfl
theorem q740 : (Jvm.Cond.laysFinal "BallotFoundry$Election" "BallotFoundry$Election" "seeds" "[I") ∈ lw_all := lw_g (lw_at lw_m3 217 rfl) rfl
theorem q741 : (Jvm.Cond.soleField "BallotFoundry$Election" "seeds") ∈ lw_all := lw_g (lw_at lw_m3 218 rfl) rfl
theorem q742 : (Jvm.Cond.laysFinal "BallotFoundry$Election" "BallotFoundry$Election" "stations" "[I") ∈ lw_all := lw_g (lw_at lw_m3 219 rfl) rfl
theorem q743 : (Jvm.Cond.soleField "BallotFoundry$Election" "stations") ∈ lw_all := lw_g (lw_at lw_m3 220 rfl) rfl
theorem q744 : (Jvm.Cond.laysFinal "BallotFoundry$Election" "BallotFoundry$Election" "hasVoted" "[Z") ∈ lw_all := lw_g (lw_at lw_m3 221 rfl) rfl
theorem q745 : (Jvm.Cond.soleField "BallotFoundry$Election" "hasVoted") ∈ lw_all := lw_g (lw_at lw_m3 222 rfl) rfl
theorem q746 : (Jvm.Cond.laysFinal "BallotFoundry$Election" "BallotFoundry$Election" "boxes" "Ljava/util/List;") ∈ lw_all := lw_g (lw_at lw_m3 223 rfl) rfl
theorem q747 : (Jvm.Cond.soleField "BallotFoundry$Election" "boxes") ∈ lw_all := lw_g (lw_at lw_m3 224 rfl) rfl
theorem q748 : (Jvm.Cond.laysFinal "BallotFoundry$Election" "BallotFoundry$Election" "envelopes" "Ljava/util/List;") ∈ lw_all := lw_g (lw_at lw_m3 225 rfl) rfl
theorem q749 : (Jvm.Cond.soleField "BallotFoundry$Election" "envelopes") ∈ lw_all := lw_g (lw_at lw_m3 226 rfl) rfl
theorem q750 : (Jvm.Cond.laysFinal "BallotFoundry$Election" "BallotFoundry$Election" "book" "Ljava/util/List;") ∈ lw_all := lw_g (lw_at lw_m3 227 rfl) rfl
theorem q751 : (Jvm.Cond.soleField "BallotFoundry$Election" "book") ∈ lw_all := lw_g (lw_at lw_m3 228 rfl) rfl
theorem q752 : (Jvm.Cond.lays "BallotFoundry$Election" "BallotFoundry$Election" "stage" "I") ∈ lw_all := lw_g (lw_at lw_m3 229 rfl) rfl
theorem q753 : (Jvm.Cond.soleField "BallotFoundry$Election" "stage") ∈ lw_all := lw_g (lw_at lw_m3 230 rfl) rfl
theorem q754 : (Jvm.Cond.superclass "BallotFoundry$Election" "java/lang/Object") ∈ lw_all := lw_g (lw_at lw_m3 231 rfl) rfl
theorem q786 : (Jvm.Cond.fieldLink "BallotFoundry$Election" (95 : Nat) "BallotFoundry$Box" "ballots" "Ljava/util/List;") ∈ lw_all := lw_g (lw_at lw_m4 23 rfl) rfl
theorem q792 : (Jvm.Cond.fieldLink "BallotFoundry$Election" (111 : Nat) "BallotFoundry$Box" "settled" "LBallotFoundry$Count;") ∈ lw_all := lw_g (lw_at lw_m4 29 rfl) rfl
theorem q809 : (Jvm.Cond.instanceMethod ({ cls := "BallotFoundry$Election", name := "openAll", desc := "()V" } : Jvm.MethodName)) ∈ lw_all := lw_g (lw_at lw_m4 46 rfl) rfl
theorem q810 : (Jvm.Cond.selects "BallotFoundry$Election" ({ cls := "BallotFoundry$Election", name := "openAll", desc := "()V" } : Jvm.MethodName) ({ cls := "BallotFoundry$Election", name := "openAll", desc := "()V" } : Jvm.MethodName)) ∈ lw_all := lw_g (lw_at lw_m4 47 rfl) rfl
theorem q811 : (Jvm.Cond.code ({ cls := "BallotFoundry$Election", name := "openAll", desc := "()V" } : Jvm.MethodName) prog_5_method_7_code (2 : Nat) (Option.none : Option Jvm.ClassFile.FieldType)) ∈ lw_all := lw_g (lw_at lw_m4 48 rfl) rfl
theorem q812 : (Jvm.Cond.methodLink "BallotFoundry$Election" (107 : Nat) ({ cls := "BallotFoundry$Election", name := "open", desc := "(LBallotFoundry$Envelope;C)V" } : Jvm.MethodName)) ∈ lw_all := lw_g (lw_at lw_m4 49 rfl) rfl
theorem q813 : (Jvm.Cond.instanceMethod ({ cls := "BallotFoundry$Election", name := "open", desc := "(LBallotFoundry$Envelope;C)V" } : Jvm.MethodName)) ∈ lw_all := lw_g (lw_at lw_m4 50 rfl) rfl
theorem q814 : (Jvm.Cond.selects "BallotFoundry$Election" ({ cls := "BallotFoundry$Election", name := "open", desc := "(LBallotFoundry$Envelope;C)V" } : Jvm.MethodName) ({ cls := "BallotFoundry$Election", name := "open", desc := "(LBallotFoundry$Envelope;C)V" } : Jvm.MethodName)) ∈ lw_all := lw_g (lw_at lw_m4 51 rfl) rfl
theorem q815 : (Jvm.Cond.code ({ cls := "BallotFoundry$Election", name := "open", desc := "(LBallotFoundry$Envelope;C)V" } : Jvm.MethodName) prog_5_method_6_code (3 : Nat) (Option.none : Option Jvm.ClassFile.FieldType)) ∈ lw_all := lw_g (lw_at lw_m4 52 rfl) rfl
theorem q816 : (Jvm.Cond.methodLink "BallotFoundry$Election" (91 : Nat) ({ cls := "BallotFoundry$Election", name := "boxOf", desc := "(LBallotFoundry$Person;)LBallotFoundry$Box;" } : Jvm.MethodName)) ∈ lw_all := lw_g (lw_at lw_m4 53 rfl) rfl
theorem q817 : (Jvm.Cond.instanceMethod ({ cls := "BallotFoundry$Election", name := "boxOf", desc := "(LBallotFoundry$Person;)LBallotFoundry$Box;" } : Jvm.MethodName)) ∈ lw_all := lw_g (lw_at lw_m4 54 rfl) rfl
theorem q818 : (Jvm.Cond.selects "BallotFoundry$Election" ({ cls := "BallotFoundry$Election", name := "boxOf", desc := "(LBallotFoundry$Person;)LBallotFoundry$Box;" } : Jvm.MethodName) ({ cls := "BallotFoundry$Election", name := "boxOf", desc := "(LBallotFoundry$Person;)LBallotFoundry$Box;" } : Jvm.MethodName)) ∈ lw_all := lw_g (lw_at lw_m4 55 rfl) rfl
theorem q819 : (Jvm.Cond.code ({ cls := "BallotFoundry$Election", name := "boxOf", desc := "(LBallotFoundry$Person;)LBallotFoundry$Box;" } : Jvm.MethodName) prog_5_method_5_code (2 : Nat) (Option.some (Jvm.ClassFile.FieldType.object "BallotFoundry$Box"))) ∈ lw_all := lw_g (lw_at lw_m4 56 rfl) rfl
theorem q820 : (Jvm.Cond.classLink "BallotFoundry$Election" (89 : Nat) "BallotFoundry$Box") ∈ lw_all := lw_g (lw_at lw_m4 57 rfl) rfl
theorem q821 : (Jvm.Cond.methodLink "BallotFoundry$Election" (101 : Nat) ({ cls := "java/lang/Integer", name := "valueOf", desc := "(I)Ljava/lang/Integer;" } : Jvm.MethodName)) ∈ lw_all := lw_g (lw_at lw_m4 58 rfl) rfl
theorem q887 : (Jvm.Cond.fieldLink "BallotFoundry$Election" (70 : Nat) "BallotFoundry$Envelope" "person" "LBallotFoundry$Person;") ∈ lw_all := lw_g (lw_at lw_m4 124 rfl) rfl
theorem q890 : (Jvm.Cond.fieldLink "BallotFoundry$Election" (98 : Nat) "BallotFoundry$Envelope" "party" "I") ∈ lw_all := lw_g (lw_at lw_m4 127 rfl) rfl
theorem q892 : (Jvm.Cond.fieldLink "BallotFoundry$Election" (74 : Nat) "BallotFoundry$Envelope" "state" "I") ∈ lw_all := lw_g (lw_at lw_m4 129 rfl) rfl
theorem q941 : (Jvm.Cond.selects "BallotFoundry$Election" ({ cls := "java/lang/Object", name := "equals", desc := "(Ljava/lang/Object;)Z" } : Jvm.MethodName) ({ cls := "java/lang/Object", name := "equals", desc := "(Ljava/lang/Object;)Z" } : Jvm.MethodName)) ∈ lw_all := lw_g (lw_at lw_m4 178 rfl) rfl
theorem q1023 : (Jvm.Cond.instanceMethod ({ cls := "BallotFoundry$Election", name := "isSettled", desc := "()Z" } : Jvm.MethodName)) ∈ lw_all := lw_g (lw_at lw_m5 20 rfl) rfl
theorem q1024 : (Jvm.Cond.selects "BallotFoundry$Election" ({ cls := "BallotFoundry$Election", name := "isSettled", desc := "()Z" } : Jvm.MethodName) ({ cls := "BallotFoundry$Election", name := "isSettled", desc := "()Z" } : Jvm.MethodName)) ∈ lw_all := lw_g (lw_at lw_m5 21 rfl) rfl
theorem q1025 : (Jvm.Cond.code ({ cls := "BallotFoundry$Election", name := "isSettled", desc := "()Z" } : Jvm.MethodName) prog_5_method_8_code (3 : Nat) (Option.some Jvm.ClassFile.FieldType.boolean)) ∈ lw_all := lw_g (lw_at lw_m5 22 rfl) rfl
theorem q1805 : (Jvm.Cond.castable "BallotFoundry$Election" "java/lang/Object") ∈ lw_tbl := lw_at lw_m8 82 rfl
theorem in_X9 : ∀ w ∈ wsX90, w ∈ lw_all := lw_in wsX90 [734, 736, 738, 740, 742, 744, 746, 748, 750, 752] (by decide +kernel) (by decide +kernel)

/-! BallotFoundry$Box -/
set_option maxRecDepth 100000
def RX10 : String := "BallotFoundry$Box"
def TX10 : u_T := fun k => match k with
  | 0 => ("BallotFoundry$Box", "ballots", "Ljava/util/List;", true)
  | 1 => ("BallotFoundry$Box", "counts", "Ljava/util/List;", true)
  | 2 => ("BallotFoundry$Box", "settled", "LBallotFoundry$Count;", false)
  | _ => ("BallotFoundry$Box", "people", "I", false)
def tyX10 : Nat → FieldType := fun k => match k with
  | 0 => .object "java/util/List"
  | 1 => .object "java/util/List"
  | 2 => .object "BallotFoundry$Count"
  | _ => .int
abbrev wsX100 : List Cond := u_ws RX10 TX10 4
theorem nmX10 : ∀ a, a < 4 → ∀ b, b < 4 → a ≠ b → (TX10 a).2.1 ≠ (TX10 b).2.1 := by decide +kernel
theorem tyX10_ok : ∀ k, k < 4 → parseFieldDescriptor (TX10 k).2.2.1 = some (tyX10 k) := by decide +kernel
abbrev cX10_read : ByteArray := prog_2_method_2_code
def yX10_read : MethodName := ⟨RX10, "read", "(II)LBallotFoundry$Count;"⟩
def dkwX10_read_4 : List UInt8 := [182, 0, 45, 92, 46, 4, 96, 79, 132, 4, 1, 167, 255, 164, 45, 176]
abbrev dktX10_read_4 : List UInt8 := dkwX10_read_4 ++ []
def dkwX10_read_3 : List UInt8 := [192, 0, 43, 182, 0, 45, 46, 167, 0, 20, 42, 180, 0, 10, 21, 4, 185, 0, 39, 2, 0, 192, 0, 43]
abbrev dktX10_read_3 : List UInt8 := dkwX10_read_3 ++ dktX10_read_4
def dkwX10_read_2 : List UInt8 := [180, 0, 30, 21, 5, 153, 0, 27, 178, 0, 34, 42, 180, 0, 10, 21, 4, 185, 0, 39, 2, 0]
abbrev dktX10_read_2 : List UInt8 := dkwX10_read_2 ++ dktX10_read_3
def dkwX10_read_1 : List UInt8 := [162, 0, 84, 28, 158, 0, 16, 21, 4, 4, 96, 28, 112, 154, 0, 7, 4, 167, 0, 4, 3, 54, 5, 45]
abbrev dktX10_read_1 : List UInt8 := dkwX10_read_1 ++ dktX10_read_2
def dkwX10_read_0 : List UInt8 := [187, 0, 19, 89, 27, 183, 0, 21, 78, 3, 54, 4, 21, 4, 42, 180, 0, 10, 185, 0, 24, 1, 0]
abbrev dktX10_read_0 : List UInt8 := dkwX10_read_0 ++ dktX10_read_1
theorem dksX10_read_0 : cX10_read.data.toList.drop 0 = dktX10_read_0 := by decide +kernel
theorem dksX10_read_1 : cX10_read.data.toList.drop 23 = dktX10_read_1 := dk_seg dksX10_read_0 23 rfl rfl
theorem dksX10_read_2 : cX10_read.data.toList.drop 47 = dktX10_read_2 := dk_seg dksX10_read_1 24 rfl rfl
theorem dksX10_read_3 : cX10_read.data.toList.drop 69 = dktX10_read_3 := dk_seg dksX10_read_2 22 rfl rfl
theorem dksX10_read_4 : cX10_read.data.toList.drop 93 = dktX10_read_4 := dk_seg dksX10_read_3 24 rfl rfl
theorem dX10_read_0 : decode cX10_read 0 = .ok (.new 19, 3) := dk_187 0 19 (dk_at dksX10_read_0 0 rfl rfl)
theorem dX10_read_3 : decode cX10_read 3 = .ok (.dup, 1) := dk_89 (dk_at dksX10_read_0 3 rfl rfl)
theorem dX10_read_4 : decode cX10_read 4 = .ok (.iload_n 1, 1) := dk_27 (dk_at dksX10_read_0 4 rfl rfl)
theorem dX10_read_5 : decode cX10_read 5 = .ok (.invokespecial 21, 3) := dk_183 0 21 (dk_at dksX10_read_0 5 rfl rfl)
theorem dX10_read_8 : decode cX10_read 8 = .ok (.astore_n 3, 1) := dk_78 (dk_at dksX10_read_0 8 rfl rfl)
theorem dX10_read_9 : decode cX10_read 9 = .ok (.iconst 0, 1) := dk_3 (dk_at dksX10_read_0 9 rfl rfl)
theorem dX10_read_10 : decode cX10_read 10 = .ok (.istore 4, 2) := dk_54 4 (dk_at dksX10_read_0 10 rfl rfl)
theorem dX10_read_12 : decode cX10_read 12 = .ok (.iload 4, 2) := dk_21 4 (dk_at dksX10_read_0 12 rfl rfl)
theorem dX10_read_14 : decode cX10_read 14 = .ok (.aload_n 0, 1) := dk_42 (dk_at dksX10_read_0 14 rfl rfl)
theorem dX10_read_15 : decode cX10_read 15 = .ok (.getfield 10, 3) := dk_180 0 10 (dk_at dksX10_read_0 15 rfl rfl)
theorem dX10_read_18 : decode cX10_read 18 = .ok (.invokeinterface 24 1, 5) := by decide +kernel
theorem dX10_read_23 : decode cX10_read 23 = .ok (.if_icmp .ge 84, 3) := dk_162 0 84 (dk_at dksX10_read_1 0 rfl rfl)
theorem dX10_read_26 : decode cX10_read 26 = .ok (.iload_n 2, 1) := dk_28 (dk_at dksX10_read_1 3 rfl rfl)
theorem dX10_read_27 : decode cX10_read 27 = .ok (.ifCond .le 16, 3) := dk_158 0 16 (dk_at dksX10_read_1 4 rfl rfl)
theorem dX10_read_30 : decode cX10_read 30 = .ok (.iload 4, 2) := dk_21 4 (dk_at dksX10_read_1 7 rfl rfl)
theorem dX10_read_32 : decode cX10_read 32 = .ok (.iconst 1, 1) := dk_4 (dk_at dksX10_read_1 9 rfl rfl)
theorem dX10_read_33 : decode cX10_read 33 = .ok (.iadd, 1) := dk_96 (dk_at dksX10_read_1 10 rfl rfl)
theorem dX10_read_34 : decode cX10_read 34 = .ok (.iload_n 2, 1) := dk_28 (dk_at dksX10_read_1 11 rfl rfl)
theorem dX10_read_35 : decode cX10_read 35 = .ok (.irem, 1) := dk_112 (dk_at dksX10_read_1 12 rfl rfl)
theorem dX10_read_36 : decode cX10_read 36 = .ok (.ifCond .ne 7, 3) := dk_154 0 7 (dk_at dksX10_read_1 13 rfl rfl)
theorem dX10_read_39 : decode cX10_read 39 = .ok (.iconst 1, 1) := dk_4 (dk_at dksX10_read_1 16 rfl rfl)
theorem dX10_read_40 : decode cX10_read 40 = .ok (.goto 4, 3) := dk_167 0 4 (dk_at dksX10_read_1 17 rfl rfl)
theorem dX10_read_43 : decode cX10_read 43 = .ok (.iconst 0, 1) := dk_3 (dk_at dksX10_read_1 20 rfl rfl)
theorem dX10_read_44 : decode cX10_read 44 = .ok (.istore 5, 2) := dk_54 5 (dk_at dksX10_read_1 21 rfl rfl)
theorem dX10_read_46 : decode cX10_read 46 = .ok (.aload_n 3, 1) := dk_45 (dk_at dksX10_read_1 23 rfl rfl)
theorem dX10_read_47 : decode cX10_read 47 = .ok (.getfield 30, 3) := dk_180 0 30 (dk_at dksX10_read_2 0 rfl rfl)
theorem dX10_read_50 : decode cX10_read 50 = .ok (.iload 5, 2) := dk_21 5 (dk_at dksX10_read_2 3 rfl rfl)
theorem dX10_read_52 : decode cX10_read 52 = .ok (.ifCond .eq 27, 3) := dk_153 0 27 (dk_at dksX10_read_2 5 rfl rfl)
theorem dX10_read_55 : decode cX10_read 55 = .ok (.getstatic 34, 3) := dk_178 0 34 (dk_at dksX10_read_2 8 rfl rfl)
theorem dX10_read_58 : decode cX10_read 58 = .ok (.aload_n 0, 1) := dk_42 (dk_at dksX10_read_2 11 rfl rfl)
theorem dX10_read_59 : decode cX10_read 59 = .ok (.getfield 10, 3) := dk_180 0 10 (dk_at dksX10_read_2 12 rfl rfl)
theorem dX10_read_62 : decode cX10_read 62 = .ok (.iload 4, 2) := dk_21 4 (dk_at dksX10_read_2 15 rfl rfl)
theorem dX10_read_64 : decode cX10_read 64 = .ok (.invokeinterface 39 2, 5) := by decide +kernel
theorem dX10_read_69 : decode cX10_read 69 = .ok (.checkcast 43, 3) := dk_192 0 43 (dk_at dksX10_read_3 0 rfl rfl)
theorem dX10_read_72 : decode cX10_read 72 = .ok (.invokevirtual 45, 3) := dk_182 0 45 (dk_at dksX10_read_3 3 rfl rfl)
theorem dX10_read_75 : decode cX10_read 75 = .ok (.iaload, 1) := dk_46 (dk_at dksX10_read_3 6 rfl rfl)
theorem dX10_read_76 : decode cX10_read 76 = .ok (.goto 20, 3) := dk_167 0 20 (dk_at dksX10_read_3 7 rfl rfl)
theorem dX10_read_79 : decode cX10_read 79 = .ok (.aload_n 0, 1) := dk_42 (dk_at dksX10_read_3 10 rfl rfl)
theorem dX10_read_80 : decode cX10_read 80 = .ok (.getfield 10, 3) := dk_180 0 10 (dk_at dksX10_read_3 11 rfl rfl)
theorem dX10_read_83 : decode cX10_read 83 = .ok (.iload 4, 2) := dk_21 4 (dk_at dksX10_read_3 14 rfl rfl)
theorem dX10_read_85 : decode cX10_read 85 = .ok (.invokeinterface 39 2, 5) := by decide +kernel
theorem dX10_read_90 : decode cX10_read 90 = .ok (.checkcast 43, 3) := dk_192 0 43 (dk_at dksX10_read_3 21 rfl rfl)
theorem dX10_read_93 : decode cX10_read 93 = .ok (.invokevirtual 45, 3) := dk_182 0 45 (dk_at dksX10_read_4 0 rfl rfl)
theorem dX10_read_96 : decode cX10_read 96 = .ok (.dup2, 1) := dk_92 (dk_at dksX10_read_4 3 rfl rfl)
theorem dX10_read_97 : decode cX10_read 97 = .ok (.iaload, 1) := dk_46 (dk_at dksX10_read_4 4 rfl rfl)
theorem dX10_read_98 : decode cX10_read 98 = .ok (.iconst 1, 1) := dk_4 (dk_at dksX10_read_4 5 rfl rfl)
theorem dX10_read_99 : decode cX10_read 99 = .ok (.iadd, 1) := dk_96 (dk_at dksX10_read_4 6 rfl rfl)
theorem dX10_read_100 : decode cX10_read 100 = .ok (.iastore, 1) := dk_79 (dk_at dksX10_read_4 7 rfl rfl)
theorem dX10_read_101 : decode cX10_read 101 = .ok (.iinc 4 1, 3) := dk_132 4 1 (dk_at dksX10_read_4 8 rfl rfl)
theorem dX10_read_104 : decode cX10_read 104 = .ok (.goto (-92), 3) := dk_167 255 164 (dk_at dksX10_read_4 11 rfl rfl)
theorem dX10_read_107 : decode cX10_read 107 = .ok (.aload_n 3, 1) := dk_45 (dk_at dksX10_read_4 14 rfl rfl)
theorem dX10_read_108 : decode cX10_read 108 = .ok (.areturn, 1) := dk_176 (dk_at dksX10_read_4 15 rfl rfl)
abbrev cX10_init : ByteArray := prog_2_method_1_code
def yX10_init : MethodName := ⟨RX10, "<init>", "()V"⟩
def dkwX10_init_1 : List UInt8 := [181, 0, 16, 177]
abbrev dktX10_init_1 : List UInt8 := dkwX10_init_1 ++ []
def dkwX10_init_0 : List UInt8 := [42, 183, 0, 1, 42, 187, 0, 7, 89, 183, 0, 9, 181, 0, 10, 42, 187, 0, 7, 89, 183, 0, 9]
abbrev dktX10_init_0 : List UInt8 := dkwX10_init_0 ++ dktX10_init_1
theorem dksX10_init_0 : cX10_init.data.toList.drop 0 = dktX10_init_0 := by decide +kernel
theorem dksX10_init_1 : cX10_init.data.toList.drop 23 = dktX10_init_1 := dk_seg dksX10_init_0 23 rfl rfl
theorem dX10_init_0 : decode cX10_init 0 = .ok (.aload_n 0, 1) := dk_42 (dk_at dksX10_init_0 0 rfl rfl)
theorem dX10_init_1 : decode cX10_init 1 = .ok (.invokespecial 1, 3) := dk_183 0 1 (dk_at dksX10_init_0 1 rfl rfl)
theorem dX10_init_4 : decode cX10_init 4 = .ok (.aload_n 0, 1) := dk_42 (dk_at dksX10_init_0 4 rfl rfl)
theorem dX10_init_5 : decode cX10_init 5 = .ok (.new 7, 3) := dk_187 0 7 (dk_at dksX10_init_0 5 rfl rfl)
theorem dX10_init_8 : decode cX10_init 8 = .ok (.dup, 1) := dk_89 (dk_at dksX10_init_0 8 rfl rfl)
theorem dX10_init_9 : decode cX10_init 9 = .ok (.invokespecial 9, 3) := dk_183 0 9 (dk_at dksX10_init_0 9 rfl rfl)
theorem dX10_init_12 : decode cX10_init 12 = .ok (.putfield 10, 3) := dk_181 0 10 (dk_at dksX10_init_0 12 rfl rfl)
theorem dX10_init_15 : decode cX10_init 15 = .ok (.aload_n 0, 1) := dk_42 (dk_at dksX10_init_0 15 rfl rfl)
theorem dX10_init_16 : decode cX10_init 16 = .ok (.new 7, 3) := dk_187 0 7 (dk_at dksX10_init_0 16 rfl rfl)
theorem dX10_init_19 : decode cX10_init 19 = .ok (.dup, 1) := dk_89 (dk_at dksX10_init_0 19 rfl rfl)
theorem dX10_init_20 : decode cX10_init 20 = .ok (.invokespecial 9, 3) := dk_183 0 9 (dk_at dksX10_init_0 20 rfl rfl)
theorem dX10_init_23 : decode cX10_init 23 = .ok (.putfield 16, 3) := dk_181 0 16 (dk_at dksX10_init_1 0 rfl rfl)
theorem dX10_init_26 : decode cX10_init 26 = .ok (.return_, 1) := dk_177 (dk_at dksX10_init_1 3 rfl rfl)
abbrev cX10_take : ByteArray := prog_2_method_3_code
def yX10_take : MethodName := ⟨RX10, "take", "(LBallotFoundry$Count;)V"⟩
def dkwX10_take_3 : List UInt8 := [185, 0, 59, 2, 0, 87, 177]
abbrev dktX10_take_3 : List UInt8 := dkwX10_take_3 ++ []
def dkwX10_take_2 : List UInt8 := [183, 0, 56, 167, 0, 4, 1, 181, 0, 48, 132, 2, 1, 167, 255, 197, 42, 180, 0, 16, 43]
abbrev dktX10_take_2 : List UInt8 := dkwX10_take_2 ++ dktX10_take_3
def dkwX10_take_1 : List UInt8 := [180, 0, 16, 28, 185, 0, 39, 2, 0, 192, 0, 19, 43, 182, 0, 52, 153, 0, 14, 187, 0, 19, 89, 43]
abbrev dktX10_take_1 : List UInt8 := dkwX10_take_1 ++ dktX10_take_2
def dkwX10_take_0 : List UInt8 := [3, 61, 28, 42, 180, 0, 16, 185, 0, 24, 1, 0, 162, 0, 52, 42, 180, 0, 48, 199, 0, 45, 42, 42]
abbrev dktX10_take_0 : List UInt8 := dkwX10_take_0 ++ dktX10_take_1
theorem dksX10_take_0 : cX10_take.data.toList.drop 0 = dktX10_take_0 := by decide +kernel
theorem dksX10_take_1 : cX10_take.data.toList.drop 24 = dktX10_take_1 := dk_seg dksX10_take_0 24 rfl rfl
theorem dksX10_take_2 : cX10_take.data.toList.drop 48 = dktX10_take_2 := dk_seg dksX10_take_1 24 rfl rfl
theorem dksX10_take_3 : cX10_take.data.toList.drop 69 = dktX10_take_3 := dk_seg dksX10_take_2 21 rfl rfl
theorem dX10_take_0 : decode cX10_take 0 = .ok (.iconst 0, 1) := dk_3 (dk_at dksX10_take_0 0 rfl rfl)
theorem dX10_take_1 : decode cX10_take 1 = .ok (.istore_n 2, 1) := dk_61 (dk_at dksX10_take_0 1 rfl rfl)
theorem dX10_take_2 : decode cX10_take 2 = .ok (.iload_n 2, 1) := dk_28 (dk_at dksX10_take_0 2 rfl rfl)
theorem dX10_take_3 : decode cX10_take 3 = .ok (.aload_n 0, 1) := dk_42 (dk_at dksX10_take_0 3 rfl rfl)
theorem dX10_take_4 : decode cX10_take 4 = .ok (.getfield 16, 3) := dk_180 0 16 (dk_at dksX10_take_0 4 rfl rfl)
theorem dX10_take_7 : decode cX10_take 7 = .ok (.invokeinterface 24 1, 5) := by decide +kernel
theorem dX10_take_12 : decode cX10_take 12 = .ok (.if_icmp .ge 52, 3) := dk_162 0 52 (dk_at dksX10_take_0 12 rfl rfl)
theorem dX10_take_15 : decode cX10_take 15 = .ok (.aload_n 0, 1) := dk_42 (dk_at dksX10_take_0 15 rfl rfl)
theorem dX10_take_16 : decode cX10_take 16 = .ok (.getfield 48, 3) := dk_180 0 48 (dk_at dksX10_take_0 16 rfl rfl)
theorem dX10_take_19 : decode cX10_take 19 = .ok (.ifnonnull 45, 3) := dk_199 0 45 (dk_at dksX10_take_0 19 rfl rfl)
theorem dX10_take_22 : decode cX10_take 22 = .ok (.aload_n 0, 1) := dk_42 (dk_at dksX10_take_0 22 rfl rfl)
theorem dX10_take_23 : decode cX10_take 23 = .ok (.aload_n 0, 1) := dk_42 (dk_at dksX10_take_0 23 rfl rfl)
theorem dX10_take_24 : decode cX10_take 24 = .ok (.getfield 16, 3) := dk_180 0 16 (dk_at dksX10_take_1 0 rfl rfl)
theorem dX10_take_27 : decode cX10_take 27 = .ok (.iload_n 2, 1) := dk_28 (dk_at dksX10_take_1 3 rfl rfl)
theorem dX10_take_28 : decode cX10_take 28 = .ok (.invokeinterface 39 2, 5) := by decide +kernel
theorem dX10_take_33 : decode cX10_take 33 = .ok (.checkcast 19, 3) := dk_192 0 19 (dk_at dksX10_take_1 9 rfl rfl)
theorem dX10_take_36 : decode cX10_take 36 = .ok (.aload_n 1, 1) := dk_43 (dk_at dksX10_take_1 12 rfl rfl)
theorem dX10_take_37 : decode cX10_take 37 = .ok (.invokevirtual 52, 3) := dk_182 0 52 (dk_at dksX10_take_1 13 rfl rfl)
theorem dX10_take_40 : decode cX10_take 40 = .ok (.ifCond .eq 14, 3) := dk_153 0 14 (dk_at dksX10_take_1 16 rfl rfl)
theorem dX10_take_43 : decode cX10_take 43 = .ok (.new 19, 3) := dk_187 0 19 (dk_at dksX10_take_1 19 rfl rfl)
theorem dX10_take_46 : decode cX10_take 46 = .ok (.dup, 1) := dk_89 (dk_at dksX10_take_1 22 rfl rfl)
theorem dX10_take_47 : decode cX10_take 47 = .ok (.aload_n 1, 1) := dk_43 (dk_at dksX10_take_1 23 rfl rfl)
theorem dX10_take_48 : decode cX10_take 48 = .ok (.invokespecial 56, 3) := dk_183 0 56 (dk_at dksX10_take_2 0 rfl rfl)
theorem dX10_take_51 : decode cX10_take 51 = .ok (.goto 4, 3) := dk_167 0 4 (dk_at dksX10_take_2 3 rfl rfl)
theorem dX10_take_54 : decode cX10_take 54 = .ok (.aconst_null, 1) := dk_1 (dk_at dksX10_take_2 6 rfl rfl)
theorem dX10_take_55 : decode cX10_take 55 = .ok (.putfield 48, 3) := dk_181 0 48 (dk_at dksX10_take_2 7 rfl rfl)
theorem dX10_take_58 : decode cX10_take 58 = .ok (.iinc 2 1, 3) := dk_132 2 1 (dk_at dksX10_take_2 10 rfl rfl)
theorem dX10_take_61 : decode cX10_take 61 = .ok (.goto (-59), 3) := dk_167 255 197 (dk_at dksX10_take_2 13 rfl rfl)
theorem dX10_take_64 : decode cX10_take 64 = .ok (.aload_n 0, 1) := dk_42 (dk_at dksX10_take_2 16 rfl rfl)
theorem dX10_take_65 : decode cX10_take 65 = .ok (.getfield 16, 3) := dk_180 0 16 (dk_at dksX10_take_2 17 rfl rfl)
theorem dX10_take_68 : decode cX10_take 68 = .ok (.aload_n 1, 1) := dk_43 (dk_at dksX10_take_2 20 rfl rfl)
theorem dX10_take_69 : decode cX10_take 69 = .ok (.invokeinterface 59 2, 5) := by decide +kernel
theorem dX10_take_74 : decode cX10_take 74 = .ok (.pop, 1) := dk_87 (dk_at dksX10_take_3 5 rfl rfl)
theorem dX10_take_75 : decode cX10_take 75 = .ok (.return_, 1) := dk_177 (dk_at dksX10_take_3 6 rfl rfl)
theorem q70 : (Jvm.Cond.initialized "BallotFoundry$Box") ∈ lw_all := lw_g (lw_at lw_m1 27 rfl) rfl
theorem q202 : (Jvm.Cond.instanceMethod ({ cls := "BallotFoundry$Box", name := "read", desc := "(II)LBallotFoundry$Count;" } : Jvm.MethodName)) ∈ lw_all := lw_g (lw_at lw_m1 159 rfl) rfl
theorem q203 : (Jvm.Cond.selects "BallotFoundry$Box" ({ cls := "BallotFoundry$Box", name := "read", desc := "(II)LBallotFoundry$Count;" } : Jvm.MethodName) ({ cls := "BallotFoundry$Box", name := "read", desc := "(II)LBallotFoundry$Count;" } : Jvm.MethodName)) ∈ lw_all := lw_g (lw_at lw_m1 160 rfl) rfl
theorem q204 : (Jvm.Cond.code ({ cls := "BallotFoundry$Box", name := "read", desc := "(II)LBallotFoundry$Count;" } : Jvm.MethodName) prog_2_method_2_code (6 : Nat) (Option.some (Jvm.ClassFile.FieldType.object "BallotFoundry$Count"))) ∈ lw_all := lw_g (lw_at lw_m1 161 rfl) rfl
theorem q205 : (Jvm.Cond.classLink "BallotFoundry$Box" (19 : Nat) "BallotFoundry$Count") ∈ lw_all := lw_g (lw_at lw_m1 162 rfl) rfl
theorem q207 : (Jvm.Cond.methodLink "BallotFoundry$Box" (21 : Nat) ({ cls := "BallotFoundry$Count", name := "<init>", desc := "(I)V" } : Jvm.MethodName)) ∈ lw_all := lw_g (lw_at lw_m1 164 rfl) rfl
theorem q214 : (Jvm.Cond.fieldLink "BallotFoundry$Box" (30 : Nat) "BallotFoundry$Count" "numbers" "[I") ∈ lw_all := lw_g (lw_at lw_m1 171 rfl) rfl
theorem q221 : (Jvm.Cond.interfaceEntry "BallotFoundry$Box" (24 : Nat)) ∈ lw_tbl := lw_at lw_m1 178 rfl
theorem q222 : (Jvm.Cond.methodLink "BallotFoundry$Box" (24 : Nat) ({ cls := "java/util/List", name := "size", desc := "()I" } : Jvm.MethodName)) ∈ lw_all := lw_g (lw_at lw_m1 179 rfl) rfl
theorem q223 : (Jvm.Cond.fieldLinkNest "BallotFoundry$Box" (34 : Nat) "BallotFoundry" "SLIPPED" "[I" "BallotFoundry") ∈ lw_tbl := lw_at lw_m1 180 rfl
theorem q225 : (Jvm.Cond.interfaceEntry "BallotFoundry$Box" (39 : Nat)) ∈ lw_tbl := lw_at lw_m1 182 rfl
theorem q226 : (Jvm.Cond.methodLink "BallotFoundry$Box" (39 : Nat) ({ cls := "java/util/List", name := "get", desc := "(I)Ljava/lang/Object;" } : Jvm.MethodName)) ∈ lw_all := lw_g (lw_at lw_m1 183 rfl) rfl
theorem q227 : (Jvm.Cond.classLink "BallotFoundry$Box" (43 : Nat) "java/lang/Integer") ∈ lw_all := lw_g (lw_at lw_m1 184 rfl) rfl
theorem q228 : (Jvm.Cond.methodLink "BallotFoundry$Box" (45 : Nat) ({ cls := "java/lang/Integer", name := "intValue", desc := "()I" } : Jvm.MethodName)) ∈ lw_all := lw_g (lw_at lw_m1 185 rfl) rfl
theorem q512 : (Jvm.Cond.selects "BallotFoundry$Box" ({ cls := "java/lang/Object", name := "getClass", desc := "()Ljava/lang/Class;" } : Jvm.MethodName) ({ cls := "java/lang/Object", name := "getClass", desc := "()Ljava/lang/Class;" } : Jvm.MethodName)) ∈ lw_all := lw_g (lw_at lw_m2 229 rfl) rfl
theorem q778 : (Jvm.Cond.instantiable "BallotFoundry$Box" (4 : Nat)) ∈ lw_all := lw_g (lw_at lw_m4 15 rfl) rfl
theorem q780 : (Jvm.Cond.instanceMethod ({ cls := "BallotFoundry$Box", name := "<init>", desc := "()V" } : Jvm.MethodName)) ∈ lw_all := lw_g (lw_at lw_m4 17 rfl) rfl
theorem q781 : (Jvm.Cond.code ({ cls := "BallotFoundry$Box", name := "<init>", desc := "()V" } : Jvm.MethodName) prog_2_method_1_code (1 : Nat) (Option.none : Option Jvm.ClassFile.FieldType)) ∈ lw_all := lw_g (lw_at lw_m4 18 rfl) rfl
theorem q782 : (Jvm.Cond.methodLink "BallotFoundry$Box" (1 : Nat) ({ cls := "java/lang/Object", name := "<init>", desc := "()V" } : Jvm.MethodName)) ∈ lw_all := lw_g (lw_at lw_m4 19 rfl) rfl
theorem q783 : (Jvm.Cond.classLink "BallotFoundry$Box" (7 : Nat) "java/util/ArrayList") ∈ lw_all := lw_g (lw_at lw_m4 20 rfl) rfl
theorem q784 : (Jvm.Cond.methodLink "BallotFoundry$Box" (9 : Nat) ({ cls := "java/util/ArrayList", name := "<init>", desc := "()V" } : Jvm.MethodName)) ∈ lw_all := lw_g (lw_at lw_m4 21 rfl) rfl
theorem q785 : (Jvm.Cond.fieldLink "BallotFoundry$Box" (10 : Nat) "BallotFoundry$Box" "ballots" "Ljava/util/List;") ∈ lw_all := lw_g (lw_at lw_m4 22 rfl) rfl
theorem q788 : (Jvm.Cond.fieldLink "BallotFoundry$Box" (16 : Nat) "BallotFoundry$Box" "counts" "Ljava/util/List;") ∈ lw_all := lw_g (lw_at lw_m4 25 rfl) rfl
theorem q791 : (Jvm.Cond.fieldLink "BallotFoundry$Box" (48 : Nat) "BallotFoundry$Box" "settled" "LBallotFoundry$Count;") ∈ lw_all := lw_g (lw_at lw_m4 28 rfl) rfl
theorem q795 : (Jvm.Cond.laysFinal "BallotFoundry$Box" "BallotFoundry$Box" "ballots" "Ljava/util/List;") ∈ lw_all := lw_g (lw_at lw_m4 32 rfl) rfl
theorem q796 : (Jvm.Cond.soleField "BallotFoundry$Box" "ballots") ∈ lw_all := lw_g (lw_at lw_m4 33 rfl) rfl
theorem q797 : (Jvm.Cond.laysFinal "BallotFoundry$Box" "BallotFoundry$Box" "counts" "Ljava/util/List;") ∈ lw_all := lw_g (lw_at lw_m4 34 rfl) rfl
theorem q798 : (Jvm.Cond.soleField "BallotFoundry$Box" "counts") ∈ lw_all := lw_g (lw_at lw_m4 35 rfl) rfl
theorem q799 : (Jvm.Cond.lays "BallotFoundry$Box" "BallotFoundry$Box" "settled" "LBallotFoundry$Count;") ∈ lw_all := lw_g (lw_at lw_m4 36 rfl) rfl
theorem q800 : (Jvm.Cond.soleField "BallotFoundry$Box" "settled") ∈ lw_all := lw_g (lw_at lw_m4 37 rfl) rfl
theorem q801 : (Jvm.Cond.lays "BallotFoundry$Box" "BallotFoundry$Box" "people" "I") ∈ lw_all := lw_g (lw_at lw_m4 38 rfl) rfl
theorem q802 : (Jvm.Cond.soleField "BallotFoundry$Box" "people") ∈ lw_all := lw_g (lw_at lw_m4 39 rfl) rfl
theorem q803 : (Jvm.Cond.superclass "BallotFoundry$Box" "java/lang/Object") ∈ lw_all := lw_g (lw_at lw_m4 40 rfl) rfl
theorem q938 : (Jvm.Cond.selects "BallotFoundry$Box" ({ cls := "java/lang/Object", name := "equals", desc := "(Ljava/lang/Object;)Z" } : Jvm.MethodName) ({ cls := "java/lang/Object", name := "equals", desc := "(Ljava/lang/Object;)Z" } : Jvm.MethodName)) ∈ lw_all := lw_g (lw_at lw_m4 175 rfl) rfl
theorem q1009 : (Jvm.Cond.instanceMethod ({ cls := "BallotFoundry$Box", name := "take", desc := "(LBallotFoundry$Count;)V" } : Jvm.MethodName)) ∈ lw_all := lw_g (lw_at lw_m5 6 rfl) rfl
theorem q1010 : (Jvm.Cond.selects "BallotFoundry$Box" ({ cls := "BallotFoundry$Box", name := "take", desc := "(LBallotFoundry$Count;)V" } : Jvm.MethodName) ({ cls := "BallotFoundry$Box", name := "take", desc := "(LBallotFoundry$Count;)V" } : Jvm.MethodName)) ∈ lw_all := lw_g (lw_at lw_m5 7 rfl) rfl
theorem q1011 : (Jvm.Cond.code ({ cls := "BallotFoundry$Box", name := "take", desc := "(LBallotFoundry$Count;)V" } : Jvm.MethodName) prog_2_method_3_code (3 : Nat) (Option.none : Option Jvm.ClassFile.FieldType)) ∈ lw_all := lw_g (lw_at lw_m5 8 rfl) rfl
theorem q1012 : (Jvm.Cond.methodLink "BallotFoundry$Box" (52 : Nat) ({ cls := "BallotFoundry$Count", name := "agrees", desc := "(LBallotFoundry$Count;)Z" } : Jvm.MethodName)) ∈ lw_all := lw_g (lw_at lw_m5 9 rfl) rfl
theorem q1016 : (Jvm.Cond.methodLink "BallotFoundry$Box" (56 : Nat) ({ cls := "BallotFoundry$Count", name := "<init>", desc := "(LBallotFoundry$Count;)V" } : Jvm.MethodName)) ∈ lw_all := lw_g (lw_at lw_m5 13 rfl) rfl
theorem q1020 : (Jvm.Cond.interfaceEntry "BallotFoundry$Box" (59 : Nat)) ∈ lw_tbl := lw_at lw_m5 17 rfl
theorem q1021 : (Jvm.Cond.methodLink "BallotFoundry$Box" (59 : Nat) ({ cls := "java/util/List", name := "add", desc := "(Ljava/lang/Object;)Z" } : Jvm.MethodName)) ∈ lw_all := lw_g (lw_at lw_m5 18 rfl) rfl
theorem q1806 : (Jvm.Cond.castable "BallotFoundry$Box" "java/lang/Object") ∈ lw_tbl := lw_at lw_m8 83 rfl
theorem in_X10 : ∀ w ∈ wsX100, w ∈ lw_all := lw_in wsX100 [795, 797, 799, 801] (by decide +kernel) (by decide +kernel)

/-! BallotFoundry$Envelope -/
set_option maxRecDepth 100000
def RX11 : String := "BallotFoundry$Envelope"
def TX11 : u_T := fun k => match k with
  | 0 => ("BallotFoundry$Envelope", "person", "LBallotFoundry$Person;", true)
  | 1 => ("BallotFoundry$Envelope", "party", "I", true)
  | _ => ("BallotFoundry$Envelope", "state", "I", false)
def tyX11 : Nat → FieldType := fun k => match k with
  | 0 => .object "BallotFoundry$Person"
  | 1 => .int
  | _ => .int
abbrev wsX110 : List Cond := u_ws RX11 TX11 3
theorem nmX11 : ∀ a, a < 3 → ∀ b, b < 3 → a ≠ b → (TX11 a).2.1 ≠ (TX11 b).2.1 := by decide +kernel
theorem tyX11_ok : ∀ k, k < 3 → parseFieldDescriptor (TX11 k).2.2.1 = some (tyX11 k) := by decide +kernel
abbrev cX11_init : ByteArray := prog_6_method_1_code
def yX11_init : MethodName := ⟨RX11, "<init>", "(LBallotFoundry$Person;I)V"⟩
def dkwX11_init_0 : List UInt8 := [42, 183, 0, 3, 42, 3, 181, 0, 9, 42, 43, 181, 0, 15, 42, 28, 181, 0, 19, 177]
abbrev dktX11_init_0 : List UInt8 := dkwX11_init_0 ++ []
theorem dksX11_init_0 : cX11_init.data.toList.drop 0 = dktX11_init_0 := by decide +kernel
theorem dX11_init_0 : decode cX11_init 0 = .ok (.aload_n 0, 1) := dk_42 (dk_at dksX11_init_0 0 rfl rfl)
theorem dX11_init_1 : decode cX11_init 1 = .ok (.invokespecial 3, 3) := dk_183 0 3 (dk_at dksX11_init_0 1 rfl rfl)
theorem dX11_init_4 : decode cX11_init 4 = .ok (.aload_n 0, 1) := dk_42 (dk_at dksX11_init_0 4 rfl rfl)
theorem dX11_init_5 : decode cX11_init 5 = .ok (.iconst 0, 1) := dk_3 (dk_at dksX11_init_0 5 rfl rfl)
theorem dX11_init_6 : decode cX11_init 6 = .ok (.putfield 9, 3) := dk_181 0 9 (dk_at dksX11_init_0 6 rfl rfl)
theorem dX11_init_9 : decode cX11_init 9 = .ok (.aload_n 0, 1) := dk_42 (dk_at dksX11_init_0 9 rfl rfl)
theorem dX11_init_10 : decode cX11_init 10 = .ok (.aload_n 1, 1) := dk_43 (dk_at dksX11_init_0 10 rfl rfl)
theorem dX11_init_11 : decode cX11_init 11 = .ok (.putfield 15, 3) := dk_181 0 15 (dk_at dksX11_init_0 11 rfl rfl)
theorem dX11_init_14 : decode cX11_init 14 = .ok (.aload_n 0, 1) := dk_42 (dk_at dksX11_init_0 14 rfl rfl)
theorem dX11_init_15 : decode cX11_init 15 = .ok (.iload_n 2, 1) := dk_28 (dk_at dksX11_init_0 15 rfl rfl)
theorem dX11_init_16 : decode cX11_init 16 = .ok (.putfield 19, 3) := dk_181 0 19 (dk_at dksX11_init_0 16 rfl rfl)
theorem dX11_init_19 : decode cX11_init 19 = .ok (.return_, 1) := dk_177 (dk_at dksX11_init_0 19 rfl rfl)
theorem q74 : (Jvm.Cond.initialized "BallotFoundry$Envelope") ∈ lw_all := lw_g (lw_at lw_m1 31 rfl) rfl
theorem q516 : (Jvm.Cond.selects "BallotFoundry$Envelope" ({ cls := "java/lang/Object", name := "getClass", desc := "()Ljava/lang/Class;" } : Jvm.MethodName) ({ cls := "java/lang/Object", name := "getClass", desc := "()Ljava/lang/Class;" } : Jvm.MethodName)) ∈ lw_all := lw_g (lw_at lw_m2 233 rfl) rfl
theorem q881 : (Jvm.Cond.instantiable "BallotFoundry$Envelope" (3 : Nat)) ∈ lw_all := lw_g (lw_at lw_m4 118 rfl) rfl
theorem q883 : (Jvm.Cond.instanceMethod ({ cls := "BallotFoundry$Envelope", name := "<init>", desc := "(LBallotFoundry$Person;I)V" } : Jvm.MethodName)) ∈ lw_all := lw_g (lw_at lw_m4 120 rfl) rfl
theorem q884 : (Jvm.Cond.code ({ cls := "BallotFoundry$Envelope", name := "<init>", desc := "(LBallotFoundry$Person;I)V" } : Jvm.MethodName) prog_6_method_1_code (3 : Nat) (Option.none : Option Jvm.ClassFile.FieldType)) ∈ lw_all := lw_g (lw_at lw_m4 121 rfl) rfl
theorem q885 : (Jvm.Cond.methodLink "BallotFoundry$Envelope" (3 : Nat) ({ cls := "java/lang/Object", name := "<init>", desc := "()V" } : Jvm.MethodName)) ∈ lw_all := lw_g (lw_at lw_m4 122 rfl) rfl
theorem q886 : (Jvm.Cond.fieldLink "BallotFoundry$Envelope" (15 : Nat) "BallotFoundry$Envelope" "person" "LBallotFoundry$Person;") ∈ lw_all := lw_g (lw_at lw_m4 123 rfl) rfl
theorem q889 : (Jvm.Cond.fieldLink "BallotFoundry$Envelope" (19 : Nat) "BallotFoundry$Envelope" "party" "I") ∈ lw_all := lw_g (lw_at lw_m4 126 rfl) rfl
theorem q891 : (Jvm.Cond.fieldLink "BallotFoundry$Envelope" (9 : Nat) "BallotFoundry$Envelope" "state" "I") ∈ lw_all := lw_g (lw_at lw_m4 128 rfl) rfl
theorem q894 : (Jvm.Cond.laysFinal "BallotFoundry$Envelope" "BallotFoundry$Envelope" "person" "LBallotFoundry$Person;") ∈ lw_all := lw_g (lw_at lw_m4 131 rfl) rfl
theorem q895 : (Jvm.Cond.soleField "BallotFoundry$Envelope" "person") ∈ lw_all := lw_g (lw_at lw_m4 132 rfl) rfl
theorem q896 : (Jvm.Cond.laysFinal "BallotFoundry$Envelope" "BallotFoundry$Envelope" "party" "I") ∈ lw_all := lw_g (lw_at lw_m4 133 rfl) rfl
theorem q897 : (Jvm.Cond.soleField "BallotFoundry$Envelope" "party") ∈ lw_all := lw_g (lw_at lw_m4 134 rfl) rfl
theorem q898 : (Jvm.Cond.lays "BallotFoundry$Envelope" "BallotFoundry$Envelope" "state" "I") ∈ lw_all := lw_g (lw_at lw_m4 135 rfl) rfl
theorem q899 : (Jvm.Cond.soleField "BallotFoundry$Envelope" "state") ∈ lw_all := lw_g (lw_at lw_m4 136 rfl) rfl
theorem q900 : (Jvm.Cond.superclass "BallotFoundry$Envelope" "java/lang/Object") ∈ lw_all := lw_g (lw_at lw_m4 137 rfl) rfl
theorem q942 : (Jvm.Cond.selects "BallotFoundry$Envelope" ({ cls := "java/lang/Object", name := "equals", desc := "(Ljava/lang/Object;)Z" } : Jvm.MethodName) ({ cls := "java/lang/Object", name := "equals", desc := "(Ljava/lang/Object;)Z" } : Jvm.MethodName)) ∈ lw_all := lw_g (lw_at lw_m4 179 rfl) rfl
theorem q1808 : (Jvm.Cond.castable "BallotFoundry$Envelope" "java/lang/Object") ∈ lw_tbl := lw_at lw_m8 85 rfl
theorem in_X11 : ∀ w ∈ wsX110, w ∈ lw_all := lw_in wsX110 [894, 896, 898] (by decide +kernel) (by decide +kernel)

/-! BallotFoundry$Count -/
set_option maxRecDepth 100000
def RX12 : String := "BallotFoundry$Count"
def TX12 : u_T := fun k => match k with
  | 0 => ("BallotFoundry$Count", "clerk", "I", true)
  | _ => ("BallotFoundry$Count", "numbers", "[I", true)
def tyX12 : Nat → FieldType := fun k => match k with
  | 0 => .int
  | _ => .array .int
abbrev wsX120 : List Cond := u_ws RX12 TX12 2
theorem nmX12 : ∀ a, a < 2 → ∀ b, b < 2 → a ≠ b → (TX12 a).2.1 ≠ (TX12 b).2.1 := by decide +kernel
theorem tyX12_ok : ∀ k, k < 2 → parseFieldDescriptor (TX12 k).2.2.1 = some (tyX12 k) := by decide +kernel
abbrev cX12_init : ByteArray := prog_3_method_1_code
def yX12_init : MethodName := ⟨RX12, "<init>", "(I)V"⟩
def dkwX12_init_0 : List UInt8 := [42, 183, 0, 3, 42, 16, 6, 188, 10, 181, 0, 9, 42, 27, 181, 0, 15, 177]
abbrev dktX12_init_0 : List UInt8 := dkwX12_init_0 ++ []
theorem dksX12_init_0 : cX12_init.data.toList.drop 0 = dktX12_init_0 := by decide +kernel
theorem dX12_init_0 : decode cX12_init 0 = .ok (.aload_n 0, 1) := dk_42 (dk_at dksX12_init_0 0 rfl rfl)
theorem dX12_init_1 : decode cX12_init 1 = .ok (.invokespecial 3, 3) := dk_183 0 3 (dk_at dksX12_init_0 1 rfl rfl)
theorem dX12_init_4 : decode cX12_init 4 = .ok (.aload_n 0, 1) := dk_42 (dk_at dksX12_init_0 4 rfl rfl)
theorem dX12_init_5 : decode cX12_init 5 = .ok (.bipush 6, 2) := dk_16 6 (dk_at dksX12_init_0 5 rfl rfl)
theorem dX12_init_7 : decode cX12_init 7 = .ok (.newarray .int, 2) := dk_188_10 (dk_at dksX12_init_0 7 rfl rfl)
theorem dX12_init_9 : decode cX12_init 9 = .ok (.putfield 9, 3) := dk_181 0 9 (dk_at dksX12_init_0 9 rfl rfl)
theorem dX12_init_12 : decode cX12_init 12 = .ok (.aload_n 0, 1) := dk_42 (dk_at dksX12_init_0 12 rfl rfl)
theorem dX12_init_13 : decode cX12_init 13 = .ok (.iload_n 1, 1) := dk_27 (dk_at dksX12_init_0 13 rfl rfl)
theorem dX12_init_14 : decode cX12_init 14 = .ok (.putfield 15, 3) := dk_181 0 15 (dk_at dksX12_init_0 14 rfl rfl)
theorem dX12_init_17 : decode cX12_init 17 = .ok (.return_, 1) := dk_177 (dk_at dksX12_init_0 17 rfl rfl)
abbrev cX12_agrees : ByteArray := prog_3_method_3_code
def yX12_agrees : MethodName := ⟨RX12, "agrees", "(LBallotFoundry$Count;)Z"⟩
def dkwX12_agrees_2 : List UInt8 := [126, 61, 132, 3, 1, 167, 255, 224, 28, 172]
abbrev dktX12_agrees_2 : List UInt8 := dkwX12_agrees_2 ++ []
def dkwX12_agrees_1 : List UInt8 := [162, 0, 32, 28, 42, 180, 0, 9, 29, 46, 43, 180, 0, 9, 29, 46, 160, 0, 7, 4, 167, 0, 4, 3]
abbrev dktX12_agrees_1 : List UInt8 := dkwX12_agrees_1 ++ dktX12_agrees_2
def dkwX12_agrees_0 : List UInt8 := [42, 180, 0, 15, 43, 180, 0, 15, 159, 0, 7, 4, 167, 0, 4, 3, 61, 3, 62, 29, 16, 6]
abbrev dktX12_agrees_0 : List UInt8 := dkwX12_agrees_0 ++ dktX12_agrees_1
theorem dksX12_agrees_0 : cX12_agrees.data.toList.drop 0 = dktX12_agrees_0 := by decide +kernel
theorem dksX12_agrees_1 : cX12_agrees.data.toList.drop 22 = dktX12_agrees_1 := dk_seg dksX12_agrees_0 22 rfl rfl
theorem dksX12_agrees_2 : cX12_agrees.data.toList.drop 46 = dktX12_agrees_2 := dk_seg dksX12_agrees_1 24 rfl rfl
theorem dX12_agrees_0 : decode cX12_agrees 0 = .ok (.aload_n 0, 1) := dk_42 (dk_at dksX12_agrees_0 0 rfl rfl)
theorem dX12_agrees_1 : decode cX12_agrees 1 = .ok (.getfield 15, 3) := dk_180 0 15 (dk_at dksX12_agrees_0 1 rfl rfl)
theorem dX12_agrees_4 : decode cX12_agrees 4 = .ok (.aload_n 1, 1) := dk_43 (dk_at dksX12_agrees_0 4 rfl rfl)
theorem dX12_agrees_5 : decode cX12_agrees 5 = .ok (.getfield 15, 3) := dk_180 0 15 (dk_at dksX12_agrees_0 5 rfl rfl)
theorem dX12_agrees_8 : decode cX12_agrees 8 = .ok (.if_icmp .eq 7, 3) := dk_159 0 7 (dk_at dksX12_agrees_0 8 rfl rfl)
theorem dX12_agrees_11 : decode cX12_agrees 11 = .ok (.iconst 1, 1) := dk_4 (dk_at dksX12_agrees_0 11 rfl rfl)
theorem dX12_agrees_12 : decode cX12_agrees 12 = .ok (.goto 4, 3) := dk_167 0 4 (dk_at dksX12_agrees_0 12 rfl rfl)
theorem dX12_agrees_15 : decode cX12_agrees 15 = .ok (.iconst 0, 1) := dk_3 (dk_at dksX12_agrees_0 15 rfl rfl)
theorem dX12_agrees_16 : decode cX12_agrees 16 = .ok (.istore_n 2, 1) := dk_61 (dk_at dksX12_agrees_0 16 rfl rfl)
theorem dX12_agrees_17 : decode cX12_agrees 17 = .ok (.iconst 0, 1) := dk_3 (dk_at dksX12_agrees_0 17 rfl rfl)
theorem dX12_agrees_18 : decode cX12_agrees 18 = .ok (.istore_n 3, 1) := dk_62 (dk_at dksX12_agrees_0 18 rfl rfl)
theorem dX12_agrees_19 : decode cX12_agrees 19 = .ok (.iload_n 3, 1) := dk_29 (dk_at dksX12_agrees_0 19 rfl rfl)
theorem dX12_agrees_20 : decode cX12_agrees 20 = .ok (.bipush 6, 2) := dk_16 6 (dk_at dksX12_agrees_0 20 rfl rfl)
theorem dX12_agrees_22 : decode cX12_agrees 22 = .ok (.if_icmp .ge 32, 3) := dk_162 0 32 (dk_at dksX12_agrees_1 0 rfl rfl)
theorem dX12_agrees_25 : decode cX12_agrees 25 = .ok (.iload_n 2, 1) := dk_28 (dk_at dksX12_agrees_1 3 rfl rfl)
theorem dX12_agrees_26 : decode cX12_agrees 26 = .ok (.aload_n 0, 1) := dk_42 (dk_at dksX12_agrees_1 4 rfl rfl)
theorem dX12_agrees_27 : decode cX12_agrees 27 = .ok (.getfield 9, 3) := dk_180 0 9 (dk_at dksX12_agrees_1 5 rfl rfl)
theorem dX12_agrees_30 : decode cX12_agrees 30 = .ok (.iload_n 3, 1) := dk_29 (dk_at dksX12_agrees_1 8 rfl rfl)
theorem dX12_agrees_31 : decode cX12_agrees 31 = .ok (.iaload, 1) := dk_46 (dk_at dksX12_agrees_1 9 rfl rfl)
theorem dX12_agrees_32 : decode cX12_agrees 32 = .ok (.aload_n 1, 1) := dk_43 (dk_at dksX12_agrees_1 10 rfl rfl)
theorem dX12_agrees_33 : decode cX12_agrees 33 = .ok (.getfield 9, 3) := dk_180 0 9 (dk_at dksX12_agrees_1 11 rfl rfl)
theorem dX12_agrees_36 : decode cX12_agrees 36 = .ok (.iload_n 3, 1) := dk_29 (dk_at dksX12_agrees_1 14 rfl rfl)
theorem dX12_agrees_37 : decode cX12_agrees 37 = .ok (.iaload, 1) := dk_46 (dk_at dksX12_agrees_1 15 rfl rfl)
theorem dX12_agrees_38 : decode cX12_agrees 38 = .ok (.if_icmp .ne 7, 3) := dk_160 0 7 (dk_at dksX12_agrees_1 16 rfl rfl)
theorem dX12_agrees_41 : decode cX12_agrees 41 = .ok (.iconst 1, 1) := dk_4 (dk_at dksX12_agrees_1 19 rfl rfl)
theorem dX12_agrees_42 : decode cX12_agrees 42 = .ok (.goto 4, 3) := dk_167 0 4 (dk_at dksX12_agrees_1 20 rfl rfl)
theorem dX12_agrees_45 : decode cX12_agrees 45 = .ok (.iconst 0, 1) := dk_3 (dk_at dksX12_agrees_1 23 rfl rfl)
theorem dX12_agrees_46 : decode cX12_agrees 46 = .ok (.iand, 1) := dk_126 (dk_at dksX12_agrees_2 0 rfl rfl)
theorem dX12_agrees_47 : decode cX12_agrees 47 = .ok (.istore_n 2, 1) := dk_61 (dk_at dksX12_agrees_2 1 rfl rfl)
theorem dX12_agrees_48 : decode cX12_agrees 48 = .ok (.iinc 3 1, 3) := dk_132 3 1 (dk_at dksX12_agrees_2 2 rfl rfl)
theorem dX12_agrees_51 : decode cX12_agrees 51 = .ok (.goto (-32), 3) := dk_167 255 224 (dk_at dksX12_agrees_2 5 rfl rfl)
theorem dX12_agrees_54 : decode cX12_agrees 54 = .ok (.iload_n 2, 1) := dk_28 (dk_at dksX12_agrees_2 8 rfl rfl)
theorem dX12_agrees_55 : decode cX12_agrees 55 = .ok (.ireturn, 1) := dk_172 (dk_at dksX12_agrees_2 9 rfl rfl)
abbrev cX12_init_2 : ByteArray := prog_3_method_2_code
def yX12_init_2 : MethodName := ⟨RX12, "<init>", "(LBallotFoundry$Count;)V"⟩
def dkwX12_init_2_1 : List UInt8 := [180, 0, 9, 28, 46, 79, 132, 2, 1, 167, 255, 235, 177]
abbrev dktX12_init_2_1 : List UInt8 := dkwX12_init_2_1 ++ []
def dkwX12_init_2_0 : List UInt8 := [42, 43, 180, 0, 15, 183, 0, 19, 3, 61, 28, 16, 6, 162, 0, 21, 42, 180, 0, 9, 28, 43]
abbrev dktX12_init_2_0 : List UInt8 := dkwX12_init_2_0 ++ dktX12_init_2_1
theorem dksX12_init_2_0 : cX12_init_2.data.toList.drop 0 = dktX12_init_2_0 := by decide +kernel
theorem dksX12_init_2_1 : cX12_init_2.data.toList.drop 22 = dktX12_init_2_1 := dk_seg dksX12_init_2_0 22 rfl rfl
theorem dX12_init_2_0 : decode cX12_init_2 0 = .ok (.aload_n 0, 1) := dk_42 (dk_at dksX12_init_2_0 0 rfl rfl)
theorem dX12_init_2_1 : decode cX12_init_2 1 = .ok (.aload_n 1, 1) := dk_43 (dk_at dksX12_init_2_0 1 rfl rfl)
theorem dX12_init_2_2 : decode cX12_init_2 2 = .ok (.getfield 15, 3) := dk_180 0 15 (dk_at dksX12_init_2_0 2 rfl rfl)
theorem dX12_init_2_5 : decode cX12_init_2 5 = .ok (.invokespecial 19, 3) := dk_183 0 19 (dk_at dksX12_init_2_0 5 rfl rfl)
theorem dX12_init_2_8 : decode cX12_init_2 8 = .ok (.iconst 0, 1) := dk_3 (dk_at dksX12_init_2_0 8 rfl rfl)
theorem dX12_init_2_9 : decode cX12_init_2 9 = .ok (.istore_n 2, 1) := dk_61 (dk_at dksX12_init_2_0 9 rfl rfl)
theorem dX12_init_2_10 : decode cX12_init_2 10 = .ok (.iload_n 2, 1) := dk_28 (dk_at dksX12_init_2_0 10 rfl rfl)
theorem dX12_init_2_11 : decode cX12_init_2 11 = .ok (.bipush 6, 2) := dk_16 6 (dk_at dksX12_init_2_0 11 rfl rfl)
theorem dX12_init_2_13 : decode cX12_init_2 13 = .ok (.if_icmp .ge 21, 3) := dk_162 0 21 (dk_at dksX12_init_2_0 13 rfl rfl)
theorem dX12_init_2_16 : decode cX12_init_2 16 = .ok (.aload_n 0, 1) := dk_42 (dk_at dksX12_init_2_0 16 rfl rfl)
theorem dX12_init_2_17 : decode cX12_init_2 17 = .ok (.getfield 9, 3) := dk_180 0 9 (dk_at dksX12_init_2_0 17 rfl rfl)
theorem dX12_init_2_20 : decode cX12_init_2 20 = .ok (.iload_n 2, 1) := dk_28 (dk_at dksX12_init_2_0 20 rfl rfl)
theorem dX12_init_2_21 : decode cX12_init_2 21 = .ok (.aload_n 1, 1) := dk_43 (dk_at dksX12_init_2_0 21 rfl rfl)
theorem dX12_init_2_22 : decode cX12_init_2 22 = .ok (.getfield 9, 3) := dk_180 0 9 (dk_at dksX12_init_2_1 0 rfl rfl)
theorem dX12_init_2_25 : decode cX12_init_2 25 = .ok (.iload_n 2, 1) := dk_28 (dk_at dksX12_init_2_1 3 rfl rfl)
theorem dX12_init_2_26 : decode cX12_init_2 26 = .ok (.iaload, 1) := dk_46 (dk_at dksX12_init_2_1 4 rfl rfl)
theorem dX12_init_2_27 : decode cX12_init_2 27 = .ok (.iastore, 1) := dk_79 (dk_at dksX12_init_2_1 5 rfl rfl)
theorem dX12_init_2_28 : decode cX12_init_2 28 = .ok (.iinc 2 1, 3) := dk_132 2 1 (dk_at dksX12_init_2_1 6 rfl rfl)
theorem dX12_init_2_31 : decode cX12_init_2 31 = .ok (.goto (-21), 3) := dk_167 255 235 (dk_at dksX12_init_2_1 9 rfl rfl)
theorem dX12_init_2_34 : decode cX12_init_2 34 = .ok (.return_, 1) := dk_177 (dk_at dksX12_init_2_1 12 rfl rfl)
theorem q76 : (Jvm.Cond.initialized "BallotFoundry$Count") ∈ lw_all := lw_g (lw_at lw_m1 33 rfl) rfl
theorem q206 : (Jvm.Cond.instantiable "BallotFoundry$Count" (2 : Nat)) ∈ lw_all := lw_g (lw_at lw_m1 163 rfl) rfl
theorem q208 : (Jvm.Cond.instanceMethod ({ cls := "BallotFoundry$Count", name := "<init>", desc := "(I)V" } : Jvm.MethodName)) ∈ lw_all := lw_g (lw_at lw_m1 165 rfl) rfl
theorem q209 : (Jvm.Cond.code ({ cls := "BallotFoundry$Count", name := "<init>", desc := "(I)V" } : Jvm.MethodName) prog_3_method_1_code (2 : Nat) (Option.none : Option Jvm.ClassFile.FieldType)) ∈ lw_all := lw_g (lw_at lw_m1 166 rfl) rfl
theorem q210 : (Jvm.Cond.methodLink "BallotFoundry$Count" (3 : Nat) ({ cls := "java/lang/Object", name := "<init>", desc := "()V" } : Jvm.MethodName)) ∈ lw_all := lw_g (lw_at lw_m1 167 rfl) rfl
theorem q211 : (Jvm.Cond.fieldLink "BallotFoundry$Count" (15 : Nat) "BallotFoundry$Count" "clerk" "I") ∈ lw_all := lw_g (lw_at lw_m1 168 rfl) rfl
theorem q212 : (Jvm.Cond.fieldLink "BallotFoundry$Count" (9 : Nat) "BallotFoundry$Count" "numbers" "[I") ∈ lw_all := lw_g (lw_at lw_m1 169 rfl) rfl
theorem q216 : (Jvm.Cond.laysFinal "BallotFoundry$Count" "BallotFoundry$Count" "clerk" "I") ∈ lw_all := lw_g (lw_at lw_m1 173 rfl) rfl
theorem q217 : (Jvm.Cond.soleField "BallotFoundry$Count" "clerk") ∈ lw_all := lw_g (lw_at lw_m1 174 rfl) rfl
theorem q218 : (Jvm.Cond.laysFinal "BallotFoundry$Count" "BallotFoundry$Count" "numbers" "[I") ∈ lw_all := lw_g (lw_at lw_m1 175 rfl) rfl
theorem q219 : (Jvm.Cond.soleField "BallotFoundry$Count" "numbers") ∈ lw_all := lw_g (lw_at lw_m1 176 rfl) rfl
theorem q220 : (Jvm.Cond.superclass "BallotFoundry$Count" "java/lang/Object") ∈ lw_all := lw_g (lw_at lw_m1 177 rfl) rfl
theorem q513 : (Jvm.Cond.selects "BallotFoundry$Count" ({ cls := "java/lang/Object", name := "getClass", desc := "()Ljava/lang/Class;" } : Jvm.MethodName) ({ cls := "java/lang/Object", name := "getClass", desc := "()Ljava/lang/Class;" } : Jvm.MethodName)) ∈ lw_all := lw_g (lw_at lw_m2 230 rfl) rfl
theorem q939 : (Jvm.Cond.selects "BallotFoundry$Count" ({ cls := "java/lang/Object", name := "equals", desc := "(Ljava/lang/Object;)Z" } : Jvm.MethodName) ({ cls := "java/lang/Object", name := "equals", desc := "(Ljava/lang/Object;)Z" } : Jvm.MethodName)) ∈ lw_all := lw_g (lw_at lw_m4 176 rfl) rfl
theorem q1013 : (Jvm.Cond.instanceMethod ({ cls := "BallotFoundry$Count", name := "agrees", desc := "(LBallotFoundry$Count;)Z" } : Jvm.MethodName)) ∈ lw_all := lw_g (lw_at lw_m5 10 rfl) rfl
theorem q1014 : (Jvm.Cond.selects "BallotFoundry$Count" ({ cls := "BallotFoundry$Count", name := "agrees", desc := "(LBallotFoundry$Count;)Z" } : Jvm.MethodName) ({ cls := "BallotFoundry$Count", name := "agrees", desc := "(LBallotFoundry$Count;)Z" } : Jvm.MethodName)) ∈ lw_all := lw_g (lw_at lw_m5 11 rfl) rfl
theorem q1015 : (Jvm.Cond.code ({ cls := "BallotFoundry$Count", name := "agrees", desc := "(LBallotFoundry$Count;)Z" } : Jvm.MethodName) prog_3_method_3_code (4 : Nat) (Option.some Jvm.ClassFile.FieldType.boolean)) ∈ lw_all := lw_g (lw_at lw_m5 12 rfl) rfl
theorem q1017 : (Jvm.Cond.instanceMethod ({ cls := "BallotFoundry$Count", name := "<init>", desc := "(LBallotFoundry$Count;)V" } : Jvm.MethodName)) ∈ lw_all := lw_g (lw_at lw_m5 14 rfl) rfl
theorem q1018 : (Jvm.Cond.code ({ cls := "BallotFoundry$Count", name := "<init>", desc := "(LBallotFoundry$Count;)V" } : Jvm.MethodName) prog_3_method_2_code (3 : Nat) (Option.none : Option Jvm.ClassFile.FieldType)) ∈ lw_all := lw_g (lw_at lw_m5 15 rfl) rfl
theorem q1019 : (Jvm.Cond.methodLink "BallotFoundry$Count" (19 : Nat) ({ cls := "BallotFoundry$Count", name := "<init>", desc := "(I)V" } : Jvm.MethodName)) ∈ lw_all := lw_g (lw_at lw_m5 16 rfl) rfl
theorem q1809 : (Jvm.Cond.castable "BallotFoundry$Count" "java/lang/Object") ∈ lw_tbl := lw_at lw_m8 86 rfl
theorem in_X12 : ∀ w ∈ wsX120, w ∈ lw_all := lw_in wsX120 [216, 218] (by decide +kernel) (by decide +kernel)

/-! BallotFoundry$House -/
set_option maxRecDepth 100000
def RX13 : String := "BallotFoundry$House"
def TX13 : u_T := fun k => match k with
  | 0 => ("BallotFoundry$House", "votes", "[I", true)
  | 1 => ("BallotFoundry$House", "seats", "[I", true)
  | 2 => ("BallotFoundry$House", "given", "[I", true)
  | 3 => ("BallotFoundry$House", "many", "I", false)
  | 4 => ("BallotFoundry$House", "lots", "I", false)
  | _ => ("BallotFoundry$House", "number", "I", false)
def tyX13 : Nat → FieldType := fun k => match k with
  | 0 => .array .int
  | 1 => .array .int
  | 2 => .array .int
  | 3 => .int
  | 4 => .int
  | _ => .int
abbrev wsX130 : List Cond := u_ws RX13 TX13 6
theorem nmX13 : ∀ a, a < 6 → ∀ b, b < 6 → a ≠ b → (TX13 a).2.1 ≠ (TX13 b).2.1 := by decide +kernel
theorem tyX13_ok : ∀ k, k < 6 → parseFieldDescriptor (TX13 k).2.2.1 = some (tyX13 k) := by decide +kernel
abbrev cX13_init : ByteArray := prog_8_method_1_code
def yX13_init : MethodName := ⟨RX13, "<init>", "(LBallotFoundry$Election;Z)V"⟩
def dkwX13_init_7 : List UInt8 := [180, 0, 72, 4, 96, 181, 0, 72, 132, 3, 1, 167, 255, 196, 177]
abbrev dktX13_init_7 : List UInt8 := dkwX13_init_7 ++ []
def dkwX13_init_6 : List UInt8 := [180, 0, 15, 21, 4, 92, 46, 4, 96, 79, 42, 180, 0, 18, 42, 180, 0, 72, 21, 4, 79, 42, 89]
abbrev dktX13_init_6 : List UInt8 := dkwX13_init_6 ++ dktX13_init_7
def dkwX13_init_5 : List UInt8 := [180, 0, 58, 162, 0, 58, 42, 182, 0, 60, 153, 0, 51, 42, 43, 180, 0, 64, 182, 0, 68, 54, 4, 42]
abbrev dktX13_init_5 : List UInt8 := dkwX13_init_5 ++ dktX13_init_6
def dkwX13_init_4 : List UInt8 := [182, 0, 46, 167, 0, 8, 25, 4, 180, 0, 50, 182, 0, 54, 132, 3, 1, 167, 255, 202, 3, 62, 29, 43]
abbrev dktX13_init_4 : List UInt8 := dkwX13_init_4 ++ dktX13_init_5
def dkwX13_init_3 : List UInt8 := [43, 180, 0, 30, 29, 185, 0, 40, 2, 0, 192, 0, 44, 58, 4, 42, 28, 153, 0, 13, 25, 4, 3, 3]
abbrev dktX13_init_3 : List UInt8 := dkwX13_init_3 ++ dktX13_init_4
def dkwX13_init_2 : List UInt8 := [181, 0, 21, 132, 3, 1, 167, 255, 233, 3, 62, 29, 43, 180, 0, 30, 185, 0, 34, 1, 0, 162, 0, 47]
abbrev dktX13_init_2 : List UInt8 := dkwX13_init_2 ++ dktX13_init_3
def dkwX13_init_1 : List UInt8 := [181, 0, 18, 3, 62, 29, 8, 162, 0, 24, 42, 89, 180, 0, 21, 43, 180, 0, 25, 29, 46, 96]
abbrev dktX13_init_1 : List UInt8 := dkwX13_init_1 ++ dktX13_init_2
def dkwX13_init_0 : List UInt8 := [42, 183, 0, 3, 42, 8, 188, 10, 181, 0, 9, 42, 8, 188, 10, 181, 0, 15, 42, 16, 30, 188, 10]
abbrev dktX13_init_0 : List UInt8 := dkwX13_init_0 ++ dktX13_init_1
theorem dksX13_init_0 : cX13_init.data.toList.drop 0 = dktX13_init_0 := by decide +kernel
theorem dksX13_init_1 : cX13_init.data.toList.drop 23 = dktX13_init_1 := dk_seg dksX13_init_0 23 rfl rfl
theorem dksX13_init_2 : cX13_init.data.toList.drop 45 = dktX13_init_2 := dk_seg dksX13_init_1 22 rfl rfl
theorem dksX13_init_3 : cX13_init.data.toList.drop 69 = dktX13_init_3 := dk_seg dksX13_init_2 24 rfl rfl
theorem dksX13_init_4 : cX13_init.data.toList.drop 93 = dktX13_init_4 := dk_seg dksX13_init_3 24 rfl rfl
theorem dksX13_init_5 : cX13_init.data.toList.drop 117 = dktX13_init_5 := dk_seg dksX13_init_4 24 rfl rfl
theorem dksX13_init_6 : cX13_init.data.toList.drop 141 = dktX13_init_6 := dk_seg dksX13_init_5 24 rfl rfl
theorem dksX13_init_7 : cX13_init.data.toList.drop 164 = dktX13_init_7 := dk_seg dksX13_init_6 23 rfl rfl
theorem dX13_init_0 : decode cX13_init 0 = .ok (.aload_n 0, 1) := dk_42 (dk_at dksX13_init_0 0 rfl rfl)
theorem dX13_init_1 : decode cX13_init 1 = .ok (.invokespecial 3, 3) := dk_183 0 3 (dk_at dksX13_init_0 1 rfl rfl)
theorem dX13_init_4 : decode cX13_init 4 = .ok (.aload_n 0, 1) := dk_42 (dk_at dksX13_init_0 4 rfl rfl)
theorem dX13_init_5 : decode cX13_init 5 = .ok (.iconst 5, 1) := dk_8 (dk_at dksX13_init_0 5 rfl rfl)
theorem dX13_init_6 : decode cX13_init 6 = .ok (.newarray .int, 2) := dk_188_10 (dk_at dksX13_init_0 6 rfl rfl)
theorem dX13_init_8 : decode cX13_init 8 = .ok (.putfield 9, 3) := dk_181 0 9 (dk_at dksX13_init_0 8 rfl rfl)
theorem dX13_init_11 : decode cX13_init 11 = .ok (.aload_n 0, 1) := dk_42 (dk_at dksX13_init_0 11 rfl rfl)
theorem dX13_init_12 : decode cX13_init 12 = .ok (.iconst 5, 1) := dk_8 (dk_at dksX13_init_0 12 rfl rfl)
theorem dX13_init_13 : decode cX13_init 13 = .ok (.newarray .int, 2) := dk_188_10 (dk_at dksX13_init_0 13 rfl rfl)
theorem dX13_init_15 : decode cX13_init 15 = .ok (.putfield 15, 3) := dk_181 0 15 (dk_at dksX13_init_0 15 rfl rfl)
theorem dX13_init_18 : decode cX13_init 18 = .ok (.aload_n 0, 1) := dk_42 (dk_at dksX13_init_0 18 rfl rfl)
theorem dX13_init_19 : decode cX13_init 19 = .ok (.bipush 30, 2) := dk_16 30 (dk_at dksX13_init_0 19 rfl rfl)
theorem dX13_init_21 : decode cX13_init 21 = .ok (.newarray .int, 2) := dk_188_10 (dk_at dksX13_init_0 21 rfl rfl)
theorem dX13_init_23 : decode cX13_init 23 = .ok (.putfield 18, 3) := dk_181 0 18 (dk_at dksX13_init_1 0 rfl rfl)
theorem dX13_init_26 : decode cX13_init 26 = .ok (.iconst 0, 1) := dk_3 (dk_at dksX13_init_1 3 rfl rfl)
theorem dX13_init_27 : decode cX13_init 27 = .ok (.istore_n 3, 1) := dk_62 (dk_at dksX13_init_1 4 rfl rfl)
theorem dX13_init_28 : decode cX13_init 28 = .ok (.iload_n 3, 1) := dk_29 (dk_at dksX13_init_1 5 rfl rfl)
theorem dX13_init_29 : decode cX13_init 29 = .ok (.iconst 5, 1) := dk_8 (dk_at dksX13_init_1 6 rfl rfl)
theorem dX13_init_30 : decode cX13_init 30 = .ok (.if_icmp .ge 24, 3) := dk_162 0 24 (dk_at dksX13_init_1 7 rfl rfl)
theorem dX13_init_33 : decode cX13_init 33 = .ok (.aload_n 0, 1) := dk_42 (dk_at dksX13_init_1 10 rfl rfl)
theorem dX13_init_34 : decode cX13_init 34 = .ok (.dup, 1) := dk_89 (dk_at dksX13_init_1 11 rfl rfl)
theorem dX13_init_35 : decode cX13_init 35 = .ok (.getfield 21, 3) := dk_180 0 21 (dk_at dksX13_init_1 12 rfl rfl)
theorem dX13_init_38 : decode cX13_init 38 = .ok (.aload_n 1, 1) := dk_43 (dk_at dksX13_init_1 15 rfl rfl)
theorem dX13_init_39 : decode cX13_init 39 = .ok (.getfield 25, 3) := dk_180 0 25 (dk_at dksX13_init_1 16 rfl rfl)
theorem dX13_init_42 : decode cX13_init 42 = .ok (.iload_n 3, 1) := dk_29 (dk_at dksX13_init_1 19 rfl rfl)
theorem dX13_init_43 : decode cX13_init 43 = .ok (.iaload, 1) := dk_46 (dk_at dksX13_init_1 20 rfl rfl)
theorem dX13_init_44 : decode cX13_init 44 = .ok (.iadd, 1) := dk_96 (dk_at dksX13_init_1 21 rfl rfl)
theorem dX13_init_45 : decode cX13_init 45 = .ok (.putfield 21, 3) := dk_181 0 21 (dk_at dksX13_init_2 0 rfl rfl)
theorem dX13_init_48 : decode cX13_init 48 = .ok (.iinc 3 1, 3) := dk_132 3 1 (dk_at dksX13_init_2 3 rfl rfl)
theorem dX13_init_51 : decode cX13_init 51 = .ok (.goto (-23), 3) := dk_167 255 233 (dk_at dksX13_init_2 6 rfl rfl)
theorem dX13_init_54 : decode cX13_init 54 = .ok (.iconst 0, 1) := dk_3 (dk_at dksX13_init_2 9 rfl rfl)
theorem dX13_init_55 : decode cX13_init 55 = .ok (.istore_n 3, 1) := dk_62 (dk_at dksX13_init_2 10 rfl rfl)
theorem dX13_init_56 : decode cX13_init 56 = .ok (.iload_n 3, 1) := dk_29 (dk_at dksX13_init_2 11 rfl rfl)
theorem dX13_init_57 : decode cX13_init 57 = .ok (.aload_n 1, 1) := dk_43 (dk_at dksX13_init_2 12 rfl rfl)
theorem dX13_init_58 : decode cX13_init 58 = .ok (.getfield 30, 3) := dk_180 0 30 (dk_at dksX13_init_2 13 rfl rfl)
theorem dX13_init_61 : decode cX13_init 61 = .ok (.invokeinterface 34 1, 5) := by decide +kernel
theorem dX13_init_66 : decode cX13_init 66 = .ok (.if_icmp .ge 47, 3) := dk_162 0 47 (dk_at dksX13_init_2 21 rfl rfl)
theorem dX13_init_69 : decode cX13_init 69 = .ok (.aload_n 1, 1) := dk_43 (dk_at dksX13_init_3 0 rfl rfl)
theorem dX13_init_70 : decode cX13_init 70 = .ok (.getfield 30, 3) := dk_180 0 30 (dk_at dksX13_init_3 1 rfl rfl)
theorem dX13_init_73 : decode cX13_init 73 = .ok (.iload_n 3, 1) := dk_29 (dk_at dksX13_init_3 4 rfl rfl)
theorem dX13_init_74 : decode cX13_init 74 = .ok (.invokeinterface 40 2, 5) := by decide +kernel
theorem dX13_init_79 : decode cX13_init 79 = .ok (.checkcast 44, 3) := dk_192 0 44 (dk_at dksX13_init_3 10 rfl rfl)
theorem dX13_init_82 : decode cX13_init 82 = .ok (.astore 4, 2) := dk_58 4 (dk_at dksX13_init_3 13 rfl rfl)
theorem dX13_init_84 : decode cX13_init 84 = .ok (.aload_n 0, 1) := dk_42 (dk_at dksX13_init_3 15 rfl rfl)
theorem dX13_init_85 : decode cX13_init 85 = .ok (.iload_n 2, 1) := dk_28 (dk_at dksX13_init_3 16 rfl rfl)
theorem dX13_init_86 : decode cX13_init 86 = .ok (.ifCond .eq 13, 3) := dk_153 0 13 (dk_at dksX13_init_3 17 rfl rfl)
theorem dX13_init_89 : decode cX13_init 89 = .ok (.aload 4, 2) := dk_25 4 (dk_at dksX13_init_3 20 rfl rfl)
theorem dX13_init_91 : decode cX13_init 91 = .ok (.iconst 0, 1) := dk_3 (dk_at dksX13_init_3 22 rfl rfl)
theorem dX13_init_92 : decode cX13_init 92 = .ok (.iconst 0, 1) := dk_3 (dk_at dksX13_init_3 23 rfl rfl)
theorem dX13_init_93 : decode cX13_init 93 = .ok (.invokevirtual 46, 3) := dk_182 0 46 (dk_at dksX13_init_4 0 rfl rfl)
theorem dX13_init_96 : decode cX13_init 96 = .ok (.goto 8, 3) := dk_167 0 8 (dk_at dksX13_init_4 3 rfl rfl)
theorem dX13_init_99 : decode cX13_init 99 = .ok (.aload 4, 2) := dk_25 4 (dk_at dksX13_init_4 6 rfl rfl)
theorem dX13_init_101 : decode cX13_init 101 = .ok (.getfield 50, 3) := dk_180 0 50 (dk_at dksX13_init_4 8 rfl rfl)
theorem dX13_init_104 : decode cX13_init 104 = .ok (.invokevirtual 54, 3) := dk_182 0 54 (dk_at dksX13_init_4 11 rfl rfl)
theorem dX13_init_107 : decode cX13_init 107 = .ok (.iinc 3 1, 3) := dk_132 3 1 (dk_at dksX13_init_4 14 rfl rfl)
theorem dX13_init_110 : decode cX13_init 110 = .ok (.goto (-54), 3) := dk_167 255 202 (dk_at dksX13_init_4 17 rfl rfl)
theorem dX13_init_113 : decode cX13_init 113 = .ok (.iconst 0, 1) := dk_3 (dk_at dksX13_init_4 20 rfl rfl)
theorem dX13_init_114 : decode cX13_init 114 = .ok (.istore_n 3, 1) := dk_62 (dk_at dksX13_init_4 21 rfl rfl)
theorem dX13_init_115 : decode cX13_init 115 = .ok (.iload_n 3, 1) := dk_29 (dk_at dksX13_init_4 22 rfl rfl)
theorem dX13_init_116 : decode cX13_init 116 = .ok (.aload_n 1, 1) := dk_43 (dk_at dksX13_init_4 23 rfl rfl)
theorem dX13_init_117 : decode cX13_init 117 = .ok (.getfield 58, 3) := dk_180 0 58 (dk_at dksX13_init_5 0 rfl rfl)
theorem dX13_init_120 : decode cX13_init 120 = .ok (.if_icmp .ge 58, 3) := dk_162 0 58 (dk_at dksX13_init_5 3 rfl rfl)
theorem dX13_init_123 : decode cX13_init 123 = .ok (.aload_n 0, 1) := dk_42 (dk_at dksX13_init_5 6 rfl rfl)
theorem dX13_init_124 : decode cX13_init 124 = .ok (.invokevirtual 60, 3) := dk_182 0 60 (dk_at dksX13_init_5 7 rfl rfl)
theorem dX13_init_127 : decode cX13_init 127 = .ok (.ifCond .eq 51, 3) := dk_153 0 51 (dk_at dksX13_init_5 10 rfl rfl)
theorem dX13_init_130 : decode cX13_init 130 = .ok (.aload_n 0, 1) := dk_42 (dk_at dksX13_init_5 13 rfl rfl)
theorem dX13_init_131 : decode cX13_init 131 = .ok (.aload_n 1, 1) := dk_43 (dk_at dksX13_init_5 14 rfl rfl)
theorem dX13_init_132 : decode cX13_init 132 = .ok (.getfield 64, 3) := dk_180 0 64 (dk_at dksX13_init_5 15 rfl rfl)
theorem dX13_init_135 : decode cX13_init 135 = .ok (.invokevirtual 68, 3) := dk_182 0 68 (dk_at dksX13_init_5 18 rfl rfl)
theorem dX13_init_138 : decode cX13_init 138 = .ok (.istore 4, 2) := dk_54 4 (dk_at dksX13_init_5 21 rfl rfl)
theorem dX13_init_140 : decode cX13_init 140 = .ok (.aload_n 0, 1) := dk_42 (dk_at dksX13_init_5 23 rfl rfl)
theorem dX13_init_141 : decode cX13_init 141 = .ok (.getfield 15, 3) := dk_180 0 15 (dk_at dksX13_init_6 0 rfl rfl)
theorem dX13_init_144 : decode cX13_init 144 = .ok (.iload 4, 2) := dk_21 4 (dk_at dksX13_init_6 3 rfl rfl)
theorem dX13_init_146 : decode cX13_init 146 = .ok (.dup2, 1) := dk_92 (dk_at dksX13_init_6 5 rfl rfl)
theorem dX13_init_147 : decode cX13_init 147 = .ok (.iaload, 1) := dk_46 (dk_at dksX13_init_6 6 rfl rfl)
theorem dX13_init_148 : decode cX13_init 148 = .ok (.iconst 1, 1) := dk_4 (dk_at dksX13_init_6 7 rfl rfl)
theorem dX13_init_149 : decode cX13_init 149 = .ok (.iadd, 1) := dk_96 (dk_at dksX13_init_6 8 rfl rfl)
theorem dX13_init_150 : decode cX13_init 150 = .ok (.iastore, 1) := dk_79 (dk_at dksX13_init_6 9 rfl rfl)
theorem dX13_init_151 : decode cX13_init 151 = .ok (.aload_n 0, 1) := dk_42 (dk_at dksX13_init_6 10 rfl rfl)
theorem dX13_init_152 : decode cX13_init 152 = .ok (.getfield 18, 3) := dk_180 0 18 (dk_at dksX13_init_6 11 rfl rfl)
theorem dX13_init_155 : decode cX13_init 155 = .ok (.aload_n 0, 1) := dk_42 (dk_at dksX13_init_6 14 rfl rfl)
theorem dX13_init_156 : decode cX13_init 156 = .ok (.getfield 72, 3) := dk_180 0 72 (dk_at dksX13_init_6 15 rfl rfl)
theorem dX13_init_159 : decode cX13_init 159 = .ok (.iload 4, 2) := dk_21 4 (dk_at dksX13_init_6 18 rfl rfl)
theorem dX13_init_161 : decode cX13_init 161 = .ok (.iastore, 1) := dk_79 (dk_at dksX13_init_6 20 rfl rfl)
theorem dX13_init_162 : decode cX13_init 162 = .ok (.aload_n 0, 1) := dk_42 (dk_at dksX13_init_6 21 rfl rfl)
theorem dX13_init_163 : decode cX13_init 163 = .ok (.dup, 1) := dk_89 (dk_at dksX13_init_6 22 rfl rfl)
theorem dX13_init_164 : decode cX13_init 164 = .ok (.getfield 72, 3) := dk_180 0 72 (dk_at dksX13_init_7 0 rfl rfl)
theorem dX13_init_167 : decode cX13_init 167 = .ok (.iconst 1, 1) := dk_4 (dk_at dksX13_init_7 3 rfl rfl)
theorem dX13_init_168 : decode cX13_init 168 = .ok (.iadd, 1) := dk_96 (dk_at dksX13_init_7 4 rfl rfl)
theorem dX13_init_169 : decode cX13_init 169 = .ok (.putfield 72, 3) := dk_181 0 72 (dk_at dksX13_init_7 5 rfl rfl)
theorem dX13_init_172 : decode cX13_init 172 = .ok (.iinc 3 1, 3) := dk_132 3 1 (dk_at dksX13_init_7 8 rfl rfl)
theorem dX13_init_175 : decode cX13_init 175 = .ok (.goto (-60), 3) := dk_167 255 196 (dk_at dksX13_init_7 11 rfl rfl)
theorem dX13_init_178 : decode cX13_init 178 = .ok (.return_, 1) := dk_177 (dk_at dksX13_init_7 14 rfl rfl)
abbrev cX13_add : ByteArray := prog_8_method_2_code
def yX13_add : MethodName := ⟨RX13, "add", "(LBallotFoundry$Count;)V"⟩
def dkwX13_add_1 : List UInt8 := [132, 2, 1, 167, 255, 233, 177]
abbrev dktX13_add_1 : List UInt8 := dkwX13_add_1 ++ []
def dkwX13_add_0 : List UInt8 := [3, 61, 28, 8, 162, 0, 24, 42, 180, 0, 9, 28, 92, 46, 43, 180, 0, 75, 28, 46, 96, 79]
abbrev dktX13_add_0 : List UInt8 := dkwX13_add_0 ++ dktX13_add_1
theorem dksX13_add_0 : cX13_add.data.toList.drop 0 = dktX13_add_0 := by decide +kernel
theorem dksX13_add_1 : cX13_add.data.toList.drop 22 = dktX13_add_1 := dk_seg dksX13_add_0 22 rfl rfl
theorem dX13_add_0 : decode cX13_add 0 = .ok (.iconst 0, 1) := dk_3 (dk_at dksX13_add_0 0 rfl rfl)
theorem dX13_add_1 : decode cX13_add 1 = .ok (.istore_n 2, 1) := dk_61 (dk_at dksX13_add_0 1 rfl rfl)
theorem dX13_add_2 : decode cX13_add 2 = .ok (.iload_n 2, 1) := dk_28 (dk_at dksX13_add_0 2 rfl rfl)
theorem dX13_add_3 : decode cX13_add 3 = .ok (.iconst 5, 1) := dk_8 (dk_at dksX13_add_0 3 rfl rfl)
theorem dX13_add_4 : decode cX13_add 4 = .ok (.if_icmp .ge 24, 3) := dk_162 0 24 (dk_at dksX13_add_0 4 rfl rfl)
theorem dX13_add_7 : decode cX13_add 7 = .ok (.aload_n 0, 1) := dk_42 (dk_at dksX13_add_0 7 rfl rfl)
theorem dX13_add_8 : decode cX13_add 8 = .ok (.getfield 9, 3) := dk_180 0 9 (dk_at dksX13_add_0 8 rfl rfl)
theorem dX13_add_11 : decode cX13_add 11 = .ok (.iload_n 2, 1) := dk_28 (dk_at dksX13_add_0 11 rfl rfl)
theorem dX13_add_12 : decode cX13_add 12 = .ok (.dup2, 1) := dk_92 (dk_at dksX13_add_0 12 rfl rfl)
theorem dX13_add_13 : decode cX13_add 13 = .ok (.iaload, 1) := dk_46 (dk_at dksX13_add_0 13 rfl rfl)
theorem dX13_add_14 : decode cX13_add 14 = .ok (.aload_n 1, 1) := dk_43 (dk_at dksX13_add_0 14 rfl rfl)
theorem dX13_add_15 : decode cX13_add 15 = .ok (.getfield 75, 3) := dk_180 0 75 (dk_at dksX13_add_0 15 rfl rfl)
theorem dX13_add_18 : decode cX13_add 18 = .ok (.iload_n 2, 1) := dk_28 (dk_at dksX13_add_0 18 rfl rfl)
theorem dX13_add_19 : decode cX13_add 19 = .ok (.iaload, 1) := dk_46 (dk_at dksX13_add_0 19 rfl rfl)
theorem dX13_add_20 : decode cX13_add 20 = .ok (.iadd, 1) := dk_96 (dk_at dksX13_add_0 20 rfl rfl)
theorem dX13_add_21 : decode cX13_add 21 = .ok (.iastore, 1) := dk_79 (dk_at dksX13_add_0 21 rfl rfl)
theorem dX13_add_22 : decode cX13_add 22 = .ok (.iinc 2 1, 3) := dk_132 2 1 (dk_at dksX13_add_1 0 rfl rfl)
theorem dX13_add_25 : decode cX13_add 25 = .ok (.goto (-23), 3) := dk_167 255 233 (dk_at dksX13_add_1 3 rfl rfl)
theorem dX13_add_28 : decode cX13_add 28 = .ok (.return_, 1) := dk_177 (dk_at dksX13_add_1 6 rfl rfl)
abbrev cX13_hasVotes : ByteArray := prog_8_method_3_code
def yX13_hasVotes : MethodName := ⟨RX13, "hasVotes", "()Z"⟩
def dkwX13_hasVotes_1 : List UInt8 := [27, 158, 0, 7, 4, 167, 0, 4, 3, 172]
abbrev dktX13_hasVotes_1 : List UInt8 := dkwX13_hasVotes_1 ++ []
def dkwX13_hasVotes_0 : List UInt8 := [3, 60, 3, 61, 28, 8, 162, 0, 18, 27, 42, 180, 0, 9, 28, 46, 96, 60, 132, 2, 1, 167, 255, 239]
abbrev dktX13_hasVotes_0 : List UInt8 := dkwX13_hasVotes_0 ++ dktX13_hasVotes_1
theorem dksX13_hasVotes_0 : cX13_hasVotes.data.toList.drop 0 = dktX13_hasVotes_0 := by decide +kernel
theorem dksX13_hasVotes_1 : cX13_hasVotes.data.toList.drop 24 = dktX13_hasVotes_1 := dk_seg dksX13_hasVotes_0 24 rfl rfl
theorem dX13_hasVotes_0 : decode cX13_hasVotes 0 = .ok (.iconst 0, 1) := dk_3 (dk_at dksX13_hasVotes_0 0 rfl rfl)
theorem dX13_hasVotes_1 : decode cX13_hasVotes 1 = .ok (.istore_n 1, 1) := dk_60 (dk_at dksX13_hasVotes_0 1 rfl rfl)
theorem dX13_hasVotes_2 : decode cX13_hasVotes 2 = .ok (.iconst 0, 1) := dk_3 (dk_at dksX13_hasVotes_0 2 rfl rfl)
theorem dX13_hasVotes_3 : decode cX13_hasVotes 3 = .ok (.istore_n 2, 1) := dk_61 (dk_at dksX13_hasVotes_0 3 rfl rfl)
theorem dX13_hasVotes_4 : decode cX13_hasVotes 4 = .ok (.iload_n 2, 1) := dk_28 (dk_at dksX13_hasVotes_0 4 rfl rfl)
theorem dX13_hasVotes_5 : decode cX13_hasVotes 5 = .ok (.iconst 5, 1) := dk_8 (dk_at dksX13_hasVotes_0 5 rfl rfl)
theorem dX13_hasVotes_6 : decode cX13_hasVotes 6 = .ok (.if_icmp .ge 18, 3) := dk_162 0 18 (dk_at dksX13_hasVotes_0 6 rfl rfl)
theorem dX13_hasVotes_9 : decode cX13_hasVotes 9 = .ok (.iload_n 1, 1) := dk_27 (dk_at dksX13_hasVotes_0 9 rfl rfl)
theorem dX13_hasVotes_10 : decode cX13_hasVotes 10 = .ok (.aload_n 0, 1) := dk_42 (dk_at dksX13_hasVotes_0 10 rfl rfl)
theorem dX13_hasVotes_11 : decode cX13_hasVotes 11 = .ok (.getfield 9, 3) := dk_180 0 9 (dk_at dksX13_hasVotes_0 11 rfl rfl)
theorem dX13_hasVotes_14 : decode cX13_hasVotes 14 = .ok (.iload_n 2, 1) := dk_28 (dk_at dksX13_hasVotes_0 14 rfl rfl)
theorem dX13_hasVotes_15 : decode cX13_hasVotes 15 = .ok (.iaload, 1) := dk_46 (dk_at dksX13_hasVotes_0 15 rfl rfl)
theorem dX13_hasVotes_16 : decode cX13_hasVotes 16 = .ok (.iadd, 1) := dk_96 (dk_at dksX13_hasVotes_0 16 rfl rfl)
theorem dX13_hasVotes_17 : decode cX13_hasVotes 17 = .ok (.istore_n 1, 1) := dk_60 (dk_at dksX13_hasVotes_0 17 rfl rfl)
theorem dX13_hasVotes_18 : decode cX13_hasVotes 18 = .ok (.iinc 2 1, 3) := dk_132 2 1 (dk_at dksX13_hasVotes_0 18 rfl rfl)
theorem dX13_hasVotes_21 : decode cX13_hasVotes 21 = .ok (.goto (-17), 3) := dk_167 255 239 (dk_at dksX13_hasVotes_0 21 rfl rfl)
theorem dX13_hasVotes_24 : decode cX13_hasVotes 24 = .ok (.iload_n 1, 1) := dk_27 (dk_at dksX13_hasVotes_1 0 rfl rfl)
theorem dX13_hasVotes_25 : decode cX13_hasVotes 25 = .ok (.ifCond .le 7, 3) := dk_158 0 7 (dk_at dksX13_hasVotes_1 1 rfl rfl)
theorem dX13_hasVotes_28 : decode cX13_hasVotes 28 = .ok (.iconst 1, 1) := dk_4 (dk_at dksX13_hasVotes_1 4 rfl rfl)
theorem dX13_hasVotes_29 : decode cX13_hasVotes 29 = .ok (.goto 4, 3) := dk_167 0 4 (dk_at dksX13_hasVotes_1 5 rfl rfl)
theorem dX13_hasVotes_32 : decode cX13_hasVotes 32 = .ok (.iconst 0, 1) := dk_3 (dk_at dksX13_hasVotes_1 8 rfl rfl)
theorem dX13_hasVotes_33 : decode cX13_hasVotes 33 = .ok (.ireturn, 1) := dk_172 (dk_at dksX13_hasVotes_1 9 rfl rfl)
abbrev cX13_next : ByteArray := prog_8_method_6_code
def yX13_next : MethodName := ⟨RX13, "next", "(Z)I"⟩
def dkwX13_next_4 : List UInt8 := [154, 0, 14, 21, 4, 154, 0, 6, 21, 5, 172, 132, 4, 255, 132, 5, 1, 167, 255, 231]
abbrev dktX13_next_4 : List UInt8 := dkwX13_next_4 ++ []
def dkwX13_next_3 : List UInt8 := [42, 29, 182, 0, 88, 167, 0, 4, 3, 54, 4, 28, 54, 5, 42, 21, 5, 28, 27, 182, 0, 84]
abbrev dktX13_next_3 : List UInt8 := dkwX13_next_3 ++ dktX13_next_4
def dkwX13_next_2 : List UInt8 := [182, 0, 84, 154, 0, 7, 4, 167, 0, 4, 3, 96, 62, 132, 4, 1, 167, 255, 228, 29, 4, 164, 0, 11]
abbrev dktX13_next_2 : List UInt8 := dkwX13_next_2 ++ dktX13_next_3
def dkwX13_next_1 : List UInt8 := [61, 132, 3, 1, 167, 255, 232, 3, 62, 3, 54, 4, 21, 4, 8, 162, 0, 28, 29, 42, 21, 4, 28, 27]
abbrev dktX13_next_1 : List UInt8 := dkwX13_next_1 ++ dktX13_next_2
def dkwX13_next_0 : List UInt8 := [3, 61, 4, 62, 29, 8, 162, 0, 25, 42, 29, 28, 27, 182, 0, 84, 158, 0, 7, 29, 167, 0, 4, 28]
abbrev dktX13_next_0 : List UInt8 := dkwX13_next_0 ++ dktX13_next_1
theorem dksX13_next_0 : cX13_next.data.toList.drop 0 = dktX13_next_0 := by decide +kernel
theorem dksX13_next_1 : cX13_next.data.toList.drop 24 = dktX13_next_1 := dk_seg dksX13_next_0 24 rfl rfl
theorem dksX13_next_2 : cX13_next.data.toList.drop 48 = dktX13_next_2 := dk_seg dksX13_next_1 24 rfl rfl
theorem dksX13_next_3 : cX13_next.data.toList.drop 72 = dktX13_next_3 := dk_seg dksX13_next_2 24 rfl rfl
theorem dksX13_next_4 : cX13_next.data.toList.drop 94 = dktX13_next_4 := dk_seg dksX13_next_3 22 rfl rfl
theorem dX13_next_0 : decode cX13_next 0 = .ok (.iconst 0, 1) := dk_3 (dk_at dksX13_next_0 0 rfl rfl)
theorem dX13_next_1 : decode cX13_next 1 = .ok (.istore_n 2, 1) := dk_61 (dk_at dksX13_next_0 1 rfl rfl)
theorem dX13_next_2 : decode cX13_next 2 = .ok (.iconst 1, 1) := dk_4 (dk_at dksX13_next_0 2 rfl rfl)
theorem dX13_next_3 : decode cX13_next 3 = .ok (.istore_n 3, 1) := dk_62 (dk_at dksX13_next_0 3 rfl rfl)
theorem dX13_next_4 : decode cX13_next 4 = .ok (.iload_n 3, 1) := dk_29 (dk_at dksX13_next_0 4 rfl rfl)
theorem dX13_next_5 : decode cX13_next 5 = .ok (.iconst 5, 1) := dk_8 (dk_at dksX13_next_0 5 rfl rfl)
theorem dX13_next_6 : decode cX13_next 6 = .ok (.if_icmp .ge 25, 3) := dk_162 0 25 (dk_at dksX13_next_0 6 rfl rfl)
theorem dX13_next_9 : decode cX13_next 9 = .ok (.aload_n 0, 1) := dk_42 (dk_at dksX13_next_0 9 rfl rfl)
theorem dX13_next_10 : decode cX13_next 10 = .ok (.iload_n 3, 1) := dk_29 (dk_at dksX13_next_0 10 rfl rfl)
theorem dX13_next_11 : decode cX13_next 11 = .ok (.iload_n 2, 1) := dk_28 (dk_at dksX13_next_0 11 rfl rfl)
theorem dX13_next_12 : decode cX13_next 12 = .ok (.iload_n 1, 1) := dk_27 (dk_at dksX13_next_0 12 rfl rfl)
theorem dX13_next_13 : decode cX13_next 13 = .ok (.invokevirtual 84, 3) := dk_182 0 84 (dk_at dksX13_next_0 13 rfl rfl)
theorem dX13_next_16 : decode cX13_next 16 = .ok (.ifCond .le 7, 3) := dk_158 0 7 (dk_at dksX13_next_0 16 rfl rfl)
theorem dX13_next_19 : decode cX13_next 19 = .ok (.iload_n 3, 1) := dk_29 (dk_at dksX13_next_0 19 rfl rfl)
theorem dX13_next_20 : decode cX13_next 20 = .ok (.goto 4, 3) := dk_167 0 4 (dk_at dksX13_next_0 20 rfl rfl)
theorem dX13_next_23 : decode cX13_next 23 = .ok (.iload_n 2, 1) := dk_28 (dk_at dksX13_next_0 23 rfl rfl)
theorem dX13_next_24 : decode cX13_next 24 = .ok (.istore_n 2, 1) := dk_61 (dk_at dksX13_next_1 0 rfl rfl)
theorem dX13_next_25 : decode cX13_next 25 = .ok (.iinc 3 1, 3) := dk_132 3 1 (dk_at dksX13_next_1 1 rfl rfl)
theorem dX13_next_28 : decode cX13_next 28 = .ok (.goto (-24), 3) := dk_167 255 232 (dk_at dksX13_next_1 4 rfl rfl)
theorem dX13_next_31 : decode cX13_next 31 = .ok (.iconst 0, 1) := dk_3 (dk_at dksX13_next_1 7 rfl rfl)
theorem dX13_next_32 : decode cX13_next 32 = .ok (.istore_n 3, 1) := dk_62 (dk_at dksX13_next_1 8 rfl rfl)
theorem dX13_next_33 : decode cX13_next 33 = .ok (.iconst 0, 1) := dk_3 (dk_at dksX13_next_1 9 rfl rfl)
theorem dX13_next_34 : decode cX13_next 34 = .ok (.istore 4, 2) := dk_54 4 (dk_at dksX13_next_1 10 rfl rfl)
theorem dX13_next_36 : decode cX13_next 36 = .ok (.iload 4, 2) := dk_21 4 (dk_at dksX13_next_1 12 rfl rfl)
theorem dX13_next_38 : decode cX13_next 38 = .ok (.iconst 5, 1) := dk_8 (dk_at dksX13_next_1 14 rfl rfl)
theorem dX13_next_39 : decode cX13_next 39 = .ok (.if_icmp .ge 28, 3) := dk_162 0 28 (dk_at dksX13_next_1 15 rfl rfl)
theorem dX13_next_42 : decode cX13_next 42 = .ok (.iload_n 3, 1) := dk_29 (dk_at dksX13_next_1 18 rfl rfl)
theorem dX13_next_43 : decode cX13_next 43 = .ok (.aload_n 0, 1) := dk_42 (dk_at dksX13_next_1 19 rfl rfl)
theorem dX13_next_44 : decode cX13_next 44 = .ok (.iload 4, 2) := dk_21 4 (dk_at dksX13_next_1 20 rfl rfl)
theorem dX13_next_46 : decode cX13_next 46 = .ok (.iload_n 2, 1) := dk_28 (dk_at dksX13_next_1 22 rfl rfl)
theorem dX13_next_47 : decode cX13_next 47 = .ok (.iload_n 1, 1) := dk_27 (dk_at dksX13_next_1 23 rfl rfl)
theorem dX13_next_48 : decode cX13_next 48 = .ok (.invokevirtual 84, 3) := dk_182 0 84 (dk_at dksX13_next_2 0 rfl rfl)
theorem dX13_next_51 : decode cX13_next 51 = .ok (.ifCond .ne 7, 3) := dk_154 0 7 (dk_at dksX13_next_2 3 rfl rfl)
theorem dX13_next_54 : decode cX13_next 54 = .ok (.iconst 1, 1) := dk_4 (dk_at dksX13_next_2 6 rfl rfl)
theorem dX13_next_55 : decode cX13_next 55 = .ok (.goto 4, 3) := dk_167 0 4 (dk_at dksX13_next_2 7 rfl rfl)
theorem dX13_next_58 : decode cX13_next 58 = .ok (.iconst 0, 1) := dk_3 (dk_at dksX13_next_2 10 rfl rfl)
theorem dX13_next_59 : decode cX13_next 59 = .ok (.iadd, 1) := dk_96 (dk_at dksX13_next_2 11 rfl rfl)
theorem dX13_next_60 : decode cX13_next 60 = .ok (.istore_n 3, 1) := dk_62 (dk_at dksX13_next_2 12 rfl rfl)
theorem dX13_next_61 : decode cX13_next 61 = .ok (.iinc 4 1, 3) := dk_132 4 1 (dk_at dksX13_next_2 13 rfl rfl)
theorem dX13_next_64 : decode cX13_next 64 = .ok (.goto (-28), 3) := dk_167 255 228 (dk_at dksX13_next_2 16 rfl rfl)
theorem dX13_next_67 : decode cX13_next 67 = .ok (.iload_n 3, 1) := dk_29 (dk_at dksX13_next_2 19 rfl rfl)
theorem dX13_next_68 : decode cX13_next 68 = .ok (.iconst 1, 1) := dk_4 (dk_at dksX13_next_2 20 rfl rfl)
theorem dX13_next_69 : decode cX13_next 69 = .ok (.if_icmp .le 11, 3) := dk_164 0 11 (dk_at dksX13_next_2 21 rfl rfl)
theorem dX13_next_72 : decode cX13_next 72 = .ok (.aload_n 0, 1) := dk_42 (dk_at dksX13_next_3 0 rfl rfl)
theorem dX13_next_73 : decode cX13_next 73 = .ok (.iload_n 3, 1) := dk_29 (dk_at dksX13_next_3 1 rfl rfl)
theorem dX13_next_74 : decode cX13_next 74 = .ok (.invokevirtual 88, 3) := dk_182 0 88 (dk_at dksX13_next_3 2 rfl rfl)
theorem dX13_next_77 : decode cX13_next 77 = .ok (.goto 4, 3) := dk_167 0 4 (dk_at dksX13_next_3 5 rfl rfl)
theorem dX13_next_80 : decode cX13_next 80 = .ok (.iconst 0, 1) := dk_3 (dk_at dksX13_next_3 8 rfl rfl)
theorem dX13_next_81 : decode cX13_next 81 = .ok (.istore 4, 2) := dk_54 4 (dk_at dksX13_next_3 9 rfl rfl)
theorem dX13_next_83 : decode cX13_next 83 = .ok (.iload_n 2, 1) := dk_28 (dk_at dksX13_next_3 11 rfl rfl)
theorem dX13_next_84 : decode cX13_next 84 = .ok (.istore 5, 2) := dk_54 5 (dk_at dksX13_next_3 12 rfl rfl)
theorem dX13_next_86 : decode cX13_next 86 = .ok (.aload_n 0, 1) := dk_42 (dk_at dksX13_next_3 14 rfl rfl)
theorem dX13_next_87 : decode cX13_next 87 = .ok (.iload 5, 2) := dk_21 5 (dk_at dksX13_next_3 15 rfl rfl)
theorem dX13_next_89 : decode cX13_next 89 = .ok (.iload_n 2, 1) := dk_28 (dk_at dksX13_next_3 17 rfl rfl)
theorem dX13_next_90 : decode cX13_next 90 = .ok (.iload_n 1, 1) := dk_27 (dk_at dksX13_next_3 18 rfl rfl)
theorem dX13_next_91 : decode cX13_next 91 = .ok (.invokevirtual 84, 3) := dk_182 0 84 (dk_at dksX13_next_3 19 rfl rfl)
theorem dX13_next_94 : decode cX13_next 94 = .ok (.ifCond .ne 14, 3) := dk_154 0 14 (dk_at dksX13_next_4 0 rfl rfl)
theorem dX13_next_97 : decode cX13_next 97 = .ok (.iload 4, 2) := dk_21 4 (dk_at dksX13_next_4 3 rfl rfl)
theorem dX13_next_99 : decode cX13_next 99 = .ok (.ifCond .ne 6, 3) := dk_154 0 6 (dk_at dksX13_next_4 5 rfl rfl)
theorem dX13_next_102 : decode cX13_next 102 = .ok (.iload 5, 2) := dk_21 5 (dk_at dksX13_next_4 8 rfl rfl)
theorem dX13_next_104 : decode cX13_next 104 = .ok (.ireturn, 1) := dk_172 (dk_at dksX13_next_4 10 rfl rfl)
theorem dX13_next_105 : decode cX13_next 105 = .ok (.iinc 4 (-1), 3) := dk_132 4 255 (dk_at dksX13_next_4 11 rfl rfl)
theorem dX13_next_108 : decode cX13_next 108 = .ok (.iinc 5 1, 3) := dk_132 5 1 (dk_at dksX13_next_4 14 rfl rfl)
theorem dX13_next_111 : decode cX13_next 111 = .ok (.goto (-25), 3) := dk_167 255 231 (dk_at dksX13_next_4 17 rfl rfl)
abbrev cX13_compare : ByteArray := prog_8_method_5_code
def yX13_compare : MethodName := ⟨RX13, "compare", "(IIZ)I"⟩
def dkwX13_compare_1 : List UInt8 := [182, 0, 80, 104, 100, 172]
abbrev dktX13_compare_1 : List UInt8 := dkwX13_compare_1 ++ []
def dkwX13_compare_0 : List UInt8 := [42, 180, 0, 9, 27, 46, 42, 28, 29, 182, 0, 80, 104, 42, 180, 0, 9, 28, 46, 42, 27, 29]
abbrev dktX13_compare_0 : List UInt8 := dkwX13_compare_0 ++ dktX13_compare_1
theorem dksX13_compare_0 : cX13_compare.data.toList.drop 0 = dktX13_compare_0 := by decide +kernel
theorem dksX13_compare_1 : cX13_compare.data.toList.drop 22 = dktX13_compare_1 := dk_seg dksX13_compare_0 22 rfl rfl
theorem dX13_compare_0 : decode cX13_compare 0 = .ok (.aload_n 0, 1) := dk_42 (dk_at dksX13_compare_0 0 rfl rfl)
theorem dX13_compare_1 : decode cX13_compare 1 = .ok (.getfield 9, 3) := dk_180 0 9 (dk_at dksX13_compare_0 1 rfl rfl)
theorem dX13_compare_4 : decode cX13_compare 4 = .ok (.iload_n 1, 1) := dk_27 (dk_at dksX13_compare_0 4 rfl rfl)
theorem dX13_compare_5 : decode cX13_compare 5 = .ok (.iaload, 1) := dk_46 (dk_at dksX13_compare_0 5 rfl rfl)
theorem dX13_compare_6 : decode cX13_compare 6 = .ok (.aload_n 0, 1) := dk_42 (dk_at dksX13_compare_0 6 rfl rfl)
theorem dX13_compare_7 : decode cX13_compare 7 = .ok (.iload_n 2, 1) := dk_28 (dk_at dksX13_compare_0 7 rfl rfl)
theorem dX13_compare_8 : decode cX13_compare 8 = .ok (.iload_n 3, 1) := dk_29 (dk_at dksX13_compare_0 8 rfl rfl)
theorem dX13_compare_9 : decode cX13_compare 9 = .ok (.invokevirtual 80, 3) := dk_182 0 80 (dk_at dksX13_compare_0 9 rfl rfl)
theorem dX13_compare_12 : decode cX13_compare 12 = .ok (.imul, 1) := dk_104 (dk_at dksX13_compare_0 12 rfl rfl)
theorem dX13_compare_13 : decode cX13_compare 13 = .ok (.aload_n 0, 1) := dk_42 (dk_at dksX13_compare_0 13 rfl rfl)
theorem dX13_compare_14 : decode cX13_compare 14 = .ok (.getfield 9, 3) := dk_180 0 9 (dk_at dksX13_compare_0 14 rfl rfl)
theorem dX13_compare_17 : decode cX13_compare 17 = .ok (.iload_n 2, 1) := dk_28 (dk_at dksX13_compare_0 17 rfl rfl)
theorem dX13_compare_18 : decode cX13_compare 18 = .ok (.iaload, 1) := dk_46 (dk_at dksX13_compare_0 18 rfl rfl)
theorem dX13_compare_19 : decode cX13_compare 19 = .ok (.aload_n 0, 1) := dk_42 (dk_at dksX13_compare_0 19 rfl rfl)
theorem dX13_compare_20 : decode cX13_compare 20 = .ok (.iload_n 1, 1) := dk_27 (dk_at dksX13_compare_0 20 rfl rfl)
theorem dX13_compare_21 : decode cX13_compare 21 = .ok (.iload_n 3, 1) := dk_29 (dk_at dksX13_compare_0 21 rfl rfl)
theorem dX13_compare_22 : decode cX13_compare 22 = .ok (.invokevirtual 80, 3) := dk_182 0 80 (dk_at dksX13_compare_1 0 rfl rfl)
theorem dX13_compare_25 : decode cX13_compare 25 = .ok (.imul, 1) := dk_104 (dk_at dksX13_compare_1 3 rfl rfl)
theorem dX13_compare_26 : decode cX13_compare 26 = .ok (.isub, 1) := dk_100 (dk_at dksX13_compare_1 4 rfl rfl)
theorem dX13_compare_27 : decode cX13_compare 27 = .ok (.ireturn, 1) := dk_172 (dk_at dksX13_compare_1 5 rfl rfl)
abbrev cX13_divisor : ByteArray := prog_8_method_4_code
def yX13_divisor : MethodName := ⟨RX13, "divisor", "(IZ)I"⟩
def dkwX13_divisor_1 : List UInt8 := [96, 172]
abbrev dktX13_divisor_1 : List UInt8 := dkwX13_divisor_1 ++ []
def dkwX13_divisor_0 : List UInt8 := [28, 153, 0, 16, 5, 42, 180, 0, 15, 27, 46, 104, 4, 96, 167, 0, 11, 42, 180, 0, 15, 27, 46, 4]
abbrev dktX13_divisor_0 : List UInt8 := dkwX13_divisor_0 ++ dktX13_divisor_1
theorem dksX13_divisor_0 : cX13_divisor.data.toList.drop 0 = dktX13_divisor_0 := by decide +kernel
theorem dksX13_divisor_1 : cX13_divisor.data.toList.drop 24 = dktX13_divisor_1 := dk_seg dksX13_divisor_0 24 rfl rfl
theorem dX13_divisor_0 : decode cX13_divisor 0 = .ok (.iload_n 2, 1) := dk_28 (dk_at dksX13_divisor_0 0 rfl rfl)
theorem dX13_divisor_1 : decode cX13_divisor 1 = .ok (.ifCond .eq 16, 3) := dk_153 0 16 (dk_at dksX13_divisor_0 1 rfl rfl)
theorem dX13_divisor_4 : decode cX13_divisor 4 = .ok (.iconst 2, 1) := dk_5 (dk_at dksX13_divisor_0 4 rfl rfl)
theorem dX13_divisor_5 : decode cX13_divisor 5 = .ok (.aload_n 0, 1) := dk_42 (dk_at dksX13_divisor_0 5 rfl rfl)
theorem dX13_divisor_6 : decode cX13_divisor 6 = .ok (.getfield 15, 3) := dk_180 0 15 (dk_at dksX13_divisor_0 6 rfl rfl)
theorem dX13_divisor_9 : decode cX13_divisor 9 = .ok (.iload_n 1, 1) := dk_27 (dk_at dksX13_divisor_0 9 rfl rfl)
theorem dX13_divisor_10 : decode cX13_divisor 10 = .ok (.iaload, 1) := dk_46 (dk_at dksX13_divisor_0 10 rfl rfl)
theorem dX13_divisor_11 : decode cX13_divisor 11 = .ok (.imul, 1) := dk_104 (dk_at dksX13_divisor_0 11 rfl rfl)
theorem dX13_divisor_12 : decode cX13_divisor 12 = .ok (.iconst 1, 1) := dk_4 (dk_at dksX13_divisor_0 12 rfl rfl)
theorem dX13_divisor_13 : decode cX13_divisor 13 = .ok (.iadd, 1) := dk_96 (dk_at dksX13_divisor_0 13 rfl rfl)
theorem dX13_divisor_14 : decode cX13_divisor 14 = .ok (.goto 11, 3) := dk_167 0 11 (dk_at dksX13_divisor_0 14 rfl rfl)
theorem dX13_divisor_17 : decode cX13_divisor 17 = .ok (.aload_n 0, 1) := dk_42 (dk_at dksX13_divisor_0 17 rfl rfl)
theorem dX13_divisor_18 : decode cX13_divisor 18 = .ok (.getfield 15, 3) := dk_180 0 15 (dk_at dksX13_divisor_0 18 rfl rfl)
theorem dX13_divisor_21 : decode cX13_divisor 21 = .ok (.iload_n 1, 1) := dk_27 (dk_at dksX13_divisor_0 21 rfl rfl)
theorem dX13_divisor_22 : decode cX13_divisor 22 = .ok (.iaload, 1) := dk_46 (dk_at dksX13_divisor_0 22 rfl rfl)
theorem dX13_divisor_23 : decode cX13_divisor 23 = .ok (.iconst 1, 1) := dk_4 (dk_at dksX13_divisor_0 23 rfl rfl)
theorem dX13_divisor_24 : decode cX13_divisor 24 = .ok (.iadd, 1) := dk_96 (dk_at dksX13_divisor_1 0 rfl rfl)
theorem dX13_divisor_25 : decode cX13_divisor 25 = .ok (.ireturn, 1) := dk_172 (dk_at dksX13_divisor_1 1 rfl rfl)
abbrev cX13_lot : ByteArray := prog_8_method_7_code
def yX13_lot : MethodName := ⟨RX13, "lot", "(I)I"⟩
def dkwX13_lot_1 : List UInt8 := [4, 96, 181, 0, 93, 42, 180, 0, 21, 27, 112, 172]
abbrev dktX13_lot_1 : List UInt8 := dkwX13_lot_1 ++ []
def dkwX13_lot_0 : List UInt8 := [42, 42, 180, 0, 21, 17, 4, 79, 104, 17, 48, 57, 96, 18, 92, 112, 181, 0, 21, 42, 89, 180, 0, 93]
abbrev dktX13_lot_0 : List UInt8 := dkwX13_lot_0 ++ dktX13_lot_1
theorem dksX13_lot_0 : cX13_lot.data.toList.drop 0 = dktX13_lot_0 := by decide +kernel
theorem dksX13_lot_1 : cX13_lot.data.toList.drop 24 = dktX13_lot_1 := dk_seg dksX13_lot_0 24 rfl rfl
theorem dX13_lot_0 : decode cX13_lot 0 = .ok (.aload_n 0, 1) := dk_42 (dk_at dksX13_lot_0 0 rfl rfl)
theorem dX13_lot_1 : decode cX13_lot 1 = .ok (.aload_n 0, 1) := dk_42 (dk_at dksX13_lot_0 1 rfl rfl)
theorem dX13_lot_2 : decode cX13_lot 2 = .ok (.getfield 21, 3) := dk_180 0 21 (dk_at dksX13_lot_0 2 rfl rfl)
theorem dX13_lot_5 : decode cX13_lot 5 = .ok (.sipush 1103, 3) := dk_17 4 79 (dk_at dksX13_lot_0 5 rfl rfl)
theorem dX13_lot_8 : decode cX13_lot 8 = .ok (.imul, 1) := dk_104 (dk_at dksX13_lot_0 8 rfl rfl)
theorem dX13_lot_9 : decode cX13_lot 9 = .ok (.sipush 12345, 3) := dk_17 48 57 (dk_at dksX13_lot_0 9 rfl rfl)
theorem dX13_lot_12 : decode cX13_lot 12 = .ok (.iadd, 1) := dk_96 (dk_at dksX13_lot_0 12 rfl rfl)
theorem dX13_lot_13 : decode cX13_lot 13 = .ok (.ldc 92, 2) := dk_18 92 (dk_at dksX13_lot_0 13 rfl rfl)
theorem dX13_lot_15 : decode cX13_lot 15 = .ok (.irem, 1) := dk_112 (dk_at dksX13_lot_0 15 rfl rfl)
theorem dX13_lot_16 : decode cX13_lot 16 = .ok (.putfield 21, 3) := dk_181 0 21 (dk_at dksX13_lot_0 16 rfl rfl)
theorem dX13_lot_19 : decode cX13_lot 19 = .ok (.aload_n 0, 1) := dk_42 (dk_at dksX13_lot_0 19 rfl rfl)
theorem dX13_lot_20 : decode cX13_lot 20 = .ok (.dup, 1) := dk_89 (dk_at dksX13_lot_0 20 rfl rfl)
theorem dX13_lot_21 : decode cX13_lot 21 = .ok (.getfield 93, 3) := dk_180 0 93 (dk_at dksX13_lot_0 21 rfl rfl)
theorem dX13_lot_24 : decode cX13_lot 24 = .ok (.iconst 1, 1) := dk_4 (dk_at dksX13_lot_1 0 rfl rfl)
theorem dX13_lot_25 : decode cX13_lot 25 = .ok (.iadd, 1) := dk_96 (dk_at dksX13_lot_1 1 rfl rfl)
theorem dX13_lot_26 : decode cX13_lot 26 = .ok (.putfield 93, 3) := dk_181 0 93 (dk_at dksX13_lot_1 2 rfl rfl)
theorem dX13_lot_29 : decode cX13_lot 29 = .ok (.aload_n 0, 1) := dk_42 (dk_at dksX13_lot_1 5 rfl rfl)
theorem dX13_lot_30 : decode cX13_lot 30 = .ok (.getfield 21, 3) := dk_180 0 21 (dk_at dksX13_lot_1 6 rfl rfl)
theorem dX13_lot_33 : decode cX13_lot 33 = .ok (.iload_n 1, 1) := dk_27 (dk_at dksX13_lot_1 9 rfl rfl)
theorem dX13_lot_34 : decode cX13_lot 34 = .ok (.irem, 1) := dk_112 (dk_at dksX13_lot_1 10 rfl rfl)
theorem dX13_lot_35 : decode cX13_lot 35 = .ok (.ireturn, 1) := dk_172 (dk_at dksX13_lot_1 11 rfl rfl)
theorem q77 : (Jvm.Cond.initialized "BallotFoundry$House") ∈ lw_all := lw_g (lw_at lw_m1 34 rfl) rfl
theorem q174 : (Jvm.Cond.instantiable "BallotFoundry$House" (6 : Nat)) ∈ lw_all := lw_g (lw_at lw_m1 131 rfl) rfl
theorem q176 : (Jvm.Cond.instanceMethod ({ cls := "BallotFoundry$House", name := "<init>", desc := "(LBallotFoundry$Election;Z)V" } : Jvm.MethodName)) ∈ lw_all := lw_g (lw_at lw_m1 133 rfl) rfl
theorem q177 : (Jvm.Cond.code ({ cls := "BallotFoundry$House", name := "<init>", desc := "(LBallotFoundry$Election;Z)V" } : Jvm.MethodName) prog_8_method_1_code (5 : Nat) (Option.none : Option Jvm.ClassFile.FieldType)) ∈ lw_all := lw_g (lw_at lw_m1 134 rfl) rfl
theorem q178 : (Jvm.Cond.methodLink "BallotFoundry$House" (3 : Nat) ({ cls := "java/lang/Object", name := "<init>", desc := "()V" } : Jvm.MethodName)) ∈ lw_all := lw_g (lw_at lw_m1 135 rfl) rfl
theorem q179 : (Jvm.Cond.interfaceEntry "BallotFoundry$House" (34 : Nat)) ∈ lw_tbl := lw_at lw_m1 136 rfl
theorem q180 : (Jvm.Cond.methodLink "BallotFoundry$House" (34 : Nat) ({ cls := "java/util/List", name := "size", desc := "()I" } : Jvm.MethodName)) ∈ lw_all := lw_g (lw_at lw_m1 137 rfl) rfl
theorem q181 : (Jvm.Cond.interfaceEntry "BallotFoundry$House" (40 : Nat)) ∈ lw_tbl := lw_at lw_m1 138 rfl
theorem q182 : (Jvm.Cond.methodLink "BallotFoundry$House" (40 : Nat) ({ cls := "java/util/List", name := "get", desc := "(I)Ljava/lang/Object;" } : Jvm.MethodName)) ∈ lw_all := lw_g (lw_at lw_m1 139 rfl) rfl
theorem q200 : (Jvm.Cond.classLink "BallotFoundry$House" (44 : Nat) "BallotFoundry$Box") ∈ lw_all := lw_g (lw_at lw_m1 157 rfl) rfl
theorem q201 : (Jvm.Cond.methodLink "BallotFoundry$House" (46 : Nat) ({ cls := "BallotFoundry$Box", name := "read", desc := "(II)LBallotFoundry$Count;" } : Jvm.MethodName)) ∈ lw_all := lw_g (lw_at lw_m1 158 rfl) rfl
theorem q213 : (Jvm.Cond.fieldLink "BallotFoundry$House" (75 : Nat) "BallotFoundry$Count" "numbers" "[I") ∈ lw_all := lw_g (lw_at lw_m1 170 rfl) rfl
theorem q232 : (Jvm.Cond.methodLink "BallotFoundry$House" (54 : Nat) ({ cls := "BallotFoundry$House", name := "add", desc := "(LBallotFoundry$Count;)V" } : Jvm.MethodName)) ∈ lw_all := lw_g (lw_at lw_m1 189 rfl) rfl
theorem q233 : (Jvm.Cond.privateMethod ({ cls := "BallotFoundry$House", name := "add", desc := "(LBallotFoundry$Count;)V" } : Jvm.MethodName)) ∈ lw_tbl := lw_at lw_m1 190 rfl
theorem q234 : (Jvm.Cond.instanceMethod ({ cls := "BallotFoundry$House", name := "add", desc := "(LBallotFoundry$Count;)V" } : Jvm.MethodName)) ∈ lw_all := lw_g (lw_at lw_m1 191 rfl) rfl
theorem q235 : (Jvm.Cond.code ({ cls := "BallotFoundry$House", name := "add", desc := "(LBallotFoundry$Count;)V" } : Jvm.MethodName) prog_8_method_2_code (3 : Nat) (Option.none : Option Jvm.ClassFile.FieldType)) ∈ lw_all := lw_g (lw_at lw_m1 192 rfl) rfl
theorem q236 : (Jvm.Cond.methodLink "BallotFoundry$House" (60 : Nat) ({ cls := "BallotFoundry$House", name := "hasVotes", desc := "()Z" } : Jvm.MethodName)) ∈ lw_all := lw_g (lw_at lw_m1 193 rfl) rfl
theorem q237 : (Jvm.Cond.privateMethod ({ cls := "BallotFoundry$House", name := "hasVotes", desc := "()Z" } : Jvm.MethodName)) ∈ lw_tbl := lw_at lw_m1 194 rfl
theorem q238 : (Jvm.Cond.instanceMethod ({ cls := "BallotFoundry$House", name := "hasVotes", desc := "()Z" } : Jvm.MethodName)) ∈ lw_all := lw_g (lw_at lw_m1 195 rfl) rfl
theorem q239 : (Jvm.Cond.code ({ cls := "BallotFoundry$House", name := "hasVotes", desc := "()Z" } : Jvm.MethodName) prog_8_method_3_code (3 : Nat) (Option.some Jvm.ClassFile.FieldType.boolean)) ∈ lw_all := lw_g (lw_at lw_m1 196 rfl) rfl
theorem q240 : (Jvm.Cond.methodLink "BallotFoundry$House" (68 : Nat) ({ cls := "BallotFoundry$House", name := "next", desc := "(Z)I" } : Jvm.MethodName)) ∈ lw_all := lw_g (lw_at lw_m1 197 rfl) rfl
theorem q241 : (Jvm.Cond.privateMethod ({ cls := "BallotFoundry$House", name := "next", desc := "(Z)I" } : Jvm.MethodName)) ∈ lw_tbl := lw_at lw_m1 198 rfl
theorem q242 : (Jvm.Cond.instanceMethod ({ cls := "BallotFoundry$House", name := "next", desc := "(Z)I" } : Jvm.MethodName)) ∈ lw_all := lw_g (lw_at lw_m1 199 rfl) rfl
theorem q243 : (Jvm.Cond.code ({ cls := "BallotFoundry$House", name := "next", desc := "(Z)I" } : Jvm.MethodName) prog_8_method_6_code (6 : Nat) (Option.some Jvm.ClassFile.FieldType.int)) ∈ lw_all := lw_g (lw_at lw_m1 200 rfl) rfl
theorem q244 : (Jvm.Cond.methodLink "BallotFoundry$House" (84 : Nat) ({ cls := "BallotFoundry$House", name := "compare", desc := "(IIZ)I" } : Jvm.MethodName)) ∈ lw_all := lw_g (lw_at lw_m1 201 rfl) rfl
theorem q245 : (Jvm.Cond.privateMethod ({ cls := "BallotFoundry$House", name := "compare", desc := "(IIZ)I" } : Jvm.MethodName)) ∈ lw_tbl := lw_at lw_m1 202 rfl
theorem q246 : (Jvm.Cond.instanceMethod ({ cls := "BallotFoundry$House", name := "compare", desc := "(IIZ)I" } : Jvm.MethodName)) ∈ lw_all := lw_g (lw_at lw_m1 203 rfl) rfl
theorem q247 : (Jvm.Cond.code ({ cls := "BallotFoundry$House", name := "compare", desc := "(IIZ)I" } : Jvm.MethodName) prog_8_method_5_code (4 : Nat) (Option.some Jvm.ClassFile.FieldType.int)) ∈ lw_all := lw_g (lw_at lw_m1 204 rfl) rfl
theorem q248 : (Jvm.Cond.methodLink "BallotFoundry$House" (80 : Nat) ({ cls := "BallotFoundry$House", name := "divisor", desc := "(IZ)I" } : Jvm.MethodName)) ∈ lw_all := lw_g (lw_at lw_m1 205 rfl) rfl
theorem q249 : (Jvm.Cond.privateMethod ({ cls := "BallotFoundry$House", name := "divisor", desc := "(IZ)I" } : Jvm.MethodName)) ∈ lw_tbl := lw_at lw_m1 206 rfl
theorem q250 : (Jvm.Cond.instanceMethod ({ cls := "BallotFoundry$House", name := "divisor", desc := "(IZ)I" } : Jvm.MethodName)) ∈ lw_all := lw_g (lw_at lw_m1 207 rfl) rfl
theorem q251 : (Jvm.Cond.code ({ cls := "BallotFoundry$House", name := "divisor", desc := "(IZ)I" } : Jvm.MethodName) prog_8_method_4_code (3 : Nat) (Option.some Jvm.ClassFile.FieldType.int)) ∈ lw_all := lw_g (lw_at lw_m1 208 rfl) rfl
theorem q252 : (Jvm.Cond.methodLink "BallotFoundry$House" (88 : Nat) ({ cls := "BallotFoundry$House", name := "lot", desc := "(I)I" } : Jvm.MethodName)) ∈ lw_all := lw_g (lw_at lw_m1 209 rfl) rfl
theorem q253 : (Jvm.Cond.privateMethod ({ cls := "BallotFoundry$House", name := "lot", desc := "(I)I" } : Jvm.MethodName)) ∈ lw_tbl := lw_at lw_m1 210 rfl
theorem q254 : (Jvm.Cond.instanceMethod ({ cls := "BallotFoundry$House", name := "lot", desc := "(I)I" } : Jvm.MethodName)) ∈ lw_all := lw_g (lw_at lw_m1 211 rfl) rfl
theorem q255 : (Jvm.Cond.code ({ cls := "BallotFoundry$House", name := "lot", desc := "(I)I" } : Jvm.MethodName) prog_8_method_7_code (2 : Nat) (Option.some Jvm.ClassFile.FieldType.int)) ∈ lw_all := lw_g (lw_at lw_m1 212 rfl) rfl
theorem q256 : (Jvm.Cond.constant "BallotFoundry$House" (92 : Nat) (65536 : Int32)) ∈ lw_all := lw_g (lw_at lw_m1 213 rfl) rfl
theorem q257 : (Jvm.Cond.fieldLink "BallotFoundry$House" (9 : Nat) "BallotFoundry$House" "votes" "[I") ∈ lw_all := lw_g (lw_at lw_m1 214 rfl) rfl
theorem q259 : (Jvm.Cond.fieldLink "BallotFoundry$House" (15 : Nat) "BallotFoundry$House" "seats" "[I") ∈ lw_all := lw_g (lw_at lw_m1 216 rfl) rfl
theorem q261 : (Jvm.Cond.fieldLink "BallotFoundry$House" (18 : Nat) "BallotFoundry$House" "given" "[I") ∈ lw_all := lw_g (lw_at lw_m1 218 rfl) rfl
theorem q263 : (Jvm.Cond.fieldLink "BallotFoundry$House" (72 : Nat) "BallotFoundry$House" "many" "I") ∈ lw_all := lw_g (lw_at lw_m1 220 rfl) rfl
theorem q265 : (Jvm.Cond.fieldLink "BallotFoundry$House" (93 : Nat) "BallotFoundry$House" "lots" "I") ∈ lw_all := lw_g (lw_at lw_m1 222 rfl) rfl
theorem q267 : (Jvm.Cond.fieldLink "BallotFoundry$House" (21 : Nat) "BallotFoundry$House" "number" "I") ∈ lw_all := lw_g (lw_at lw_m1 224 rfl) rfl
theorem q268 : (Jvm.Cond.laysFinal "BallotFoundry$House" "BallotFoundry$House" "votes" "[I") ∈ lw_all := lw_g (lw_at lw_m1 225 rfl) rfl
theorem q269 : (Jvm.Cond.soleField "BallotFoundry$House" "votes") ∈ lw_all := lw_g (lw_at lw_m1 226 rfl) rfl
theorem q270 : (Jvm.Cond.laysFinal "BallotFoundry$House" "BallotFoundry$House" "seats" "[I") ∈ lw_all := lw_g (lw_at lw_m1 227 rfl) rfl
theorem q271 : (Jvm.Cond.soleField "BallotFoundry$House" "seats") ∈ lw_all := lw_g (lw_at lw_m1 228 rfl) rfl
theorem q272 : (Jvm.Cond.laysFinal "BallotFoundry$House" "BallotFoundry$House" "given" "[I") ∈ lw_all := lw_g (lw_at lw_m1 229 rfl) rfl
theorem q273 : (Jvm.Cond.soleField "BallotFoundry$House" "given") ∈ lw_all := lw_g (lw_at lw_m1 230 rfl) rfl
theorem q274 : (Jvm.Cond.lays "BallotFoundry$House" "BallotFoundry$House" "many" "I") ∈ lw_all := lw_g (lw_at lw_m1 231 rfl) rfl
theorem q275 : (Jvm.Cond.soleField "BallotFoundry$House" "many") ∈ lw_all := lw_g (lw_at lw_m1 232 rfl) rfl
theorem q276 : (Jvm.Cond.lays "BallotFoundry$House" "BallotFoundry$House" "lots" "I") ∈ lw_all := lw_g (lw_at lw_m1 233 rfl) rfl
theorem q277 : (Jvm.Cond.soleField "BallotFoundry$House" "lots") ∈ lw_all := lw_g (lw_at lw_m1 234 rfl) rfl
theorem q278 : (Jvm.Cond.lays "BallotFoundry$House" "BallotFoundry$House" "number" "I") ∈ lw_all := lw_g (lw_at lw_m1 235 rfl) rfl
theorem q279 : (Jvm.Cond.soleField "BallotFoundry$House" "number") ∈ lw_all := lw_g (lw_at lw_m1 236 rfl) rfl
theorem q280 : (Jvm.Cond.superclass "BallotFoundry$House" "java/lang/Object") ∈ lw_all := lw_g (lw_at lw_m1 237 rfl) rfl
theorem q518 : (Jvm.Cond.selects "BallotFoundry$House" ({ cls := "java/lang/Object", name := "getClass", desc := "()Ljava/lang/Class;" } : Jvm.MethodName) ({ cls := "java/lang/Object", name := "getClass", desc := "()Ljava/lang/Class;" } : Jvm.MethodName)) ∈ lw_all := lw_g (lw_at lw_m2 235 rfl) rfl
theorem q715 : (Jvm.Cond.fieldLink "BallotFoundry$House" (58 : Nat) "BallotFoundry$Election" "seats" "I") ∈ lw_all := lw_g (lw_at lw_m3 192 rfl) rfl
theorem q717 : (Jvm.Cond.fieldLink "BallotFoundry$House" (64 : Nat) "BallotFoundry$Election" "isOdd" "Z") ∈ lw_all := lw_g (lw_at lw_m3 194 rfl) rfl
theorem q719 : (Jvm.Cond.fieldLink "BallotFoundry$House" (25 : Nat) "BallotFoundry$Election" "seeds" "[I") ∈ lw_all := lw_g (lw_at lw_m3 196 rfl) rfl
theorem q726 : (Jvm.Cond.fieldLink "BallotFoundry$House" (30 : Nat) "BallotFoundry$Election" "boxes" "Ljava/util/List;") ∈ lw_all := lw_g (lw_at lw_m3 203 rfl) rfl
theorem q790 : (Jvm.Cond.fieldLink "BallotFoundry$House" (50 : Nat) "BallotFoundry$Box" "settled" "LBallotFoundry$Count;") ∈ lw_all := lw_g (lw_at lw_m4 27 rfl) rfl
theorem q944 : (Jvm.Cond.selects "BallotFoundry$House" ({ cls := "java/lang/Object", name := "equals", desc := "(Ljava/lang/Object;)Z" } : Jvm.MethodName) ({ cls := "java/lang/Object", name := "equals", desc := "(Ljava/lang/Object;)Z" } : Jvm.MethodName)) ∈ lw_all := lw_g (lw_at lw_m4 181 rfl) rfl
theorem q1810 : (Jvm.Cond.castable "BallotFoundry$House" "java/lang/Object") ∈ lw_tbl := lw_at lw_m8 87 rfl
theorem in_X13 : ∀ w ∈ wsX130, w ∈ lw_all := lw_in wsX130 [268, 270, 272, 274, 276, 278] (by decide +kernel) (by decide +kernel)
