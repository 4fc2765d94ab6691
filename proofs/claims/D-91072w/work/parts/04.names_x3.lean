/-! TourRoomsModel -/
set_option maxRecDepth 100000
def RX3 : String := "TourRoomsModel"
def TX3 : u_T := fun k => match k with
  | 0 => ("TourRoomsModel", "thrown", "I", false)
  | 1 => ("TourRoomsModel", "people", "I", false)
  | 2 => ("TourRoomsModel", "shares", "[Z", true)
  | 3 => ("TourRoomsModel", "sort", "[I", true)
  | 4 => ("TourRoomsModel", "low", "[Z", true)
  | 5 => ("TourRoomsModel", "diet", "[I", true)
  | 6 => ("TourRoomsModel", "from", "[I", true)
  | 7 => ("TourRoomsModel", "to", "[I", true)
  | 8 => ("TourRoomsModel", "isGone", "[Z", true)
  | 9 => ("TourRoomsModel", "friend", "[I", true)
  | 10 => ("TourRoomsModel", "bars", "[Z", true)
  | 11 => ("TourRoomsModel", "towns", "I", false)
  | 12 => ("TourRoomsModel", "nights", "I", false)
  | 13 => ("TourRoomsModel", "closed", "I", false)
  | 14 => ("TourRoomsModel", "day", "I", false)
  | 15 => ("TourRoomsModel", "firstDay", "I", false)
  | 16 => ("TourRoomsModel", "season", "I", false)
  | 17 => ("TourRoomsModel", "spent", "I", false)
  | 18 => ("TourRoomsModel", "long0", "[I", true)
  | 19 => ("TourRoomsModel", "first", "[I", true)
  | 20 => ("TourRoomsModel", "rooms", "[I", true)
  | 21 => ("TourRoomsModel", "beds", "[I", true)
  | 22 => ("TourRoomsModel", "lowRoom", "[Z", true)
  | 23 => ("TourRoomsModel", "price", "[I", true)
  | 24 => ("TourRoomsModel", "held", "[Z", true)
  | 25 => ("TourRoomsModel", "list", "[I", true)
  | 26 => ("TourRoomsModel", "notes", "I", false)
  | 27 => ("TourRoomsModel", "noteDay", "[I", true)
  | 28 => ("TourRoomsModel", "notePlace", "[I", true)
  | 29 => ("TourRoomsModel", "noteRoom", "[I", true)
  | 30 => ("TourRoomsModel", "isAbsent", "[Z", true)
  | 31 => ("TourRoomsModel", "lay", "[I", true)
  | 32 => ("TourRoomsModel", "bills", "[I", true)
  | 33 => ("TourRoomsModel", "owed", "[I", true)
  | 34 => ("TourRoomsModel", "may", "[I", true)
  | 35 => ("TourRoomsModel", "mayMany", "[I", true)
  | 36 => ("TourRoomsModel", "least", "[I", true)
  | 37 => ("TourRoomsModel", "lastMoved", "I", false)
  | 38 => ("TourRoomsModel", "fresh", "[I", true)
  | 39 => ("TourRoomsModel", "reached", "[Z", true)
  | 40 => ("TourRoomsModel", "tape", "[B", true)
  | 41 => ("TourRoomsModel", "taped", "I", false)
  | 42 => ("TourRoomsModel", "texts", "[B", true)
  | 43 => ("TourRoomsModel", "textLong", "[I", true)
  | 44 => ("TourRoomsModel", "rules", "[I", true)
  | 45 => ("TourRoomsModel", "text", "[B", true)
  | 46 => ("TourRoomsModel", "size", "I", false)
  | 47 => ("TourRoomsModel", "at", "I", false)
  | 48 => ("TourRoomsModel", "place", "I", false)
  | 49 => ("TourRoomsModel", "token", "I", false)
  | 50 => ("TourRoomsModel", "deep", "I", false)
  | 51 => ("TourRoomsModel", "fault", "I", false)
  | 52 => ("TourRoomsModel", "faultAt", "I", false)
  | 53 => ("TourRoomsModel", "value", "J", false)
  | 54 => ("TourRoomsModel", "asLeft", "I", false)
  | 55 => ("TourRoomsModel", "asHeld", "I", false)
  | 56 => ("TourRoomsModel", "asUsed", "I", false)
  | 57 => ("TourRoomsModel", "asPeople", "I", false)
  | 58 => ("TourRoomsModel", "read", "I", false)
  | 59 => ("TourRoomsModel", "found", "I", false)
  | 60 => ("TourRoomsModel", "loss", "[I", true)
  | 61 => ("TourRoomsModel", "later", "[I", true)
  | 62 => ("TourRoomsModel", "given", "I", false)
  | 63 => ("TourRoomsModel", "sights", "I", false)
  | 64 => ("TourRoomsModel", "opens", "[I", true)
  | 65 => ("TourRoomsModel", "shuts", "[I", true)
  | 66 => ("TourRoomsModel", "stay", "[I", true)
  | 67 => ("TourRoomsModel", "way", "[I", true)
  | 68 => ("TourRoomsModel", "gone", "[I", true)
  | 69 => ("TourRoomsModel", "begins", "[I", true)
  | 70 => ("TourRoomsModel", "isTripped", "Z", false)
  | 71 => ("TourRoomsModel", "tripMany", "I", false)
  | 72 => ("TourRoomsModel", "tripEnd", "I", false)
  | 73 => ("TourRoomsModel", "tripDrive", "I", false)
  | 74 => ("TourRoomsModel", "tripRests", "I", false)
  | 75 => ("TourRoomsModel", "tripSight", "[I", true)
  | 76 => ("TourRoomsModel", "tripBegins", "[I", true)
  | _ => ("TourRoomsModel", "isFree", "[Z", true)
def tyX3 : Nat → FieldType := fun k => match k with
  | 0 => .int
  | 1 => .int
  | 2 => .array .boolean
  | 3 => .array .int
  | 4 => .array .boolean
  | 5 => .array .int
  | 6 => .array .int
  | 7 => .array .int
  | 8 => .array .boolean
  | 9 => .array .int
  | 10 => .array .boolean
  | 11 => .int
  | 12 => .int
  | 13 => .int
  | 14 => .int
  | 15 => .int
  | 16 => .int
  | 17 => .int
  | 18 => .array .int
  | 19 => .array .int
  | 20 => .array .int
  | 21 => .array .int
  | 22 => .array .boolean
  | 23 => .array .int
  | 24 => .array .boolean
  | 25 => .array .int
  | 26 => .int
  | 27 => .array .int
  | 28 => .array .int
  | 29 => .array .int
  | 30 => .array .boolean
  | 31 => .array .int
  | 32 => .array .int
  | 33 => .array .int
  | 34 => .array .int
  | 35 => .array .int
  | 36 => .array .int
  | 37 => .int
  | 38 => .array .int
  | 39 => .array .boolean
  | 40 => .array .byte
  | 41 => .int
  | 42 => .array .byte
  | 43 => .array .int
  | 44 => .array .int
  | 45 => .array .byte
  | 46 => .int
  | 47 => .int
  | 48 => .int
  | 49 => .int
  | 50 => .int
  | 51 => .int
  | 52 => .int
  | 53 => .long
  | 54 => .int
  | 55 => .int
  | 56 => .int
  | 57 => .int
  | 58 => .int
  | 59 => .int
  | 60 => .array .int
  | 61 => .array .int
  | 62 => .int
  | 63 => .int
  | 64 => .array .int
  | 65 => .array .int
  | 66 => .array .int
  | 67 => .array .int
  | 68 => .array .int
  | 69 => .array .int
  | 70 => .boolean
  | 71 => .int
  | 72 => .int
  | 73 => .int
  | 74 => .int
  | 75 => .array .int
  | 76 => .array .int
  | _ => .array .boolean
abbrev wsX30 : List Cond := u_ws RX3 TX3 78
set_option maxRecDepth 100000 in
theorem nmX3 : ∀ a, a < 78 → ∀ b, b < 78 → a ≠ b → (TX3 a).2.1 ≠ (TX3 b).2.1 := by decide +kernel
set_option maxRecDepth 100000 in
theorem tyX3_ok : ∀ k, k < 78 → parseFieldDescriptor (TX3 k).2.2.1 = some (tyX3 k) := by decide +kernel
abbrev cX3_thrown : ByteArray := prog_17_method_1_code
def yX3_thrown : MethodName := ⟨RX3, "thrown", "()I"⟩
theorem dX3_thrown_0 : decode cX3_thrown 0 = .ok (.aload_n 0, 1) := by decide +kernel
theorem dX3_thrown_1 : decode cX3_thrown 1 = .ok (.getfield 1, 3) := by decide +kernel
theorem dX3_thrown_4 : decode cX3_thrown 4 = .ok (.ireturn, 1) := by decide +kernel
abbrev cX3_init : ByteArray := prog_17_method_3_code
def yX3_init : MethodName := ⟨RX3, "<init>", "()V"⟩
theorem dX3_init_0 : decode cX3_init 0 = .ok (.aload_n 0, 1) := by decide +kernel
theorem dX3_init_1 : decode cX3_init 1 = .ok (.invokespecial 7, 3) := by decide +kernel
theorem dX3_init_4 : decode cX3_init 4 = .ok (.aload_n 0, 1) := by decide +kernel
theorem dX3_init_5 : decode cX3_init 5 = .ok (.bipush 10, 2) := by decide +kernel
theorem dX3_init_7 : decode cX3_init 7 = .ok (.newarray .boolean, 2) := by decide +kernel
theorem dX3_init_9 : decode cX3_init 9 = .ok (.putfield 13, 3) := by decide +kernel
theorem dX3_init_12 : decode cX3_init 12 = .ok (.aload_n 0, 1) := by decide +kernel
theorem dX3_init_13 : decode cX3_init 13 = .ok (.bipush 10, 2) := by decide +kernel
theorem dX3_init_15 : decode cX3_init 15 = .ok (.newarray .int, 2) := by decide +kernel
theorem dX3_init_17 : decode cX3_init 17 = .ok (.putfield 17, 3) := by decide +kernel
theorem dX3_init_20 : decode cX3_init 20 = .ok (.aload_n 0, 1) := by decide +kernel
theorem dX3_init_21 : decode cX3_init 21 = .ok (.bipush 10, 2) := by decide +kernel
theorem dX3_init_23 : decode cX3_init 23 = .ok (.newarray .boolean, 2) := by decide +kernel
theorem dX3_init_25 : decode cX3_init 25 = .ok (.putfield 21, 3) := by decide +kernel
theorem dX3_init_28 : decode cX3_init 28 = .ok (.aload_n 0, 1) := by decide +kernel
theorem dX3_init_29 : decode cX3_init 29 = .ok (.bipush 10, 2) := by decide +kernel
theorem dX3_init_31 : decode cX3_init 31 = .ok (.newarray .int, 2) := by decide +kernel
theorem dX3_init_33 : decode cX3_init 33 = .ok (.putfield 24, 3) := by decide +kernel
theorem dX3_init_36 : decode cX3_init 36 = .ok (.aload_n 0, 1) := by decide +kernel
theorem dX3_init_37 : decode cX3_init 37 = .ok (.bipush 10, 2) := by decide +kernel
theorem dX3_init_39 : decode cX3_init 39 = .ok (.newarray .int, 2) := by decide +kernel
theorem dX3_init_41 : decode cX3_init 41 = .ok (.putfield 27, 3) := by decide +kernel
theorem dX3_init_44 : decode cX3_init 44 = .ok (.aload_n 0, 1) := by decide +kernel
theorem dX3_init_45 : decode cX3_init 45 = .ok (.bipush 10, 2) := by decide +kernel
theorem dX3_init_47 : decode cX3_init 47 = .ok (.newarray .int, 2) := by decide +kernel
theorem dX3_init_49 : decode cX3_init 49 = .ok (.putfield 30, 3) := by decide +kernel
theorem dX3_init_52 : decode cX3_init 52 = .ok (.aload_n 0, 1) := by decide +kernel
theorem dX3_init_53 : decode cX3_init 53 = .ok (.bipush 10, 2) := by decide +kernel
theorem dX3_init_55 : decode cX3_init 55 = .ok (.newarray .boolean, 2) := by decide +kernel
theorem dX3_init_57 : decode cX3_init 57 = .ok (.putfield 33, 3) := by decide +kernel
theorem dX3_init_60 : decode cX3_init 60 = .ok (.aload_n 0, 1) := by decide +kernel
theorem dX3_init_61 : decode cX3_init 61 = .ok (.bipush 10, 2) := by decide +kernel
theorem dX3_init_63 : decode cX3_init 63 = .ok (.newarray .int, 2) := by decide +kernel
theorem dX3_init_65 : decode cX3_init 65 = .ok (.putfield 36, 3) := by decide +kernel
theorem dX3_init_68 : decode cX3_init 68 = .ok (.aload_n 0, 1) := by decide +kernel
theorem dX3_init_69 : decode cX3_init 69 = .ok (.bipush 100, 2) := by decide +kernel
theorem dX3_init_71 : decode cX3_init 71 = .ok (.newarray .boolean, 2) := by decide +kernel
theorem dX3_init_73 : decode cX3_init 73 = .ok (.putfield 39, 3) := by decide +kernel
theorem dX3_init_76 : decode cX3_init 76 = .ok (.aload_n 0, 1) := by decide +kernel
theorem dX3_init_77 : decode cX3_init 77 = .ok (.bipush 30, 2) := by decide +kernel
theorem dX3_init_79 : decode cX3_init 79 = .ok (.putfield 42, 3) := by decide +kernel
theorem dX3_init_82 : decode cX3_init 82 = .ok (.aload_n 0, 1) := by decide +kernel
theorem dX3_init_83 : decode cX3_init 83 = .ok (.bipush 6, 2) := by decide +kernel
theorem dX3_init_85 : decode cX3_init 85 = .ok (.newarray .int, 2) := by decide +kernel
theorem dX3_init_87 : decode cX3_init 87 = .ok (.putfield 45, 3) := by decide +kernel
theorem dX3_init_90 : decode cX3_init 90 = .ok (.aload_n 0, 1) := by decide +kernel
theorem dX3_init_91 : decode cX3_init 91 = .ok (.bipush 6, 2) := by decide +kernel
theorem dX3_init_93 : decode cX3_init 93 = .ok (.newarray .int, 2) := by decide +kernel
theorem dX3_init_95 : decode cX3_init 95 = .ok (.putfield 48, 3) := by decide +kernel
theorem dX3_init_98 : decode cX3_init 98 = .ok (.aload_n 0, 1) := by decide +kernel
theorem dX3_init_99 : decode cX3_init 99 = .ok (.bipush 6, 2) := by decide +kernel
theorem dX3_init_101 : decode cX3_init 101 = .ok (.newarray .int, 2) := by decide +kernel
theorem dX3_init_103 : decode cX3_init 103 = .ok (.putfield 51, 3) := by decide +kernel
theorem dX3_init_106 : decode cX3_init 106 = .ok (.aload_n 0, 1) := by decide +kernel
theorem dX3_init_107 : decode cX3_init 107 = .ok (.bipush 60, 2) := by decide +kernel
theorem dX3_init_109 : decode cX3_init 109 = .ok (.newarray .int, 2) := by decide +kernel
theorem dX3_init_111 : decode cX3_init 111 = .ok (.putfield 54, 3) := by decide +kernel
theorem dX3_init_114 : decode cX3_init 114 = .ok (.aload_n 0, 1) := by decide +kernel
theorem dX3_init_115 : decode cX3_init 115 = .ok (.bipush 60, 2) := by decide +kernel
theorem dX3_init_117 : decode cX3_init 117 = .ok (.newarray .boolean, 2) := by decide +kernel
theorem dX3_init_119 : decode cX3_init 119 = .ok (.putfield 57, 3) := by decide +kernel
theorem dX3_init_122 : decode cX3_init 122 = .ok (.aload_n 0, 1) := by decide +kernel
theorem dX3_init_123 : decode cX3_init 123 = .ok (.bipush 60, 2) := by decide +kernel
theorem dX3_init_125 : decode cX3_init 125 = .ok (.newarray .int, 2) := by decide +kernel
theorem dX3_init_127 : decode cX3_init 127 = .ok (.putfield 60, 3) := by decide +kernel
theorem dX3_init_130 : decode cX3_init 130 = .ok (.aload_n 0, 1) := by decide +kernel
theorem dX3_init_131 : decode cX3_init 131 = .ok (.bipush 60, 2) := by decide +kernel
theorem dX3_init_133 : decode cX3_init 133 = .ok (.newarray .boolean, 2) := by decide +kernel
theorem dX3_init_135 : decode cX3_init 135 = .ok (.putfield 63, 3) := by decide +kernel
theorem dX3_init_138 : decode cX3_init 138 = .ok (.aload_n 0, 1) := by decide +kernel
theorem dX3_init_139 : decode cX3_init 139 = .ok (.bipush 60, 2) := by decide +kernel
theorem dX3_init_141 : decode cX3_init 141 = .ok (.newarray .int, 2) := by decide +kernel
theorem dX3_init_143 : decode cX3_init 143 = .ok (.putfield 66, 3) := by decide +kernel
theorem dX3_init_146 : decode cX3_init 146 = .ok (.aload_n 0, 1) := by decide +kernel
theorem dX3_init_147 : decode cX3_init 147 = .ok (.sipush 500, 3) := by decide +kernel
theorem dX3_init_150 : decode cX3_init 150 = .ok (.newarray .int, 2) := by decide +kernel
theorem dX3_init_152 : decode cX3_init 152 = .ok (.putfield 69, 3) := by decide +kernel
theorem dX3_init_155 : decode cX3_init 155 = .ok (.aload_n 0, 1) := by decide +kernel
theorem dX3_init_156 : decode cX3_init 156 = .ok (.sipush 500, 3) := by decide +kernel
theorem dX3_init_159 : decode cX3_init 159 = .ok (.newarray .int, 2) := by decide +kernel
theorem dX3_init_161 : decode cX3_init 161 = .ok (.putfield 72, 3) := by decide +kernel
theorem dX3_init_164 : decode cX3_init 164 = .ok (.aload_n 0, 1) := by decide +kernel
theorem dX3_init_165 : decode cX3_init 165 = .ok (.sipush 500, 3) := by decide +kernel
theorem dX3_init_168 : decode cX3_init 168 = .ok (.newarray .int, 2) := by decide +kernel
theorem dX3_init_170 : decode cX3_init 170 = .ok (.putfield 75, 3) := by decide +kernel
theorem dX3_init_173 : decode cX3_init 173 = .ok (.aload_n 0, 1) := by decide +kernel
theorem dX3_init_174 : decode cX3_init 174 = .ok (.sipush 300, 3) := by decide +kernel
theorem dX3_init_177 : decode cX3_init 177 = .ok (.newarray .boolean, 2) := by decide +kernel
theorem dX3_init_179 : decode cX3_init 179 = .ok (.putfield 78, 3) := by decide +kernel
theorem dX3_init_182 : decode cX3_init 182 = .ok (.aload_n 0, 1) := by decide +kernel
theorem dX3_init_183 : decode cX3_init 183 = .ok (.sipush 300, 3) := by decide +kernel
theorem dX3_init_186 : decode cX3_init 186 = .ok (.newarray .int, 2) := by decide +kernel
theorem dX3_init_188 : decode cX3_init 188 = .ok (.putfield 81, 3) := by decide +kernel
theorem dX3_init_191 : decode cX3_init 191 = .ok (.aload_n 0, 1) := by decide +kernel
theorem dX3_init_192 : decode cX3_init 192 = .ok (.bipush 30, 2) := by decide +kernel
theorem dX3_init_194 : decode cX3_init 194 = .ok (.newarray .int, 2) := by decide +kernel
theorem dX3_init_196 : decode cX3_init 196 = .ok (.putfield 84, 3) := by decide +kernel
theorem dX3_init_199 : decode cX3_init 199 = .ok (.aload_n 0, 1) := by decide +kernel
theorem dX3_init_200 : decode cX3_init 200 = .ok (.bipush 10, 2) := by decide +kernel
theorem dX3_init_202 : decode cX3_init 202 = .ok (.newarray .int, 2) := by decide +kernel
theorem dX3_init_204 : decode cX3_init 204 = .ok (.putfield 87, 3) := by decide +kernel
theorem dX3_init_207 : decode cX3_init 207 = .ok (.aload_n 0, 1) := by decide +kernel
theorem dX3_init_208 : decode cX3_init 208 = .ok (.sipush 640, 3) := by decide +kernel
theorem dX3_init_211 : decode cX3_init 211 = .ok (.newarray .int, 2) := by decide +kernel
theorem dX3_init_213 : decode cX3_init 213 = .ok (.putfield 90, 3) := by decide +kernel
theorem dX3_init_216 : decode cX3_init 216 = .ok (.aload_n 0, 1) := by decide +kernel
theorem dX3_init_217 : decode cX3_init 217 = .ok (.bipush 10, 2) := by decide +kernel
theorem dX3_init_219 : decode cX3_init 219 = .ok (.newarray .int, 2) := by decide +kernel
theorem dX3_init_221 : decode cX3_init 221 = .ok (.putfield 93, 3) := by decide +kernel
theorem dX3_init_224 : decode cX3_init 224 = .ok (.aload_n 0, 1) := by decide +kernel
theorem dX3_init_225 : decode cX3_init 225 = .ok (.sipush 11264, 3) := by decide +kernel
theorem dX3_init_228 : decode cX3_init 228 = .ok (.newarray .int, 2) := by decide +kernel
theorem dX3_init_230 : decode cX3_init 230 = .ok (.putfield 96, 3) := by decide +kernel
theorem dX3_init_233 : decode cX3_init 233 = .ok (.aload_n 0, 1) := by decide +kernel
theorem dX3_init_234 : decode cX3_init 234 = .ok (.iconst (-1), 1) := by decide +kernel
theorem dX3_init_235 : decode cX3_init 235 = .ok (.putfield 99, 3) := by decide +kernel
theorem dX3_init_238 : decode cX3_init 238 = .ok (.aload_n 0, 1) := by decide +kernel
theorem dX3_init_239 : decode cX3_init 239 = .ok (.bipush 10, 2) := by decide +kernel
theorem dX3_init_241 : decode cX3_init 241 = .ok (.newarray .int, 2) := by decide +kernel
theorem dX3_init_243 : decode cX3_init 243 = .ok (.putfield 102, 3) := by decide +kernel
theorem dX3_init_246 : decode cX3_init 246 = .ok (.aload_n 0, 1) := by decide +kernel
theorem dX3_init_247 : decode cX3_init 247 = .ok (.sipush 11264, 3) := by decide +kernel
theorem dX3_init_250 : decode cX3_init 250 = .ok (.newarray .boolean, 2) := by decide +kernel
theorem dX3_init_252 : decode cX3_init 252 = .ok (.putfield 105, 3) := by decide +kernel
theorem dX3_init_255 : decode cX3_init 255 = .ok (.aload_n 0, 1) := by decide +kernel
theorem dX3_init_256 : decode cX3_init 256 = .ok (.sipush 400, 3) := by decide +kernel
theorem dX3_init_259 : decode cX3_init 259 = .ok (.newarray .byte, 2) := by decide +kernel
theorem dX3_init_261 : decode cX3_init 261 = .ok (.putfield 108, 3) := by decide +kernel
theorem dX3_init_264 : decode cX3_init 264 = .ok (.aload_n 0, 1) := by decide +kernel
theorem dX3_init_265 : decode cX3_init 265 = .ok (.sipush 2400, 3) := by decide +kernel
theorem dX3_init_268 : decode cX3_init 268 = .ok (.newarray .byte, 2) := by decide +kernel
theorem dX3_init_270 : decode cX3_init 270 = .ok (.putfield 112, 3) := by decide +kernel
theorem dX3_init_273 : decode cX3_init 273 = .ok (.aload_n 0, 1) := by decide +kernel
theorem dX3_init_274 : decode cX3_init 274 = .ok (.bipush 6, 2) := by decide +kernel
theorem dX3_init_276 : decode cX3_init 276 = .ok (.newarray .int, 2) := by decide +kernel
theorem dX3_init_278 : decode cX3_init 278 = .ok (.putfield 115, 3) := by decide +kernel
theorem dX3_init_281 : decode cX3_init 281 = .ok (.aload_n 0, 1) := by decide +kernel
theorem dX3_init_282 : decode cX3_init 282 = .ok (.bipush 6, 2) := by decide +kernel
theorem dX3_init_284 : decode cX3_init 284 = .ok (.newarray .int, 2) := by decide +kernel
theorem dX3_init_286 : decode cX3_init 286 = .ok (.putfield 118, 3) := by decide +kernel
theorem dX3_init_289 : decode cX3_init 289 = .ok (.aload_n 0, 1) := by decide +kernel
theorem dX3_init_290 : decode cX3_init 290 = .ok (.sipush 400, 3) := by decide +kernel
theorem dX3_init_293 : decode cX3_init 293 = .ok (.newarray .byte, 2) := by decide +kernel
theorem dX3_init_295 : decode cX3_init 295 = .ok (.putfield 121, 3) := by decide +kernel
theorem dX3_init_298 : decode cX3_init 298 = .ok (.aload_n 0, 1) := by decide +kernel
theorem dX3_init_299 : decode cX3_init 299 = .ok (.bipush 121, 2) := by decide +kernel
theorem dX3_init_301 : decode cX3_init 301 = .ok (.newarray .int, 2) := by decide +kernel
theorem dX3_init_303 : decode cX3_init 303 = .ok (.putfield 124, 3) := by decide +kernel
theorem dX3_init_306 : decode cX3_init 306 = .ok (.aload_n 0, 1) := by decide +kernel
theorem dX3_init_307 : decode cX3_init 307 = .ok (.bipush 121, 2) := by decide +kernel
theorem dX3_init_309 : decode cX3_init 309 = .ok (.newarray .int, 2) := by decide +kernel
theorem dX3_init_311 : decode cX3_init 311 = .ok (.putfield 127, 3) := by decide +kernel
theorem dX3_init_314 : decode cX3_init 314 = .ok (.aload_n 0, 1) := by decide +kernel
theorem dX3_init_315 : decode cX3_init 315 = .ok (.bipush 7, 2) := by decide +kernel
theorem dX3_init_317 : decode cX3_init 317 = .ok (.newarray .int, 2) := by decide +kernel
theorem dX3_init_319 : decode cX3_init 319 = .ok (.putfield 130, 3) := by decide +kernel
theorem dX3_init_322 : decode cX3_init 322 = .ok (.aload_n 0, 1) := by decide +kernel
theorem dX3_init_323 : decode cX3_init 323 = .ok (.bipush 7, 2) := by decide +kernel
theorem dX3_init_325 : decode cX3_init 325 = .ok (.newarray .int, 2) := by decide +kernel
theorem dX3_init_327 : decode cX3_init 327 = .ok (.putfield 133, 3) := by decide +kernel
theorem dX3_init_330 : decode cX3_init 330 = .ok (.aload_n 0, 1) := by decide +kernel
theorem dX3_init_331 : decode cX3_init 331 = .ok (.bipush 7, 2) := by decide +kernel
theorem dX3_init_333 : decode cX3_init 333 = .ok (.newarray .int, 2) := by decide +kernel
theorem dX3_init_335 : decode cX3_init 335 = .ok (.putfield 136, 3) := by decide +kernel
theorem dX3_init_338 : decode cX3_init 338 = .ok (.aload_n 0, 1) := by decide +kernel
theorem dX3_init_339 : decode cX3_init 339 = .ok (.bipush 49, 2) := by decide +kernel
theorem dX3_init_341 : decode cX3_init 341 = .ok (.newarray .int, 2) := by decide +kernel
theorem dX3_init_343 : decode cX3_init 343 = .ok (.putfield 139, 3) := by decide +kernel
theorem dX3_init_346 : decode cX3_init 346 = .ok (.aload_n 0, 1) := by decide +kernel
theorem dX3_init_347 : decode cX3_init 347 = .ok (.bipush 7, 2) := by decide +kernel
theorem dX3_init_349 : decode cX3_init 349 = .ok (.newarray .int, 2) := by decide +kernel
theorem dX3_init_351 : decode cX3_init 351 = .ok (.putfield 142, 3) := by decide +kernel
theorem dX3_init_354 : decode cX3_init 354 = .ok (.aload_n 0, 1) := by decide +kernel
theorem dX3_init_355 : decode cX3_init 355 = .ok (.bipush 7, 2) := by decide +kernel
theorem dX3_init_357 : decode cX3_init 357 = .ok (.newarray .int, 2) := by decide +kernel
theorem dX3_init_359 : decode cX3_init 359 = .ok (.putfield 145, 3) := by decide +kernel
theorem dX3_init_362 : decode cX3_init 362 = .ok (.aload_n 0, 1) := by decide +kernel
theorem dX3_init_363 : decode cX3_init 363 = .ok (.bipush 6, 2) := by decide +kernel
theorem dX3_init_365 : decode cX3_init 365 = .ok (.newarray .int, 2) := by decide +kernel
theorem dX3_init_367 : decode cX3_init 367 = .ok (.putfield 148, 3) := by decide +kernel
theorem dX3_init_370 : decode cX3_init 370 = .ok (.aload_n 0, 1) := by decide +kernel
theorem dX3_init_371 : decode cX3_init 371 = .ok (.bipush 6, 2) := by decide +kernel
theorem dX3_init_373 : decode cX3_init 373 = .ok (.newarray .int, 2) := by decide +kernel
theorem dX3_init_375 : decode cX3_init 375 = .ok (.putfield 151, 3) := by decide +kernel
theorem dX3_init_378 : decode cX3_init 378 = .ok (.aload_n 0, 1) := by decide +kernel
theorem dX3_init_379 : decode cX3_init 379 = .ok (.bipush 10, 2) := by decide +kernel
theorem dX3_init_381 : decode cX3_init 381 = .ok (.newarray .boolean, 2) := by decide +kernel
theorem dX3_init_383 : decode cX3_init 383 = .ok (.putfield 154, 3) := by decide +kernel
theorem dX3_init_386 : decode cX3_init 386 = .ok (.iconst 0, 1) := by decide +kernel
theorem dX3_init_387 : decode cX3_init 387 = .ok (.istore_n 1, 1) := by decide +kernel
theorem dX3_init_388 : decode cX3_init 388 = .ok (.iload_n 1, 1) := by decide +kernel
theorem dX3_init_389 : decode cX3_init 389 = .ok (.bipush 60, 2) := by decide +kernel
theorem dX3_init_391 : decode cX3_init 391 = .ok (.if_icmp .ge 16, 3) := by decide +kernel
theorem dX3_init_394 : decode cX3_init 394 = .ok (.aload_n 0, 1) := by decide +kernel
theorem dX3_init_395 : decode cX3_init 395 = .ok (.getfield 66, 3) := by decide +kernel
theorem dX3_init_398 : decode cX3_init 398 = .ok (.iload_n 1, 1) := by decide +kernel
theorem dX3_init_399 : decode cX3_init 399 = .ok (.iconst (-1), 1) := by decide +kernel
theorem dX3_init_400 : decode cX3_init 400 = .ok (.iastore, 1) := by decide +kernel
theorem dX3_init_401 : decode cX3_init 401 = .ok (.iinc 1 1, 3) := by decide +kernel
theorem dX3_init_404 : decode cX3_init 404 = .ok (.goto (-16), 3) := by decide +kernel
theorem dX3_init_407 : decode cX3_init 407 = .ok (.return_, 1) := by decide +kernel
abbrev cX3_person : ByteArray := prog_17_method_11_code
def yX3_person : MethodName := ⟨RX3, "person", "(ZIZIII)I"⟩
theorem dX3_person_0 : decode cX3_person 0 = .ok (.iload_n 2, 1) := by decide +kernel
theorem dX3_person_1 : decode cX3_person 1 = .ok (.iconst 0, 1) := by decide +kernel
theorem dX3_person_2 : decode cX3_person 2 = .ok (.iconst 3, 1) := by decide +kernel
theorem dX3_person_3 : decode cX3_person 3 = .ok (.invokestatic 160, 3) := by decide +kernel
theorem dX3_person_6 : decode cX3_person 6 = .ok (.ifCond .eq 43, 3) := by decide +kernel
theorem dX3_person_9 : decode cX3_person 9 = .ok (.iload 4, 2) := by decide +kernel
theorem dX3_person_11 : decode cX3_person 11 = .ok (.iconst 0, 1) := by decide +kernel
theorem dX3_person_12 : decode cX3_person 12 = .ok (.iconst 3, 1) := by decide +kernel
theorem dX3_person_13 : decode cX3_person 13 = .ok (.invokestatic 160, 3) := by decide +kernel
theorem dX3_person_16 : decode cX3_person 16 = .ok (.ifCond .eq 33, 3) := by decide +kernel
theorem dX3_person_19 : decode cX3_person 19 = .ok (.iload 5, 2) := by decide +kernel
theorem dX3_person_21 : decode cX3_person 21 = .ok (.iconst 0, 1) := by decide +kernel
theorem dX3_person_22 : decode cX3_person 22 = .ok (.iconst 5, 1) := by decide +kernel
theorem dX3_person_23 : decode cX3_person 23 = .ok (.invokestatic 160, 3) := by decide +kernel
theorem dX3_person_26 : decode cX3_person 26 = .ok (.ifCond .eq 23, 3) := by decide +kernel
theorem dX3_person_29 : decode cX3_person 29 = .ok (.iload 6, 2) := by decide +kernel
theorem dX3_person_31 : decode cX3_person 31 = .ok (.iload 5, 2) := by decide +kernel
theorem dX3_person_33 : decode cX3_person 33 = .ok (.iconst 5, 1) := by decide +kernel
theorem dX3_person_34 : decode cX3_person 34 = .ok (.invokestatic 160, 3) := by decide +kernel
theorem dX3_person_37 : decode cX3_person 37 = .ok (.ifCond .eq 12, 3) := by decide +kernel
theorem dX3_person_40 : decode cX3_person 40 = .ok (.aload_n 0, 1) := by decide +kernel
theorem dX3_person_41 : decode cX3_person 41 = .ok (.getfield 157, 3) := by decide +kernel
theorem dX3_person_44 : decode cX3_person 44 = .ok (.bipush 10, 2) := by decide +kernel
theorem dX3_person_46 : decode cX3_person 46 = .ok (.if_icmp .ne 5, 3) := by decide +kernel
theorem dX3_person_49 : decode cX3_person 49 = .ok (.iconst (-1), 1) := by decide +kernel
theorem dX3_person_50 : decode cX3_person 50 = .ok (.ireturn, 1) := by decide +kernel
theorem dX3_person_51 : decode cX3_person 51 = .ok (.aload_n 0, 1) := by decide +kernel
theorem dX3_person_52 : decode cX3_person 52 = .ok (.getfield 13, 3) := by decide +kernel
theorem dX3_person_55 : decode cX3_person 55 = .ok (.aload_n 0, 1) := by decide +kernel
theorem dX3_person_56 : decode cX3_person 56 = .ok (.getfield 157, 3) := by decide +kernel
theorem dX3_person_59 : decode cX3_person 59 = .ok (.iload_n 1, 1) := by decide +kernel
theorem dX3_person_60 : decode cX3_person 60 = .ok (.bastore, 1) := by decide +kernel
theorem dX3_person_61 : decode cX3_person 61 = .ok (.aload_n 0, 1) := by decide +kernel
theorem dX3_person_62 : decode cX3_person 62 = .ok (.getfield 17, 3) := by decide +kernel
theorem dX3_person_65 : decode cX3_person 65 = .ok (.aload_n 0, 1) := by decide +kernel
theorem dX3_person_66 : decode cX3_person 66 = .ok (.getfield 157, 3) := by decide +kernel
theorem dX3_person_69 : decode cX3_person 69 = .ok (.iload_n 2, 1) := by decide +kernel
theorem dX3_person_70 : decode cX3_person 70 = .ok (.iastore, 1) := by decide +kernel
theorem dX3_person_71 : decode cX3_person 71 = .ok (.aload_n 0, 1) := by decide +kernel
theorem dX3_person_72 : decode cX3_person 72 = .ok (.getfield 21, 3) := by decide +kernel
theorem dX3_person_75 : decode cX3_person 75 = .ok (.aload_n 0, 1) := by decide +kernel
theorem dX3_person_76 : decode cX3_person 76 = .ok (.getfield 157, 3) := by decide +kernel
theorem dX3_person_79 : decode cX3_person 79 = .ok (.iload_n 3, 1) := by decide +kernel
theorem dX3_person_80 : decode cX3_person 80 = .ok (.bastore, 1) := by decide +kernel
theorem dX3_person_81 : decode cX3_person 81 = .ok (.aload_n 0, 1) := by decide +kernel
theorem dX3_person_82 : decode cX3_person 82 = .ok (.getfield 24, 3) := by decide +kernel
theorem dX3_person_85 : decode cX3_person 85 = .ok (.aload_n 0, 1) := by decide +kernel
theorem dX3_person_86 : decode cX3_person 86 = .ok (.getfield 157, 3) := by decide +kernel
theorem dX3_person_89 : decode cX3_person 89 = .ok (.iload 4, 2) := by decide +kernel
theorem dX3_person_91 : decode cX3_person 91 = .ok (.iastore, 1) := by decide +kernel
theorem dX3_person_92 : decode cX3_person 92 = .ok (.aload_n 0, 1) := by decide +kernel
theorem dX3_person_93 : decode cX3_person 93 = .ok (.getfield 27, 3) := by decide +kernel
theorem dX3_person_96 : decode cX3_person 96 = .ok (.aload_n 0, 1) := by decide +kernel
theorem dX3_person_97 : decode cX3_person 97 = .ok (.getfield 157, 3) := by decide +kernel
theorem dX3_person_100 : decode cX3_person 100 = .ok (.iload 5, 2) := by decide +kernel
theorem dX3_person_102 : decode cX3_person 102 = .ok (.iastore, 1) := by decide +kernel
theorem dX3_person_103 : decode cX3_person 103 = .ok (.aload_n 0, 1) := by decide +kernel
theorem dX3_person_104 : decode cX3_person 104 = .ok (.getfield 30, 3) := by decide +kernel
theorem dX3_person_107 : decode cX3_person 107 = .ok (.aload_n 0, 1) := by decide +kernel
theorem dX3_person_108 : decode cX3_person 108 = .ok (.getfield 157, 3) := by decide +kernel
theorem dX3_person_111 : decode cX3_person 111 = .ok (.iload 6, 2) := by decide +kernel
theorem dX3_person_113 : decode cX3_person 113 = .ok (.iastore, 1) := by decide +kernel
theorem dX3_person_114 : decode cX3_person 114 = .ok (.aload_n 0, 1) := by decide +kernel
theorem dX3_person_115 : decode cX3_person 115 = .ok (.getfield 36, 3) := by decide +kernel
theorem dX3_person_118 : decode cX3_person 118 = .ok (.aload_n 0, 1) := by decide +kernel
theorem dX3_person_119 : decode cX3_person 119 = .ok (.getfield 157, 3) := by decide +kernel
theorem dX3_person_122 : decode cX3_person 122 = .ok (.iconst (-1), 1) := by decide +kernel
theorem dX3_person_123 : decode cX3_person 123 = .ok (.iastore, 1) := by decide +kernel
theorem dX3_person_124 : decode cX3_person 124 = .ok (.aload_n 0, 1) := by decide +kernel
theorem dX3_person_125 : decode cX3_person 125 = .ok (.dup, 1) := by decide +kernel
theorem dX3_person_126 : decode cX3_person 126 = .ok (.getfield 157, 3) := by decide +kernel
theorem dX3_person_129 : decode cX3_person 129 = .ok (.iconst 1, 1) := by decide +kernel
theorem dX3_person_130 : decode cX3_person 130 = .ok (.iadd, 1) := by decide +kernel
theorem dX3_person_131 : decode cX3_person 131 = .ok (.putfield 157, 3) := by decide +kernel
theorem dX3_person_134 : decode cX3_person 134 = .ok (.aload_n 0, 1) := by decide +kernel
theorem dX3_person_135 : decode cX3_person 135 = .ok (.getfield 157, 3) := by decide +kernel
theorem dX3_person_138 : decode cX3_person 138 = .ok (.iconst 1, 1) := by decide +kernel
theorem dX3_person_139 : decode cX3_person 139 = .ok (.isub, 1) := by decide +kernel
theorem dX3_person_140 : decode cX3_person 140 = .ok (.ireturn, 1) := by decide +kernel
abbrev cX3_in : ByteArray := prog_17_method_2_code
def yX3_in : MethodName := ⟨RX3, "in", "(III)Z"⟩
theorem dX3_in_0 : decode cX3_in 0 = .ok (.iload_n 0, 1) := by decide +kernel
theorem dX3_in_1 : decode cX3_in 1 = .ok (.iload_n 1, 1) := by decide +kernel
theorem dX3_in_2 : decode cX3_in 2 = .ok (.if_icmp .lt 12, 3) := by decide +kernel
theorem dX3_in_5 : decode cX3_in 5 = .ok (.iload_n 0, 1) := by decide +kernel
theorem dX3_in_6 : decode cX3_in 6 = .ok (.iload_n 2, 1) := by decide +kernel
theorem dX3_in_7 : decode cX3_in 7 = .ok (.if_icmp .gt 7, 3) := by decide +kernel
theorem dX3_in_10 : decode cX3_in 10 = .ok (.iconst 1, 1) := by decide +kernel
theorem dX3_in_11 : decode cX3_in 11 = .ok (.goto 4, 3) := by decide +kernel
theorem dX3_in_14 : decode cX3_in 14 = .ok (.iconst 0, 1) := by decide +kernel
theorem dX3_in_15 : decode cX3_in 15 = .ok (.ireturn, 1) := by decide +kernel
abbrev cX3_friends : ByteArray := prog_17_method_12_code
def yX3_friends : MethodName := ⟨RX3, "friends", "(IIZ)Z"⟩
theorem dX3_friends_0 : decode cX3_friends 0 = .ok (.aload_n 0, 1) := by decide +kernel
theorem dX3_friends_1 : decode cX3_friends 1 = .ok (.iload_n 1, 1) := by decide +kernel
theorem dX3_friends_2 : decode cX3_friends 2 = .ok (.invokevirtual 177, 3) := by decide +kernel
theorem dX3_friends_5 : decode cX3_friends 5 = .ok (.ifCond .eq 34, 3) := by decide +kernel
theorem dX3_friends_8 : decode cX3_friends 8 = .ok (.aload_n 0, 1) := by decide +kernel
theorem dX3_friends_9 : decode cX3_friends 9 = .ok (.iload_n 2, 1) := by decide +kernel
theorem dX3_friends_10 : decode cX3_friends 10 = .ok (.invokevirtual 177, 3) := by decide +kernel
theorem dX3_friends_13 : decode cX3_friends 13 = .ok (.ifCond .eq 26, 3) := by decide +kernel
theorem dX3_friends_16 : decode cX3_friends 16 = .ok (.iload_n 1, 1) := by decide +kernel
theorem dX3_friends_17 : decode cX3_friends 17 = .ok (.iload_n 2, 1) := by decide +kernel
theorem dX3_friends_18 : decode cX3_friends 18 = .ok (.if_icmp .eq 21, 3) := by decide +kernel
theorem dX3_friends_21 : decode cX3_friends 21 = .ok (.aload_n 0, 1) := by decide +kernel
theorem dX3_friends_22 : decode cX3_friends 22 = .ok (.getfield 33, 3) := by decide +kernel
theorem dX3_friends_25 : decode cX3_friends 25 = .ok (.iload_n 1, 1) := by decide +kernel
theorem dX3_friends_26 : decode cX3_friends 26 = .ok (.baload, 1) := by decide +kernel
theorem dX3_friends_27 : decode cX3_friends 27 = .ok (.ifCond .ne 12, 3) := by decide +kernel
theorem dX3_friends_30 : decode cX3_friends 30 = .ok (.aload_n 0, 1) := by decide +kernel
theorem dX3_friends_31 : decode cX3_friends 31 = .ok (.getfield 33, 3) := by decide +kernel
theorem dX3_friends_34 : decode cX3_friends 34 = .ok (.iload_n 2, 1) := by decide +kernel
theorem dX3_friends_35 : decode cX3_friends 35 = .ok (.baload, 1) := by decide +kernel
theorem dX3_friends_36 : decode cX3_friends 36 = .ok (.ifCond .eq 5, 3) := by decide +kernel
theorem dX3_friends_39 : decode cX3_friends 39 = .ok (.iconst 0, 1) := by decide +kernel
theorem dX3_friends_40 : decode cX3_friends 40 = .ok (.ireturn, 1) := by decide +kernel
theorem dX3_friends_41 : decode cX3_friends 41 = .ok (.iload_n 3, 1) := by decide +kernel
theorem dX3_friends_42 : decode cX3_friends 42 = .ok (.ifCond .eq 26, 3) := by decide +kernel
theorem dX3_friends_45 : decode cX3_friends 45 = .ok (.aload_n 0, 1) := by decide +kernel
theorem dX3_friends_46 : decode cX3_friends 46 = .ok (.getfield 36, 3) := by decide +kernel
theorem dX3_friends_49 : decode cX3_friends 49 = .ok (.iload_n 1, 1) := by decide +kernel
theorem dX3_friends_50 : decode cX3_friends 50 = .ok (.iaload, 1) := by decide +kernel
theorem dX3_friends_51 : decode cX3_friends 51 = .ok (.iconst (-1), 1) := by decide +kernel
theorem dX3_friends_52 : decode cX3_friends 52 = .ok (.if_icmp .ne 26, 3) := by decide +kernel
theorem dX3_friends_55 : decode cX3_friends 55 = .ok (.aload_n 0, 1) := by decide +kernel
theorem dX3_friends_56 : decode cX3_friends 56 = .ok (.getfield 36, 3) := by decide +kernel
theorem dX3_friends_59 : decode cX3_friends 59 = .ok (.iload_n 2, 1) := by decide +kernel
theorem dX3_friends_60 : decode cX3_friends 60 = .ok (.iaload, 1) := by decide +kernel
theorem dX3_friends_61 : decode cX3_friends 61 = .ok (.iconst (-1), 1) := by decide +kernel
theorem dX3_friends_62 : decode cX3_friends 62 = .ok (.if_icmp .eq 18, 3) := by decide +kernel
theorem dX3_friends_65 : decode cX3_friends 65 = .ok (.goto 13, 3) := by decide +kernel
theorem dX3_friends_68 : decode cX3_friends 68 = .ok (.aload_n 0, 1) := by decide +kernel
theorem dX3_friends_69 : decode cX3_friends 69 = .ok (.getfield 36, 3) := by decide +kernel
theorem dX3_friends_72 : decode cX3_friends 72 = .ok (.iload_n 1, 1) := by decide +kernel
theorem dX3_friends_73 : decode cX3_friends 73 = .ok (.iaload, 1) := by decide +kernel
theorem dX3_friends_74 : decode cX3_friends 74 = .ok (.iload_n 2, 1) := by decide +kernel
theorem dX3_friends_75 : decode cX3_friends 75 = .ok (.if_icmp .eq 5, 3) := by decide +kernel
theorem dX3_friends_78 : decode cX3_friends 78 = .ok (.iconst 0, 1) := by decide +kernel
theorem dX3_friends_79 : decode cX3_friends 79 = .ok (.ireturn, 1) := by decide +kernel
theorem dX3_friends_80 : decode cX3_friends 80 = .ok (.aload_n 0, 1) := by decide +kernel
theorem dX3_friends_81 : decode cX3_friends 81 = .ok (.getfield 36, 3) := by decide +kernel
theorem dX3_friends_84 : decode cX3_friends 84 = .ok (.iload_n 1, 1) := by decide +kernel
theorem dX3_friends_85 : decode cX3_friends 85 = .ok (.iload_n 3, 1) := by decide +kernel
theorem dX3_friends_86 : decode cX3_friends 86 = .ok (.ifCond .eq 7, 3) := by decide +kernel
theorem dX3_friends_89 : decode cX3_friends 89 = .ok (.iload_n 2, 1) := by decide +kernel
theorem dX3_friends_90 : decode cX3_friends 90 = .ok (.goto 4, 3) := by decide +kernel
theorem dX3_friends_93 : decode cX3_friends 93 = .ok (.iconst (-1), 1) := by decide +kernel
theorem dX3_friends_94 : decode cX3_friends 94 = .ok (.iastore, 1) := by decide +kernel
theorem dX3_friends_95 : decode cX3_friends 95 = .ok (.aload_n 0, 1) := by decide +kernel
theorem dX3_friends_96 : decode cX3_friends 96 = .ok (.getfield 36, 3) := by decide +kernel
theorem dX3_friends_99 : decode cX3_friends 99 = .ok (.iload_n 2, 1) := by decide +kernel
theorem dX3_friends_100 : decode cX3_friends 100 = .ok (.iload_n 3, 1) := by decide +kernel
theorem dX3_friends_101 : decode cX3_friends 101 = .ok (.ifCond .eq 7, 3) := by decide +kernel
theorem dX3_friends_104 : decode cX3_friends 104 = .ok (.iload_n 1, 1) := by decide +kernel
theorem dX3_friends_105 : decode cX3_friends 105 = .ok (.goto 4, 3) := by decide +kernel
theorem dX3_friends_108 : decode cX3_friends 108 = .ok (.iconst (-1), 1) := by decide +kernel
theorem dX3_friends_109 : decode cX3_friends 109 = .ok (.iastore, 1) := by decide +kernel
theorem dX3_friends_110 : decode cX3_friends 110 = .ok (.iconst 1, 1) := by decide +kernel
theorem dX3_friends_111 : decode cX3_friends 111 = .ok (.ireturn, 1) := by decide +kernel
abbrev cX3_isPerson : ByteArray := prog_17_method_4_code
def yX3_isPerson : MethodName := ⟨RX3, "isPerson", "(I)Z"⟩
theorem dX3_isPerson_0 : decode cX3_isPerson 0 = .ok (.iload_n 1, 1) := by decide +kernel
theorem dX3_isPerson_1 : decode cX3_isPerson 1 = .ok (.iconst 0, 1) := by decide +kernel
theorem dX3_isPerson_2 : decode cX3_isPerson 2 = .ok (.aload_n 0, 1) := by decide +kernel
theorem dX3_isPerson_3 : decode cX3_isPerson 3 = .ok (.getfield 157, 3) := by decide +kernel
theorem dX3_isPerson_6 : decode cX3_isPerson 6 = .ok (.iconst 1, 1) := by decide +kernel
theorem dX3_isPerson_7 : decode cX3_isPerson 7 = .ok (.isub, 1) := by decide +kernel
theorem dX3_isPerson_8 : decode cX3_isPerson 8 = .ok (.invokestatic 160, 3) := by decide +kernel
theorem dX3_isPerson_11 : decode cX3_isPerson 11 = .ok (.ireturn, 1) := by decide +kernel
abbrev cX3_bar : ByteArray := prog_17_method_13_code
def yX3_bar : MethodName := ⟨RX3, "bar", "(IIZ)Z"⟩
theorem dX3_bar_0 : decode cX3_bar 0 = .ok (.aload_n 0, 1) := by decide +kernel
theorem dX3_bar_1 : decode cX3_bar 1 = .ok (.iload_n 1, 1) := by decide +kernel
theorem dX3_bar_2 : decode cX3_bar 2 = .ok (.invokevirtual 177, 3) := by decide +kernel
theorem dX3_bar_5 : decode cX3_bar 5 = .ok (.ifCond .eq 31, 3) := by decide +kernel
theorem dX3_bar_8 : decode cX3_bar 8 = .ok (.aload_n 0, 1) := by decide +kernel
theorem dX3_bar_9 : decode cX3_bar 9 = .ok (.iload_n 2, 1) := by decide +kernel
theorem dX3_bar_10 : decode cX3_bar 10 = .ok (.invokevirtual 177, 3) := by decide +kernel
theorem dX3_bar_13 : decode cX3_bar 13 = .ok (.ifCond .eq 23, 3) := by decide +kernel
theorem dX3_bar_16 : decode cX3_bar 16 = .ok (.iload_n 1, 1) := by decide +kernel
theorem dX3_bar_17 : decode cX3_bar 17 = .ok (.iload_n 2, 1) := by decide +kernel
theorem dX3_bar_18 : decode cX3_bar 18 = .ok (.if_icmp .eq 18, 3) := by decide +kernel
theorem dX3_bar_21 : decode cX3_bar 21 = .ok (.aload_n 0, 1) := by decide +kernel
theorem dX3_bar_22 : decode cX3_bar 22 = .ok (.getfield 39, 3) := by decide +kernel
theorem dX3_bar_25 : decode cX3_bar 25 = .ok (.bipush 10, 2) := by decide +kernel
theorem dX3_bar_27 : decode cX3_bar 27 = .ok (.iload_n 1, 1) := by decide +kernel
theorem dX3_bar_28 : decode cX3_bar 28 = .ok (.imul, 1) := by decide +kernel
theorem dX3_bar_29 : decode cX3_bar 29 = .ok (.iload_n 2, 1) := by decide +kernel
theorem dX3_bar_30 : decode cX3_bar 30 = .ok (.iadd, 1) := by decide +kernel
theorem dX3_bar_31 : decode cX3_bar 31 = .ok (.baload, 1) := by decide +kernel
theorem dX3_bar_32 : decode cX3_bar 32 = .ok (.iload_n 3, 1) := by decide +kernel
theorem dX3_bar_33 : decode cX3_bar 33 = .ok (.if_icmp .ne 5, 3) := by decide +kernel
theorem dX3_bar_36 : decode cX3_bar 36 = .ok (.iconst 0, 1) := by decide +kernel
theorem dX3_bar_37 : decode cX3_bar 37 = .ok (.ireturn, 1) := by decide +kernel
theorem dX3_bar_38 : decode cX3_bar 38 = .ok (.aload_n 0, 1) := by decide +kernel
theorem dX3_bar_39 : decode cX3_bar 39 = .ok (.getfield 39, 3) := by decide +kernel
theorem dX3_bar_42 : decode cX3_bar 42 = .ok (.bipush 10, 2) := by decide +kernel
theorem dX3_bar_44 : decode cX3_bar 44 = .ok (.iload_n 1, 1) := by decide +kernel
theorem dX3_bar_45 : decode cX3_bar 45 = .ok (.imul, 1) := by decide +kernel
theorem dX3_bar_46 : decode cX3_bar 46 = .ok (.iload_n 2, 1) := by decide +kernel
theorem dX3_bar_47 : decode cX3_bar 47 = .ok (.iadd, 1) := by decide +kernel
theorem dX3_bar_48 : decode cX3_bar 48 = .ok (.iload_n 3, 1) := by decide +kernel
theorem dX3_bar_49 : decode cX3_bar 49 = .ok (.bastore, 1) := by decide +kernel
theorem dX3_bar_50 : decode cX3_bar 50 = .ok (.aload_n 0, 1) := by decide +kernel
theorem dX3_bar_51 : decode cX3_bar 51 = .ok (.getfield 39, 3) := by decide +kernel
theorem dX3_bar_54 : decode cX3_bar 54 = .ok (.bipush 10, 2) := by decide +kernel
theorem dX3_bar_56 : decode cX3_bar 56 = .ok (.iload_n 2, 1) := by decide +kernel
theorem dX3_bar_57 : decode cX3_bar 57 = .ok (.imul, 1) := by decide +kernel
theorem dX3_bar_58 : decode cX3_bar 58 = .ok (.iload_n 1, 1) := by decide +kernel
theorem dX3_bar_59 : decode cX3_bar 59 = .ok (.iadd, 1) := by decide +kernel
theorem dX3_bar_60 : decode cX3_bar 60 = .ok (.iload_n 3, 1) := by decide +kernel
theorem dX3_bar_61 : decode cX3_bar 61 = .ok (.bastore, 1) := by decide +kernel
theorem dX3_bar_62 : decode cX3_bar 62 = .ok (.iconst 1, 1) := by decide +kernel
theorem dX3_bar_63 : decode cX3_bar 63 = .ok (.ireturn, 1) := by decide +kernel
abbrev cX3_stays : ByteArray := prog_17_method_16_code
def yX3_stays : MethodName := ⟨RX3, "stays", "(III)Z"⟩
theorem dX3_stays_0 : decode cX3_stays 0 = .ok (.aload_n 0, 1) := by decide +kernel
theorem dX3_stays_1 : decode cX3_stays 1 = .ok (.iload_n 1, 1) := by decide +kernel
theorem dX3_stays_2 : decode cX3_stays 2 = .ok (.invokevirtual 177, 3) := by decide +kernel
theorem dX3_stays_5 : decode cX3_stays 5 = .ok (.ifCond .eq 40, 3) := by decide +kernel
theorem dX3_stays_8 : decode cX3_stays 8 = .ok (.aload_n 0, 1) := by decide +kernel
theorem dX3_stays_9 : decode cX3_stays 9 = .ok (.getfield 33, 3) := by decide +kernel
theorem dX3_stays_12 : decode cX3_stays 12 = .ok (.iload_n 1, 1) := by decide +kernel
theorem dX3_stays_13 : decode cX3_stays 13 = .ok (.baload, 1) := by decide +kernel
theorem dX3_stays_14 : decode cX3_stays 14 = .ok (.ifCond .ne 31, 3) := by decide +kernel
theorem dX3_stays_17 : decode cX3_stays 17 = .ok (.iload_n 2, 1) := by decide +kernel
theorem dX3_stays_18 : decode cX3_stays 18 = .ok (.iconst 0, 1) := by decide +kernel
theorem dX3_stays_19 : decode cX3_stays 19 = .ok (.iconst 5, 1) := by decide +kernel
theorem dX3_stays_20 : decode cX3_stays 20 = .ok (.invokestatic 160, 3) := by decide +kernel
theorem dX3_stays_23 : decode cX3_stays 23 = .ok (.ifCond .eq 22, 3) := by decide +kernel
theorem dX3_stays_26 : decode cX3_stays 26 = .ok (.iload_n 3, 1) := by decide +kernel
theorem dX3_stays_27 : decode cX3_stays 27 = .ok (.iload_n 2, 1) := by decide +kernel
theorem dX3_stays_28 : decode cX3_stays 28 = .ok (.iconst 5, 1) := by decide +kernel
theorem dX3_stays_29 : decode cX3_stays 29 = .ok (.invokestatic 160, 3) := by decide +kernel
theorem dX3_stays_32 : decode cX3_stays 32 = .ok (.ifCond .eq 13, 3) := by decide +kernel
theorem dX3_stays_35 : decode cX3_stays 35 = .ok (.aload_n 0, 1) := by decide +kernel
theorem dX3_stays_36 : decode cX3_stays 36 = .ok (.iload_n 1, 1) := by decide +kernel
theorem dX3_stays_37 : decode cX3_stays 37 = .ok (.iload_n 2, 1) := by decide +kernel
theorem dX3_stays_38 : decode cX3_stays 38 = .ok (.iload_n 3, 1) := by decide +kernel
theorem dX3_stays_39 : decode cX3_stays 39 = .ok (.invokevirtual 189, 3) := by decide +kernel
theorem dX3_stays_42 : decode cX3_stays 42 = .ok (.ifCond .ne 5, 3) := by decide +kernel
theorem dX3_stays_45 : decode cX3_stays 45 = .ok (.iconst 0, 1) := by decide +kernel
theorem dX3_stays_46 : decode cX3_stays 46 = .ok (.ireturn, 1) := by decide +kernel
theorem dX3_stays_47 : decode cX3_stays 47 = .ok (.aload_n 0, 1) := by decide +kernel
theorem dX3_stays_48 : decode cX3_stays 48 = .ok (.getfield 27, 3) := by decide +kernel
theorem dX3_stays_51 : decode cX3_stays 51 = .ok (.iload_n 1, 1) := by decide +kernel
theorem dX3_stays_52 : decode cX3_stays 52 = .ok (.iload_n 2, 1) := by decide +kernel
theorem dX3_stays_53 : decode cX3_stays 53 = .ok (.iastore, 1) := by decide +kernel
theorem dX3_stays_54 : decode cX3_stays 54 = .ok (.aload_n 0, 1) := by decide +kernel
theorem dX3_stays_55 : decode cX3_stays 55 = .ok (.getfield 30, 3) := by decide +kernel
theorem dX3_stays_58 : decode cX3_stays 58 = .ok (.iload_n 1, 1) := by decide +kernel
theorem dX3_stays_59 : decode cX3_stays 59 = .ok (.iload_n 3, 1) := by decide +kernel
theorem dX3_stays_60 : decode cX3_stays 60 = .ok (.iastore, 1) := by decide +kernel
theorem dX3_stays_61 : decode cX3_stays 61 = .ok (.iconst 1, 1) := by decide +kernel
theorem dX3_stays_62 : decode cX3_stays 62 = .ok (.ireturn, 1) := by decide +kernel
abbrev cX3_leaves : ByteArray := prog_17_method_15_code
def yX3_leaves : MethodName := ⟨RX3, "leaves", "(III)Z"⟩
theorem dX3_leaves_0 : decode cX3_leaves 0 = .ok (.iconst 0, 1) := by decide +kernel
theorem dX3_leaves_1 : decode cX3_leaves 1 = .ok (.istore 4, 2) := by decide +kernel
theorem dX3_leaves_3 : decode cX3_leaves 3 = .ok (.iconst 0, 1) := by decide +kernel
theorem dX3_leaves_4 : decode cX3_leaves 4 = .ok (.istore 5, 2) := by decide +kernel
theorem dX3_leaves_6 : decode cX3_leaves 6 = .ok (.iload 5, 2) := by decide +kernel
theorem dX3_leaves_8 : decode cX3_leaves 8 = .ok (.aload_n 0, 1) := by decide +kernel
theorem dX3_leaves_9 : decode cX3_leaves 9 = .ok (.getfield 164, 3) := by decide +kernel
theorem dX3_leaves_12 : decode cX3_leaves 12 = .ok (.if_icmp .ge 54, 3) := by decide +kernel
theorem dX3_leaves_15 : decode cX3_leaves 15 = .ok (.iload 4, 2) := by decide +kernel
theorem dX3_leaves_17 : decode cX3_leaves 17 = .ok (.aload_n 0, 1) := by decide +kernel
theorem dX3_leaves_18 : decode cX3_leaves 18 = .ok (.iload 5, 2) := by decide +kernel
theorem dX3_leaves_20 : decode cX3_leaves 20 = .ok (.invokevirtual 174, 3) := by decide +kernel
theorem dX3_leaves_23 : decode cX3_leaves 23 = .ok (.ifCond .ne 33, 3) := by decide +kernel
theorem dX3_leaves_26 : decode cX3_leaves 26 = .ok (.iload 5, 2) := by decide +kernel
theorem dX3_leaves_28 : decode cX3_leaves 28 = .ok (.iload_n 2, 1) := by decide +kernel
theorem dX3_leaves_29 : decode cX3_leaves 29 = .ok (.iload_n 3, 1) := by decide +kernel
theorem dX3_leaves_30 : decode cX3_leaves 30 = .ok (.invokestatic 160, 3) := by decide +kernel
theorem dX3_leaves_33 : decode cX3_leaves 33 = .ok (.ifCond .ne 23, 3) := by decide +kernel
theorem dX3_leaves_36 : decode cX3_leaves 36 = .ok (.aload_n 0, 1) := by decide +kernel
theorem dX3_leaves_37 : decode cX3_leaves 37 = .ok (.getfield 66, 3) := by decide +kernel
theorem dX3_leaves_40 : decode cX3_leaves 40 = .ok (.bipush 10, 2) := by decide +kernel
theorem dX3_leaves_42 : decode cX3_leaves 42 = .ok (.iload 5, 2) := by decide +kernel
theorem dX3_leaves_44 : decode cX3_leaves 44 = .ok (.imul, 1) := by decide +kernel
theorem dX3_leaves_45 : decode cX3_leaves 45 = .ok (.iload_n 1, 1) := by decide +kernel
theorem dX3_leaves_46 : decode cX3_leaves 46 = .ok (.iadd, 1) := by decide +kernel
theorem dX3_leaves_47 : decode cX3_leaves 47 = .ok (.iaload, 1) := by decide +kernel
theorem dX3_leaves_48 : decode cX3_leaves 48 = .ok (.iconst (-1), 1) := by decide +kernel
theorem dX3_leaves_49 : decode cX3_leaves 49 = .ok (.if_icmp .eq 7, 3) := by decide +kernel
theorem dX3_leaves_52 : decode cX3_leaves 52 = .ok (.iconst 1, 1) := by decide +kernel
theorem dX3_leaves_53 : decode cX3_leaves 53 = .ok (.goto 4, 3) := by decide +kernel
theorem dX3_leaves_56 : decode cX3_leaves 56 = .ok (.iconst 0, 1) := by decide +kernel
theorem dX3_leaves_57 : decode cX3_leaves 57 = .ok (.iadd, 1) := by decide +kernel
theorem dX3_leaves_58 : decode cX3_leaves 58 = .ok (.istore 4, 2) := by decide +kernel
theorem dX3_leaves_60 : decode cX3_leaves 60 = .ok (.iinc 5 1, 3) := by decide +kernel
theorem dX3_leaves_63 : decode cX3_leaves 63 = .ok (.goto (-57), 3) := by decide +kernel
theorem dX3_leaves_66 : decode cX3_leaves 66 = .ok (.aload_n 0, 1) := by decide +kernel
theorem dX3_leaves_67 : decode cX3_leaves 67 = .ok (.getfield 180, 3) := by decide +kernel
theorem dX3_leaves_70 : decode cX3_leaves 70 = .ok (.iload 4, 2) := by decide +kernel
theorem dX3_leaves_72 : decode cX3_leaves 72 = .ok (.iadd, 1) := by decide +kernel
theorem dX3_leaves_73 : decode cX3_leaves 73 = .ok (.sipush 500, 3) := by decide +kernel
theorem dX3_leaves_76 : decode cX3_leaves 76 = .ok (.if_icmp .le 5, 3) := by decide +kernel
theorem dX3_leaves_79 : decode cX3_leaves 79 = .ok (.iconst 0, 1) := by decide +kernel
theorem dX3_leaves_80 : decode cX3_leaves 80 = .ok (.ireturn, 1) := by decide +kernel
theorem dX3_leaves_81 : decode cX3_leaves 81 = .ok (.iconst 0, 1) := by decide +kernel
theorem dX3_leaves_82 : decode cX3_leaves 82 = .ok (.istore 5, 2) := by decide +kernel
theorem dX3_leaves_84 : decode cX3_leaves 84 = .ok (.iload 5, 2) := by decide +kernel
theorem dX3_leaves_86 : decode cX3_leaves 86 = .ok (.aload_n 0, 1) := by decide +kernel
theorem dX3_leaves_87 : decode cX3_leaves 87 = .ok (.getfield 164, 3) := by decide +kernel
theorem dX3_leaves_90 : decode cX3_leaves 90 = .ok (.if_icmp .ge 36, 3) := by decide +kernel
theorem dX3_leaves_93 : decode cX3_leaves 93 = .ok (.aload_n 0, 1) := by decide +kernel
theorem dX3_leaves_94 : decode cX3_leaves 94 = .ok (.iload 5, 2) := by decide +kernel
theorem dX3_leaves_96 : decode cX3_leaves 96 = .ok (.invokevirtual 174, 3) := by decide +kernel
theorem dX3_leaves_99 : decode cX3_leaves 99 = .ok (.ifCond .ne 21, 3) := by decide +kernel
theorem dX3_leaves_102 : decode cX3_leaves 102 = .ok (.iload 5, 2) := by decide +kernel
theorem dX3_leaves_104 : decode cX3_leaves 104 = .ok (.iload_n 2, 1) := by decide +kernel
theorem dX3_leaves_105 : decode cX3_leaves 105 = .ok (.iload_n 3, 1) := by decide +kernel
theorem dX3_leaves_106 : decode cX3_leaves 106 = .ok (.invokestatic 160, 3) := by decide +kernel
theorem dX3_leaves_109 : decode cX3_leaves 109 = .ok (.ifCond .ne 11, 3) := by decide +kernel
theorem dX3_leaves_112 : decode cX3_leaves 112 = .ok (.aload_n 0, 1) := by decide +kernel
theorem dX3_leaves_113 : decode cX3_leaves 113 = .ok (.iload 5, 2) := by decide +kernel
theorem dX3_leaves_115 : decode cX3_leaves 115 = .ok (.iload_n 1, 1) := by decide +kernel
theorem dX3_leaves_116 : decode cX3_leaves 116 = .ok (.iconst (-1), 1) := by decide +kernel
theorem dX3_leaves_117 : decode cX3_leaves 117 = .ok (.invokevirtual 186, 3) := by decide +kernel
theorem dX3_leaves_120 : decode cX3_leaves 120 = .ok (.iinc 5 1, 3) := by decide +kernel
theorem dX3_leaves_123 : decode cX3_leaves 123 = .ok (.goto (-39), 3) := by decide +kernel
theorem dX3_leaves_126 : decode cX3_leaves 126 = .ok (.iconst 1, 1) := by decide +kernel
theorem dX3_leaves_127 : decode cX3_leaves 127 = .ok (.ireturn, 1) := by decide +kernel
abbrev cX3_isOver : ByteArray := prog_17_method_6_code
def yX3_isOver : MethodName := ⟨RX3, "isOver", "(I)Z"⟩
theorem dX3_isOver_0 : decode cX3_isOver 0 = .ok (.aload_n 0, 1) := by decide +kernel
theorem dX3_isOver_1 : decode cX3_isOver 1 = .ok (.getfield 167, 3) := by decide +kernel
theorem dX3_isOver_4 : decode cX3_isOver 4 = .ok (.aload_n 0, 1) := by decide +kernel
theorem dX3_isOver_5 : decode cX3_isOver 5 = .ok (.getfield 48, 3) := by decide +kernel
theorem dX3_isOver_8 : decode cX3_isOver 8 = .ok (.iload_n 1, 1) := by decide +kernel
theorem dX3_isOver_9 : decode cX3_isOver 9 = .ok (.iaload, 1) := by decide +kernel
theorem dX3_isOver_10 : decode cX3_isOver 10 = .ok (.aload_n 0, 1) := by decide +kernel
theorem dX3_isOver_11 : decode cX3_isOver 11 = .ok (.getfield 45, 3) := by decide +kernel
theorem dX3_isOver_14 : decode cX3_isOver 14 = .ok (.iload_n 1, 1) := by decide +kernel
theorem dX3_isOver_15 : decode cX3_isOver 15 = .ok (.iaload, 1) := by decide +kernel
theorem dX3_isOver_16 : decode cX3_isOver 16 = .ok (.iadd, 1) := by decide +kernel
theorem dX3_isOver_17 : decode cX3_isOver 17 = .ok (.if_icmp .lt 7, 3) := by decide +kernel
theorem dX3_isOver_20 : decode cX3_isOver 20 = .ok (.iconst 1, 1) := by decide +kernel
theorem dX3_isOver_21 : decode cX3_isOver 21 = .ok (.goto 4, 3) := by decide +kernel
theorem dX3_isOver_24 : decode cX3_isOver 24 = .ok (.iconst 0, 1) := by decide +kernel
theorem dX3_isOver_25 : decode cX3_isOver 25 = .ok (.ireturn, 1) := by decide +kernel
abbrev cX3_notes : ByteArray := prog_17_method_14_code
def yX3_notes : MethodName := ⟨RX3, "notes", "(III)V"⟩
theorem dX3_notes_0 : decode cX3_notes 0 = .ok (.bipush 10, 2) := by decide +kernel
theorem dX3_notes_2 : decode cX3_notes 2 = .ok (.iload_n 1, 1) := by decide +kernel
theorem dX3_notes_3 : decode cX3_notes 3 = .ok (.imul, 1) := by decide +kernel
theorem dX3_notes_4 : decode cX3_notes 4 = .ok (.iload_n 2, 1) := by decide +kernel
theorem dX3_notes_5 : decode cX3_notes 5 = .ok (.iadd, 1) := by decide +kernel
theorem dX3_notes_6 : decode cX3_notes 6 = .ok (.istore 4, 2) := by decide +kernel
theorem dX3_notes_8 : decode cX3_notes 8 = .ok (.aload_n 0, 1) := by decide +kernel
theorem dX3_notes_9 : decode cX3_notes 9 = .ok (.getfield 66, 3) := by decide +kernel
theorem dX3_notes_12 : decode cX3_notes 12 = .ok (.iload 4, 2) := by decide +kernel
theorem dX3_notes_14 : decode cX3_notes 14 = .ok (.iaload, 1) := by decide +kernel
theorem dX3_notes_15 : decode cX3_notes 15 = .ok (.iload_n 3, 1) := by decide +kernel
theorem dX3_notes_16 : decode cX3_notes 16 = .ok (.if_icmp .ne 4, 3) := by decide +kernel
theorem dX3_notes_19 : decode cX3_notes 19 = .ok (.return_, 1) := by decide +kernel
theorem dX3_notes_20 : decode cX3_notes 20 = .ok (.aload_n 0, 1) := by decide +kernel
theorem dX3_notes_21 : decode cX3_notes 21 = .ok (.getfield 66, 3) := by decide +kernel
theorem dX3_notes_24 : decode cX3_notes 24 = .ok (.iload 4, 2) := by decide +kernel
theorem dX3_notes_26 : decode cX3_notes 26 = .ok (.iload_n 3, 1) := by decide +kernel
theorem dX3_notes_27 : decode cX3_notes 27 = .ok (.iastore, 1) := by decide +kernel
theorem dX3_notes_28 : decode cX3_notes 28 = .ok (.aload_n 0, 1) := by decide +kernel
theorem dX3_notes_29 : decode cX3_notes 29 = .ok (.getfield 69, 3) := by decide +kernel
theorem dX3_notes_32 : decode cX3_notes 32 = .ok (.aload_n 0, 1) := by decide +kernel
theorem dX3_notes_33 : decode cX3_notes 33 = .ok (.getfield 180, 3) := by decide +kernel
theorem dX3_notes_36 : decode cX3_notes 36 = .ok (.aload_n 0, 1) := by decide +kernel
theorem dX3_notes_37 : decode cX3_notes 37 = .ok (.getfield 183, 3) := by decide +kernel
theorem dX3_notes_40 : decode cX3_notes 40 = .ok (.iastore, 1) := by decide +kernel
theorem dX3_notes_41 : decode cX3_notes 41 = .ok (.aload_n 0, 1) := by decide +kernel
theorem dX3_notes_42 : decode cX3_notes 42 = .ok (.getfield 72, 3) := by decide +kernel
theorem dX3_notes_45 : decode cX3_notes 45 = .ok (.aload_n 0, 1) := by decide +kernel
theorem dX3_notes_46 : decode cX3_notes 46 = .ok (.getfield 180, 3) := by decide +kernel
theorem dX3_notes_49 : decode cX3_notes 49 = .ok (.iload 4, 2) := by decide +kernel
theorem dX3_notes_51 : decode cX3_notes 51 = .ok (.iastore, 1) := by decide +kernel
theorem dX3_notes_52 : decode cX3_notes 52 = .ok (.aload_n 0, 1) := by decide +kernel
theorem dX3_notes_53 : decode cX3_notes 53 = .ok (.getfield 75, 3) := by decide +kernel
theorem dX3_notes_56 : decode cX3_notes 56 = .ok (.aload_n 0, 1) := by decide +kernel
theorem dX3_notes_57 : decode cX3_notes 57 = .ok (.getfield 180, 3) := by decide +kernel
theorem dX3_notes_60 : decode cX3_notes 60 = .ok (.iload_n 3, 1) := by decide +kernel
theorem dX3_notes_61 : decode cX3_notes 61 = .ok (.iastore, 1) := by decide +kernel
theorem dX3_notes_62 : decode cX3_notes 62 = .ok (.aload_n 0, 1) := by decide +kernel
theorem dX3_notes_63 : decode cX3_notes 63 = .ok (.dup, 1) := by decide +kernel
theorem dX3_notes_64 : decode cX3_notes 64 = .ok (.getfield 180, 3) := by decide +kernel
theorem dX3_notes_67 : decode cX3_notes 67 = .ok (.iconst 1, 1) := by decide +kernel
theorem dX3_notes_68 : decode cX3_notes 68 = .ok (.iadd, 1) := by decide +kernel
theorem dX3_notes_69 : decode cX3_notes 69 = .ok (.putfield 180, 3) := by decide +kernel
theorem dX3_notes_72 : decode cX3_notes 72 = .ok (.return_, 1) := by decide +kernel
abbrev cX3_gone : ByteArray := prog_17_method_17_code
def yX3_gone : MethodName := ⟨RX3, "gone", "(I)Z"⟩
theorem dX3_gone_0 : decode cX3_gone 0 = .ok (.aload_n 0, 1) := by decide +kernel
theorem dX3_gone_1 : decode cX3_gone 1 = .ok (.iload_n 1, 1) := by decide +kernel
theorem dX3_gone_2 : decode cX3_gone 2 = .ok (.invokevirtual 177, 3) := by decide +kernel
theorem dX3_gone_5 : decode cX3_gone 5 = .ok (.ifCond .eq 22, 3) := by decide +kernel
theorem dX3_gone_8 : decode cX3_gone 8 = .ok (.aload_n 0, 1) := by decide +kernel
theorem dX3_gone_9 : decode cX3_gone 9 = .ok (.getfield 33, 3) := by decide +kernel
theorem dX3_gone_12 : decode cX3_gone 12 = .ok (.iload_n 1, 1) := by decide +kernel
theorem dX3_gone_13 : decode cX3_gone 13 = .ok (.baload, 1) := by decide +kernel
theorem dX3_gone_14 : decode cX3_gone 14 = .ok (.ifCond .ne 13, 3) := by decide +kernel
theorem dX3_gone_17 : decode cX3_gone 17 = .ok (.aload_n 0, 1) := by decide +kernel
theorem dX3_gone_18 : decode cX3_gone 18 = .ok (.iload_n 1, 1) := by decide +kernel
theorem dX3_gone_19 : decode cX3_gone 19 = .ok (.iconst 1, 1) := by decide +kernel
theorem dX3_gone_20 : decode cX3_gone 20 = .ok (.iconst 0, 1) := by decide +kernel
theorem dX3_gone_21 : decode cX3_gone 21 = .ok (.invokevirtual 189, 3) := by decide +kernel
theorem dX3_gone_24 : decode cX3_gone 24 = .ok (.ifCond .ne 5, 3) := by decide +kernel
theorem dX3_gone_27 : decode cX3_gone 27 = .ok (.iconst 0, 1) := by decide +kernel
theorem dX3_gone_28 : decode cX3_gone 28 = .ok (.ireturn, 1) := by decide +kernel
theorem dX3_gone_29 : decode cX3_gone 29 = .ok (.aload_n 0, 1) := by decide +kernel
theorem dX3_gone_30 : decode cX3_gone 30 = .ok (.getfield 33, 3) := by decide +kernel
theorem dX3_gone_33 : decode cX3_gone 33 = .ok (.iload_n 1, 1) := by decide +kernel
theorem dX3_gone_34 : decode cX3_gone 34 = .ok (.iconst 1, 1) := by decide +kernel
theorem dX3_gone_35 : decode cX3_gone 35 = .ok (.bastore, 1) := by decide +kernel
theorem dX3_gone_36 : decode cX3_gone 36 = .ok (.aload_n 0, 1) := by decide +kernel
theorem dX3_gone_37 : decode cX3_gone 37 = .ok (.getfield 36, 3) := by decide +kernel
theorem dX3_gone_40 : decode cX3_gone 40 = .ok (.iload_n 1, 1) := by decide +kernel
theorem dX3_gone_41 : decode cX3_gone 41 = .ok (.iaload, 1) := by decide +kernel
theorem dX3_gone_42 : decode cX3_gone 42 = .ok (.iconst (-1), 1) := by decide +kernel
theorem dX3_gone_43 : decode cX3_gone 43 = .ok (.if_icmp .eq 15, 3) := by decide +kernel
theorem dX3_gone_46 : decode cX3_gone 46 = .ok (.aload_n 0, 1) := by decide +kernel
theorem dX3_gone_47 : decode cX3_gone 47 = .ok (.getfield 36, 3) := by decide +kernel
theorem dX3_gone_50 : decode cX3_gone 50 = .ok (.aload_n 0, 1) := by decide +kernel
theorem dX3_gone_51 : decode cX3_gone 51 = .ok (.getfield 36, 3) := by decide +kernel
theorem dX3_gone_54 : decode cX3_gone 54 = .ok (.iload_n 1, 1) := by decide +kernel
theorem dX3_gone_55 : decode cX3_gone 55 = .ok (.iaload, 1) := by decide +kernel
theorem dX3_gone_56 : decode cX3_gone 56 = .ok (.iconst (-1), 1) := by decide +kernel
theorem dX3_gone_57 : decode cX3_gone 57 = .ok (.iastore, 1) := by decide +kernel
theorem dX3_gone_58 : decode cX3_gone 58 = .ok (.aload_n 0, 1) := by decide +kernel
theorem dX3_gone_59 : decode cX3_gone 59 = .ok (.getfield 36, 3) := by decide +kernel
theorem dX3_gone_62 : decode cX3_gone 62 = .ok (.iload_n 1, 1) := by decide +kernel
theorem dX3_gone_63 : decode cX3_gone 63 = .ok (.iconst (-1), 1) := by decide +kernel
theorem dX3_gone_64 : decode cX3_gone 64 = .ok (.iastore, 1) := by decide +kernel
theorem dX3_gone_65 : decode cX3_gone 65 = .ok (.iconst 1, 1) := by decide +kernel
theorem dX3_gone_66 : decode cX3_gone 66 = .ok (.ireturn, 1) := by decide +kernel
abbrev cX3_absent : ByteArray := prog_17_method_18_code
def yX3_absent : MethodName := ⟨RX3, "absent", "(IIZ)Z"⟩
theorem dX3_absent_0 : decode cX3_absent 0 = .ok (.aload_n 0, 1) := by decide +kernel
theorem dX3_absent_1 : decode cX3_absent 1 = .ok (.iload_n 1, 1) := by decide +kernel
theorem dX3_absent_2 : decode cX3_absent 2 = .ok (.invokevirtual 177, 3) := by decide +kernel
theorem dX3_absent_5 : decode cX3_absent 5 = .ok (.ifCond .eq 20, 3) := by decide +kernel
theorem dX3_absent_8 : decode cX3_absent 8 = .ok (.iload_n 2, 1) := by decide +kernel
theorem dX3_absent_9 : decode cX3_absent 9 = .ok (.aload_n 0, 1) := by decide +kernel
theorem dX3_absent_10 : decode cX3_absent 10 = .ok (.getfield 167, 3) := by decide +kernel
theorem dX3_absent_13 : decode cX3_absent 13 = .ok (.aload_n 0, 1) := by decide +kernel
theorem dX3_absent_14 : decode cX3_absent 14 = .ok (.getfield 192, 3) := by decide +kernel
theorem dX3_absent_17 : decode cX3_absent 17 = .ok (.iconst 1, 1) := by decide +kernel
theorem dX3_absent_18 : decode cX3_absent 18 = .ok (.isub, 1) := by decide +kernel
theorem dX3_absent_19 : decode cX3_absent 19 = .ok (.invokestatic 160, 3) := by decide +kernel
theorem dX3_absent_22 : decode cX3_absent 22 = .ok (.ifCond .ne 5, 3) := by decide +kernel
theorem dX3_absent_25 : decode cX3_absent 25 = .ok (.iconst 0, 1) := by decide +kernel
theorem dX3_absent_26 : decode cX3_absent 26 = .ok (.ireturn, 1) := by decide +kernel
theorem dX3_absent_27 : decode cX3_absent 27 = .ok (.aload_n 0, 1) := by decide +kernel
theorem dX3_absent_28 : decode cX3_absent 28 = .ok (.getfield 78, 3) := by decide +kernel
theorem dX3_absent_31 : decode cX3_absent 31 = .ok (.bipush 10, 2) := by decide +kernel
theorem dX3_absent_33 : decode cX3_absent 33 = .ok (.iload_n 2, 1) := by decide +kernel
theorem dX3_absent_34 : decode cX3_absent 34 = .ok (.imul, 1) := by decide +kernel
theorem dX3_absent_35 : decode cX3_absent 35 = .ok (.iload_n 1, 1) := by decide +kernel
theorem dX3_absent_36 : decode cX3_absent 36 = .ok (.iadd, 1) := by decide +kernel
theorem dX3_absent_37 : decode cX3_absent 37 = .ok (.iload_n 3, 1) := by decide +kernel
theorem dX3_absent_38 : decode cX3_absent 38 = .ok (.bastore, 1) := by decide +kernel
theorem dX3_absent_39 : decode cX3_absent 39 = .ok (.iconst 1, 1) := by decide +kernel
theorem dX3_absent_40 : decode cX3_absent 40 = .ok (.ireturn, 1) := by decide +kernel
abbrev cX3_town : ByteArray := prog_17_method_19_code
def yX3_town : MethodName := ⟨RX3, "town", "(I)I"⟩
theorem dX3_town_0 : decode cX3_town 0 = .ok (.iload_n 1, 1) := by decide +kernel
theorem dX3_town_1 : decode cX3_town 1 = .ok (.iconst 1, 1) := by decide +kernel
theorem dX3_town_2 : decode cX3_town 2 = .ok (.iconst 5, 1) := by decide +kernel
theorem dX3_town_3 : decode cX3_town 3 = .ok (.invokestatic 160, 3) := by decide +kernel
theorem dX3_town_6 : decode cX3_town 6 = .ok (.ifCond .eq 19, 3) := by decide +kernel
theorem dX3_town_9 : decode cX3_town 9 = .ok (.aload_n 0, 1) := by decide +kernel
theorem dX3_town_10 : decode cX3_town 10 = .ok (.getfield 164, 3) := by decide +kernel
theorem dX3_town_13 : decode cX3_town 13 = .ok (.bipush 6, 2) := by decide +kernel
theorem dX3_town_15 : decode cX3_town 15 = .ok (.if_icmp .eq 10, 3) := by decide +kernel
theorem dX3_town_18 : decode cX3_town 18 = .ok (.aload_n 0, 1) := by decide +kernel
theorem dX3_town_19 : decode cX3_town 19 = .ok (.getfield 167, 3) := by decide +kernel
theorem dX3_town_22 : decode cX3_town 22 = .ok (.ifCond .le 5, 3) := by decide +kernel
theorem dX3_town_25 : decode cX3_town 25 = .ok (.iconst (-1), 1) := by decide +kernel
theorem dX3_town_26 : decode cX3_town 26 = .ok (.ireturn, 1) := by decide +kernel
theorem dX3_town_27 : decode cX3_town 27 = .ok (.aload_n 0, 1) := by decide +kernel
theorem dX3_town_28 : decode cX3_town 28 = .ok (.getfield 45, 3) := by decide +kernel
theorem dX3_town_31 : decode cX3_town 31 = .ok (.aload_n 0, 1) := by decide +kernel
theorem dX3_town_32 : decode cX3_town 32 = .ok (.getfield 164, 3) := by decide +kernel
theorem dX3_town_35 : decode cX3_town 35 = .ok (.iload_n 1, 1) := by decide +kernel
theorem dX3_town_36 : decode cX3_town 36 = .ok (.iastore, 1) := by decide +kernel
theorem dX3_town_37 : decode cX3_town 37 = .ok (.aload_n 0, 1) := by decide +kernel
theorem dX3_town_38 : decode cX3_town 38 = .ok (.getfield 48, 3) := by decide +kernel
theorem dX3_town_41 : decode cX3_town 41 = .ok (.aload_n 0, 1) := by decide +kernel
theorem dX3_town_42 : decode cX3_town 42 = .ok (.getfield 164, 3) := by decide +kernel
theorem dX3_town_45 : decode cX3_town 45 = .ok (.aload_n 0, 1) := by decide +kernel
theorem dX3_town_46 : decode cX3_town 46 = .ok (.getfield 192, 3) := by decide +kernel
theorem dX3_town_49 : decode cX3_town 49 = .ok (.iastore, 1) := by decide +kernel
theorem dX3_town_50 : decode cX3_town 50 = .ok (.aload_n 0, 1) := by decide +kernel
theorem dX3_town_51 : decode cX3_town 51 = .ok (.dup, 1) := by decide +kernel
theorem dX3_town_52 : decode cX3_town 52 = .ok (.getfield 192, 3) := by decide +kernel
theorem dX3_town_55 : decode cX3_town 55 = .ok (.iload_n 1, 1) := by decide +kernel
theorem dX3_town_56 : decode cX3_town 56 = .ok (.iadd, 1) := by decide +kernel
theorem dX3_town_57 : decode cX3_town 57 = .ok (.putfield 192, 3) := by decide +kernel
theorem dX3_town_60 : decode cX3_town 60 = .ok (.aload_n 0, 1) := by decide +kernel
theorem dX3_town_61 : decode cX3_town 61 = .ok (.dup, 1) := by decide +kernel
theorem dX3_town_62 : decode cX3_town 62 = .ok (.getfield 164, 3) := by decide +kernel
theorem dX3_town_65 : decode cX3_town 65 = .ok (.iconst 1, 1) := by decide +kernel
theorem dX3_town_66 : decode cX3_town 66 = .ok (.iadd, 1) := by decide +kernel
theorem dX3_town_67 : decode cX3_town 67 = .ok (.putfield 164, 3) := by decide +kernel
theorem dX3_town_70 : decode cX3_town 70 = .ok (.aload_n 0, 1) := by decide +kernel
theorem dX3_town_71 : decode cX3_town 71 = .ok (.getfield 164, 3) := by decide +kernel
theorem dX3_town_74 : decode cX3_town 74 = .ok (.iconst 1, 1) := by decide +kernel
theorem dX3_town_75 : decode cX3_town 75 = .ok (.isub, 1) := by decide +kernel
theorem dX3_town_76 : decode cX3_town 76 = .ok (.ireturn, 1) := by decide +kernel
abbrev cX3_start : ByteArray := prog_17_method_20_code
def yX3_start : MethodName := ⟨RX3, "start", "(I)Z"⟩
theorem dX3_start_0 : decode cX3_start 0 = .ok (.iload_n 1, 1) := by decide +kernel
theorem dX3_start_1 : decode cX3_start 1 = .ok (.iconst 0, 1) := by decide +kernel
theorem dX3_start_2 : decode cX3_start 2 = .ok (.sipush 400, 3) := by decide +kernel
theorem dX3_start_5 : decode cX3_start 5 = .ok (.invokestatic 160, 3) := by decide +kernel
theorem dX3_start_8 : decode cX3_start 8 = .ok (.ifCond .eq 10, 3) := by decide +kernel
theorem dX3_start_11 : decode cX3_start 11 = .ok (.aload_n 0, 1) := by decide +kernel
theorem dX3_start_12 : decode cX3_start 12 = .ok (.getfield 167, 3) := by decide +kernel
theorem dX3_start_15 : decode cX3_start 15 = .ok (.ifCond .le 5, 3) := by decide +kernel
theorem dX3_start_18 : decode cX3_start 18 = .ok (.iconst 0, 1) := by decide +kernel
theorem dX3_start_19 : decode cX3_start 19 = .ok (.ireturn, 1) := by decide +kernel
theorem dX3_start_20 : decode cX3_start 20 = .ok (.aload_n 0, 1) := by decide +kernel
theorem dX3_start_21 : decode cX3_start 21 = .ok (.iload_n 1, 1) := by decide +kernel
theorem dX3_start_22 : decode cX3_start 22 = .ok (.putfield 42, 3) := by decide +kernel
theorem dX3_start_25 : decode cX3_start 25 = .ok (.iconst 1, 1) := by decide +kernel
theorem dX3_start_26 : decode cX3_start 26 = .ok (.ireturn, 1) := by decide +kernel
abbrev cX3_season : ByteArray := prog_17_method_21_code
def yX3_season : MethodName := ⟨RX3, "season", "(I)Z"⟩
theorem dX3_season_0 : decode cX3_season 0 = .ok (.iload_n 1, 1) := by decide +kernel
theorem dX3_season_1 : decode cX3_season 1 = .ok (.iconst 0, 1) := by decide +kernel
theorem dX3_season_2 : decode cX3_season 2 = .ok (.iconst 3, 1) := by decide +kernel
theorem dX3_season_3 : decode cX3_season 3 = .ok (.invokestatic 160, 3) := by decide +kernel
theorem dX3_season_6 : decode cX3_season 6 = .ok (.ifCond .ne 5, 3) := by decide +kernel
theorem dX3_season_9 : decode cX3_season 9 = .ok (.iconst 0, 1) := by decide +kernel
theorem dX3_season_10 : decode cX3_season 10 = .ok (.ireturn, 1) := by decide +kernel
theorem dX3_season_11 : decode cX3_season 11 = .ok (.aload_n 0, 1) := by decide +kernel
theorem dX3_season_12 : decode cX3_season 12 = .ok (.iload_n 1, 1) := by decide +kernel
theorem dX3_season_13 : decode cX3_season 13 = .ok (.putfield 195, 3) := by decide +kernel
theorem dX3_season_16 : decode cX3_season 16 = .ok (.iconst 1, 1) := by decide +kernel
theorem dX3_season_17 : decode cX3_season 17 = .ok (.ireturn, 1) := by decide +kernel
abbrev cX3_day : ByteArray := prog_17_method_22_code
def yX3_day : MethodName := ⟨RX3, "day", "(I)I"⟩
theorem dX3_day_0 : decode cX3_day 0 = .ok (.iload_n 1, 1) := by decide +kernel
theorem dX3_day_1 : decode cX3_day 1 = .ok (.iconst 0, 1) := by decide +kernel
theorem dX3_day_2 : decode cX3_day 2 = .ok (.bipush 100, 2) := by decide +kernel
theorem dX3_day_4 : decode cX3_day 4 = .ok (.invokestatic 160, 3) := by decide +kernel
theorem dX3_day_7 : decode cX3_day 7 = .ok (.ifCond .eq 15, 3) := by decide +kernel
theorem dX3_day_10 : decode cX3_day 10 = .ok (.aload_n 0, 1) := by decide +kernel
theorem dX3_day_11 : decode cX3_day 11 = .ok (.getfield 183, 3) := by decide +kernel
theorem dX3_day_14 : decode cX3_day 14 = .ok (.iload_n 1, 1) := by decide +kernel
theorem dX3_day_15 : decode cX3_day 15 = .ok (.iadd, 1) := by decide +kernel
theorem dX3_day_16 : decode cX3_day 16 = .ok (.sipush 1000, 3) := by decide +kernel
theorem dX3_day_19 : decode cX3_day 19 = .ok (.if_icmp .le 5, 3) := by decide +kernel
theorem dX3_day_22 : decode cX3_day 22 = .ok (.iconst (-1), 1) := by decide +kernel
theorem dX3_day_23 : decode cX3_day 23 = .ok (.ireturn, 1) := by decide +kernel
theorem dX3_day_24 : decode cX3_day 24 = .ok (.aload_n 0, 1) := by decide +kernel
theorem dX3_day_25 : decode cX3_day 25 = .ok (.dup, 1) := by decide +kernel
theorem dX3_day_26 : decode cX3_day 26 = .ok (.getfield 183, 3) := by decide +kernel
theorem dX3_day_29 : decode cX3_day 29 = .ok (.iload_n 1, 1) := by decide +kernel
theorem dX3_day_30 : decode cX3_day 30 = .ok (.iadd, 1) := by decide +kernel
theorem dX3_day_31 : decode cX3_day 31 = .ok (.putfield 183, 3) := by decide +kernel
theorem dX3_day_34 : decode cX3_day 34 = .ok (.aload_n 0, 1) := by decide +kernel
theorem dX3_day_35 : decode cX3_day 35 = .ok (.getfield 183, 3) := by decide +kernel
theorem dX3_day_38 : decode cX3_day 38 = .ok (.ireturn, 1) := by decide +kernel
abbrev cX3_room : ByteArray := prog_17_method_23_code
def yX3_room : MethodName := ⟨RX3, "room", "(IIZI)I"⟩
theorem dX3_room_0 : decode cX3_room 0 = .ok (.aload_n 0, 1) := by decide +kernel
theorem dX3_room_1 : decode cX3_room 1 = .ok (.iload_n 1, 1) := by decide +kernel
theorem dX3_room_2 : decode cX3_room 2 = .ok (.invokevirtual 198, 3) := by decide +kernel
theorem dX3_room_5 : decode cX3_room 5 = .ok (.ifCond .eq 35, 3) := by decide +kernel
theorem dX3_room_8 : decode cX3_room 8 = .ok (.iload_n 2, 1) := by decide +kernel
theorem dX3_room_9 : decode cX3_room 9 = .ok (.iconst 1, 1) := by decide +kernel
theorem dX3_room_10 : decode cX3_room 10 = .ok (.iconst 2, 1) := by decide +kernel
theorem dX3_room_11 : decode cX3_room 11 = .ok (.invokestatic 160, 3) := by decide +kernel
theorem dX3_room_14 : decode cX3_room 14 = .ok (.ifCond .eq 26, 3) := by decide +kernel
theorem dX3_room_17 : decode cX3_room 17 = .ok (.iload 4, 2) := by decide +kernel
theorem dX3_room_19 : decode cX3_room 19 = .ok (.iconst 1, 1) := by decide +kernel
theorem dX3_room_20 : decode cX3_room 20 = .ok (.sipush 1000, 3) := by decide +kernel
theorem dX3_room_23 : decode cX3_room 23 = .ok (.invokestatic 160, 3) := by decide +kernel
theorem dX3_room_26 : decode cX3_room 26 = .ok (.ifCond .eq 14, 3) := by decide +kernel
theorem dX3_room_29 : decode cX3_room 29 = .ok (.aload_n 0, 1) := by decide +kernel
theorem dX3_room_30 : decode cX3_room 30 = .ok (.getfield 51, 3) := by decide +kernel
theorem dX3_room_33 : decode cX3_room 33 = .ok (.iload_n 1, 1) := by decide +kernel
theorem dX3_room_34 : decode cX3_room 34 = .ok (.iaload, 1) := by decide +kernel
theorem dX3_room_35 : decode cX3_room 35 = .ok (.bipush 10, 2) := by decide +kernel
theorem dX3_room_37 : decode cX3_room 37 = .ok (.if_icmp .ne 5, 3) := by decide +kernel
theorem dX3_room_40 : decode cX3_room 40 = .ok (.iconst (-1), 1) := by decide +kernel
theorem dX3_room_41 : decode cX3_room 41 = .ok (.ireturn, 1) := by decide +kernel
theorem dX3_room_42 : decode cX3_room 42 = .ok (.bipush 10, 2) := by decide +kernel
theorem dX3_room_44 : decode cX3_room 44 = .ok (.iload_n 1, 1) := by decide +kernel
theorem dX3_room_45 : decode cX3_room 45 = .ok (.imul, 1) := by decide +kernel
theorem dX3_room_46 : decode cX3_room 46 = .ok (.aload_n 0, 1) := by decide +kernel
theorem dX3_room_47 : decode cX3_room 47 = .ok (.getfield 51, 3) := by decide +kernel
theorem dX3_room_50 : decode cX3_room 50 = .ok (.iload_n 1, 1) := by decide +kernel
theorem dX3_room_51 : decode cX3_room 51 = .ok (.iaload, 1) := by decide +kernel
theorem dX3_room_52 : decode cX3_room 52 = .ok (.iadd, 1) := by decide +kernel
theorem dX3_room_53 : decode cX3_room 53 = .ok (.istore 5, 2) := by decide +kernel
theorem dX3_room_55 : decode cX3_room 55 = .ok (.aload_n 0, 1) := by decide +kernel
theorem dX3_room_56 : decode cX3_room 56 = .ok (.getfield 54, 3) := by decide +kernel
theorem dX3_room_59 : decode cX3_room 59 = .ok (.iload 5, 2) := by decide +kernel
theorem dX3_room_61 : decode cX3_room 61 = .ok (.iload_n 2, 1) := by decide +kernel
theorem dX3_room_62 : decode cX3_room 62 = .ok (.iastore, 1) := by decide +kernel
theorem dX3_room_63 : decode cX3_room 63 = .ok (.aload_n 0, 1) := by decide +kernel
theorem dX3_room_64 : decode cX3_room 64 = .ok (.getfield 57, 3) := by decide +kernel
theorem dX3_room_67 : decode cX3_room 67 = .ok (.iload 5, 2) := by decide +kernel
theorem dX3_room_69 : decode cX3_room 69 = .ok (.iload_n 3, 1) := by decide +kernel
theorem dX3_room_70 : decode cX3_room 70 = .ok (.bastore, 1) := by decide +kernel
theorem dX3_room_71 : decode cX3_room 71 = .ok (.aload_n 0, 1) := by decide +kernel
theorem dX3_room_72 : decode cX3_room 72 = .ok (.getfield 60, 3) := by decide +kernel
theorem dX3_room_75 : decode cX3_room 75 = .ok (.iload 5, 2) := by decide +kernel
theorem dX3_room_77 : decode cX3_room 77 = .ok (.iload 4, 2) := by decide +kernel
theorem dX3_room_79 : decode cX3_room 79 = .ok (.iastore, 1) := by decide +kernel
theorem dX3_room_80 : decode cX3_room 80 = .ok (.aload_n 0, 1) := by decide +kernel
theorem dX3_room_81 : decode cX3_room 81 = .ok (.getfield 63, 3) := by decide +kernel
theorem dX3_room_84 : decode cX3_room 84 = .ok (.iload 5, 2) := by decide +kernel
theorem dX3_room_86 : decode cX3_room 86 = .ok (.iconst 1, 1) := by decide +kernel
theorem dX3_room_87 : decode cX3_room 87 = .ok (.bastore, 1) := by decide +kernel
theorem dX3_room_88 : decode cX3_room 88 = .ok (.aload_n 0, 1) := by decide +kernel
theorem dX3_room_89 : decode cX3_room 89 = .ok (.getfield 51, 3) := by decide +kernel
theorem dX3_room_92 : decode cX3_room 92 = .ok (.iload_n 1, 1) := by decide +kernel
theorem dX3_room_93 : decode cX3_room 93 = .ok (.dup2, 1) := by decide +kernel
theorem dX3_room_94 : decode cX3_room 94 = .ok (.iaload, 1) := by decide +kernel
theorem dX3_room_95 : decode cX3_room 95 = .ok (.iconst 1, 1) := by decide +kernel
theorem dX3_room_96 : decode cX3_room 96 = .ok (.iadd, 1) := by decide +kernel
theorem dX3_room_97 : decode cX3_room 97 = .ok (.iastore, 1) := by decide +kernel
theorem dX3_room_98 : decode cX3_room 98 = .ok (.aload_n 0, 1) := by decide +kernel
theorem dX3_room_99 : decode cX3_room 99 = .ok (.getfield 51, 3) := by decide +kernel
theorem dX3_room_102 : decode cX3_room 102 = .ok (.iload_n 1, 1) := by decide +kernel
theorem dX3_room_103 : decode cX3_room 103 = .ok (.iaload, 1) := by decide +kernel
theorem dX3_room_104 : decode cX3_room 104 = .ok (.iconst 1, 1) := by decide +kernel
theorem dX3_room_105 : decode cX3_room 105 = .ok (.isub, 1) := by decide +kernel
theorem dX3_room_106 : decode cX3_room 106 = .ok (.ireturn, 1) := by decide +kernel
abbrev cX3_isOpen : ByteArray := prog_17_method_7_code
def yX3_isOpen : MethodName := ⟨RX3, "isOpen", "(I)Z"⟩
theorem dX3_isOpen_0 : decode cX3_isOpen 0 = .ok (.aload_n 0, 1) := by decide +kernel
theorem dX3_isOpen_1 : decode cX3_isOpen 1 = .ok (.iload_n 1, 1) := by decide +kernel
theorem dX3_isOpen_2 : decode cX3_isOpen 2 = .ok (.invokevirtual 170, 3) := by decide +kernel
theorem dX3_isOpen_5 : decode cX3_isOpen 5 = .ok (.ifCond .eq 15, 3) := by decide +kernel
theorem dX3_isOpen_8 : decode cX3_isOpen 8 = .ok (.aload_n 0, 1) := by decide +kernel
theorem dX3_isOpen_9 : decode cX3_isOpen 9 = .ok (.iload_n 1, 1) := by decide +kernel
theorem dX3_isOpen_10 : decode cX3_isOpen 10 = .ok (.invokevirtual 174, 3) := by decide +kernel
theorem dX3_isOpen_13 : decode cX3_isOpen 13 = .ok (.ifCond .ne 7, 3) := by decide +kernel
theorem dX3_isOpen_16 : decode cX3_isOpen 16 = .ok (.iconst 1, 1) := by decide +kernel
theorem dX3_isOpen_17 : decode cX3_isOpen 17 = .ok (.goto 4, 3) := by decide +kernel
theorem dX3_isOpen_20 : decode cX3_isOpen 20 = .ok (.iconst 0, 1) := by decide +kernel
theorem dX3_isOpen_21 : decode cX3_isOpen 21 = .ok (.ireturn, 1) := by decide +kernel
abbrev cX3_isTown : ByteArray := prog_17_method_5_code
def yX3_isTown : MethodName := ⟨RX3, "isTown", "(I)Z"⟩
theorem dX3_isTown_0 : decode cX3_isTown 0 = .ok (.iload_n 1, 1) := by decide +kernel
theorem dX3_isTown_1 : decode cX3_isTown 1 = .ok (.iconst 0, 1) := by decide +kernel
theorem dX3_isTown_2 : decode cX3_isTown 2 = .ok (.aload_n 0, 1) := by decide +kernel
theorem dX3_isTown_3 : decode cX3_isTown 3 = .ok (.getfield 164, 3) := by decide +kernel
theorem dX3_isTown_6 : decode cX3_isTown 6 = .ok (.iconst 1, 1) := by decide +kernel
theorem dX3_isTown_7 : decode cX3_isTown 7 = .ok (.isub, 1) := by decide +kernel
theorem dX3_isTown_8 : decode cX3_isTown 8 = .ok (.invokestatic 160, 3) := by decide +kernel
theorem dX3_isTown_11 : decode cX3_isTown 11 = .ok (.ireturn, 1) := by decide +kernel
abbrev cX3_put : ByteArray := prog_17_method_26_code
def yX3_put : MethodName := ⟨RX3, "put", "(III)Z"⟩
theorem dX3_put_0 : decode cX3_put 0 = .ok (.aload_n 0, 1) := by decide +kernel
theorem dX3_put_1 : decode cX3_put 1 = .ok (.iload_n 1, 1) := by decide +kernel
theorem dX3_put_2 : decode cX3_put 2 = .ok (.invokevirtual 198, 3) := by decide +kernel
theorem dX3_put_5 : decode cX3_put 5 = .ok (.ifCond .eq 34, 3) := by decide +kernel
theorem dX3_put_8 : decode cX3_put 8 = .ok (.aload_n 0, 1) := by decide +kernel
theorem dX3_put_9 : decode cX3_put 9 = .ok (.iload_n 2, 1) := by decide +kernel
theorem dX3_put_10 : decode cX3_put 10 = .ok (.invokevirtual 177, 3) := by decide +kernel
theorem dX3_put_13 : decode cX3_put 13 = .ok (.ifCond .eq 26, 3) := by decide +kernel
theorem dX3_put_16 : decode cX3_put 16 = .ok (.aload_n 0, 1) := by decide +kernel
theorem dX3_put_17 : decode cX3_put 17 = .ok (.iload_n 2, 1) := by decide +kernel
theorem dX3_put_18 : decode cX3_put 18 = .ok (.iload_n 1, 1) := by decide +kernel
theorem dX3_put_19 : decode cX3_put 19 = .ok (.invokevirtual 205, 3) := by decide +kernel
theorem dX3_put_22 : decode cX3_put 22 = .ok (.ifCond .eq 17, 3) := by decide +kernel
theorem dX3_put_25 : decode cX3_put 25 = .ok (.iload_n 3, 1) := by decide +kernel
theorem dX3_put_26 : decode cX3_put 26 = .ok (.iconst (-1), 1) := by decide +kernel
theorem dX3_put_27 : decode cX3_put 27 = .ok (.if_icmp .eq 14, 3) := by decide +kernel
theorem dX3_put_30 : decode cX3_put 30 = .ok (.aload_n 0, 1) := by decide +kernel
theorem dX3_put_31 : decode cX3_put 31 = .ok (.iload_n 1, 1) := by decide +kernel
theorem dX3_put_32 : decode cX3_put 32 = .ok (.iload_n 3, 1) := by decide +kernel
theorem dX3_put_33 : decode cX3_put 33 = .ok (.invokevirtual 208, 3) := by decide +kernel
theorem dX3_put_36 : decode cX3_put 36 = .ok (.ifCond .ne 5, 3) := by decide +kernel
theorem dX3_put_39 : decode cX3_put 39 = .ok (.iconst 0, 1) := by decide +kernel
theorem dX3_put_40 : decode cX3_put 40 = .ok (.ireturn, 1) := by decide +kernel
theorem dX3_put_41 : decode cX3_put 41 = .ok (.iconst 1, 1) := by decide +kernel
theorem dX3_put_42 : decode cX3_put 42 = .ok (.iload_n 2, 1) := by decide +kernel
theorem dX3_put_43 : decode cX3_put 43 = .ok (.ishl, 1) := by decide +kernel
theorem dX3_put_44 : decode cX3_put 44 = .ok (.istore 4, 2) := by decide +kernel
theorem dX3_put_46 : decode cX3_put 46 = .ok (.iload_n 3, 1) := by decide +kernel
theorem dX3_put_47 : decode cX3_put 47 = .ok (.iconst (-1), 1) := by decide +kernel
theorem dX3_put_48 : decode cX3_put 48 = .ok (.if_icmp .eq 118, 3) := by decide +kernel
theorem dX3_put_51 : decode cX3_put 51 = .ok (.aload_n 0, 1) := by decide +kernel
theorem dX3_put_52 : decode cX3_put 52 = .ok (.iload_n 1, 1) := by decide +kernel
theorem dX3_put_53 : decode cX3_put 53 = .ok (.iload_n 3, 1) := by decide +kernel
theorem dX3_put_54 : decode cX3_put 54 = .ok (.invokevirtual 211, 3) := by decide +kernel
theorem dX3_put_57 : decode cX3_put 57 = .ok (.iload 4, 2) := by decide +kernel
theorem dX3_put_59 : decode cX3_put 59 = .ok (.iconst (-1), 1) := by decide +kernel
theorem dX3_put_60 : decode cX3_put 60 = .ok (.ixor, 1) := by decide +kernel
theorem dX3_put_61 : decode cX3_put 61 = .ok (.iand, 1) := by decide +kernel
theorem dX3_put_62 : decode cX3_put 62 = .ok (.istore 5, 2) := by decide +kernel
theorem dX3_put_64 : decode cX3_put 64 = .ok (.bipush 10, 2) := by decide +kernel
theorem dX3_put_66 : decode cX3_put 66 = .ok (.iload_n 1, 1) := by decide +kernel
theorem dX3_put_67 : decode cX3_put 67 = .ok (.imul, 1) := by decide +kernel
theorem dX3_put_68 : decode cX3_put 68 = .ok (.iload_n 3, 1) := by decide +kernel
theorem dX3_put_69 : decode cX3_put 69 = .ok (.iadd, 1) := by decide +kernel
theorem dX3_put_70 : decode cX3_put 70 = .ok (.istore 6, 2) := by decide +kernel
theorem dX3_put_72 : decode cX3_put 72 = .ok (.aload_n 0, 1) := by decide +kernel
theorem dX3_put_73 : decode cX3_put 73 = .ok (.getfield 63, 3) := by decide +kernel
theorem dX3_put_76 : decode cX3_put 76 = .ok (.iload 6, 2) := by decide +kernel
theorem dX3_put_78 : decode cX3_put 78 = .ok (.baload, 1) := by decide +kernel
theorem dX3_put_79 : decode cX3_put 79 = .ok (.ifCond .eq 22, 3) := by decide +kernel
theorem dX3_put_82 : decode cX3_put 82 = .ok (.aload_n 0, 1) := by decide +kernel
theorem dX3_put_83 : decode cX3_put 83 = .ok (.getfield 21, 3) := by decide +kernel
theorem dX3_put_86 : decode cX3_put 86 = .ok (.iload_n 2, 1) := by decide +kernel
theorem dX3_put_87 : decode cX3_put 87 = .ok (.baload, 1) := by decide +kernel
theorem dX3_put_88 : decode cX3_put 88 = .ok (.ifCond .eq 15, 3) := by decide +kernel
theorem dX3_put_91 : decode cX3_put 91 = .ok (.aload_n 0, 1) := by decide +kernel
theorem dX3_put_92 : decode cX3_put 92 = .ok (.getfield 57, 3) := by decide +kernel
theorem dX3_put_95 : decode cX3_put 95 = .ok (.iload 6, 2) := by decide +kernel
theorem dX3_put_97 : decode cX3_put 97 = .ok (.baload, 1) := by decide +kernel
theorem dX3_put_98 : decode cX3_put 98 = .ok (.ifCond .ne 5, 3) := by decide +kernel
theorem dX3_put_101 : decode cX3_put 101 = .ok (.iconst 0, 1) := by decide +kernel
theorem dX3_put_102 : decode cX3_put 102 = .ok (.ireturn, 1) := by decide +kernel
theorem dX3_put_103 : decode cX3_put 103 = .ok (.iconst 0, 1) := by decide +kernel
theorem dX3_put_104 : decode cX3_put 104 = .ok (.istore 7, 2) := by decide +kernel
theorem dX3_put_106 : decode cX3_put 106 = .ok (.iconst 0, 1) := by decide +kernel
theorem dX3_put_107 : decode cX3_put 107 = .ok (.istore 8, 2) := by decide +kernel
theorem dX3_put_109 : decode cX3_put 109 = .ok (.iload 8, 2) := by decide +kernel
theorem dX3_put_111 : decode cX3_put 111 = .ok (.aload_n 0, 1) := by decide +kernel
theorem dX3_put_112 : decode cX3_put 112 = .ok (.getfield 157, 3) := by decide +kernel
theorem dX3_put_115 : decode cX3_put 115 = .ok (.if_icmp .ge 37, 3) := by decide +kernel
theorem dX3_put_118 : decode cX3_put 118 = .ok (.iload 5, 2) := by decide +kernel
theorem dX3_put_120 : decode cX3_put 120 = .ok (.iload 8, 2) := by decide +kernel
theorem dX3_put_122 : decode cX3_put 122 = .ok (.ishr, 1) := by decide +kernel
theorem dX3_put_123 : decode cX3_put 123 = .ok (.iconst 1, 1) := by decide +kernel
theorem dX3_put_124 : decode cX3_put 124 = .ok (.iand, 1) := by decide +kernel
theorem dX3_put_125 : decode cX3_put 125 = .ok (.ifCond .ne 6, 3) := by decide +kernel
theorem dX3_put_128 : decode cX3_put 128 = .ok (.goto 18, 3) := by decide +kernel
theorem dX3_put_131 : decode cX3_put 131 = .ok (.iinc 7 1, 3) := by decide +kernel
theorem dX3_put_134 : decode cX3_put 134 = .ok (.aload_n 0, 1) := by decide +kernel
theorem dX3_put_135 : decode cX3_put 135 = .ok (.iload 8, 2) := by decide +kernel
theorem dX3_put_137 : decode cX3_put 137 = .ok (.iload_n 2, 1) := by decide +kernel
theorem dX3_put_138 : decode cX3_put 138 = .ok (.invokevirtual 201, 3) := by decide +kernel
theorem dX3_put_141 : decode cX3_put 141 = .ok (.ifCond .ne 5, 3) := by decide +kernel
theorem dX3_put_144 : decode cX3_put 144 = .ok (.iconst 0, 1) := by decide +kernel
theorem dX3_put_145 : decode cX3_put 145 = .ok (.ireturn, 1) := by decide +kernel
theorem dX3_put_146 : decode cX3_put 146 = .ok (.iinc 8 1, 3) := by decide +kernel
theorem dX3_put_149 : decode cX3_put 149 = .ok (.goto (-40), 3) := by decide +kernel
theorem dX3_put_152 : decode cX3_put 152 = .ok (.iload 7, 2) := by decide +kernel
theorem dX3_put_154 : decode cX3_put 154 = .ok (.aload_n 0, 1) := by decide +kernel
theorem dX3_put_155 : decode cX3_put 155 = .ok (.getfield 54, 3) := by decide +kernel
theorem dX3_put_158 : decode cX3_put 158 = .ok (.iload 6, 2) := by decide +kernel
theorem dX3_put_160 : decode cX3_put 160 = .ok (.iaload, 1) := by decide +kernel
theorem dX3_put_161 : decode cX3_put 161 = .ok (.if_icmp .lt 5, 3) := by decide +kernel
theorem dX3_put_164 : decode cX3_put 164 = .ok (.iconst 0, 1) := by decide +kernel
theorem dX3_put_165 : decode cX3_put 165 = .ok (.ireturn, 1) := by decide +kernel
theorem dX3_put_166 : decode cX3_put 166 = .ok (.aload_n 0, 1) := by decide +kernel
theorem dX3_put_167 : decode cX3_put 167 = .ok (.getfield 66, 3) := by decide +kernel
theorem dX3_put_170 : decode cX3_put 170 = .ok (.bipush 10, 2) := by decide +kernel
theorem dX3_put_172 : decode cX3_put 172 = .ok (.iload_n 1, 1) := by decide +kernel
theorem dX3_put_173 : decode cX3_put 173 = .ok (.imul, 1) := by decide +kernel
theorem dX3_put_174 : decode cX3_put 174 = .ok (.iload_n 2, 1) := by decide +kernel
theorem dX3_put_175 : decode cX3_put 175 = .ok (.iadd, 1) := by decide +kernel
theorem dX3_put_176 : decode cX3_put 176 = .ok (.iaload, 1) := by decide +kernel
theorem dX3_put_177 : decode cX3_put 177 = .ok (.iload_n 3, 1) := by decide +kernel
theorem dX3_put_178 : decode cX3_put 178 = .ok (.if_icmp .eq 15, 3) := by decide +kernel
theorem dX3_put_181 : decode cX3_put 181 = .ok (.aload_n 0, 1) := by decide +kernel
theorem dX3_put_182 : decode cX3_put 182 = .ok (.getfield 180, 3) := by decide +kernel
theorem dX3_put_185 : decode cX3_put 185 = .ok (.sipush 500, 3) := by decide +kernel
theorem dX3_put_188 : decode cX3_put 188 = .ok (.if_icmp .ne 5, 3) := by decide +kernel
theorem dX3_put_191 : decode cX3_put 191 = .ok (.iconst 0, 1) := by decide +kernel
theorem dX3_put_192 : decode cX3_put 192 = .ok (.ireturn, 1) := by decide +kernel
theorem dX3_put_193 : decode cX3_put 193 = .ok (.aload_n 0, 1) := by decide +kernel
theorem dX3_put_194 : decode cX3_put 194 = .ok (.iload_n 1, 1) := by decide +kernel
theorem dX3_put_195 : decode cX3_put 195 = .ok (.iload_n 2, 1) := by decide +kernel
theorem dX3_put_196 : decode cX3_put 196 = .ok (.iload_n 3, 1) := by decide +kernel
theorem dX3_put_197 : decode cX3_put 197 = .ok (.invokevirtual 186, 3) := by decide +kernel
theorem dX3_put_200 : decode cX3_put 200 = .ok (.iconst 1, 1) := by decide +kernel
theorem dX3_put_201 : decode cX3_put 201 = .ok (.ireturn, 1) := by decide +kernel
abbrev cX3_isThere : ByteArray := prog_17_method_8_code
def yX3_isThere : MethodName := ⟨RX3, "isThere", "(II)Z"⟩
theorem dX3_isThere_0 : decode cX3_isThere 0 = .ok (.aload_n 0, 1) := by decide +kernel
theorem dX3_isThere_1 : decode cX3_isThere 1 = .ok (.getfield 33, 3) := by decide +kernel
theorem dX3_isThere_4 : decode cX3_isThere 4 = .ok (.iload_n 1, 1) := by decide +kernel
theorem dX3_isThere_5 : decode cX3_isThere 5 = .ok (.baload, 1) := by decide +kernel
theorem dX3_isThere_6 : decode cX3_isThere 6 = .ok (.ifCond .ne 27, 3) := by decide +kernel
theorem dX3_isThere_9 : decode cX3_isThere 9 = .ok (.aload_n 0, 1) := by decide +kernel
theorem dX3_isThere_10 : decode cX3_isThere 10 = .ok (.getfield 27, 3) := by decide +kernel
theorem dX3_isThere_13 : decode cX3_isThere 13 = .ok (.iload_n 1, 1) := by decide +kernel
theorem dX3_isThere_14 : decode cX3_isThere 14 = .ok (.iaload, 1) := by decide +kernel
theorem dX3_isThere_15 : decode cX3_isThere 15 = .ok (.iload_n 2, 1) := by decide +kernel
theorem dX3_isThere_16 : decode cX3_isThere 16 = .ok (.if_icmp .gt 17, 3) := by decide +kernel
theorem dX3_isThere_19 : decode cX3_isThere 19 = .ok (.aload_n 0, 1) := by decide +kernel
theorem dX3_isThere_20 : decode cX3_isThere 20 = .ok (.getfield 30, 3) := by decide +kernel
theorem dX3_isThere_23 : decode cX3_isThere 23 = .ok (.iload_n 1, 1) := by decide +kernel
theorem dX3_isThere_24 : decode cX3_isThere 24 = .ok (.iaload, 1) := by decide +kernel
theorem dX3_isThere_25 : decode cX3_isThere 25 = .ok (.iload_n 2, 1) := by decide +kernel
theorem dX3_isThere_26 : decode cX3_isThere 26 = .ok (.if_icmp .lt 7, 3) := by decide +kernel
theorem dX3_isThere_29 : decode cX3_isThere 29 = .ok (.iconst 1, 1) := by decide +kernel
theorem dX3_isThere_30 : decode cX3_isThere 30 = .ok (.goto 4, 3) := by decide +kernel
theorem dX3_isThere_33 : decode cX3_isThere 33 = .ok (.iconst 0, 1) := by decide +kernel
theorem dX3_isThere_34 : decode cX3_isThere 34 = .ok (.ireturn, 1) := by decide +kernel
abbrev cX3_isRoom : ByteArray := prog_17_method_9_code
def yX3_isRoom : MethodName := ⟨RX3, "isRoom", "(II)Z"⟩
theorem dX3_isRoom_0 : decode cX3_isRoom 0 = .ok (.iload_n 2, 1) := by decide +kernel
theorem dX3_isRoom_1 : decode cX3_isRoom 1 = .ok (.iconst 0, 1) := by decide +kernel
theorem dX3_isRoom_2 : decode cX3_isRoom 2 = .ok (.aload_n 0, 1) := by decide +kernel
theorem dX3_isRoom_3 : decode cX3_isRoom 3 = .ok (.getfield 51, 3) := by decide +kernel
theorem dX3_isRoom_6 : decode cX3_isRoom 6 = .ok (.iload_n 1, 1) := by decide +kernel
theorem dX3_isRoom_7 : decode cX3_isRoom 7 = .ok (.iaload, 1) := by decide +kernel
theorem dX3_isRoom_8 : decode cX3_isRoom 8 = .ok (.iconst 1, 1) := by decide +kernel
theorem dX3_isRoom_9 : decode cX3_isRoom 9 = .ok (.isub, 1) := by decide +kernel
theorem dX3_isRoom_10 : decode cX3_isRoom 10 = .ok (.invokestatic 160, 3) := by decide +kernel
theorem dX3_isRoom_13 : decode cX3_isRoom 13 = .ok (.ireturn, 1) := by decide +kernel
abbrev cX3_setIn : ByteArray := prog_17_method_24_code
def yX3_setIn : MethodName := ⟨RX3, "setIn", "(II)I"⟩
theorem dX3_setIn_0 : decode cX3_setIn 0 = .ok (.iconst 0, 1) := by decide +kernel
theorem dX3_setIn_1 : decode cX3_setIn 1 = .ok (.istore_n 3, 1) := by decide +kernel
theorem dX3_setIn_2 : decode cX3_setIn 2 = .ok (.iconst 0, 1) := by decide +kernel
theorem dX3_setIn_3 : decode cX3_setIn 3 = .ok (.istore 4, 2) := by decide +kernel
theorem dX3_setIn_5 : decode cX3_setIn 5 = .ok (.iload 4, 2) := by decide +kernel
theorem dX3_setIn_7 : decode cX3_setIn 7 = .ok (.aload_n 0, 1) := by decide +kernel
theorem dX3_setIn_8 : decode cX3_setIn 8 = .ok (.getfield 157, 3) := by decide +kernel
theorem dX3_setIn_11 : decode cX3_setIn 11 = .ok (.if_icmp .ge 36, 3) := by decide +kernel
theorem dX3_setIn_14 : decode cX3_setIn 14 = .ok (.iload_n 3, 1) := by decide +kernel
theorem dX3_setIn_15 : decode cX3_setIn 15 = .ok (.aload_n 0, 1) := by decide +kernel
theorem dX3_setIn_16 : decode cX3_setIn 16 = .ok (.getfield 66, 3) := by decide +kernel
theorem dX3_setIn_19 : decode cX3_setIn 19 = .ok (.bipush 10, 2) := by decide +kernel
theorem dX3_setIn_21 : decode cX3_setIn 21 = .ok (.iload_n 1, 1) := by decide +kernel
theorem dX3_setIn_22 : decode cX3_setIn 22 = .ok (.imul, 1) := by decide +kernel
theorem dX3_setIn_23 : decode cX3_setIn 23 = .ok (.iload 4, 2) := by decide +kernel
theorem dX3_setIn_25 : decode cX3_setIn 25 = .ok (.iadd, 1) := by decide +kernel
theorem dX3_setIn_26 : decode cX3_setIn 26 = .ok (.iaload, 1) := by decide +kernel
theorem dX3_setIn_27 : decode cX3_setIn 27 = .ok (.iload_n 2, 1) := by decide +kernel
theorem dX3_setIn_28 : decode cX3_setIn 28 = .ok (.if_icmp .ne 10, 3) := by decide +kernel
theorem dX3_setIn_31 : decode cX3_setIn 31 = .ok (.iconst 1, 1) := by decide +kernel
theorem dX3_setIn_32 : decode cX3_setIn 32 = .ok (.iload 4, 2) := by decide +kernel
theorem dX3_setIn_34 : decode cX3_setIn 34 = .ok (.ishl, 1) := by decide +kernel
theorem dX3_setIn_35 : decode cX3_setIn 35 = .ok (.goto 4, 3) := by decide +kernel
theorem dX3_setIn_38 : decode cX3_setIn 38 = .ok (.iconst 0, 1) := by decide +kernel
theorem dX3_setIn_39 : decode cX3_setIn 39 = .ok (.ior, 1) := by decide +kernel
theorem dX3_setIn_40 : decode cX3_setIn 40 = .ok (.istore_n 3, 1) := by decide +kernel
theorem dX3_setIn_41 : decode cX3_setIn 41 = .ok (.iinc 4 1, 3) := by decide +kernel
theorem dX3_setIn_44 : decode cX3_setIn 44 = .ok (.goto (-39), 3) := by decide +kernel
theorem dX3_setIn_47 : decode cX3_setIn 47 = .ok (.iload_n 3, 1) := by decide +kernel
theorem dX3_setIn_48 : decode cX3_setIn 48 = .ok (.ireturn, 1) := by decide +kernel
abbrev cX3_mayShare : ByteArray := prog_17_method_10_code
def yX3_mayShare : MethodName := ⟨RX3, "mayShare", "(II)Z"⟩
theorem dX3_mayShare_0 : decode cX3_mayShare 0 = .ok (.aload_n 0, 1) := by decide +kernel
theorem dX3_mayShare_1 : decode cX3_mayShare 1 = .ok (.getfield 36, 3) := by decide +kernel
theorem dX3_mayShare_4 : decode cX3_mayShare 4 = .ok (.iload_n 1, 1) := by decide +kernel
theorem dX3_mayShare_5 : decode cX3_mayShare 5 = .ok (.iaload, 1) := by decide +kernel
theorem dX3_mayShare_6 : decode cX3_mayShare 6 = .ok (.iload_n 2, 1) := by decide +kernel
theorem dX3_mayShare_7 : decode cX3_mayShare 7 = .ok (.if_icmp .ne 5, 3) := by decide +kernel
theorem dX3_mayShare_10 : decode cX3_mayShare 10 = .ok (.iconst 1, 1) := by decide +kernel
theorem dX3_mayShare_11 : decode cX3_mayShare 11 = .ok (.ireturn, 1) := by decide +kernel
theorem dX3_mayShare_12 : decode cX3_mayShare 12 = .ok (.aload_n 0, 1) := by decide +kernel
theorem dX3_mayShare_13 : decode cX3_mayShare 13 = .ok (.getfield 13, 3) := by decide +kernel
theorem dX3_mayShare_16 : decode cX3_mayShare 16 = .ok (.iload_n 1, 1) := by decide +kernel
theorem dX3_mayShare_17 : decode cX3_mayShare 17 = .ok (.baload, 1) := by decide +kernel
theorem dX3_mayShare_18 : decode cX3_mayShare 18 = .ok (.ifCond .eq 65, 3) := by decide +kernel
theorem dX3_mayShare_21 : decode cX3_mayShare 21 = .ok (.aload_n 0, 1) := by decide +kernel
theorem dX3_mayShare_22 : decode cX3_mayShare 22 = .ok (.getfield 13, 3) := by decide +kernel
theorem dX3_mayShare_25 : decode cX3_mayShare 25 = .ok (.iload_n 2, 1) := by decide +kernel
theorem dX3_mayShare_26 : decode cX3_mayShare 26 = .ok (.baload, 1) := by decide +kernel
theorem dX3_mayShare_27 : decode cX3_mayShare 27 = .ok (.ifCond .eq 56, 3) := by decide +kernel
theorem dX3_mayShare_30 : decode cX3_mayShare 30 = .ok (.aload_n 0, 1) := by decide +kernel
theorem dX3_mayShare_31 : decode cX3_mayShare 31 = .ok (.getfield 17, 3) := by decide +kernel
theorem dX3_mayShare_34 : decode cX3_mayShare 34 = .ok (.iload_n 1, 1) := by decide +kernel
theorem dX3_mayShare_35 : decode cX3_mayShare 35 = .ok (.iaload, 1) := by decide +kernel
theorem dX3_mayShare_36 : decode cX3_mayShare 36 = .ok (.aload_n 0, 1) := by decide +kernel
theorem dX3_mayShare_37 : decode cX3_mayShare 37 = .ok (.getfield 17, 3) := by decide +kernel
theorem dX3_mayShare_40 : decode cX3_mayShare 40 = .ok (.iload_n 2, 1) := by decide +kernel
theorem dX3_mayShare_41 : decode cX3_mayShare 41 = .ok (.iaload, 1) := by decide +kernel
theorem dX3_mayShare_42 : decode cX3_mayShare 42 = .ok (.if_icmp .ne 41, 3) := by decide +kernel
theorem dX3_mayShare_45 : decode cX3_mayShare 45 = .ok (.aload_n 0, 1) := by decide +kernel
theorem dX3_mayShare_46 : decode cX3_mayShare 46 = .ok (.getfield 36, 3) := by decide +kernel
theorem dX3_mayShare_49 : decode cX3_mayShare 49 = .ok (.iload_n 1, 1) := by decide +kernel
theorem dX3_mayShare_50 : decode cX3_mayShare 50 = .ok (.iaload, 1) := by decide +kernel
theorem dX3_mayShare_51 : decode cX3_mayShare 51 = .ok (.iconst (-1), 1) := by decide +kernel
theorem dX3_mayShare_52 : decode cX3_mayShare 52 = .ok (.if_icmp .ne 31, 3) := by decide +kernel
theorem dX3_mayShare_55 : decode cX3_mayShare 55 = .ok (.aload_n 0, 1) := by decide +kernel
theorem dX3_mayShare_56 : decode cX3_mayShare 56 = .ok (.getfield 36, 3) := by decide +kernel
theorem dX3_mayShare_59 : decode cX3_mayShare 59 = .ok (.iload_n 2, 1) := by decide +kernel
theorem dX3_mayShare_60 : decode cX3_mayShare 60 = .ok (.iaload, 1) := by decide +kernel
theorem dX3_mayShare_61 : decode cX3_mayShare 61 = .ok (.iconst (-1), 1) := by decide +kernel
theorem dX3_mayShare_62 : decode cX3_mayShare 62 = .ok (.if_icmp .ne 21, 3) := by decide +kernel
theorem dX3_mayShare_65 : decode cX3_mayShare 65 = .ok (.aload_n 0, 1) := by decide +kernel
theorem dX3_mayShare_66 : decode cX3_mayShare 66 = .ok (.getfield 39, 3) := by decide +kernel
theorem dX3_mayShare_69 : decode cX3_mayShare 69 = .ok (.bipush 10, 2) := by decide +kernel
theorem dX3_mayShare_71 : decode cX3_mayShare 71 = .ok (.iload_n 1, 1) := by decide +kernel
theorem dX3_mayShare_72 : decode cX3_mayShare 72 = .ok (.imul, 1) := by decide +kernel
theorem dX3_mayShare_73 : decode cX3_mayShare 73 = .ok (.iload_n 2, 1) := by decide +kernel
theorem dX3_mayShare_74 : decode cX3_mayShare 74 = .ok (.iadd, 1) := by decide +kernel
theorem dX3_mayShare_75 : decode cX3_mayShare 75 = .ok (.baload, 1) := by decide +kernel
theorem dX3_mayShare_76 : decode cX3_mayShare 76 = .ok (.ifCond .ne 7, 3) := by decide +kernel
theorem dX3_mayShare_79 : decode cX3_mayShare 79 = .ok (.iconst 1, 1) := by decide +kernel
theorem dX3_mayShare_80 : decode cX3_mayShare 80 = .ok (.goto 4, 3) := by decide +kernel
theorem dX3_mayShare_83 : decode cX3_mayShare 83 = .ok (.iconst 0, 1) := by decide +kernel
theorem dX3_mayShare_84 : decode cX3_mayShare 84 = .ok (.ireturn, 1) := by decide +kernel
abbrev cX3_settle : ByteArray := prog_17_method_31_code
def yX3_settle : MethodName := ⟨RX3, "settle", "(II)I"⟩
theorem dX3_settle_0 : decode cX3_settle 0 = .ok (.aload_n 0, 1) := by decide +kernel
theorem dX3_settle_1 : decode cX3_settle 1 = .ok (.iload_n 1, 1) := by decide +kernel
theorem dX3_settle_2 : decode cX3_settle 2 = .ok (.invokevirtual 198, 3) := by decide +kernel
theorem dX3_settle_5 : decode cX3_settle 5 = .ok (.ifCond .eq 12, 3) := by decide +kernel
theorem dX3_settle_8 : decode cX3_settle 8 = .ok (.iload_n 2, 1) := by decide +kernel
theorem dX3_settle_9 : decode cX3_settle 9 = .ok (.iconst 0, 1) := by decide +kernel
theorem dX3_settle_10 : decode cX3_settle 10 = .ok (.iconst 1, 1) := by decide +kernel
theorem dX3_settle_11 : decode cX3_settle 11 = .ok (.invokestatic 160, 3) := by decide +kernel
theorem dX3_settle_14 : decode cX3_settle 14 = .ok (.ifCond .ne 5, 3) := by decide +kernel
theorem dX3_settle_17 : decode cX3_settle 17 = .ok (.iconst (-1), 1) := by decide +kernel
theorem dX3_settle_18 : decode cX3_settle 18 = .ok (.ireturn, 1) := by decide +kernel
theorem dX3_settle_19 : decode cX3_settle 19 = .ok (.aload_n 0, 1) := by decide +kernel
theorem dX3_settle_20 : decode cX3_settle 20 = .ok (.iload_n 1, 1) := by decide +kernel
theorem dX3_settle_21 : decode cX3_settle 21 = .ok (.invokevirtual 227, 3) := by decide +kernel
theorem dX3_settle_24 : decode cX3_settle 24 = .ok (.aload_n 0, 1) := by decide +kernel
theorem dX3_settle_25 : decode cX3_settle 25 = .ok (.iload_n 1, 1) := by decide +kernel
theorem dX3_settle_26 : decode cX3_settle 26 = .ok (.invokevirtual 215, 3) := by decide +kernel
theorem dX3_settle_29 : decode cX3_settle 29 = .ok (.istore_n 3, 1) := by decide +kernel
theorem dX3_settle_30 : decode cX3_settle 30 = .ok (.aload_n 0, 1) := by decide +kernel
theorem dX3_settle_31 : decode cX3_settle 31 = .ok (.getfield 51, 3) := by decide +kernel
theorem dX3_settle_34 : decode cX3_settle 34 = .ok (.iload_n 1, 1) := by decide +kernel
theorem dX3_settle_35 : decode cX3_settle 35 = .ok (.iaload, 1) := by decide +kernel
theorem dX3_settle_36 : decode cX3_settle 36 = .ok (.istore 4, 2) := by decide +kernel
theorem dX3_settle_38 : decode cX3_settle 38 = .ok (.iconst 0, 1) := by decide +kernel
theorem dX3_settle_39 : decode cX3_settle 39 = .ok (.istore 5, 2) := by decide +kernel
theorem dX3_settle_41 : decode cX3_settle 41 = .ok (.iload 5, 2) := by decide +kernel
theorem dX3_settle_43 : decode cX3_settle 43 = .ok (.sipush 1024, 3) := by decide +kernel
theorem dX3_settle_46 : decode cX3_settle 46 = .ok (.if_icmp .ge 34, 3) := by decide +kernel
theorem dX3_settle_49 : decode cX3_settle 49 = .ok (.aload_n 0, 1) := by decide +kernel
theorem dX3_settle_50 : decode cX3_settle 50 = .ok (.getfield 96, 3) := by decide +kernel
theorem dX3_settle_53 : decode cX3_settle 53 = .ok (.sipush 1024, 3) := by decide +kernel
theorem dX3_settle_56 : decode cX3_settle 56 = .ok (.iload 4, 2) := by decide +kernel
theorem dX3_settle_58 : decode cX3_settle 58 = .ok (.imul, 1) := by decide +kernel
theorem dX3_settle_59 : decode cX3_settle 59 = .ok (.iload 5, 2) := by decide +kernel
theorem dX3_settle_61 : decode cX3_settle 61 = .ok (.iadd, 1) := by decide +kernel
theorem dX3_settle_62 : decode cX3_settle 62 = .ok (.iload 5, 2) := by decide +kernel
theorem dX3_settle_64 : decode cX3_settle 64 = .ok (.ifCond .ne 7, 3) := by decide +kernel
theorem dX3_settle_67 : decode cX3_settle 67 = .ok (.iconst 0, 1) := by decide +kernel
theorem dX3_settle_68 : decode cX3_settle 68 = .ok (.goto 5, 3) := by decide +kernel
theorem dX3_settle_71 : decode cX3_settle 71 = .ok (.ldc 231, 2) := by decide +kernel
theorem dX3_settle_73 : decode cX3_settle 73 = .ok (.iastore, 1) := by decide +kernel
theorem dX3_settle_74 : decode cX3_settle 74 = .ok (.iinc 5 1, 3) := by decide +kernel
theorem dX3_settle_77 : decode cX3_settle 77 = .ok (.goto (-36), 3) := by decide +kernel
theorem dX3_settle_80 : decode cX3_settle 80 = .ok (.iload 4, 2) := by decide +kernel
theorem dX3_settle_82 : decode cX3_settle 82 = .ok (.iconst 1, 1) := by decide +kernel
theorem dX3_settle_83 : decode cX3_settle 83 = .ok (.isub, 1) := by decide +kernel
theorem dX3_settle_84 : decode cX3_settle 84 = .ok (.istore 5, 2) := by decide +kernel
theorem dX3_settle_86 : decode cX3_settle 86 = .ok (.iload 5, 2) := by decide +kernel
theorem dX3_settle_88 : decode cX3_settle 88 = .ok (.ifCond .lt 159, 3) := by decide +kernel
theorem dX3_settle_91 : decode cX3_settle 91 = .ok (.iconst 0, 1) := by decide +kernel
theorem dX3_settle_92 : decode cX3_settle 92 = .ok (.istore 6, 2) := by decide +kernel
theorem dX3_settle_94 : decode cX3_settle 94 = .ok (.iload 6, 2) := by decide +kernel
theorem dX3_settle_96 : decode cX3_settle 96 = .ok (.sipush 1024, 3) := by decide +kernel
theorem dX3_settle_99 : decode cX3_settle 99 = .ok (.if_icmp .ge 142, 3) := by decide +kernel
theorem dX3_settle_102 : decode cX3_settle 102 = .ok (.ldc 231, 2) := by decide +kernel
theorem dX3_settle_104 : decode cX3_settle 104 = .ok (.istore 7, 2) := by decide +kernel
theorem dX3_settle_106 : decode cX3_settle 106 = .ok (.iconst 0, 1) := by decide +kernel
theorem dX3_settle_107 : decode cX3_settle 107 = .ok (.istore 8, 2) := by decide +kernel
theorem dX3_settle_109 : decode cX3_settle 109 = .ok (.iload 8, 2) := by decide +kernel
theorem dX3_settle_111 : decode cX3_settle 111 = .ok (.aload_n 0, 1) := by decide +kernel
theorem dX3_settle_112 : decode cX3_settle 112 = .ok (.getfield 93, 3) := by decide +kernel
theorem dX3_settle_115 : decode cX3_settle 115 = .ok (.iload 5, 2) := by decide +kernel
theorem dX3_settle_117 : decode cX3_settle 117 = .ok (.iaload, 1) := by decide +kernel
theorem dX3_settle_118 : decode cX3_settle 118 = .ok (.if_icmp .ge 101, 3) := by decide +kernel
theorem dX3_settle_121 : decode cX3_settle 121 = .ok (.aload_n 0, 1) := by decide +kernel
theorem dX3_settle_122 : decode cX3_settle 122 = .ok (.getfield 90, 3) := by decide +kernel
theorem dX3_settle_125 : decode cX3_settle 125 = .ok (.bipush 64, 2) := by decide +kernel
theorem dX3_settle_127 : decode cX3_settle 127 = .ok (.iload 5, 2) := by decide +kernel
theorem dX3_settle_129 : decode cX3_settle 129 = .ok (.imul, 1) := by decide +kernel
theorem dX3_settle_130 : decode cX3_settle 130 = .ok (.iload 8, 2) := by decide +kernel
theorem dX3_settle_132 : decode cX3_settle 132 = .ok (.iadd, 1) := by decide +kernel
theorem dX3_settle_133 : decode cX3_settle 133 = .ok (.iaload, 1) := by decide +kernel
theorem dX3_settle_134 : decode cX3_settle 134 = .ok (.istore 9, 2) := by decide +kernel
theorem dX3_settle_136 : decode cX3_settle 136 = .ok (.iload 9, 2) := by decide +kernel
theorem dX3_settle_138 : decode cX3_settle 138 = .ok (.iload 6, 2) := by decide +kernel
theorem dX3_settle_140 : decode cX3_settle 140 = .ok (.iconst (-1), 1) := by decide +kernel
theorem dX3_settle_141 : decode cX3_settle 141 = .ok (.ixor, 1) := by decide +kernel
theorem dX3_settle_142 : decode cX3_settle 142 = .ok (.iand, 1) := by decide +kernel
theorem dX3_settle_143 : decode cX3_settle 143 = .ok (.ifCond .eq 6, 3) := by decide +kernel
theorem dX3_settle_146 : decode cX3_settle 146 = .ok (.goto 67, 3) := by decide +kernel
theorem dX3_settle_149 : decode cX3_settle 149 = .ok (.aload_n 0, 1) := by decide +kernel
theorem dX3_settle_150 : decode cX3_settle 150 = .ok (.getfield 96, 3) := by decide +kernel
theorem dX3_settle_153 : decode cX3_settle 153 = .ok (.sipush 1024, 3) := by decide +kernel
theorem dX3_settle_156 : decode cX3_settle 156 = .ok (.iload 5, 2) := by decide +kernel
theorem dX3_settle_158 : decode cX3_settle 158 = .ok (.iconst 1, 1) := by decide +kernel
theorem dX3_settle_159 : decode cX3_settle 159 = .ok (.iadd, 1) := by decide +kernel
theorem dX3_settle_160 : decode cX3_settle 160 = .ok (.imul, 1) := by decide +kernel
theorem dX3_settle_161 : decode cX3_settle 161 = .ok (.iload 6, 2) := by decide +kernel
theorem dX3_settle_163 : decode cX3_settle 163 = .ok (.iload 9, 2) := by decide +kernel
theorem dX3_settle_165 : decode cX3_settle 165 = .ok (.iconst (-1), 1) := by decide +kernel
theorem dX3_settle_166 : decode cX3_settle 166 = .ok (.ixor, 1) := by decide +kernel
theorem dX3_settle_167 : decode cX3_settle 167 = .ok (.iand, 1) := by decide +kernel
theorem dX3_settle_168 : decode cX3_settle 168 = .ok (.iadd, 1) := by decide +kernel
theorem dX3_settle_169 : decode cX3_settle 169 = .ok (.iaload, 1) := by decide +kernel
theorem dX3_settle_170 : decode cX3_settle 170 = .ok (.istore 10, 2) := by decide +kernel
theorem dX3_settle_172 : decode cX3_settle 172 = .ok (.iload 10, 2) := by decide +kernel
theorem dX3_settle_174 : decode cX3_settle 174 = .ok (.ldc 231, 2) := by decide +kernel
theorem dX3_settle_176 : decode cX3_settle 176 = .ok (.if_icmp .ne 6, 3) := by decide +kernel
theorem dX3_settle_179 : decode cX3_settle 179 = .ok (.goto 34, 3) := by decide +kernel
theorem dX3_settle_182 : decode cX3_settle 182 = .ok (.iload 10, 2) := by decide +kernel
theorem dX3_settle_184 : decode cX3_settle 184 = .ok (.aload_n 0, 1) := by decide +kernel
theorem dX3_settle_185 : decode cX3_settle 185 = .ok (.iload_n 1, 1) := by decide +kernel
theorem dX3_settle_186 : decode cX3_settle 186 = .ok (.iload 5, 2) := by decide +kernel
theorem dX3_settle_188 : decode cX3_settle 188 = .ok (.iload 9, 2) := by decide +kernel
theorem dX3_settle_190 : decode cX3_settle 190 = .ok (.iload_n 2, 1) := by decide +kernel
theorem dX3_settle_191 : decode cX3_settle 191 = .ok (.invokevirtual 232, 3) := by decide +kernel
theorem dX3_settle_194 : decode cX3_settle 194 = .ok (.iadd, 1) := by decide +kernel
theorem dX3_settle_195 : decode cX3_settle 195 = .ok (.istore 11, 2) := by decide +kernel
theorem dX3_settle_197 : decode cX3_settle 197 = .ok (.iload 11, 2) := by decide +kernel
theorem dX3_settle_199 : decode cX3_settle 199 = .ok (.iload 7, 2) := by decide +kernel
theorem dX3_settle_201 : decode cX3_settle 201 = .ok (.if_icmp .ge 8, 3) := by decide +kernel
theorem dX3_settle_204 : decode cX3_settle 204 = .ok (.iload 11, 2) := by decide +kernel
theorem dX3_settle_206 : decode cX3_settle 206 = .ok (.goto 5, 3) := by decide +kernel
theorem dX3_settle_209 : decode cX3_settle 209 = .ok (.iload 7, 2) := by decide +kernel
theorem dX3_settle_211 : decode cX3_settle 211 = .ok (.istore 7, 2) := by decide +kernel
theorem dX3_settle_213 : decode cX3_settle 213 = .ok (.iinc 8 1, 3) := by decide +kernel
theorem dX3_settle_216 : decode cX3_settle 216 = .ok (.goto (-107), 3) := by decide +kernel
theorem dX3_settle_219 : decode cX3_settle 219 = .ok (.aload_n 0, 1) := by decide +kernel
theorem dX3_settle_220 : decode cX3_settle 220 = .ok (.getfield 96, 3) := by decide +kernel
theorem dX3_settle_223 : decode cX3_settle 223 = .ok (.sipush 1024, 3) := by decide +kernel
theorem dX3_settle_226 : decode cX3_settle 226 = .ok (.iload 5, 2) := by decide +kernel
theorem dX3_settle_228 : decode cX3_settle 228 = .ok (.imul, 1) := by decide +kernel
theorem dX3_settle_229 : decode cX3_settle 229 = .ok (.iload 6, 2) := by decide +kernel
theorem dX3_settle_231 : decode cX3_settle 231 = .ok (.iadd, 1) := by decide +kernel
theorem dX3_settle_232 : decode cX3_settle 232 = .ok (.iload 7, 2) := by decide +kernel
theorem dX3_settle_234 : decode cX3_settle 234 = .ok (.iastore, 1) := by decide +kernel
theorem dX3_settle_235 : decode cX3_settle 235 = .ok (.iinc 6 1, 3) := by decide +kernel
theorem dX3_settle_238 : decode cX3_settle 238 = .ok (.goto (-144), 3) := by decide +kernel
theorem dX3_settle_241 : decode cX3_settle 241 = .ok (.iinc 5 (-1), 3) := by decide +kernel
theorem dX3_settle_244 : decode cX3_settle 244 = .ok (.goto (-158), 3) := by decide +kernel
theorem dX3_settle_247 : decode cX3_settle 247 = .ok (.aload_n 0, 1) := by decide +kernel
theorem dX3_settle_248 : decode cX3_settle 248 = .ok (.getfield 96, 3) := by decide +kernel
theorem dX3_settle_251 : decode cX3_settle 251 = .ok (.iload_n 3, 1) := by decide +kernel
theorem dX3_settle_252 : decode cX3_settle 252 = .ok (.iaload, 1) := by decide +kernel
theorem dX3_settle_253 : decode cX3_settle 253 = .ok (.ldc 231, 2) := by decide +kernel
theorem dX3_settle_255 : decode cX3_settle 255 = .ok (.if_icmp .ne 5, 3) := by decide +kernel
theorem dX3_settle_258 : decode cX3_settle 258 = .ok (.iconst (-1), 1) := by decide +kernel
theorem dX3_settle_259 : decode cX3_settle 259 = .ok (.ireturn, 1) := by decide +kernel
theorem dX3_settle_260 : decode cX3_settle 260 = .ok (.aload_n 0, 1) := by decide +kernel
theorem dX3_settle_261 : decode cX3_settle 261 = .ok (.iload_n 1, 1) := by decide +kernel
theorem dX3_settle_262 : decode cX3_settle 262 = .ok (.iload_n 2, 1) := by decide +kernel
theorem dX3_settle_263 : decode cX3_settle 263 = .ok (.iload_n 3, 1) := by decide +kernel
theorem dX3_settle_264 : decode cX3_settle 264 = .ok (.invokevirtual 236, 3) := by decide +kernel
theorem dX3_settle_267 : decode cX3_settle 267 = .ok (.ireturn, 1) := by decide +kernel
abbrev cX3_findSets : ByteArray := prog_17_method_28_code
def yX3_findSets : MethodName := ⟨RX3, "findSets", "(I)V"⟩
theorem dX3_findSets_0 : decode cX3_findSets 0 = .ok (.aload_n 0, 1) := by decide +kernel
theorem dX3_findSets_1 : decode cX3_findSets 1 = .ok (.iload_n 1, 1) := by decide +kernel
theorem dX3_findSets_2 : decode cX3_findSets 2 = .ok (.invokevirtual 215, 3) := by decide +kernel
theorem dX3_findSets_5 : decode cX3_findSets 5 = .ok (.istore_n 2, 1) := by decide +kernel
theorem dX3_findSets_6 : decode cX3_findSets 6 = .ok (.iconst 0, 1) := by decide +kernel
theorem dX3_findSets_7 : decode cX3_findSets 7 = .ok (.istore_n 3, 1) := by decide +kernel
theorem dX3_findSets_8 : decode cX3_findSets 8 = .ok (.iload_n 3, 1) := by decide +kernel
theorem dX3_findSets_9 : decode cX3_findSets 9 = .ok (.aload_n 0, 1) := by decide +kernel
theorem dX3_findSets_10 : decode cX3_findSets 10 = .ok (.getfield 51, 3) := by decide +kernel
theorem dX3_findSets_13 : decode cX3_findSets 13 = .ok (.iload_n 1, 1) := by decide +kernel
theorem dX3_findSets_14 : decode cX3_findSets 14 = .ok (.iaload, 1) := by decide +kernel
theorem dX3_findSets_15 : decode cX3_findSets 15 = .ok (.if_icmp .ge 84, 3) := by decide +kernel
theorem dX3_findSets_18 : decode cX3_findSets 18 = .ok (.aload_n 0, 1) := by decide +kernel
theorem dX3_findSets_19 : decode cX3_findSets 19 = .ok (.getfield 93, 3) := by decide +kernel
theorem dX3_findSets_22 : decode cX3_findSets 22 = .ok (.iload_n 3, 1) := by decide +kernel
theorem dX3_findSets_23 : decode cX3_findSets 23 = .ok (.iconst 0, 1) := by decide +kernel
theorem dX3_findSets_24 : decode cX3_findSets 24 = .ok (.iastore, 1) := by decide +kernel
theorem dX3_findSets_25 : decode cX3_findSets 25 = .ok (.iconst 0, 1) := by decide +kernel
theorem dX3_findSets_26 : decode cX3_findSets 26 = .ok (.istore 4, 2) := by decide +kernel
theorem dX3_findSets_28 : decode cX3_findSets 28 = .ok (.iload 4, 2) := by decide +kernel
theorem dX3_findSets_30 : decode cX3_findSets 30 = .ok (.sipush 1024, 3) := by decide +kernel
theorem dX3_findSets_33 : decode cX3_findSets 33 = .ok (.if_icmp .ge 60, 3) := by decide +kernel
theorem dX3_findSets_36 : decode cX3_findSets 36 = .ok (.iload 4, 2) := by decide +kernel
theorem dX3_findSets_38 : decode cX3_findSets 38 = .ok (.iload_n 2, 1) := by decide +kernel
theorem dX3_findSets_39 : decode cX3_findSets 39 = .ok (.iconst (-1), 1) := by decide +kernel
theorem dX3_findSets_40 : decode cX3_findSets 40 = .ok (.ixor, 1) := by decide +kernel
theorem dX3_findSets_41 : decode cX3_findSets 41 = .ok (.iand, 1) := by decide +kernel
theorem dX3_findSets_42 : decode cX3_findSets 42 = .ok (.ifCond .ne 45, 3) := by decide +kernel
theorem dX3_findSets_45 : decode cX3_findSets 45 = .ok (.aload_n 0, 1) := by decide +kernel
theorem dX3_findSets_46 : decode cX3_findSets 46 = .ok (.iload_n 1, 1) := by decide +kernel
theorem dX3_findSets_47 : decode cX3_findSets 47 = .ok (.iload_n 3, 1) := by decide +kernel
theorem dX3_findSets_48 : decode cX3_findSets 48 = .ok (.iload 4, 2) := by decide +kernel
theorem dX3_findSets_50 : decode cX3_findSets 50 = .ok (.invokevirtual 219, 3) := by decide +kernel
theorem dX3_findSets_53 : decode cX3_findSets 53 = .ok (.ifCond .ne 6, 3) := by decide +kernel
theorem dX3_findSets_56 : decode cX3_findSets 56 = .ok (.goto 31, 3) := by decide +kernel
theorem dX3_findSets_59 : decode cX3_findSets 59 = .ok (.aload_n 0, 1) := by decide +kernel
theorem dX3_findSets_60 : decode cX3_findSets 60 = .ok (.getfield 90, 3) := by decide +kernel
theorem dX3_findSets_63 : decode cX3_findSets 63 = .ok (.bipush 64, 2) := by decide +kernel
theorem dX3_findSets_65 : decode cX3_findSets 65 = .ok (.iload_n 3, 1) := by decide +kernel
theorem dX3_findSets_66 : decode cX3_findSets 66 = .ok (.imul, 1) := by decide +kernel
theorem dX3_findSets_67 : decode cX3_findSets 67 = .ok (.aload_n 0, 1) := by decide +kernel
theorem dX3_findSets_68 : decode cX3_findSets 68 = .ok (.getfield 93, 3) := by decide +kernel
theorem dX3_findSets_71 : decode cX3_findSets 71 = .ok (.iload_n 3, 1) := by decide +kernel
theorem dX3_findSets_72 : decode cX3_findSets 72 = .ok (.iaload, 1) := by decide +kernel
theorem dX3_findSets_73 : decode cX3_findSets 73 = .ok (.iadd, 1) := by decide +kernel
theorem dX3_findSets_74 : decode cX3_findSets 74 = .ok (.iload 4, 2) := by decide +kernel
theorem dX3_findSets_76 : decode cX3_findSets 76 = .ok (.iastore, 1) := by decide +kernel
theorem dX3_findSets_77 : decode cX3_findSets 77 = .ok (.aload_n 0, 1) := by decide +kernel
theorem dX3_findSets_78 : decode cX3_findSets 78 = .ok (.getfield 93, 3) := by decide +kernel
theorem dX3_findSets_81 : decode cX3_findSets 81 = .ok (.iload_n 3, 1) := by decide +kernel
theorem dX3_findSets_82 : decode cX3_findSets 82 = .ok (.dup2, 1) := by decide +kernel
theorem dX3_findSets_83 : decode cX3_findSets 83 = .ok (.iaload, 1) := by decide +kernel
theorem dX3_findSets_84 : decode cX3_findSets 84 = .ok (.iconst 1, 1) := by decide +kernel
theorem dX3_findSets_85 : decode cX3_findSets 85 = .ok (.iadd, 1) := by decide +kernel
theorem dX3_findSets_86 : decode cX3_findSets 86 = .ok (.iastore, 1) := by decide +kernel
theorem dX3_findSets_87 : decode cX3_findSets 87 = .ok (.iinc 4 1, 3) := by decide +kernel
theorem dX3_findSets_90 : decode cX3_findSets 90 = .ok (.goto (-62), 3) := by decide +kernel
theorem dX3_findSets_93 : decode cX3_findSets 93 = .ok (.iinc 3 1, 3) := by decide +kernel
theorem dX3_findSets_96 : decode cX3_findSets 96 = .ok (.goto (-88), 3) := by decide +kernel
theorem dX3_findSets_99 : decode cX3_findSets 99 = .ok (.return_, 1) := by decide +kernel
abbrev cX3_there : ByteArray := prog_17_method_27_code
def yX3_there : MethodName := ⟨RX3, "there", "(I)I"⟩
theorem dX3_there_0 : decode cX3_there 0 = .ok (.iconst 0, 1) := by decide +kernel
theorem dX3_there_1 : decode cX3_there 1 = .ok (.istore_n 2, 1) := by decide +kernel
theorem dX3_there_2 : decode cX3_there 2 = .ok (.iconst 0, 1) := by decide +kernel
theorem dX3_there_3 : decode cX3_there 3 = .ok (.istore_n 3, 1) := by decide +kernel
theorem dX3_there_4 : decode cX3_there 4 = .ok (.iload_n 3, 1) := by decide +kernel
theorem dX3_there_5 : decode cX3_there 5 = .ok (.aload_n 0, 1) := by decide +kernel
theorem dX3_there_6 : decode cX3_there 6 = .ok (.getfield 157, 3) := by decide +kernel
theorem dX3_there_9 : decode cX3_there 9 = .ok (.if_icmp .ge 28, 3) := by decide +kernel
theorem dX3_there_12 : decode cX3_there 12 = .ok (.iload_n 2, 1) := by decide +kernel
theorem dX3_there_13 : decode cX3_there 13 = .ok (.aload_n 0, 1) := by decide +kernel
theorem dX3_there_14 : decode cX3_there 14 = .ok (.iload_n 3, 1) := by decide +kernel
theorem dX3_there_15 : decode cX3_there 15 = .ok (.iload_n 1, 1) := by decide +kernel
theorem dX3_there_16 : decode cX3_there 16 = .ok (.invokevirtual 205, 3) := by decide +kernel
theorem dX3_there_19 : decode cX3_there 19 = .ok (.ifCond .eq 9, 3) := by decide +kernel
theorem dX3_there_22 : decode cX3_there 22 = .ok (.iconst 1, 1) := by decide +kernel
theorem dX3_there_23 : decode cX3_there 23 = .ok (.iload_n 3, 1) := by decide +kernel
theorem dX3_there_24 : decode cX3_there 24 = .ok (.ishl, 1) := by decide +kernel
theorem dX3_there_25 : decode cX3_there 25 = .ok (.goto 4, 3) := by decide +kernel
theorem dX3_there_28 : decode cX3_there 28 = .ok (.iconst 0, 1) := by decide +kernel
theorem dX3_there_29 : decode cX3_there 29 = .ok (.ior, 1) := by decide +kernel
theorem dX3_there_30 : decode cX3_there 30 = .ok (.istore_n 2, 1) := by decide +kernel
theorem dX3_there_31 : decode cX3_there 31 = .ok (.iinc 3 1, 3) := by decide +kernel
theorem dX3_there_34 : decode cX3_there 34 = .ok (.goto (-30), 3) := by decide +kernel
theorem dX3_there_37 : decode cX3_there 37 = .ok (.iload_n 2, 1) := by decide +kernel
theorem dX3_there_38 : decode cX3_there 38 = .ok (.ireturn, 1) := by decide +kernel
abbrev cX3_mayBe : ByteArray := prog_17_method_25_code
def yX3_mayBe : MethodName := ⟨RX3, "mayBe", "(III)Z"⟩
theorem dX3_mayBe_0 : decode cX3_mayBe 0 = .ok (.bipush 10, 2) := by decide +kernel
theorem dX3_mayBe_2 : decode cX3_mayBe 2 = .ok (.iload_n 1, 1) := by decide +kernel
theorem dX3_mayBe_3 : decode cX3_mayBe 3 = .ok (.imul, 1) := by decide +kernel
theorem dX3_mayBe_4 : decode cX3_mayBe 4 = .ok (.iload_n 2, 1) := by decide +kernel
theorem dX3_mayBe_5 : decode cX3_mayBe 5 = .ok (.iadd, 1) := by decide +kernel
theorem dX3_mayBe_6 : decode cX3_mayBe 6 = .ok (.istore 4, 2) := by decide +kernel
theorem dX3_mayBe_8 : decode cX3_mayBe 8 = .ok (.iconst 0, 1) := by decide +kernel
theorem dX3_mayBe_9 : decode cX3_mayBe 9 = .ok (.istore 5, 2) := by decide +kernel
theorem dX3_mayBe_11 : decode cX3_mayBe 11 = .ok (.iconst (-1), 1) := by decide +kernel
theorem dX3_mayBe_12 : decode cX3_mayBe 12 = .ok (.istore 6, 2) := by decide +kernel
theorem dX3_mayBe_14 : decode cX3_mayBe 14 = .ok (.iconst 0, 1) := by decide +kernel
theorem dX3_mayBe_15 : decode cX3_mayBe 15 = .ok (.istore 7, 2) := by decide +kernel
theorem dX3_mayBe_17 : decode cX3_mayBe 17 = .ok (.iload 7, 2) := by decide +kernel
theorem dX3_mayBe_19 : decode cX3_mayBe 19 = .ok (.aload_n 0, 1) := by decide +kernel
theorem dX3_mayBe_20 : decode cX3_mayBe 20 = .ok (.getfield 157, 3) := by decide +kernel
theorem dX3_mayBe_23 : decode cX3_mayBe 23 = .ok (.if_icmp .ge 89, 3) := by decide +kernel
theorem dX3_mayBe_26 : decode cX3_mayBe 26 = .ok (.iload_n 3, 1) := by decide +kernel
theorem dX3_mayBe_27 : decode cX3_mayBe 27 = .ok (.iload 7, 2) := by decide +kernel
theorem dX3_mayBe_29 : decode cX3_mayBe 29 = .ok (.ishr, 1) := by decide +kernel
theorem dX3_mayBe_30 : decode cX3_mayBe 30 = .ok (.iconst 1, 1) := by decide +kernel
theorem dX3_mayBe_31 : decode cX3_mayBe 31 = .ok (.iand, 1) := by decide +kernel
theorem dX3_mayBe_32 : decode cX3_mayBe 32 = .ok (.ifCond .ne 6, 3) := by decide +kernel
theorem dX3_mayBe_35 : decode cX3_mayBe 35 = .ok (.goto 71, 3) := by decide +kernel
theorem dX3_mayBe_38 : decode cX3_mayBe 38 = .ok (.aload_n 0, 1) := by decide +kernel
theorem dX3_mayBe_39 : decode cX3_mayBe 39 = .ok (.getfield 63, 3) := by decide +kernel
theorem dX3_mayBe_42 : decode cX3_mayBe 42 = .ok (.iload 4, 2) := by decide +kernel
theorem dX3_mayBe_44 : decode cX3_mayBe 44 = .ok (.baload, 1) := by decide +kernel
theorem dX3_mayBe_45 : decode cX3_mayBe 45 = .ok (.ifCond .eq 52, 3) := by decide +kernel
theorem dX3_mayBe_48 : decode cX3_mayBe 48 = .ok (.aload_n 0, 1) := by decide +kernel
theorem dX3_mayBe_49 : decode cX3_mayBe 49 = .ok (.getfield 21, 3) := by decide +kernel
theorem dX3_mayBe_52 : decode cX3_mayBe 52 = .ok (.iload 7, 2) := by decide +kernel
theorem dX3_mayBe_54 : decode cX3_mayBe 54 = .ok (.baload, 1) := by decide +kernel
theorem dX3_mayBe_55 : decode cX3_mayBe 55 = .ok (.ifCond .eq 13, 3) := by decide +kernel
theorem dX3_mayBe_58 : decode cX3_mayBe 58 = .ok (.aload_n 0, 1) := by decide +kernel
theorem dX3_mayBe_59 : decode cX3_mayBe 59 = .ok (.getfield 57, 3) := by decide +kernel
theorem dX3_mayBe_62 : decode cX3_mayBe 62 = .ok (.iload 4, 2) := by decide +kernel
theorem dX3_mayBe_64 : decode cX3_mayBe 64 = .ok (.baload, 1) := by decide +kernel
theorem dX3_mayBe_65 : decode cX3_mayBe 65 = .ok (.ifCond .eq 32, 3) := by decide +kernel
theorem dX3_mayBe_68 : decode cX3_mayBe 68 = .ok (.iload 5, 2) := by decide +kernel
theorem dX3_mayBe_70 : decode cX3_mayBe 70 = .ok (.aload_n 0, 1) := by decide +kernel
theorem dX3_mayBe_71 : decode cX3_mayBe 71 = .ok (.getfield 54, 3) := by decide +kernel
theorem dX3_mayBe_74 : decode cX3_mayBe 74 = .ok (.iload 4, 2) := by decide +kernel
theorem dX3_mayBe_76 : decode cX3_mayBe 76 = .ok (.iaload, 1) := by decide +kernel
theorem dX3_mayBe_77 : decode cX3_mayBe 77 = .ok (.if_icmp .eq 20, 3) := by decide +kernel
theorem dX3_mayBe_80 : decode cX3_mayBe 80 = .ok (.iload 5, 2) := by decide +kernel
theorem dX3_mayBe_82 : decode cX3_mayBe 82 = .ok (.iconst 1, 1) := by decide +kernel
theorem dX3_mayBe_83 : decode cX3_mayBe 83 = .ok (.if_icmp .ne 16, 3) := by decide +kernel
theorem dX3_mayBe_86 : decode cX3_mayBe 86 = .ok (.aload_n 0, 1) := by decide +kernel
theorem dX3_mayBe_87 : decode cX3_mayBe 87 = .ok (.iload 6, 2) := by decide +kernel
theorem dX3_mayBe_89 : decode cX3_mayBe 89 = .ok (.iload 7, 2) := by decide +kernel
theorem dX3_mayBe_91 : decode cX3_mayBe 91 = .ok (.invokevirtual 201, 3) := by decide +kernel
theorem dX3_mayBe_94 : decode cX3_mayBe 94 = .ok (.ifCond .ne 5, 3) := by decide +kernel
theorem dX3_mayBe_97 : decode cX3_mayBe 97 = .ok (.iconst 0, 1) := by decide +kernel
theorem dX3_mayBe_98 : decode cX3_mayBe 98 = .ok (.ireturn, 1) := by decide +kernel
theorem dX3_mayBe_99 : decode cX3_mayBe 99 = .ok (.iload 7, 2) := by decide +kernel
theorem dX3_mayBe_101 : decode cX3_mayBe 101 = .ok (.istore 6, 2) := by decide +kernel
theorem dX3_mayBe_103 : decode cX3_mayBe 103 = .ok (.iinc 5 1, 3) := by decide +kernel
theorem dX3_mayBe_106 : decode cX3_mayBe 106 = .ok (.iinc 7 1, 3) := by decide +kernel
theorem dX3_mayBe_109 : decode cX3_mayBe 109 = .ok (.goto (-92), 3) := by decide +kernel
theorem dX3_mayBe_112 : decode cX3_mayBe 112 = .ok (.iconst 1, 1) := by decide +kernel
theorem dX3_mayBe_113 : decode cX3_mayBe 113 = .ok (.ireturn, 1) := by decide +kernel
abbrev cX3_weight : ByteArray := prog_17_method_30_code
def yX3_weight : MethodName := ⟨RX3, "weight", "(IIII)I"⟩
theorem dX3_weight_0 : decode cX3_weight 0 = .ok (.iload_n 3, 1) := by decide +kernel
theorem dX3_weight_1 : decode cX3_weight 1 = .ok (.ifCond .ne 5, 3) := by decide +kernel
theorem dX3_weight_4 : decode cX3_weight 4 = .ok (.iconst 0, 1) := by decide +kernel
theorem dX3_weight_5 : decode cX3_weight 5 = .ok (.ireturn, 1) := by decide +kernel
theorem dX3_weight_6 : decode cX3_weight 6 = .ok (.aload_n 0, 1) := by decide +kernel
theorem dX3_weight_7 : decode cX3_weight 7 = .ok (.getfield 60, 3) := by decide +kernel
theorem dX3_weight_10 : decode cX3_weight 10 = .ok (.bipush 10, 2) := by decide +kernel
theorem dX3_weight_12 : decode cX3_weight 12 = .ok (.iload_n 1, 1) := by decide +kernel
theorem dX3_weight_13 : decode cX3_weight 13 = .ok (.imul, 1) := by decide +kernel
theorem dX3_weight_14 : decode cX3_weight 14 = .ok (.iload_n 2, 1) := by decide +kernel
theorem dX3_weight_15 : decode cX3_weight 15 = .ok (.iadd, 1) := by decide +kernel
theorem dX3_weight_16 : decode cX3_weight 16 = .ok (.iaload, 1) := by decide +kernel
theorem dX3_weight_17 : decode cX3_weight 17 = .ok (.istore 5, 2) := by decide +kernel
theorem dX3_weight_19 : decode cX3_weight 19 = .ok (.aload_n 0, 1) := by decide +kernel
theorem dX3_weight_20 : decode cX3_weight 20 = .ok (.iload_n 1, 1) := by decide +kernel
theorem dX3_weight_21 : decode cX3_weight 21 = .ok (.iload_n 2, 1) := by decide +kernel
theorem dX3_weight_22 : decode cX3_weight 22 = .ok (.iload_n 3, 1) := by decide +kernel
theorem dX3_weight_23 : decode cX3_weight 23 = .ok (.invokevirtual 222, 3) := by decide +kernel
theorem dX3_weight_26 : decode cX3_weight 26 = .ok (.istore 6, 2) := by decide +kernel
theorem dX3_weight_28 : decode cX3_weight 28 = .ok (.iload 4, 2) := by decide +kernel
theorem dX3_weight_30 : decode cX3_weight 30 = .ok (.ifCond .ne 14, 3) := by decide +kernel
theorem dX3_weight_33 : decode cX3_weight 33 = .ok (.bipush 32, 2) := by decide +kernel
theorem dX3_weight_35 : decode cX3_weight 35 = .ok (.iload 5, 2) := by decide +kernel
theorem dX3_weight_37 : decode cX3_weight 37 = .ok (.imul, 1) := by decide +kernel
theorem dX3_weight_38 : decode cX3_weight 38 = .ok (.iload 6, 2) := by decide +kernel
theorem dX3_weight_40 : decode cX3_weight 40 = .ok (.iadd, 1) := by decide +kernel
theorem dX3_weight_41 : decode cX3_weight 41 = .ok (.goto 11, 3) := by decide +kernel
theorem dX3_weight_44 : decode cX3_weight 44 = .ok (.ldc 226, 2) := by decide +kernel
theorem dX3_weight_46 : decode cX3_weight 46 = .ok (.iload 6, 2) := by decide +kernel
theorem dX3_weight_48 : decode cX3_weight 48 = .ok (.imul, 1) := by decide +kernel
theorem dX3_weight_49 : decode cX3_weight 49 = .ok (.iload 5, 2) := by decide +kernel
theorem dX3_weight_51 : decode cX3_weight 51 = .ok (.iadd, 1) := by decide +kernel
theorem dX3_weight_52 : decode cX3_weight 52 = .ok (.ireturn, 1) := by decide +kernel
abbrev cX3_movedBy : ByteArray := prog_17_method_29_code
def yX3_movedBy : MethodName := ⟨RX3, "movedBy", "(III)I"⟩
theorem dX3_movedBy_0 : decode cX3_movedBy 0 = .ok (.iconst 0, 1) := by decide +kernel
theorem dX3_movedBy_1 : decode cX3_movedBy 1 = .ok (.istore 4, 2) := by decide +kernel
theorem dX3_movedBy_3 : decode cX3_movedBy 3 = .ok (.iconst 0, 1) := by decide +kernel
theorem dX3_movedBy_4 : decode cX3_movedBy 4 = .ok (.istore 5, 2) := by decide +kernel
theorem dX3_movedBy_6 : decode cX3_movedBy 6 = .ok (.iload 5, 2) := by decide +kernel
theorem dX3_movedBy_8 : decode cX3_movedBy 8 = .ok (.aload_n 0, 1) := by decide +kernel
theorem dX3_movedBy_9 : decode cX3_movedBy 9 = .ok (.getfield 157, 3) := by decide +kernel
theorem dX3_movedBy_12 : decode cX3_movedBy 12 = .ok (.if_icmp .ge 61, 3) := by decide +kernel
theorem dX3_movedBy_15 : decode cX3_movedBy 15 = .ok (.iload 4, 2) := by decide +kernel
theorem dX3_movedBy_17 : decode cX3_movedBy 17 = .ok (.iload_n 3, 1) := by decide +kernel
theorem dX3_movedBy_18 : decode cX3_movedBy 18 = .ok (.iload 5, 2) := by decide +kernel
theorem dX3_movedBy_20 : decode cX3_movedBy 20 = .ok (.ishr, 1) := by decide +kernel
theorem dX3_movedBy_21 : decode cX3_movedBy 21 = .ok (.iconst 1, 1) := by decide +kernel
theorem dX3_movedBy_22 : decode cX3_movedBy 22 = .ok (.iand, 1) := by decide +kernel
theorem dX3_movedBy_23 : decode cX3_movedBy 23 = .ok (.iconst 1, 1) := by decide +kernel
theorem dX3_movedBy_24 : decode cX3_movedBy 24 = .ok (.if_icmp .ne 39, 3) := by decide +kernel
theorem dX3_movedBy_27 : decode cX3_movedBy 27 = .ok (.aload_n 0, 1) := by decide +kernel
theorem dX3_movedBy_28 : decode cX3_movedBy 28 = .ok (.getfield 66, 3) := by decide +kernel
theorem dX3_movedBy_31 : decode cX3_movedBy 31 = .ok (.bipush 10, 2) := by decide +kernel
theorem dX3_movedBy_33 : decode cX3_movedBy 33 = .ok (.iload_n 1, 1) := by decide +kernel
theorem dX3_movedBy_34 : decode cX3_movedBy 34 = .ok (.imul, 1) := by decide +kernel
theorem dX3_movedBy_35 : decode cX3_movedBy 35 = .ok (.iload 5, 2) := by decide +kernel
theorem dX3_movedBy_37 : decode cX3_movedBy 37 = .ok (.iadd, 1) := by decide +kernel
theorem dX3_movedBy_38 : decode cX3_movedBy 38 = .ok (.iaload, 1) := by decide +kernel
theorem dX3_movedBy_39 : decode cX3_movedBy 39 = .ok (.iconst (-1), 1) := by decide +kernel
theorem dX3_movedBy_40 : decode cX3_movedBy 40 = .ok (.if_icmp .eq 23, 3) := by decide +kernel
theorem dX3_movedBy_43 : decode cX3_movedBy 43 = .ok (.aload_n 0, 1) := by decide +kernel
theorem dX3_movedBy_44 : decode cX3_movedBy 44 = .ok (.getfield 66, 3) := by decide +kernel
theorem dX3_movedBy_47 : decode cX3_movedBy 47 = .ok (.bipush 10, 2) := by decide +kernel
theorem dX3_movedBy_49 : decode cX3_movedBy 49 = .ok (.iload_n 1, 1) := by decide +kernel
theorem dX3_movedBy_50 : decode cX3_movedBy 50 = .ok (.imul, 1) := by decide +kernel
theorem dX3_movedBy_51 : decode cX3_movedBy 51 = .ok (.iload 5, 2) := by decide +kernel
theorem dX3_movedBy_53 : decode cX3_movedBy 53 = .ok (.iadd, 1) := by decide +kernel
theorem dX3_movedBy_54 : decode cX3_movedBy 54 = .ok (.iaload, 1) := by decide +kernel
theorem dX3_movedBy_55 : decode cX3_movedBy 55 = .ok (.iload_n 2, 1) := by decide +kernel
theorem dX3_movedBy_56 : decode cX3_movedBy 56 = .ok (.if_icmp .eq 7, 3) := by decide +kernel
theorem dX3_movedBy_59 : decode cX3_movedBy 59 = .ok (.iconst 1, 1) := by decide +kernel
theorem dX3_movedBy_60 : decode cX3_movedBy 60 = .ok (.goto 4, 3) := by decide +kernel
theorem dX3_movedBy_63 : decode cX3_movedBy 63 = .ok (.iconst 0, 1) := by decide +kernel
theorem dX3_movedBy_64 : decode cX3_movedBy 64 = .ok (.iadd, 1) := by decide +kernel
theorem dX3_movedBy_65 : decode cX3_movedBy 65 = .ok (.istore 4, 2) := by decide +kernel
theorem dX3_movedBy_67 : decode cX3_movedBy 67 = .ok (.iinc 5 1, 3) := by decide +kernel
theorem dX3_movedBy_70 : decode cX3_movedBy 70 = .ok (.goto (-64), 3) := by decide +kernel
theorem dX3_movedBy_73 : decode cX3_movedBy 73 = .ok (.iload 4, 2) := by decide +kernel
theorem dX3_movedBy_75 : decode cX3_movedBy 75 = .ok (.ireturn, 1) := by decide +kernel
abbrev cX3_takes : ByteArray := prog_17_method_32_code
def yX3_takes : MethodName := ⟨RX3, "takes", "(III)I"⟩
theorem dX3_takes_0 : decode cX3_takes 0 = .ok (.iload_n 3, 1) := by decide +kernel
theorem dX3_takes_1 : decode cX3_takes 1 = .ok (.istore 4, 2) := by decide +kernel
theorem dX3_takes_3 : decode cX3_takes 3 = .ok (.iconst 0, 1) := by decide +kernel
theorem dX3_takes_4 : decode cX3_takes 4 = .ok (.istore 5, 2) := by decide +kernel
theorem dX3_takes_6 : decode cX3_takes 6 = .ok (.iconst 0, 1) := by decide +kernel
theorem dX3_takes_7 : decode cX3_takes 7 = .ok (.istore 6, 2) := by decide +kernel
theorem dX3_takes_9 : decode cX3_takes 9 = .ok (.iconst 0, 1) := by decide +kernel
theorem dX3_takes_10 : decode cX3_takes 10 = .ok (.istore 7, 2) := by decide +kernel
theorem dX3_takes_12 : decode cX3_takes 12 = .ok (.iload 7, 2) := by decide +kernel
theorem dX3_takes_14 : decode cX3_takes 14 = .ok (.aload_n 0, 1) := by decide +kernel
theorem dX3_takes_15 : decode cX3_takes 15 = .ok (.getfield 157, 3) := by decide +kernel
theorem dX3_takes_18 : decode cX3_takes 18 = .ok (.if_icmp .ge 17, 3) := by decide +kernel
theorem dX3_takes_21 : decode cX3_takes 21 = .ok (.aload_n 0, 1) := by decide +kernel
theorem dX3_takes_22 : decode cX3_takes 22 = .ok (.getfield 102, 3) := by decide +kernel
theorem dX3_takes_25 : decode cX3_takes 25 = .ok (.iload 7, 2) := by decide +kernel
theorem dX3_takes_27 : decode cX3_takes 27 = .ok (.iconst (-1), 1) := by decide +kernel
theorem dX3_takes_28 : decode cX3_takes 28 = .ok (.iastore, 1) := by decide +kernel
theorem dX3_takes_29 : decode cX3_takes 29 = .ok (.iinc 7 1, 3) := by decide +kernel
theorem dX3_takes_32 : decode cX3_takes 32 = .ok (.goto (-20), 3) := by decide +kernel
theorem dX3_takes_35 : decode cX3_takes 35 = .ok (.iconst 0, 1) := by decide +kernel
theorem dX3_takes_36 : decode cX3_takes 36 = .ok (.istore 7, 2) := by decide +kernel
theorem dX3_takes_38 : decode cX3_takes 38 = .ok (.iload 7, 2) := by decide +kernel
theorem dX3_takes_40 : decode cX3_takes 40 = .ok (.aload_n 0, 1) := by decide +kernel
theorem dX3_takes_41 : decode cX3_takes 41 = .ok (.getfield 51, 3) := by decide +kernel
theorem dX3_takes_44 : decode cX3_takes 44 = .ok (.iload_n 1, 1) := by decide +kernel
theorem dX3_takes_45 : decode cX3_takes 45 = .ok (.iaload, 1) := by decide +kernel
theorem dX3_takes_46 : decode cX3_takes 46 = .ok (.if_icmp .ge 156, 3) := by decide +kernel
theorem dX3_takes_49 : decode cX3_takes 49 = .ok (.iconst 0, 1) := by decide +kernel
theorem dX3_takes_50 : decode cX3_takes 50 = .ok (.istore 8, 2) := by decide +kernel
theorem dX3_takes_52 : decode cX3_takes 52 = .ok (.aload_n 0, 1) := by decide +kernel
theorem dX3_takes_53 : decode cX3_takes 53 = .ok (.iload_n 1, 1) := by decide +kernel
theorem dX3_takes_54 : decode cX3_takes 54 = .ok (.iload 7, 2) := by decide +kernel
theorem dX3_takes_56 : decode cX3_takes 56 = .ok (.iload 4, 2) := by decide +kernel
theorem dX3_takes_58 : decode cX3_takes 58 = .ok (.aload_n 0, 1) := by decide +kernel
theorem dX3_takes_59 : decode cX3_takes 59 = .ok (.getfield 90, 3) := by decide +kernel
theorem dX3_takes_62 : decode cX3_takes 62 = .ok (.bipush 64, 2) := by decide +kernel
theorem dX3_takes_64 : decode cX3_takes 64 = .ok (.iload 7, 2) := by decide +kernel
theorem dX3_takes_66 : decode cX3_takes 66 = .ok (.imul, 1) := by decide +kernel
theorem dX3_takes_67 : decode cX3_takes 67 = .ok (.iload 8, 2) := by decide +kernel
theorem dX3_takes_69 : decode cX3_takes 69 = .ok (.iadd, 1) := by decide +kernel
theorem dX3_takes_70 : decode cX3_takes 70 = .ok (.iaload, 1) := by decide +kernel
theorem dX3_takes_71 : decode cX3_takes 71 = .ok (.iload_n 2, 1) := by decide +kernel
theorem dX3_takes_72 : decode cX3_takes 72 = .ok (.invokevirtual 239, 3) := by decide +kernel
theorem dX3_takes_75 : decode cX3_takes 75 = .ok (.ifCond .ne 9, 3) := by decide +kernel
theorem dX3_takes_78 : decode cX3_takes 78 = .ok (.iinc 8 1, 3) := by decide +kernel
theorem dX3_takes_81 : decode cX3_takes 81 = .ok (.goto (-29), 3) := by decide +kernel
theorem dX3_takes_84 : decode cX3_takes 84 = .ok (.aload_n 0, 1) := by decide +kernel
theorem dX3_takes_85 : decode cX3_takes 85 = .ok (.getfield 90, 3) := by decide +kernel
theorem dX3_takes_88 : decode cX3_takes 88 = .ok (.bipush 64, 2) := by decide +kernel
theorem dX3_takes_90 : decode cX3_takes 90 = .ok (.iload 7, 2) := by decide +kernel
theorem dX3_takes_92 : decode cX3_takes 92 = .ok (.imul, 1) := by decide +kernel
theorem dX3_takes_93 : decode cX3_takes 93 = .ok (.iload 8, 2) := by decide +kernel
theorem dX3_takes_95 : decode cX3_takes 95 = .ok (.iadd, 1) := by decide +kernel
theorem dX3_takes_96 : decode cX3_takes 96 = .ok (.iaload, 1) := by decide +kernel
theorem dX3_takes_97 : decode cX3_takes 97 = .ok (.istore 9, 2) := by decide +kernel
theorem dX3_takes_99 : decode cX3_takes 99 = .ok (.iconst 0, 1) := by decide +kernel
theorem dX3_takes_100 : decode cX3_takes 100 = .ok (.istore 10, 2) := by decide +kernel
theorem dX3_takes_102 : decode cX3_takes 102 = .ok (.iload 10, 2) := by decide +kernel
theorem dX3_takes_104 : decode cX3_takes 104 = .ok (.aload_n 0, 1) := by decide +kernel
theorem dX3_takes_105 : decode cX3_takes 105 = .ok (.getfield 157, 3) := by decide +kernel
theorem dX3_takes_108 : decode cX3_takes 108 = .ok (.if_icmp .ge 39, 3) := by decide +kernel
theorem dX3_takes_111 : decode cX3_takes 111 = .ok (.aload_n 0, 1) := by decide +kernel
theorem dX3_takes_112 : decode cX3_takes 112 = .ok (.getfield 102, 3) := by decide +kernel
theorem dX3_takes_115 : decode cX3_takes 115 = .ok (.iload 10, 2) := by decide +kernel
theorem dX3_takes_117 : decode cX3_takes 117 = .ok (.iload 9, 2) := by decide +kernel
theorem dX3_takes_119 : decode cX3_takes 119 = .ok (.iload 10, 2) := by decide +kernel
theorem dX3_takes_121 : decode cX3_takes 121 = .ok (.ishr, 1) := by decide +kernel
theorem dX3_takes_122 : decode cX3_takes 122 = .ok (.iconst 1, 1) := by decide +kernel
theorem dX3_takes_123 : decode cX3_takes 123 = .ok (.iand, 1) := by decide +kernel
theorem dX3_takes_124 : decode cX3_takes 124 = .ok (.iconst 1, 1) := by decide +kernel
theorem dX3_takes_125 : decode cX3_takes 125 = .ok (.if_icmp .ne 8, 3) := by decide +kernel
theorem dX3_takes_128 : decode cX3_takes 128 = .ok (.iload 7, 2) := by decide +kernel
theorem dX3_takes_130 : decode cX3_takes 130 = .ok (.goto 10, 3) := by decide +kernel
theorem dX3_takes_133 : decode cX3_takes 133 = .ok (.aload_n 0, 1) := by decide +kernel
theorem dX3_takes_134 : decode cX3_takes 134 = .ok (.getfield 102, 3) := by decide +kernel
theorem dX3_takes_137 : decode cX3_takes 137 = .ok (.iload 10, 2) := by decide +kernel
theorem dX3_takes_139 : decode cX3_takes 139 = .ok (.iaload, 1) := by decide +kernel
theorem dX3_takes_140 : decode cX3_takes 140 = .ok (.iastore, 1) := by decide +kernel
theorem dX3_takes_141 : decode cX3_takes 141 = .ok (.iinc 10 1, 3) := by decide +kernel
theorem dX3_takes_144 : decode cX3_takes 144 = .ok (.goto (-42), 3) := by decide +kernel
theorem dX3_takes_147 : decode cX3_takes 147 = .ok (.iload 5, 2) := by decide +kernel
theorem dX3_takes_149 : decode cX3_takes 149 = .ok (.iload 9, 2) := by decide +kernel
theorem dX3_takes_151 : decode cX3_takes 151 = .ok (.ifCond .ne 7, 3) := by decide +kernel
theorem dX3_takes_154 : decode cX3_takes 154 = .ok (.iconst 0, 1) := by decide +kernel
theorem dX3_takes_155 : decode cX3_takes 155 = .ok (.goto 15, 3) := by decide +kernel
theorem dX3_takes_158 : decode cX3_takes 158 = .ok (.aload_n 0, 1) := by decide +kernel
theorem dX3_takes_159 : decode cX3_takes 159 = .ok (.getfield 60, 3) := by decide +kernel
theorem dX3_takes_162 : decode cX3_takes 162 = .ok (.bipush 10, 2) := by decide +kernel
theorem dX3_takes_164 : decode cX3_takes 164 = .ok (.iload_n 1, 1) := by decide +kernel
theorem dX3_takes_165 : decode cX3_takes 165 = .ok (.imul, 1) := by decide +kernel
theorem dX3_takes_166 : decode cX3_takes 166 = .ok (.iload 7, 2) := by decide +kernel
theorem dX3_takes_168 : decode cX3_takes 168 = .ok (.iadd, 1) := by decide +kernel
theorem dX3_takes_169 : decode cX3_takes 169 = .ok (.iaload, 1) := by decide +kernel
theorem dX3_takes_170 : decode cX3_takes 170 = .ok (.iadd, 1) := by decide +kernel
theorem dX3_takes_171 : decode cX3_takes 171 = .ok (.istore 5, 2) := by decide +kernel
theorem dX3_takes_173 : decode cX3_takes 173 = .ok (.iload 6, 2) := by decide +kernel
theorem dX3_takes_175 : decode cX3_takes 175 = .ok (.aload_n 0, 1) := by decide +kernel
theorem dX3_takes_176 : decode cX3_takes 176 = .ok (.iload_n 1, 1) := by decide +kernel
theorem dX3_takes_177 : decode cX3_takes 177 = .ok (.iload 7, 2) := by decide +kernel
theorem dX3_takes_179 : decode cX3_takes 179 = .ok (.iload 9, 2) := by decide +kernel
theorem dX3_takes_181 : decode cX3_takes 181 = .ok (.invokevirtual 222, 3) := by decide +kernel
theorem dX3_takes_184 : decode cX3_takes 184 = .ok (.iadd, 1) := by decide +kernel
theorem dX3_takes_185 : decode cX3_takes 185 = .ok (.istore 6, 2) := by decide +kernel
theorem dX3_takes_187 : decode cX3_takes 187 = .ok (.iload 4, 2) := by decide +kernel
theorem dX3_takes_189 : decode cX3_takes 189 = .ok (.iload 9, 2) := by decide +kernel
theorem dX3_takes_191 : decode cX3_takes 191 = .ok (.iconst (-1), 1) := by decide +kernel
theorem dX3_takes_192 : decode cX3_takes 192 = .ok (.ixor, 1) := by decide +kernel
theorem dX3_takes_193 : decode cX3_takes 193 = .ok (.iand, 1) := by decide +kernel
theorem dX3_takes_194 : decode cX3_takes 194 = .ok (.istore 4, 2) := by decide +kernel
theorem dX3_takes_196 : decode cX3_takes 196 = .ok (.iinc 7 1, 3) := by decide +kernel
theorem dX3_takes_199 : decode cX3_takes 199 = .ok (.goto (-161), 3) := by decide +kernel
theorem dX3_takes_202 : decode cX3_takes 202 = .ok (.iconst 0, 1) := by decide +kernel
theorem dX3_takes_203 : decode cX3_takes 203 = .ok (.istore 7, 2) := by decide +kernel
theorem dX3_takes_205 : decode cX3_takes 205 = .ok (.iconst 0, 1) := by decide +kernel
theorem dX3_takes_206 : decode cX3_takes 206 = .ok (.istore 8, 2) := by decide +kernel
theorem dX3_takes_208 : decode cX3_takes 208 = .ok (.iload 8, 2) := by decide +kernel
theorem dX3_takes_210 : decode cX3_takes 210 = .ok (.aload_n 0, 1) := by decide +kernel
theorem dX3_takes_211 : decode cX3_takes 211 = .ok (.getfield 157, 3) := by decide +kernel
theorem dX3_takes_214 : decode cX3_takes 214 = .ok (.if_icmp .ge 41, 3) := by decide +kernel
theorem dX3_takes_217 : decode cX3_takes 217 = .ok (.iload 7, 2) := by decide +kernel
theorem dX3_takes_219 : decode cX3_takes 219 = .ok (.aload_n 0, 1) := by decide +kernel
theorem dX3_takes_220 : decode cX3_takes 220 = .ok (.getfield 102, 3) := by decide +kernel
theorem dX3_takes_223 : decode cX3_takes 223 = .ok (.iload 8, 2) := by decide +kernel
theorem dX3_takes_225 : decode cX3_takes 225 = .ok (.iaload, 1) := by decide +kernel
theorem dX3_takes_226 : decode cX3_takes 226 = .ok (.aload_n 0, 1) := by decide +kernel
theorem dX3_takes_227 : decode cX3_takes 227 = .ok (.getfield 66, 3) := by decide +kernel
theorem dX3_takes_230 : decode cX3_takes 230 = .ok (.bipush 10, 2) := by decide +kernel
theorem dX3_takes_232 : decode cX3_takes 232 = .ok (.iload_n 1, 1) := by decide +kernel
theorem dX3_takes_233 : decode cX3_takes 233 = .ok (.imul, 1) := by decide +kernel
theorem dX3_takes_234 : decode cX3_takes 234 = .ok (.iload 8, 2) := by decide +kernel
theorem dX3_takes_236 : decode cX3_takes 236 = .ok (.iadd, 1) := by decide +kernel
theorem dX3_takes_237 : decode cX3_takes 237 = .ok (.iaload, 1) := by decide +kernel
theorem dX3_takes_238 : decode cX3_takes 238 = .ok (.if_icmp .eq 7, 3) := by decide +kernel
theorem dX3_takes_241 : decode cX3_takes 241 = .ok (.iconst 1, 1) := by decide +kernel
theorem dX3_takes_242 : decode cX3_takes 242 = .ok (.goto 4, 3) := by decide +kernel
theorem dX3_takes_245 : decode cX3_takes 245 = .ok (.iconst 0, 1) := by decide +kernel
theorem dX3_takes_246 : decode cX3_takes 246 = .ok (.iadd, 1) := by decide +kernel
theorem dX3_takes_247 : decode cX3_takes 247 = .ok (.istore 7, 2) := by decide +kernel
theorem dX3_takes_249 : decode cX3_takes 249 = .ok (.iinc 8 1, 3) := by decide +kernel
theorem dX3_takes_252 : decode cX3_takes 252 = .ok (.goto (-44), 3) := by decide +kernel
theorem dX3_takes_255 : decode cX3_takes 255 = .ok (.aload_n 0, 1) := by decide +kernel
theorem dX3_takes_256 : decode cX3_takes 256 = .ok (.getfield 180, 3) := by decide +kernel
theorem dX3_takes_259 : decode cX3_takes 259 = .ok (.iload 7, 2) := by decide +kernel
theorem dX3_takes_261 : decode cX3_takes 261 = .ok (.iadd, 1) := by decide +kernel
theorem dX3_takes_262 : decode cX3_takes 262 = .ok (.sipush 500, 3) := by decide +kernel
theorem dX3_takes_265 : decode cX3_takes 265 = .ok (.if_icmp .le 5, 3) := by decide +kernel
theorem dX3_takes_268 : decode cX3_takes 268 = .ok (.iconst (-1), 1) := by decide +kernel
theorem dX3_takes_269 : decode cX3_takes 269 = .ok (.ireturn, 1) := by decide +kernel
theorem dX3_takes_270 : decode cX3_takes 270 = .ok (.iconst 0, 1) := by decide +kernel
theorem dX3_takes_271 : decode cX3_takes 271 = .ok (.istore 8, 2) := by decide +kernel
theorem dX3_takes_273 : decode cX3_takes 273 = .ok (.iload 8, 2) := by decide +kernel
theorem dX3_takes_275 : decode cX3_takes 275 = .ok (.aload_n 0, 1) := by decide +kernel
theorem dX3_takes_276 : decode cX3_takes 276 = .ok (.getfield 157, 3) := by decide +kernel
theorem dX3_takes_279 : decode cX3_takes 279 = .ok (.if_icmp .ge 23, 3) := by decide +kernel
theorem dX3_takes_282 : decode cX3_takes 282 = .ok (.aload_n 0, 1) := by decide +kernel
theorem dX3_takes_283 : decode cX3_takes 283 = .ok (.iload_n 1, 1) := by decide +kernel
theorem dX3_takes_284 : decode cX3_takes 284 = .ok (.iload 8, 2) := by decide +kernel
theorem dX3_takes_286 : decode cX3_takes 286 = .ok (.aload_n 0, 1) := by decide +kernel
theorem dX3_takes_287 : decode cX3_takes 287 = .ok (.getfield 102, 3) := by decide +kernel
theorem dX3_takes_290 : decode cX3_takes 290 = .ok (.iload 8, 2) := by decide +kernel
theorem dX3_takes_292 : decode cX3_takes 292 = .ok (.iaload, 1) := by decide +kernel
theorem dX3_takes_293 : decode cX3_takes 293 = .ok (.invokevirtual 186, 3) := by decide +kernel
theorem dX3_takes_296 : decode cX3_takes 296 = .ok (.iinc 8 1, 3) := by decide +kernel
theorem dX3_takes_299 : decode cX3_takes 299 = .ok (.goto (-26), 3) := by decide +kernel
theorem dX3_takes_302 : decode cX3_takes 302 = .ok (.aload_n 0, 1) := by decide +kernel
theorem dX3_takes_303 : decode cX3_takes 303 = .ok (.iload 6, 2) := by decide +kernel
theorem dX3_takes_305 : decode cX3_takes 305 = .ok (.putfield 99, 3) := by decide +kernel
theorem dX3_takes_308 : decode cX3_takes 308 = .ok (.iload 5, 2) := by decide +kernel
theorem dX3_takes_310 : decode cX3_takes 310 = .ok (.ireturn, 1) := by decide +kernel
abbrev cX3_isLeast : ByteArray := prog_17_method_33_code
def yX3_isLeast : MethodName := ⟨RX3, "isLeast", "(IIIII)Z"⟩
theorem dX3_isLeast_0 : decode cX3_isLeast 0 = .ok (.iload 4, 2) := by decide +kernel
theorem dX3_isLeast_2 : decode cX3_isLeast 2 = .ok (.iload_n 3, 1) := by decide +kernel
theorem dX3_isLeast_3 : decode cX3_isLeast 3 = .ok (.iconst (-1), 1) := by decide +kernel
theorem dX3_isLeast_4 : decode cX3_isLeast 4 = .ok (.ixor, 1) := by decide +kernel
theorem dX3_isLeast_5 : decode cX3_isLeast 5 = .ok (.iand, 1) := by decide +kernel
theorem dX3_isLeast_6 : decode cX3_isLeast 6 = .ok (.ifCond .eq 5, 3) := by decide +kernel
theorem dX3_isLeast_9 : decode cX3_isLeast 9 = .ok (.iconst 0, 1) := by decide +kernel
theorem dX3_isLeast_10 : decode cX3_isLeast 10 = .ok (.ireturn, 1) := by decide +kernel
theorem dX3_isLeast_11 : decode cX3_isLeast 11 = .ok (.aload_n 0, 1) := by decide +kernel
theorem dX3_isLeast_12 : decode cX3_isLeast 12 = .ok (.getfield 96, 3) := by decide +kernel
theorem dX3_isLeast_15 : decode cX3_isLeast 15 = .ok (.sipush 1024, 3) := by decide +kernel
theorem dX3_isLeast_18 : decode cX3_isLeast 18 = .ok (.iload_n 2, 1) := by decide +kernel
theorem dX3_isLeast_19 : decode cX3_isLeast 19 = .ok (.iconst 1, 1) := by decide +kernel
theorem dX3_isLeast_20 : decode cX3_isLeast 20 = .ok (.iadd, 1) := by decide +kernel
theorem dX3_isLeast_21 : decode cX3_isLeast 21 = .ok (.imul, 1) := by decide +kernel
theorem dX3_isLeast_22 : decode cX3_isLeast 22 = .ok (.iload_n 3, 1) := by decide +kernel
theorem dX3_isLeast_23 : decode cX3_isLeast 23 = .ok (.iload 4, 2) := by decide +kernel
theorem dX3_isLeast_25 : decode cX3_isLeast 25 = .ok (.iconst (-1), 1) := by decide +kernel
theorem dX3_isLeast_26 : decode cX3_isLeast 26 = .ok (.ixor, 1) := by decide +kernel
theorem dX3_isLeast_27 : decode cX3_isLeast 27 = .ok (.iand, 1) := by decide +kernel
theorem dX3_isLeast_28 : decode cX3_isLeast 28 = .ok (.iadd, 1) := by decide +kernel
theorem dX3_isLeast_29 : decode cX3_isLeast 29 = .ok (.iaload, 1) := by decide +kernel
theorem dX3_isLeast_30 : decode cX3_isLeast 30 = .ok (.istore 6, 2) := by decide +kernel
theorem dX3_isLeast_32 : decode cX3_isLeast 32 = .ok (.iload 6, 2) := by decide +kernel
theorem dX3_isLeast_34 : decode cX3_isLeast 34 = .ok (.ldc 231, 2) := by decide +kernel
theorem dX3_isLeast_36 : decode cX3_isLeast 36 = .ok (.if_icmp .eq 35, 3) := by decide +kernel
theorem dX3_isLeast_39 : decode cX3_isLeast 39 = .ok (.iload 6, 2) := by decide +kernel
theorem dX3_isLeast_41 : decode cX3_isLeast 41 = .ok (.aload_n 0, 1) := by decide +kernel
theorem dX3_isLeast_42 : decode cX3_isLeast 42 = .ok (.iload_n 1, 1) := by decide +kernel
theorem dX3_isLeast_43 : decode cX3_isLeast 43 = .ok (.iload_n 2, 1) := by decide +kernel
theorem dX3_isLeast_44 : decode cX3_isLeast 44 = .ok (.iload 4, 2) := by decide +kernel
theorem dX3_isLeast_46 : decode cX3_isLeast 46 = .ok (.iload 5, 2) := by decide +kernel
theorem dX3_isLeast_48 : decode cX3_isLeast 48 = .ok (.invokevirtual 232, 3) := by decide +kernel
theorem dX3_isLeast_51 : decode cX3_isLeast 51 = .ok (.iadd, 1) := by decide +kernel
theorem dX3_isLeast_52 : decode cX3_isLeast 52 = .ok (.aload_n 0, 1) := by decide +kernel
theorem dX3_isLeast_53 : decode cX3_isLeast 53 = .ok (.getfield 96, 3) := by decide +kernel
theorem dX3_isLeast_56 : decode cX3_isLeast 56 = .ok (.sipush 1024, 3) := by decide +kernel
theorem dX3_isLeast_59 : decode cX3_isLeast 59 = .ok (.iload_n 2, 1) := by decide +kernel
theorem dX3_isLeast_60 : decode cX3_isLeast 60 = .ok (.imul, 1) := by decide +kernel
theorem dX3_isLeast_61 : decode cX3_isLeast 61 = .ok (.iload_n 3, 1) := by decide +kernel
theorem dX3_isLeast_62 : decode cX3_isLeast 62 = .ok (.iadd, 1) := by decide +kernel
theorem dX3_isLeast_63 : decode cX3_isLeast 63 = .ok (.iaload, 1) := by decide +kernel
theorem dX3_isLeast_64 : decode cX3_isLeast 64 = .ok (.if_icmp .ne 7, 3) := by decide +kernel
theorem dX3_isLeast_67 : decode cX3_isLeast 67 = .ok (.iconst 1, 1) := by decide +kernel
theorem dX3_isLeast_68 : decode cX3_isLeast 68 = .ok (.goto 4, 3) := by decide +kernel
theorem dX3_isLeast_71 : decode cX3_isLeast 71 = .ok (.iconst 0, 1) := by decide +kernel
theorem dX3_isLeast_72 : decode cX3_isLeast 72 = .ok (.ireturn, 1) := by decide +kernel
abbrev cX3_moved : ByteArray := prog_17_method_34_code
def yX3_moved : MethodName := ⟨RX3, "moved", "()I"⟩
theorem dX3_moved_0 : decode cX3_moved 0 = .ok (.aload_n 0, 1) := by decide +kernel
theorem dX3_moved_1 : decode cX3_moved 1 = .ok (.getfield 99, 3) := by decide +kernel
theorem dX3_moved_4 : decode cX3_moved 4 = .ok (.ireturn, 1) := by decide +kernel
abbrev cX3_most : ByteArray := prog_17_method_36_code
def yX3_most : MethodName := ⟨RX3, "most", "(I)I"⟩
theorem dX3_most_0 : decode cX3_most 0 = .ok (.aload_n 0, 1) := by decide +kernel
theorem dX3_most_1 : decode cX3_most 1 = .ok (.iload_n 1, 1) := by decide +kernel
theorem dX3_most_2 : decode cX3_most 2 = .ok (.invokevirtual 170, 3) := by decide +kernel
theorem dX3_most_5 : decode cX3_most 5 = .ok (.ifCond .ne 5, 3) := by decide +kernel
theorem dX3_most_8 : decode cX3_most 8 = .ok (.iconst (-1), 1) := by decide +kernel
theorem dX3_most_9 : decode cX3_most 9 = .ok (.ireturn, 1) := by decide +kernel
theorem dX3_most_10 : decode cX3_most 10 = .ok (.aload_n 0, 1) := by decide +kernel
theorem dX3_most_11 : decode cX3_most 11 = .ok (.iload_n 1, 1) := by decide +kernel
theorem dX3_most_12 : decode cX3_most 12 = .ok (.invokevirtual 227, 3) := by decide +kernel
theorem dX3_most_15 : decode cX3_most 15 = .ok (.aload_n 0, 1) := by decide +kernel
theorem dX3_most_16 : decode cX3_most 16 = .ok (.getfield 51, 3) := by decide +kernel
theorem dX3_most_19 : decode cX3_most 19 = .ok (.iload_n 1, 1) := by decide +kernel
theorem dX3_most_20 : decode cX3_most 20 = .ok (.iaload, 1) := by decide +kernel
theorem dX3_most_21 : decode cX3_most 21 = .ok (.istore_n 2, 1) := by decide +kernel
theorem dX3_most_22 : decode cX3_most 22 = .ok (.iconst 0, 1) := by decide +kernel
theorem dX3_most_23 : decode cX3_most 23 = .ok (.istore_n 3, 1) := by decide +kernel
theorem dX3_most_24 : decode cX3_most 24 = .ok (.iload_n 3, 1) := by decide +kernel
theorem dX3_most_25 : decode cX3_most 25 = .ok (.sipush 11264, 3) := by decide +kernel
theorem dX3_most_28 : decode cX3_most 28 = .ok (.if_icmp .ge 24, 3) := by decide +kernel
theorem dX3_most_31 : decode cX3_most 31 = .ok (.aload_n 0, 1) := by decide +kernel
theorem dX3_most_32 : decode cX3_most 32 = .ok (.getfield 105, 3) := by decide +kernel
theorem dX3_most_35 : decode cX3_most 35 = .ok (.iload_n 3, 1) := by decide +kernel
theorem dX3_most_36 : decode cX3_most 36 = .ok (.iload_n 3, 1) := by decide +kernel
theorem dX3_most_37 : decode cX3_most 37 = .ok (.ifCond .ne 7, 3) := by decide +kernel
theorem dX3_most_40 : decode cX3_most 40 = .ok (.iconst 1, 1) := by decide +kernel
theorem dX3_most_41 : decode cX3_most 41 = .ok (.goto 4, 3) := by decide +kernel
theorem dX3_most_44 : decode cX3_most 44 = .ok (.iconst 0, 1) := by decide +kernel
theorem dX3_most_45 : decode cX3_most 45 = .ok (.bastore, 1) := by decide +kernel
theorem dX3_most_46 : decode cX3_most 46 = .ok (.iinc 3 1, 3) := by decide +kernel
theorem dX3_most_49 : decode cX3_most 49 = .ok (.goto (-25), 3) := by decide +kernel
theorem dX3_most_52 : decode cX3_most 52 = .ok (.iconst 0, 1) := by decide +kernel
theorem dX3_most_53 : decode cX3_most 53 = .ok (.istore_n 3, 1) := by decide +kernel
theorem dX3_most_54 : decode cX3_most 54 = .ok (.iload_n 3, 1) := by decide +kernel
theorem dX3_most_55 : decode cX3_most 55 = .ok (.iload_n 2, 1) := by decide +kernel
theorem dX3_most_56 : decode cX3_most 56 = .ok (.if_icmp .ge 112, 3) := by decide +kernel
theorem dX3_most_59 : decode cX3_most 59 = .ok (.iconst 0, 1) := by decide +kernel
theorem dX3_most_60 : decode cX3_most 60 = .ok (.istore 4, 2) := by decide +kernel
theorem dX3_most_62 : decode cX3_most 62 = .ok (.iload 4, 2) := by decide +kernel
theorem dX3_most_64 : decode cX3_most 64 = .ok (.sipush 1024, 3) := by decide +kernel
theorem dX3_most_67 : decode cX3_most 67 = .ok (.if_icmp .ge 95, 3) := by decide +kernel
theorem dX3_most_70 : decode cX3_most 70 = .ok (.aload_n 0, 1) := by decide +kernel
theorem dX3_most_71 : decode cX3_most 71 = .ok (.getfield 105, 3) := by decide +kernel
theorem dX3_most_74 : decode cX3_most 74 = .ok (.sipush 1024, 3) := by decide +kernel
theorem dX3_most_77 : decode cX3_most 77 = .ok (.iload_n 3, 1) := by decide +kernel
theorem dX3_most_78 : decode cX3_most 78 = .ok (.imul, 1) := by decide +kernel
theorem dX3_most_79 : decode cX3_most 79 = .ok (.iload 4, 2) := by decide +kernel
theorem dX3_most_81 : decode cX3_most 81 = .ok (.iadd, 1) := by decide +kernel
theorem dX3_most_82 : decode cX3_most 82 = .ok (.baload, 1) := by decide +kernel
theorem dX3_most_83 : decode cX3_most 83 = .ok (.ifCond .ne 6, 3) := by decide +kernel
theorem dX3_most_86 : decode cX3_most 86 = .ok (.goto 70, 3) := by decide +kernel
theorem dX3_most_89 : decode cX3_most 89 = .ok (.iconst 0, 1) := by decide +kernel
theorem dX3_most_90 : decode cX3_most 90 = .ok (.istore 5, 2) := by decide +kernel
theorem dX3_most_92 : decode cX3_most 92 = .ok (.iload 5, 2) := by decide +kernel
theorem dX3_most_94 : decode cX3_most 94 = .ok (.aload_n 0, 1) := by decide +kernel
theorem dX3_most_95 : decode cX3_most 95 = .ok (.getfield 93, 3) := by decide +kernel
theorem dX3_most_98 : decode cX3_most 98 = .ok (.iload_n 3, 1) := by decide +kernel
theorem dX3_most_99 : decode cX3_most 99 = .ok (.iaload, 1) := by decide +kernel
theorem dX3_most_100 : decode cX3_most 100 = .ok (.if_icmp .ge 56, 3) := by decide +kernel
theorem dX3_most_103 : decode cX3_most 103 = .ok (.aload_n 0, 1) := by decide +kernel
theorem dX3_most_104 : decode cX3_most 104 = .ok (.getfield 90, 3) := by decide +kernel
theorem dX3_most_107 : decode cX3_most 107 = .ok (.bipush 64, 2) := by decide +kernel
theorem dX3_most_109 : decode cX3_most 109 = .ok (.iload_n 3, 1) := by decide +kernel
theorem dX3_most_110 : decode cX3_most 110 = .ok (.imul, 1) := by decide +kernel
theorem dX3_most_111 : decode cX3_most 111 = .ok (.iload 5, 2) := by decide +kernel
theorem dX3_most_113 : decode cX3_most 113 = .ok (.iadd, 1) := by decide +kernel
theorem dX3_most_114 : decode cX3_most 114 = .ok (.iaload, 1) := by decide +kernel
theorem dX3_most_115 : decode cX3_most 115 = .ok (.iload 4, 2) := by decide +kernel
theorem dX3_most_117 : decode cX3_most 117 = .ok (.iand, 1) := by decide +kernel
theorem dX3_most_118 : decode cX3_most 118 = .ok (.ifCond .ne 32, 3) := by decide +kernel
theorem dX3_most_121 : decode cX3_most 121 = .ok (.aload_n 0, 1) := by decide +kernel
theorem dX3_most_122 : decode cX3_most 122 = .ok (.getfield 105, 3) := by decide +kernel
theorem dX3_most_125 : decode cX3_most 125 = .ok (.sipush 1024, 3) := by decide +kernel
theorem dX3_most_128 : decode cX3_most 128 = .ok (.iload_n 3, 1) := by decide +kernel
theorem dX3_most_129 : decode cX3_most 129 = .ok (.iconst 1, 1) := by decide +kernel
theorem dX3_most_130 : decode cX3_most 130 = .ok (.iadd, 1) := by decide +kernel
theorem dX3_most_131 : decode cX3_most 131 = .ok (.imul, 1) := by decide +kernel
theorem dX3_most_132 : decode cX3_most 132 = .ok (.iload 4, 2) := by decide +kernel
theorem dX3_most_134 : decode cX3_most 134 = .ok (.aload_n 0, 1) := by decide +kernel
theorem dX3_most_135 : decode cX3_most 135 = .ok (.getfield 90, 3) := by decide +kernel
theorem dX3_most_138 : decode cX3_most 138 = .ok (.bipush 64, 2) := by decide +kernel
theorem dX3_most_140 : decode cX3_most 140 = .ok (.iload_n 3, 1) := by decide +kernel
theorem dX3_most_141 : decode cX3_most 141 = .ok (.imul, 1) := by decide +kernel
theorem dX3_most_142 : decode cX3_most 142 = .ok (.iload 5, 2) := by decide +kernel
theorem dX3_most_144 : decode cX3_most 144 = .ok (.iadd, 1) := by decide +kernel
theorem dX3_most_145 : decode cX3_most 145 = .ok (.iaload, 1) := by decide +kernel
theorem dX3_most_146 : decode cX3_most 146 = .ok (.ior, 1) := by decide +kernel
theorem dX3_most_147 : decode cX3_most 147 = .ok (.iadd, 1) := by decide +kernel
theorem dX3_most_148 : decode cX3_most 148 = .ok (.iconst 1, 1) := by decide +kernel
theorem dX3_most_149 : decode cX3_most 149 = .ok (.bastore, 1) := by decide +kernel
theorem dX3_most_150 : decode cX3_most 150 = .ok (.iinc 5 1, 3) := by decide +kernel
theorem dX3_most_153 : decode cX3_most 153 = .ok (.goto (-61), 3) := by decide +kernel
theorem dX3_most_156 : decode cX3_most 156 = .ok (.iinc 4 1, 3) := by decide +kernel
theorem dX3_most_159 : decode cX3_most 159 = .ok (.goto (-97), 3) := by decide +kernel
theorem dX3_most_162 : decode cX3_most 162 = .ok (.iinc 3 1, 3) := by decide +kernel
theorem dX3_most_165 : decode cX3_most 165 = .ok (.goto (-111), 3) := by decide +kernel
theorem dX3_most_168 : decode cX3_most 168 = .ok (.iconst 0, 1) := by decide +kernel
theorem dX3_most_169 : decode cX3_most 169 = .ok (.istore_n 3, 1) := by decide +kernel
theorem dX3_most_170 : decode cX3_most 170 = .ok (.iconst 0, 1) := by decide +kernel
theorem dX3_most_171 : decode cX3_most 171 = .ok (.istore 4, 2) := by decide +kernel
theorem dX3_most_173 : decode cX3_most 173 = .ok (.iload 4, 2) := by decide +kernel
theorem dX3_most_175 : decode cX3_most 175 = .ok (.sipush 1024, 3) := by decide +kernel
theorem dX3_most_178 : decode cX3_most 178 = .ok (.if_icmp .ge 44, 3) := by decide +kernel
theorem dX3_most_181 : decode cX3_most 181 = .ok (.aload_n 0, 1) := by decide +kernel
theorem dX3_most_182 : decode cX3_most 182 = .ok (.getfield 105, 3) := by decide +kernel
theorem dX3_most_185 : decode cX3_most 185 = .ok (.sipush 1024, 3) := by decide +kernel
theorem dX3_most_188 : decode cX3_most 188 = .ok (.iload_n 2, 1) := by decide +kernel
theorem dX3_most_189 : decode cX3_most 189 = .ok (.imul, 1) := by decide +kernel
theorem dX3_most_190 : decode cX3_most 190 = .ok (.iload 4, 2) := by decide +kernel
theorem dX3_most_192 : decode cX3_most 192 = .ok (.iadd, 1) := by decide +kernel
theorem dX3_most_193 : decode cX3_most 193 = .ok (.baload, 1) := by decide +kernel
theorem dX3_most_194 : decode cX3_most 194 = .ok (.ifCond .eq 20, 3) := by decide +kernel
theorem dX3_most_197 : decode cX3_most 197 = .ok (.iload 4, 2) := by decide +kernel
theorem dX3_most_199 : decode cX3_most 199 = .ok (.invokestatic 243, 3) := by decide +kernel
theorem dX3_most_202 : decode cX3_most 202 = .ok (.iload_n 3, 1) := by decide +kernel
theorem dX3_most_203 : decode cX3_most 203 = .ok (.if_icmp .le 11, 3) := by decide +kernel
theorem dX3_most_206 : decode cX3_most 206 = .ok (.iload 4, 2) := by decide +kernel
theorem dX3_most_208 : decode cX3_most 208 = .ok (.invokestatic 243, 3) := by decide +kernel
theorem dX3_most_211 : decode cX3_most 211 = .ok (.goto 4, 3) := by decide +kernel
theorem dX3_most_214 : decode cX3_most 214 = .ok (.iload_n 3, 1) := by decide +kernel
theorem dX3_most_215 : decode cX3_most 215 = .ok (.istore_n 3, 1) := by decide +kernel
theorem dX3_most_216 : decode cX3_most 216 = .ok (.iinc 4 1, 3) := by decide +kernel
theorem dX3_most_219 : decode cX3_most 219 = .ok (.goto (-46), 3) := by decide +kernel
theorem dX3_most_222 : decode cX3_most 222 = .ok (.iload_n 3, 1) := by decide +kernel
theorem dX3_most_223 : decode cX3_most 223 = .ok (.ireturn, 1) := by decide +kernel
abbrev cX3_sizeOf : ByteArray := prog_17_method_35_code
def yX3_sizeOf : MethodName := ⟨RX3, "sizeOf", "(I)I"⟩
theorem dX3_sizeOf_0 : decode cX3_sizeOf 0 = .ok (.iconst 0, 1) := by decide +kernel
theorem dX3_sizeOf_1 : decode cX3_sizeOf 1 = .ok (.istore_n 1, 1) := by decide +kernel
theorem dX3_sizeOf_2 : decode cX3_sizeOf 2 = .ok (.iconst 0, 1) := by decide +kernel
theorem dX3_sizeOf_3 : decode cX3_sizeOf 3 = .ok (.istore_n 2, 1) := by decide +kernel
theorem dX3_sizeOf_4 : decode cX3_sizeOf 4 = .ok (.iload_n 2, 1) := by decide +kernel
theorem dX3_sizeOf_5 : decode cX3_sizeOf 5 = .ok (.bipush 10, 2) := by decide +kernel
theorem dX3_sizeOf_7 : decode cX3_sizeOf 7 = .ok (.if_icmp .ge 17, 3) := by decide +kernel
theorem dX3_sizeOf_10 : decode cX3_sizeOf 10 = .ok (.iload_n 1, 1) := by decide +kernel
theorem dX3_sizeOf_11 : decode cX3_sizeOf 11 = .ok (.iload_n 0, 1) := by decide +kernel
theorem dX3_sizeOf_12 : decode cX3_sizeOf 12 = .ok (.iload_n 2, 1) := by decide +kernel
theorem dX3_sizeOf_13 : decode cX3_sizeOf 13 = .ok (.ishr, 1) := by decide +kernel
theorem dX3_sizeOf_14 : decode cX3_sizeOf 14 = .ok (.iconst 1, 1) := by decide +kernel
theorem dX3_sizeOf_15 : decode cX3_sizeOf 15 = .ok (.iand, 1) := by decide +kernel
theorem dX3_sizeOf_16 : decode cX3_sizeOf 16 = .ok (.iadd, 1) := by decide +kernel
theorem dX3_sizeOf_17 : decode cX3_sizeOf 17 = .ok (.istore_n 1, 1) := by decide +kernel
theorem dX3_sizeOf_18 : decode cX3_sizeOf 18 = .ok (.iinc 2 1, 3) := by decide +kernel
theorem dX3_sizeOf_21 : decode cX3_sizeOf 21 = .ok (.goto (-17), 3) := by decide +kernel
theorem dX3_sizeOf_24 : decode cX3_sizeOf 24 = .ok (.iload_n 1, 1) := by decide +kernel
theorem dX3_sizeOf_25 : decode cX3_sizeOf 25 = .ok (.ireturn, 1) := by decide +kernel
abbrev cX3_right : ByteArray := prog_17_method_37_code
def yX3_right : MethodName := ⟨RX3, "right", "(I)Z"⟩
theorem dX3_right_0 : decode cX3_right 0 = .ok (.aload_n 0, 1) := by decide +kernel
theorem dX3_right_1 : decode cX3_right 1 = .ok (.iload_n 1, 1) := by decide +kernel
theorem dX3_right_2 : decode cX3_right 2 = .ok (.invokevirtual 170, 3) := by decide +kernel
theorem dX3_right_5 : decode cX3_right 5 = .ok (.ifCond .ne 5, 3) := by decide +kernel
theorem dX3_right_8 : decode cX3_right 8 = .ok (.iconst 0, 1) := by decide +kernel
theorem dX3_right_9 : decode cX3_right 9 = .ok (.ireturn, 1) := by decide +kernel
theorem dX3_right_10 : decode cX3_right 10 = .ok (.iconst 0, 1) := by decide +kernel
theorem dX3_right_11 : decode cX3_right 11 = .ok (.istore_n 2, 1) := by decide +kernel
theorem dX3_right_12 : decode cX3_right 12 = .ok (.iload_n 2, 1) := by decide +kernel
theorem dX3_right_13 : decode cX3_right 13 = .ok (.aload_n 0, 1) := by decide +kernel
theorem dX3_right_14 : decode cX3_right 14 = .ok (.getfield 157, 3) := by decide +kernel
theorem dX3_right_17 : decode cX3_right 17 = .ok (.if_icmp .ge 35, 3) := by decide +kernel
theorem dX3_right_20 : decode cX3_right 20 = .ok (.aload_n 0, 1) := by decide +kernel
theorem dX3_right_21 : decode cX3_right 21 = .ok (.iload_n 2, 1) := by decide +kernel
theorem dX3_right_22 : decode cX3_right 22 = .ok (.iload_n 1, 1) := by decide +kernel
theorem dX3_right_23 : decode cX3_right 23 = .ok (.invokevirtual 205, 3) := by decide +kernel
theorem dX3_right_26 : decode cX3_right 26 = .ok (.ifCond .eq 20, 3) := by decide +kernel
theorem dX3_right_29 : decode cX3_right 29 = .ok (.aload_n 0, 1) := by decide +kernel
theorem dX3_right_30 : decode cX3_right 30 = .ok (.getfield 66, 3) := by decide +kernel
theorem dX3_right_33 : decode cX3_right 33 = .ok (.bipush 10, 2) := by decide +kernel
theorem dX3_right_35 : decode cX3_right 35 = .ok (.iload_n 1, 1) := by decide +kernel
theorem dX3_right_36 : decode cX3_right 36 = .ok (.imul, 1) := by decide +kernel
theorem dX3_right_37 : decode cX3_right 37 = .ok (.iload_n 2, 1) := by decide +kernel
theorem dX3_right_38 : decode cX3_right 38 = .ok (.iadd, 1) := by decide +kernel
theorem dX3_right_39 : decode cX3_right 39 = .ok (.iaload, 1) := by decide +kernel
theorem dX3_right_40 : decode cX3_right 40 = .ok (.iconst (-1), 1) := by decide +kernel
theorem dX3_right_41 : decode cX3_right 41 = .ok (.if_icmp .ne 5, 3) := by decide +kernel
theorem dX3_right_44 : decode cX3_right 44 = .ok (.iconst 0, 1) := by decide +kernel
theorem dX3_right_45 : decode cX3_right 45 = .ok (.ireturn, 1) := by decide +kernel
theorem dX3_right_46 : decode cX3_right 46 = .ok (.iinc 2 1, 3) := by decide +kernel
theorem dX3_right_49 : decode cX3_right 49 = .ok (.goto (-37), 3) := by decide +kernel
theorem dX3_right_52 : decode cX3_right 52 = .ok (.iconst 0, 1) := by decide +kernel
theorem dX3_right_53 : decode cX3_right 53 = .ok (.istore_n 2, 1) := by decide +kernel
theorem dX3_right_54 : decode cX3_right 54 = .ok (.iload_n 2, 1) := by decide +kernel
theorem dX3_right_55 : decode cX3_right 55 = .ok (.aload_n 0, 1) := by decide +kernel
theorem dX3_right_56 : decode cX3_right 56 = .ok (.getfield 51, 3) := by decide +kernel
theorem dX3_right_59 : decode cX3_right 59 = .ok (.iload_n 1, 1) := by decide +kernel
theorem dX3_right_60 : decode cX3_right 60 = .ok (.iaload, 1) := by decide +kernel
theorem dX3_right_61 : decode cX3_right 61 = .ok (.if_icmp .ge 26, 3) := by decide +kernel
theorem dX3_right_64 : decode cX3_right 64 = .ok (.aload_n 0, 1) := by decide +kernel
theorem dX3_right_65 : decode cX3_right 65 = .ok (.iload_n 1, 1) := by decide +kernel
theorem dX3_right_66 : decode cX3_right 66 = .ok (.iload_n 2, 1) := by decide +kernel
theorem dX3_right_67 : decode cX3_right 67 = .ok (.aload_n 0, 1) := by decide +kernel
theorem dX3_right_68 : decode cX3_right 68 = .ok (.iload_n 1, 1) := by decide +kernel
theorem dX3_right_69 : decode cX3_right 69 = .ok (.iload_n 2, 1) := by decide +kernel
theorem dX3_right_70 : decode cX3_right 70 = .ok (.invokevirtual 211, 3) := by decide +kernel
theorem dX3_right_73 : decode cX3_right 73 = .ok (.invokevirtual 219, 3) := by decide +kernel
theorem dX3_right_76 : decode cX3_right 76 = .ok (.ifCond .ne 5, 3) := by decide +kernel
theorem dX3_right_79 : decode cX3_right 79 = .ok (.iconst 0, 1) := by decide +kernel
theorem dX3_right_80 : decode cX3_right 80 = .ok (.ireturn, 1) := by decide +kernel
theorem dX3_right_81 : decode cX3_right 81 = .ok (.iinc 2 1, 3) := by decide +kernel
theorem dX3_right_84 : decode cX3_right 84 = .ok (.goto (-30), 3) := by decide +kernel
theorem dX3_right_87 : decode cX3_right 87 = .ok (.iconst 1, 1) := by decide +kernel
theorem dX3_right_88 : decode cX3_right 88 = .ok (.ireturn, 1) := by decide +kernel
abbrev cX3_listed : ByteArray := prog_17_method_38_code
def yX3_listed : MethodName := ⟨RX3, "listed", "(III)I"⟩
theorem dX3_listed_0 : decode cX3_listed 0 = .ok (.aload_n 0, 1) := by decide +kernel
theorem dX3_listed_1 : decode cX3_listed 1 = .ok (.iload_n 1, 1) := by decide +kernel
theorem dX3_listed_2 : decode cX3_listed 2 = .ok (.invokevirtual 170, 3) := by decide +kernel
theorem dX3_listed_5 : decode cX3_listed 5 = .ok (.ifCond .eq 23, 3) := by decide +kernel
theorem dX3_listed_8 : decode cX3_listed 8 = .ok (.aload_n 0, 1) := by decide +kernel
theorem dX3_listed_9 : decode cX3_listed 9 = .ok (.iload_n 2, 1) := by decide +kernel
theorem dX3_listed_10 : decode cX3_listed 10 = .ok (.invokevirtual 177, 3) := by decide +kernel
theorem dX3_listed_13 : decode cX3_listed 13 = .ok (.ifCond .eq 15, 3) := by decide +kernel
theorem dX3_listed_16 : decode cX3_listed 16 = .ok (.iload_n 3, 1) := by decide +kernel
theorem dX3_listed_17 : decode cX3_listed 17 = .ok (.iconst 0, 1) := by decide +kernel
theorem dX3_listed_18 : decode cX3_listed 18 = .ok (.aload_n 0, 1) := by decide +kernel
theorem dX3_listed_19 : decode cX3_listed 19 = .ok (.getfield 183, 3) := by decide +kernel
theorem dX3_listed_22 : decode cX3_listed 22 = .ok (.invokestatic 160, 3) := by decide +kernel
theorem dX3_listed_25 : decode cX3_listed 25 = .ok (.ifCond .ne 5, 3) := by decide +kernel
theorem dX3_listed_28 : decode cX3_listed 28 = .ok (.iconst (-1), 1) := by decide +kernel
theorem dX3_listed_29 : decode cX3_listed 29 = .ok (.ireturn, 1) := by decide +kernel
theorem dX3_listed_30 : decode cX3_listed 30 = .ok (.iconst (-1), 1) := by decide +kernel
theorem dX3_listed_31 : decode cX3_listed 31 = .ok (.istore 4, 2) := by decide +kernel
theorem dX3_listed_33 : decode cX3_listed 33 = .ok (.iconst 0, 1) := by decide +kernel
theorem dX3_listed_34 : decode cX3_listed 34 = .ok (.istore 5, 2) := by decide +kernel
theorem dX3_listed_36 : decode cX3_listed 36 = .ok (.iload 5, 2) := by decide +kernel
theorem dX3_listed_38 : decode cX3_listed 38 = .ok (.aload_n 0, 1) := by decide +kernel
theorem dX3_listed_39 : decode cX3_listed 39 = .ok (.getfield 180, 3) := by decide +kernel
theorem dX3_listed_42 : decode cX3_listed 42 = .ok (.if_icmp .ge 45, 3) := by decide +kernel
theorem dX3_listed_45 : decode cX3_listed 45 = .ok (.aload_n 0, 1) := by decide +kernel
theorem dX3_listed_46 : decode cX3_listed 46 = .ok (.getfield 72, 3) := by decide +kernel
theorem dX3_listed_49 : decode cX3_listed 49 = .ok (.iload 5, 2) := by decide +kernel
theorem dX3_listed_51 : decode cX3_listed 51 = .ok (.iaload, 1) := by decide +kernel
theorem dX3_listed_52 : decode cX3_listed 52 = .ok (.bipush 10, 2) := by decide +kernel
theorem dX3_listed_54 : decode cX3_listed 54 = .ok (.iload_n 1, 1) := by decide +kernel
theorem dX3_listed_55 : decode cX3_listed 55 = .ok (.imul, 1) := by decide +kernel
theorem dX3_listed_56 : decode cX3_listed 56 = .ok (.iload_n 2, 1) := by decide +kernel
theorem dX3_listed_57 : decode cX3_listed 57 = .ok (.iadd, 1) := by decide +kernel
theorem dX3_listed_58 : decode cX3_listed 58 = .ok (.if_icmp .ne 23, 3) := by decide +kernel
theorem dX3_listed_61 : decode cX3_listed 61 = .ok (.aload_n 0, 1) := by decide +kernel
theorem dX3_listed_62 : decode cX3_listed 62 = .ok (.getfield 69, 3) := by decide +kernel
theorem dX3_listed_65 : decode cX3_listed 65 = .ok (.iload 5, 2) := by decide +kernel
theorem dX3_listed_67 : decode cX3_listed 67 = .ok (.iaload, 1) := by decide +kernel
theorem dX3_listed_68 : decode cX3_listed 68 = .ok (.iload_n 3, 1) := by decide +kernel
theorem dX3_listed_69 : decode cX3_listed 69 = .ok (.if_icmp .gt 12, 3) := by decide +kernel
theorem dX3_listed_72 : decode cX3_listed 72 = .ok (.aload_n 0, 1) := by decide +kernel
theorem dX3_listed_73 : decode cX3_listed 73 = .ok (.getfield 75, 3) := by decide +kernel
theorem dX3_listed_76 : decode cX3_listed 76 = .ok (.iload 5, 2) := by decide +kernel
theorem dX3_listed_78 : decode cX3_listed 78 = .ok (.iaload, 1) := by decide +kernel
theorem dX3_listed_79 : decode cX3_listed 79 = .ok (.istore 4, 2) := by decide +kernel
theorem dX3_listed_81 : decode cX3_listed 81 = .ok (.iinc 5 1, 3) := by decide +kernel
theorem dX3_listed_84 : decode cX3_listed 84 = .ok (.goto (-48), 3) := by decide +kernel
theorem dX3_listed_87 : decode cX3_listed 87 = .ok (.iload 4, 2) := by decide +kernel
theorem dX3_listed_89 : decode cX3_listed 89 = .ok (.ireturn, 1) := by decide +kernel
abbrev cX3_feed : ByteArray := prog_17_method_39_code
def yX3_feed : MethodName := ⟨RX3, "feed", "(JJJ)I"⟩
theorem dX3_feed_0 : decode cX3_feed 0 = .ok (.iconst 0, 1) := by decide +kernel
theorem dX3_feed_1 : decode cX3_feed 1 = .ok (.istore 7, 2) := by decide +kernel
theorem dX3_feed_3 : decode cX3_feed 3 = .ok (.iload 7, 2) := by decide +kernel
theorem dX3_feed_5 : decode cX3_feed 5 = .ok (.bipush 24, 2) := by decide +kernel
theorem dX3_feed_7 : decode cX3_feed 7 = .ok (.if_icmp .ge 92, 3) := by decide +kernel
theorem dX3_feed_10 : decode cX3_feed 10 = .ok (.iload 7, 2) := by decide +kernel
theorem dX3_feed_12 : decode cX3_feed 12 = .ok (.bipush 8, 2) := by decide +kernel
theorem dX3_feed_14 : decode cX3_feed 14 = .ok (.if_icmp .ge 7, 3) := by decide +kernel
theorem dX3_feed_17 : decode cX3_feed 17 = .ok (.lload_n 1, 1) := by decide +kernel
theorem dX3_feed_18 : decode cX3_feed 18 = .ok (.goto 16, 3) := by decide +kernel
theorem dX3_feed_21 : decode cX3_feed 21 = .ok (.iload 7, 2) := by decide +kernel
theorem dX3_feed_23 : decode cX3_feed 23 = .ok (.bipush 16, 2) := by decide +kernel
theorem dX3_feed_25 : decode cX3_feed 25 = .ok (.if_icmp .ge 7, 3) := by decide +kernel
theorem dX3_feed_28 : decode cX3_feed 28 = .ok (.lload_n 3, 1) := by decide +kernel
theorem dX3_feed_29 : decode cX3_feed 29 = .ok (.goto 5, 3) := by decide +kernel
theorem dX3_feed_32 : decode cX3_feed 32 = .ok (.lload 5, 2) := by decide +kernel
theorem dX3_feed_34 : decode cX3_feed 34 = .ok (.lstore 8, 2) := by decide +kernel
theorem dX3_feed_36 : decode cX3_feed 36 = .ok (.lload 8, 2) := by decide +kernel
theorem dX3_feed_38 : decode cX3_feed 38 = .ok (.bipush 56, 2) := by decide +kernel
theorem dX3_feed_40 : decode cX3_feed 40 = .ok (.bipush 8, 2) := by decide +kernel
theorem dX3_feed_42 : decode cX3_feed 42 = .ok (.iload 7, 2) := by decide +kernel
theorem dX3_feed_44 : decode cX3_feed 44 = .ok (.bipush 8, 2) := by decide +kernel
theorem dX3_feed_46 : decode cX3_feed 46 = .ok (.irem, 1) := by decide +kernel
theorem dX3_feed_47 : decode cX3_feed 47 = .ok (.imul, 1) := by decide +kernel
theorem dX3_feed_48 : decode cX3_feed 48 = .ok (.isub, 1) := by decide +kernel
theorem dX3_feed_49 : decode cX3_feed 49 = .ok (.lshr, 1) := by decide +kernel
theorem dX3_feed_50 : decode cX3_feed 50 = .ok (.l2i, 1) := by decide +kernel
theorem dX3_feed_51 : decode cX3_feed 51 = .ok (.i2b, 1) := by decide +kernel
theorem dX3_feed_52 : decode cX3_feed 52 = .ok (.istore 10, 2) := by decide +kernel
theorem dX3_feed_54 : decode cX3_feed 54 = .ok (.iload 10, 2) := by decide +kernel
theorem dX3_feed_56 : decode cX3_feed 56 = .ok (.ifCond .eq 37, 3) := by decide +kernel
theorem dX3_feed_59 : decode cX3_feed 59 = .ok (.aload_n 0, 1) := by decide +kernel
theorem dX3_feed_60 : decode cX3_feed 60 = .ok (.getfield 246, 3) := by decide +kernel
theorem dX3_feed_63 : decode cX3_feed 63 = .ok (.sipush 400, 3) := by decide +kernel
theorem dX3_feed_66 : decode cX3_feed 66 = .ok (.if_icmp .ne 6, 3) := by decide +kernel
theorem dX3_feed_69 : decode cX3_feed 69 = .ok (.goto 24, 3) := by decide +kernel
theorem dX3_feed_72 : decode cX3_feed 72 = .ok (.aload_n 0, 1) := by decide +kernel
theorem dX3_feed_73 : decode cX3_feed 73 = .ok (.getfield 108, 3) := by decide +kernel
theorem dX3_feed_76 : decode cX3_feed 76 = .ok (.aload_n 0, 1) := by decide +kernel
theorem dX3_feed_77 : decode cX3_feed 77 = .ok (.getfield 246, 3) := by decide +kernel
theorem dX3_feed_80 : decode cX3_feed 80 = .ok (.iload 10, 2) := by decide +kernel
theorem dX3_feed_82 : decode cX3_feed 82 = .ok (.bastore, 1) := by decide +kernel
theorem dX3_feed_83 : decode cX3_feed 83 = .ok (.aload_n 0, 1) := by decide +kernel
theorem dX3_feed_84 : decode cX3_feed 84 = .ok (.dup, 1) := by decide +kernel
theorem dX3_feed_85 : decode cX3_feed 85 = .ok (.getfield 246, 3) := by decide +kernel
theorem dX3_feed_88 : decode cX3_feed 88 = .ok (.iconst 1, 1) := by decide +kernel
theorem dX3_feed_89 : decode cX3_feed 89 = .ok (.iadd, 1) := by decide +kernel
theorem dX3_feed_90 : decode cX3_feed 90 = .ok (.putfield 246, 3) := by decide +kernel
theorem dX3_feed_93 : decode cX3_feed 93 = .ok (.iinc 7 1, 3) := by decide +kernel
theorem dX3_feed_96 : decode cX3_feed 96 = .ok (.goto (-93), 3) := by decide +kernel
theorem dX3_feed_99 : decode cX3_feed 99 = .ok (.aload_n 0, 1) := by decide +kernel
theorem dX3_feed_100 : decode cX3_feed 100 = .ok (.getfield 246, 3) := by decide +kernel
theorem dX3_feed_103 : decode cX3_feed 103 = .ok (.ireturn, 1) := by decide +kernel
abbrev cX3_read : ByteArray := prog_17_method_52_code
def yX3_read : MethodName := ⟨RX3, "read", "(I)I"⟩
theorem dX3_read_0 : decode cX3_read 0 = .ok (.aload_n 0, 1) := by decide +kernel
theorem dX3_read_1 : decode cX3_read 1 = .ok (.iload_n 1, 1) := by decide +kernel
theorem dX3_read_2 : decode cX3_read 2 = .ok (.invokevirtual 170, 3) := by decide +kernel
theorem dX3_read_5 : decode cX3_read 5 = .ok (.ifCond .ne 5, 3) := by decide +kernel
theorem dX3_read_8 : decode cX3_read 8 = .ok (.iconst (-1), 1) := by decide +kernel
theorem dX3_read_9 : decode cX3_read 9 = .ok (.ireturn, 1) := by decide +kernel
theorem dX3_read_10 : decode cX3_read 10 = .ok (.aload_n 0, 1) := by decide +kernel
theorem dX3_read_11 : decode cX3_read 11 = .ok (.aload_n 0, 1) := by decide +kernel
theorem dX3_read_12 : decode cX3_read 12 = .ok (.getfield 246, 3) := by decide +kernel
theorem dX3_read_15 : decode cX3_read 15 = .ok (.putfield 252, 3) := by decide +kernel
theorem dX3_read_18 : decode cX3_read 18 = .ok (.iconst 0, 1) := by decide +kernel
theorem dX3_read_19 : decode cX3_read 19 = .ok (.istore_n 2, 1) := by decide +kernel
theorem dX3_read_20 : decode cX3_read 20 = .ok (.iload_n 2, 1) := by decide +kernel
theorem dX3_read_21 : decode cX3_read 21 = .ok (.aload_n 0, 1) := by decide +kernel
theorem dX3_read_22 : decode cX3_read 22 = .ok (.getfield 246, 3) := by decide +kernel
theorem dX3_read_25 : decode cX3_read 25 = .ok (.if_icmp .ge 21, 3) := by decide +kernel
theorem dX3_read_28 : decode cX3_read 28 = .ok (.aload_n 0, 1) := by decide +kernel
theorem dX3_read_29 : decode cX3_read 29 = .ok (.getfield 121, 3) := by decide +kernel
theorem dX3_read_32 : decode cX3_read 32 = .ok (.iload_n 2, 1) := by decide +kernel
theorem dX3_read_33 : decode cX3_read 33 = .ok (.aload_n 0, 1) := by decide +kernel
theorem dX3_read_34 : decode cX3_read 34 = .ok (.getfield 108, 3) := by decide +kernel
theorem dX3_read_37 : decode cX3_read 37 = .ok (.iload_n 2, 1) := by decide +kernel
theorem dX3_read_38 : decode cX3_read 38 = .ok (.baload, 1) := by decide +kernel
theorem dX3_read_39 : decode cX3_read 39 = .ok (.bastore, 1) := by decide +kernel
theorem dX3_read_40 : decode cX3_read 40 = .ok (.iinc 2 1, 3) := by decide +kernel
theorem dX3_read_43 : decode cX3_read 43 = .ok (.goto (-23), 3) := by decide +kernel
theorem dX3_read_46 : decode cX3_read 46 = .ok (.aload_n 0, 1) := by decide +kernel
theorem dX3_read_47 : decode cX3_read 47 = .ok (.iconst 0, 1) := by decide +kernel
theorem dX3_read_48 : decode cX3_read 48 = .ok (.putfield 246, 3) := by decide +kernel
theorem dX3_read_51 : decode cX3_read 51 = .ok (.aload_n 0, 1) := by decide +kernel
theorem dX3_read_52 : decode cX3_read 52 = .ok (.iconst (-1), 1) := by decide +kernel
theorem dX3_read_53 : decode cX3_read 53 = .ok (.invokevirtual 372, 3) := by decide +kernel
theorem dX3_read_56 : decode cX3_read 56 = .ok (.aload_n 0, 1) := by decide +kernel
theorem dX3_read_57 : decode cX3_read 57 = .ok (.getfield 294, 3) := by decide +kernel
theorem dX3_read_60 : decode cX3_read 60 = .ok (.ifCond .le 16, 3) := by decide +kernel
theorem dX3_read_63 : decode cX3_read 63 = .ok (.aload_n 0, 1) := by decide +kernel
theorem dX3_read_64 : decode cX3_read 64 = .ok (.getfield 294, 3) := by decide +kernel
theorem dX3_read_67 : decode cX3_read 67 = .ok (.bipush 10, 2) := by decide +kernel
theorem dX3_read_69 : decode cX3_read 69 = .ok (.aload_n 0, 1) := by decide +kernel
theorem dX3_read_70 : decode cX3_read 70 = .ok (.getfield 297, 3) := by decide +kernel
theorem dX3_read_73 : decode cX3_read 73 = .ok (.imul, 1) := by decide +kernel
theorem dX3_read_74 : decode cX3_read 74 = .ok (.iadd, 1) := by decide +kernel
theorem dX3_read_75 : decode cX3_read 75 = .ok (.ireturn, 1) := by decide +kernel
theorem dX3_read_76 : decode cX3_read 76 = .ok (.iconst 0, 1) := by decide +kernel
theorem dX3_read_77 : decode cX3_read 77 = .ok (.istore_n 2, 1) := by decide +kernel
theorem dX3_read_78 : decode cX3_read 78 = .ok (.iload_n 2, 1) := by decide +kernel
theorem dX3_read_79 : decode cX3_read 79 = .ok (.aload_n 0, 1) := by decide +kernel
theorem dX3_read_80 : decode cX3_read 80 = .ok (.getfield 252, 3) := by decide +kernel
theorem dX3_read_83 : decode cX3_read 83 = .ok (.if_icmp .ge 27, 3) := by decide +kernel
theorem dX3_read_86 : decode cX3_read 86 = .ok (.aload_n 0, 1) := by decide +kernel
theorem dX3_read_87 : decode cX3_read 87 = .ok (.getfield 112, 3) := by decide +kernel
theorem dX3_read_90 : decode cX3_read 90 = .ok (.sipush 400, 3) := by decide +kernel
theorem dX3_read_93 : decode cX3_read 93 = .ok (.iload_n 1, 1) := by decide +kernel
theorem dX3_read_94 : decode cX3_read 94 = .ok (.imul, 1) := by decide +kernel
theorem dX3_read_95 : decode cX3_read 95 = .ok (.iload_n 2, 1) := by decide +kernel
theorem dX3_read_96 : decode cX3_read 96 = .ok (.iadd, 1) := by decide +kernel
theorem dX3_read_97 : decode cX3_read 97 = .ok (.aload_n 0, 1) := by decide +kernel
theorem dX3_read_98 : decode cX3_read 98 = .ok (.getfield 121, 3) := by decide +kernel
theorem dX3_read_101 : decode cX3_read 101 = .ok (.iload_n 2, 1) := by decide +kernel
theorem dX3_read_102 : decode cX3_read 102 = .ok (.baload, 1) := by decide +kernel
theorem dX3_read_103 : decode cX3_read 103 = .ok (.bastore, 1) := by decide +kernel
theorem dX3_read_104 : decode cX3_read 104 = .ok (.iinc 2 1, 3) := by decide +kernel
theorem dX3_read_107 : decode cX3_read 107 = .ok (.goto (-29), 3) := by decide +kernel
theorem dX3_read_110 : decode cX3_read 110 = .ok (.aload_n 0, 1) := by decide +kernel
theorem dX3_read_111 : decode cX3_read 111 = .ok (.getfield 115, 3) := by decide +kernel
theorem dX3_read_114 : decode cX3_read 114 = .ok (.iload_n 1, 1) := by decide +kernel
theorem dX3_read_115 : decode cX3_read 115 = .ok (.aload_n 0, 1) := by decide +kernel
theorem dX3_read_116 : decode cX3_read 116 = .ok (.getfield 252, 3) := by decide +kernel
theorem dX3_read_119 : decode cX3_read 119 = .ok (.iastore, 1) := by decide +kernel
theorem dX3_read_120 : decode cX3_read 120 = .ok (.aload_n 0, 1) := by decide +kernel
theorem dX3_read_121 : decode cX3_read 121 = .ok (.getfield 118, 3) := by decide +kernel
theorem dX3_read_124 : decode cX3_read 124 = .ok (.iload_n 1, 1) := by decide +kernel
theorem dX3_read_125 : decode cX3_read 125 = .ok (.aload_n 0, 1) := by decide +kernel
theorem dX3_read_126 : decode cX3_read 126 = .ok (.getfield 361, 3) := by decide +kernel
theorem dX3_read_129 : decode cX3_read 129 = .ok (.iastore, 1) := by decide +kernel
theorem dX3_read_130 : decode cX3_read 130 = .ok (.iconst 0, 1) := by decide +kernel
theorem dX3_read_131 : decode cX3_read 131 = .ok (.ireturn, 1) := by decide +kernel
abbrev cX3_goes : ByteArray := prog_17_method_51_code
def yX3_goes : MethodName := ⟨RX3, "goes", "(I)V"⟩
theorem dX3_goes_0 : decode cX3_goes 0 = .ok (.aload_n 0, 1) := by decide +kernel
theorem dX3_goes_1 : decode cX3_goes 1 = .ok (.iconst 0, 1) := by decide +kernel
theorem dX3_goes_2 : decode cX3_goes 2 = .ok (.putfield 249, 3) := by decide +kernel
theorem dX3_goes_5 : decode cX3_goes 5 = .ok (.aload_n 0, 1) := by decide +kernel
theorem dX3_goes_6 : decode cX3_goes 6 = .ok (.iconst 0, 1) := by decide +kernel
theorem dX3_goes_7 : decode cX3_goes 7 = .ok (.putfield 303, 3) := by decide +kernel
theorem dX3_goes_10 : decode cX3_goes 10 = .ok (.aload_n 0, 1) := by decide +kernel
theorem dX3_goes_11 : decode cX3_goes 11 = .ok (.iconst 0, 1) := by decide +kernel
theorem dX3_goes_12 : decode cX3_goes 12 = .ok (.putfield 294, 3) := by decide +kernel
theorem dX3_goes_15 : decode cX3_goes 15 = .ok (.aload_n 0, 1) := by decide +kernel
theorem dX3_goes_16 : decode cX3_goes 16 = .ok (.iconst 0, 1) := by decide +kernel
theorem dX3_goes_17 : decode cX3_goes 17 = .ok (.putfield 361, 3) := by decide +kernel
theorem dX3_goes_20 : decode cX3_goes 20 = .ok (.aload_n 0, 1) := by decide +kernel
theorem dX3_goes_21 : decode cX3_goes 21 = .ok (.iconst (-1), 1) := by decide +kernel
theorem dX3_goes_22 : decode cX3_goes 22 = .ok (.putfield 364, 3) := by decide +kernel
theorem dX3_goes_25 : decode cX3_goes 25 = .ok (.aload_n 0, 1) := by decide +kernel
theorem dX3_goes_26 : decode cX3_goes 26 = .ok (.invokevirtual 309, 3) := by decide +kernel
theorem dX3_goes_29 : decode cX3_goes 29 = .ok (.aload_n 0, 1) := by decide +kernel
theorem dX3_goes_30 : decode cX3_goes 30 = .ok (.getfield 294, 3) := by decide +kernel
theorem dX3_goes_33 : decode cX3_goes 33 = .ok (.ifCond .ne 165, 3) := by decide +kernel
theorem dX3_goes_36 : decode cX3_goes 36 = .ok (.aload_n 0, 1) := by decide +kernel
theorem dX3_goes_37 : decode cX3_goes 37 = .ok (.getfield 262, 3) := by decide +kernel
theorem dX3_goes_40 : decode cX3_goes 40 = .ok (.ifCond .eq 158, 3) := by decide +kernel
theorem dX3_goes_43 : decode cX3_goes 43 = .ok (.aload_n 0, 1) := by decide +kernel
theorem dX3_goes_44 : decode cX3_goes 44 = .ok (.invokevirtual 367, 3) := by decide +kernel
theorem dX3_goes_47 : decode cX3_goes 47 = .ok (.istore_n 2, 1) := by decide +kernel
theorem dX3_goes_48 : decode cX3_goes 48 = .ok (.iload_n 2, 1) := by decide +kernel
theorem dX3_goes_49 : decode cX3_goes 49 = .ok (.iconst (-1), 1) := by decide +kernel
theorem dX3_goes_50 : decode cX3_goes 50 = .ok (.if_icmp .eq 12, 3) := by decide +kernel
theorem dX3_goes_53 : decode cX3_goes 53 = .ok (.aload_n 0, 1) := by decide +kernel
theorem dX3_goes_54 : decode cX3_goes 54 = .ok (.getfield 361, 3) := by decide +kernel
theorem dX3_goes_57 : decode cX3_goes 57 = .ok (.bipush 12, 2) := by decide +kernel
theorem dX3_goes_59 : decode cX3_goes 59 = .ok (.if_icmp .ne 18, 3) := by decide +kernel
theorem dX3_goes_62 : decode cX3_goes 62 = .ok (.aload_n 0, 1) := by decide +kernel
theorem dX3_goes_63 : decode cX3_goes 63 = .ok (.iload_n 2, 1) := by decide +kernel
theorem dX3_goes_64 : decode cX3_goes 64 = .ok (.iconst (-1), 1) := by decide +kernel
theorem dX3_goes_65 : decode cX3_goes 65 = .ok (.if_icmp .ne 7, 3) := by decide +kernel
theorem dX3_goes_68 : decode cX3_goes 68 = .ok (.iconst 1, 1) := by decide +kernel
theorem dX3_goes_69 : decode cX3_goes 69 = .ok (.goto 4, 3) := by decide +kernel
theorem dX3_goes_72 : decode cX3_goes 72 = .ok (.iconst 2, 1) := by decide +kernel
theorem dX3_goes_73 : decode cX3_goes 73 = .ok (.invokevirtual 306, 3) := by decide +kernel
theorem dX3_goes_76 : decode cX3_goes 76 = .ok (.return_, 1) := by decide +kernel
theorem dX3_goes_77 : decode cX3_goes 77 = .ok (.aload_n 0, 1) := by decide +kernel
theorem dX3_goes_78 : decode cX3_goes 78 = .ok (.invokevirtual 309, 3) := by decide +kernel
theorem dX3_goes_81 : decode cX3_goes 81 = .ok (.aload_n 0, 1) := by decide +kernel
theorem dX3_goes_82 : decode cX3_goes 82 = .ok (.invokevirtual 312, 3) := by decide +kernel
theorem dX3_goes_85 : decode cX3_goes 85 = .ok (.istore_n 3, 1) := by decide +kernel
theorem dX3_goes_86 : decode cX3_goes 86 = .ok (.iconst 1, 1) := by decide +kernel
theorem dX3_goes_87 : decode cX3_goes 87 = .ok (.istore 4, 2) := by decide +kernel
theorem dX3_goes_89 : decode cX3_goes 89 = .ok (.aload_n 0, 1) := by decide +kernel
theorem dX3_goes_90 : decode cX3_goes 90 = .ok (.getfield 294, 3) := by decide +kernel
theorem dX3_goes_93 : decode cX3_goes 93 = .ok (.ifCond .ne 23, 3) := by decide +kernel
theorem dX3_goes_96 : decode cX3_goes 96 = .ok (.aload_n 0, 1) := by decide +kernel
theorem dX3_goes_97 : decode cX3_goes 97 = .ok (.ldc2_w 370, 3) := by decide +kernel
theorem dX3_goes_100 : decode cX3_goes 100 = .ok (.invokevirtual 318, 3) := by decide +kernel
theorem dX3_goes_103 : decode cX3_goes 103 = .ok (.ifCond .eq 13, 3) := by decide +kernel
theorem dX3_goes_106 : decode cX3_goes 106 = .ok (.aload_n 0, 1) := by decide +kernel
theorem dX3_goes_107 : decode cX3_goes 107 = .ok (.invokevirtual 309, 3) := by decide +kernel
theorem dX3_goes_110 : decode cX3_goes 110 = .ok (.aload_n 0, 1) := by decide +kernel
theorem dX3_goes_111 : decode cX3_goes 111 = .ok (.invokevirtual 312, 3) := by decide +kernel
theorem dX3_goes_114 : decode cX3_goes 114 = .ok (.istore 4, 2) := by decide +kernel
theorem dX3_goes_116 : decode cX3_goes 116 = .ok (.aload_n 0, 1) := by decide +kernel
theorem dX3_goes_117 : decode cX3_goes 117 = .ok (.getfield 294, 3) := by decide +kernel
theorem dX3_goes_120 : decode cX3_goes 120 = .ok (.ifCond .le 4, 3) := by decide +kernel
theorem dX3_goes_123 : decode cX3_goes 123 = .ok (.return_, 1) := by decide +kernel
theorem dX3_goes_124 : decode cX3_goes 124 = .ok (.aload_n 0, 1) := by decide +kernel
theorem dX3_goes_125 : decode cX3_goes 125 = .ok (.bipush 59, 2) := by decide +kernel
theorem dX3_goes_127 : decode cX3_goes 127 = .ok (.invokevirtual 300, 3) := by decide +kernel
theorem dX3_goes_130 : decode cX3_goes 130 = .ok (.ifCond .ne 9, 3) := by decide +kernel
theorem dX3_goes_133 : decode cX3_goes 133 = .ok (.aload_n 0, 1) := by decide +kernel
theorem dX3_goes_134 : decode cX3_goes 134 = .ok (.iconst 1, 1) := by decide +kernel
theorem dX3_goes_135 : decode cX3_goes 135 = .ok (.invokevirtual 306, 3) := by decide +kernel
theorem dX3_goes_138 : decode cX3_goes 138 = .ok (.return_, 1) := by decide +kernel
theorem dX3_goes_139 : decode cX3_goes 139 = .ok (.aload_n 0, 1) := by decide +kernel
theorem dX3_goes_140 : decode cX3_goes 140 = .ok (.invokevirtual 309, 3) := by decide +kernel
theorem dX3_goes_143 : decode cX3_goes 143 = .ok (.aload_n 0, 1) := by decide +kernel
theorem dX3_goes_144 : decode cX3_goes 144 = .ok (.dup, 1) := by decide +kernel
theorem dX3_goes_145 : decode cX3_goes 145 = .ok (.getfield 361, 3) := by decide +kernel
theorem dX3_goes_148 : decode cX3_goes 148 = .ok (.iconst 1, 1) := by decide +kernel
theorem dX3_goes_149 : decode cX3_goes 149 = .ok (.iadd, 1) := by decide +kernel
theorem dX3_goes_150 : decode cX3_goes 150 = .ok (.putfield 361, 3) := by decide +kernel
theorem dX3_goes_153 : decode cX3_goes 153 = .ok (.iload_n 2, 1) := by decide +kernel
theorem dX3_goes_154 : decode cX3_goes 154 = .ok (.iload_n 1, 1) := by decide +kernel
theorem dX3_goes_155 : decode cX3_goes 155 = .ok (.if_icmp .ne 40, 3) := by decide +kernel
theorem dX3_goes_158 : decode cX3_goes 158 = .ok (.iload 4, 2) := by decide +kernel
theorem dX3_goes_160 : decode cX3_goes 160 = .ok (.ifCond .eq 35, 3) := by decide +kernel
theorem dX3_goes_163 : decode cX3_goes 163 = .ok (.aload_n 0, 1) := by decide +kernel
theorem dX3_goes_164 : decode cX3_goes 164 = .ok (.getfield 364, 3) := by decide +kernel
theorem dX3_goes_167 : decode cX3_goes 167 = .ok (.iconst (-1), 1) := by decide +kernel
theorem dX3_goes_168 : decode cX3_goes 168 = .ok (.if_icmp .ne 27, 3) := by decide +kernel
theorem dX3_goes_171 : decode cX3_goes 171 = .ok (.aload_n 0, 1) := by decide +kernel
theorem dX3_goes_172 : decode cX3_goes 172 = .ok (.iload_n 3, 1) := by decide +kernel
theorem dX3_goes_173 : decode cX3_goes 173 = .ok (.ifCond .ge 7, 3) := by decide +kernel
theorem dX3_goes_176 : decode cX3_goes 176 = .ok (.iconst 0, 1) := by decide +kernel
theorem dX3_goes_177 : decode cX3_goes 177 = .ok (.goto 15, 3) := by decide +kernel
theorem dX3_goes_180 : decode cX3_goes 180 = .ok (.iload_n 3, 1) := by decide +kernel
theorem dX3_goes_181 : decode cX3_goes 181 = .ok (.bipush 100, 2) := by decide +kernel
theorem dX3_goes_183 : decode cX3_goes 183 = .ok (.if_icmp .le 8, 3) := by decide +kernel
theorem dX3_goes_186 : decode cX3_goes 186 = .ok (.bipush 100, 2) := by decide +kernel
theorem dX3_goes_188 : decode cX3_goes 188 = .ok (.goto 4, 3) := by decide +kernel
theorem dX3_goes_191 : decode cX3_goes 191 = .ok (.iload_n 3, 1) := by decide +kernel
theorem dX3_goes_192 : decode cX3_goes 192 = .ok (.putfield 364, 3) := by decide +kernel
theorem dX3_goes_195 : decode cX3_goes 195 = .ok (.goto (-166), 3) := by decide +kernel
theorem dX3_goes_198 : decode cX3_goes 198 = .ok (.return_, 1) := by decide +kernel
abbrev cX3_next : ByteArray := prog_17_method_42_code
def yX3_next : MethodName := ⟨RX3, "next", "()V"⟩
theorem dX3_next_0 : decode cX3_next 0 = .ok (.aload_n 0, 1) := by decide +kernel
theorem dX3_next_1 : decode cX3_next 1 = .ok (.getfield 249, 3) := by decide +kernel
theorem dX3_next_4 : decode cX3_next 4 = .ok (.aload_n 0, 1) := by decide +kernel
theorem dX3_next_5 : decode cX3_next 5 = .ok (.getfield 252, 3) := by decide +kernel
theorem dX3_next_8 : decode cX3_next 8 = .ok (.if_icmp .ge 44, 3) := by decide +kernel
theorem dX3_next_11 : decode cX3_next 11 = .ok (.aload_n 0, 1) := by decide +kernel
theorem dX3_next_12 : decode cX3_next 12 = .ok (.getfield 121, 3) := by decide +kernel
theorem dX3_next_15 : decode cX3_next 15 = .ok (.aload_n 0, 1) := by decide +kernel
theorem dX3_next_16 : decode cX3_next 16 = .ok (.getfield 249, 3) := by decide +kernel
theorem dX3_next_19 : decode cX3_next 19 = .ok (.baload, 1) := by decide +kernel
theorem dX3_next_20 : decode cX3_next 20 = .ok (.bipush 32, 2) := by decide +kernel
theorem dX3_next_22 : decode cX3_next 22 = .ok (.if_icmp .eq 17, 3) := by decide +kernel
theorem dX3_next_25 : decode cX3_next 25 = .ok (.aload_n 0, 1) := by decide +kernel
theorem dX3_next_26 : decode cX3_next 26 = .ok (.getfield 121, 3) := by decide +kernel
theorem dX3_next_29 : decode cX3_next 29 = .ok (.aload_n 0, 1) := by decide +kernel
theorem dX3_next_30 : decode cX3_next 30 = .ok (.getfield 249, 3) := by decide +kernel
theorem dX3_next_33 : decode cX3_next 33 = .ok (.baload, 1) := by decide +kernel
theorem dX3_next_34 : decode cX3_next 34 = .ok (.bipush 10, 2) := by decide +kernel
theorem dX3_next_36 : decode cX3_next 36 = .ok (.if_icmp .ne 16, 3) := by decide +kernel
theorem dX3_next_39 : decode cX3_next 39 = .ok (.aload_n 0, 1) := by decide +kernel
theorem dX3_next_40 : decode cX3_next 40 = .ok (.dup, 1) := by decide +kernel
theorem dX3_next_41 : decode cX3_next 41 = .ok (.getfield 249, 3) := by decide +kernel
theorem dX3_next_44 : decode cX3_next 44 = .ok (.iconst 1, 1) := by decide +kernel
theorem dX3_next_45 : decode cX3_next 45 = .ok (.iadd, 1) := by decide +kernel
theorem dX3_next_46 : decode cX3_next 46 = .ok (.putfield 249, 3) := by decide +kernel
theorem dX3_next_49 : decode cX3_next 49 = .ok (.goto (-49), 3) := by decide +kernel
theorem dX3_next_52 : decode cX3_next 52 = .ok (.aload_n 0, 1) := by decide +kernel
theorem dX3_next_53 : decode cX3_next 53 = .ok (.aload_n 0, 1) := by decide +kernel
theorem dX3_next_54 : decode cX3_next 54 = .ok (.getfield 249, 3) := by decide +kernel
theorem dX3_next_57 : decode cX3_next 57 = .ok (.putfield 255, 3) := by decide +kernel
theorem dX3_next_60 : decode cX3_next 60 = .ok (.aload_n 0, 1) := by decide +kernel
theorem dX3_next_61 : decode cX3_next 61 = .ok (.lconst 0, 1) := by decide +kernel
theorem dX3_next_62 : decode cX3_next 62 = .ok (.putfield 258, 3) := by decide +kernel
theorem dX3_next_65 : decode cX3_next 65 = .ok (.aload_n 0, 1) := by decide +kernel
theorem dX3_next_66 : decode cX3_next 66 = .ok (.getfield 249, 3) := by decide +kernel
theorem dX3_next_69 : decode cX3_next 69 = .ok (.aload_n 0, 1) := by decide +kernel
theorem dX3_next_70 : decode cX3_next 70 = .ok (.getfield 252, 3) := by decide +kernel
theorem dX3_next_73 : decode cX3_next 73 = .ok (.if_icmp .ne 11, 3) := by decide +kernel
theorem dX3_next_76 : decode cX3_next 76 = .ok (.aload_n 0, 1) := by decide +kernel
theorem dX3_next_77 : decode cX3_next 77 = .ok (.iconst 0, 1) := by decide +kernel
theorem dX3_next_78 : decode cX3_next 78 = .ok (.putfield 262, 3) := by decide +kernel
theorem dX3_next_81 : decode cX3_next 81 = .ok (.goto 286, 3) := by decide +kernel
theorem dX3_next_84 : decode cX3_next 84 = .ok (.aload_n 0, 1) := by decide +kernel
theorem dX3_next_85 : decode cX3_next 85 = .ok (.invokevirtual 265, 3) := by decide +kernel
theorem dX3_next_88 : decode cX3_next 88 = .ok (.ifCond .eq 73, 3) := by decide +kernel
theorem dX3_next_91 : decode cX3_next 91 = .ok (.aload_n 0, 1) := by decide +kernel
theorem dX3_next_92 : decode cX3_next 92 = .ok (.iconst 1, 1) := by decide +kernel
theorem dX3_next_93 : decode cX3_next 93 = .ok (.putfield 262, 3) := by decide +kernel
theorem dX3_next_96 : decode cX3_next 96 = .ok (.aload_n 0, 1) := by decide +kernel
theorem dX3_next_97 : decode cX3_next 97 = .ok (.invokevirtual 265, 3) := by decide +kernel
theorem dX3_next_100 : decode cX3_next 100 = .ok (.ifCond .eq 267, 3) := by decide +kernel
theorem dX3_next_103 : decode cX3_next 103 = .ok (.aload_n 0, 1) := by decide +kernel
theorem dX3_next_104 : decode cX3_next 104 = .ok (.aload_n 0, 1) := by decide +kernel
theorem dX3_next_105 : decode cX3_next 105 = .ok (.getfield 249, 3) := by decide +kernel
theorem dX3_next_108 : decode cX3_next 108 = .ok (.aload_n 0, 1) := by decide +kernel
theorem dX3_next_109 : decode cX3_next 109 = .ok (.getfield 255, 3) := by decide +kernel
theorem dX3_next_112 : decode cX3_next 112 = .ok (.isub, 1) := by decide +kernel
theorem dX3_next_113 : decode cX3_next 113 = .ok (.bipush 7, 2) := by decide +kernel
theorem dX3_next_115 : decode cX3_next 115 = .ok (.if_icmp .ge 29, 3) := by decide +kernel
theorem dX3_next_118 : decode cX3_next 118 = .ok (.ldc2_w 269, 3) := by decide +kernel
theorem dX3_next_121 : decode cX3_next 121 = .ok (.aload_n 0, 1) := by decide +kernel
theorem dX3_next_122 : decode cX3_next 122 = .ok (.getfield 258, 3) := by decide +kernel
theorem dX3_next_125 : decode cX3_next 125 = .ok (.lmul, 1) := by decide +kernel
theorem dX3_next_126 : decode cX3_next 126 = .ok (.aload_n 0, 1) := by decide +kernel
theorem dX3_next_127 : decode cX3_next 127 = .ok (.getfield 121, 3) := by decide +kernel
theorem dX3_next_130 : decode cX3_next 130 = .ok (.aload_n 0, 1) := by decide +kernel
theorem dX3_next_131 : decode cX3_next 131 = .ok (.getfield 249, 3) := by decide +kernel
theorem dX3_next_134 : decode cX3_next 134 = .ok (.baload, 1) := by decide +kernel
theorem dX3_next_135 : decode cX3_next 135 = .ok (.i2l, 1) := by decide +kernel
theorem dX3_next_136 : decode cX3_next 136 = .ok (.ladd, 1) := by decide +kernel
theorem dX3_next_137 : decode cX3_next 137 = .ok (.ldc2_w 271, 3) := by decide +kernel
theorem dX3_next_140 : decode cX3_next 140 = .ok (.lsub, 1) := by decide +kernel
theorem dX3_next_141 : decode cX3_next 141 = .ok (.goto 4, 3) := by decide +kernel
theorem dX3_next_144 : decode cX3_next 144 = .ok (.lconst 0, 1) := by decide +kernel
theorem dX3_next_145 : decode cX3_next 145 = .ok (.putfield 258, 3) := by decide +kernel
theorem dX3_next_148 : decode cX3_next 148 = .ok (.aload_n 0, 1) := by decide +kernel
theorem dX3_next_149 : decode cX3_next 149 = .ok (.dup, 1) := by decide +kernel
theorem dX3_next_150 : decode cX3_next 150 = .ok (.getfield 249, 3) := by decide +kernel
theorem dX3_next_153 : decode cX3_next 153 = .ok (.iconst 1, 1) := by decide +kernel
theorem dX3_next_154 : decode cX3_next 154 = .ok (.iadd, 1) := by decide +kernel
theorem dX3_next_155 : decode cX3_next 155 = .ok (.putfield 249, 3) := by decide +kernel
theorem dX3_next_158 : decode cX3_next 158 = .ok (.goto (-62), 3) := by decide +kernel
theorem dX3_next_161 : decode cX3_next 161 = .ok (.aload_n 0, 1) := by decide +kernel
theorem dX3_next_162 : decode cX3_next 162 = .ok (.invokevirtual 273, 3) := by decide +kernel
theorem dX3_next_165 : decode cX3_next 165 = .ok (.ifCond .eq 92, 3) := by decide +kernel
theorem dX3_next_168 : decode cX3_next 168 = .ok (.aload_n 0, 1) := by decide +kernel
theorem dX3_next_169 : decode cX3_next 169 = .ok (.invokevirtual 273, 3) := by decide +kernel
theorem dX3_next_172 : decode cX3_next 172 = .ok (.ifCond .eq 60, 3) := by decide +kernel
theorem dX3_next_175 : decode cX3_next 175 = .ok (.aload_n 0, 1) := by decide +kernel
theorem dX3_next_176 : decode cX3_next 176 = .ok (.aload_n 0, 1) := by decide +kernel
theorem dX3_next_177 : decode cX3_next 177 = .ok (.getfield 249, 3) := by decide +kernel
theorem dX3_next_180 : decode cX3_next 180 = .ok (.aload_n 0, 1) := by decide +kernel
theorem dX3_next_181 : decode cX3_next 181 = .ok (.getfield 255, 3) := by decide +kernel
theorem dX3_next_184 : decode cX3_next 184 = .ok (.isub, 1) := by decide +kernel
theorem dX3_next_185 : decode cX3_next 185 = .ok (.iconst 4, 1) := by decide +kernel
theorem dX3_next_186 : decode cX3_next 186 = .ok (.if_icmp .ge 29, 3) := by decide +kernel
theorem dX3_next_189 : decode cX3_next 189 = .ok (.ldc2_w 276, 3) := by decide +kernel
theorem dX3_next_192 : decode cX3_next 192 = .ok (.aload_n 0, 1) := by decide +kernel
theorem dX3_next_193 : decode cX3_next 193 = .ok (.getfield 258, 3) := by decide +kernel
theorem dX3_next_196 : decode cX3_next 196 = .ok (.lmul, 1) := by decide +kernel
theorem dX3_next_197 : decode cX3_next 197 = .ok (.aload_n 0, 1) := by decide +kernel
theorem dX3_next_198 : decode cX3_next 198 = .ok (.getfield 121, 3) := by decide +kernel
theorem dX3_next_201 : decode cX3_next 201 = .ok (.aload_n 0, 1) := by decide +kernel
theorem dX3_next_202 : decode cX3_next 202 = .ok (.getfield 249, 3) := by decide +kernel
theorem dX3_next_205 : decode cX3_next 205 = .ok (.baload, 1) := by decide +kernel
theorem dX3_next_206 : decode cX3_next 206 = .ok (.i2l, 1) := by decide +kernel
theorem dX3_next_207 : decode cX3_next 207 = .ok (.ladd, 1) := by decide +kernel
theorem dX3_next_208 : decode cX3_next 208 = .ok (.ldc2_w 278, 3) := by decide +kernel
theorem dX3_next_211 : decode cX3_next 211 = .ok (.lsub, 1) := by decide +kernel
theorem dX3_next_212 : decode cX3_next 212 = .ok (.goto 4, 3) := by decide +kernel
theorem dX3_next_215 : decode cX3_next 215 = .ok (.lconst 0, 1) := by decide +kernel
theorem dX3_next_216 : decode cX3_next 216 = .ok (.putfield 258, 3) := by decide +kernel
theorem dX3_next_219 : decode cX3_next 219 = .ok (.aload_n 0, 1) := by decide +kernel
theorem dX3_next_220 : decode cX3_next 220 = .ok (.dup, 1) := by decide +kernel
theorem dX3_next_221 : decode cX3_next 221 = .ok (.getfield 249, 3) := by decide +kernel
theorem dX3_next_224 : decode cX3_next 224 = .ok (.iconst 1, 1) := by decide +kernel
theorem dX3_next_225 : decode cX3_next 225 = .ok (.iadd, 1) := by decide +kernel
theorem dX3_next_226 : decode cX3_next 226 = .ok (.putfield 249, 3) := by decide +kernel
theorem dX3_next_229 : decode cX3_next 229 = .ok (.goto (-61), 3) := by decide +kernel
theorem dX3_next_232 : decode cX3_next 232 = .ok (.aload_n 0, 1) := by decide +kernel
theorem dX3_next_233 : decode cX3_next 233 = .ok (.aload_n 0, 1) := by decide +kernel
theorem dX3_next_234 : decode cX3_next 234 = .ok (.getfield 249, 3) := by decide +kernel
theorem dX3_next_237 : decode cX3_next 237 = .ok (.aload_n 0, 1) := by decide +kernel
theorem dX3_next_238 : decode cX3_next 238 = .ok (.getfield 255, 3) := by decide +kernel
theorem dX3_next_241 : decode cX3_next 241 = .ok (.isub, 1) := by decide +kernel
theorem dX3_next_242 : decode cX3_next 242 = .ok (.iconst 4, 1) := by decide +kernel
theorem dX3_next_243 : decode cX3_next 243 = .ok (.if_icmp .le 7, 3) := by decide +kernel
theorem dX3_next_246 : decode cX3_next 246 = .ok (.iconst 4, 1) := by decide +kernel
theorem dX3_next_247 : decode cX3_next 247 = .ok (.goto 4, 3) := by decide +kernel
theorem dX3_next_250 : decode cX3_next 250 = .ok (.iconst 2, 1) := by decide +kernel
theorem dX3_next_251 : decode cX3_next 251 = .ok (.putfield 262, 3) := by decide +kernel
theorem dX3_next_254 : decode cX3_next 254 = .ok (.goto 113, 3) := by decide +kernel
theorem dX3_next_257 : decode cX3_next 257 = .ok (.aload_n 0, 1) := by decide +kernel
theorem dX3_next_258 : decode cX3_next 258 = .ok (.aload_n 0, 1) := by decide +kernel
theorem dX3_next_259 : decode cX3_next 259 = .ok (.getfield 121, 3) := by decide +kernel
theorem dX3_next_262 : decode cX3_next 262 = .ok (.aload_n 0, 1) := by decide +kernel
theorem dX3_next_263 : decode cX3_next 263 = .ok (.getfield 249, 3) := by decide +kernel
theorem dX3_next_266 : decode cX3_next 266 = .ok (.baload, 1) := by decide +kernel
theorem dX3_next_267 : decode cX3_next 267 = .ok (.i2l, 1) := by decide +kernel
theorem dX3_next_268 : decode cX3_next 268 = .ok (.putfield 258, 3) := by decide +kernel
theorem dX3_next_271 : decode cX3_next 271 = .ok (.aload_n 0, 1) := by decide +kernel
theorem dX3_next_272 : decode cX3_next 272 = .ok (.aload_n 0, 1) := by decide +kernel
theorem dX3_next_273 : decode cX3_next 273 = .ok (.getfield 258, 3) := by decide +kernel
theorem dX3_next_276 : decode cX3_next 276 = .ok (.ldc2_w 280, 3) := by decide +kernel
theorem dX3_next_279 : decode cX3_next 279 = .ok (.lcmp, 1) := by decide +kernel
theorem dX3_next_280 : decode cX3_next 280 = .ok (.ifCond .eq 69, 3) := by decide +kernel
theorem dX3_next_283 : decode cX3_next 283 = .ok (.aload_n 0, 1) := by decide +kernel
theorem dX3_next_284 : decode cX3_next 284 = .ok (.getfield 258, 3) := by decide +kernel
theorem dX3_next_287 : decode cX3_next 287 = .ok (.ldc2_w 282, 3) := by decide +kernel
theorem dX3_next_290 : decode cX3_next 290 = .ok (.lcmp, 1) := by decide +kernel
theorem dX3_next_291 : decode cX3_next 291 = .ok (.ifCond .eq 58, 3) := by decide +kernel
theorem dX3_next_294 : decode cX3_next 294 = .ok (.aload_n 0, 1) := by decide +kernel
theorem dX3_next_295 : decode cX3_next 295 = .ok (.getfield 258, 3) := by decide +kernel
theorem dX3_next_298 : decode cX3_next 298 = .ok (.ldc2_w 284, 3) := by decide +kernel
theorem dX3_next_301 : decode cX3_next 301 = .ok (.lcmp, 1) := by decide +kernel
theorem dX3_next_302 : decode cX3_next 302 = .ok (.ifCond .eq 47, 3) := by decide +kernel
theorem dX3_next_305 : decode cX3_next 305 = .ok (.aload_n 0, 1) := by decide +kernel
theorem dX3_next_306 : decode cX3_next 306 = .ok (.getfield 258, 3) := by decide +kernel
theorem dX3_next_309 : decode cX3_next 309 = .ok (.ldc2_w 286, 3) := by decide +kernel
theorem dX3_next_312 : decode cX3_next 312 = .ok (.lcmp, 1) := by decide +kernel
theorem dX3_next_313 : decode cX3_next 313 = .ok (.ifCond .eq 36, 3) := by decide +kernel
theorem dX3_next_316 : decode cX3_next 316 = .ok (.aload_n 0, 1) := by decide +kernel
theorem dX3_next_317 : decode cX3_next 317 = .ok (.getfield 258, 3) := by decide +kernel
theorem dX3_next_320 : decode cX3_next 320 = .ok (.ldc2_w 288, 3) := by decide +kernel
theorem dX3_next_323 : decode cX3_next 323 = .ok (.lcmp, 1) := by decide +kernel
theorem dX3_next_324 : decode cX3_next 324 = .ok (.ifCond .eq 25, 3) := by decide +kernel
theorem dX3_next_327 : decode cX3_next 327 = .ok (.aload_n 0, 1) := by decide +kernel
theorem dX3_next_328 : decode cX3_next 328 = .ok (.getfield 258, 3) := by decide +kernel
theorem dX3_next_331 : decode cX3_next 331 = .ok (.ldc2_w 290, 3) := by decide +kernel
theorem dX3_next_334 : decode cX3_next 334 = .ok (.lcmp, 1) := by decide +kernel
theorem dX3_next_335 : decode cX3_next 335 = .ok (.ifCond .eq 14, 3) := by decide +kernel
theorem dX3_next_338 : decode cX3_next 338 = .ok (.aload_n 0, 1) := by decide +kernel
theorem dX3_next_339 : decode cX3_next 339 = .ok (.getfield 258, 3) := by decide +kernel
theorem dX3_next_342 : decode cX3_next 342 = .ok (.ldc2_w 292, 3) := by decide +kernel
theorem dX3_next_345 : decode cX3_next 345 = .ok (.lcmp, 1) := by decide +kernel
theorem dX3_next_346 : decode cX3_next 346 = .ok (.ifCond .ne 7, 3) := by decide +kernel
theorem dX3_next_349 : decode cX3_next 349 = .ok (.iconst 3, 1) := by decide +kernel
theorem dX3_next_350 : decode cX3_next 350 = .ok (.goto 4, 3) := by decide +kernel
theorem dX3_next_353 : decode cX3_next 353 = .ok (.iconst 4, 1) := by decide +kernel
theorem dX3_next_354 : decode cX3_next 354 = .ok (.putfield 262, 3) := by decide +kernel
theorem dX3_next_357 : decode cX3_next 357 = .ok (.aload_n 0, 1) := by decide +kernel
theorem dX3_next_358 : decode cX3_next 358 = .ok (.dup, 1) := by decide +kernel
theorem dX3_next_359 : decode cX3_next 359 = .ok (.getfield 249, 3) := by decide +kernel
theorem dX3_next_362 : decode cX3_next 362 = .ok (.iconst 1, 1) := by decide +kernel
theorem dX3_next_363 : decode cX3_next 363 = .ok (.iadd, 1) := by decide +kernel
theorem dX3_next_364 : decode cX3_next 364 = .ok (.putfield 249, 3) := by decide +kernel
theorem dX3_next_367 : decode cX3_next 367 = .ok (.return_, 1) := by decide +kernel
abbrev cX3_isSmall : ByteArray := prog_17_method_40_code
def yX3_isSmall : MethodName := ⟨RX3, "isSmall", "()Z"⟩
theorem dX3_isSmall_0 : decode cX3_isSmall 0 = .ok (.aload_n 0, 1) := by decide +kernel
theorem dX3_isSmall_1 : decode cX3_isSmall 1 = .ok (.getfield 249, 3) := by decide +kernel
theorem dX3_isSmall_4 : decode cX3_isSmall 4 = .ok (.aload_n 0, 1) := by decide +kernel
theorem dX3_isSmall_5 : decode cX3_isSmall 5 = .ok (.getfield 252, 3) := by decide +kernel
theorem dX3_isSmall_8 : decode cX3_isSmall 8 = .ok (.if_icmp .ge 35, 3) := by decide +kernel
theorem dX3_isSmall_11 : decode cX3_isSmall 11 = .ok (.aload_n 0, 1) := by decide +kernel
theorem dX3_isSmall_12 : decode cX3_isSmall 12 = .ok (.getfield 121, 3) := by decide +kernel
theorem dX3_isSmall_15 : decode cX3_isSmall 15 = .ok (.aload_n 0, 1) := by decide +kernel
theorem dX3_isSmall_16 : decode cX3_isSmall 16 = .ok (.getfield 249, 3) := by decide +kernel
theorem dX3_isSmall_19 : decode cX3_isSmall 19 = .ok (.baload, 1) := by decide +kernel
theorem dX3_isSmall_20 : decode cX3_isSmall 20 = .ok (.bipush 97, 2) := by decide +kernel
theorem dX3_isSmall_22 : decode cX3_isSmall 22 = .ok (.if_icmp .lt 21, 3) := by decide +kernel
theorem dX3_isSmall_25 : decode cX3_isSmall 25 = .ok (.aload_n 0, 1) := by decide +kernel
theorem dX3_isSmall_26 : decode cX3_isSmall 26 = .ok (.getfield 121, 3) := by decide +kernel
theorem dX3_isSmall_29 : decode cX3_isSmall 29 = .ok (.aload_n 0, 1) := by decide +kernel
theorem dX3_isSmall_30 : decode cX3_isSmall 30 = .ok (.getfield 249, 3) := by decide +kernel
theorem dX3_isSmall_33 : decode cX3_isSmall 33 = .ok (.baload, 1) := by decide +kernel
theorem dX3_isSmall_34 : decode cX3_isSmall 34 = .ok (.bipush 122, 2) := by decide +kernel
theorem dX3_isSmall_36 : decode cX3_isSmall 36 = .ok (.if_icmp .gt 7, 3) := by decide +kernel
theorem dX3_isSmall_39 : decode cX3_isSmall 39 = .ok (.iconst 1, 1) := by decide +kernel
theorem dX3_isSmall_40 : decode cX3_isSmall 40 = .ok (.goto 4, 3) := by decide +kernel
theorem dX3_isSmall_43 : decode cX3_isSmall 43 = .ok (.iconst 0, 1) := by decide +kernel
theorem dX3_isSmall_44 : decode cX3_isSmall 44 = .ok (.ireturn, 1) := by decide +kernel
abbrev cX3_isDigit : ByteArray := prog_17_method_41_code
def yX3_isDigit : MethodName := ⟨RX3, "isDigit", "()Z"⟩
theorem dX3_isDigit_0 : decode cX3_isDigit 0 = .ok (.aload_n 0, 1) := by decide +kernel
theorem dX3_isDigit_1 : decode cX3_isDigit 1 = .ok (.getfield 249, 3) := by decide +kernel
theorem dX3_isDigit_4 : decode cX3_isDigit 4 = .ok (.aload_n 0, 1) := by decide +kernel
theorem dX3_isDigit_5 : decode cX3_isDigit 5 = .ok (.getfield 252, 3) := by decide +kernel
theorem dX3_isDigit_8 : decode cX3_isDigit 8 = .ok (.if_icmp .ge 35, 3) := by decide +kernel
theorem dX3_isDigit_11 : decode cX3_isDigit 11 = .ok (.aload_n 0, 1) := by decide +kernel
theorem dX3_isDigit_12 : decode cX3_isDigit 12 = .ok (.getfield 121, 3) := by decide +kernel
theorem dX3_isDigit_15 : decode cX3_isDigit 15 = .ok (.aload_n 0, 1) := by decide +kernel
theorem dX3_isDigit_16 : decode cX3_isDigit 16 = .ok (.getfield 249, 3) := by decide +kernel
theorem dX3_isDigit_19 : decode cX3_isDigit 19 = .ok (.baload, 1) := by decide +kernel
theorem dX3_isDigit_20 : decode cX3_isDigit 20 = .ok (.bipush 48, 2) := by decide +kernel
theorem dX3_isDigit_22 : decode cX3_isDigit 22 = .ok (.if_icmp .lt 21, 3) := by decide +kernel
theorem dX3_isDigit_25 : decode cX3_isDigit 25 = .ok (.aload_n 0, 1) := by decide +kernel
theorem dX3_isDigit_26 : decode cX3_isDigit 26 = .ok (.getfield 121, 3) := by decide +kernel
theorem dX3_isDigit_29 : decode cX3_isDigit 29 = .ok (.aload_n 0, 1) := by decide +kernel
theorem dX3_isDigit_30 : decode cX3_isDigit 30 = .ok (.getfield 249, 3) := by decide +kernel
theorem dX3_isDigit_33 : decode cX3_isDigit 33 = .ok (.baload, 1) := by decide +kernel
theorem dX3_isDigit_34 : decode cX3_isDigit 34 = .ok (.bipush 57, 2) := by decide +kernel
theorem dX3_isDigit_36 : decode cX3_isDigit 36 = .ok (.if_icmp .gt 7, 3) := by decide +kernel
theorem dX3_isDigit_39 : decode cX3_isDigit 39 = .ok (.iconst 1, 1) := by decide +kernel
theorem dX3_isDigit_40 : decode cX3_isDigit 40 = .ok (.goto 4, 3) := by decide +kernel
theorem dX3_isDigit_43 : decode cX3_isDigit 43 = .ok (.iconst 0, 1) := by decide +kernel
theorem dX3_isDigit_44 : decode cX3_isDigit 44 = .ok (.ireturn, 1) := by decide +kernel
abbrev cX3_kindHere : ByteArray := prog_17_method_50_code
def yX3_kindHere : MethodName := ⟨RX3, "kindHere", "()I"⟩
theorem dX3_kindHere_0 : decode cX3_kindHere 0 = .ok (.aload_n 0, 1) := by decide +kernel
theorem dX3_kindHere_1 : decode cX3_kindHere 1 = .ok (.ldc2_w 353, 3) := by decide +kernel
theorem dX3_kindHere_4 : decode cX3_kindHere 4 = .ok (.invokevirtual 318, 3) := by decide +kernel
theorem dX3_kindHere_7 : decode cX3_kindHere 7 = .ok (.ifCond .eq 7, 3) := by decide +kernel
theorem dX3_kindHere_10 : decode cX3_kindHere 10 = .ok (.iconst 0, 1) := by decide +kernel
theorem dX3_kindHere_11 : decode cX3_kindHere 11 = .ok (.goto 46, 3) := by decide +kernel
theorem dX3_kindHere_14 : decode cX3_kindHere 14 = .ok (.aload_n 0, 1) := by decide +kernel
theorem dX3_kindHere_15 : decode cX3_kindHere 15 = .ok (.ldc2_w 355, 3) := by decide +kernel
theorem dX3_kindHere_18 : decode cX3_kindHere 18 = .ok (.invokevirtual 318, 3) := by decide +kernel
theorem dX3_kindHere_21 : decode cX3_kindHere 21 = .ok (.ifCond .eq 7, 3) := by decide +kernel
theorem dX3_kindHere_24 : decode cX3_kindHere 24 = .ok (.iconst 1, 1) := by decide +kernel
theorem dX3_kindHere_25 : decode cX3_kindHere 25 = .ok (.goto 32, 3) := by decide +kernel
theorem dX3_kindHere_28 : decode cX3_kindHere 28 = .ok (.aload_n 0, 1) := by decide +kernel
theorem dX3_kindHere_29 : decode cX3_kindHere 29 = .ok (.ldc2_w 357, 3) := by decide +kernel
theorem dX3_kindHere_32 : decode cX3_kindHere 32 = .ok (.invokevirtual 318, 3) := by decide +kernel
theorem dX3_kindHere_35 : decode cX3_kindHere 35 = .ok (.ifCond .eq 7, 3) := by decide +kernel
theorem dX3_kindHere_38 : decode cX3_kindHere 38 = .ok (.iconst 2, 1) := by decide +kernel
theorem dX3_kindHere_39 : decode cX3_kindHere 39 = .ok (.goto 18, 3) := by decide +kernel
theorem dX3_kindHere_42 : decode cX3_kindHere 42 = .ok (.aload_n 0, 1) := by decide +kernel
theorem dX3_kindHere_43 : decode cX3_kindHere 43 = .ok (.ldc2_w 359, 3) := by decide +kernel
theorem dX3_kindHere_46 : decode cX3_kindHere 46 = .ok (.invokevirtual 318, 3) := by decide +kernel
theorem dX3_kindHere_49 : decode cX3_kindHere 49 = .ok (.ifCond .eq 7, 3) := by decide +kernel
theorem dX3_kindHere_52 : decode cX3_kindHere 52 = .ok (.iconst 3, 1) := by decide +kernel
theorem dX3_kindHere_53 : decode cX3_kindHere 53 = .ok (.goto 4, 3) := by decide +kernel
theorem dX3_kindHere_56 : decode cX3_kindHere 56 = .ok (.iconst (-1), 1) := by decide +kernel
theorem dX3_kindHere_57 : decode cX3_kindHere 57 = .ok (.ireturn, 1) := by decide +kernel
abbrev cX3_isWord : ByteArray := prog_17_method_44_code
def yX3_isWord : MethodName := ⟨RX3, "isWord", "(J)Z"⟩
theorem dX3_isWord_0 : decode cX3_isWord 0 = .ok (.aload_n 0, 1) := by decide +kernel
theorem dX3_isWord_1 : decode cX3_isWord 1 = .ok (.getfield 262, 3) := by decide +kernel
theorem dX3_isWord_4 : decode cX3_isWord 4 = .ok (.iconst 1, 1) := by decide +kernel
theorem dX3_isWord_5 : decode cX3_isWord 5 = .ok (.if_icmp .ne 16, 3) := by decide +kernel
theorem dX3_isWord_8 : decode cX3_isWord 8 = .ok (.aload_n 0, 1) := by decide +kernel
theorem dX3_isWord_9 : decode cX3_isWord 9 = .ok (.getfield 258, 3) := by decide +kernel
theorem dX3_isWord_12 : decode cX3_isWord 12 = .ok (.lload_n 1, 1) := by decide +kernel
theorem dX3_isWord_13 : decode cX3_isWord 13 = .ok (.lcmp, 1) := by decide +kernel
theorem dX3_isWord_14 : decode cX3_isWord 14 = .ok (.ifCond .ne 7, 3) := by decide +kernel
theorem dX3_isWord_17 : decode cX3_isWord 17 = .ok (.iconst 1, 1) := by decide +kernel
theorem dX3_isWord_18 : decode cX3_isWord 18 = .ok (.goto 4, 3) := by decide +kernel
theorem dX3_isWord_21 : decode cX3_isWord 21 = .ok (.iconst 0, 1) := by decide +kernel
theorem dX3_isWord_22 : decode cX3_isWord 22 = .ok (.ireturn, 1) := by decide +kernel
abbrev cX3_wrong : ByteArray := prog_17_method_45_code
def yX3_wrong : MethodName := ⟨RX3, "wrong", "(I)V"⟩
theorem dX3_wrong_0 : decode cX3_wrong 0 = .ok (.aload_n 0, 1) := by decide +kernel
theorem dX3_wrong_1 : decode cX3_wrong 1 = .ok (.getfield 294, 3) := by decide +kernel
theorem dX3_wrong_4 : decode cX3_wrong 4 = .ok (.ifCond .le 4, 3) := by decide +kernel
theorem dX3_wrong_7 : decode cX3_wrong 7 = .ok (.return_, 1) := by decide +kernel
theorem dX3_wrong_8 : decode cX3_wrong 8 = .ok (.aload_n 0, 1) := by decide +kernel
theorem dX3_wrong_9 : decode cX3_wrong 9 = .ok (.iload_n 1, 1) := by decide +kernel
theorem dX3_wrong_10 : decode cX3_wrong 10 = .ok (.putfield 294, 3) := by decide +kernel
theorem dX3_wrong_13 : decode cX3_wrong 13 = .ok (.aload_n 0, 1) := by decide +kernel
theorem dX3_wrong_14 : decode cX3_wrong 14 = .ok (.aload_n 0, 1) := by decide +kernel
theorem dX3_wrong_15 : decode cX3_wrong 15 = .ok (.getfield 255, 3) := by decide +kernel
theorem dX3_wrong_18 : decode cX3_wrong 18 = .ok (.putfield 297, 3) := by decide +kernel
theorem dX3_wrong_21 : decode cX3_wrong 21 = .ok (.aload_n 0, 1) := by decide +kernel
theorem dX3_wrong_22 : decode cX3_wrong 22 = .ok (.iconst 0, 1) := by decide +kernel
theorem dX3_wrong_23 : decode cX3_wrong 23 = .ok (.putfield 262, 3) := by decide +kernel
theorem dX3_wrong_26 : decode cX3_wrong 26 = .ok (.return_, 1) := by decide +kernel
abbrev cX3_whole : ByteArray := prog_17_method_49_code
def yX3_whole : MethodName := ⟨RX3, "whole", "()I"⟩
theorem dX3_whole_0 : decode cX3_whole 0 = .ok (.aload_n 0, 1) := by decide +kernel
theorem dX3_whole_1 : decode cX3_whole 1 = .ok (.invokevirtual 348, 3) := by decide +kernel
theorem dX3_whole_4 : decode cX3_whole 4 = .ok (.istore_n 1, 1) := by decide +kernel
theorem dX3_whole_5 : decode cX3_whole 5 = .ok (.aload_n 0, 1) := by decide +kernel
theorem dX3_whole_6 : decode cX3_whole 6 = .ok (.getfield 294, 3) := by decide +kernel
theorem dX3_whole_9 : decode cX3_whole 9 = .ok (.ifCond .ne 39, 3) := by decide +kernel
theorem dX3_whole_12 : decode cX3_whole 12 = .ok (.aload_n 0, 1) := by decide +kernel
theorem dX3_whole_13 : decode cX3_whole 13 = .ok (.ldc2_w 351, 3) := by decide +kernel
theorem dX3_whole_16 : decode cX3_whole 16 = .ok (.invokevirtual 318, 3) := by decide +kernel
theorem dX3_whole_19 : decode cX3_whole 19 = .ok (.ifCond .eq 29, 3) := by decide +kernel
theorem dX3_whole_22 : decode cX3_whole 22 = .ok (.aload_n 0, 1) := by decide +kernel
theorem dX3_whole_23 : decode cX3_whole 23 = .ok (.invokevirtual 309, 3) := by decide +kernel
theorem dX3_whole_26 : decode cX3_whole 26 = .ok (.aload_n 0, 1) := by decide +kernel
theorem dX3_whole_27 : decode cX3_whole 27 = .ok (.invokevirtual 348, 3) := by decide +kernel
theorem dX3_whole_30 : decode cX3_whole 30 = .ok (.istore_n 2, 1) := by decide +kernel
theorem dX3_whole_31 : decode cX3_whole 31 = .ok (.iload_n 1, 1) := by decide +kernel
theorem dX3_whole_32 : decode cX3_whole 32 = .ok (.ifCond .eq 11, 3) := by decide +kernel
theorem dX3_whole_35 : decode cX3_whole 35 = .ok (.iload_n 2, 1) := by decide +kernel
theorem dX3_whole_36 : decode cX3_whole 36 = .ok (.ifCond .eq 7, 3) := by decide +kernel
theorem dX3_whole_39 : decode cX3_whole 39 = .ok (.iconst 1, 1) := by decide +kernel
theorem dX3_whole_40 : decode cX3_whole 40 = .ok (.goto 4, 3) := by decide +kernel
theorem dX3_whole_43 : decode cX3_whole 43 = .ok (.iconst 0, 1) := by decide +kernel
theorem dX3_whole_44 : decode cX3_whole 44 = .ok (.istore_n 1, 1) := by decide +kernel
theorem dX3_whole_45 : decode cX3_whole 45 = .ok (.goto (-40), 3) := by decide +kernel
theorem dX3_whole_48 : decode cX3_whole 48 = .ok (.iload_n 1, 1) := by decide +kernel
theorem dX3_whole_49 : decode cX3_whole 49 = .ok (.ireturn, 1) := by decide +kernel
abbrev cX3_test : ByteArray := prog_17_method_48_code
def yX3_test : MethodName := ⟨RX3, "test", "()I"⟩
theorem dX3_test_0 : decode cX3_test 0 = .ok (.aload_n 0, 1) := by decide +kernel
theorem dX3_test_1 : decode cX3_test 1 = .ok (.invokevirtual 345, 3) := by decide +kernel
theorem dX3_test_4 : decode cX3_test 4 = .ok (.istore_n 1, 1) := by decide +kernel
theorem dX3_test_5 : decode cX3_test 5 = .ok (.aload_n 0, 1) := by decide +kernel
theorem dX3_test_6 : decode cX3_test 6 = .ok (.getfield 294, 3) := by decide +kernel
theorem dX3_test_9 : decode cX3_test 9 = .ok (.ifCond .gt 21, 3) := by decide +kernel
theorem dX3_test_12 : decode cX3_test 12 = .ok (.aload_n 0, 1) := by decide +kernel
theorem dX3_test_13 : decode cX3_test 13 = .ok (.bipush 60, 2) := by decide +kernel
theorem dX3_test_15 : decode cX3_test 15 = .ok (.invokevirtual 300, 3) := by decide +kernel
theorem dX3_test_18 : decode cX3_test 18 = .ok (.ifCond .ne 14, 3) := by decide +kernel
theorem dX3_test_21 : decode cX3_test 21 = .ok (.aload_n 0, 1) := by decide +kernel
theorem dX3_test_22 : decode cX3_test 22 = .ok (.bipush 61, 2) := by decide +kernel
theorem dX3_test_24 : decode cX3_test 24 = .ok (.invokevirtual 300, 3) := by decide +kernel
theorem dX3_test_27 : decode cX3_test 27 = .ok (.ifCond .ne 5, 3) := by decide +kernel
theorem dX3_test_30 : decode cX3_test 30 = .ok (.iload_n 1, 1) := by decide +kernel
theorem dX3_test_31 : decode cX3_test 31 = .ok (.ireturn, 1) := by decide +kernel
theorem dX3_test_32 : decode cX3_test 32 = .ok (.aload_n 0, 1) := by decide +kernel
theorem dX3_test_33 : decode cX3_test 33 = .ok (.bipush 60, 2) := by decide +kernel
theorem dX3_test_35 : decode cX3_test 35 = .ok (.invokevirtual 300, 3) := by decide +kernel
theorem dX3_test_38 : decode cX3_test 38 = .ok (.istore_n 2, 1) := by decide +kernel
theorem dX3_test_39 : decode cX3_test 39 = .ok (.aload_n 0, 1) := by decide +kernel
theorem dX3_test_40 : decode cX3_test 40 = .ok (.invokevirtual 309, 3) := by decide +kernel
theorem dX3_test_43 : decode cX3_test 43 = .ok (.aload_n 0, 1) := by decide +kernel
theorem dX3_test_44 : decode cX3_test 44 = .ok (.invokevirtual 345, 3) := by decide +kernel
theorem dX3_test_47 : decode cX3_test 47 = .ok (.istore_n 3, 1) := by decide +kernel
theorem dX3_test_48 : decode cX3_test 48 = .ok (.iload_n 2, 1) := by decide +kernel
theorem dX3_test_49 : decode cX3_test 49 = .ok (.ifCond .eq 11, 3) := by decide +kernel
theorem dX3_test_52 : decode cX3_test 52 = .ok (.iload_n 1, 1) := by decide +kernel
theorem dX3_test_53 : decode cX3_test 53 = .ok (.iload_n 3, 1) := by decide +kernel
theorem dX3_test_54 : decode cX3_test 54 = .ok (.if_icmp .ge 15, 3) := by decide +kernel
theorem dX3_test_57 : decode cX3_test 57 = .ok (.goto 8, 3) := by decide +kernel
theorem dX3_test_60 : decode cX3_test 60 = .ok (.iload_n 1, 1) := by decide +kernel
theorem dX3_test_61 : decode cX3_test 61 = .ok (.iload_n 3, 1) := by decide +kernel
theorem dX3_test_62 : decode cX3_test 62 = .ok (.if_icmp .ne 7, 3) := by decide +kernel
theorem dX3_test_65 : decode cX3_test 65 = .ok (.iconst 1, 1) := by decide +kernel
theorem dX3_test_66 : decode cX3_test 66 = .ok (.goto 4, 3) := by decide +kernel
theorem dX3_test_69 : decode cX3_test 69 = .ok (.iconst 0, 1) := by decide +kernel
theorem dX3_test_70 : decode cX3_test 70 = .ok (.ireturn, 1) := by decide +kernel
abbrev cX3_sum : ByteArray := prog_17_method_47_code
def yX3_sum : MethodName := ⟨RX3, "sum", "()I"⟩
theorem dX3_sum_0 : decode cX3_sum 0 = .ok (.aload_n 0, 1) := by decide +kernel
theorem dX3_sum_1 : decode cX3_sum 1 = .ok (.invokevirtual 342, 3) := by decide +kernel
theorem dX3_sum_4 : decode cX3_sum 4 = .ok (.istore_n 1, 1) := by decide +kernel
theorem dX3_sum_5 : decode cX3_sum 5 = .ok (.aload_n 0, 1) := by decide +kernel
theorem dX3_sum_6 : decode cX3_sum 6 = .ok (.getfield 294, 3) := by decide +kernel
theorem dX3_sum_9 : decode cX3_sum 9 = .ok (.ifCond .ne 54, 3) := by decide +kernel
theorem dX3_sum_12 : decode cX3_sum 12 = .ok (.aload_n 0, 1) := by decide +kernel
theorem dX3_sum_13 : decode cX3_sum 13 = .ok (.bipush 43, 2) := by decide +kernel
theorem dX3_sum_15 : decode cX3_sum 15 = .ok (.invokevirtual 300, 3) := by decide +kernel
theorem dX3_sum_18 : decode cX3_sum 18 = .ok (.ifCond .ne 12, 3) := by decide +kernel
theorem dX3_sum_21 : decode cX3_sum 21 = .ok (.aload_n 0, 1) := by decide +kernel
theorem dX3_sum_22 : decode cX3_sum 22 = .ok (.bipush 45, 2) := by decide +kernel
theorem dX3_sum_24 : decode cX3_sum 24 = .ok (.invokevirtual 300, 3) := by decide +kernel
theorem dX3_sum_27 : decode cX3_sum 27 = .ok (.ifCond .eq 36, 3) := by decide +kernel
theorem dX3_sum_30 : decode cX3_sum 30 = .ok (.aload_n 0, 1) := by decide +kernel
theorem dX3_sum_31 : decode cX3_sum 31 = .ok (.bipush 43, 2) := by decide +kernel
theorem dX3_sum_33 : decode cX3_sum 33 = .ok (.invokevirtual 300, 3) := by decide +kernel
theorem dX3_sum_36 : decode cX3_sum 36 = .ok (.istore_n 2, 1) := by decide +kernel
theorem dX3_sum_37 : decode cX3_sum 37 = .ok (.aload_n 0, 1) := by decide +kernel
theorem dX3_sum_38 : decode cX3_sum 38 = .ok (.invokevirtual 309, 3) := by decide +kernel
theorem dX3_sum_41 : decode cX3_sum 41 = .ok (.aload_n 0, 1) := by decide +kernel
theorem dX3_sum_42 : decode cX3_sum 42 = .ok (.invokevirtual 342, 3) := by decide +kernel
theorem dX3_sum_45 : decode cX3_sum 45 = .ok (.istore_n 3, 1) := by decide +kernel
theorem dX3_sum_46 : decode cX3_sum 46 = .ok (.iload_n 2, 1) := by decide +kernel
theorem dX3_sum_47 : decode cX3_sum 47 = .ok (.ifCond .eq 9, 3) := by decide +kernel
theorem dX3_sum_50 : decode cX3_sum 50 = .ok (.iload_n 1, 1) := by decide +kernel
theorem dX3_sum_51 : decode cX3_sum 51 = .ok (.iload_n 3, 1) := by decide +kernel
theorem dX3_sum_52 : decode cX3_sum 52 = .ok (.iadd, 1) := by decide +kernel
theorem dX3_sum_53 : decode cX3_sum 53 = .ok (.goto 6, 3) := by decide +kernel
theorem dX3_sum_56 : decode cX3_sum 56 = .ok (.iload_n 1, 1) := by decide +kernel
theorem dX3_sum_57 : decode cX3_sum 57 = .ok (.iload_n 3, 1) := by decide +kernel
theorem dX3_sum_58 : decode cX3_sum 58 = .ok (.isub, 1) := by decide +kernel
theorem dX3_sum_59 : decode cX3_sum 59 = .ok (.istore_n 1, 1) := by decide +kernel
theorem dX3_sum_60 : decode cX3_sum 60 = .ok (.goto (-55), 3) := by decide +kernel
theorem dX3_sum_63 : decode cX3_sum 63 = .ok (.iload_n 1, 1) := by decide +kernel
theorem dX3_sum_64 : decode cX3_sum 64 = .ok (.ireturn, 1) := by decide +kernel
abbrev cX3_part : ByteArray := prog_17_method_46_code
def yX3_part : MethodName := ⟨RX3, "part", "()I"⟩
theorem dX3_part_0 : decode cX3_part 0 = .ok (.aload_n 0, 1) := by decide +kernel
theorem dX3_part_1 : decode cX3_part 1 = .ok (.getfield 294, 3) := by decide +kernel
theorem dX3_part_4 : decode cX3_part 4 = .ok (.ifCond .le 5, 3) := by decide +kernel
theorem dX3_part_7 : decode cX3_part 7 = .ok (.iconst 0, 1) := by decide +kernel
theorem dX3_part_8 : decode cX3_part 8 = .ok (.ireturn, 1) := by decide +kernel
theorem dX3_part_9 : decode cX3_part 9 = .ok (.iconst 0, 1) := by decide +kernel
theorem dX3_part_10 : decode cX3_part 10 = .ok (.istore_n 1, 1) := by decide +kernel
theorem dX3_part_11 : decode cX3_part 11 = .ok (.aload_n 0, 1) := by decide +kernel
theorem dX3_part_12 : decode cX3_part 12 = .ok (.bipush 40, 2) := by decide +kernel
theorem dX3_part_14 : decode cX3_part 14 = .ok (.invokevirtual 300, 3) := by decide +kernel
theorem dX3_part_17 : decode cX3_part 17 = .ok (.ifCond .eq 72, 3) := by decide +kernel
theorem dX3_part_20 : decode cX3_part 20 = .ok (.aload_n 0, 1) := by decide +kernel
theorem dX3_part_21 : decode cX3_part 21 = .ok (.getfield 303, 3) := by decide +kernel
theorem dX3_part_24 : decode cX3_part 24 = .ok (.iconst 5, 1) := by decide +kernel
theorem dX3_part_25 : decode cX3_part 25 = .ok (.if_icmp .ne 10, 3) := by decide +kernel
theorem dX3_part_28 : decode cX3_part 28 = .ok (.aload_n 0, 1) := by decide +kernel
theorem dX3_part_29 : decode cX3_part 29 = .ok (.iconst 3, 1) := by decide +kernel
theorem dX3_part_30 : decode cX3_part 30 = .ok (.invokevirtual 306, 3) := by decide +kernel
theorem dX3_part_33 : decode cX3_part 33 = .ok (.iconst 0, 1) := by decide +kernel
theorem dX3_part_34 : decode cX3_part 34 = .ok (.ireturn, 1) := by decide +kernel
theorem dX3_part_35 : decode cX3_part 35 = .ok (.aload_n 0, 1) := by decide +kernel
theorem dX3_part_36 : decode cX3_part 36 = .ok (.dup, 1) := by decide +kernel
theorem dX3_part_37 : decode cX3_part 37 = .ok (.getfield 303, 3) := by decide +kernel
theorem dX3_part_40 : decode cX3_part 40 = .ok (.iconst 1, 1) := by decide +kernel
theorem dX3_part_41 : decode cX3_part 41 = .ok (.iadd, 1) := by decide +kernel
theorem dX3_part_42 : decode cX3_part 42 = .ok (.putfield 303, 3) := by decide +kernel
theorem dX3_part_45 : decode cX3_part 45 = .ok (.aload_n 0, 1) := by decide +kernel
theorem dX3_part_46 : decode cX3_part 46 = .ok (.invokevirtual 309, 3) := by decide +kernel
theorem dX3_part_49 : decode cX3_part 49 = .ok (.aload_n 0, 1) := by decide +kernel
theorem dX3_part_50 : decode cX3_part 50 = .ok (.invokevirtual 312, 3) := by decide +kernel
theorem dX3_part_53 : decode cX3_part 53 = .ok (.istore_n 1, 1) := by decide +kernel
theorem dX3_part_54 : decode cX3_part 54 = .ok (.aload_n 0, 1) := by decide +kernel
theorem dX3_part_55 : decode cX3_part 55 = .ok (.dup, 1) := by decide +kernel
theorem dX3_part_56 : decode cX3_part 56 = .ok (.getfield 303, 3) := by decide +kernel
theorem dX3_part_59 : decode cX3_part 59 = .ok (.iconst 1, 1) := by decide +kernel
theorem dX3_part_60 : decode cX3_part 60 = .ok (.isub, 1) := by decide +kernel
theorem dX3_part_61 : decode cX3_part 61 = .ok (.putfield 303, 3) := by decide +kernel
theorem dX3_part_64 : decode cX3_part 64 = .ok (.aload_n 0, 1) := by decide +kernel
theorem dX3_part_65 : decode cX3_part 65 = .ok (.getfield 294, 3) := by decide +kernel
theorem dX3_part_68 : decode cX3_part 68 = .ok (.ifCond .le 5, 3) := by decide +kernel
theorem dX3_part_71 : decode cX3_part 71 = .ok (.iconst 0, 1) := by decide +kernel
theorem dX3_part_72 : decode cX3_part 72 = .ok (.ireturn, 1) := by decide +kernel
theorem dX3_part_73 : decode cX3_part 73 = .ok (.aload_n 0, 1) := by decide +kernel
theorem dX3_part_74 : decode cX3_part 74 = .ok (.bipush 41, 2) := by decide +kernel
theorem dX3_part_76 : decode cX3_part 76 = .ok (.invokevirtual 300, 3) := by decide +kernel
theorem dX3_part_79 : decode cX3_part 79 = .ok (.ifCond .ne 124, 3) := by decide +kernel
theorem dX3_part_82 : decode cX3_part 82 = .ok (.aload_n 0, 1) := by decide +kernel
theorem dX3_part_83 : decode cX3_part 83 = .ok (.iconst 1, 1) := by decide +kernel
theorem dX3_part_84 : decode cX3_part 84 = .ok (.invokevirtual 306, 3) := by decide +kernel
theorem dX3_part_87 : decode cX3_part 87 = .ok (.iconst 0, 1) := by decide +kernel
theorem dX3_part_88 : decode cX3_part 88 = .ok (.ireturn, 1) := by decide +kernel
theorem dX3_part_89 : decode cX3_part 89 = .ok (.aload_n 0, 1) := by decide +kernel
theorem dX3_part_90 : decode cX3_part 90 = .ok (.getfield 262, 3) := by decide +kernel
theorem dX3_part_93 : decode cX3_part 93 = .ok (.iconst 2, 1) := by decide +kernel
theorem dX3_part_94 : decode cX3_part 94 = .ok (.if_icmp .ne 12, 3) := by decide +kernel
theorem dX3_part_97 : decode cX3_part 97 = .ok (.aload_n 0, 1) := by decide +kernel
theorem dX3_part_98 : decode cX3_part 98 = .ok (.getfield 258, 3) := by decide +kernel
theorem dX3_part_101 : decode cX3_part 101 = .ok (.l2i, 1) := by decide +kernel
theorem dX3_part_102 : decode cX3_part 102 = .ok (.istore_n 1, 1) := by decide +kernel
theorem dX3_part_103 : decode cX3_part 103 = .ok (.goto 100, 3) := by decide +kernel
theorem dX3_part_106 : decode cX3_part 106 = .ok (.aload_n 0, 1) := by decide +kernel
theorem dX3_part_107 : decode cX3_part 107 = .ok (.ldc2_w 316, 3) := by decide +kernel
theorem dX3_part_110 : decode cX3_part 110 = .ok (.invokevirtual 318, 3) := by decide +kernel
theorem dX3_part_113 : decode cX3_part 113 = .ok (.ifCond .eq 11, 3) := by decide +kernel
theorem dX3_part_116 : decode cX3_part 116 = .ok (.aload_n 0, 1) := by decide +kernel
theorem dX3_part_117 : decode cX3_part 117 = .ok (.getfield 322, 3) := by decide +kernel
theorem dX3_part_120 : decode cX3_part 120 = .ok (.istore_n 1, 1) := by decide +kernel
theorem dX3_part_121 : decode cX3_part 121 = .ok (.goto 82, 3) := by decide +kernel
theorem dX3_part_124 : decode cX3_part 124 = .ok (.aload_n 0, 1) := by decide +kernel
theorem dX3_part_125 : decode cX3_part 125 = .ok (.ldc2_w 325, 3) := by decide +kernel
theorem dX3_part_128 : decode cX3_part 128 = .ok (.invokevirtual 318, 3) := by decide +kernel
theorem dX3_part_131 : decode cX3_part 131 = .ok (.ifCond .eq 11, 3) := by decide +kernel
theorem dX3_part_134 : decode cX3_part 134 = .ok (.aload_n 0, 1) := by decide +kernel
theorem dX3_part_135 : decode cX3_part 135 = .ok (.getfield 327, 3) := by decide +kernel
theorem dX3_part_138 : decode cX3_part 138 = .ok (.istore_n 1, 1) := by decide +kernel
theorem dX3_part_139 : decode cX3_part 139 = .ok (.goto 64, 3) := by decide +kernel
theorem dX3_part_142 : decode cX3_part 142 = .ok (.aload_n 0, 1) := by decide +kernel
theorem dX3_part_143 : decode cX3_part 143 = .ok (.ldc2_w 330, 3) := by decide +kernel
theorem dX3_part_146 : decode cX3_part 146 = .ok (.invokevirtual 318, 3) := by decide +kernel
theorem dX3_part_149 : decode cX3_part 149 = .ok (.ifCond .eq 11, 3) := by decide +kernel
theorem dX3_part_152 : decode cX3_part 152 = .ok (.aload_n 0, 1) := by decide +kernel
theorem dX3_part_153 : decode cX3_part 153 = .ok (.getfield 332, 3) := by decide +kernel
theorem dX3_part_156 : decode cX3_part 156 = .ok (.istore_n 1, 1) := by decide +kernel
theorem dX3_part_157 : decode cX3_part 157 = .ok (.goto 46, 3) := by decide +kernel
theorem dX3_part_160 : decode cX3_part 160 = .ok (.aload_n 0, 1) := by decide +kernel
theorem dX3_part_161 : decode cX3_part 161 = .ok (.ldc2_w 335, 3) := by decide +kernel
theorem dX3_part_164 : decode cX3_part 164 = .ok (.invokevirtual 318, 3) := by decide +kernel
theorem dX3_part_167 : decode cX3_part 167 = .ok (.ifCond .eq 11, 3) := by decide +kernel
theorem dX3_part_170 : decode cX3_part 170 = .ok (.aload_n 0, 1) := by decide +kernel
theorem dX3_part_171 : decode cX3_part 171 = .ok (.getfield 337, 3) := by decide +kernel
theorem dX3_part_174 : decode cX3_part 174 = .ok (.istore_n 1, 1) := by decide +kernel
theorem dX3_part_175 : decode cX3_part 175 = .ok (.goto 28, 3) := by decide +kernel
theorem dX3_part_178 : decode cX3_part 178 = .ok (.aload_n 0, 1) := by decide +kernel
theorem dX3_part_179 : decode cX3_part 179 = .ok (.ldc2_w 340, 3) := by decide +kernel
theorem dX3_part_182 : decode cX3_part 182 = .ok (.invokevirtual 318, 3) := by decide +kernel
theorem dX3_part_185 : decode cX3_part 185 = .ok (.ifCond .eq 11, 3) := by decide +kernel
theorem dX3_part_188 : decode cX3_part 188 = .ok (.aload_n 0, 1) := by decide +kernel
theorem dX3_part_189 : decode cX3_part 189 = .ok (.getfield 195, 3) := by decide +kernel
theorem dX3_part_192 : decode cX3_part 192 = .ok (.istore_n 1, 1) := by decide +kernel
theorem dX3_part_193 : decode cX3_part 193 = .ok (.goto 10, 3) := by decide +kernel
theorem dX3_part_196 : decode cX3_part 196 = .ok (.aload_n 0, 1) := by decide +kernel
theorem dX3_part_197 : decode cX3_part 197 = .ok (.iconst 1, 1) := by decide +kernel
theorem dX3_part_198 : decode cX3_part 198 = .ok (.invokevirtual 306, 3) := by decide +kernel
theorem dX3_part_201 : decode cX3_part 201 = .ok (.iconst 0, 1) := by decide +kernel
theorem dX3_part_202 : decode cX3_part 202 = .ok (.ireturn, 1) := by decide +kernel
theorem dX3_part_203 : decode cX3_part 203 = .ok (.aload_n 0, 1) := by decide +kernel
theorem dX3_part_204 : decode cX3_part 204 = .ok (.invokevirtual 309, 3) := by decide +kernel
theorem dX3_part_207 : decode cX3_part 207 = .ok (.iload_n 1, 1) := by decide +kernel
theorem dX3_part_208 : decode cX3_part 208 = .ok (.ireturn, 1) := by decide +kernel
abbrev cX3_isSign : ByteArray := prog_17_method_43_code
def yX3_isSign : MethodName := ⟨RX3, "isSign", "(I)Z"⟩
theorem dX3_isSign_0 : decode cX3_isSign 0 = .ok (.aload_n 0, 1) := by decide +kernel
theorem dX3_isSign_1 : decode cX3_isSign 1 = .ok (.getfield 262, 3) := by decide +kernel
theorem dX3_isSign_4 : decode cX3_isSign 4 = .ok (.iconst 3, 1) := by decide +kernel
theorem dX3_isSign_5 : decode cX3_isSign 5 = .ok (.if_icmp .ne 17, 3) := by decide +kernel
theorem dX3_isSign_8 : decode cX3_isSign 8 = .ok (.aload_n 0, 1) := by decide +kernel
theorem dX3_isSign_9 : decode cX3_isSign 9 = .ok (.getfield 258, 3) := by decide +kernel
theorem dX3_isSign_12 : decode cX3_isSign 12 = .ok (.iload_n 1, 1) := by decide +kernel
theorem dX3_isSign_13 : decode cX3_isSign 13 = .ok (.i2l, 1) := by decide +kernel
theorem dX3_isSign_14 : decode cX3_isSign 14 = .ok (.lcmp, 1) := by decide +kernel
theorem dX3_isSign_15 : decode cX3_isSign 15 = .ok (.ifCond .ne 7, 3) := by decide +kernel
theorem dX3_isSign_18 : decode cX3_isSign 18 = .ok (.iconst 1, 1) := by decide +kernel
theorem dX3_isSign_19 : decode cX3_isSign 19 = .ok (.goto 4, 3) := by decide +kernel
theorem dX3_isSign_22 : decode cX3_isSign 22 = .ok (.iconst 0, 1) := by decide +kernel
theorem dX3_isSign_23 : decode cX3_isSign 23 = .ok (.ireturn, 1) := by decide +kernel
abbrev cX3_worth : ByteArray := prog_17_method_58_code
def yX3_worth : MethodName := ⟨RX3, "worth", "(II)I"⟩
theorem dX3_worth_0 : decode cX3_worth 0 = .ok (.aload_n 0, 1) := by decide +kernel
theorem dX3_worth_1 : decode cX3_worth 1 = .ok (.iload_n 1, 1) := by decide +kernel
theorem dX3_worth_2 : decode cX3_worth 2 = .ok (.invokevirtual 170, 3) := by decide +kernel
theorem dX3_worth_5 : decode cX3_worth 5 = .ok (.ifCond .eq 21, 3) := by decide +kernel
theorem dX3_worth_8 : decode cX3_worth 8 = .ok (.iload_n 2, 1) := by decide +kernel
theorem dX3_worth_9 : decode cX3_worth 9 = .ok (.iconst 0, 1) := by decide +kernel
theorem dX3_worth_10 : decode cX3_worth 10 = .ok (.iconst 3, 1) := by decide +kernel
theorem dX3_worth_11 : decode cX3_worth 11 = .ok (.invokestatic 160, 3) := by decide +kernel
theorem dX3_worth_14 : decode cX3_worth 14 = .ok (.ifCond .eq 12, 3) := by decide +kernel
theorem dX3_worth_17 : decode cX3_worth 17 = .ok (.aload_n 0, 1) := by decide +kernel
theorem dX3_worth_18 : decode cX3_worth 18 = .ok (.iload_n 1, 1) := by decide +kernel
theorem dX3_worth_19 : decode cX3_worth 19 = .ok (.iload_n 2, 1) := by decide +kernel
theorem dX3_worth_20 : decode cX3_worth 20 = .ok (.invokevirtual 387, 3) := by decide +kernel
theorem dX3_worth_23 : decode cX3_worth 23 = .ok (.goto 4, 3) := by decide +kernel
theorem dX3_worth_26 : decode cX3_worth 26 = .ok (.iconst (-1), 1) := by decide +kernel
theorem dX3_worth_27 : decode cX3_worth 27 = .ok (.ireturn, 1) := by decide +kernel
abbrev cX3_now : ByteArray := prog_17_method_57_code
def yX3_now : MethodName := ⟨RX3, "now", "(II)I"⟩
theorem dX3_now_0 : decode cX3_now 0 = .ok (.aload_n 0, 1) := by decide +kernel
theorem dX3_now_1 : decode cX3_now 1 = .ok (.aload_n 0, 1) := by decide +kernel
theorem dX3_now_2 : decode cX3_now 2 = .ok (.getfield 42, 3) := by decide +kernel
theorem dX3_now_5 : decode cX3_now 5 = .ok (.aload_n 0, 1) := by decide +kernel
theorem dX3_now_6 : decode cX3_now 6 = .ok (.getfield 48, 3) := by decide +kernel
theorem dX3_now_9 : decode cX3_now 9 = .ok (.iload_n 1, 1) := by decide +kernel
theorem dX3_now_10 : decode cX3_now 10 = .ok (.iaload, 1) := by decide +kernel
theorem dX3_now_11 : decode cX3_now 11 = .ok (.iadd, 1) := by decide +kernel
theorem dX3_now_12 : decode cX3_now 12 = .ok (.aload_n 0, 1) := by decide +kernel
theorem dX3_now_13 : decode cX3_now 13 = .ok (.getfield 183, 3) := by decide +kernel
theorem dX3_now_16 : decode cX3_now 16 = .ok (.isub, 1) := by decide +kernel
theorem dX3_now_17 : decode cX3_now 17 = .ok (.putfield 322, 3) := by decide +kernel
theorem dX3_now_20 : decode cX3_now 20 = .ok (.aload_n 0, 1) := by decide +kernel
theorem dX3_now_21 : decode cX3_now 21 = .ok (.aload_n 0, 1) := by decide +kernel
theorem dX3_now_22 : decode cX3_now 22 = .ok (.iload_n 1, 1) := by decide +kernel
theorem dX3_now_23 : decode cX3_now 23 = .ok (.invokevirtual 375, 3) := by decide +kernel
theorem dX3_now_26 : decode cX3_now 26 = .ok (.putfield 327, 3) := by decide +kernel
theorem dX3_now_29 : decode cX3_now 29 = .ok (.aload_n 0, 1) := by decide +kernel
theorem dX3_now_30 : decode cX3_now 30 = .ok (.aload_n 0, 1) := by decide +kernel
theorem dX3_now_31 : decode cX3_now 31 = .ok (.iload_n 1, 1) := by decide +kernel
theorem dX3_now_32 : decode cX3_now 32 = .ok (.invokevirtual 378, 3) := by decide +kernel
theorem dX3_now_35 : decode cX3_now 35 = .ok (.putfield 332, 3) := by decide +kernel
theorem dX3_now_38 : decode cX3_now 38 = .ok (.aload_n 0, 1) := by decide +kernel
theorem dX3_now_39 : decode cX3_now 39 = .ok (.aload_n 0, 1) := by decide +kernel
theorem dX3_now_40 : decode cX3_now 40 = .ok (.iload_n 1, 1) := by decide +kernel
theorem dX3_now_41 : decode cX3_now 41 = .ok (.invokevirtual 381, 3) := by decide +kernel
theorem dX3_now_44 : decode cX3_now 44 = .ok (.putfield 337, 3) := by decide +kernel
theorem dX3_now_47 : decode cX3_now 47 = .ok (.aload_n 0, 1) := by decide +kernel
theorem dX3_now_48 : decode cX3_now 48 = .ok (.iload_n 1, 1) := by decide +kernel
theorem dX3_now_49 : decode cX3_now 49 = .ok (.iload_n 2, 1) := by decide +kernel
theorem dX3_now_50 : decode cX3_now 50 = .ok (.invokevirtual 384, 3) := by decide +kernel
theorem dX3_now_53 : decode cX3_now 53 = .ok (.ireturn, 1) := by decide +kernel
abbrev cX3_heldIn : ByteArray := prog_17_method_54_code
def yX3_heldIn : MethodName := ⟨RX3, "heldIn", "(I)I"⟩
theorem dX3_heldIn_0 : decode cX3_heldIn 0 = .ok (.iconst 0, 1) := by decide +kernel
theorem dX3_heldIn_1 : decode cX3_heldIn 1 = .ok (.istore_n 2, 1) := by decide +kernel
theorem dX3_heldIn_2 : decode cX3_heldIn 2 = .ok (.iconst 0, 1) := by decide +kernel
theorem dX3_heldIn_3 : decode cX3_heldIn 3 = .ok (.istore_n 3, 1) := by decide +kernel
theorem dX3_heldIn_4 : decode cX3_heldIn 4 = .ok (.iload_n 3, 1) := by decide +kernel
theorem dX3_heldIn_5 : decode cX3_heldIn 5 = .ok (.aload_n 0, 1) := by decide +kernel
theorem dX3_heldIn_6 : decode cX3_heldIn 6 = .ok (.getfield 51, 3) := by decide +kernel
theorem dX3_heldIn_9 : decode cX3_heldIn 9 = .ok (.iload_n 1, 1) := by decide +kernel
theorem dX3_heldIn_10 : decode cX3_heldIn 10 = .ok (.iaload, 1) := by decide +kernel
theorem dX3_heldIn_11 : decode cX3_heldIn 11 = .ok (.if_icmp .ge 31, 3) := by decide +kernel
theorem dX3_heldIn_14 : decode cX3_heldIn 14 = .ok (.iload_n 2, 1) := by decide +kernel
theorem dX3_heldIn_15 : decode cX3_heldIn 15 = .ok (.aload_n 0, 1) := by decide +kernel
theorem dX3_heldIn_16 : decode cX3_heldIn 16 = .ok (.getfield 63, 3) := by decide +kernel
theorem dX3_heldIn_19 : decode cX3_heldIn 19 = .ok (.bipush 10, 2) := by decide +kernel
theorem dX3_heldIn_21 : decode cX3_heldIn 21 = .ok (.iload_n 1, 1) := by decide +kernel
theorem dX3_heldIn_22 : decode cX3_heldIn 22 = .ok (.imul, 1) := by decide +kernel
theorem dX3_heldIn_23 : decode cX3_heldIn 23 = .ok (.iload_n 3, 1) := by decide +kernel
theorem dX3_heldIn_24 : decode cX3_heldIn 24 = .ok (.iadd, 1) := by decide +kernel
theorem dX3_heldIn_25 : decode cX3_heldIn 25 = .ok (.baload, 1) := by decide +kernel
theorem dX3_heldIn_26 : decode cX3_heldIn 26 = .ok (.ifCond .eq 7, 3) := by decide +kernel
theorem dX3_heldIn_29 : decode cX3_heldIn 29 = .ok (.iconst 1, 1) := by decide +kernel
theorem dX3_heldIn_30 : decode cX3_heldIn 30 = .ok (.goto 4, 3) := by decide +kernel
theorem dX3_heldIn_33 : decode cX3_heldIn 33 = .ok (.iconst 0, 1) := by decide +kernel
theorem dX3_heldIn_34 : decode cX3_heldIn 34 = .ok (.iadd, 1) := by decide +kernel
theorem dX3_heldIn_35 : decode cX3_heldIn 35 = .ok (.istore_n 2, 1) := by decide +kernel
theorem dX3_heldIn_36 : decode cX3_heldIn 36 = .ok (.iinc 3 1, 3) := by decide +kernel
theorem dX3_heldIn_39 : decode cX3_heldIn 39 = .ok (.goto (-35), 3) := by decide +kernel
theorem dX3_heldIn_42 : decode cX3_heldIn 42 = .ok (.iload_n 2, 1) := by decide +kernel
theorem dX3_heldIn_43 : decode cX3_heldIn 43 = .ok (.ireturn, 1) := by decide +kernel
abbrev cX3_usedIn : ByteArray := prog_17_method_55_code
def yX3_usedIn : MethodName := ⟨RX3, "usedIn", "(I)I"⟩
theorem dX3_usedIn_0 : decode cX3_usedIn 0 = .ok (.iconst 0, 1) := by decide +kernel
theorem dX3_usedIn_1 : decode cX3_usedIn 1 = .ok (.istore_n 2, 1) := by decide +kernel
theorem dX3_usedIn_2 : decode cX3_usedIn 2 = .ok (.iconst 0, 1) := by decide +kernel
theorem dX3_usedIn_3 : decode cX3_usedIn 3 = .ok (.istore_n 3, 1) := by decide +kernel
theorem dX3_usedIn_4 : decode cX3_usedIn 4 = .ok (.iload_n 3, 1) := by decide +kernel
theorem dX3_usedIn_5 : decode cX3_usedIn 5 = .ok (.aload_n 0, 1) := by decide +kernel
theorem dX3_usedIn_6 : decode cX3_usedIn 6 = .ok (.getfield 51, 3) := by decide +kernel
theorem dX3_usedIn_9 : decode cX3_usedIn 9 = .ok (.iload_n 1, 1) := by decide +kernel
theorem dX3_usedIn_10 : decode cX3_usedIn 10 = .ok (.iaload, 1) := by decide +kernel
theorem dX3_usedIn_11 : decode cX3_usedIn 11 = .ok (.if_icmp .ge 26, 3) := by decide +kernel
theorem dX3_usedIn_14 : decode cX3_usedIn 14 = .ok (.iload_n 2, 1) := by decide +kernel
theorem dX3_usedIn_15 : decode cX3_usedIn 15 = .ok (.aload_n 0, 1) := by decide +kernel
theorem dX3_usedIn_16 : decode cX3_usedIn 16 = .ok (.iload_n 1, 1) := by decide +kernel
theorem dX3_usedIn_17 : decode cX3_usedIn 17 = .ok (.iload_n 3, 1) := by decide +kernel
theorem dX3_usedIn_18 : decode cX3_usedIn 18 = .ok (.invokevirtual 211, 3) := by decide +kernel
theorem dX3_usedIn_21 : decode cX3_usedIn 21 = .ok (.ifCond .eq 7, 3) := by decide +kernel
theorem dX3_usedIn_24 : decode cX3_usedIn 24 = .ok (.iconst 1, 1) := by decide +kernel
theorem dX3_usedIn_25 : decode cX3_usedIn 25 = .ok (.goto 4, 3) := by decide +kernel
theorem dX3_usedIn_28 : decode cX3_usedIn 28 = .ok (.iconst 0, 1) := by decide +kernel
theorem dX3_usedIn_29 : decode cX3_usedIn 29 = .ok (.iadd, 1) := by decide +kernel
theorem dX3_usedIn_30 : decode cX3_usedIn 30 = .ok (.istore_n 2, 1) := by decide +kernel
theorem dX3_usedIn_31 : decode cX3_usedIn 31 = .ok (.iinc 3 1, 3) := by decide +kernel
theorem dX3_usedIn_34 : decode cX3_usedIn 34 = .ok (.goto (-30), 3) := by decide +kernel
theorem dX3_usedIn_37 : decode cX3_usedIn 37 = .ok (.iload_n 2, 1) := by decide +kernel
theorem dX3_usedIn_38 : decode cX3_usedIn 38 = .ok (.ireturn, 1) := by decide +kernel
abbrev cX3_peopleIn : ByteArray := prog_17_method_56_code
def yX3_peopleIn : MethodName := ⟨RX3, "peopleIn", "(I)I"⟩
theorem dX3_peopleIn_0 : decode cX3_peopleIn 0 = .ok (.iconst 0, 1) := by decide +kernel
theorem dX3_peopleIn_1 : decode cX3_peopleIn 1 = .ok (.istore_n 2, 1) := by decide +kernel
theorem dX3_peopleIn_2 : decode cX3_peopleIn 2 = .ok (.iconst 0, 1) := by decide +kernel
theorem dX3_peopleIn_3 : decode cX3_peopleIn 3 = .ok (.istore_n 3, 1) := by decide +kernel
theorem dX3_peopleIn_4 : decode cX3_peopleIn 4 = .ok (.iload_n 3, 1) := by decide +kernel
theorem dX3_peopleIn_5 : decode cX3_peopleIn 5 = .ok (.aload_n 0, 1) := by decide +kernel
theorem dX3_peopleIn_6 : decode cX3_peopleIn 6 = .ok (.getfield 157, 3) := by decide +kernel
theorem dX3_peopleIn_9 : decode cX3_peopleIn 9 = .ok (.if_icmp .ge 32, 3) := by decide +kernel
theorem dX3_peopleIn_12 : decode cX3_peopleIn 12 = .ok (.iload_n 2, 1) := by decide +kernel
theorem dX3_peopleIn_13 : decode cX3_peopleIn 13 = .ok (.aload_n 0, 1) := by decide +kernel
theorem dX3_peopleIn_14 : decode cX3_peopleIn 14 = .ok (.getfield 66, 3) := by decide +kernel
theorem dX3_peopleIn_17 : decode cX3_peopleIn 17 = .ok (.bipush 10, 2) := by decide +kernel
theorem dX3_peopleIn_19 : decode cX3_peopleIn 19 = .ok (.iload_n 1, 1) := by decide +kernel
theorem dX3_peopleIn_20 : decode cX3_peopleIn 20 = .ok (.imul, 1) := by decide +kernel
theorem dX3_peopleIn_21 : decode cX3_peopleIn 21 = .ok (.iload_n 3, 1) := by decide +kernel
theorem dX3_peopleIn_22 : decode cX3_peopleIn 22 = .ok (.iadd, 1) := by decide +kernel
theorem dX3_peopleIn_23 : decode cX3_peopleIn 23 = .ok (.iaload, 1) := by decide +kernel
theorem dX3_peopleIn_24 : decode cX3_peopleIn 24 = .ok (.iconst (-1), 1) := by decide +kernel
theorem dX3_peopleIn_25 : decode cX3_peopleIn 25 = .ok (.if_icmp .eq 7, 3) := by decide +kernel
theorem dX3_peopleIn_28 : decode cX3_peopleIn 28 = .ok (.iconst 1, 1) := by decide +kernel
theorem dX3_peopleIn_29 : decode cX3_peopleIn 29 = .ok (.goto 4, 3) := by decide +kernel
theorem dX3_peopleIn_32 : decode cX3_peopleIn 32 = .ok (.iconst 0, 1) := by decide +kernel
theorem dX3_peopleIn_33 : decode cX3_peopleIn 33 = .ok (.iadd, 1) := by decide +kernel
theorem dX3_peopleIn_34 : decode cX3_peopleIn 34 = .ok (.istore_n 2, 1) := by decide +kernel
theorem dX3_peopleIn_35 : decode cX3_peopleIn 35 = .ok (.iinc 3 1, 3) := by decide +kernel
theorem dX3_peopleIn_38 : decode cX3_peopleIn 38 = .ok (.goto (-34), 3) := by decide +kernel
theorem dX3_peopleIn_41 : decode cX3_peopleIn 41 = .ok (.iload_n 2, 1) := by decide +kernel
theorem dX3_peopleIn_42 : decode cX3_peopleIn 42 = .ok (.ireturn, 1) := by decide +kernel
abbrev cX3_told : ByteArray := prog_17_method_53_code
def yX3_told : MethodName := ⟨RX3, "told", "(II)I"⟩
theorem dX3_told_0 : decode cX3_told 0 = .ok (.aload_n 0, 1) := by decide +kernel
theorem dX3_told_1 : decode cX3_told 1 = .ok (.aload_n 0, 1) := by decide +kernel
theorem dX3_told_2 : decode cX3_told 2 = .ok (.getfield 115, 3) := by decide +kernel
theorem dX3_told_5 : decode cX3_told 5 = .ok (.iload_n 1, 1) := by decide +kernel
theorem dX3_told_6 : decode cX3_told 6 = .ok (.iaload, 1) := by decide +kernel
theorem dX3_told_7 : decode cX3_told 7 = .ok (.putfield 252, 3) := by decide +kernel
theorem dX3_told_10 : decode cX3_told 10 = .ok (.iconst 0, 1) := by decide +kernel
theorem dX3_told_11 : decode cX3_told 11 = .ok (.istore_n 3, 1) := by decide +kernel
theorem dX3_told_12 : decode cX3_told 12 = .ok (.iload_n 3, 1) := by decide +kernel
theorem dX3_told_13 : decode cX3_told 13 = .ok (.aload_n 0, 1) := by decide +kernel
theorem dX3_told_14 : decode cX3_told 14 = .ok (.getfield 252, 3) := by decide +kernel
theorem dX3_told_17 : decode cX3_told 17 = .ok (.if_icmp .ge 27, 3) := by decide +kernel
theorem dX3_told_20 : decode cX3_told 20 = .ok (.aload_n 0, 1) := by decide +kernel
theorem dX3_told_21 : decode cX3_told 21 = .ok (.getfield 121, 3) := by decide +kernel
theorem dX3_told_24 : decode cX3_told 24 = .ok (.iload_n 3, 1) := by decide +kernel
theorem dX3_told_25 : decode cX3_told 25 = .ok (.aload_n 0, 1) := by decide +kernel
theorem dX3_told_26 : decode cX3_told 26 = .ok (.getfield 112, 3) := by decide +kernel
theorem dX3_told_29 : decode cX3_told 29 = .ok (.sipush 400, 3) := by decide +kernel
theorem dX3_told_32 : decode cX3_told 32 = .ok (.iload_n 1, 1) := by decide +kernel
theorem dX3_told_33 : decode cX3_told 33 = .ok (.imul, 1) := by decide +kernel
theorem dX3_told_34 : decode cX3_told 34 = .ok (.iload_n 3, 1) := by decide +kernel
theorem dX3_told_35 : decode cX3_told 35 = .ok (.iadd, 1) := by decide +kernel
theorem dX3_told_36 : decode cX3_told 36 = .ok (.baload, 1) := by decide +kernel
theorem dX3_told_37 : decode cX3_told 37 = .ok (.bastore, 1) := by decide +kernel
theorem dX3_told_38 : decode cX3_told 38 = .ok (.iinc 3 1, 3) := by decide +kernel
theorem dX3_told_41 : decode cX3_told 41 = .ok (.goto (-29), 3) := by decide +kernel
theorem dX3_told_44 : decode cX3_told 44 = .ok (.aload_n 0, 1) := by decide +kernel
theorem dX3_told_45 : decode cX3_told 45 = .ok (.iload_n 2, 1) := by decide +kernel
theorem dX3_told_46 : decode cX3_told 46 = .ok (.invokevirtual 372, 3) := by decide +kernel
theorem dX3_told_49 : decode cX3_told 49 = .ok (.aload_n 0, 1) := by decide +kernel
theorem dX3_told_50 : decode cX3_told 50 = .ok (.getfield 364, 3) := by decide +kernel
theorem dX3_told_53 : decode cX3_told 53 = .ok (.iconst (-1), 1) := by decide +kernel
theorem dX3_told_54 : decode cX3_told 54 = .ok (.if_icmp .ne 7, 3) := by decide +kernel
theorem dX3_told_57 : decode cX3_told 57 = .ok (.iconst 0, 1) := by decide +kernel
theorem dX3_told_58 : decode cX3_told 58 = .ok (.goto 7, 3) := by decide +kernel
theorem dX3_told_61 : decode cX3_told 61 = .ok (.aload_n 0, 1) := by decide +kernel
theorem dX3_told_62 : decode cX3_told 62 = .ok (.getfield 364, 3) := by decide +kernel
theorem dX3_told_65 : decode cX3_told 65 = .ok (.ireturn, 1) := by decide +kernel
abbrev cX3_give : ByteArray := prog_17_method_60_code
def yX3_give : MethodName := ⟨RX3, "give", "(II)I"⟩
theorem dX3_give_0 : decode cX3_give 0 = .ok (.aload_n 0, 1) := by decide +kernel
theorem dX3_give_1 : decode cX3_give 1 = .ok (.iload_n 1, 1) := by decide +kernel
theorem dX3_give_2 : decode cX3_give 2 = .ok (.invokevirtual 198, 3) := by decide +kernel
theorem dX3_give_5 : decode cX3_give 5 = .ok (.ifCond .eq 35, 3) := by decide +kernel
theorem dX3_give_8 : decode cX3_give 8 = .ok (.aload_n 0, 1) := by decide +kernel
theorem dX3_give_9 : decode cX3_give 9 = .ok (.iload_n 1, 1) := by decide +kernel
theorem dX3_give_10 : decode cX3_give 10 = .ok (.iload_n 2, 1) := by decide +kernel
theorem dX3_give_11 : decode cX3_give 11 = .ok (.invokevirtual 208, 3) := by decide +kernel
theorem dX3_give_14 : decode cX3_give 14 = .ok (.ifCond .eq 26, 3) := by decide +kernel
theorem dX3_give_17 : decode cX3_give 17 = .ok (.aload_n 0, 1) := by decide +kernel
theorem dX3_give_18 : decode cX3_give 18 = .ok (.getfield 63, 3) := by decide +kernel
theorem dX3_give_21 : decode cX3_give 21 = .ok (.bipush 10, 2) := by decide +kernel
theorem dX3_give_23 : decode cX3_give 23 = .ok (.iload_n 1, 1) := by decide +kernel
theorem dX3_give_24 : decode cX3_give 24 = .ok (.imul, 1) := by decide +kernel
theorem dX3_give_25 : decode cX3_give 25 = .ok (.iload_n 2, 1) := by decide +kernel
theorem dX3_give_26 : decode cX3_give 26 = .ok (.iadd, 1) := by decide +kernel
theorem dX3_give_27 : decode cX3_give 27 = .ok (.baload, 1) := by decide +kernel
theorem dX3_give_28 : decode cX3_give 28 = .ok (.ifCond .eq 12, 3) := by decide +kernel
theorem dX3_give_31 : decode cX3_give 31 = .ok (.aload_n 0, 1) := by decide +kernel
theorem dX3_give_32 : decode cX3_give 32 = .ok (.iload_n 1, 1) := by decide +kernel
theorem dX3_give_33 : decode cX3_give 33 = .ok (.iload_n 2, 1) := by decide +kernel
theorem dX3_give_34 : decode cX3_give 34 = .ok (.invokevirtual 211, 3) := by decide +kernel
theorem dX3_give_37 : decode cX3_give 37 = .ok (.ifCond .eq 5, 3) := by decide +kernel
theorem dX3_give_40 : decode cX3_give 40 = .ok (.iconst (-1), 1) := by decide +kernel
theorem dX3_give_41 : decode cX3_give 41 = .ok (.ireturn, 1) := by decide +kernel
theorem dX3_give_42 : decode cX3_give 42 = .ok (.aload_n 0, 1) := by decide +kernel
theorem dX3_give_43 : decode cX3_give 43 = .ok (.iload_n 1, 1) := by decide +kernel
theorem dX3_give_44 : decode cX3_give 44 = .ok (.iload_n 2, 1) := by decide +kernel
theorem dX3_give_45 : decode cX3_give 45 = .ok (.aload_n 0, 1) := by decide +kernel
theorem dX3_give_46 : decode cX3_give 46 = .ok (.iload_n 1, 1) := by decide +kernel
theorem dX3_give_47 : decode cX3_give 47 = .ok (.iconst 0, 1) := by decide +kernel
theorem dX3_give_48 : decode cX3_give 48 = .ok (.invokevirtual 387, 3) := by decide +kernel
theorem dX3_give_51 : decode cX3_give 51 = .ok (.invokevirtual 390, 3) := by decide +kernel
theorem dX3_give_54 : decode cX3_give 54 = .ok (.istore_n 3, 1) := by decide +kernel
theorem dX3_give_55 : decode cX3_give 55 = .ok (.aload_n 0, 1) := by decide +kernel
theorem dX3_give_56 : decode cX3_give 56 = .ok (.getfield 63, 3) := by decide +kernel
theorem dX3_give_59 : decode cX3_give 59 = .ok (.bipush 10, 2) := by decide +kernel
theorem dX3_give_61 : decode cX3_give 61 = .ok (.iload_n 1, 1) := by decide +kernel
theorem dX3_give_62 : decode cX3_give 62 = .ok (.imul, 1) := by decide +kernel
theorem dX3_give_63 : decode cX3_give 63 = .ok (.iload_n 2, 1) := by decide +kernel
theorem dX3_give_64 : decode cX3_give 64 = .ok (.iadd, 1) := by decide +kernel
theorem dX3_give_65 : decode cX3_give 65 = .ok (.iconst 0, 1) := by decide +kernel
theorem dX3_give_66 : decode cX3_give 66 = .ok (.bastore, 1) := by decide +kernel
theorem dX3_give_67 : decode cX3_give 67 = .ok (.aload_n 0, 1) := by decide +kernel
theorem dX3_give_68 : decode cX3_give 68 = .ok (.dup, 1) := by decide +kernel
theorem dX3_give_69 : decode cX3_give 69 = .ok (.getfield 392, 3) := by decide +kernel
theorem dX3_give_72 : decode cX3_give 72 = .ok (.iload_n 3, 1) := by decide +kernel
theorem dX3_give_73 : decode cX3_give 73 = .ok (.iadd, 1) := by decide +kernel
theorem dX3_give_74 : decode cX3_give 74 = .ok (.putfield 392, 3) := by decide +kernel
theorem dX3_give_77 : decode cX3_give 77 = .ok (.iload_n 3, 1) := by decide +kernel
theorem dX3_give_78 : decode cX3_give 78 = .ok (.ireturn, 1) := by decide +kernel
abbrev cX3_part_2 : ByteArray := prog_17_method_59_code
def yX3_part_2 : MethodName := ⟨RX3, "part", "(III)I"⟩
theorem dX3_part_2_0 : decode cX3_part_2 0 = .ok (.aload_n 0, 1) := by decide +kernel
theorem dX3_part_2_1 : decode cX3_part_2 1 = .ok (.getfield 60, 3) := by decide +kernel
theorem dX3_part_2_4 : decode cX3_part_2 4 = .ok (.bipush 10, 2) := by decide +kernel
theorem dX3_part_2_6 : decode cX3_part_2 6 = .ok (.iload_n 1, 1) := by decide +kernel
theorem dX3_part_2_7 : decode cX3_part_2 7 = .ok (.imul, 1) := by decide +kernel
theorem dX3_part_2_8 : decode cX3_part_2 8 = .ok (.iload_n 2, 1) := by decide +kernel
theorem dX3_part_2_9 : decode cX3_part_2 9 = .ok (.iadd, 1) := by decide +kernel
theorem dX3_part_2_10 : decode cX3_part_2 10 = .ok (.iaload, 1) := by decide +kernel
theorem dX3_part_2_11 : decode cX3_part_2 11 = .ok (.aload_n 0, 1) := by decide +kernel
theorem dX3_part_2_12 : decode cX3_part_2 12 = .ok (.getfield 45, 3) := by decide +kernel
theorem dX3_part_2_15 : decode cX3_part_2 15 = .ok (.iload_n 1, 1) := by decide +kernel
theorem dX3_part_2_16 : decode cX3_part_2 16 = .ok (.iaload, 1) := by decide +kernel
theorem dX3_part_2_17 : decode cX3_part_2 17 = .ok (.imul, 1) := by decide +kernel
theorem dX3_part_2_18 : decode cX3_part_2 18 = .ok (.iload_n 3, 1) := by decide +kernel
theorem dX3_part_2_19 : decode cX3_part_2 19 = .ok (.imul, 1) := by decide +kernel
theorem dX3_part_2_20 : decode cX3_part_2 20 = .ok (.bipush 99, 2) := by decide +kernel
theorem dX3_part_2_22 : decode cX3_part_2 22 = .ok (.iadd, 1) := by decide +kernel
theorem dX3_part_2_23 : decode cX3_part_2 23 = .ok (.bipush 100, 2) := by decide +kernel
theorem dX3_part_2_25 : decode cX3_part_2 25 = .ok (.idiv, 1) := by decide +kernel
theorem dX3_part_2_26 : decode cX3_part_2 26 = .ok (.ireturn, 1) := by decide +kernel
abbrev cX3_buy : ByteArray := prog_17_method_61_code
def yX3_buy : MethodName := ⟨RX3, "buy", "(II)I"⟩
theorem dX3_buy_0 : decode cX3_buy 0 = .ok (.aload_n 0, 1) := by decide +kernel
theorem dX3_buy_1 : decode cX3_buy 1 = .ok (.iload_n 1, 1) := by decide +kernel
theorem dX3_buy_2 : decode cX3_buy 2 = .ok (.invokevirtual 198, 3) := by decide +kernel
theorem dX3_buy_5 : decode cX3_buy 5 = .ok (.ifCond .eq 26, 3) := by decide +kernel
theorem dX3_buy_8 : decode cX3_buy 8 = .ok (.aload_n 0, 1) := by decide +kernel
theorem dX3_buy_9 : decode cX3_buy 9 = .ok (.iload_n 1, 1) := by decide +kernel
theorem dX3_buy_10 : decode cX3_buy 10 = .ok (.iload_n 2, 1) := by decide +kernel
theorem dX3_buy_11 : decode cX3_buy 11 = .ok (.invokevirtual 208, 3) := by decide +kernel
theorem dX3_buy_14 : decode cX3_buy 14 = .ok (.ifCond .eq 17, 3) := by decide +kernel
theorem dX3_buy_17 : decode cX3_buy 17 = .ok (.aload_n 0, 1) := by decide +kernel
theorem dX3_buy_18 : decode cX3_buy 18 = .ok (.getfield 63, 3) := by decide +kernel
theorem dX3_buy_21 : decode cX3_buy 21 = .ok (.bipush 10, 2) := by decide +kernel
theorem dX3_buy_23 : decode cX3_buy 23 = .ok (.iload_n 1, 1) := by decide +kernel
theorem dX3_buy_24 : decode cX3_buy 24 = .ok (.imul, 1) := by decide +kernel
theorem dX3_buy_25 : decode cX3_buy 25 = .ok (.iload_n 2, 1) := by decide +kernel
theorem dX3_buy_26 : decode cX3_buy 26 = .ok (.iadd, 1) := by decide +kernel
theorem dX3_buy_27 : decode cX3_buy 27 = .ok (.baload, 1) := by decide +kernel
theorem dX3_buy_28 : decode cX3_buy 28 = .ok (.ifCond .eq 5, 3) := by decide +kernel
theorem dX3_buy_31 : decode cX3_buy 31 = .ok (.iconst (-1), 1) := by decide +kernel
theorem dX3_buy_32 : decode cX3_buy 32 = .ok (.ireturn, 1) := by decide +kernel
theorem dX3_buy_33 : decode cX3_buy 33 = .ok (.aload_n 0, 1) := by decide +kernel
theorem dX3_buy_34 : decode cX3_buy 34 = .ok (.iload_n 1, 1) := by decide +kernel
theorem dX3_buy_35 : decode cX3_buy 35 = .ok (.iload_n 2, 1) := by decide +kernel
theorem dX3_buy_36 : decode cX3_buy 36 = .ok (.aload_n 0, 1) := by decide +kernel
theorem dX3_buy_37 : decode cX3_buy 37 = .ok (.iload_n 1, 1) := by decide +kernel
theorem dX3_buy_38 : decode cX3_buy 38 = .ok (.iconst 1, 1) := by decide +kernel
theorem dX3_buy_39 : decode cX3_buy 39 = .ok (.invokevirtual 387, 3) := by decide +kernel
theorem dX3_buy_42 : decode cX3_buy 42 = .ok (.invokevirtual 390, 3) := by decide +kernel
theorem dX3_buy_45 : decode cX3_buy 45 = .ok (.istore_n 3, 1) := by decide +kernel
theorem dX3_buy_46 : decode cX3_buy 46 = .ok (.aload_n 0, 1) := by decide +kernel
theorem dX3_buy_47 : decode cX3_buy 47 = .ok (.getfield 63, 3) := by decide +kernel
theorem dX3_buy_50 : decode cX3_buy 50 = .ok (.bipush 10, 2) := by decide +kernel
theorem dX3_buy_52 : decode cX3_buy 52 = .ok (.iload_n 1, 1) := by decide +kernel
theorem dX3_buy_53 : decode cX3_buy 53 = .ok (.imul, 1) := by decide +kernel
theorem dX3_buy_54 : decode cX3_buy 54 = .ok (.iload_n 2, 1) := by decide +kernel
theorem dX3_buy_55 : decode cX3_buy 55 = .ok (.iadd, 1) := by decide +kernel
theorem dX3_buy_56 : decode cX3_buy 56 = .ok (.iconst 1, 1) := by decide +kernel
theorem dX3_buy_57 : decode cX3_buy 57 = .ok (.bastore, 1) := by decide +kernel
theorem dX3_buy_58 : decode cX3_buy 58 = .ok (.aload_n 0, 1) := by decide +kernel
theorem dX3_buy_59 : decode cX3_buy 59 = .ok (.dup, 1) := by decide +kernel
theorem dX3_buy_60 : decode cX3_buy 60 = .ok (.getfield 392, 3) := by decide +kernel
theorem dX3_buy_63 : decode cX3_buy 63 = .ok (.iload_n 3, 1) := by decide +kernel
theorem dX3_buy_64 : decode cX3_buy 64 = .ok (.iadd, 1) := by decide +kernel
theorem dX3_buy_65 : decode cX3_buy 65 = .ok (.putfield 392, 3) := by decide +kernel
theorem dX3_buy_68 : decode cX3_buy 68 = .ok (.iload_n 3, 1) := by decide +kernel
theorem dX3_buy_69 : decode cX3_buy 69 = .ok (.ireturn, 1) := by decide +kernel
abbrev cX3_loss : ByteArray := prog_17_method_64_code
def yX3_loss : MethodName := ⟨RX3, "loss", "(IIIII)I"⟩
theorem dX3_loss_0 : decode cX3_loss 0 = .ok (.aload_n 0, 1) := by decide +kernel
theorem dX3_loss_1 : decode cX3_loss 1 = .ok (.iload_n 1, 1) := by decide +kernel
theorem dX3_loss_2 : decode cX3_loss 2 = .ok (.iload_n 2, 1) := by decide +kernel
theorem dX3_loss_3 : decode cX3_loss 3 = .ok (.iload_n 3, 1) := by decide +kernel
theorem dX3_loss_4 : decode cX3_loss 4 = .ok (.iload 4, 2) := by decide +kernel
theorem dX3_loss_6 : decode cX3_loss 6 = .ok (.iload 5, 2) := by decide +kernel
theorem dX3_loss_8 : decode cX3_loss 8 = .ok (.invokevirtual 398, 3) := by decide +kernel
theorem dX3_loss_11 : decode cX3_loss 11 = .ok (.ifCond .ne 5, 3) := by decide +kernel
theorem dX3_loss_14 : decode cX3_loss 14 = .ok (.iconst (-1), 1) := by decide +kernel
theorem dX3_loss_15 : decode cX3_loss 15 = .ok (.ireturn, 1) := by decide +kernel
theorem dX3_loss_16 : decode cX3_loss 16 = .ok (.aload_n 0, 1) := by decide +kernel
theorem dX3_loss_17 : decode cX3_loss 17 = .ok (.iload_n 1, 1) := by decide +kernel
theorem dX3_loss_18 : decode cX3_loss 18 = .ok (.iload_n 2, 1) := by decide +kernel
theorem dX3_loss_19 : decode cX3_loss 19 = .ok (.iload_n 3, 1) := by decide +kernel
theorem dX3_loss_20 : decode cX3_loss 20 = .ok (.iload 4, 2) := by decide +kernel
theorem dX3_loss_22 : decode cX3_loss 22 = .ok (.iload 5, 2) := by decide +kernel
theorem dX3_loss_24 : decode cX3_loss 24 = .ok (.invokevirtual 401, 3) := by decide +kernel
theorem dX3_loss_27 : decode cX3_loss 27 = .ok (.aload_n 0, 1) := by decide +kernel
theorem dX3_loss_28 : decode cX3_loss 28 = .ok (.getfield 124, 3) := by decide +kernel
theorem dX3_loss_31 : decode cX3_loss 31 = .ok (.bipush 11, 2) := by decide +kernel
theorem dX3_loss_33 : decode cX3_loss 33 = .ok (.aload_n 0, 1) := by decide +kernel
theorem dX3_loss_34 : decode cX3_loss 34 = .ok (.iload_n 1, 1) := by decide +kernel
theorem dX3_loss_35 : decode cX3_loss 35 = .ok (.invokevirtual 375, 3) := by decide +kernel
theorem dX3_loss_38 : decode cX3_loss 38 = .ok (.imul, 1) := by decide +kernel
theorem dX3_loss_39 : decode cX3_loss 39 = .ok (.aload_n 0, 1) := by decide +kernel
theorem dX3_loss_40 : decode cX3_loss 40 = .ok (.iload_n 1, 1) := by decide +kernel
theorem dX3_loss_41 : decode cX3_loss 41 = .ok (.invokevirtual 378, 3) := by decide +kernel
theorem dX3_loss_44 : decode cX3_loss 44 = .ok (.iadd, 1) := by decide +kernel
theorem dX3_loss_45 : decode cX3_loss 45 = .ok (.iaload, 1) := by decide +kernel
theorem dX3_loss_46 : decode cX3_loss 46 = .ok (.ireturn, 1) := by decide +kernel
abbrev cX3_isLoss : ByteArray := prog_17_method_62_code
def yX3_isLoss : MethodName := ⟨RX3, "isLoss", "(IIIII)Z"⟩
theorem dX3_isLoss_0 : decode cX3_isLoss 0 = .ok (.aload_n 0, 1) := by decide +kernel
theorem dX3_isLoss_1 : decode cX3_isLoss 1 = .ok (.iload_n 1, 1) := by decide +kernel
theorem dX3_isLoss_2 : decode cX3_isLoss 2 = .ok (.invokevirtual 170, 3) := by decide +kernel
theorem dX3_isLoss_5 : decode cX3_isLoss 5 = .ok (.ifCond .eq 48, 3) := by decide +kernel
theorem dX3_isLoss_8 : decode cX3_isLoss 8 = .ok (.iload_n 2, 1) := by decide +kernel
theorem dX3_isLoss_9 : decode cX3_isLoss 9 = .ok (.iconst 0, 1) := by decide +kernel
theorem dX3_isLoss_10 : decode cX3_isLoss 10 = .ok (.bipush 30, 2) := by decide +kernel
theorem dX3_isLoss_12 : decode cX3_isLoss 12 = .ok (.invokestatic 160, 3) := by decide +kernel
theorem dX3_isLoss_15 : decode cX3_isLoss 15 = .ok (.ifCond .eq 38, 3) := by decide +kernel
theorem dX3_isLoss_18 : decode cX3_isLoss 18 = .ok (.iload_n 3, 1) := by decide +kernel
theorem dX3_isLoss_19 : decode cX3_isLoss 19 = .ok (.iconst 0, 1) := by decide +kernel
theorem dX3_isLoss_20 : decode cX3_isLoss 20 = .ok (.iconst 3, 1) := by decide +kernel
theorem dX3_isLoss_21 : decode cX3_isLoss 21 = .ok (.invokestatic 160, 3) := by decide +kernel
theorem dX3_isLoss_24 : decode cX3_isLoss 24 = .ok (.ifCond .eq 29, 3) := by decide +kernel
theorem dX3_isLoss_27 : decode cX3_isLoss 27 = .ok (.iload 4, 2) := by decide +kernel
theorem dX3_isLoss_29 : decode cX3_isLoss 29 = .ok (.iconst 0, 1) := by decide +kernel
theorem dX3_isLoss_30 : decode cX3_isLoss 30 = .ok (.iconst 3, 1) := by decide +kernel
theorem dX3_isLoss_31 : decode cX3_isLoss 31 = .ok (.invokestatic 160, 3) := by decide +kernel
theorem dX3_isLoss_34 : decode cX3_isLoss 34 = .ok (.ifCond .eq 19, 3) := by decide +kernel
theorem dX3_isLoss_37 : decode cX3_isLoss 37 = .ok (.iload 5, 2) := by decide +kernel
theorem dX3_isLoss_39 : decode cX3_isLoss 39 = .ok (.iconst 0, 1) := by decide +kernel
theorem dX3_isLoss_40 : decode cX3_isLoss 40 = .ok (.sipush 1000, 3) := by decide +kernel
theorem dX3_isLoss_43 : decode cX3_isLoss 43 = .ok (.invokestatic 160, 3) := by decide +kernel
theorem dX3_isLoss_46 : decode cX3_isLoss 46 = .ok (.ifCond .eq 7, 3) := by decide +kernel
theorem dX3_isLoss_49 : decode cX3_isLoss 49 = .ok (.iconst 1, 1) := by decide +kernel
theorem dX3_isLoss_50 : decode cX3_isLoss 50 = .ok (.goto 4, 3) := by decide +kernel
theorem dX3_isLoss_53 : decode cX3_isLoss 53 = .ok (.iconst 0, 1) := by decide +kernel
theorem dX3_isLoss_54 : decode cX3_isLoss 54 = .ok (.ireturn, 1) := by decide +kernel
abbrev cX3_losses : ByteArray := prog_17_method_63_code
def yX3_losses : MethodName := ⟨RX3, "losses", "(IIIII)V"⟩
theorem dX3_losses_0 : decode cX3_losses 0 = .ok (.aload_n 0, 1) := by decide +kernel
theorem dX3_losses_1 : decode cX3_losses 1 = .ok (.aload_n 0, 1) := by decide +kernel
theorem dX3_losses_2 : decode cX3_losses 2 = .ok (.iload_n 1, 1) := by decide +kernel
theorem dX3_losses_3 : decode cX3_losses 3 = .ok (.invokevirtual 381, 3) := by decide +kernel
theorem dX3_losses_6 : decode cX3_losses 6 = .ok (.putfield 337, 3) := by decide +kernel
theorem dX3_losses_9 : decode cX3_losses 9 = .ok (.iconst 0, 1) := by decide +kernel
theorem dX3_losses_10 : decode cX3_losses 10 = .ok (.istore 6, 2) := by decide +kernel
theorem dX3_losses_12 : decode cX3_losses 12 = .ok (.iload 6, 2) := by decide +kernel
theorem dX3_losses_14 : decode cX3_losses 14 = .ok (.bipush 121, 2) := by decide +kernel
theorem dX3_losses_16 : decode cX3_losses 16 = .ok (.if_icmp .ge 60, 3) := by decide +kernel
theorem dX3_losses_19 : decode cX3_losses 19 = .ok (.aload_n 0, 1) := by decide +kernel
theorem dX3_losses_20 : decode cX3_losses 20 = .ok (.getfield 124, 3) := by decide +kernel
theorem dX3_losses_23 : decode cX3_losses 23 = .ok (.iload 6, 2) := by decide +kernel
theorem dX3_losses_25 : decode cX3_losses 25 = .ok (.iload 6, 2) := by decide +kernel
theorem dX3_losses_27 : decode cX3_losses 27 = .ok (.bipush 11, 2) := by decide +kernel
theorem dX3_losses_29 : decode cX3_losses 29 = .ok (.idiv, 1) := by decide +kernel
theorem dX3_losses_30 : decode cX3_losses 30 = .ok (.iload 6, 2) := by decide +kernel
theorem dX3_losses_32 : decode cX3_losses 32 = .ok (.bipush 11, 2) := by decide +kernel
theorem dX3_losses_34 : decode cX3_losses 34 = .ok (.irem, 1) := by decide +kernel
theorem dX3_losses_35 : decode cX3_losses 35 = .ok (.if_icmp .le 20, 3) := by decide +kernel
theorem dX3_losses_38 : decode cX3_losses 38 = .ok (.bipush 100, 2) := by decide +kernel
theorem dX3_losses_40 : decode cX3_losses 40 = .ok (.iload 6, 2) := by decide +kernel
theorem dX3_losses_42 : decode cX3_losses 42 = .ok (.bipush 11, 2) := by decide +kernel
theorem dX3_losses_44 : decode cX3_losses 44 = .ok (.idiv, 1) := by decide +kernel
theorem dX3_losses_45 : decode cX3_losses 45 = .ok (.iload 6, 2) := by decide +kernel
theorem dX3_losses_47 : decode cX3_losses 47 = .ok (.bipush 11, 2) := by decide +kernel
theorem dX3_losses_49 : decode cX3_losses 49 = .ok (.irem, 1) := by decide +kernel
theorem dX3_losses_50 : decode cX3_losses 50 = .ok (.isub, 1) := by decide +kernel
theorem dX3_losses_51 : decode cX3_losses 51 = .ok (.imul, 1) := by decide +kernel
theorem dX3_losses_52 : decode cX3_losses 52 = .ok (.goto 17, 3) := by decide +kernel
theorem dX3_losses_55 : decode cX3_losses 55 = .ok (.iload 5, 2) := by decide +kernel
theorem dX3_losses_57 : decode cX3_losses 57 = .ok (.iload 6, 2) := by decide +kernel
theorem dX3_losses_59 : decode cX3_losses 59 = .ok (.bipush 11, 2) := by decide +kernel
theorem dX3_losses_61 : decode cX3_losses 61 = .ok (.irem, 1) := by decide +kernel
theorem dX3_losses_62 : decode cX3_losses 62 = .ok (.iload 6, 2) := by decide +kernel
theorem dX3_losses_64 : decode cX3_losses 64 = .ok (.bipush 11, 2) := by decide +kernel
theorem dX3_losses_66 : decode cX3_losses 66 = .ok (.idiv, 1) := by decide +kernel
theorem dX3_losses_67 : decode cX3_losses 67 = .ok (.isub, 1) := by decide +kernel
theorem dX3_losses_68 : decode cX3_losses 68 = .ok (.imul, 1) := by decide +kernel
theorem dX3_losses_69 : decode cX3_losses 69 = .ok (.iastore, 1) := by decide +kernel
theorem dX3_losses_70 : decode cX3_losses 70 = .ok (.iinc 6 1, 3) := by decide +kernel
theorem dX3_losses_73 : decode cX3_losses 73 = .ok (.goto (-61), 3) := by decide +kernel
theorem dX3_losses_76 : decode cX3_losses 76 = .ok (.aload_n 0, 1) := by decide +kernel
theorem dX3_losses_77 : decode cX3_losses 77 = .ok (.iconst 0, 1) := by decide +kernel
theorem dX3_losses_78 : decode cX3_losses 78 = .ok (.putfield 395, 3) := by decide +kernel
theorem dX3_losses_81 : decode cX3_losses 81 = .ok (.aload_n 0, 1) := by decide +kernel
theorem dX3_losses_82 : decode cX3_losses 82 = .ok (.iload_n 1, 1) := by decide +kernel
theorem dX3_losses_83 : decode cX3_losses 83 = .ok (.invokevirtual 375, 3) := by decide +kernel
theorem dX3_losses_86 : decode cX3_losses 86 = .ok (.istore 6, 2) := by decide +kernel
theorem dX3_losses_88 : decode cX3_losses 88 = .ok (.aload_n 0, 1) := by decide +kernel
theorem dX3_losses_89 : decode cX3_losses 89 = .ok (.iload_n 1, 1) := by decide +kernel
theorem dX3_losses_90 : decode cX3_losses 90 = .ok (.invokevirtual 378, 3) := by decide +kernel
theorem dX3_losses_93 : decode cX3_losses 93 = .ok (.istore 7, 2) := by decide +kernel
theorem dX3_losses_95 : decode cX3_losses 95 = .ok (.iconst 1, 1) := by decide +kernel
theorem dX3_losses_96 : decode cX3_losses 96 = .ok (.istore 8, 2) := by decide +kernel
theorem dX3_losses_98 : decode cX3_losses 98 = .ok (.iload 8, 2) := by decide +kernel
theorem dX3_losses_100 : decode cX3_losses 100 = .ok (.iload_n 2, 1) := by decide +kernel
theorem dX3_losses_101 : decode cX3_losses 101 = .ok (.if_icmp .gt 265, 3) := by decide +kernel
theorem dX3_losses_104 : decode cX3_losses 104 = .ok (.iconst 0, 1) := by decide +kernel
theorem dX3_losses_105 : decode cX3_losses 105 = .ok (.istore 9, 2) := by decide +kernel
theorem dX3_losses_107 : decode cX3_losses 107 = .ok (.iload 9, 2) := by decide +kernel
theorem dX3_losses_109 : decode cX3_losses 109 = .ok (.bipush 121, 2) := by decide +kernel
theorem dX3_losses_111 : decode cX3_losses 111 = .ok (.if_icmp .ge 23, 3) := by decide +kernel
theorem dX3_losses_114 : decode cX3_losses 114 = .ok (.aload_n 0, 1) := by decide +kernel
theorem dX3_losses_115 : decode cX3_losses 115 = .ok (.getfield 127, 3) := by decide +kernel
theorem dX3_losses_118 : decode cX3_losses 118 = .ok (.iload 9, 2) := by decide +kernel
theorem dX3_losses_120 : decode cX3_losses 120 = .ok (.aload_n 0, 1) := by decide +kernel
theorem dX3_losses_121 : decode cX3_losses 121 = .ok (.getfield 124, 3) := by decide +kernel
theorem dX3_losses_124 : decode cX3_losses 124 = .ok (.iload 9, 2) := by decide +kernel
theorem dX3_losses_126 : decode cX3_losses 126 = .ok (.iaload, 1) := by decide +kernel
theorem dX3_losses_127 : decode cX3_losses 127 = .ok (.iastore, 1) := by decide +kernel
theorem dX3_losses_128 : decode cX3_losses 128 = .ok (.iinc 9 1, 3) := by decide +kernel
theorem dX3_losses_131 : decode cX3_losses 131 = .ok (.goto (-24), 3) := by decide +kernel
theorem dX3_losses_134 : decode cX3_losses 134 = .ok (.iconst 0, 1) := by decide +kernel
theorem dX3_losses_135 : decode cX3_losses 135 = .ok (.istore 9, 2) := by decide +kernel
theorem dX3_losses_137 : decode cX3_losses 137 = .ok (.iload 9, 2) := by decide +kernel
theorem dX3_losses_139 : decode cX3_losses 139 = .ok (.bipush 10, 2) := by decide +kernel
theorem dX3_losses_141 : decode cX3_losses 141 = .ok (.if_icmp .gt 219, 3) := by decide +kernel
theorem dX3_losses_144 : decode cX3_losses 144 = .ok (.iconst 0, 1) := by decide +kernel
theorem dX3_losses_145 : decode cX3_losses 145 = .ok (.istore 10, 2) := by decide +kernel
theorem dX3_losses_147 : decode cX3_losses 147 = .ok (.iload 10, 2) := by decide +kernel
theorem dX3_losses_149 : decode cX3_losses 149 = .ok (.bipush 10, 2) := by decide +kernel
theorem dX3_losses_151 : decode cX3_losses 151 = .ok (.if_icmp .gt 203, 3) := by decide +kernel
theorem dX3_losses_154 : decode cX3_losses 154 = .ok (.aload_n 0, 1) := by decide +kernel
theorem dX3_losses_155 : decode cX3_losses 155 = .ok (.iload 8, 2) := by decide +kernel
theorem dX3_losses_157 : decode cX3_losses 157 = .ok (.putfield 322, 3) := by decide +kernel
theorem dX3_losses_160 : decode cX3_losses 160 = .ok (.aload_n 0, 1) := by decide +kernel
theorem dX3_losses_161 : decode cX3_losses 161 = .ok (.iload 9, 2) := by decide +kernel
theorem dX3_losses_163 : decode cX3_losses 163 = .ok (.putfield 327, 3) := by decide +kernel
theorem dX3_losses_166 : decode cX3_losses 166 = .ok (.aload_n 0, 1) := by decide +kernel
theorem dX3_losses_167 : decode cX3_losses 167 = .ok (.iload 10, 2) := by decide +kernel
theorem dX3_losses_169 : decode cX3_losses 169 = .ok (.putfield 332, 3) := by decide +kernel
theorem dX3_losses_172 : decode cX3_losses 172 = .ok (.aload_n 0, 1) := by decide +kernel
theorem dX3_losses_173 : decode cX3_losses 173 = .ok (.iload_n 1, 1) := by decide +kernel
theorem dX3_losses_174 : decode cX3_losses 174 = .ok (.iconst 0, 1) := by decide +kernel
theorem dX3_losses_175 : decode cX3_losses 175 = .ok (.invokevirtual 384, 3) := by decide +kernel
theorem dX3_losses_178 : decode cX3_losses 178 = .ok (.istore 11, 2) := by decide +kernel
theorem dX3_losses_180 : decode cX3_losses 180 = .ok (.ldc 231, 2) := by decide +kernel
theorem dX3_losses_182 : decode cX3_losses 182 = .ok (.istore 12, 2) := by decide +kernel
theorem dX3_losses_184 : decode cX3_losses 184 = .ok (.iconst 0, 1) := by decide +kernel
theorem dX3_losses_185 : decode cX3_losses 185 = .ok (.istore 13, 2) := by decide +kernel
theorem dX3_losses_187 : decode cX3_losses 187 = .ok (.iload 13, 2) := by decide +kernel
theorem dX3_losses_189 : decode cX3_losses 189 = .ok (.iload 9, 2) := by decide +kernel
theorem dX3_losses_191 : decode cX3_losses 191 = .ok (.if_icmp .gt 142, 3) := by decide +kernel
theorem dX3_losses_194 : decode cX3_losses 194 = .ok (.iconst 0, 1) := by decide +kernel
theorem dX3_losses_195 : decode cX3_losses 195 = .ok (.istore 14, 2) := by decide +kernel
theorem dX3_losses_197 : decode cX3_losses 197 = .ok (.iload 10, 2) := by decide +kernel
theorem dX3_losses_199 : decode cX3_losses 199 = .ok (.iload 4, 2) := by decide +kernel
theorem dX3_losses_201 : decode cX3_losses 201 = .ok (.isub, 1) := by decide +kernel
theorem dX3_losses_202 : decode cX3_losses 202 = .ok (.istore 15, 2) := by decide +kernel
theorem dX3_losses_204 : decode cX3_losses 204 = .ok (.iload 15, 2) := by decide +kernel
theorem dX3_losses_206 : decode cX3_losses 206 = .ok (.iload 10, 2) := by decide +kernel
theorem dX3_losses_208 : decode cX3_losses 208 = .ok (.iload_n 3, 1) := by decide +kernel
theorem dX3_losses_209 : decode cX3_losses 209 = .ok (.iadd, 1) := by decide +kernel
theorem dX3_losses_210 : decode cX3_losses 210 = .ok (.if_icmp .gt 64, 3) := by decide +kernel
theorem dX3_losses_213 : decode cX3_losses 213 = .ok (.iload 15, 2) := by decide +kernel
theorem dX3_losses_215 : decode cX3_losses 215 = .ok (.iconst 0, 1) := by decide +kernel
theorem dX3_losses_216 : decode cX3_losses 216 = .ok (.bipush 10, 2) := by decide +kernel
theorem dX3_losses_218 : decode cX3_losses 218 = .ok (.invokestatic 160, 3) := by decide +kernel
theorem dX3_losses_221 : decode cX3_losses 221 = .ok (.ifCond .eq 43, 3) := by decide +kernel
theorem dX3_losses_224 : decode cX3_losses 224 = .ok (.aload_n 0, 1) := by decide +kernel
theorem dX3_losses_225 : decode cX3_losses 225 = .ok (.getfield 127, 3) := by decide +kernel
theorem dX3_losses_228 : decode cX3_losses 228 = .ok (.bipush 11, 2) := by decide +kernel
theorem dX3_losses_230 : decode cX3_losses 230 = .ok (.iload 9, 2) := by decide +kernel
theorem dX3_losses_232 : decode cX3_losses 232 = .ok (.iload 13, 2) := by decide +kernel
theorem dX3_losses_234 : decode cX3_losses 234 = .ok (.isub, 1) := by decide +kernel
theorem dX3_losses_235 : decode cX3_losses 235 = .ok (.imul, 1) := by decide +kernel
theorem dX3_losses_236 : decode cX3_losses 236 = .ok (.iload 15, 2) := by decide +kernel
theorem dX3_losses_238 : decode cX3_losses 238 = .ok (.iadd, 1) := by decide +kernel
theorem dX3_losses_239 : decode cX3_losses 239 = .ok (.iaload, 1) := by decide +kernel
theorem dX3_losses_240 : decode cX3_losses 240 = .ok (.iload 14, 2) := by decide +kernel
theorem dX3_losses_242 : decode cX3_losses 242 = .ok (.if_icmp .le 22, 3) := by decide +kernel
theorem dX3_losses_245 : decode cX3_losses 245 = .ok (.aload_n 0, 1) := by decide +kernel
theorem dX3_losses_246 : decode cX3_losses 246 = .ok (.getfield 127, 3) := by decide +kernel
theorem dX3_losses_249 : decode cX3_losses 249 = .ok (.bipush 11, 2) := by decide +kernel
theorem dX3_losses_251 : decode cX3_losses 251 = .ok (.iload 9, 2) := by decide +kernel
theorem dX3_losses_253 : decode cX3_losses 253 = .ok (.iload 13, 2) := by decide +kernel
theorem dX3_losses_255 : decode cX3_losses 255 = .ok (.isub, 1) := by decide +kernel
theorem dX3_losses_256 : decode cX3_losses 256 = .ok (.imul, 1) := by decide +kernel
theorem dX3_losses_257 : decode cX3_losses 257 = .ok (.iload 15, 2) := by decide +kernel
theorem dX3_losses_259 : decode cX3_losses 259 = .ok (.iadd, 1) := by decide +kernel
theorem dX3_losses_260 : decode cX3_losses 260 = .ok (.iaload, 1) := by decide +kernel
theorem dX3_losses_261 : decode cX3_losses 261 = .ok (.goto 5, 3) := by decide +kernel
theorem dX3_losses_264 : decode cX3_losses 264 = .ok (.iload 14, 2) := by decide +kernel
theorem dX3_losses_266 : decode cX3_losses 266 = .ok (.istore 14, 2) := by decide +kernel
theorem dX3_losses_268 : decode cX3_losses 268 = .ok (.iinc 15 1, 3) := by decide +kernel
theorem dX3_losses_271 : decode cX3_losses 271 = .ok (.goto (-67), 3) := by decide +kernel
theorem dX3_losses_274 : decode cX3_losses 274 = .ok (.iload 13, 2) := by decide +kernel
theorem dX3_losses_276 : decode cX3_losses 276 = .ok (.iload 11, 2) := by decide +kernel
theorem dX3_losses_278 : decode cX3_losses 278 = .ok (.imul, 1) := by decide +kernel
theorem dX3_losses_279 : decode cX3_losses 279 = .ok (.iload 14, 2) := by decide +kernel
theorem dX3_losses_281 : decode cX3_losses 281 = .ok (.iadd, 1) := by decide +kernel
theorem dX3_losses_282 : decode cX3_losses 282 = .ok (.iload 12, 2) := by decide +kernel
theorem dX3_losses_284 : decode cX3_losses 284 = .ok (.if_icmp .lt 6, 3) := by decide +kernel
theorem dX3_losses_287 : decode cX3_losses 287 = .ok (.goto 40, 3) := by decide +kernel
theorem dX3_losses_290 : decode cX3_losses 290 = .ok (.iload 13, 2) := by decide +kernel
theorem dX3_losses_292 : decode cX3_losses 292 = .ok (.iload 11, 2) := by decide +kernel
theorem dX3_losses_294 : decode cX3_losses 294 = .ok (.imul, 1) := by decide +kernel
theorem dX3_losses_295 : decode cX3_losses 295 = .ok (.iload 14, 2) := by decide +kernel
theorem dX3_losses_297 : decode cX3_losses 297 = .ok (.iadd, 1) := by decide +kernel
theorem dX3_losses_298 : decode cX3_losses 298 = .ok (.istore 12, 2) := by decide +kernel
theorem dX3_losses_300 : decode cX3_losses 300 = .ok (.aload_n 0, 1) := by decide +kernel
theorem dX3_losses_301 : decode cX3_losses 301 = .ok (.iload 9, 2) := by decide +kernel
theorem dX3_losses_303 : decode cX3_losses 303 = .ok (.iload 6, 2) := by decide +kernel
theorem dX3_losses_305 : decode cX3_losses 305 = .ok (.if_icmp .ne 15, 3) := by decide +kernel
theorem dX3_losses_308 : decode cX3_losses 308 = .ok (.iload 10, 2) := by decide +kernel
theorem dX3_losses_310 : decode cX3_losses 310 = .ok (.iload 7, 2) := by decide +kernel
theorem dX3_losses_312 : decode cX3_losses 312 = .ok (.if_icmp .ne 8, 3) := by decide +kernel
theorem dX3_losses_315 : decode cX3_losses 315 = .ok (.iload 13, 2) := by decide +kernel
theorem dX3_losses_317 : decode cX3_losses 317 = .ok (.goto 7, 3) := by decide +kernel
theorem dX3_losses_320 : decode cX3_losses 320 = .ok (.aload_n 0, 1) := by decide +kernel
theorem dX3_losses_321 : decode cX3_losses 321 = .ok (.getfield 395, 3) := by decide +kernel
theorem dX3_losses_324 : decode cX3_losses 324 = .ok (.putfield 395, 3) := by decide +kernel
theorem dX3_losses_327 : decode cX3_losses 327 = .ok (.iinc 13 1, 3) := by decide +kernel
theorem dX3_losses_330 : decode cX3_losses 330 = .ok (.goto (-143), 3) := by decide +kernel
theorem dX3_losses_333 : decode cX3_losses 333 = .ok (.aload_n 0, 1) := by decide +kernel
theorem dX3_losses_334 : decode cX3_losses 334 = .ok (.getfield 124, 3) := by decide +kernel
theorem dX3_losses_337 : decode cX3_losses 337 = .ok (.bipush 11, 2) := by decide +kernel
theorem dX3_losses_339 : decode cX3_losses 339 = .ok (.iload 9, 2) := by decide +kernel
theorem dX3_losses_341 : decode cX3_losses 341 = .ok (.imul, 1) := by decide +kernel
theorem dX3_losses_342 : decode cX3_losses 342 = .ok (.iload 10, 2) := by decide +kernel
theorem dX3_losses_344 : decode cX3_losses 344 = .ok (.iadd, 1) := by decide +kernel
theorem dX3_losses_345 : decode cX3_losses 345 = .ok (.iload 12, 2) := by decide +kernel
theorem dX3_losses_347 : decode cX3_losses 347 = .ok (.iastore, 1) := by decide +kernel
theorem dX3_losses_348 : decode cX3_losses 348 = .ok (.iinc 10 1, 3) := by decide +kernel
theorem dX3_losses_351 : decode cX3_losses 351 = .ok (.goto (-204), 3) := by decide +kernel
theorem dX3_losses_354 : decode cX3_losses 354 = .ok (.iinc 9 1, 3) := by decide +kernel
theorem dX3_losses_357 : decode cX3_losses 357 = .ok (.goto (-220), 3) := by decide +kernel
theorem dX3_losses_360 : decode cX3_losses 360 = .ok (.iinc 8 1, 3) := by decide +kernel
theorem dX3_losses_363 : decode cX3_losses 363 = .ok (.goto (-265), 3) := by decide +kernel
theorem dX3_losses_366 : decode cX3_losses 366 = .ok (.return_, 1) := by decide +kernel
abbrev cX3_gives : ByteArray := prog_17_method_65_code
def yX3_gives : MethodName := ⟨RX3, "gives", "(IIIII)I"⟩
theorem dX3_gives_0 : decode cX3_gives 0 = .ok (.aload_n 0, 1) := by decide +kernel
theorem dX3_gives_1 : decode cX3_gives 1 = .ok (.iload_n 1, 1) := by decide +kernel
theorem dX3_gives_2 : decode cX3_gives 2 = .ok (.iload_n 2, 1) := by decide +kernel
theorem dX3_gives_3 : decode cX3_gives 3 = .ok (.iload_n 3, 1) := by decide +kernel
theorem dX3_gives_4 : decode cX3_gives 4 = .ok (.iload 4, 2) := by decide +kernel
theorem dX3_gives_6 : decode cX3_gives 6 = .ok (.iload 5, 2) := by decide +kernel
theorem dX3_gives_8 : decode cX3_gives 8 = .ok (.invokevirtual 398, 3) := by decide +kernel
theorem dX3_gives_11 : decode cX3_gives 11 = .ok (.ifCond .ne 5, 3) := by decide +kernel
theorem dX3_gives_14 : decode cX3_gives 14 = .ok (.iconst (-1), 1) := by decide +kernel
theorem dX3_gives_15 : decode cX3_gives 15 = .ok (.ireturn, 1) := by decide +kernel
theorem dX3_gives_16 : decode cX3_gives 16 = .ok (.aload_n 0, 1) := by decide +kernel
theorem dX3_gives_17 : decode cX3_gives 17 = .ok (.iload_n 1, 1) := by decide +kernel
theorem dX3_gives_18 : decode cX3_gives 18 = .ok (.iload_n 2, 1) := by decide +kernel
theorem dX3_gives_19 : decode cX3_gives 19 = .ok (.iload_n 3, 1) := by decide +kernel
theorem dX3_gives_20 : decode cX3_gives 20 = .ok (.iload 4, 2) := by decide +kernel
theorem dX3_gives_22 : decode cX3_gives 22 = .ok (.iload 5, 2) := by decide +kernel
theorem dX3_gives_24 : decode cX3_gives 24 = .ok (.invokevirtual 401, 3) := by decide +kernel
theorem dX3_gives_27 : decode cX3_gives 27 = .ok (.aload_n 0, 1) := by decide +kernel
theorem dX3_gives_28 : decode cX3_gives 28 = .ok (.getfield 395, 3) := by decide +kernel
theorem dX3_gives_31 : decode cX3_gives 31 = .ok (.ireturn, 1) := by decide +kernel
abbrev cX3_sight : ByteArray := prog_17_method_66_code
def yX3_sight : MethodName := ⟨RX3, "sight", "(III)I"⟩
theorem dX3_sight_0 : decode cX3_sight 0 = .ok (.iload_n 1, 1) := by decide +kernel
theorem dX3_sight_1 : decode cX3_sight 1 = .ok (.iconst 0, 1) := by decide +kernel
theorem dX3_sight_2 : decode cX3_sight 2 = .ok (.sipush 1440, 3) := by decide +kernel
theorem dX3_sight_5 : decode cX3_sight 5 = .ok (.invokestatic 160, 3) := by decide +kernel
theorem dX3_sight_8 : decode cX3_sight 8 = .ok (.ifCond .eq 41, 3) := by decide +kernel
theorem dX3_sight_11 : decode cX3_sight 11 = .ok (.iload_n 2, 1) := by decide +kernel
theorem dX3_sight_12 : decode cX3_sight 12 = .ok (.iconst 0, 1) := by decide +kernel
theorem dX3_sight_13 : decode cX3_sight 13 = .ok (.sipush 1440, 3) := by decide +kernel
theorem dX3_sight_16 : decode cX3_sight 16 = .ok (.invokestatic 160, 3) := by decide +kernel
theorem dX3_sight_19 : decode cX3_sight 19 = .ok (.ifCond .eq 30, 3) := by decide +kernel
theorem dX3_sight_22 : decode cX3_sight 22 = .ok (.iload_n 3, 1) := by decide +kernel
theorem dX3_sight_23 : decode cX3_sight 23 = .ok (.iconst 1, 1) := by decide +kernel
theorem dX3_sight_24 : decode cX3_sight 24 = .ok (.sipush 300, 3) := by decide +kernel
theorem dX3_sight_27 : decode cX3_sight 27 = .ok (.invokestatic 160, 3) := by decide +kernel
theorem dX3_sight_30 : decode cX3_sight 30 = .ok (.ifCond .eq 19, 3) := by decide +kernel
theorem dX3_sight_33 : decode cX3_sight 33 = .ok (.iload_n 1, 1) := by decide +kernel
theorem dX3_sight_34 : decode cX3_sight 34 = .ok (.iload_n 3, 1) := by decide +kernel
theorem dX3_sight_35 : decode cX3_sight 35 = .ok (.iadd, 1) := by decide +kernel
theorem dX3_sight_36 : decode cX3_sight 36 = .ok (.iload_n 2, 1) := by decide +kernel
theorem dX3_sight_37 : decode cX3_sight 37 = .ok (.if_icmp .gt 12, 3) := by decide +kernel
theorem dX3_sight_40 : decode cX3_sight 40 = .ok (.aload_n 0, 1) := by decide +kernel
theorem dX3_sight_41 : decode cX3_sight 41 = .ok (.getfield 405, 3) := by decide +kernel
theorem dX3_sight_44 : decode cX3_sight 44 = .ok (.bipush 6, 2) := by decide +kernel
theorem dX3_sight_46 : decode cX3_sight 46 = .ok (.if_icmp .ne 5, 3) := by decide +kernel
theorem dX3_sight_49 : decode cX3_sight 49 = .ok (.iconst (-1), 1) := by decide +kernel
theorem dX3_sight_50 : decode cX3_sight 50 = .ok (.ireturn, 1) := by decide +kernel
theorem dX3_sight_51 : decode cX3_sight 51 = .ok (.aload_n 0, 1) := by decide +kernel
theorem dX3_sight_52 : decode cX3_sight 52 = .ok (.dup, 1) := by decide +kernel
theorem dX3_sight_53 : decode cX3_sight 53 = .ok (.getfield 405, 3) := by decide +kernel
theorem dX3_sight_56 : decode cX3_sight 56 = .ok (.iconst 1, 1) := by decide +kernel
theorem dX3_sight_57 : decode cX3_sight 57 = .ok (.iadd, 1) := by decide +kernel
theorem dX3_sight_58 : decode cX3_sight 58 = .ok (.putfield 405, 3) := by decide +kernel
theorem dX3_sight_61 : decode cX3_sight 61 = .ok (.aload_n 0, 1) := by decide +kernel
theorem dX3_sight_62 : decode cX3_sight 62 = .ok (.getfield 130, 3) := by decide +kernel
theorem dX3_sight_65 : decode cX3_sight 65 = .ok (.aload_n 0, 1) := by decide +kernel
theorem dX3_sight_66 : decode cX3_sight 66 = .ok (.getfield 405, 3) := by decide +kernel
theorem dX3_sight_69 : decode cX3_sight 69 = .ok (.iload_n 1, 1) := by decide +kernel
theorem dX3_sight_70 : decode cX3_sight 70 = .ok (.iastore, 1) := by decide +kernel
theorem dX3_sight_71 : decode cX3_sight 71 = .ok (.aload_n 0, 1) := by decide +kernel
theorem dX3_sight_72 : decode cX3_sight 72 = .ok (.getfield 133, 3) := by decide +kernel
theorem dX3_sight_75 : decode cX3_sight 75 = .ok (.aload_n 0, 1) := by decide +kernel
theorem dX3_sight_76 : decode cX3_sight 76 = .ok (.getfield 405, 3) := by decide +kernel
theorem dX3_sight_79 : decode cX3_sight 79 = .ok (.iload_n 2, 1) := by decide +kernel
theorem dX3_sight_80 : decode cX3_sight 80 = .ok (.iastore, 1) := by decide +kernel
theorem dX3_sight_81 : decode cX3_sight 81 = .ok (.aload_n 0, 1) := by decide +kernel
theorem dX3_sight_82 : decode cX3_sight 82 = .ok (.getfield 136, 3) := by decide +kernel
theorem dX3_sight_85 : decode cX3_sight 85 = .ok (.aload_n 0, 1) := by decide +kernel
theorem dX3_sight_86 : decode cX3_sight 86 = .ok (.getfield 405, 3) := by decide +kernel
theorem dX3_sight_89 : decode cX3_sight 89 = .ok (.iload_n 3, 1) := by decide +kernel
theorem dX3_sight_90 : decode cX3_sight 90 = .ok (.iastore, 1) := by decide +kernel
theorem dX3_sight_91 : decode cX3_sight 91 = .ok (.aload_n 0, 1) := by decide +kernel
theorem dX3_sight_92 : decode cX3_sight 92 = .ok (.getfield 405, 3) := by decide +kernel
theorem dX3_sight_95 : decode cX3_sight 95 = .ok (.ireturn, 1) := by decide +kernel
abbrev cX3_way : ByteArray := prog_17_method_67_code
def yX3_way : MethodName := ⟨RX3, "way", "(III)Z"⟩
theorem dX3_way_0 : decode cX3_way 0 = .ok (.iload_n 1, 1) := by decide +kernel
theorem dX3_way_1 : decode cX3_way 1 = .ok (.iconst 0, 1) := by decide +kernel
theorem dX3_way_2 : decode cX3_way 2 = .ok (.aload_n 0, 1) := by decide +kernel
theorem dX3_way_3 : decode cX3_way 3 = .ok (.getfield 405, 3) := by decide +kernel
theorem dX3_way_6 : decode cX3_way 6 = .ok (.invokestatic 160, 3) := by decide +kernel
theorem dX3_way_9 : decode cX3_way 9 = .ok (.ifCond .eq 31, 3) := by decide +kernel
theorem dX3_way_12 : decode cX3_way 12 = .ok (.iload_n 2, 1) := by decide +kernel
theorem dX3_way_13 : decode cX3_way 13 = .ok (.iconst 0, 1) := by decide +kernel
theorem dX3_way_14 : decode cX3_way 14 = .ok (.aload_n 0, 1) := by decide +kernel
theorem dX3_way_15 : decode cX3_way 15 = .ok (.getfield 405, 3) := by decide +kernel
theorem dX3_way_18 : decode cX3_way 18 = .ok (.invokestatic 160, 3) := by decide +kernel
theorem dX3_way_21 : decode cX3_way 21 = .ok (.ifCond .eq 19, 3) := by decide +kernel
theorem dX3_way_24 : decode cX3_way 24 = .ok (.iload_n 1, 1) := by decide +kernel
theorem dX3_way_25 : decode cX3_way 25 = .ok (.iload_n 2, 1) := by decide +kernel
theorem dX3_way_26 : decode cX3_way 26 = .ok (.if_icmp .eq 14, 3) := by decide +kernel
theorem dX3_way_29 : decode cX3_way 29 = .ok (.iload_n 3, 1) := by decide +kernel
theorem dX3_way_30 : decode cX3_way 30 = .ok (.iconst 0, 1) := by decide +kernel
theorem dX3_way_31 : decode cX3_way 31 = .ok (.sipush 270, 3) := by decide +kernel
theorem dX3_way_34 : decode cX3_way 34 = .ok (.invokestatic 160, 3) := by decide +kernel
theorem dX3_way_37 : decode cX3_way 37 = .ok (.ifCond .ne 5, 3) := by decide +kernel
theorem dX3_way_40 : decode cX3_way 40 = .ok (.iconst 0, 1) := by decide +kernel
theorem dX3_way_41 : decode cX3_way 41 = .ok (.ireturn, 1) := by decide +kernel
theorem dX3_way_42 : decode cX3_way 42 = .ok (.aload_n 0, 1) := by decide +kernel
theorem dX3_way_43 : decode cX3_way 43 = .ok (.getfield 139, 3) := by decide +kernel
theorem dX3_way_46 : decode cX3_way 46 = .ok (.bipush 7, 2) := by decide +kernel
theorem dX3_way_48 : decode cX3_way 48 = .ok (.iload_n 1, 1) := by decide +kernel
theorem dX3_way_49 : decode cX3_way 49 = .ok (.imul, 1) := by decide +kernel
theorem dX3_way_50 : decode cX3_way 50 = .ok (.iload_n 2, 1) := by decide +kernel
theorem dX3_way_51 : decode cX3_way 51 = .ok (.iadd, 1) := by decide +kernel
theorem dX3_way_52 : decode cX3_way 52 = .ok (.iload_n 3, 1) := by decide +kernel
theorem dX3_way_53 : decode cX3_way 53 = .ok (.iastore, 1) := by decide +kernel
theorem dX3_way_54 : decode cX3_way 54 = .ok (.iconst 1, 1) := by decide +kernel
theorem dX3_way_55 : decode cX3_way 55 = .ok (.ireturn, 1) := by decide +kernel
abbrev cX3_clear : ByteArray := prog_17_method_68_code
def yX3_clear : MethodName := ⟨RX3, "clear", "()I"⟩
theorem dX3_clear_0 : decode cX3_clear 0 = .ok (.aload_n 0, 1) := by decide +kernel
theorem dX3_clear_1 : decode cX3_clear 1 = .ok (.getfield 405, 3) := by decide +kernel
theorem dX3_clear_4 : decode cX3_clear 4 = .ok (.istore_n 1, 1) := by decide +kernel
theorem dX3_clear_5 : decode cX3_clear 5 = .ok (.aload_n 0, 1) := by decide +kernel
theorem dX3_clear_6 : decode cX3_clear 6 = .ok (.iconst 0, 1) := by decide +kernel
theorem dX3_clear_7 : decode cX3_clear 7 = .ok (.putfield 405, 3) := by decide +kernel
theorem dX3_clear_10 : decode cX3_clear 10 = .ok (.iconst 0, 1) := by decide +kernel
theorem dX3_clear_11 : decode cX3_clear 11 = .ok (.istore_n 2, 1) := by decide +kernel
theorem dX3_clear_12 : decode cX3_clear 12 = .ok (.iload_n 2, 1) := by decide +kernel
theorem dX3_clear_13 : decode cX3_clear 13 = .ok (.bipush 49, 2) := by decide +kernel
theorem dX3_clear_15 : decode cX3_clear 15 = .ok (.if_icmp .ge 16, 3) := by decide +kernel
theorem dX3_clear_18 : decode cX3_clear 18 = .ok (.aload_n 0, 1) := by decide +kernel
theorem dX3_clear_19 : decode cX3_clear 19 = .ok (.getfield 139, 3) := by decide +kernel
theorem dX3_clear_22 : decode cX3_clear 22 = .ok (.iload_n 2, 1) := by decide +kernel
theorem dX3_clear_23 : decode cX3_clear 23 = .ok (.iconst 0, 1) := by decide +kernel
theorem dX3_clear_24 : decode cX3_clear 24 = .ok (.iastore, 1) := by decide +kernel
theorem dX3_clear_25 : decode cX3_clear 25 = .ok (.iinc 2 1, 3) := by decide +kernel
theorem dX3_clear_28 : decode cX3_clear 28 = .ok (.goto (-16), 3) := by decide +kernel
theorem dX3_clear_31 : decode cX3_clear 31 = .ok (.iload_n 1, 1) := by decide +kernel
theorem dX3_clear_32 : decode cX3_clear 32 = .ok (.ireturn, 1) := by decide +kernel
abbrev cX3_trip : ByteArray := prog_17_method_71_code
def yX3_trip : MethodName := ⟨RX3, "trip", "(I)I"⟩
theorem dX3_trip_0 : decode cX3_trip 0 = .ok (.iload_n 1, 1) := by decide +kernel
theorem dX3_trip_1 : decode cX3_trip 1 = .ok (.iconst 0, 1) := by decide +kernel
theorem dX3_trip_2 : decode cX3_trip 2 = .ok (.sipush 1440, 3) := by decide +kernel
theorem dX3_trip_5 : decode cX3_trip 5 = .ok (.invokestatic 160, 3) := by decide +kernel
theorem dX3_trip_8 : decode cX3_trip 8 = .ok (.ifCond .ne 5, 3) := by decide +kernel
theorem dX3_trip_11 : decode cX3_trip 11 = .ok (.iconst (-1), 1) := by decide +kernel
theorem dX3_trip_12 : decode cX3_trip 12 = .ok (.ireturn, 1) := by decide +kernel
theorem dX3_trip_13 : decode cX3_trip 13 = .ok (.aload_n 0, 1) := by decide +kernel
theorem dX3_trip_14 : decode cX3_trip 14 = .ok (.iconst 1, 1) := by decide +kernel
theorem dX3_trip_15 : decode cX3_trip 15 = .ok (.putfield 428, 3) := by decide +kernel
theorem dX3_trip_18 : decode cX3_trip 18 = .ok (.aload_n 0, 1) := by decide +kernel
theorem dX3_trip_19 : decode cX3_trip 19 = .ok (.iconst 0, 1) := by decide +kernel
theorem dX3_trip_20 : decode cX3_trip 20 = .ok (.putfield 416, 3) := by decide +kernel
theorem dX3_trip_23 : decode cX3_trip 23 = .ok (.aload_n 0, 1) := by decide +kernel
theorem dX3_trip_24 : decode cX3_trip 24 = .ok (.iload_n 1, 1) := by decide +kernel
theorem dX3_trip_25 : decode cX3_trip 25 = .ok (.putfield 419, 3) := by decide +kernel
theorem dX3_trip_28 : decode cX3_trip 28 = .ok (.aload_n 0, 1) := by decide +kernel
theorem dX3_trip_29 : decode cX3_trip 29 = .ok (.iconst 0, 1) := by decide +kernel
theorem dX3_trip_30 : decode cX3_trip 30 = .ok (.putfield 422, 3) := by decide +kernel
theorem dX3_trip_33 : decode cX3_trip 33 = .ok (.aload_n 0, 1) := by decide +kernel
theorem dX3_trip_34 : decode cX3_trip 34 = .ok (.iconst 0, 1) := by decide +kernel
theorem dX3_trip_35 : decode cX3_trip 35 = .ok (.putfield 425, 3) := by decide +kernel
theorem dX3_trip_38 : decode cX3_trip 38 = .ok (.aload_n 0, 1) := by decide +kernel
theorem dX3_trip_39 : decode cX3_trip 39 = .ok (.iconst 0, 1) := by decide +kernel
theorem dX3_trip_40 : decode cX3_trip 40 = .ok (.iconst 0, 1) := by decide +kernel
theorem dX3_trip_41 : decode cX3_trip 41 = .ok (.iconst 0, 1) := by decide +kernel
theorem dX3_trip_42 : decode cX3_trip 42 = .ok (.iload_n 1, 1) := by decide +kernel
theorem dX3_trip_43 : decode cX3_trip 43 = .ok (.iconst 0, 1) := by decide +kernel
theorem dX3_trip_44 : decode cX3_trip 44 = .ok (.iconst 0, 1) := by decide +kernel
theorem dX3_trip_45 : decode cX3_trip 45 = .ok (.iconst 0, 1) := by decide +kernel
theorem dX3_trip_46 : decode cX3_trip 46 = .ok (.invokevirtual 412, 3) := by decide +kernel
theorem dX3_trip_49 : decode cX3_trip 49 = .ok (.aload_n 0, 1) := by decide +kernel
theorem dX3_trip_50 : decode cX3_trip 50 = .ok (.getfield 416, 3) := by decide +kernel
theorem dX3_trip_53 : decode cX3_trip 53 = .ok (.ireturn, 1) := by decide +kernel
abbrev cX3_goesOn : ByteArray := prog_17_method_69_code
def yX3_goesOn : MethodName := ⟨RX3, "goesOn", "(IIIIIII)V"⟩
theorem dX3_goesOn_0 : decode cX3_goesOn 0 = .ok (.aload_n 0, 1) := by decide +kernel
theorem dX3_goesOn_1 : decode cX3_goesOn 1 = .ok (.iload_n 1, 1) := by decide +kernel
theorem dX3_goesOn_2 : decode cX3_goesOn 2 = .ok (.iload_n 2, 1) := by decide +kernel
theorem dX3_goesOn_3 : decode cX3_goesOn 3 = .ok (.iload 4, 2) := by decide +kernel
theorem dX3_goesOn_5 : decode cX3_goesOn 5 = .ok (.iload 5, 2) := by decide +kernel
theorem dX3_goesOn_7 : decode cX3_goesOn 7 = .ok (.iload 6, 2) := by decide +kernel
theorem dX3_goesOn_9 : decode cX3_goesOn 9 = .ok (.iload 7, 2) := by decide +kernel
theorem dX3_goesOn_11 : decode cX3_goesOn 11 = .ok (.invokevirtual 408, 3) := by decide +kernel
theorem dX3_goesOn_14 : decode cX3_goesOn 14 = .ok (.iconst 1, 1) := by decide +kernel
theorem dX3_goesOn_15 : decode cX3_goesOn 15 = .ok (.istore 8, 2) := by decide +kernel
theorem dX3_goesOn_17 : decode cX3_goesOn 17 = .ok (.iload 8, 2) := by decide +kernel
theorem dX3_goesOn_19 : decode cX3_goesOn 19 = .ok (.aload_n 0, 1) := by decide +kernel
theorem dX3_goesOn_20 : decode cX3_goesOn 20 = .ok (.getfield 405, 3) := by decide +kernel
theorem dX3_goesOn_23 : decode cX3_goesOn 23 = .ok (.if_icmp .gt 226, 3) := by decide +kernel
theorem dX3_goesOn_26 : decode cX3_goesOn 26 = .ok (.aload_n 0, 1) := by decide +kernel
theorem dX3_goesOn_27 : decode cX3_goesOn 27 = .ok (.getfield 139, 3) := by decide +kernel
theorem dX3_goesOn_30 : decode cX3_goesOn 30 = .ok (.bipush 7, 2) := by decide +kernel
theorem dX3_goesOn_32 : decode cX3_goesOn 32 = .ok (.iload_n 2, 1) := by decide +kernel
theorem dX3_goesOn_33 : decode cX3_goesOn 33 = .ok (.imul, 1) := by decide +kernel
theorem dX3_goesOn_34 : decode cX3_goesOn 34 = .ok (.iload 8, 2) := by decide +kernel
theorem dX3_goesOn_36 : decode cX3_goesOn 36 = .ok (.iadd, 1) := by decide +kernel
theorem dX3_goesOn_37 : decode cX3_goesOn 37 = .ok (.iaload, 1) := by decide +kernel
theorem dX3_goesOn_38 : decode cX3_goesOn 38 = .ok (.istore 9, 2) := by decide +kernel
theorem dX3_goesOn_40 : decode cX3_goesOn 40 = .ok (.iload_n 3, 1) := by decide +kernel
theorem dX3_goesOn_41 : decode cX3_goesOn 41 = .ok (.iload 8, 2) := by decide +kernel
theorem dX3_goesOn_43 : decode cX3_goesOn 43 = .ok (.ishr, 1) := by decide +kernel
theorem dX3_goesOn_44 : decode cX3_goesOn 44 = .ok (.iconst 1, 1) := by decide +kernel
theorem dX3_goesOn_45 : decode cX3_goesOn 45 = .ok (.iand, 1) := by decide +kernel
theorem dX3_goesOn_46 : decode cX3_goesOn 46 = .ok (.iconst 1, 1) := by decide +kernel
theorem dX3_goesOn_47 : decode cX3_goesOn 47 = .ok (.if_icmp .eq 196, 3) := by decide +kernel
theorem dX3_goesOn_50 : decode cX3_goesOn 50 = .ok (.iload 9, 2) := by decide +kernel
theorem dX3_goesOn_52 : decode cX3_goesOn 52 = .ok (.ifCond .eq 191, 3) := by decide +kernel
theorem dX3_goesOn_55 : decode cX3_goesOn 55 = .ok (.iload 6, 2) := by decide +kernel
theorem dX3_goesOn_57 : decode cX3_goesOn 57 = .ok (.iload 9, 2) := by decide +kernel
theorem dX3_goesOn_59 : decode cX3_goesOn 59 = .ok (.iadd, 1) := by decide +kernel
theorem dX3_goesOn_60 : decode cX3_goesOn 60 = .ok (.sipush 540, 3) := by decide +kernel
theorem dX3_goesOn_63 : decode cX3_goesOn 63 = .ok (.if_icmp .le 6, 3) := by decide +kernel
theorem dX3_goesOn_66 : decode cX3_goesOn 66 = .ok (.goto 177, 3) := by decide +kernel
theorem dX3_goesOn_69 : decode cX3_goesOn 69 = .ok (.iload 5, 2) := by decide +kernel
theorem dX3_goesOn_71 : decode cX3_goesOn 71 = .ok (.iload 9, 2) := by decide +kernel
theorem dX3_goesOn_73 : decode cX3_goesOn 73 = .ok (.iadd, 1) := by decide +kernel
theorem dX3_goesOn_74 : decode cX3_goesOn 74 = .ok (.sipush 270, 3) := by decide +kernel
theorem dX3_goesOn_77 : decode cX3_goesOn 77 = .ok (.if_icmp .le 7, 3) := by decide +kernel
theorem dX3_goesOn_80 : decode cX3_goesOn 80 = .ok (.iconst 1, 1) := by decide +kernel
theorem dX3_goesOn_81 : decode cX3_goesOn 81 = .ok (.goto 4, 3) := by decide +kernel
theorem dX3_goesOn_84 : decode cX3_goesOn 84 = .ok (.iconst 0, 1) := by decide +kernel
theorem dX3_goesOn_85 : decode cX3_goesOn 85 = .ok (.istore 10, 2) := by decide +kernel
theorem dX3_goesOn_87 : decode cX3_goesOn 87 = .ok (.iload 4, 2) := by decide +kernel
theorem dX3_goesOn_89 : decode cX3_goesOn 89 = .ok (.iload 9, 2) := by decide +kernel
theorem dX3_goesOn_91 : decode cX3_goesOn 91 = .ok (.iadd, 1) := by decide +kernel
theorem dX3_goesOn_92 : decode cX3_goesOn 92 = .ok (.iload 10, 2) := by decide +kernel
theorem dX3_goesOn_94 : decode cX3_goesOn 94 = .ok (.ifCond .eq 8, 3) := by decide +kernel
theorem dX3_goesOn_97 : decode cX3_goesOn 97 = .ok (.bipush 45, 2) := by decide +kernel
theorem dX3_goesOn_99 : decode cX3_goesOn 99 = .ok (.goto 4, 3) := by decide +kernel
theorem dX3_goesOn_102 : decode cX3_goesOn 102 = .ok (.iconst 0, 1) := by decide +kernel
theorem dX3_goesOn_103 : decode cX3_goesOn 103 = .ok (.iadd, 1) := by decide +kernel
theorem dX3_goesOn_104 : decode cX3_goesOn 104 = .ok (.istore 11, 2) := by decide +kernel
theorem dX3_goesOn_106 : decode cX3_goesOn 106 = .ok (.iload 11, 2) := by decide +kernel
theorem dX3_goesOn_108 : decode cX3_goesOn 108 = .ok (.aload_n 0, 1) := by decide +kernel
theorem dX3_goesOn_109 : decode cX3_goesOn 109 = .ok (.getfield 130, 3) := by decide +kernel
theorem dX3_goesOn_112 : decode cX3_goesOn 112 = .ok (.iload 8, 2) := by decide +kernel
theorem dX3_goesOn_114 : decode cX3_goesOn 114 = .ok (.iaload, 1) := by decide +kernel
theorem dX3_goesOn_115 : decode cX3_goesOn 115 = .ok (.if_icmp .ge 13, 3) := by decide +kernel
theorem dX3_goesOn_118 : decode cX3_goesOn 118 = .ok (.aload_n 0, 1) := by decide +kernel
theorem dX3_goesOn_119 : decode cX3_goesOn 119 = .ok (.getfield 130, 3) := by decide +kernel
theorem dX3_goesOn_122 : decode cX3_goesOn 122 = .ok (.iload 8, 2) := by decide +kernel
theorem dX3_goesOn_124 : decode cX3_goesOn 124 = .ok (.iaload, 1) := by decide +kernel
theorem dX3_goesOn_125 : decode cX3_goesOn 125 = .ok (.goto 5, 3) := by decide +kernel
theorem dX3_goesOn_128 : decode cX3_goesOn 128 = .ok (.iload 11, 2) := by decide +kernel
theorem dX3_goesOn_130 : decode cX3_goesOn 130 = .ok (.istore 12, 2) := by decide +kernel
theorem dX3_goesOn_132 : decode cX3_goesOn 132 = .ok (.iload 12, 2) := by decide +kernel
theorem dX3_goesOn_134 : decode cX3_goesOn 134 = .ok (.aload_n 0, 1) := by decide +kernel
theorem dX3_goesOn_135 : decode cX3_goesOn 135 = .ok (.getfield 136, 3) := by decide +kernel
theorem dX3_goesOn_138 : decode cX3_goesOn 138 = .ok (.iload 8, 2) := by decide +kernel
theorem dX3_goesOn_140 : decode cX3_goesOn 140 = .ok (.iaload, 1) := by decide +kernel
theorem dX3_goesOn_141 : decode cX3_goesOn 141 = .ok (.iadd, 1) := by decide +kernel
theorem dX3_goesOn_142 : decode cX3_goesOn 142 = .ok (.istore 13, 2) := by decide +kernel
theorem dX3_goesOn_144 : decode cX3_goesOn 144 = .ok (.iload 13, 2) := by decide +kernel
theorem dX3_goesOn_146 : decode cX3_goesOn 146 = .ok (.aload_n 0, 1) := by decide +kernel
theorem dX3_goesOn_147 : decode cX3_goesOn 147 = .ok (.getfield 133, 3) := by decide +kernel
theorem dX3_goesOn_150 : decode cX3_goesOn 150 = .ok (.iload 8, 2) := by decide +kernel
theorem dX3_goesOn_152 : decode cX3_goesOn 152 = .ok (.iaload, 1) := by decide +kernel
theorem dX3_goesOn_153 : decode cX3_goesOn 153 = .ok (.if_icmp .le 6, 3) := by decide +kernel
theorem dX3_goesOn_156 : decode cX3_goesOn 156 = .ok (.goto 87, 3) := by decide +kernel
theorem dX3_goesOn_159 : decode cX3_goesOn 159 = .ok (.aload_n 0, 1) := by decide +kernel
theorem dX3_goesOn_160 : decode cX3_goesOn 160 = .ok (.getfield 142, 3) := by decide +kernel
theorem dX3_goesOn_163 : decode cX3_goesOn 163 = .ok (.iload_n 1, 1) := by decide +kernel
theorem dX3_goesOn_164 : decode cX3_goesOn 164 = .ok (.iload 8, 2) := by decide +kernel
theorem dX3_goesOn_166 : decode cX3_goesOn 166 = .ok (.iastore, 1) := by decide +kernel
theorem dX3_goesOn_167 : decode cX3_goesOn 167 = .ok (.aload_n 0, 1) := by decide +kernel
theorem dX3_goesOn_168 : decode cX3_goesOn 168 = .ok (.getfield 145, 3) := by decide +kernel
theorem dX3_goesOn_171 : decode cX3_goesOn 171 = .ok (.iload_n 1, 1) := by decide +kernel
theorem dX3_goesOn_172 : decode cX3_goesOn 172 = .ok (.iload 12, 2) := by decide +kernel
theorem dX3_goesOn_174 : decode cX3_goesOn 174 = .ok (.iastore, 1) := by decide +kernel
theorem dX3_goesOn_175 : decode cX3_goesOn 175 = .ok (.iload 10, 2) := by decide +kernel
theorem dX3_goesOn_177 : decode cX3_goesOn 177 = .ok (.ifCond .eq 8, 3) := by decide +kernel
theorem dX3_goesOn_180 : decode cX3_goesOn 180 = .ok (.iload 9, 2) := by decide +kernel
theorem dX3_goesOn_182 : decode cX3_goesOn 182 = .ok (.goto 8, 3) := by decide +kernel
theorem dX3_goesOn_185 : decode cX3_goesOn 185 = .ok (.iload 5, 2) := by decide +kernel
theorem dX3_goesOn_187 : decode cX3_goesOn 187 = .ok (.iload 9, 2) := by decide +kernel
theorem dX3_goesOn_189 : decode cX3_goesOn 189 = .ok (.iadd, 1) := by decide +kernel
theorem dX3_goesOn_190 : decode cX3_goesOn 190 = .ok (.istore 14, 2) := by decide +kernel
theorem dX3_goesOn_192 : decode cX3_goesOn 192 = .ok (.aload_n 0, 1) := by decide +kernel
theorem dX3_goesOn_193 : decode cX3_goesOn 193 = .ok (.iload_n 1, 1) := by decide +kernel
theorem dX3_goesOn_194 : decode cX3_goesOn 194 = .ok (.iconst 1, 1) := by decide +kernel
theorem dX3_goesOn_195 : decode cX3_goesOn 195 = .ok (.iadd, 1) := by decide +kernel
theorem dX3_goesOn_196 : decode cX3_goesOn 196 = .ok (.iload 8, 2) := by decide +kernel
theorem dX3_goesOn_198 : decode cX3_goesOn 198 = .ok (.iload_n 3, 1) := by decide +kernel
theorem dX3_goesOn_199 : decode cX3_goesOn 199 = .ok (.iconst 1, 1) := by decide +kernel
theorem dX3_goesOn_200 : decode cX3_goesOn 200 = .ok (.iload 8, 2) := by decide +kernel
theorem dX3_goesOn_202 : decode cX3_goesOn 202 = .ok (.ishl, 1) := by decide +kernel
theorem dX3_goesOn_203 : decode cX3_goesOn 203 = .ok (.ior, 1) := by decide +kernel
theorem dX3_goesOn_204 : decode cX3_goesOn 204 = .ok (.iload 13, 2) := by decide +kernel
theorem dX3_goesOn_206 : decode cX3_goesOn 206 = .ok (.iload 13, 2) := by decide +kernel
theorem dX3_goesOn_208 : decode cX3_goesOn 208 = .ok (.iload 11, 2) := by decide +kernel
theorem dX3_goesOn_210 : decode cX3_goesOn 210 = .ok (.isub, 1) := by decide +kernel
theorem dX3_goesOn_211 : decode cX3_goesOn 211 = .ok (.bipush 45, 2) := by decide +kernel
theorem dX3_goesOn_213 : decode cX3_goesOn 213 = .ok (.if_icmp .lt 7, 3) := by decide +kernel
theorem dX3_goesOn_216 : decode cX3_goesOn 216 = .ok (.iconst 0, 1) := by decide +kernel
theorem dX3_goesOn_217 : decode cX3_goesOn 217 = .ok (.goto 5, 3) := by decide +kernel
theorem dX3_goesOn_220 : decode cX3_goesOn 220 = .ok (.iload 14, 2) := by decide +kernel
theorem dX3_goesOn_222 : decode cX3_goesOn 222 = .ok (.iload 6, 2) := by decide +kernel
theorem dX3_goesOn_224 : decode cX3_goesOn 224 = .ok (.iload 9, 2) := by decide +kernel
theorem dX3_goesOn_226 : decode cX3_goesOn 226 = .ok (.iadd, 1) := by decide +kernel
theorem dX3_goesOn_227 : decode cX3_goesOn 227 = .ok (.iload 7, 2) := by decide +kernel
theorem dX3_goesOn_229 : decode cX3_goesOn 229 = .ok (.iload 10, 2) := by decide +kernel
theorem dX3_goesOn_231 : decode cX3_goesOn 231 = .ok (.ifCond .eq 7, 3) := by decide +kernel
theorem dX3_goesOn_234 : decode cX3_goesOn 234 = .ok (.iconst 1, 1) := by decide +kernel
theorem dX3_goesOn_235 : decode cX3_goesOn 235 = .ok (.goto 4, 3) := by decide +kernel
theorem dX3_goesOn_238 : decode cX3_goesOn 238 = .ok (.iconst 0, 1) := by decide +kernel
theorem dX3_goesOn_239 : decode cX3_goesOn 239 = .ok (.iadd, 1) := by decide +kernel
theorem dX3_goesOn_240 : decode cX3_goesOn 240 = .ok (.invokevirtual 412, 3) := by decide +kernel
theorem dX3_goesOn_243 : decode cX3_goesOn 243 = .ok (.iinc 8 1, 3) := by decide +kernel
theorem dX3_goesOn_246 : decode cX3_goesOn 246 = .ok (.goto (-229), 3) := by decide +kernel
theorem dX3_goesOn_249 : decode cX3_goesOn 249 = .ok (.return_, 1) := by decide +kernel
abbrev cX3_home : ByteArray := prog_17_method_70_code
def yX3_home : MethodName := ⟨RX3, "home", "(IIIIII)V"⟩
theorem dX3_home_0 : decode cX3_home 0 = .ok (.iload_n 1, 1) := by decide +kernel
theorem dX3_home_1 : decode cX3_home 1 = .ok (.ifCond .ne 7, 3) := by decide +kernel
theorem dX3_home_4 : decode cX3_home 4 = .ok (.iconst 0, 1) := by decide +kernel
theorem dX3_home_5 : decode cX3_home 5 = .ok (.goto 12, 3) := by decide +kernel
theorem dX3_home_8 : decode cX3_home 8 = .ok (.aload_n 0, 1) := by decide +kernel
theorem dX3_home_9 : decode cX3_home 9 = .ok (.getfield 139, 3) := by decide +kernel
theorem dX3_home_12 : decode cX3_home 12 = .ok (.bipush 7, 2) := by decide +kernel
theorem dX3_home_14 : decode cX3_home 14 = .ok (.iload_n 2, 1) := by decide +kernel
theorem dX3_home_15 : decode cX3_home 15 = .ok (.imul, 1) := by decide +kernel
theorem dX3_home_16 : decode cX3_home 16 = .ok (.iaload, 1) := by decide +kernel
theorem dX3_home_17 : decode cX3_home 17 = .ok (.istore 7, 2) := by decide +kernel
theorem dX3_home_19 : decode cX3_home 19 = .ok (.iload_n 1, 1) := by decide +kernel
theorem dX3_home_20 : decode cX3_home 20 = .ok (.ifCond .le 8, 3) := by decide +kernel
theorem dX3_home_23 : decode cX3_home 23 = .ok (.iload 7, 2) := by decide +kernel
theorem dX3_home_25 : decode cX3_home 25 = .ok (.ifCond .eq 14, 3) := by decide +kernel
theorem dX3_home_28 : decode cX3_home 28 = .ok (.iload 5, 2) := by decide +kernel
theorem dX3_home_30 : decode cX3_home 30 = .ok (.iload 7, 2) := by decide +kernel
theorem dX3_home_32 : decode cX3_home 32 = .ok (.iadd, 1) := by decide +kernel
theorem dX3_home_33 : decode cX3_home 33 = .ok (.sipush 540, 3) := by decide +kernel
theorem dX3_home_36 : decode cX3_home 36 = .ok (.if_icmp .le 4, 3) := by decide +kernel
theorem dX3_home_39 : decode cX3_home 39 = .ok (.return_, 1) := by decide +kernel
theorem dX3_home_40 : decode cX3_home 40 = .ok (.iload 4, 2) := by decide +kernel
theorem dX3_home_42 : decode cX3_home 42 = .ok (.iload 7, 2) := by decide +kernel
theorem dX3_home_44 : decode cX3_home 44 = .ok (.iadd, 1) := by decide +kernel
theorem dX3_home_45 : decode cX3_home 45 = .ok (.sipush 270, 3) := by decide +kernel
theorem dX3_home_48 : decode cX3_home 48 = .ok (.if_icmp .le 7, 3) := by decide +kernel
theorem dX3_home_51 : decode cX3_home 51 = .ok (.iconst 1, 1) := by decide +kernel
theorem dX3_home_52 : decode cX3_home 52 = .ok (.goto 4, 3) := by decide +kernel
theorem dX3_home_55 : decode cX3_home 55 = .ok (.iconst 0, 1) := by decide +kernel
theorem dX3_home_56 : decode cX3_home 56 = .ok (.istore 8, 2) := by decide +kernel
theorem dX3_home_58 : decode cX3_home 58 = .ok (.iload_n 3, 1) := by decide +kernel
theorem dX3_home_59 : decode cX3_home 59 = .ok (.iload 7, 2) := by decide +kernel
theorem dX3_home_61 : decode cX3_home 61 = .ok (.iadd, 1) := by decide +kernel
theorem dX3_home_62 : decode cX3_home 62 = .ok (.iload 8, 2) := by decide +kernel
theorem dX3_home_64 : decode cX3_home 64 = .ok (.ifCond .eq 8, 3) := by decide +kernel
theorem dX3_home_67 : decode cX3_home 67 = .ok (.bipush 45, 2) := by decide +kernel
theorem dX3_home_69 : decode cX3_home 69 = .ok (.goto 4, 3) := by decide +kernel
theorem dX3_home_72 : decode cX3_home 72 = .ok (.iconst 0, 1) := by decide +kernel
theorem dX3_home_73 : decode cX3_home 73 = .ok (.iadd, 1) := by decide +kernel
theorem dX3_home_74 : decode cX3_home 74 = .ok (.istore 9, 2) := by decide +kernel
theorem dX3_home_76 : decode cX3_home 76 = .ok (.iload_n 1, 1) := by decide +kernel
theorem dX3_home_77 : decode cX3_home 77 = .ok (.ifCond .le 12, 3) := by decide +kernel
theorem dX3_home_80 : decode cX3_home 80 = .ok (.iload 9, 2) := by decide +kernel
theorem dX3_home_82 : decode cX3_home 82 = .ok (.sipush 1440, 3) := by decide +kernel
theorem dX3_home_85 : decode cX3_home 85 = .ok (.if_icmp .le 4, 3) := by decide +kernel
theorem dX3_home_88 : decode cX3_home 88 = .ok (.return_, 1) := by decide +kernel
theorem dX3_home_89 : decode cX3_home 89 = .ok (.iload_n 1, 1) := by decide +kernel
theorem dX3_home_90 : decode cX3_home 90 = .ok (.aload_n 0, 1) := by decide +kernel
theorem dX3_home_91 : decode cX3_home 91 = .ok (.getfield 416, 3) := by decide +kernel
theorem dX3_home_94 : decode cX3_home 94 = .ok (.if_icmp .lt 41, 3) := by decide +kernel
theorem dX3_home_97 : decode cX3_home 97 = .ok (.iload_n 1, 1) := by decide +kernel
theorem dX3_home_98 : decode cX3_home 98 = .ok (.aload_n 0, 1) := by decide +kernel
theorem dX3_home_99 : decode cX3_home 99 = .ok (.getfield 416, 3) := by decide +kernel
theorem dX3_home_102 : decode cX3_home 102 = .ok (.if_icmp .ne 34, 3) := by decide +kernel
theorem dX3_home_105 : decode cX3_home 105 = .ok (.iload 9, 2) := by decide +kernel
theorem dX3_home_107 : decode cX3_home 107 = .ok (.aload_n 0, 1) := by decide +kernel
theorem dX3_home_108 : decode cX3_home 108 = .ok (.getfield 419, 3) := by decide +kernel
theorem dX3_home_111 : decode cX3_home 111 = .ok (.if_icmp .gt 24, 3) := by decide +kernel
theorem dX3_home_114 : decode cX3_home 114 = .ok (.iload 9, 2) := by decide +kernel
theorem dX3_home_116 : decode cX3_home 116 = .ok (.aload_n 0, 1) := by decide +kernel
theorem dX3_home_117 : decode cX3_home 117 = .ok (.getfield 419, 3) := by decide +kernel
theorem dX3_home_120 : decode cX3_home 120 = .ok (.if_icmp .ne 16, 3) := by decide +kernel
theorem dX3_home_123 : decode cX3_home 123 = .ok (.iload 5, 2) := by decide +kernel
theorem dX3_home_125 : decode cX3_home 125 = .ok (.iload 7, 2) := by decide +kernel
theorem dX3_home_127 : decode cX3_home 127 = .ok (.iadd, 1) := by decide +kernel
theorem dX3_home_128 : decode cX3_home 128 = .ok (.aload_n 0, 1) := by decide +kernel
theorem dX3_home_129 : decode cX3_home 129 = .ok (.getfield 422, 3) := by decide +kernel
theorem dX3_home_132 : decode cX3_home 132 = .ok (.if_icmp .lt 4, 3) := by decide +kernel
theorem dX3_home_135 : decode cX3_home 135 = .ok (.return_, 1) := by decide +kernel
theorem dX3_home_136 : decode cX3_home 136 = .ok (.aload_n 0, 1) := by decide +kernel
theorem dX3_home_137 : decode cX3_home 137 = .ok (.iload_n 1, 1) := by decide +kernel
theorem dX3_home_138 : decode cX3_home 138 = .ok (.putfield 416, 3) := by decide +kernel
theorem dX3_home_141 : decode cX3_home 141 = .ok (.aload_n 0, 1) := by decide +kernel
theorem dX3_home_142 : decode cX3_home 142 = .ok (.iload 9, 2) := by decide +kernel
theorem dX3_home_144 : decode cX3_home 144 = .ok (.putfield 419, 3) := by decide +kernel
theorem dX3_home_147 : decode cX3_home 147 = .ok (.aload_n 0, 1) := by decide +kernel
theorem dX3_home_148 : decode cX3_home 148 = .ok (.iload 5, 2) := by decide +kernel
theorem dX3_home_150 : decode cX3_home 150 = .ok (.iload 7, 2) := by decide +kernel
theorem dX3_home_152 : decode cX3_home 152 = .ok (.iadd, 1) := by decide +kernel
theorem dX3_home_153 : decode cX3_home 153 = .ok (.putfield 422, 3) := by decide +kernel
theorem dX3_home_156 : decode cX3_home 156 = .ok (.aload_n 0, 1) := by decide +kernel
theorem dX3_home_157 : decode cX3_home 157 = .ok (.iload 6, 2) := by decide +kernel
theorem dX3_home_159 : decode cX3_home 159 = .ok (.iload 8, 2) := by decide +kernel
theorem dX3_home_161 : decode cX3_home 161 = .ok (.ifCond .eq 7, 3) := by decide +kernel
theorem dX3_home_164 : decode cX3_home 164 = .ok (.iconst 1, 1) := by decide +kernel
theorem dX3_home_165 : decode cX3_home 165 = .ok (.goto 4, 3) := by decide +kernel
theorem dX3_home_168 : decode cX3_home 168 = .ok (.iconst 0, 1) := by decide +kernel
theorem dX3_home_169 : decode cX3_home 169 = .ok (.iadd, 1) := by decide +kernel
theorem dX3_home_170 : decode cX3_home 170 = .ok (.putfield 425, 3) := by decide +kernel
theorem dX3_home_173 : decode cX3_home 173 = .ok (.iconst 0, 1) := by decide +kernel
theorem dX3_home_174 : decode cX3_home 174 = .ok (.istore 10, 2) := by decide +kernel
theorem dX3_home_176 : decode cX3_home 176 = .ok (.iload 10, 2) := by decide +kernel
theorem dX3_home_178 : decode cX3_home 178 = .ok (.iload_n 1, 1) := by decide +kernel
theorem dX3_home_179 : decode cX3_home 179 = .ok (.if_icmp .ge 37, 3) := by decide +kernel
theorem dX3_home_182 : decode cX3_home 182 = .ok (.aload_n 0, 1) := by decide +kernel
theorem dX3_home_183 : decode cX3_home 183 = .ok (.getfield 148, 3) := by decide +kernel
theorem dX3_home_186 : decode cX3_home 186 = .ok (.iload 10, 2) := by decide +kernel
theorem dX3_home_188 : decode cX3_home 188 = .ok (.aload_n 0, 1) := by decide +kernel
theorem dX3_home_189 : decode cX3_home 189 = .ok (.getfield 142, 3) := by decide +kernel
theorem dX3_home_192 : decode cX3_home 192 = .ok (.iload 10, 2) := by decide +kernel
theorem dX3_home_194 : decode cX3_home 194 = .ok (.iaload, 1) := by decide +kernel
theorem dX3_home_195 : decode cX3_home 195 = .ok (.iastore, 1) := by decide +kernel
theorem dX3_home_196 : decode cX3_home 196 = .ok (.aload_n 0, 1) := by decide +kernel
theorem dX3_home_197 : decode cX3_home 197 = .ok (.getfield 151, 3) := by decide +kernel
theorem dX3_home_200 : decode cX3_home 200 = .ok (.iload 10, 2) := by decide +kernel
theorem dX3_home_202 : decode cX3_home 202 = .ok (.aload_n 0, 1) := by decide +kernel
theorem dX3_home_203 : decode cX3_home 203 = .ok (.getfield 145, 3) := by decide +kernel
theorem dX3_home_206 : decode cX3_home 206 = .ok (.iload 10, 2) := by decide +kernel
theorem dX3_home_208 : decode cX3_home 208 = .ok (.iaload, 1) := by decide +kernel
theorem dX3_home_209 : decode cX3_home 209 = .ok (.iastore, 1) := by decide +kernel
theorem dX3_home_210 : decode cX3_home 210 = .ok (.iinc 10 1, 3) := by decide +kernel
theorem dX3_home_213 : decode cX3_home 213 = .ok (.goto (-37), 3) := by decide +kernel
theorem dX3_home_216 : decode cX3_home 216 = .ok (.return_, 1) := by decide +kernel
abbrev cX3_tripOf : ByteArray := prog_17_method_72_code
def yX3_tripOf : MethodName := ⟨RX3, "tripOf", "(I)I"⟩
theorem dX3_tripOf_0 : decode cX3_tripOf 0 = .ok (.aload_n 0, 1) := by decide +kernel
theorem dX3_tripOf_1 : decode cX3_tripOf 1 = .ok (.getfield 428, 3) := by decide +kernel
theorem dX3_tripOf_4 : decode cX3_tripOf 4 = .ok (.ifCond .ne 5, 3) := by decide +kernel
theorem dX3_tripOf_7 : decode cX3_tripOf 7 = .ok (.iconst (-1), 1) := by decide +kernel
theorem dX3_tripOf_8 : decode cX3_tripOf 8 = .ok (.ireturn, 1) := by decide +kernel
theorem dX3_tripOf_9 : decode cX3_tripOf 9 = .ok (.iload_n 1, 1) := by decide +kernel
theorem dX3_tripOf_10 : decode cX3_tripOf 10 = .ok (.bipush 10, 2) := by decide +kernel
theorem dX3_tripOf_12 : decode cX3_tripOf 12 = .ok (.bipush 9, 2) := by decide +kernel
theorem dX3_tripOf_14 : decode cX3_tripOf 14 = .ok (.aload_n 0, 1) := by decide +kernel
theorem dX3_tripOf_15 : decode cX3_tripOf 15 = .ok (.getfield 416, 3) := by decide +kernel
theorem dX3_tripOf_18 : decode cX3_tripOf 18 = .ok (.iadd, 1) := by decide +kernel
theorem dX3_tripOf_19 : decode cX3_tripOf 19 = .ok (.invokestatic 160, 3) := by decide +kernel
theorem dX3_tripOf_22 : decode cX3_tripOf 22 = .ok (.ifCond .eq 13, 3) := by decide +kernel
theorem dX3_tripOf_25 : decode cX3_tripOf 25 = .ok (.aload_n 0, 1) := by decide +kernel
theorem dX3_tripOf_26 : decode cX3_tripOf 26 = .ok (.getfield 148, 3) := by decide +kernel
theorem dX3_tripOf_29 : decode cX3_tripOf 29 = .ok (.iload_n 1, 1) := by decide +kernel
theorem dX3_tripOf_30 : decode cX3_tripOf 30 = .ok (.bipush 10, 2) := by decide +kernel
theorem dX3_tripOf_32 : decode cX3_tripOf 32 = .ok (.isub, 1) := by decide +kernel
theorem dX3_tripOf_33 : decode cX3_tripOf 33 = .ok (.iaload, 1) := by decide +kernel
theorem dX3_tripOf_34 : decode cX3_tripOf 34 = .ok (.ireturn, 1) := by decide +kernel
theorem dX3_tripOf_35 : decode cX3_tripOf 35 = .ok (.iload_n 1, 1) := by decide +kernel
theorem dX3_tripOf_36 : decode cX3_tripOf 36 = .ok (.bipush 20, 2) := by decide +kernel
theorem dX3_tripOf_38 : decode cX3_tripOf 38 = .ok (.bipush 19, 2) := by decide +kernel
theorem dX3_tripOf_40 : decode cX3_tripOf 40 = .ok (.aload_n 0, 1) := by decide +kernel
theorem dX3_tripOf_41 : decode cX3_tripOf 41 = .ok (.getfield 416, 3) := by decide +kernel
theorem dX3_tripOf_44 : decode cX3_tripOf 44 = .ok (.iadd, 1) := by decide +kernel
theorem dX3_tripOf_45 : decode cX3_tripOf 45 = .ok (.invokestatic 160, 3) := by decide +kernel
theorem dX3_tripOf_48 : decode cX3_tripOf 48 = .ok (.ifCond .eq 13, 3) := by decide +kernel
theorem dX3_tripOf_51 : decode cX3_tripOf 51 = .ok (.aload_n 0, 1) := by decide +kernel
theorem dX3_tripOf_52 : decode cX3_tripOf 52 = .ok (.getfield 151, 3) := by decide +kernel
theorem dX3_tripOf_55 : decode cX3_tripOf 55 = .ok (.iload_n 1, 1) := by decide +kernel
theorem dX3_tripOf_56 : decode cX3_tripOf 56 = .ok (.bipush 20, 2) := by decide +kernel
theorem dX3_tripOf_58 : decode cX3_tripOf 58 = .ok (.isub, 1) := by decide +kernel
theorem dX3_tripOf_59 : decode cX3_tripOf 59 = .ok (.iaload, 1) := by decide +kernel
theorem dX3_tripOf_60 : decode cX3_tripOf 60 = .ok (.ireturn, 1) := by decide +kernel
theorem dX3_tripOf_61 : decode cX3_tripOf 61 = .ok (.iload_n 1, 1) := by decide +kernel
theorem dX3_tripOf_62 : decode cX3_tripOf 62 = .ok (.ifCond .ne 10, 3) := by decide +kernel
theorem dX3_tripOf_65 : decode cX3_tripOf 65 = .ok (.aload_n 0, 1) := by decide +kernel
theorem dX3_tripOf_66 : decode cX3_tripOf 66 = .ok (.getfield 419, 3) := by decide +kernel
theorem dX3_tripOf_69 : decode cX3_tripOf 69 = .ok (.goto 28, 3) := by decide +kernel
theorem dX3_tripOf_72 : decode cX3_tripOf 72 = .ok (.iload_n 1, 1) := by decide +kernel
theorem dX3_tripOf_73 : decode cX3_tripOf 73 = .ok (.iconst 1, 1) := by decide +kernel
theorem dX3_tripOf_74 : decode cX3_tripOf 74 = .ok (.if_icmp .ne 10, 3) := by decide +kernel
theorem dX3_tripOf_77 : decode cX3_tripOf 77 = .ok (.aload_n 0, 1) := by decide +kernel
theorem dX3_tripOf_78 : decode cX3_tripOf 78 = .ok (.getfield 422, 3) := by decide +kernel
theorem dX3_tripOf_81 : decode cX3_tripOf 81 = .ok (.goto 16, 3) := by decide +kernel
theorem dX3_tripOf_84 : decode cX3_tripOf 84 = .ok (.iload_n 1, 1) := by decide +kernel
theorem dX3_tripOf_85 : decode cX3_tripOf 85 = .ok (.iconst 2, 1) := by decide +kernel
theorem dX3_tripOf_86 : decode cX3_tripOf 86 = .ok (.if_icmp .ne 10, 3) := by decide +kernel
theorem dX3_tripOf_89 : decode cX3_tripOf 89 = .ok (.aload_n 0, 1) := by decide +kernel
theorem dX3_tripOf_90 : decode cX3_tripOf 90 = .ok (.getfield 425, 3) := by decide +kernel
theorem dX3_tripOf_93 : decode cX3_tripOf 93 = .ok (.goto 4, 3) := by decide +kernel
theorem dX3_tripOf_96 : decode cX3_tripOf 96 = .ok (.iconst (-1), 1) := by decide +kernel
theorem dX3_tripOf_97 : decode cX3_tripOf 97 = .ok (.ireturn, 1) := by decide +kernel
abbrev cX3_night : ByteArray := prog_17_method_76_code
def yX3_night : MethodName := ⟨RX3, "night", "()I"⟩
theorem dX3_night_0 : decode cX3_night 0 = .ok (.aload_n 0, 1) := by decide +kernel
theorem dX3_night_1 : decode cX3_night 1 = .ok (.getfield 167, 3) := by decide +kernel
theorem dX3_night_4 : decode cX3_night 4 = .ok (.aload_n 0, 1) := by decide +kernel
theorem dX3_night_5 : decode cX3_night 5 = .ok (.getfield 192, 3) := by decide +kernel
theorem dX3_night_8 : decode cX3_night 8 = .ok (.if_icmp .eq 19, 3) := by decide +kernel
theorem dX3_night_11 : decode cX3_night 11 = .ok (.aload_n 0, 1) := by decide +kernel
theorem dX3_night_12 : decode cX3_night 12 = .ok (.getfield 42, 3) := by decide +kernel
theorem dX3_night_15 : decode cX3_night 15 = .ok (.aload_n 0, 1) := by decide +kernel
theorem dX3_night_16 : decode cX3_night 16 = .ok (.getfield 167, 3) := by decide +kernel
theorem dX3_night_19 : decode cX3_night 19 = .ok (.iadd, 1) := by decide +kernel
theorem dX3_night_20 : decode cX3_night 20 = .ok (.aload_n 0, 1) := by decide +kernel
theorem dX3_night_21 : decode cX3_night 21 = .ok (.getfield 183, 3) := by decide +kernel
theorem dX3_night_24 : decode cX3_night 24 = .ok (.if_icmp .le 5, 3) := by decide +kernel
theorem dX3_night_27 : decode cX3_night 27 = .ok (.iconst (-1), 1) := by decide +kernel
theorem dX3_night_28 : decode cX3_night 28 = .ok (.ireturn, 1) := by decide +kernel
theorem dX3_night_29 : decode cX3_night 29 = .ok (.aload_n 0, 1) := by decide +kernel
theorem dX3_night_30 : decode cX3_night 30 = .ok (.aload_n 0, 1) := by decide +kernel
theorem dX3_night_31 : decode cX3_night 31 = .ok (.getfield 167, 3) := by decide +kernel
theorem dX3_night_34 : decode cX3_night 34 = .ok (.invokevirtual 432, 3) := by decide +kernel
theorem dX3_night_37 : decode cX3_night 37 = .ok (.istore_n 1, 1) := by decide +kernel
theorem dX3_night_38 : decode cX3_night 38 = .ok (.aload_n 0, 1) := by decide +kernel
theorem dX3_night_39 : decode cX3_night 39 = .ok (.iload_n 1, 1) := by decide +kernel
theorem dX3_night_40 : decode cX3_night 40 = .ok (.invokevirtual 435, 3) := by decide +kernel
theorem dX3_night_43 : decode cX3_night 43 = .ok (.ifCond .ne 5, 3) := by decide +kernel
theorem dX3_night_46 : decode cX3_night 46 = .ok (.iconst (-1), 1) := by decide +kernel
theorem dX3_night_47 : decode cX3_night 47 = .ok (.ireturn, 1) := by decide +kernel
theorem dX3_night_48 : decode cX3_night 48 = .ok (.aload_n 0, 1) := by decide +kernel
theorem dX3_night_49 : decode cX3_night 49 = .ok (.getfield 167, 3) := by decide +kernel
theorem dX3_night_52 : decode cX3_night 52 = .ok (.istore_n 2, 1) := by decide +kernel
theorem dX3_night_53 : decode cX3_night 53 = .ok (.aload_n 0, 1) := by decide +kernel
theorem dX3_night_54 : decode cX3_night 54 = .ok (.iload_n 1, 1) := by decide +kernel
theorem dX3_night_55 : decode cX3_night 55 = .ok (.iconst 2, 1) := by decide +kernel
theorem dX3_night_56 : decode cX3_night 56 = .ok (.invokevirtual 387, 3) := by decide +kernel
theorem dX3_night_59 : decode cX3_night 59 = .ok (.istore_n 3, 1) := by decide +kernel
theorem dX3_night_60 : decode cX3_night 60 = .ok (.aload_n 0, 1) := by decide +kernel
theorem dX3_night_61 : decode cX3_night 61 = .ok (.getfield 84, 3) := by decide +kernel
theorem dX3_night_64 : decode cX3_night 64 = .ok (.iload_n 2, 1) := by decide +kernel
theorem dX3_night_65 : decode cX3_night 65 = .ok (.aload_n 0, 1) := by decide +kernel
theorem dX3_night_66 : decode cX3_night 66 = .ok (.iload_n 1, 1) := by decide +kernel
theorem dX3_night_67 : decode cX3_night 67 = .ok (.invokevirtual 438, 3) := by decide +kernel
theorem dX3_night_70 : decode cX3_night 70 = .ok (.iastore, 1) := by decide +kernel
theorem dX3_night_71 : decode cX3_night 71 = .ok (.iconst 0, 1) := by decide +kernel
theorem dX3_night_72 : decode cX3_night 72 = .ok (.istore 4, 2) := by decide +kernel
theorem dX3_night_74 : decode cX3_night 74 = .ok (.iload 4, 2) := by decide +kernel
theorem dX3_night_76 : decode cX3_night 76 = .ok (.bipush 10, 2) := by decide +kernel
theorem dX3_night_78 : decode cX3_night 78 = .ok (.if_icmp .ge 33, 3) := by decide +kernel
theorem dX3_night_81 : decode cX3_night 81 = .ok (.aload_n 0, 1) := by decide +kernel
theorem dX3_night_82 : decode cX3_night 82 = .ok (.getfield 81, 3) := by decide +kernel
theorem dX3_night_85 : decode cX3_night 85 = .ok (.bipush 10, 2) := by decide +kernel
theorem dX3_night_87 : decode cX3_night 87 = .ok (.iload_n 2, 1) := by decide +kernel
theorem dX3_night_88 : decode cX3_night 88 = .ok (.imul, 1) := by decide +kernel
theorem dX3_night_89 : decode cX3_night 89 = .ok (.iload 4, 2) := by decide +kernel
theorem dX3_night_91 : decode cX3_night 91 = .ok (.iadd, 1) := by decide +kernel
theorem dX3_night_92 : decode cX3_night 92 = .ok (.aload_n 0, 1) := by decide +kernel
theorem dX3_night_93 : decode cX3_night 93 = .ok (.getfield 66, 3) := by decide +kernel
theorem dX3_night_96 : decode cX3_night 96 = .ok (.bipush 10, 2) := by decide +kernel
theorem dX3_night_98 : decode cX3_night 98 = .ok (.iload_n 1, 1) := by decide +kernel
theorem dX3_night_99 : decode cX3_night 99 = .ok (.imul, 1) := by decide +kernel
theorem dX3_night_100 : decode cX3_night 100 = .ok (.iload 4, 2) := by decide +kernel
theorem dX3_night_102 : decode cX3_night 102 = .ok (.iadd, 1) := by decide +kernel
theorem dX3_night_103 : decode cX3_night 103 = .ok (.iaload, 1) := by decide +kernel
theorem dX3_night_104 : decode cX3_night 104 = .ok (.iastore, 1) := by decide +kernel
theorem dX3_night_105 : decode cX3_night 105 = .ok (.iinc 4 1, 3) := by decide +kernel
theorem dX3_night_108 : decode cX3_night 108 = .ok (.goto (-34), 3) := by decide +kernel
theorem dX3_night_111 : decode cX3_night 111 = .ok (.iconst 0, 1) := by decide +kernel
theorem dX3_night_112 : decode cX3_night 112 = .ok (.istore 4, 2) := by decide +kernel
theorem dX3_night_114 : decode cX3_night 114 = .ok (.iload 4, 2) := by decide +kernel
theorem dX3_night_116 : decode cX3_night 116 = .ok (.aload_n 0, 1) := by decide +kernel
theorem dX3_night_117 : decode cX3_night 117 = .ok (.getfield 51, 3) := by decide +kernel
theorem dX3_night_120 : decode cX3_night 120 = .ok (.iload_n 1, 1) := by decide +kernel
theorem dX3_night_121 : decode cX3_night 121 = .ok (.iaload, 1) := by decide +kernel
theorem dX3_night_122 : decode cX3_night 122 = .ok (.if_icmp .ge 122, 3) := by decide +kernel
theorem dX3_night_125 : decode cX3_night 125 = .ok (.aload_n 0, 1) := by decide +kernel
theorem dX3_night_126 : decode cX3_night 126 = .ok (.iload_n 1, 1) := by decide +kernel
theorem dX3_night_127 : decode cX3_night 127 = .ok (.iload 4, 2) := by decide +kernel
theorem dX3_night_129 : decode cX3_night 129 = .ok (.invokevirtual 211, 3) := by decide +kernel
theorem dX3_night_132 : decode cX3_night 132 = .ok (.istore 5, 2) := by decide +kernel
theorem dX3_night_134 : decode cX3_night 134 = .ok (.aload_n 0, 1) := by decide +kernel
theorem dX3_night_135 : decode cX3_night 135 = .ok (.getfield 60, 3) := by decide +kernel
theorem dX3_night_138 : decode cX3_night 138 = .ok (.bipush 10, 2) := by decide +kernel
theorem dX3_night_140 : decode cX3_night 140 = .ok (.iload_n 1, 1) := by decide +kernel
theorem dX3_night_141 : decode cX3_night 141 = .ok (.imul, 1) := by decide +kernel
theorem dX3_night_142 : decode cX3_night 142 = .ok (.iload 4, 2) := by decide +kernel
theorem dX3_night_144 : decode cX3_night 144 = .ok (.iadd, 1) := by decide +kernel
theorem dX3_night_145 : decode cX3_night 145 = .ok (.iaload, 1) := by decide +kernel
theorem dX3_night_146 : decode cX3_night 146 = .ok (.istore 6, 2) := by decide +kernel
theorem dX3_night_148 : decode cX3_night 148 = .ok (.iload 5, 2) := by decide +kernel
theorem dX3_night_150 : decode cX3_night 150 = .ok (.invokestatic 243, 3) := by decide +kernel
theorem dX3_night_153 : decode cX3_night 153 = .ok (.iconst 2, 1) := by decide +kernel
theorem dX3_night_154 : decode cX3_night 154 = .ok (.if_icmp .ne 7, 3) := by decide +kernel
theorem dX3_night_157 : decode cX3_night 157 = .ok (.iconst 1, 1) := by decide +kernel
theorem dX3_night_158 : decode cX3_night 158 = .ok (.goto 4, 3) := by decide +kernel
theorem dX3_night_161 : decode cX3_night 161 = .ok (.iconst 0, 1) := by decide +kernel
theorem dX3_night_162 : decode cX3_night 162 = .ok (.istore 7, 2) := by decide +kernel
theorem dX3_night_164 : decode cX3_night 164 = .ok (.iconst 1, 1) := by decide +kernel
theorem dX3_night_165 : decode cX3_night 165 = .ok (.istore 8, 2) := by decide +kernel
theorem dX3_night_167 : decode cX3_night 167 = .ok (.iconst 0, 1) := by decide +kernel
theorem dX3_night_168 : decode cX3_night 168 = .ok (.istore 9, 2) := by decide +kernel
theorem dX3_night_170 : decode cX3_night 170 = .ok (.iload 9, 2) := by decide +kernel
theorem dX3_night_172 : decode cX3_night 172 = .ok (.aload_n 0, 1) := by decide +kernel
theorem dX3_night_173 : decode cX3_night 173 = .ok (.getfield 157, 3) := by decide +kernel
theorem dX3_night_176 : decode cX3_night 176 = .ok (.if_icmp .ge 62, 3) := by decide +kernel
theorem dX3_night_179 : decode cX3_night 179 = .ok (.iload 5, 2) := by decide +kernel
theorem dX3_night_181 : decode cX3_night 181 = .ok (.iload 9, 2) := by decide +kernel
theorem dX3_night_183 : decode cX3_night 183 = .ok (.ishr, 1) := by decide +kernel
theorem dX3_night_184 : decode cX3_night 184 = .ok (.iconst 1, 1) := by decide +kernel
theorem dX3_night_185 : decode cX3_night 185 = .ok (.iand, 1) := by decide +kernel
theorem dX3_night_186 : decode cX3_night 186 = .ok (.ifCond .ne 6, 3) := by decide +kernel
theorem dX3_night_189 : decode cX3_night 189 = .ok (.goto 43, 3) := by decide +kernel
theorem dX3_night_192 : decode cX3_night 192 = .ok (.aload_n 0, 1) := by decide +kernel
theorem dX3_night_193 : decode cX3_night 193 = .ok (.iload_n 2, 1) := by decide +kernel
theorem dX3_night_194 : decode cX3_night 194 = .ok (.iload 9, 2) := by decide +kernel
theorem dX3_night_196 : decode cX3_night 196 = .ok (.iload 7, 2) := by decide +kernel
theorem dX3_night_198 : decode cX3_night 198 = .ok (.ifCond .ne 8, 3) := by decide +kernel
theorem dX3_night_201 : decode cX3_night 201 = .ok (.iload 6, 2) := by decide +kernel
theorem dX3_night_203 : decode cX3_night 203 = .ok (.goto 22, 3) := by decide +kernel
theorem dX3_night_206 : decode cX3_night 206 = .ok (.iload 8, 2) := by decide +kernel
theorem dX3_night_208 : decode cX3_night 208 = .ok (.ifCond .eq 13, 3) := by decide +kernel
theorem dX3_night_211 : decode cX3_night 211 = .ok (.iload 6, 2) := by decide +kernel
theorem dX3_night_213 : decode cX3_night 213 = .ok (.iload 6, 2) := by decide +kernel
theorem dX3_night_215 : decode cX3_night 215 = .ok (.iconst 2, 1) := by decide +kernel
theorem dX3_night_216 : decode cX3_night 216 = .ok (.idiv, 1) := by decide +kernel
theorem dX3_night_217 : decode cX3_night 217 = .ok (.isub, 1) := by decide +kernel
theorem dX3_night_218 : decode cX3_night 218 = .ok (.goto 7, 3) := by decide +kernel
theorem dX3_night_221 : decode cX3_night 221 = .ok (.iload 6, 2) := by decide +kernel
theorem dX3_night_223 : decode cX3_night 223 = .ok (.iconst 2, 1) := by decide +kernel
theorem dX3_night_224 : decode cX3_night 224 = .ok (.idiv, 1) := by decide +kernel
theorem dX3_night_225 : decode cX3_night 225 = .ok (.iload_n 3, 1) := by decide +kernel
theorem dX3_night_226 : decode cX3_night 226 = .ok (.invokevirtual 441, 3) := by decide +kernel
theorem dX3_night_229 : decode cX3_night 229 = .ok (.iconst 0, 1) := by decide +kernel
theorem dX3_night_230 : decode cX3_night 230 = .ok (.istore 8, 2) := by decide +kernel
theorem dX3_night_232 : decode cX3_night 232 = .ok (.iinc 9 1, 3) := by decide +kernel
theorem dX3_night_235 : decode cX3_night 235 = .ok (.goto (-65), 3) := by decide +kernel
theorem dX3_night_238 : decode cX3_night 238 = .ok (.iinc 4 1, 3) := by decide +kernel
theorem dX3_night_241 : decode cX3_night 241 = .ok (.goto (-127), 3) := by decide +kernel
theorem dX3_night_244 : decode cX3_night 244 = .ok (.aload_n 0, 1) := by decide +kernel
theorem dX3_night_245 : decode cX3_night 245 = .ok (.dup, 1) := by decide +kernel
theorem dX3_night_246 : decode cX3_night 246 = .ok (.getfield 167, 3) := by decide +kernel
theorem dX3_night_249 : decode cX3_night 249 = .ok (.iconst 1, 1) := by decide +kernel
theorem dX3_night_250 : decode cX3_night 250 = .ok (.iadd, 1) := by decide +kernel
theorem dX3_night_251 : decode cX3_night 251 = .ok (.putfield 167, 3) := by decide +kernel
theorem dX3_night_254 : decode cX3_night 254 = .ok (.iload_n 2, 1) := by decide +kernel
theorem dX3_night_255 : decode cX3_night 255 = .ok (.ireturn, 1) := by decide +kernel
abbrev cX3_townAt : ByteArray := prog_17_method_73_code
def yX3_townAt : MethodName := ⟨RX3, "townAt", "(I)I"⟩
theorem dX3_townAt_0 : decode cX3_townAt 0 = .ok (.iconst 0, 1) := by decide +kernel
theorem dX3_townAt_1 : decode cX3_townAt 1 = .ok (.istore_n 2, 1) := by decide +kernel
theorem dX3_townAt_2 : decode cX3_townAt 2 = .ok (.iload_n 1, 1) := by decide +kernel
theorem dX3_townAt_3 : decode cX3_townAt 3 = .ok (.aload_n 0, 1) := by decide +kernel
theorem dX3_townAt_4 : decode cX3_townAt 4 = .ok (.getfield 48, 3) := by decide +kernel
theorem dX3_townAt_7 : decode cX3_townAt 7 = .ok (.iload_n 2, 1) := by decide +kernel
theorem dX3_townAt_8 : decode cX3_townAt 8 = .ok (.iaload, 1) := by decide +kernel
theorem dX3_townAt_9 : decode cX3_townAt 9 = .ok (.aload_n 0, 1) := by decide +kernel
theorem dX3_townAt_10 : decode cX3_townAt 10 = .ok (.getfield 45, 3) := by decide +kernel
theorem dX3_townAt_13 : decode cX3_townAt 13 = .ok (.iload_n 2, 1) := by decide +kernel
theorem dX3_townAt_14 : decode cX3_townAt 14 = .ok (.iaload, 1) := by decide +kernel
theorem dX3_townAt_15 : decode cX3_townAt 15 = .ok (.iadd, 1) := by decide +kernel
theorem dX3_townAt_16 : decode cX3_townAt 16 = .ok (.if_icmp .lt 9, 3) := by decide +kernel
theorem dX3_townAt_19 : decode cX3_townAt 19 = .ok (.iinc 2 1, 3) := by decide +kernel
theorem dX3_townAt_22 : decode cX3_townAt 22 = .ok (.goto (-20), 3) := by decide +kernel
theorem dX3_townAt_25 : decode cX3_townAt 25 = .ok (.iload_n 2, 1) := by decide +kernel
theorem dX3_townAt_26 : decode cX3_townAt 26 = .ok (.ireturn, 1) := by decide +kernel
abbrev cX3_billOf : ByteArray := prog_17_method_75_code
def yX3_billOf : MethodName := ⟨RX3, "billOf", "(I)I"⟩
theorem dX3_billOf_0 : decode cX3_billOf 0 = .ok (.aload_n 0, 1) := by decide +kernel
theorem dX3_billOf_1 : decode cX3_billOf 1 = .ok (.iload_n 1, 1) := by decide +kernel
theorem dX3_billOf_2 : decode cX3_billOf 2 = .ok (.iconst 3, 1) := by decide +kernel
theorem dX3_billOf_3 : decode cX3_billOf 3 = .ok (.invokevirtual 387, 3) := by decide +kernel
theorem dX3_billOf_6 : decode cX3_billOf 6 = .ok (.istore_n 2, 1) := by decide +kernel
theorem dX3_billOf_7 : decode cX3_billOf 7 = .ok (.iconst 0, 1) := by decide +kernel
theorem dX3_billOf_8 : decode cX3_billOf 8 = .ok (.istore_n 3, 1) := by decide +kernel
theorem dX3_billOf_9 : decode cX3_billOf 9 = .ok (.iconst 0, 1) := by decide +kernel
theorem dX3_billOf_10 : decode cX3_billOf 10 = .ok (.istore 4, 2) := by decide +kernel
theorem dX3_billOf_12 : decode cX3_billOf 12 = .ok (.iload 4, 2) := by decide +kernel
theorem dX3_billOf_14 : decode cX3_billOf 14 = .ok (.aload_n 0, 1) := by decide +kernel
theorem dX3_billOf_15 : decode cX3_billOf 15 = .ok (.getfield 51, 3) := by decide +kernel
theorem dX3_billOf_18 : decode cX3_billOf 18 = .ok (.iload_n 1, 1) := by decide +kernel
theorem dX3_billOf_19 : decode cX3_billOf 19 = .ok (.iaload, 1) := by decide +kernel
theorem dX3_billOf_20 : decode cX3_billOf 20 = .ok (.if_icmp .ge 31, 3) := by decide +kernel
theorem dX3_billOf_23 : decode cX3_billOf 23 = .ok (.aload_n 0, 1) := by decide +kernel
theorem dX3_billOf_24 : decode cX3_billOf 24 = .ok (.getfield 154, 3) := by decide +kernel
theorem dX3_billOf_27 : decode cX3_billOf 27 = .ok (.iload 4, 2) := by decide +kernel
theorem dX3_billOf_29 : decode cX3_billOf 29 = .ok (.aload_n 0, 1) := by decide +kernel
theorem dX3_billOf_30 : decode cX3_billOf 30 = .ok (.iload_n 1, 1) := by decide +kernel
theorem dX3_billOf_31 : decode cX3_billOf 31 = .ok (.iload 4, 2) := by decide +kernel
theorem dX3_billOf_33 : decode cX3_billOf 33 = .ok (.invokevirtual 211, 3) := by decide +kernel
theorem dX3_billOf_36 : decode cX3_billOf 36 = .ok (.ifCond .ne 7, 3) := by decide +kernel
theorem dX3_billOf_39 : decode cX3_billOf 39 = .ok (.iconst 1, 1) := by decide +kernel
theorem dX3_billOf_40 : decode cX3_billOf 40 = .ok (.goto 4, 3) := by decide +kernel
theorem dX3_billOf_43 : decode cX3_billOf 43 = .ok (.iconst 0, 1) := by decide +kernel
theorem dX3_billOf_44 : decode cX3_billOf 44 = .ok (.bastore, 1) := by decide +kernel
theorem dX3_billOf_45 : decode cX3_billOf 45 = .ok (.iinc 4 1, 3) := by decide +kernel
theorem dX3_billOf_48 : decode cX3_billOf 48 = .ok (.goto (-36), 3) := by decide +kernel
theorem dX3_billOf_51 : decode cX3_billOf 51 = .ok (.iconst 0, 1) := by decide +kernel
theorem dX3_billOf_52 : decode cX3_billOf 52 = .ok (.istore 4, 2) := by decide +kernel
theorem dX3_billOf_54 : decode cX3_billOf 54 = .ok (.iload 4, 2) := by decide +kernel
theorem dX3_billOf_56 : decode cX3_billOf 56 = .ok (.iload_n 2, 1) := by decide +kernel
theorem dX3_billOf_57 : decode cX3_billOf 57 = .ok (.if_icmp .ge 96, 3) := by decide +kernel
theorem dX3_billOf_60 : decode cX3_billOf 60 = .ok (.iconst (-1), 1) := by decide +kernel
theorem dX3_billOf_61 : decode cX3_billOf 61 = .ok (.istore 5, 2) := by decide +kernel
theorem dX3_billOf_63 : decode cX3_billOf 63 = .ok (.iconst 0, 1) := by decide +kernel
theorem dX3_billOf_64 : decode cX3_billOf 64 = .ok (.istore 6, 2) := by decide +kernel
theorem dX3_billOf_66 : decode cX3_billOf 66 = .ok (.iload 6, 2) := by decide +kernel
theorem dX3_billOf_68 : decode cX3_billOf 68 = .ok (.aload_n 0, 1) := by decide +kernel
theorem dX3_billOf_69 : decode cX3_billOf 69 = .ok (.getfield 51, 3) := by decide +kernel
theorem dX3_billOf_72 : decode cX3_billOf 72 = .ok (.iload_n 1, 1) := by decide +kernel
theorem dX3_billOf_73 : decode cX3_billOf 73 = .ok (.iaload, 1) := by decide +kernel
theorem dX3_billOf_74 : decode cX3_billOf 74 = .ok (.if_icmp .ge 56, 3) := by decide +kernel
theorem dX3_billOf_77 : decode cX3_billOf 77 = .ok (.aload_n 0, 1) := by decide +kernel
theorem dX3_billOf_78 : decode cX3_billOf 78 = .ok (.getfield 154, 3) := by decide +kernel
theorem dX3_billOf_81 : decode cX3_billOf 81 = .ok (.iload 6, 2) := by decide +kernel
theorem dX3_billOf_83 : decode cX3_billOf 83 = .ok (.baload, 1) := by decide +kernel
theorem dX3_billOf_84 : decode cX3_billOf 84 = .ok (.ifCond .ne 40, 3) := by decide +kernel
theorem dX3_billOf_87 : decode cX3_billOf 87 = .ok (.iload 5, 2) := by decide +kernel
theorem dX3_billOf_89 : decode cX3_billOf 89 = .ok (.iconst (-1), 1) := by decide +kernel
theorem dX3_billOf_90 : decode cX3_billOf 90 = .ok (.if_icmp .eq 30, 3) := by decide +kernel
theorem dX3_billOf_93 : decode cX3_billOf 93 = .ok (.aload_n 0, 1) := by decide +kernel
theorem dX3_billOf_94 : decode cX3_billOf 94 = .ok (.getfield 60, 3) := by decide +kernel
theorem dX3_billOf_97 : decode cX3_billOf 97 = .ok (.bipush 10, 2) := by decide +kernel
theorem dX3_billOf_99 : decode cX3_billOf 99 = .ok (.iload_n 1, 1) := by decide +kernel
theorem dX3_billOf_100 : decode cX3_billOf 100 = .ok (.imul, 1) := by decide +kernel
theorem dX3_billOf_101 : decode cX3_billOf 101 = .ok (.iload 6, 2) := by decide +kernel
theorem dX3_billOf_103 : decode cX3_billOf 103 = .ok (.iadd, 1) := by decide +kernel
theorem dX3_billOf_104 : decode cX3_billOf 104 = .ok (.iaload, 1) := by decide +kernel
theorem dX3_billOf_105 : decode cX3_billOf 105 = .ok (.aload_n 0, 1) := by decide +kernel
theorem dX3_billOf_106 : decode cX3_billOf 106 = .ok (.getfield 60, 3) := by decide +kernel
theorem dX3_billOf_109 : decode cX3_billOf 109 = .ok (.bipush 10, 2) := by decide +kernel
theorem dX3_billOf_111 : decode cX3_billOf 111 = .ok (.iload_n 1, 1) := by decide +kernel
theorem dX3_billOf_112 : decode cX3_billOf 112 = .ok (.imul, 1) := by decide +kernel
theorem dX3_billOf_113 : decode cX3_billOf 113 = .ok (.iload 5, 2) := by decide +kernel
theorem dX3_billOf_115 : decode cX3_billOf 115 = .ok (.iadd, 1) := by decide +kernel
theorem dX3_billOf_116 : decode cX3_billOf 116 = .ok (.iaload, 1) := by decide +kernel
theorem dX3_billOf_117 : decode cX3_billOf 117 = .ok (.if_icmp .ge 7, 3) := by decide +kernel
theorem dX3_billOf_120 : decode cX3_billOf 120 = .ok (.iload 6, 2) := by decide +kernel
theorem dX3_billOf_122 : decode cX3_billOf 122 = .ok (.istore 5, 2) := by decide +kernel
theorem dX3_billOf_124 : decode cX3_billOf 124 = .ok (.iinc 6 1, 3) := by decide +kernel
theorem dX3_billOf_127 : decode cX3_billOf 127 = .ok (.goto (-61), 3) := by decide +kernel
theorem dX3_billOf_130 : decode cX3_billOf 130 = .ok (.iload 5, 2) := by decide +kernel
theorem dX3_billOf_132 : decode cX3_billOf 132 = .ok (.iconst (-1), 1) := by decide +kernel
theorem dX3_billOf_133 : decode cX3_billOf 133 = .ok (.if_icmp .ne 6, 3) := by decide +kernel
theorem dX3_billOf_136 : decode cX3_billOf 136 = .ok (.goto 17, 3) := by decide +kernel
theorem dX3_billOf_139 : decode cX3_billOf 139 = .ok (.aload_n 0, 1) := by decide +kernel
theorem dX3_billOf_140 : decode cX3_billOf 140 = .ok (.getfield 154, 3) := by decide +kernel
theorem dX3_billOf_143 : decode cX3_billOf 143 = .ok (.iload 5, 2) := by decide +kernel
theorem dX3_billOf_145 : decode cX3_billOf 145 = .ok (.iconst 1, 1) := by decide +kernel
theorem dX3_billOf_146 : decode cX3_billOf 146 = .ok (.bastore, 1) := by decide +kernel
theorem dX3_billOf_147 : decode cX3_billOf 147 = .ok (.iinc 4 1, 3) := by decide +kernel
theorem dX3_billOf_150 : decode cX3_billOf 150 = .ok (.goto (-96), 3) := by decide +kernel
theorem dX3_billOf_153 : decode cX3_billOf 153 = .ok (.iconst 0, 1) := by decide +kernel
theorem dX3_billOf_154 : decode cX3_billOf 154 = .ok (.istore 4, 2) := by decide +kernel
theorem dX3_billOf_156 : decode cX3_billOf 156 = .ok (.iload 4, 2) := by decide +kernel
theorem dX3_billOf_158 : decode cX3_billOf 158 = .ok (.aload_n 0, 1) := by decide +kernel
theorem dX3_billOf_159 : decode cX3_billOf 159 = .ok (.getfield 51, 3) := by decide +kernel
theorem dX3_billOf_162 : decode cX3_billOf 162 = .ok (.iload_n 1, 1) := by decide +kernel
theorem dX3_billOf_163 : decode cX3_billOf 163 = .ok (.iaload, 1) := by decide +kernel
theorem dX3_billOf_164 : decode cX3_billOf 164 = .ok (.if_icmp .ge 38, 3) := by decide +kernel
theorem dX3_billOf_167 : decode cX3_billOf 167 = .ok (.iload_n 3, 1) := by decide +kernel
theorem dX3_billOf_168 : decode cX3_billOf 168 = .ok (.aload_n 0, 1) := by decide +kernel
theorem dX3_billOf_169 : decode cX3_billOf 169 = .ok (.getfield 154, 3) := by decide +kernel
theorem dX3_billOf_172 : decode cX3_billOf 172 = .ok (.iload 4, 2) := by decide +kernel
theorem dX3_billOf_174 : decode cX3_billOf 174 = .ok (.baload, 1) := by decide +kernel
theorem dX3_billOf_175 : decode cX3_billOf 175 = .ok (.ifCond .eq 7, 3) := by decide +kernel
theorem dX3_billOf_178 : decode cX3_billOf 178 = .ok (.iconst 0, 1) := by decide +kernel
theorem dX3_billOf_179 : decode cX3_billOf 179 = .ok (.goto 15, 3) := by decide +kernel
theorem dX3_billOf_182 : decode cX3_billOf 182 = .ok (.aload_n 0, 1) := by decide +kernel
theorem dX3_billOf_183 : decode cX3_billOf 183 = .ok (.getfield 60, 3) := by decide +kernel
theorem dX3_billOf_186 : decode cX3_billOf 186 = .ok (.bipush 10, 2) := by decide +kernel
theorem dX3_billOf_188 : decode cX3_billOf 188 = .ok (.iload_n 1, 1) := by decide +kernel
theorem dX3_billOf_189 : decode cX3_billOf 189 = .ok (.imul, 1) := by decide +kernel
theorem dX3_billOf_190 : decode cX3_billOf 190 = .ok (.iload 4, 2) := by decide +kernel
theorem dX3_billOf_192 : decode cX3_billOf 192 = .ok (.iadd, 1) := by decide +kernel
theorem dX3_billOf_193 : decode cX3_billOf 193 = .ok (.iaload, 1) := by decide +kernel
theorem dX3_billOf_194 : decode cX3_billOf 194 = .ok (.iadd, 1) := by decide +kernel
theorem dX3_billOf_195 : decode cX3_billOf 195 = .ok (.istore_n 3, 1) := by decide +kernel
theorem dX3_billOf_196 : decode cX3_billOf 196 = .ok (.iinc 4 1, 3) := by decide +kernel
theorem dX3_billOf_199 : decode cX3_billOf 199 = .ok (.goto (-43), 3) := by decide +kernel
theorem dX3_billOf_202 : decode cX3_billOf 202 = .ok (.iload_n 3, 1) := by decide +kernel
theorem dX3_billOf_203 : decode cX3_billOf 203 = .ok (.ireturn, 1) := by decide +kernel
abbrev cX3_owes : ByteArray := prog_17_method_74_code
def yX3_owes : MethodName := ⟨RX3, "owes", "(IIII)V"⟩
theorem dX3_owes_0 : decode cX3_owes 0 = .ok (.aload_n 0, 1) := by decide +kernel
theorem dX3_owes_1 : decode cX3_owes 1 = .ok (.getfield 87, 3) := by decide +kernel
theorem dX3_owes_4 : decode cX3_owes 4 = .ok (.iload_n 2, 1) := by decide +kernel
theorem dX3_owes_5 : decode cX3_owes 5 = .ok (.dup2, 1) := by decide +kernel
theorem dX3_owes_6 : decode cX3_owes 6 = .ok (.iaload, 1) := by decide +kernel
theorem dX3_owes_7 : decode cX3_owes 7 = .ok (.aload_n 0, 1) := by decide +kernel
theorem dX3_owes_8 : decode cX3_owes 8 = .ok (.getfield 78, 3) := by decide +kernel
theorem dX3_owes_11 : decode cX3_owes 11 = .ok (.bipush 10, 2) := by decide +kernel
theorem dX3_owes_13 : decode cX3_owes 13 = .ok (.iload_n 1, 1) := by decide +kernel
theorem dX3_owes_14 : decode cX3_owes 14 = .ok (.imul, 1) := by decide +kernel
theorem dX3_owes_15 : decode cX3_owes 15 = .ok (.iload_n 2, 1) := by decide +kernel
theorem dX3_owes_16 : decode cX3_owes 16 = .ok (.iadd, 1) := by decide +kernel
theorem dX3_owes_17 : decode cX3_owes 17 = .ok (.baload, 1) := by decide +kernel
theorem dX3_owes_18 : decode cX3_owes 18 = .ok (.ifCond .eq 15, 3) := by decide +kernel
theorem dX3_owes_21 : decode cX3_owes 21 = .ok (.iload_n 3, 1) := by decide +kernel
theorem dX3_owes_22 : decode cX3_owes 22 = .ok (.iload_n 3, 1) := by decide +kernel
theorem dX3_owes_23 : decode cX3_owes 23 = .ok (.iload 4, 2) := by decide +kernel
theorem dX3_owes_25 : decode cX3_owes 25 = .ok (.imul, 1) := by decide +kernel
theorem dX3_owes_26 : decode cX3_owes 26 = .ok (.bipush 100, 2) := by decide +kernel
theorem dX3_owes_28 : decode cX3_owes 28 = .ok (.idiv, 1) := by decide +kernel
theorem dX3_owes_29 : decode cX3_owes 29 = .ok (.isub, 1) := by decide +kernel
theorem dX3_owes_30 : decode cX3_owes 30 = .ok (.goto 4, 3) := by decide +kernel
theorem dX3_owes_33 : decode cX3_owes 33 = .ok (.iload_n 3, 1) := by decide +kernel
theorem dX3_owes_34 : decode cX3_owes 34 = .ok (.iadd, 1) := by decide +kernel
theorem dX3_owes_35 : decode cX3_owes 35 = .ok (.iastore, 1) := by decide +kernel
theorem dX3_owes_36 : decode cX3_owes 36 = .ok (.return_, 1) := by decide +kernel
abbrev cX3_lay : ByteArray := prog_17_method_77_code
def yX3_lay : MethodName := ⟨RX3, "lay", "(II)I"⟩
theorem dX3_lay_0 : decode cX3_lay 0 = .ok (.iload_n 1, 1) := by decide +kernel
theorem dX3_lay_1 : decode cX3_lay 1 = .ok (.iconst 0, 1) := by decide +kernel
theorem dX3_lay_2 : decode cX3_lay 2 = .ok (.aload_n 0, 1) := by decide +kernel
theorem dX3_lay_3 : decode cX3_lay 3 = .ok (.getfield 167, 3) := by decide +kernel
theorem dX3_lay_6 : decode cX3_lay 6 = .ok (.iconst 1, 1) := by decide +kernel
theorem dX3_lay_7 : decode cX3_lay 7 = .ok (.isub, 1) := by decide +kernel
theorem dX3_lay_8 : decode cX3_lay 8 = .ok (.invokestatic 160, 3) := by decide +kernel
theorem dX3_lay_11 : decode cX3_lay 11 = .ok (.ifCond .eq 25, 3) := by decide +kernel
theorem dX3_lay_14 : decode cX3_lay 14 = .ok (.aload_n 0, 1) := by decide +kernel
theorem dX3_lay_15 : decode cX3_lay 15 = .ok (.iload_n 2, 1) := by decide +kernel
theorem dX3_lay_16 : decode cX3_lay 16 = .ok (.invokevirtual 177, 3) := by decide +kernel
theorem dX3_lay_19 : decode cX3_lay 19 = .ok (.ifCond .eq 17, 3) := by decide +kernel
theorem dX3_lay_22 : decode cX3_lay 22 = .ok (.aload_n 0, 1) := by decide +kernel
theorem dX3_lay_23 : decode cX3_lay 23 = .ok (.getfield 81, 3) := by decide +kernel
theorem dX3_lay_26 : decode cX3_lay 26 = .ok (.bipush 10, 2) := by decide +kernel
theorem dX3_lay_28 : decode cX3_lay 28 = .ok (.iload_n 1, 1) := by decide +kernel
theorem dX3_lay_29 : decode cX3_lay 29 = .ok (.imul, 1) := by decide +kernel
theorem dX3_lay_30 : decode cX3_lay 30 = .ok (.iload_n 2, 1) := by decide +kernel
theorem dX3_lay_31 : decode cX3_lay 31 = .ok (.iadd, 1) := by decide +kernel
theorem dX3_lay_32 : decode cX3_lay 32 = .ok (.iaload, 1) := by decide +kernel
theorem dX3_lay_33 : decode cX3_lay 33 = .ok (.goto 4, 3) := by decide +kernel
theorem dX3_lay_36 : decode cX3_lay 36 = .ok (.iconst (-1), 1) := by decide +kernel
theorem dX3_lay_37 : decode cX3_lay 37 = .ok (.ireturn, 1) := by decide +kernel
abbrev cX3_bill : ByteArray := prog_17_method_78_code
def yX3_bill : MethodName := ⟨RX3, "bill", "(I)I"⟩
theorem dX3_bill_0 : decode cX3_bill 0 = .ok (.aload_n 0, 1) := by decide +kernel
theorem dX3_bill_1 : decode cX3_bill 1 = .ok (.iload_n 1, 1) := by decide +kernel
theorem dX3_bill_2 : decode cX3_bill 2 = .ok (.iconst 0, 1) := by decide +kernel
theorem dX3_bill_3 : decode cX3_bill 3 = .ok (.aload_n 0, 1) := by decide +kernel
theorem dX3_bill_4 : decode cX3_bill 4 = .ok (.getfield 167, 3) := by decide +kernel
theorem dX3_bill_7 : decode cX3_bill 7 = .ok (.iconst 1, 1) := by decide +kernel
theorem dX3_bill_8 : decode cX3_bill 8 = .ok (.isub, 1) := by decide +kernel
theorem dX3_bill_9 : decode cX3_bill 9 = .ok (.invokestatic 160, 3) := by decide +kernel
theorem dX3_bill_12 : decode cX3_bill 12 = .ok (.ifCond .eq 7, 3) := by decide +kernel
theorem dX3_bill_15 : decode cX3_bill 15 = .ok (.iconst 0, 1) := by decide +kernel
theorem dX3_bill_16 : decode cX3_bill 16 = .ok (.goto 4, 3) := by decide +kernel
theorem dX3_bill_19 : decode cX3_bill 19 = .ok (.iconst 1, 1) := by decide +kernel
theorem dX3_bill_20 : decode cX3_bill 20 = .ok (.putfield 1, 3) := by decide +kernel
theorem dX3_bill_23 : decode cX3_bill 23 = .ok (.aload_n 0, 1) := by decide +kernel
theorem dX3_bill_24 : decode cX3_bill 24 = .ok (.getfield 1, 3) := by decide +kernel
theorem dX3_bill_27 : decode cX3_bill 27 = .ok (.ifCond .ne 12, 3) := by decide +kernel
theorem dX3_bill_30 : decode cX3_bill 30 = .ok (.aload_n 0, 1) := by decide +kernel
theorem dX3_bill_31 : decode cX3_bill 31 = .ok (.getfield 84, 3) := by decide +kernel
theorem dX3_bill_34 : decode cX3_bill 34 = .ok (.iload_n 1, 1) := by decide +kernel
theorem dX3_bill_35 : decode cX3_bill 35 = .ok (.iaload, 1) := by decide +kernel
theorem dX3_bill_36 : decode cX3_bill 36 = .ok (.goto 4, 3) := by decide +kernel
theorem dX3_bill_39 : decode cX3_bill 39 = .ok (.iconst 0, 1) := by decide +kernel
theorem dX3_bill_40 : decode cX3_bill 40 = .ok (.ireturn, 1) := by decide +kernel
abbrev cX3_owes_2 : ByteArray := prog_17_method_79_code
def yX3_owes_2 : MethodName := ⟨RX3, "owes", "(I)I"⟩
theorem dX3_owes_2_0 : decode cX3_owes_2 0 = .ok (.aload_n 0, 1) := by decide +kernel
theorem dX3_owes_2_1 : decode cX3_owes_2 1 = .ok (.aload_n 0, 1) := by decide +kernel
theorem dX3_owes_2_2 : decode cX3_owes_2 2 = .ok (.iload_n 1, 1) := by decide +kernel
theorem dX3_owes_2_3 : decode cX3_owes_2 3 = .ok (.invokevirtual 177, 3) := by decide +kernel
theorem dX3_owes_2_6 : decode cX3_owes_2 6 = .ok (.ifCond .eq 7, 3) := by decide +kernel
theorem dX3_owes_2_9 : decode cX3_owes_2 9 = .ok (.iconst 0, 1) := by decide +kernel
theorem dX3_owes_2_10 : decode cX3_owes_2 10 = .ok (.goto 4, 3) := by decide +kernel
theorem dX3_owes_2_13 : decode cX3_owes_2 13 = .ok (.iconst 1, 1) := by decide +kernel
theorem dX3_owes_2_14 : decode cX3_owes_2 14 = .ok (.putfield 1, 3) := by decide +kernel
theorem dX3_owes_2_17 : decode cX3_owes_2 17 = .ok (.aload_n 0, 1) := by decide +kernel
theorem dX3_owes_2_18 : decode cX3_owes_2 18 = .ok (.getfield 1, 3) := by decide +kernel
theorem dX3_owes_2_21 : decode cX3_owes_2 21 = .ok (.ifCond .ne 12, 3) := by decide +kernel
theorem dX3_owes_2_24 : decode cX3_owes_2 24 = .ok (.aload_n 0, 1) := by decide +kernel
theorem dX3_owes_2_25 : decode cX3_owes_2 25 = .ok (.getfield 87, 3) := by decide +kernel
theorem dX3_owes_2_28 : decode cX3_owes_2 28 = .ok (.iload_n 1, 1) := by decide +kernel
theorem dX3_owes_2_29 : decode cX3_owes_2 29 = .ok (.iaload, 1) := by decide +kernel
theorem dX3_owes_2_30 : decode cX3_owes_2 30 = .ok (.goto 4, 3) := by decide +kernel
theorem dX3_owes_2_33 : decode cX3_owes_2 33 = .ok (.iconst 0, 1) := by decide +kernel
theorem dX3_owes_2_34 : decode cX3_owes_2 34 = .ok (.ireturn, 1) := by decide +kernel
abbrev cX3_meals : ByteArray := prog_17_method_80_code
def yX3_meals : MethodName := ⟨RX3, "meals", "(II)I"⟩
theorem dX3_meals_0 : decode cX3_meals 0 = .ok (.aload_n 0, 1) := by decide +kernel
theorem dX3_meals_1 : decode cX3_meals 1 = .ok (.iload_n 1, 1) := by decide +kernel
theorem dX3_meals_2 : decode cX3_meals 2 = .ok (.invokevirtual 170, 3) := by decide +kernel
theorem dX3_meals_5 : decode cX3_meals 5 = .ok (.ifCond .eq 12, 3) := by decide +kernel
theorem dX3_meals_8 : decode cX3_meals 8 = .ok (.iload_n 2, 1) := by decide +kernel
theorem dX3_meals_9 : decode cX3_meals 9 = .ok (.iconst 0, 1) := by decide +kernel
theorem dX3_meals_10 : decode cX3_meals 10 = .ok (.iconst 3, 1) := by decide +kernel
theorem dX3_meals_11 : decode cX3_meals 11 = .ok (.invokestatic 160, 3) := by decide +kernel
theorem dX3_meals_14 : decode cX3_meals 14 = .ok (.ifCond .ne 5, 3) := by decide +kernel
theorem dX3_meals_17 : decode cX3_meals 17 = .ok (.iconst (-1), 1) := by decide +kernel
theorem dX3_meals_18 : decode cX3_meals 18 = .ok (.ireturn, 1) := by decide +kernel
theorem dX3_meals_19 : decode cX3_meals 19 = .ok (.iconst 0, 1) := by decide +kernel
theorem dX3_meals_20 : decode cX3_meals 20 = .ok (.istore_n 3, 1) := by decide +kernel
theorem dX3_meals_21 : decode cX3_meals 21 = .ok (.iconst 0, 1) := by decide +kernel
theorem dX3_meals_22 : decode cX3_meals 22 = .ok (.istore 4, 2) := by decide +kernel
theorem dX3_meals_24 : decode cX3_meals 24 = .ok (.iload 4, 2) := by decide +kernel
theorem dX3_meals_26 : decode cX3_meals 26 = .ok (.aload_n 0, 1) := by decide +kernel
theorem dX3_meals_27 : decode cX3_meals 27 = .ok (.getfield 157, 3) := by decide +kernel
theorem dX3_meals_30 : decode cX3_meals 30 = .ok (.if_icmp .ge 44, 3) := by decide +kernel
theorem dX3_meals_33 : decode cX3_meals 33 = .ok (.iload_n 3, 1) := by decide +kernel
theorem dX3_meals_34 : decode cX3_meals 34 = .ok (.aload_n 0, 1) := by decide +kernel
theorem dX3_meals_35 : decode cX3_meals 35 = .ok (.getfield 66, 3) := by decide +kernel
theorem dX3_meals_38 : decode cX3_meals 38 = .ok (.bipush 10, 2) := by decide +kernel
theorem dX3_meals_40 : decode cX3_meals 40 = .ok (.iload_n 1, 1) := by decide +kernel
theorem dX3_meals_41 : decode cX3_meals 41 = .ok (.imul, 1) := by decide +kernel
theorem dX3_meals_42 : decode cX3_meals 42 = .ok (.iload 4, 2) := by decide +kernel
theorem dX3_meals_44 : decode cX3_meals 44 = .ok (.iadd, 1) := by decide +kernel
theorem dX3_meals_45 : decode cX3_meals 45 = .ok (.iaload, 1) := by decide +kernel
theorem dX3_meals_46 : decode cX3_meals 46 = .ok (.iconst (-1), 1) := by decide +kernel
theorem dX3_meals_47 : decode cX3_meals 47 = .ok (.if_icmp .eq 18, 3) := by decide +kernel
theorem dX3_meals_50 : decode cX3_meals 50 = .ok (.aload_n 0, 1) := by decide +kernel
theorem dX3_meals_51 : decode cX3_meals 51 = .ok (.getfield 24, 3) := by decide +kernel
theorem dX3_meals_54 : decode cX3_meals 54 = .ok (.iload 4, 2) := by decide +kernel
theorem dX3_meals_56 : decode cX3_meals 56 = .ok (.iaload, 1) := by decide +kernel
theorem dX3_meals_57 : decode cX3_meals 57 = .ok (.iload_n 2, 1) := by decide +kernel
theorem dX3_meals_58 : decode cX3_meals 58 = .ok (.if_icmp .ne 7, 3) := by decide +kernel
theorem dX3_meals_61 : decode cX3_meals 61 = .ok (.iconst 1, 1) := by decide +kernel
theorem dX3_meals_62 : decode cX3_meals 62 = .ok (.goto 4, 3) := by decide +kernel
theorem dX3_meals_65 : decode cX3_meals 65 = .ok (.iconst 0, 1) := by decide +kernel
theorem dX3_meals_66 : decode cX3_meals 66 = .ok (.iadd, 1) := by decide +kernel
theorem dX3_meals_67 : decode cX3_meals 67 = .ok (.istore_n 3, 1) := by decide +kernel
theorem dX3_meals_68 : decode cX3_meals 68 = .ok (.iinc 4 1, 3) := by decide +kernel
theorem dX3_meals_71 : decode cX3_meals 71 = .ok (.goto (-47), 3) := by decide +kernel
theorem dX3_meals_74 : decode cX3_meals 74 = .ok (.iload_n 3, 1) := by decide +kernel
theorem dX3_meals_75 : decode cX3_meals 75 = .ok (.ireturn, 1) := by decide +kernel
abbrev cX3_townOf : ByteArray := prog_17_method_82_code
def yX3_townOf : MethodName := ⟨RX3, "townOf", "(II)I"⟩
theorem dX3_townOf_0 : decode cX3_townOf 0 = .ok (.aload_n 0, 1) := by decide +kernel
theorem dX3_townOf_1 : decode cX3_townOf 1 = .ok (.iload_n 1, 1) := by decide +kernel
theorem dX3_townOf_2 : decode cX3_townOf 2 = .ok (.invokevirtual 170, 3) := by decide +kernel
theorem dX3_townOf_5 : decode cX3_townOf 5 = .ok (.ifCond .ne 5, 3) := by decide +kernel
theorem dX3_townOf_8 : decode cX3_townOf 8 = .ok (.iconst (-1), 1) := by decide +kernel
theorem dX3_townOf_9 : decode cX3_townOf 9 = .ok (.ireturn, 1) := by decide +kernel
theorem dX3_townOf_10 : decode cX3_townOf 10 = .ok (.iload_n 2, 1) := by decide +kernel
theorem dX3_townOf_11 : decode cX3_townOf 11 = .ok (.tableswitch 115 0 8 #[49, 56, 63, 70, 76, 82, 88, 94, 108], 49) := by decide +kernel
theorem dX3_townOf_60 : decode cX3_townOf 60 = .ok (.aload_n 0, 1) := by decide +kernel
theorem dX3_townOf_61 : decode cX3_townOf 61 = .ok (.getfield 45, 3) := by decide +kernel
theorem dX3_townOf_64 : decode cX3_townOf 64 = .ok (.iload_n 1, 1) := by decide +kernel
theorem dX3_townOf_65 : decode cX3_townOf 65 = .ok (.iaload, 1) := by decide +kernel
theorem dX3_townOf_66 : decode cX3_townOf 66 = .ok (.ireturn, 1) := by decide +kernel
theorem dX3_townOf_67 : decode cX3_townOf 67 = .ok (.aload_n 0, 1) := by decide +kernel
theorem dX3_townOf_68 : decode cX3_townOf 68 = .ok (.getfield 48, 3) := by decide +kernel
theorem dX3_townOf_71 : decode cX3_townOf 71 = .ok (.iload_n 1, 1) := by decide +kernel
theorem dX3_townOf_72 : decode cX3_townOf 72 = .ok (.iaload, 1) := by decide +kernel
theorem dX3_townOf_73 : decode cX3_townOf 73 = .ok (.ireturn, 1) := by decide +kernel
theorem dX3_townOf_74 : decode cX3_townOf 74 = .ok (.aload_n 0, 1) := by decide +kernel
theorem dX3_townOf_75 : decode cX3_townOf 75 = .ok (.getfield 51, 3) := by decide +kernel
theorem dX3_townOf_78 : decode cX3_townOf 78 = .ok (.iload_n 1, 1) := by decide +kernel
theorem dX3_townOf_79 : decode cX3_townOf 79 = .ok (.iaload, 1) := by decide +kernel
theorem dX3_townOf_80 : decode cX3_townOf 80 = .ok (.ireturn, 1) := by decide +kernel
theorem dX3_townOf_81 : decode cX3_townOf 81 = .ok (.aload_n 0, 1) := by decide +kernel
theorem dX3_townOf_82 : decode cX3_townOf 82 = .ok (.iload_n 1, 1) := by decide +kernel
theorem dX3_townOf_83 : decode cX3_townOf 83 = .ok (.invokevirtual 375, 3) := by decide +kernel
theorem dX3_townOf_86 : decode cX3_townOf 86 = .ok (.ireturn, 1) := by decide +kernel
theorem dX3_townOf_87 : decode cX3_townOf 87 = .ok (.aload_n 0, 1) := by decide +kernel
theorem dX3_townOf_88 : decode cX3_townOf 88 = .ok (.iload_n 1, 1) := by decide +kernel
theorem dX3_townOf_89 : decode cX3_townOf 89 = .ok (.invokevirtual 378, 3) := by decide +kernel
theorem dX3_townOf_92 : decode cX3_townOf 92 = .ok (.ireturn, 1) := by decide +kernel
theorem dX3_townOf_93 : decode cX3_townOf 93 = .ok (.aload_n 0, 1) := by decide +kernel
theorem dX3_townOf_94 : decode cX3_townOf 94 = .ok (.iload_n 1, 1) := by decide +kernel
theorem dX3_townOf_95 : decode cX3_townOf 95 = .ok (.invokevirtual 381, 3) := by decide +kernel
theorem dX3_townOf_98 : decode cX3_townOf 98 = .ok (.ireturn, 1) := by decide +kernel
theorem dX3_townOf_99 : decode cX3_townOf 99 = .ok (.aload_n 0, 1) := by decide +kernel
theorem dX3_townOf_100 : decode cX3_townOf 100 = .ok (.iload_n 1, 1) := by decide +kernel
theorem dX3_townOf_101 : decode cX3_townOf 101 = .ok (.invokevirtual 445, 3) := by decide +kernel
theorem dX3_townOf_104 : decode cX3_townOf 104 = .ok (.ireturn, 1) := by decide +kernel
theorem dX3_townOf_105 : decode cX3_townOf 105 = .ok (.aload_n 0, 1) := by decide +kernel
theorem dX3_townOf_106 : decode cX3_townOf 106 = .ok (.iload_n 1, 1) := by decide +kernel
theorem dX3_townOf_107 : decode cX3_townOf 107 = .ok (.invokevirtual 174, 3) := by decide +kernel
theorem dX3_townOf_110 : decode cX3_townOf 110 = .ok (.ifCond .eq 7, 3) := by decide +kernel
theorem dX3_townOf_113 : decode cX3_townOf 113 = .ok (.iconst 1, 1) := by decide +kernel
theorem dX3_townOf_114 : decode cX3_townOf 114 = .ok (.goto 4, 3) := by decide +kernel
theorem dX3_townOf_117 : decode cX3_townOf 117 = .ok (.iconst 0, 1) := by decide +kernel
theorem dX3_townOf_118 : decode cX3_townOf 118 = .ok (.ireturn, 1) := by decide +kernel
theorem dX3_townOf_119 : decode cX3_townOf 119 = .ok (.aload_n 0, 1) := by decide +kernel
theorem dX3_townOf_120 : decode cX3_townOf 120 = .ok (.getfield 118, 3) := by decide +kernel
theorem dX3_townOf_123 : decode cX3_townOf 123 = .ok (.iload_n 1, 1) := by decide +kernel
theorem dX3_townOf_124 : decode cX3_townOf 124 = .ok (.iaload, 1) := by decide +kernel
theorem dX3_townOf_125 : decode cX3_townOf 125 = .ok (.ireturn, 1) := by decide +kernel
theorem dX3_townOf_126 : decode cX3_townOf 126 = .ok (.iconst (-1), 1) := by decide +kernel
theorem dX3_townOf_127 : decode cX3_townOf 127 = .ok (.ireturn, 1) := by decide +kernel
abbrev cX3_costOf : ByteArray := prog_17_method_81_code
def yX3_costOf : MethodName := ⟨RX3, "costOf", "(I)I"⟩
theorem dX3_costOf_0 : decode cX3_costOf 0 = .ok (.iconst 0, 1) := by decide +kernel
theorem dX3_costOf_1 : decode cX3_costOf 1 = .ok (.istore_n 2, 1) := by decide +kernel
theorem dX3_costOf_2 : decode cX3_costOf 2 = .ok (.iconst 0, 1) := by decide +kernel
theorem dX3_costOf_3 : decode cX3_costOf 3 = .ok (.istore_n 3, 1) := by decide +kernel
theorem dX3_costOf_4 : decode cX3_costOf 4 = .ok (.iload_n 3, 1) := by decide +kernel
theorem dX3_costOf_5 : decode cX3_costOf 5 = .ok (.aload_n 0, 1) := by decide +kernel
theorem dX3_costOf_6 : decode cX3_costOf 6 = .ok (.getfield 51, 3) := by decide +kernel
theorem dX3_costOf_9 : decode cX3_costOf 9 = .ok (.iload_n 1, 1) := by decide +kernel
theorem dX3_costOf_10 : decode cX3_costOf 10 = .ok (.iaload, 1) := by decide +kernel
theorem dX3_costOf_11 : decode cX3_costOf 11 = .ok (.if_icmp .ge 36, 3) := by decide +kernel
theorem dX3_costOf_14 : decode cX3_costOf 14 = .ok (.iload_n 2, 1) := by decide +kernel
theorem dX3_costOf_15 : decode cX3_costOf 15 = .ok (.aload_n 0, 1) := by decide +kernel
theorem dX3_costOf_16 : decode cX3_costOf 16 = .ok (.iload_n 1, 1) := by decide +kernel
theorem dX3_costOf_17 : decode cX3_costOf 17 = .ok (.iload_n 3, 1) := by decide +kernel
theorem dX3_costOf_18 : decode cX3_costOf 18 = .ok (.invokevirtual 211, 3) := by decide +kernel
theorem dX3_costOf_21 : decode cX3_costOf 21 = .ok (.ifCond .ne 7, 3) := by decide +kernel
theorem dX3_costOf_24 : decode cX3_costOf 24 = .ok (.iconst 0, 1) := by decide +kernel
theorem dX3_costOf_25 : decode cX3_costOf 25 = .ok (.goto 14, 3) := by decide +kernel
theorem dX3_costOf_28 : decode cX3_costOf 28 = .ok (.aload_n 0, 1) := by decide +kernel
theorem dX3_costOf_29 : decode cX3_costOf 29 = .ok (.getfield 60, 3) := by decide +kernel
theorem dX3_costOf_32 : decode cX3_costOf 32 = .ok (.bipush 10, 2) := by decide +kernel
theorem dX3_costOf_34 : decode cX3_costOf 34 = .ok (.iload_n 1, 1) := by decide +kernel
theorem dX3_costOf_35 : decode cX3_costOf 35 = .ok (.imul, 1) := by decide +kernel
theorem dX3_costOf_36 : decode cX3_costOf 36 = .ok (.iload_n 3, 1) := by decide +kernel
theorem dX3_costOf_37 : decode cX3_costOf 37 = .ok (.iadd, 1) := by decide +kernel
theorem dX3_costOf_38 : decode cX3_costOf 38 = .ok (.iaload, 1) := by decide +kernel
theorem dX3_costOf_39 : decode cX3_costOf 39 = .ok (.iadd, 1) := by decide +kernel
theorem dX3_costOf_40 : decode cX3_costOf 40 = .ok (.istore_n 2, 1) := by decide +kernel
theorem dX3_costOf_41 : decode cX3_costOf 41 = .ok (.iinc 3 1, 3) := by decide +kernel
theorem dX3_costOf_44 : decode cX3_costOf 44 = .ok (.goto (-40), 3) := by decide +kernel
theorem dX3_costOf_47 : decode cX3_costOf 47 = .ok (.iload_n 2, 1) := by decide +kernel
theorem dX3_costOf_48 : decode cX3_costOf 48 = .ok (.ireturn, 1) := by decide +kernel
abbrev cX3_roomOf : ByteArray := prog_17_method_83_code
def yX3_roomOf : MethodName := ⟨RX3, "roomOf", "(III)I"⟩
theorem dX3_roomOf_0 : decode cX3_roomOf 0 = .ok (.aload_n 0, 1) := by decide +kernel
theorem dX3_roomOf_1 : decode cX3_roomOf 1 = .ok (.iload_n 1, 1) := by decide +kernel
theorem dX3_roomOf_2 : decode cX3_roomOf 2 = .ok (.invokevirtual 170, 3) := by decide +kernel
theorem dX3_roomOf_5 : decode cX3_roomOf 5 = .ok (.ifCond .eq 12, 3) := by decide +kernel
theorem dX3_roomOf_8 : decode cX3_roomOf 8 = .ok (.aload_n 0, 1) := by decide +kernel
theorem dX3_roomOf_9 : decode cX3_roomOf 9 = .ok (.iload_n 1, 1) := by decide +kernel
theorem dX3_roomOf_10 : decode cX3_roomOf 10 = .ok (.iload_n 2, 1) := by decide +kernel
theorem dX3_roomOf_11 : decode cX3_roomOf 11 = .ok (.invokevirtual 208, 3) := by decide +kernel
theorem dX3_roomOf_14 : decode cX3_roomOf 14 = .ok (.ifCond .ne 5, 3) := by decide +kernel
theorem dX3_roomOf_17 : decode cX3_roomOf 17 = .ok (.iconst (-1), 1) := by decide +kernel
theorem dX3_roomOf_18 : decode cX3_roomOf 18 = .ok (.ireturn, 1) := by decide +kernel
theorem dX3_roomOf_19 : decode cX3_roomOf 19 = .ok (.bipush 10, 2) := by decide +kernel
theorem dX3_roomOf_21 : decode cX3_roomOf 21 = .ok (.iload_n 1, 1) := by decide +kernel
theorem dX3_roomOf_22 : decode cX3_roomOf 22 = .ok (.imul, 1) := by decide +kernel
theorem dX3_roomOf_23 : decode cX3_roomOf 23 = .ok (.iload_n 2, 1) := by decide +kernel
theorem dX3_roomOf_24 : decode cX3_roomOf 24 = .ok (.iadd, 1) := by decide +kernel
theorem dX3_roomOf_25 : decode cX3_roomOf 25 = .ok (.istore 4, 2) := by decide +kernel
theorem dX3_roomOf_27 : decode cX3_roomOf 27 = .ok (.iload_n 3, 1) := by decide +kernel
theorem dX3_roomOf_28 : decode cX3_roomOf 28 = .ok (.tableswitch 91 0 4 #[36, 44, 60, 68, 84], 36) := by decide +kernel
theorem dX3_roomOf_64 : decode cX3_roomOf 64 = .ok (.aload_n 0, 1) := by decide +kernel
theorem dX3_roomOf_65 : decode cX3_roomOf 65 = .ok (.getfield 54, 3) := by decide +kernel
theorem dX3_roomOf_68 : decode cX3_roomOf 68 = .ok (.iload 4, 2) := by decide +kernel
theorem dX3_roomOf_70 : decode cX3_roomOf 70 = .ok (.iaload, 1) := by decide +kernel
theorem dX3_roomOf_71 : decode cX3_roomOf 71 = .ok (.ireturn, 1) := by decide +kernel
theorem dX3_roomOf_72 : decode cX3_roomOf 72 = .ok (.aload_n 0, 1) := by decide +kernel
theorem dX3_roomOf_73 : decode cX3_roomOf 73 = .ok (.getfield 57, 3) := by decide +kernel
theorem dX3_roomOf_76 : decode cX3_roomOf 76 = .ok (.iload 4, 2) := by decide +kernel
theorem dX3_roomOf_78 : decode cX3_roomOf 78 = .ok (.baload, 1) := by decide +kernel
theorem dX3_roomOf_79 : decode cX3_roomOf 79 = .ok (.ifCond .eq 7, 3) := by decide +kernel
theorem dX3_roomOf_82 : decode cX3_roomOf 82 = .ok (.iconst 1, 1) := by decide +kernel
theorem dX3_roomOf_83 : decode cX3_roomOf 83 = .ok (.goto 4, 3) := by decide +kernel
theorem dX3_roomOf_86 : decode cX3_roomOf 86 = .ok (.iconst 0, 1) := by decide +kernel
theorem dX3_roomOf_87 : decode cX3_roomOf 87 = .ok (.ireturn, 1) := by decide +kernel
theorem dX3_roomOf_88 : decode cX3_roomOf 88 = .ok (.aload_n 0, 1) := by decide +kernel
theorem dX3_roomOf_89 : decode cX3_roomOf 89 = .ok (.getfield 60, 3) := by decide +kernel
theorem dX3_roomOf_92 : decode cX3_roomOf 92 = .ok (.iload 4, 2) := by decide +kernel
theorem dX3_roomOf_94 : decode cX3_roomOf 94 = .ok (.iaload, 1) := by decide +kernel
theorem dX3_roomOf_95 : decode cX3_roomOf 95 = .ok (.ireturn, 1) := by decide +kernel
theorem dX3_roomOf_96 : decode cX3_roomOf 96 = .ok (.aload_n 0, 1) := by decide +kernel
theorem dX3_roomOf_97 : decode cX3_roomOf 97 = .ok (.getfield 63, 3) := by decide +kernel
theorem dX3_roomOf_100 : decode cX3_roomOf 100 = .ok (.iload 4, 2) := by decide +kernel
theorem dX3_roomOf_102 : decode cX3_roomOf 102 = .ok (.baload, 1) := by decide +kernel
theorem dX3_roomOf_103 : decode cX3_roomOf 103 = .ok (.ifCond .eq 7, 3) := by decide +kernel
theorem dX3_roomOf_106 : decode cX3_roomOf 106 = .ok (.iconst 1, 1) := by decide +kernel
theorem dX3_roomOf_107 : decode cX3_roomOf 107 = .ok (.goto 4, 3) := by decide +kernel
theorem dX3_roomOf_110 : decode cX3_roomOf 110 = .ok (.iconst 0, 1) := by decide +kernel
theorem dX3_roomOf_111 : decode cX3_roomOf 111 = .ok (.ireturn, 1) := by decide +kernel
theorem dX3_roomOf_112 : decode cX3_roomOf 112 = .ok (.aload_n 0, 1) := by decide +kernel
theorem dX3_roomOf_113 : decode cX3_roomOf 113 = .ok (.iload_n 1, 1) := by decide +kernel
theorem dX3_roomOf_114 : decode cX3_roomOf 114 = .ok (.iload_n 2, 1) := by decide +kernel
theorem dX3_roomOf_115 : decode cX3_roomOf 115 = .ok (.invokevirtual 211, 3) := by decide +kernel
theorem dX3_roomOf_118 : decode cX3_roomOf 118 = .ok (.ireturn, 1) := by decide +kernel
theorem dX3_roomOf_119 : decode cX3_roomOf 119 = .ok (.iconst (-1), 1) := by decide +kernel
theorem dX3_roomOf_120 : decode cX3_roomOf 120 = .ok (.ireturn, 1) := by decide +kernel
abbrev cX3_personOf : ByteArray := prog_17_method_84_code
def yX3_personOf : MethodName := ⟨RX3, "personOf", "(II)I"⟩
theorem dX3_personOf_0 : decode cX3_personOf 0 = .ok (.aload_n 0, 1) := by decide +kernel
theorem dX3_personOf_1 : decode cX3_personOf 1 = .ok (.iload_n 1, 1) := by decide +kernel
theorem dX3_personOf_2 : decode cX3_personOf 2 = .ok (.invokevirtual 177, 3) := by decide +kernel
theorem dX3_personOf_5 : decode cX3_personOf 5 = .ok (.ifCond .ne 5, 3) := by decide +kernel
theorem dX3_personOf_8 : decode cX3_personOf 8 = .ok (.iconst (-1), 1) := by decide +kernel
theorem dX3_personOf_9 : decode cX3_personOf 9 = .ok (.ireturn, 1) := by decide +kernel
theorem dX3_personOf_10 : decode cX3_personOf 10 = .ok (.iload_n 2, 1) := by decide +kernel
theorem dX3_personOf_11 : decode cX3_personOf 11 = .ok (.tableswitch 185 0 8 #[49, 64, 71, 86, 93, 100, 107, 122, 129], 49) := by decide +kernel
theorem dX3_personOf_60 : decode cX3_personOf 60 = .ok (.aload_n 0, 1) := by decide +kernel
theorem dX3_personOf_61 : decode cX3_personOf 61 = .ok (.getfield 13, 3) := by decide +kernel
theorem dX3_personOf_64 : decode cX3_personOf 64 = .ok (.iload_n 1, 1) := by decide +kernel
theorem dX3_personOf_65 : decode cX3_personOf 65 = .ok (.baload, 1) := by decide +kernel
theorem dX3_personOf_66 : decode cX3_personOf 66 = .ok (.ifCond .eq 7, 3) := by decide +kernel
theorem dX3_personOf_69 : decode cX3_personOf 69 = .ok (.iconst 1, 1) := by decide +kernel
theorem dX3_personOf_70 : decode cX3_personOf 70 = .ok (.goto 4, 3) := by decide +kernel
theorem dX3_personOf_73 : decode cX3_personOf 73 = .ok (.iconst 0, 1) := by decide +kernel
theorem dX3_personOf_74 : decode cX3_personOf 74 = .ok (.ireturn, 1) := by decide +kernel
theorem dX3_personOf_75 : decode cX3_personOf 75 = .ok (.aload_n 0, 1) := by decide +kernel
theorem dX3_personOf_76 : decode cX3_personOf 76 = .ok (.getfield 17, 3) := by decide +kernel
theorem dX3_personOf_79 : decode cX3_personOf 79 = .ok (.iload_n 1, 1) := by decide +kernel
theorem dX3_personOf_80 : decode cX3_personOf 80 = .ok (.iaload, 1) := by decide +kernel
theorem dX3_personOf_81 : decode cX3_personOf 81 = .ok (.ireturn, 1) := by decide +kernel
theorem dX3_personOf_82 : decode cX3_personOf 82 = .ok (.aload_n 0, 1) := by decide +kernel
theorem dX3_personOf_83 : decode cX3_personOf 83 = .ok (.getfield 21, 3) := by decide +kernel
theorem dX3_personOf_86 : decode cX3_personOf 86 = .ok (.iload_n 1, 1) := by decide +kernel
theorem dX3_personOf_87 : decode cX3_personOf 87 = .ok (.baload, 1) := by decide +kernel
theorem dX3_personOf_88 : decode cX3_personOf 88 = .ok (.ifCond .eq 7, 3) := by decide +kernel
theorem dX3_personOf_91 : decode cX3_personOf 91 = .ok (.iconst 1, 1) := by decide +kernel
theorem dX3_personOf_92 : decode cX3_personOf 92 = .ok (.goto 4, 3) := by decide +kernel
theorem dX3_personOf_95 : decode cX3_personOf 95 = .ok (.iconst 0, 1) := by decide +kernel
theorem dX3_personOf_96 : decode cX3_personOf 96 = .ok (.ireturn, 1) := by decide +kernel
theorem dX3_personOf_97 : decode cX3_personOf 97 = .ok (.aload_n 0, 1) := by decide +kernel
theorem dX3_personOf_98 : decode cX3_personOf 98 = .ok (.getfield 24, 3) := by decide +kernel
theorem dX3_personOf_101 : decode cX3_personOf 101 = .ok (.iload_n 1, 1) := by decide +kernel
theorem dX3_personOf_102 : decode cX3_personOf 102 = .ok (.iaload, 1) := by decide +kernel
theorem dX3_personOf_103 : decode cX3_personOf 103 = .ok (.ireturn, 1) := by decide +kernel
theorem dX3_personOf_104 : decode cX3_personOf 104 = .ok (.aload_n 0, 1) := by decide +kernel
theorem dX3_personOf_105 : decode cX3_personOf 105 = .ok (.getfield 27, 3) := by decide +kernel
theorem dX3_personOf_108 : decode cX3_personOf 108 = .ok (.iload_n 1, 1) := by decide +kernel
theorem dX3_personOf_109 : decode cX3_personOf 109 = .ok (.iaload, 1) := by decide +kernel
theorem dX3_personOf_110 : decode cX3_personOf 110 = .ok (.ireturn, 1) := by decide +kernel
theorem dX3_personOf_111 : decode cX3_personOf 111 = .ok (.aload_n 0, 1) := by decide +kernel
theorem dX3_personOf_112 : decode cX3_personOf 112 = .ok (.getfield 30, 3) := by decide +kernel
theorem dX3_personOf_115 : decode cX3_personOf 115 = .ok (.iload_n 1, 1) := by decide +kernel
theorem dX3_personOf_116 : decode cX3_personOf 116 = .ok (.iaload, 1) := by decide +kernel
theorem dX3_personOf_117 : decode cX3_personOf 117 = .ok (.ireturn, 1) := by decide +kernel
theorem dX3_personOf_118 : decode cX3_personOf 118 = .ok (.aload_n 0, 1) := by decide +kernel
theorem dX3_personOf_119 : decode cX3_personOf 119 = .ok (.getfield 33, 3) := by decide +kernel
theorem dX3_personOf_122 : decode cX3_personOf 122 = .ok (.iload_n 1, 1) := by decide +kernel
theorem dX3_personOf_123 : decode cX3_personOf 123 = .ok (.baload, 1) := by decide +kernel
theorem dX3_personOf_124 : decode cX3_personOf 124 = .ok (.ifCond .eq 7, 3) := by decide +kernel
theorem dX3_personOf_127 : decode cX3_personOf 127 = .ok (.iconst 1, 1) := by decide +kernel
theorem dX3_personOf_128 : decode cX3_personOf 128 = .ok (.goto 4, 3) := by decide +kernel
theorem dX3_personOf_131 : decode cX3_personOf 131 = .ok (.iconst 0, 1) := by decide +kernel
theorem dX3_personOf_132 : decode cX3_personOf 132 = .ok (.ireturn, 1) := by decide +kernel
theorem dX3_personOf_133 : decode cX3_personOf 133 = .ok (.aload_n 0, 1) := by decide +kernel
theorem dX3_personOf_134 : decode cX3_personOf 134 = .ok (.getfield 36, 3) := by decide +kernel
theorem dX3_personOf_137 : decode cX3_personOf 137 = .ok (.iload_n 1, 1) := by decide +kernel
theorem dX3_personOf_138 : decode cX3_personOf 138 = .ok (.iaload, 1) := by decide +kernel
theorem dX3_personOf_139 : decode cX3_personOf 139 = .ok (.ireturn, 1) := by decide +kernel
theorem dX3_personOf_140 : decode cX3_personOf 140 = .ok (.iconst 0, 1) := by decide +kernel
theorem dX3_personOf_141 : decode cX3_personOf 141 = .ok (.istore_n 3, 1) := by decide +kernel
theorem dX3_personOf_142 : decode cX3_personOf 142 = .ok (.iconst 0, 1) := by decide +kernel
theorem dX3_personOf_143 : decode cX3_personOf 143 = .ok (.istore 4, 2) := by decide +kernel
theorem dX3_personOf_145 : decode cX3_personOf 145 = .ok (.iload 4, 2) := by decide +kernel
theorem dX3_personOf_147 : decode cX3_personOf 147 = .ok (.aload_n 0, 1) := by decide +kernel
theorem dX3_personOf_148 : decode cX3_personOf 148 = .ok (.getfield 157, 3) := by decide +kernel
theorem dX3_personOf_151 : decode cX3_personOf 151 = .ok (.if_icmp .ge 43, 3) := by decide +kernel
theorem dX3_personOf_154 : decode cX3_personOf 154 = .ok (.iload_n 3, 1) := by decide +kernel
theorem dX3_personOf_155 : decode cX3_personOf 155 = .ok (.iload 4, 2) := by decide +kernel
theorem dX3_personOf_157 : decode cX3_personOf 157 = .ok (.iload_n 1, 1) := by decide +kernel
theorem dX3_personOf_158 : decode cX3_personOf 158 = .ok (.if_icmp .eq 27, 3) := by decide +kernel
theorem dX3_personOf_161 : decode cX3_personOf 161 = .ok (.aload_n 0, 1) := by decide +kernel
theorem dX3_personOf_162 : decode cX3_personOf 162 = .ok (.getfield 33, 3) := by decide +kernel
theorem dX3_personOf_165 : decode cX3_personOf 165 = .ok (.iload 4, 2) := by decide +kernel
theorem dX3_personOf_167 : decode cX3_personOf 167 = .ok (.baload, 1) := by decide +kernel
theorem dX3_personOf_168 : decode cX3_personOf 168 = .ok (.ifCond .ne 17, 3) := by decide +kernel
theorem dX3_personOf_171 : decode cX3_personOf 171 = .ok (.aload_n 0, 1) := by decide +kernel
theorem dX3_personOf_172 : decode cX3_personOf 172 = .ok (.iload_n 1, 1) := by decide +kernel
theorem dX3_personOf_173 : decode cX3_personOf 173 = .ok (.iload 4, 2) := by decide +kernel
theorem dX3_personOf_175 : decode cX3_personOf 175 = .ok (.invokevirtual 201, 3) := by decide +kernel
theorem dX3_personOf_178 : decode cX3_personOf 178 = .ok (.ifCond .eq 7, 3) := by decide +kernel
theorem dX3_personOf_181 : decode cX3_personOf 181 = .ok (.iconst 1, 1) := by decide +kernel
theorem dX3_personOf_182 : decode cX3_personOf 182 = .ok (.goto 4, 3) := by decide +kernel
theorem dX3_personOf_185 : decode cX3_personOf 185 = .ok (.iconst 0, 1) := by decide +kernel
theorem dX3_personOf_186 : decode cX3_personOf 186 = .ok (.iadd, 1) := by decide +kernel
theorem dX3_personOf_187 : decode cX3_personOf 187 = .ok (.istore_n 3, 1) := by decide +kernel
theorem dX3_personOf_188 : decode cX3_personOf 188 = .ok (.iinc 4 1, 3) := by decide +kernel
theorem dX3_personOf_191 : decode cX3_personOf 191 = .ok (.goto (-46), 3) := by decide +kernel
theorem dX3_personOf_194 : decode cX3_personOf 194 = .ok (.iload_n 3, 1) := by decide +kernel
theorem dX3_personOf_195 : decode cX3_personOf 195 = .ok (.ireturn, 1) := by decide +kernel
theorem dX3_personOf_196 : decode cX3_personOf 196 = .ok (.iconst (-1), 1) := by decide +kernel
theorem dX3_personOf_197 : decode cX3_personOf 197 = .ok (.ireturn, 1) := by decide +kernel
abbrev cX3_count : ByteArray := prog_17_method_85_code
def yX3_count : MethodName := ⟨RX3, "count", "(I)I"⟩
theorem dX3_count_0 : decode cX3_count 0 = .ok (.iload_n 1, 1) := by decide +kernel
theorem dX3_count_1 : decode cX3_count 1 = .ok (.tableswitch 114 0 10 #[59, 64, 69, 74, 79, 84, 89, 94, 99, 104, 109], 59) := by decide +kernel
theorem dX3_count_60 : decode cX3_count 60 = .ok (.aload_n 0, 1) := by decide +kernel
theorem dX3_count_61 : decode cX3_count 61 = .ok (.getfield 183, 3) := by decide +kernel
theorem dX3_count_64 : decode cX3_count 64 = .ok (.ireturn, 1) := by decide +kernel
theorem dX3_count_65 : decode cX3_count 65 = .ok (.aload_n 0, 1) := by decide +kernel
theorem dX3_count_66 : decode cX3_count 66 = .ok (.getfield 42, 3) := by decide +kernel
theorem dX3_count_69 : decode cX3_count 69 = .ok (.ireturn, 1) := by decide +kernel
theorem dX3_count_70 : decode cX3_count 70 = .ok (.aload_n 0, 1) := by decide +kernel
theorem dX3_count_71 : decode cX3_count 71 = .ok (.getfield 195, 3) := by decide +kernel
theorem dX3_count_74 : decode cX3_count 74 = .ok (.ireturn, 1) := by decide +kernel
theorem dX3_count_75 : decode cX3_count 75 = .ok (.aload_n 0, 1) := by decide +kernel
theorem dX3_count_76 : decode cX3_count 76 = .ok (.getfield 157, 3) := by decide +kernel
theorem dX3_count_79 : decode cX3_count 79 = .ok (.ireturn, 1) := by decide +kernel
theorem dX3_count_80 : decode cX3_count 80 = .ok (.aload_n 0, 1) := by decide +kernel
theorem dX3_count_81 : decode cX3_count 81 = .ok (.getfield 164, 3) := by decide +kernel
theorem dX3_count_84 : decode cX3_count 84 = .ok (.ireturn, 1) := by decide +kernel
theorem dX3_count_85 : decode cX3_count 85 = .ok (.aload_n 0, 1) := by decide +kernel
theorem dX3_count_86 : decode cX3_count 86 = .ok (.getfield 192, 3) := by decide +kernel
theorem dX3_count_89 : decode cX3_count 89 = .ok (.ireturn, 1) := by decide +kernel
theorem dX3_count_90 : decode cX3_count 90 = .ok (.aload_n 0, 1) := by decide +kernel
theorem dX3_count_91 : decode cX3_count 91 = .ok (.getfield 167, 3) := by decide +kernel
theorem dX3_count_94 : decode cX3_count 94 = .ok (.ireturn, 1) := by decide +kernel
theorem dX3_count_95 : decode cX3_count 95 = .ok (.aload_n 0, 1) := by decide +kernel
theorem dX3_count_96 : decode cX3_count 96 = .ok (.getfield 392, 3) := by decide +kernel
theorem dX3_count_99 : decode cX3_count 99 = .ok (.ireturn, 1) := by decide +kernel
theorem dX3_count_100 : decode cX3_count 100 = .ok (.aload_n 0, 1) := by decide +kernel
theorem dX3_count_101 : decode cX3_count 101 = .ok (.getfield 246, 3) := by decide +kernel
theorem dX3_count_104 : decode cX3_count 104 = .ok (.ireturn, 1) := by decide +kernel
theorem dX3_count_105 : decode cX3_count 105 = .ok (.aload_n 0, 1) := by decide +kernel
theorem dX3_count_106 : decode cX3_count 106 = .ok (.getfield 405, 3) := by decide +kernel
theorem dX3_count_109 : decode cX3_count 109 = .ok (.ireturn, 1) := by decide +kernel
theorem dX3_count_110 : decode cX3_count 110 = .ok (.aload_n 0, 1) := by decide +kernel
theorem dX3_count_111 : decode cX3_count 111 = .ok (.getfield 180, 3) := by decide +kernel
theorem dX3_count_114 : decode cX3_count 114 = .ok (.ireturn, 1) := by decide +kernel
theorem dX3_count_115 : decode cX3_count 115 = .ok (.iconst (-1), 1) := by decide +kernel
theorem dX3_count_116 : decode cX3_count 116 = .ok (.ireturn, 1) := by decide +kernel
theorem q88 : (Jvm.Cond.initialized "TourRoomsModel") ∈ lw_all := lw_g (lw_at lw_m1 3 rfl) rfl
theorem q990 : (Jvm.Cond.selects "TourRoomsModel" ({ cls := "java/lang/Object", name := "getClass", desc := "()Ljava/lang/Class;" } : Jvm.MethodName) ({ cls := "java/lang/Object", name := "getClass", desc := "()Ljava/lang/Class;" } : Jvm.MethodName)) ∈ lw_all := lw_g (lw_at lw_m4 185 rfl) rfl
theorem q1209 : (Jvm.Cond.instanceMethod ({ cls := "TourRoomsModel", name := "thrown", desc := "()I" } : Jvm.MethodName)) ∈ lw_all := lw_g (lw_at lw_m5 164 rfl) rfl
theorem q1210 : (Jvm.Cond.selects "TourRoomsModel" ({ cls := "TourRoomsModel", name := "thrown", desc := "()I" } : Jvm.MethodName) ({ cls := "TourRoomsModel", name := "thrown", desc := "()I" } : Jvm.MethodName)) ∈ lw_all := lw_g (lw_at lw_m5 165 rfl) rfl
theorem q1211 : (Jvm.Cond.code ({ cls := "TourRoomsModel", name := "thrown", desc := "()I" } : Jvm.MethodName) prog_17_method_1_code (1 : Nat) (Option.some Jvm.ClassFile.FieldType.int)) ∈ lw_all := lw_g (lw_at lw_m5 166 rfl) rfl
theorem q1213 : (Jvm.Cond.instantiable "TourRoomsModel" (78 : Nat)) ∈ lw_all := lw_g (lw_at lw_m5 168 rfl) rfl
theorem q1215 : (Jvm.Cond.instanceMethod ({ cls := "TourRoomsModel", name := "<init>", desc := "()V" } : Jvm.MethodName)) ∈ lw_all := lw_g (lw_at lw_m5 170 rfl) rfl
theorem q1216 : (Jvm.Cond.code ({ cls := "TourRoomsModel", name := "<init>", desc := "()V" } : Jvm.MethodName) prog_17_method_3_code (2 : Nat) (Option.none : Option Jvm.ClassFile.FieldType)) ∈ lw_all := lw_g (lw_at lw_m5 171 rfl) rfl
theorem q1217 : (Jvm.Cond.methodLink "TourRoomsModel" (7 : Nat) ({ cls := "java/lang/Object", name := "<init>", desc := "()V" } : Jvm.MethodName)) ∈ lw_all := lw_g (lw_at lw_m5 172 rfl) rfl
theorem q1218 : (Jvm.Cond.fieldLink "TourRoomsModel" (1 : Nat) "TourRoomsModel" "thrown" "I") ∈ lw_all := lw_g (lw_at lw_m5 173 rfl) rfl
theorem q1219 : (Jvm.Cond.fieldLink "TourRoomsModel" (157 : Nat) "TourRoomsModel" "people" "I") ∈ lw_all := lw_g (lw_at lw_m5 174 rfl) rfl
theorem q1220 : (Jvm.Cond.fieldLink "TourRoomsModel" (13 : Nat) "TourRoomsModel" "shares" "[Z") ∈ lw_all := lw_g (lw_at lw_m5 175 rfl) rfl
theorem q1221 : (Jvm.Cond.fieldLink "TourRoomsModel" (17 : Nat) "TourRoomsModel" "sort" "[I") ∈ lw_all := lw_g (lw_at lw_m5 176 rfl) rfl
theorem q1222 : (Jvm.Cond.fieldLink "TourRoomsModel" (21 : Nat) "TourRoomsModel" "low" "[Z") ∈ lw_all := lw_g (lw_at lw_m5 177 rfl) rfl
theorem q1223 : (Jvm.Cond.fieldLink "TourRoomsModel" (24 : Nat) "TourRoomsModel" "diet" "[I") ∈ lw_all := lw_g (lw_at lw_m5 178 rfl) rfl
theorem q1224 : (Jvm.Cond.fieldLink "TourRoomsModel" (27 : Nat) "TourRoomsModel" "from" "[I") ∈ lw_all := lw_g (lw_at lw_m5 179 rfl) rfl
theorem q1225 : (Jvm.Cond.fieldLink "TourRoomsModel" (30 : Nat) "TourRoomsModel" "to" "[I") ∈ lw_all := lw_g (lw_at lw_m5 180 rfl) rfl
theorem q1226 : (Jvm.Cond.fieldLink "TourRoomsModel" (33 : Nat) "TourRoomsModel" "isGone" "[Z") ∈ lw_all := lw_g (lw_at lw_m5 181 rfl) rfl
theorem q1227 : (Jvm.Cond.fieldLink "TourRoomsModel" (36 : Nat) "TourRoomsModel" "friend" "[I") ∈ lw_all := lw_g (lw_at lw_m5 182 rfl) rfl
theorem q1228 : (Jvm.Cond.fieldLink "TourRoomsModel" (39 : Nat) "TourRoomsModel" "bars" "[Z") ∈ lw_all := lw_g (lw_at lw_m5 183 rfl) rfl
theorem q1229 : (Jvm.Cond.fieldLink "TourRoomsModel" (164 : Nat) "TourRoomsModel" "towns" "I") ∈ lw_all := lw_g (lw_at lw_m5 184 rfl) rfl
theorem q1230 : (Jvm.Cond.fieldLink "TourRoomsModel" (192 : Nat) "TourRoomsModel" "nights" "I") ∈ lw_all := lw_g (lw_at lw_m5 185 rfl) rfl
theorem q1231 : (Jvm.Cond.fieldLink "TourRoomsModel" (167 : Nat) "TourRoomsModel" "closed" "I") ∈ lw_all := lw_g (lw_at lw_m5 186 rfl) rfl
theorem q1232 : (Jvm.Cond.fieldLink "TourRoomsModel" (183 : Nat) "TourRoomsModel" "day" "I") ∈ lw_all := lw_g (lw_at lw_m5 187 rfl) rfl
theorem q1233 : (Jvm.Cond.fieldLink "TourRoomsModel" (42 : Nat) "TourRoomsModel" "firstDay" "I") ∈ lw_all := lw_g (lw_at lw_m5 188 rfl) rfl
theorem q1234 : (Jvm.Cond.fieldLink "TourRoomsModel" (195 : Nat) "TourRoomsModel" "season" "I") ∈ lw_all := lw_g (lw_at lw_m5 189 rfl) rfl
theorem q1235 : (Jvm.Cond.fieldLink "TourRoomsModel" (392 : Nat) "TourRoomsModel" "spent" "I") ∈ lw_all := lw_g (lw_at lw_m5 190 rfl) rfl
theorem q1236 : (Jvm.Cond.fieldLink "TourRoomsModel" (45 : Nat) "TourRoomsModel" "long0" "[I") ∈ lw_all := lw_g (lw_at lw_m5 191 rfl) rfl
theorem q1237 : (Jvm.Cond.fieldLink "TourRoomsModel" (48 : Nat) "TourRoomsModel" "first" "[I") ∈ lw_all := lw_g (lw_at lw_m5 192 rfl) rfl
theorem q1238 : (Jvm.Cond.fieldLink "TourRoomsModel" (51 : Nat) "TourRoomsModel" "rooms" "[I") ∈ lw_all := lw_g (lw_at lw_m5 193 rfl) rfl
theorem q1239 : (Jvm.Cond.fieldLink "TourRoomsModel" (54 : Nat) "TourRoomsModel" "beds" "[I") ∈ lw_all := lw_g (lw_at lw_m5 194 rfl) rfl
theorem q1240 : (Jvm.Cond.fieldLink "TourRoomsModel" (57 : Nat) "TourRoomsModel" "lowRoom" "[Z") ∈ lw_all := lw_g (lw_at lw_m5 195 rfl) rfl
theorem q1241 : (Jvm.Cond.fieldLink "TourRoomsModel" (60 : Nat) "TourRoomsModel" "price" "[I") ∈ lw_all := lw_g (lw_at lw_m5 196 rfl) rfl
theorem q1242 : (Jvm.Cond.fieldLink "TourRoomsModel" (63 : Nat) "TourRoomsModel" "held" "[Z") ∈ lw_all := lw_g (lw_at lw_m5 197 rfl) rfl
theorem q1243 : (Jvm.Cond.fieldLink "TourRoomsModel" (66 : Nat) "TourRoomsModel" "list" "[I") ∈ lw_all := lw_g (lw_at lw_m5 198 rfl) rfl
theorem q1244 : (Jvm.Cond.fieldLink "TourRoomsModel" (180 : Nat) "TourRoomsModel" "notes" "I") ∈ lw_all := lw_g (lw_at lw_m5 199 rfl) rfl
theorem q1245 : (Jvm.Cond.fieldLink "TourRoomsModel" (69 : Nat) "TourRoomsModel" "noteDay" "[I") ∈ lw_all := lw_g (lw_at lw_m5 200 rfl) rfl
theorem q1246 : (Jvm.Cond.fieldLink "TourRoomsModel" (72 : Nat) "TourRoomsModel" "notePlace" "[I") ∈ lw_all := lw_g (lw_at lw_m5 201 rfl) rfl
theorem q1247 : (Jvm.Cond.fieldLink "TourRoomsModel" (75 : Nat) "TourRoomsModel" "noteRoom" "[I") ∈ lw_all := lw_g (lw_at lw_m5 202 rfl) rfl
theorem q1248 : (Jvm.Cond.fieldLink "TourRoomsModel" (78 : Nat) "TourRoomsModel" "isAbsent" "[Z") ∈ lw_all := lw_g (lw_at lw_m5 203 rfl) rfl
theorem q1249 : (Jvm.Cond.fieldLink "TourRoomsModel" (81 : Nat) "TourRoomsModel" "lay" "[I") ∈ lw_all := lw_g (lw_at lw_m5 204 rfl) rfl
theorem q1250 : (Jvm.Cond.fieldLink "TourRoomsModel" (84 : Nat) "TourRoomsModel" "bills" "[I") ∈ lw_all := lw_g (lw_at lw_m5 205 rfl) rfl
theorem q1251 : (Jvm.Cond.fieldLink "TourRoomsModel" (87 : Nat) "TourRoomsModel" "owed" "[I") ∈ lw_all := lw_g (lw_at lw_m5 206 rfl) rfl
theorem q1252 : (Jvm.Cond.fieldLink "TourRoomsModel" (90 : Nat) "TourRoomsModel" "may" "[I") ∈ lw_all := lw_g (lw_at lw_m5 207 rfl) rfl
theorem q1253 : (Jvm.Cond.fieldLink "TourRoomsModel" (93 : Nat) "TourRoomsModel" "mayMany" "[I") ∈ lw_all := lw_g (lw_at lw_m5 208 rfl) rfl
theorem q1254 : (Jvm.Cond.fieldLink "TourRoomsModel" (96 : Nat) "TourRoomsModel" "least" "[I") ∈ lw_all := lw_g (lw_at lw_m5 209 rfl) rfl
theorem q1255 : (Jvm.Cond.fieldLink "TourRoomsModel" (99 : Nat) "TourRoomsModel" "lastMoved" "I") ∈ lw_all := lw_g (lw_at lw_m5 210 rfl) rfl
theorem q1256 : (Jvm.Cond.fieldLink "TourRoomsModel" (102 : Nat) "TourRoomsModel" "fresh" "[I") ∈ lw_all := lw_g (lw_at lw_m5 211 rfl) rfl
theorem q1257 : (Jvm.Cond.fieldLink "TourRoomsModel" (105 : Nat) "TourRoomsModel" "reached" "[Z") ∈ lw_all := lw_g (lw_at lw_m5 212 rfl) rfl
theorem q1258 : (Jvm.Cond.fieldLink "TourRoomsModel" (108 : Nat) "TourRoomsModel" "tape" "[B") ∈ lw_all := lw_g (lw_at lw_m5 213 rfl) rfl
theorem q1259 : (Jvm.Cond.fieldLink "TourRoomsModel" (246 : Nat) "TourRoomsModel" "taped" "I") ∈ lw_all := lw_g (lw_at lw_m5 214 rfl) rfl
theorem q1260 : (Jvm.Cond.fieldLink "TourRoomsModel" (112 : Nat) "TourRoomsModel" "texts" "[B") ∈ lw_all := lw_g (lw_at lw_m5 215 rfl) rfl
theorem q1261 : (Jvm.Cond.fieldLink "TourRoomsModel" (115 : Nat) "TourRoomsModel" "textLong" "[I") ∈ lw_all := lw_g (lw_at lw_m5 216 rfl) rfl
theorem q1262 : (Jvm.Cond.fieldLink "TourRoomsModel" (118 : Nat) "TourRoomsModel" "rules" "[I") ∈ lw_all := lw_g (lw_at lw_m5 217 rfl) rfl
theorem q1263 : (Jvm.Cond.fieldLink "TourRoomsModel" (121 : Nat) "TourRoomsModel" "text" "[B") ∈ lw_all := lw_g (lw_at lw_m5 218 rfl) rfl
theorem q1264 : (Jvm.Cond.fieldLink "TourRoomsModel" (252 : Nat) "TourRoomsModel" "size" "I") ∈ lw_all := lw_g (lw_at lw_m5 219 rfl) rfl
theorem q1265 : (Jvm.Cond.fieldLink "TourRoomsModel" (249 : Nat) "TourRoomsModel" "at" "I") ∈ lw_all := lw_g (lw_at lw_m5 220 rfl) rfl
theorem q1266 : (Jvm.Cond.fieldLink "TourRoomsModel" (255 : Nat) "TourRoomsModel" "place" "I") ∈ lw_all := lw_g (lw_at lw_m5 221 rfl) rfl
theorem q1267 : (Jvm.Cond.fieldLink "TourRoomsModel" (262 : Nat) "TourRoomsModel" "token" "I") ∈ lw_all := lw_g (lw_at lw_m5 222 rfl) rfl
theorem q1268 : (Jvm.Cond.fieldLink "TourRoomsModel" (303 : Nat) "TourRoomsModel" "deep" "I") ∈ lw_all := lw_g (lw_at lw_m5 223 rfl) rfl
theorem q1269 : (Jvm.Cond.fieldLink "TourRoomsModel" (294 : Nat) "TourRoomsModel" "fault" "I") ∈ lw_all := lw_g (lw_at lw_m5 224 rfl) rfl
theorem q1270 : (Jvm.Cond.fieldLink "TourRoomsModel" (297 : Nat) "TourRoomsModel" "faultAt" "I") ∈ lw_all := lw_g (lw_at lw_m5 225 rfl) rfl
theorem q1271 : (Jvm.Cond.fieldLink "TourRoomsModel" (258 : Nat) "TourRoomsModel" "value" "J") ∈ lw_all := lw_g (lw_at lw_m5 226 rfl) rfl
theorem q1272 : (Jvm.Cond.fieldLink "TourRoomsModel" (322 : Nat) "TourRoomsModel" "asLeft" "I") ∈ lw_all := lw_g (lw_at lw_m5 227 rfl) rfl
theorem q1273 : (Jvm.Cond.fieldLink "TourRoomsModel" (327 : Nat) "TourRoomsModel" "asHeld" "I") ∈ lw_all := lw_g (lw_at lw_m5 228 rfl) rfl
theorem q1274 : (Jvm.Cond.fieldLink "TourRoomsModel" (332 : Nat) "TourRoomsModel" "asUsed" "I") ∈ lw_all := lw_g (lw_at lw_m5 229 rfl) rfl
theorem q1275 : (Jvm.Cond.fieldLink "TourRoomsModel" (337 : Nat) "TourRoomsModel" "asPeople" "I") ∈ lw_all := lw_g (lw_at lw_m5 230 rfl) rfl
theorem q1276 : (Jvm.Cond.fieldLink "TourRoomsModel" (361 : Nat) "TourRoomsModel" "read" "I") ∈ lw_all := lw_g (lw_at lw_m5 231 rfl) rfl
theorem q1277 : (Jvm.Cond.fieldLink "TourRoomsModel" (364 : Nat) "TourRoomsModel" "found" "I") ∈ lw_all := lw_g (lw_at lw_m5 232 rfl) rfl
theorem q1278 : (Jvm.Cond.fieldLink "TourRoomsModel" (124 : Nat) "TourRoomsModel" "loss" "[I") ∈ lw_all := lw_g (lw_at lw_m5 233 rfl) rfl
theorem q1279 : (Jvm.Cond.fieldLink "TourRoomsModel" (127 : Nat) "TourRoomsModel" "later" "[I") ∈ lw_all := lw_g (lw_at lw_m5 234 rfl) rfl
theorem q1280 : (Jvm.Cond.fieldLink "TourRoomsModel" (395 : Nat) "TourRoomsModel" "given" "I") ∈ lw_all := lw_g (lw_at lw_m5 235 rfl) rfl
theorem q1281 : (Jvm.Cond.fieldLink "TourRoomsModel" (405 : Nat) "TourRoomsModel" "sights" "I") ∈ lw_all := lw_g (lw_at lw_m5 236 rfl) rfl
theorem q1282 : (Jvm.Cond.fieldLink "TourRoomsModel" (130 : Nat) "TourRoomsModel" "opens" "[I") ∈ lw_all := lw_g (lw_at lw_m5 237 rfl) rfl
theorem q1283 : (Jvm.Cond.fieldLink "TourRoomsModel" (133 : Nat) "TourRoomsModel" "shuts" "[I") ∈ lw_all := lw_g (lw_at lw_m5 238 rfl) rfl
theorem q1284 : (Jvm.Cond.fieldLink "TourRoomsModel" (136 : Nat) "TourRoomsModel" "stay" "[I") ∈ lw_all := lw_g (lw_at lw_m5 239 rfl) rfl
theorem q1285 : (Jvm.Cond.fieldLink "TourRoomsModel" (139 : Nat) "TourRoomsModel" "way" "[I") ∈ lw_all := lw_g (lw_at lw_m6 0 rfl) rfl
theorem q1286 : (Jvm.Cond.fieldLink "TourRoomsModel" (142 : Nat) "TourRoomsModel" "gone" "[I") ∈ lw_all := lw_g (lw_at lw_m6 1 rfl) rfl
theorem q1287 : (Jvm.Cond.fieldLink "TourRoomsModel" (145 : Nat) "TourRoomsModel" "begins" "[I") ∈ lw_all := lw_g (lw_at lw_m6 2 rfl) rfl
theorem q1288 : (Jvm.Cond.fieldLink "TourRoomsModel" (428 : Nat) "TourRoomsModel" "isTripped" "Z") ∈ lw_all := lw_g (lw_at lw_m6 3 rfl) rfl
theorem q1289 : (Jvm.Cond.fieldLink "TourRoomsModel" (416 : Nat) "TourRoomsModel" "tripMany" "I") ∈ lw_all := lw_g (lw_at lw_m6 4 rfl) rfl
theorem q1290 : (Jvm.Cond.fieldLink "TourRoomsModel" (419 : Nat) "TourRoomsModel" "tripEnd" "I") ∈ lw_all := lw_g (lw_at lw_m6 5 rfl) rfl
theorem q1291 : (Jvm.Cond.fieldLink "TourRoomsModel" (422 : Nat) "TourRoomsModel" "tripDrive" "I") ∈ lw_all := lw_g (lw_at lw_m6 6 rfl) rfl
theorem q1292 : (Jvm.Cond.fieldLink "TourRoomsModel" (425 : Nat) "TourRoomsModel" "tripRests" "I") ∈ lw_all := lw_g (lw_at lw_m6 7 rfl) rfl
theorem q1293 : (Jvm.Cond.fieldLink "TourRoomsModel" (148 : Nat) "TourRoomsModel" "tripSight" "[I") ∈ lw_all := lw_g (lw_at lw_m6 8 rfl) rfl
theorem q1294 : (Jvm.Cond.fieldLink "TourRoomsModel" (151 : Nat) "TourRoomsModel" "tripBegins" "[I") ∈ lw_all := lw_g (lw_at lw_m6 9 rfl) rfl
theorem q1295 : (Jvm.Cond.fieldLink "TourRoomsModel" (154 : Nat) "TourRoomsModel" "isFree" "[Z") ∈ lw_all := lw_g (lw_at lw_m6 10 rfl) rfl
theorem q1296 : (Jvm.Cond.lays "TourRoomsModel" "TourRoomsModel" "thrown" "I") ∈ lw_all := lw_g (lw_at lw_m6 11 rfl) rfl
theorem q1297 : (Jvm.Cond.soleField "TourRoomsModel" "thrown") ∈ lw_all := lw_g (lw_at lw_m6 12 rfl) rfl
theorem q1298 : (Jvm.Cond.lays "TourRoomsModel" "TourRoomsModel" "people" "I") ∈ lw_all := lw_g (lw_at lw_m6 13 rfl) rfl
theorem q1299 : (Jvm.Cond.soleField "TourRoomsModel" "people") ∈ lw_all := lw_g (lw_at lw_m6 14 rfl) rfl
theorem q1300 : (Jvm.Cond.laysFinal "TourRoomsModel" "TourRoomsModel" "shares" "[Z") ∈ lw_all := lw_g (lw_at lw_m6 15 rfl) rfl
theorem q1301 : (Jvm.Cond.soleField "TourRoomsModel" "shares") ∈ lw_all := lw_g (lw_at lw_m6 16 rfl) rfl
theorem q1302 : (Jvm.Cond.laysFinal "TourRoomsModel" "TourRoomsModel" "sort" "[I") ∈ lw_all := lw_g (lw_at lw_m6 17 rfl) rfl
theorem q1303 : (Jvm.Cond.soleField "TourRoomsModel" "sort") ∈ lw_all := lw_g (lw_at lw_m6 18 rfl) rfl
theorem q1304 : (Jvm.Cond.laysFinal "TourRoomsModel" "TourRoomsModel" "low" "[Z") ∈ lw_all := lw_g (lw_at lw_m6 19 rfl) rfl
theorem q1305 : (Jvm.Cond.soleField "TourRoomsModel" "low") ∈ lw_all := lw_g (lw_at lw_m6 20 rfl) rfl
theorem q1306 : (Jvm.Cond.laysFinal "TourRoomsModel" "TourRoomsModel" "diet" "[I") ∈ lw_all := lw_g (lw_at lw_m6 21 rfl) rfl
theorem q1307 : (Jvm.Cond.soleField "TourRoomsModel" "diet") ∈ lw_all := lw_g (lw_at lw_m6 22 rfl) rfl
theorem q1308 : (Jvm.Cond.laysFinal "TourRoomsModel" "TourRoomsModel" "from" "[I") ∈ lw_all := lw_g (lw_at lw_m6 23 rfl) rfl
theorem q1309 : (Jvm.Cond.soleField "TourRoomsModel" "from") ∈ lw_all := lw_g (lw_at lw_m6 24 rfl) rfl
theorem q1310 : (Jvm.Cond.laysFinal "TourRoomsModel" "TourRoomsModel" "to" "[I") ∈ lw_all := lw_g (lw_at lw_m6 25 rfl) rfl
theorem q1311 : (Jvm.Cond.soleField "TourRoomsModel" "to") ∈ lw_all := lw_g (lw_at lw_m6 26 rfl) rfl
theorem q1312 : (Jvm.Cond.laysFinal "TourRoomsModel" "TourRoomsModel" "isGone" "[Z") ∈ lw_all := lw_g (lw_at lw_m6 27 rfl) rfl
theorem q1313 : (Jvm.Cond.soleField "TourRoomsModel" "isGone") ∈ lw_all := lw_g (lw_at lw_m6 28 rfl) rfl
theorem q1314 : (Jvm.Cond.laysFinal "TourRoomsModel" "TourRoomsModel" "friend" "[I") ∈ lw_all := lw_g (lw_at lw_m6 29 rfl) rfl
theorem q1315 : (Jvm.Cond.soleField "TourRoomsModel" "friend") ∈ lw_all := lw_g (lw_at lw_m6 30 rfl) rfl
theorem q1316 : (Jvm.Cond.laysFinal "TourRoomsModel" "TourRoomsModel" "bars" "[Z") ∈ lw_all := lw_g (lw_at lw_m6 31 rfl) rfl
theorem q1317 : (Jvm.Cond.soleField "TourRoomsModel" "bars") ∈ lw_all := lw_g (lw_at lw_m6 32 rfl) rfl
theorem q1318 : (Jvm.Cond.lays "TourRoomsModel" "TourRoomsModel" "towns" "I") ∈ lw_all := lw_g (lw_at lw_m6 33 rfl) rfl
theorem q1319 : (Jvm.Cond.soleField "TourRoomsModel" "towns") ∈ lw_all := lw_g (lw_at lw_m6 34 rfl) rfl
theorem q1320 : (Jvm.Cond.lays "TourRoomsModel" "TourRoomsModel" "nights" "I") ∈ lw_all := lw_g (lw_at lw_m6 35 rfl) rfl
theorem q1321 : (Jvm.Cond.soleField "TourRoomsModel" "nights") ∈ lw_all := lw_g (lw_at lw_m6 36 rfl) rfl
theorem q1322 : (Jvm.Cond.lays "TourRoomsModel" "TourRoomsModel" "closed" "I") ∈ lw_all := lw_g (lw_at lw_m6 37 rfl) rfl
theorem q1323 : (Jvm.Cond.soleField "TourRoomsModel" "closed") ∈ lw_all := lw_g (lw_at lw_m6 38 rfl) rfl
theorem q1324 : (Jvm.Cond.lays "TourRoomsModel" "TourRoomsModel" "day" "I") ∈ lw_all := lw_g (lw_at lw_m6 39 rfl) rfl
theorem q1325 : (Jvm.Cond.soleField "TourRoomsModel" "day") ∈ lw_all := lw_g (lw_at lw_m6 40 rfl) rfl
theorem q1326 : (Jvm.Cond.lays "TourRoomsModel" "TourRoomsModel" "firstDay" "I") ∈ lw_all := lw_g (lw_at lw_m6 41 rfl) rfl
theorem q1327 : (Jvm.Cond.soleField "TourRoomsModel" "firstDay") ∈ lw_all := lw_g (lw_at lw_m6 42 rfl) rfl
theorem q1328 : (Jvm.Cond.lays "TourRoomsModel" "TourRoomsModel" "season" "I") ∈ lw_all := lw_g (lw_at lw_m6 43 rfl) rfl
theorem q1329 : (Jvm.Cond.soleField "TourRoomsModel" "season") ∈ lw_all := lw_g (lw_at lw_m6 44 rfl) rfl
theorem q1330 : (Jvm.Cond.lays "TourRoomsModel" "TourRoomsModel" "spent" "I") ∈ lw_all := lw_g (lw_at lw_m6 45 rfl) rfl
theorem q1331 : (Jvm.Cond.soleField "TourRoomsModel" "spent") ∈ lw_all := lw_g (lw_at lw_m6 46 rfl) rfl
theorem q1332 : (Jvm.Cond.laysFinal "TourRoomsModel" "TourRoomsModel" "long0" "[I") ∈ lw_all := lw_g (lw_at lw_m6 47 rfl) rfl
theorem q1333 : (Jvm.Cond.soleField "TourRoomsModel" "long0") ∈ lw_all := lw_g (lw_at lw_m6 48 rfl) rfl
theorem q1334 : (Jvm.Cond.laysFinal "TourRoomsModel" "TourRoomsModel" "first" "[I") ∈ lw_all := lw_g (lw_at lw_m6 49 rfl) rfl
theorem q1335 : (Jvm.Cond.soleField "TourRoomsModel" "first") ∈ lw_all := lw_g (lw_at lw_m6 50 rfl) rfl
theorem q1336 : (Jvm.Cond.laysFinal "TourRoomsModel" "TourRoomsModel" "rooms" "[I") ∈ lw_all := lw_g (lw_at lw_m6 51 rfl) rfl
theorem q1337 : (Jvm.Cond.soleField "TourRoomsModel" "rooms") ∈ lw_all := lw_g (lw_at lw_m6 52 rfl) rfl
theorem q1338 : (Jvm.Cond.laysFinal "TourRoomsModel" "TourRoomsModel" "beds" "[I") ∈ lw_all := lw_g (lw_at lw_m6 53 rfl) rfl
theorem q1339 : (Jvm.Cond.soleField "TourRoomsModel" "beds") ∈ lw_all := lw_g (lw_at lw_m6 54 rfl) rfl
theorem q1340 : (Jvm.Cond.laysFinal "TourRoomsModel" "TourRoomsModel" "lowRoom" "[Z") ∈ lw_all := lw_g (lw_at lw_m6 55 rfl) rfl
theorem q1341 : (Jvm.Cond.soleField "TourRoomsModel" "lowRoom") ∈ lw_all := lw_g (lw_at lw_m6 56 rfl) rfl
theorem q1342 : (Jvm.Cond.laysFinal "TourRoomsModel" "TourRoomsModel" "price" "[I") ∈ lw_all := lw_g (lw_at lw_m6 57 rfl) rfl
theorem q1343 : (Jvm.Cond.soleField "TourRoomsModel" "price") ∈ lw_all := lw_g (lw_at lw_m6 58 rfl) rfl
theorem q1344 : (Jvm.Cond.laysFinal "TourRoomsModel" "TourRoomsModel" "held" "[Z") ∈ lw_all := lw_g (lw_at lw_m6 59 rfl) rfl
theorem q1345 : (Jvm.Cond.soleField "TourRoomsModel" "held") ∈ lw_all := lw_g (lw_at lw_m6 60 rfl) rfl
theorem q1346 : (Jvm.Cond.laysFinal "TourRoomsModel" "TourRoomsModel" "list" "[I") ∈ lw_all := lw_g (lw_at lw_m6 61 rfl) rfl
theorem q1347 : (Jvm.Cond.soleField "TourRoomsModel" "list") ∈ lw_all := lw_g (lw_at lw_m6 62 rfl) rfl
theorem q1348 : (Jvm.Cond.lays "TourRoomsModel" "TourRoomsModel" "notes" "I") ∈ lw_all := lw_g (lw_at lw_m6 63 rfl) rfl
theorem q1349 : (Jvm.Cond.soleField "TourRoomsModel" "notes") ∈ lw_all := lw_g (lw_at lw_m6 64 rfl) rfl
theorem q1350 : (Jvm.Cond.laysFinal "TourRoomsModel" "TourRoomsModel" "noteDay" "[I") ∈ lw_all := lw_g (lw_at lw_m6 65 rfl) rfl
theorem q1351 : (Jvm.Cond.soleField "TourRoomsModel" "noteDay") ∈ lw_all := lw_g (lw_at lw_m6 66 rfl) rfl
theorem q1352 : (Jvm.Cond.laysFinal "TourRoomsModel" "TourRoomsModel" "notePlace" "[I") ∈ lw_all := lw_g (lw_at lw_m6 67 rfl) rfl
theorem q1353 : (Jvm.Cond.soleField "TourRoomsModel" "notePlace") ∈ lw_all := lw_g (lw_at lw_m6 68 rfl) rfl
theorem q1354 : (Jvm.Cond.laysFinal "TourRoomsModel" "TourRoomsModel" "noteRoom" "[I") ∈ lw_all := lw_g (lw_at lw_m6 69 rfl) rfl
theorem q1355 : (Jvm.Cond.soleField "TourRoomsModel" "noteRoom") ∈ lw_all := lw_g (lw_at lw_m6 70 rfl) rfl
theorem q1356 : (Jvm.Cond.laysFinal "TourRoomsModel" "TourRoomsModel" "isAbsent" "[Z") ∈ lw_all := lw_g (lw_at lw_m6 71 rfl) rfl
theorem q1357 : (Jvm.Cond.soleField "TourRoomsModel" "isAbsent") ∈ lw_all := lw_g (lw_at lw_m6 72 rfl) rfl
theorem q1358 : (Jvm.Cond.laysFinal "TourRoomsModel" "TourRoomsModel" "lay" "[I") ∈ lw_all := lw_g (lw_at lw_m6 73 rfl) rfl
theorem q1359 : (Jvm.Cond.soleField "TourRoomsModel" "lay") ∈ lw_all := lw_g (lw_at lw_m6 74 rfl) rfl
theorem q1360 : (Jvm.Cond.laysFinal "TourRoomsModel" "TourRoomsModel" "bills" "[I") ∈ lw_all := lw_g (lw_at lw_m6 75 rfl) rfl
theorem q1361 : (Jvm.Cond.soleField "TourRoomsModel" "bills") ∈ lw_all := lw_g (lw_at lw_m6 76 rfl) rfl
theorem q1362 : (Jvm.Cond.laysFinal "TourRoomsModel" "TourRoomsModel" "owed" "[I") ∈ lw_all := lw_g (lw_at lw_m6 77 rfl) rfl
theorem q1363 : (Jvm.Cond.soleField "TourRoomsModel" "owed") ∈ lw_all := lw_g (lw_at lw_m6 78 rfl) rfl
theorem q1364 : (Jvm.Cond.laysFinal "TourRoomsModel" "TourRoomsModel" "may" "[I") ∈ lw_all := lw_g (lw_at lw_m6 79 rfl) rfl
theorem q1365 : (Jvm.Cond.soleField "TourRoomsModel" "may") ∈ lw_all := lw_g (lw_at lw_m6 80 rfl) rfl
theorem q1366 : (Jvm.Cond.laysFinal "TourRoomsModel" "TourRoomsModel" "mayMany" "[I") ∈ lw_all := lw_g (lw_at lw_m6 81 rfl) rfl
theorem q1367 : (Jvm.Cond.soleField "TourRoomsModel" "mayMany") ∈ lw_all := lw_g (lw_at lw_m6 82 rfl) rfl
theorem q1368 : (Jvm.Cond.laysFinal "TourRoomsModel" "TourRoomsModel" "least" "[I") ∈ lw_all := lw_g (lw_at lw_m6 83 rfl) rfl
theorem q1369 : (Jvm.Cond.soleField "TourRoomsModel" "least") ∈ lw_all := lw_g (lw_at lw_m6 84 rfl) rfl
theorem q1370 : (Jvm.Cond.lays "TourRoomsModel" "TourRoomsModel" "lastMoved" "I") ∈ lw_all := lw_g (lw_at lw_m6 85 rfl) rfl
theorem q1371 : (Jvm.Cond.soleField "TourRoomsModel" "lastMoved") ∈ lw_all := lw_g (lw_at lw_m6 86 rfl) rfl
theorem q1372 : (Jvm.Cond.laysFinal "TourRoomsModel" "TourRoomsModel" "fresh" "[I") ∈ lw_all := lw_g (lw_at lw_m6 87 rfl) rfl
theorem q1373 : (Jvm.Cond.soleField "TourRoomsModel" "fresh") ∈ lw_all := lw_g (lw_at lw_m6 88 rfl) rfl
theorem q1374 : (Jvm.Cond.laysFinal "TourRoomsModel" "TourRoomsModel" "reached" "[Z") ∈ lw_all := lw_g (lw_at lw_m6 89 rfl) rfl
theorem q1375 : (Jvm.Cond.soleField "TourRoomsModel" "reached") ∈ lw_all := lw_g (lw_at lw_m6 90 rfl) rfl
theorem q1376 : (Jvm.Cond.laysFinal "TourRoomsModel" "TourRoomsModel" "tape" "[B") ∈ lw_all := lw_g (lw_at lw_m6 91 rfl) rfl
theorem q1377 : (Jvm.Cond.soleField "TourRoomsModel" "tape") ∈ lw_all := lw_g (lw_at lw_m6 92 rfl) rfl
theorem q1378 : (Jvm.Cond.lays "TourRoomsModel" "TourRoomsModel" "taped" "I") ∈ lw_all := lw_g (lw_at lw_m6 93 rfl) rfl
theorem q1379 : (Jvm.Cond.soleField "TourRoomsModel" "taped") ∈ lw_all := lw_g (lw_at lw_m6 94 rfl) rfl
theorem q1380 : (Jvm.Cond.laysFinal "TourRoomsModel" "TourRoomsModel" "texts" "[B") ∈ lw_all := lw_g (lw_at lw_m6 95 rfl) rfl
theorem q1381 : (Jvm.Cond.soleField "TourRoomsModel" "texts") ∈ lw_all := lw_g (lw_at lw_m6 96 rfl) rfl
theorem q1382 : (Jvm.Cond.laysFinal "TourRoomsModel" "TourRoomsModel" "textLong" "[I") ∈ lw_all := lw_g (lw_at lw_m6 97 rfl) rfl
theorem q1383 : (Jvm.Cond.soleField "TourRoomsModel" "textLong") ∈ lw_all := lw_g (lw_at lw_m6 98 rfl) rfl
theorem q1384 : (Jvm.Cond.laysFinal "TourRoomsModel" "TourRoomsModel" "rules" "[I") ∈ lw_all := lw_g (lw_at lw_m6 99 rfl) rfl
theorem q1385 : (Jvm.Cond.soleField "TourRoomsModel" "rules") ∈ lw_all := lw_g (lw_at lw_m6 100 rfl) rfl
theorem q1386 : (Jvm.Cond.laysFinal "TourRoomsModel" "TourRoomsModel" "text" "[B") ∈ lw_all := lw_g (lw_at lw_m6 101 rfl) rfl
theorem q1387 : (Jvm.Cond.soleField "TourRoomsModel" "text") ∈ lw_all := lw_g (lw_at lw_m6 102 rfl) rfl
theorem q1388 : (Jvm.Cond.lays "TourRoomsModel" "TourRoomsModel" "size" "I") ∈ lw_all := lw_g (lw_at lw_m6 103 rfl) rfl
theorem q1389 : (Jvm.Cond.soleField "TourRoomsModel" "size") ∈ lw_all := lw_g (lw_at lw_m6 104 rfl) rfl
theorem q1390 : (Jvm.Cond.lays "TourRoomsModel" "TourRoomsModel" "at" "I") ∈ lw_all := lw_g (lw_at lw_m6 105 rfl) rfl
theorem q1391 : (Jvm.Cond.soleField "TourRoomsModel" "at") ∈ lw_all := lw_g (lw_at lw_m6 106 rfl) rfl
theorem q1392 : (Jvm.Cond.lays "TourRoomsModel" "TourRoomsModel" "place" "I") ∈ lw_all := lw_g (lw_at lw_m6 107 rfl) rfl
theorem q1393 : (Jvm.Cond.soleField "TourRoomsModel" "place") ∈ lw_all := lw_g (lw_at lw_m6 108 rfl) rfl
theorem q1394 : (Jvm.Cond.lays "TourRoomsModel" "TourRoomsModel" "token" "I") ∈ lw_all := lw_g (lw_at lw_m6 109 rfl) rfl
theorem q1395 : (Jvm.Cond.soleField "TourRoomsModel" "token") ∈ lw_all := lw_g (lw_at lw_m6 110 rfl) rfl
theorem q1396 : (Jvm.Cond.lays "TourRoomsModel" "TourRoomsModel" "deep" "I") ∈ lw_all := lw_g (lw_at lw_m6 111 rfl) rfl
theorem q1397 : (Jvm.Cond.soleField "TourRoomsModel" "deep") ∈ lw_all := lw_g (lw_at lw_m6 112 rfl) rfl
theorem q1398 : (Jvm.Cond.lays "TourRoomsModel" "TourRoomsModel" "fault" "I") ∈ lw_all := lw_g (lw_at lw_m6 113 rfl) rfl
theorem q1399 : (Jvm.Cond.soleField "TourRoomsModel" "fault") ∈ lw_all := lw_g (lw_at lw_m6 114 rfl) rfl
theorem q1400 : (Jvm.Cond.lays "TourRoomsModel" "TourRoomsModel" "faultAt" "I") ∈ lw_all := lw_g (lw_at lw_m6 115 rfl) rfl
theorem q1401 : (Jvm.Cond.soleField "TourRoomsModel" "faultAt") ∈ lw_all := lw_g (lw_at lw_m6 116 rfl) rfl
theorem q1402 : (Jvm.Cond.lays "TourRoomsModel" "TourRoomsModel" "value" "J") ∈ lw_all := lw_g (lw_at lw_m6 117 rfl) rfl
theorem q1403 : (Jvm.Cond.soleField "TourRoomsModel" "value") ∈ lw_all := lw_g (lw_at lw_m6 118 rfl) rfl
theorem q1404 : (Jvm.Cond.lays "TourRoomsModel" "TourRoomsModel" "asLeft" "I") ∈ lw_all := lw_g (lw_at lw_m6 119 rfl) rfl
theorem q1405 : (Jvm.Cond.soleField "TourRoomsModel" "asLeft") ∈ lw_all := lw_g (lw_at lw_m6 120 rfl) rfl
theorem q1406 : (Jvm.Cond.lays "TourRoomsModel" "TourRoomsModel" "asHeld" "I") ∈ lw_all := lw_g (lw_at lw_m6 121 rfl) rfl
theorem q1407 : (Jvm.Cond.soleField "TourRoomsModel" "asHeld") ∈ lw_all := lw_g (lw_at lw_m6 122 rfl) rfl
theorem q1408 : (Jvm.Cond.lays "TourRoomsModel" "TourRoomsModel" "asUsed" "I") ∈ lw_all := lw_g (lw_at lw_m6 123 rfl) rfl
theorem q1409 : (Jvm.Cond.soleField "TourRoomsModel" "asUsed") ∈ lw_all := lw_g (lw_at lw_m6 124 rfl) rfl
theorem q1410 : (Jvm.Cond.lays "TourRoomsModel" "TourRoomsModel" "asPeople" "I") ∈ lw_all := lw_g (lw_at lw_m6 125 rfl) rfl
theorem q1411 : (Jvm.Cond.soleField "TourRoomsModel" "asPeople") ∈ lw_all := lw_g (lw_at lw_m6 126 rfl) rfl
theorem q1412 : (Jvm.Cond.lays "TourRoomsModel" "TourRoomsModel" "read" "I") ∈ lw_all := lw_g (lw_at lw_m6 127 rfl) rfl
theorem q1413 : (Jvm.Cond.soleField "TourRoomsModel" "read") ∈ lw_all := lw_g (lw_at lw_m6 128 rfl) rfl
theorem q1414 : (Jvm.Cond.lays "TourRoomsModel" "TourRoomsModel" "found" "I") ∈ lw_all := lw_g (lw_at lw_m6 129 rfl) rfl
theorem q1415 : (Jvm.Cond.soleField "TourRoomsModel" "found") ∈ lw_all := lw_g (lw_at lw_m6 130 rfl) rfl
theorem q1416 : (Jvm.Cond.laysFinal "TourRoomsModel" "TourRoomsModel" "loss" "[I") ∈ lw_all := lw_g (lw_at lw_m6 131 rfl) rfl
theorem q1417 : (Jvm.Cond.soleField "TourRoomsModel" "loss") ∈ lw_all := lw_g (lw_at lw_m6 132 rfl) rfl
theorem q1418 : (Jvm.Cond.laysFinal "TourRoomsModel" "TourRoomsModel" "later" "[I") ∈ lw_all := lw_g (lw_at lw_m6 133 rfl) rfl
theorem q1419 : (Jvm.Cond.soleField "TourRoomsModel" "later") ∈ lw_all := lw_g (lw_at lw_m6 134 rfl) rfl
theorem q1420 : (Jvm.Cond.lays "TourRoomsModel" "TourRoomsModel" "given" "I") ∈ lw_all := lw_g (lw_at lw_m6 135 rfl) rfl
theorem q1421 : (Jvm.Cond.soleField "TourRoomsModel" "given") ∈ lw_all := lw_g (lw_at lw_m6 136 rfl) rfl
theorem q1422 : (Jvm.Cond.lays "TourRoomsModel" "TourRoomsModel" "sights" "I") ∈ lw_all := lw_g (lw_at lw_m6 137 rfl) rfl
theorem q1423 : (Jvm.Cond.soleField "TourRoomsModel" "sights") ∈ lw_all := lw_g (lw_at lw_m6 138 rfl) rfl
theorem q1424 : (Jvm.Cond.laysFinal "TourRoomsModel" "TourRoomsModel" "opens" "[I") ∈ lw_all := lw_g (lw_at lw_m6 139 rfl) rfl
theorem q1425 : (Jvm.Cond.soleField "TourRoomsModel" "opens") ∈ lw_all := lw_g (lw_at lw_m6 140 rfl) rfl
theorem q1426 : (Jvm.Cond.laysFinal "TourRoomsModel" "TourRoomsModel" "shuts" "[I") ∈ lw_all := lw_g (lw_at lw_m6 141 rfl) rfl
theorem q1427 : (Jvm.Cond.soleField "TourRoomsModel" "shuts") ∈ lw_all := lw_g (lw_at lw_m6 142 rfl) rfl
theorem q1428 : (Jvm.Cond.laysFinal "TourRoomsModel" "TourRoomsModel" "stay" "[I") ∈ lw_all := lw_g (lw_at lw_m6 143 rfl) rfl
theorem q1429 : (Jvm.Cond.soleField "TourRoomsModel" "stay") ∈ lw_all := lw_g (lw_at lw_m6 144 rfl) rfl
theorem q1430 : (Jvm.Cond.laysFinal "TourRoomsModel" "TourRoomsModel" "way" "[I") ∈ lw_all := lw_g (lw_at lw_m6 145 rfl) rfl
theorem q1431 : (Jvm.Cond.soleField "TourRoomsModel" "way") ∈ lw_all := lw_g (lw_at lw_m6 146 rfl) rfl
theorem q1432 : (Jvm.Cond.laysFinal "TourRoomsModel" "TourRoomsModel" "gone" "[I") ∈ lw_all := lw_g (lw_at lw_m6 147 rfl) rfl
theorem q1433 : (Jvm.Cond.soleField "TourRoomsModel" "gone") ∈ lw_all := lw_g (lw_at lw_m6 148 rfl) rfl
theorem q1434 : (Jvm.Cond.laysFinal "TourRoomsModel" "TourRoomsModel" "begins" "[I") ∈ lw_all := lw_g (lw_at lw_m6 149 rfl) rfl
theorem q1435 : (Jvm.Cond.soleField "TourRoomsModel" "begins") ∈ lw_all := lw_g (lw_at lw_m6 150 rfl) rfl
theorem q1436 : (Jvm.Cond.lays "TourRoomsModel" "TourRoomsModel" "isTripped" "Z") ∈ lw_all := lw_g (lw_at lw_m6 151 rfl) rfl
theorem q1437 : (Jvm.Cond.soleField "TourRoomsModel" "isTripped") ∈ lw_all := lw_g (lw_at lw_m6 152 rfl) rfl
theorem q1438 : (Jvm.Cond.lays "TourRoomsModel" "TourRoomsModel" "tripMany" "I") ∈ lw_all := lw_g (lw_at lw_m6 153 rfl) rfl
theorem q1439 : (Jvm.Cond.soleField "TourRoomsModel" "tripMany") ∈ lw_all := lw_g (lw_at lw_m6 154 rfl) rfl
theorem q1440 : (Jvm.Cond.lays "TourRoomsModel" "TourRoomsModel" "tripEnd" "I") ∈ lw_all := lw_g (lw_at lw_m6 155 rfl) rfl
theorem q1441 : (Jvm.Cond.soleField "TourRoomsModel" "tripEnd") ∈ lw_all := lw_g (lw_at lw_m6 156 rfl) rfl
theorem q1442 : (Jvm.Cond.lays "TourRoomsModel" "TourRoomsModel" "tripDrive" "I") ∈ lw_all := lw_g (lw_at lw_m6 157 rfl) rfl
theorem q1443 : (Jvm.Cond.soleField "TourRoomsModel" "tripDrive") ∈ lw_all := lw_g (lw_at lw_m6 158 rfl) rfl
theorem q1444 : (Jvm.Cond.lays "TourRoomsModel" "TourRoomsModel" "tripRests" "I") ∈ lw_all := lw_g (lw_at lw_m6 159 rfl) rfl
theorem q1445 : (Jvm.Cond.soleField "TourRoomsModel" "tripRests") ∈ lw_all := lw_g (lw_at lw_m6 160 rfl) rfl
theorem q1446 : (Jvm.Cond.laysFinal "TourRoomsModel" "TourRoomsModel" "tripSight" "[I") ∈ lw_all := lw_g (lw_at lw_m6 161 rfl) rfl
theorem q1447 : (Jvm.Cond.soleField "TourRoomsModel" "tripSight") ∈ lw_all := lw_g (lw_at lw_m6 162 rfl) rfl
theorem q1448 : (Jvm.Cond.laysFinal "TourRoomsModel" "TourRoomsModel" "tripBegins" "[I") ∈ lw_all := lw_g (lw_at lw_m6 163 rfl) rfl
theorem q1449 : (Jvm.Cond.soleField "TourRoomsModel" "tripBegins") ∈ lw_all := lw_g (lw_at lw_m6 164 rfl) rfl
theorem q1450 : (Jvm.Cond.laysFinal "TourRoomsModel" "TourRoomsModel" "isFree" "[Z") ∈ lw_all := lw_g (lw_at lw_m6 165 rfl) rfl
theorem q1451 : (Jvm.Cond.soleField "TourRoomsModel" "isFree") ∈ lw_all := lw_g (lw_at lw_m6 166 rfl) rfl
theorem q1452 : (Jvm.Cond.superclass "TourRoomsModel" "java/lang/Object") ∈ lw_all := lw_g (lw_at lw_m6 167 rfl) rfl
theorem q1454 : (Jvm.Cond.instanceMethod ({ cls := "TourRoomsModel", name := "person", desc := "(ZIZIII)I" } : Jvm.MethodName)) ∈ lw_all := lw_g (lw_at lw_m6 169 rfl) rfl
theorem q1455 : (Jvm.Cond.selects "TourRoomsModel" ({ cls := "TourRoomsModel", name := "person", desc := "(ZIZIII)I" } : Jvm.MethodName) ({ cls := "TourRoomsModel", name := "person", desc := "(ZIZIII)I" } : Jvm.MethodName)) ∈ lw_all := lw_g (lw_at lw_m6 170 rfl) rfl
theorem q1456 : (Jvm.Cond.code ({ cls := "TourRoomsModel", name := "person", desc := "(ZIZIII)I" } : Jvm.MethodName) prog_17_method_11_code (7 : Nat) (Option.some Jvm.ClassFile.FieldType.int)) ∈ lw_all := lw_g (lw_at lw_m6 171 rfl) rfl
theorem q1457 : (Jvm.Cond.methodLink "TourRoomsModel" (160 : Nat) ({ cls := "TourRoomsModel", name := "in", desc := "(III)Z" } : Jvm.MethodName)) ∈ lw_all := lw_g (lw_at lw_m6 172 rfl) rfl
theorem q1458 : (Jvm.Cond.static ({ cls := "TourRoomsModel", name := "in", desc := "(III)Z" } : Jvm.MethodName)) ∈ lw_all := lw_g (lw_at lw_m6 173 rfl) rfl
theorem q1459 : (Jvm.Cond.code ({ cls := "TourRoomsModel", name := "in", desc := "(III)Z" } : Jvm.MethodName) prog_17_method_2_code (3 : Nat) (Option.some Jvm.ClassFile.FieldType.boolean)) ∈ lw_all := lw_g (lw_at lw_m6 174 rfl) rfl
theorem q1461 : (Jvm.Cond.instanceMethod ({ cls := "TourRoomsModel", name := "friends", desc := "(IIZ)Z" } : Jvm.MethodName)) ∈ lw_all := lw_g (lw_at lw_m6 176 rfl) rfl
theorem q1462 : (Jvm.Cond.selects "TourRoomsModel" ({ cls := "TourRoomsModel", name := "friends", desc := "(IIZ)Z" } : Jvm.MethodName) ({ cls := "TourRoomsModel", name := "friends", desc := "(IIZ)Z" } : Jvm.MethodName)) ∈ lw_all := lw_g (lw_at lw_m6 177 rfl) rfl
theorem q1463 : (Jvm.Cond.code ({ cls := "TourRoomsModel", name := "friends", desc := "(IIZ)Z" } : Jvm.MethodName) prog_17_method_12_code (4 : Nat) (Option.some Jvm.ClassFile.FieldType.boolean)) ∈ lw_all := lw_g (lw_at lw_m6 178 rfl) rfl
theorem q1464 : (Jvm.Cond.methodLink "TourRoomsModel" (177 : Nat) ({ cls := "TourRoomsModel", name := "isPerson", desc := "(I)Z" } : Jvm.MethodName)) ∈ lw_all := lw_g (lw_at lw_m6 179 rfl) rfl
theorem q1465 : (Jvm.Cond.privateMethod ({ cls := "TourRoomsModel", name := "isPerson", desc := "(I)Z" } : Jvm.MethodName)) ∈ lw_tbl := lw_at lw_m6 180 rfl
theorem q1466 : (Jvm.Cond.instanceMethod ({ cls := "TourRoomsModel", name := "isPerson", desc := "(I)Z" } : Jvm.MethodName)) ∈ lw_all := lw_g (lw_at lw_m6 181 rfl) rfl
theorem q1467 : (Jvm.Cond.code ({ cls := "TourRoomsModel", name := "isPerson", desc := "(I)Z" } : Jvm.MethodName) prog_17_method_4_code (2 : Nat) (Option.some Jvm.ClassFile.FieldType.boolean)) ∈ lw_all := lw_g (lw_at lw_m6 182 rfl) rfl
theorem q1469 : (Jvm.Cond.instanceMethod ({ cls := "TourRoomsModel", name := "bar", desc := "(IIZ)Z" } : Jvm.MethodName)) ∈ lw_all := lw_g (lw_at lw_m6 184 rfl) rfl
theorem q1470 : (Jvm.Cond.selects "TourRoomsModel" ({ cls := "TourRoomsModel", name := "bar", desc := "(IIZ)Z" } : Jvm.MethodName) ({ cls := "TourRoomsModel", name := "bar", desc := "(IIZ)Z" } : Jvm.MethodName)) ∈ lw_all := lw_g (lw_at lw_m6 185 rfl) rfl
theorem q1471 : (Jvm.Cond.code ({ cls := "TourRoomsModel", name := "bar", desc := "(IIZ)Z" } : Jvm.MethodName) prog_17_method_13_code (4 : Nat) (Option.some Jvm.ClassFile.FieldType.boolean)) ∈ lw_all := lw_g (lw_at lw_m6 186 rfl) rfl
theorem q1473 : (Jvm.Cond.instanceMethod ({ cls := "TourRoomsModel", name := "stays", desc := "(III)Z" } : Jvm.MethodName)) ∈ lw_all := lw_g (lw_at lw_m6 188 rfl) rfl
theorem q1474 : (Jvm.Cond.selects "TourRoomsModel" ({ cls := "TourRoomsModel", name := "stays", desc := "(III)Z" } : Jvm.MethodName) ({ cls := "TourRoomsModel", name := "stays", desc := "(III)Z" } : Jvm.MethodName)) ∈ lw_all := lw_g (lw_at lw_m6 189 rfl) rfl
theorem q1475 : (Jvm.Cond.code ({ cls := "TourRoomsModel", name := "stays", desc := "(III)Z" } : Jvm.MethodName) prog_17_method_16_code (4 : Nat) (Option.some Jvm.ClassFile.FieldType.boolean)) ∈ lw_all := lw_g (lw_at lw_m6 190 rfl) rfl
theorem q1476 : (Jvm.Cond.methodLink "TourRoomsModel" (189 : Nat) ({ cls := "TourRoomsModel", name := "leaves", desc := "(III)Z" } : Jvm.MethodName)) ∈ lw_all := lw_g (lw_at lw_m6 191 rfl) rfl
theorem q1477 : (Jvm.Cond.privateMethod ({ cls := "TourRoomsModel", name := "leaves", desc := "(III)Z" } : Jvm.MethodName)) ∈ lw_tbl := lw_at lw_m6 192 rfl
theorem q1478 : (Jvm.Cond.instanceMethod ({ cls := "TourRoomsModel", name := "leaves", desc := "(III)Z" } : Jvm.MethodName)) ∈ lw_all := lw_g (lw_at lw_m6 193 rfl) rfl
theorem q1479 : (Jvm.Cond.code ({ cls := "TourRoomsModel", name := "leaves", desc := "(III)Z" } : Jvm.MethodName) prog_17_method_15_code (6 : Nat) (Option.some Jvm.ClassFile.FieldType.boolean)) ∈ lw_all := lw_g (lw_at lw_m6 194 rfl) rfl
theorem q1480 : (Jvm.Cond.methodLink "TourRoomsModel" (174 : Nat) ({ cls := "TourRoomsModel", name := "isOver", desc := "(I)Z" } : Jvm.MethodName)) ∈ lw_all := lw_g (lw_at lw_m6 195 rfl) rfl
theorem q1481 : (Jvm.Cond.privateMethod ({ cls := "TourRoomsModel", name := "isOver", desc := "(I)Z" } : Jvm.MethodName)) ∈ lw_tbl := lw_at lw_m6 196 rfl
theorem q1482 : (Jvm.Cond.instanceMethod ({ cls := "TourRoomsModel", name := "isOver", desc := "(I)Z" } : Jvm.MethodName)) ∈ lw_all := lw_g (lw_at lw_m6 197 rfl) rfl
theorem q1483 : (Jvm.Cond.code ({ cls := "TourRoomsModel", name := "isOver", desc := "(I)Z" } : Jvm.MethodName) prog_17_method_6_code (2 : Nat) (Option.some Jvm.ClassFile.FieldType.boolean)) ∈ lw_all := lw_g (lw_at lw_m6 198 rfl) rfl
theorem q1484 : (Jvm.Cond.methodLink "TourRoomsModel" (186 : Nat) ({ cls := "TourRoomsModel", name := "notes", desc := "(III)V" } : Jvm.MethodName)) ∈ lw_all := lw_g (lw_at lw_m6 199 rfl) rfl
theorem q1485 : (Jvm.Cond.privateMethod ({ cls := "TourRoomsModel", name := "notes", desc := "(III)V" } : Jvm.MethodName)) ∈ lw_tbl := lw_at lw_m6 200 rfl
theorem q1486 : (Jvm.Cond.instanceMethod ({ cls := "TourRoomsModel", name := "notes", desc := "(III)V" } : Jvm.MethodName)) ∈ lw_all := lw_g (lw_at lw_m6 201 rfl) rfl
theorem q1487 : (Jvm.Cond.code ({ cls := "TourRoomsModel", name := "notes", desc := "(III)V" } : Jvm.MethodName) prog_17_method_14_code (5 : Nat) (Option.none : Option Jvm.ClassFile.FieldType)) ∈ lw_all := lw_g (lw_at lw_m6 202 rfl) rfl
theorem q1489 : (Jvm.Cond.instanceMethod ({ cls := "TourRoomsModel", name := "gone", desc := "(I)Z" } : Jvm.MethodName)) ∈ lw_all := lw_g (lw_at lw_m6 204 rfl) rfl
theorem q1490 : (Jvm.Cond.selects "TourRoomsModel" ({ cls := "TourRoomsModel", name := "gone", desc := "(I)Z" } : Jvm.MethodName) ({ cls := "TourRoomsModel", name := "gone", desc := "(I)Z" } : Jvm.MethodName)) ∈ lw_all := lw_g (lw_at lw_m6 205 rfl) rfl
theorem q1491 : (Jvm.Cond.code ({ cls := "TourRoomsModel", name := "gone", desc := "(I)Z" } : Jvm.MethodName) prog_17_method_17_code (2 : Nat) (Option.some Jvm.ClassFile.FieldType.boolean)) ∈ lw_all := lw_g (lw_at lw_m6 206 rfl) rfl
theorem q1493 : (Jvm.Cond.instanceMethod ({ cls := "TourRoomsModel", name := "absent", desc := "(IIZ)Z" } : Jvm.MethodName)) ∈ lw_all := lw_g (lw_at lw_m6 208 rfl) rfl
theorem q1494 : (Jvm.Cond.selects "TourRoomsModel" ({ cls := "TourRoomsModel", name := "absent", desc := "(IIZ)Z" } : Jvm.MethodName) ({ cls := "TourRoomsModel", name := "absent", desc := "(IIZ)Z" } : Jvm.MethodName)) ∈ lw_all := lw_g (lw_at lw_m6 209 rfl) rfl
theorem q1495 : (Jvm.Cond.code ({ cls := "TourRoomsModel", name := "absent", desc := "(IIZ)Z" } : Jvm.MethodName) prog_17_method_18_code (4 : Nat) (Option.some Jvm.ClassFile.FieldType.boolean)) ∈ lw_all := lw_g (lw_at lw_m6 210 rfl) rfl
theorem q1497 : (Jvm.Cond.instanceMethod ({ cls := "TourRoomsModel", name := "town", desc := "(I)I" } : Jvm.MethodName)) ∈ lw_all := lw_g (lw_at lw_m6 212 rfl) rfl
theorem q1498 : (Jvm.Cond.selects "TourRoomsModel" ({ cls := "TourRoomsModel", name := "town", desc := "(I)I" } : Jvm.MethodName) ({ cls := "TourRoomsModel", name := "town", desc := "(I)I" } : Jvm.MethodName)) ∈ lw_all := lw_g (lw_at lw_m6 213 rfl) rfl
theorem q1499 : (Jvm.Cond.code ({ cls := "TourRoomsModel", name := "town", desc := "(I)I" } : Jvm.MethodName) prog_17_method_19_code (2 : Nat) (Option.some Jvm.ClassFile.FieldType.int)) ∈ lw_all := lw_g (lw_at lw_m6 214 rfl) rfl
theorem q1501 : (Jvm.Cond.instanceMethod ({ cls := "TourRoomsModel", name := "start", desc := "(I)Z" } : Jvm.MethodName)) ∈ lw_all := lw_g (lw_at lw_m6 216 rfl) rfl
theorem q1502 : (Jvm.Cond.selects "TourRoomsModel" ({ cls := "TourRoomsModel", name := "start", desc := "(I)Z" } : Jvm.MethodName) ({ cls := "TourRoomsModel", name := "start", desc := "(I)Z" } : Jvm.MethodName)) ∈ lw_all := lw_g (lw_at lw_m6 217 rfl) rfl
theorem q1503 : (Jvm.Cond.code ({ cls := "TourRoomsModel", name := "start", desc := "(I)Z" } : Jvm.MethodName) prog_17_method_20_code (2 : Nat) (Option.some Jvm.ClassFile.FieldType.boolean)) ∈ lw_all := lw_g (lw_at lw_m6 218 rfl) rfl
theorem q1505 : (Jvm.Cond.instanceMethod ({ cls := "TourRoomsModel", name := "season", desc := "(I)Z" } : Jvm.MethodName)) ∈ lw_all := lw_g (lw_at lw_m6 220 rfl) rfl
theorem q1506 : (Jvm.Cond.selects "TourRoomsModel" ({ cls := "TourRoomsModel", name := "season", desc := "(I)Z" } : Jvm.MethodName) ({ cls := "TourRoomsModel", name := "season", desc := "(I)Z" } : Jvm.MethodName)) ∈ lw_all := lw_g (lw_at lw_m6 221 rfl) rfl
theorem q1507 : (Jvm.Cond.code ({ cls := "TourRoomsModel", name := "season", desc := "(I)Z" } : Jvm.MethodName) prog_17_method_21_code (2 : Nat) (Option.some Jvm.ClassFile.FieldType.boolean)) ∈ lw_all := lw_g (lw_at lw_m6 222 rfl) rfl
theorem q1509 : (Jvm.Cond.instanceMethod ({ cls := "TourRoomsModel", name := "day", desc := "(I)I" } : Jvm.MethodName)) ∈ lw_all := lw_g (lw_at lw_m6 224 rfl) rfl
theorem q1510 : (Jvm.Cond.selects "TourRoomsModel" ({ cls := "TourRoomsModel", name := "day", desc := "(I)I" } : Jvm.MethodName) ({ cls := "TourRoomsModel", name := "day", desc := "(I)I" } : Jvm.MethodName)) ∈ lw_all := lw_g (lw_at lw_m6 225 rfl) rfl
theorem q1511 : (Jvm.Cond.code ({ cls := "TourRoomsModel", name := "day", desc := "(I)I" } : Jvm.MethodName) prog_17_method_22_code (2 : Nat) (Option.some Jvm.ClassFile.FieldType.int)) ∈ lw_all := lw_g (lw_at lw_m6 226 rfl) rfl
theorem q1513 : (Jvm.Cond.instanceMethod ({ cls := "TourRoomsModel", name := "room", desc := "(IIZI)I" } : Jvm.MethodName)) ∈ lw_all := lw_g (lw_at lw_m6 228 rfl) rfl
theorem q1514 : (Jvm.Cond.selects "TourRoomsModel" ({ cls := "TourRoomsModel", name := "room", desc := "(IIZI)I" } : Jvm.MethodName) ({ cls := "TourRoomsModel", name := "room", desc := "(IIZI)I" } : Jvm.MethodName)) ∈ lw_all := lw_g (lw_at lw_m6 229 rfl) rfl
theorem q1515 : (Jvm.Cond.code ({ cls := "TourRoomsModel", name := "room", desc := "(IIZI)I" } : Jvm.MethodName) prog_17_method_23_code (6 : Nat) (Option.some Jvm.ClassFile.FieldType.int)) ∈ lw_all := lw_g (lw_at lw_m6 230 rfl) rfl
theorem q1516 : (Jvm.Cond.methodLink "TourRoomsModel" (198 : Nat) ({ cls := "TourRoomsModel", name := "isOpen", desc := "(I)Z" } : Jvm.MethodName)) ∈ lw_all := lw_g (lw_at lw_m6 231 rfl) rfl
theorem q1517 : (Jvm.Cond.privateMethod ({ cls := "TourRoomsModel", name := "isOpen", desc := "(I)Z" } : Jvm.MethodName)) ∈ lw_tbl := lw_at lw_m6 232 rfl
theorem q1518 : (Jvm.Cond.instanceMethod ({ cls := "TourRoomsModel", name := "isOpen", desc := "(I)Z" } : Jvm.MethodName)) ∈ lw_all := lw_g (lw_at lw_m6 233 rfl) rfl
theorem q1519 : (Jvm.Cond.code ({ cls := "TourRoomsModel", name := "isOpen", desc := "(I)Z" } : Jvm.MethodName) prog_17_method_7_code (2 : Nat) (Option.some Jvm.ClassFile.FieldType.boolean)) ∈ lw_all := lw_g (lw_at lw_m6 234 rfl) rfl
theorem q1520 : (Jvm.Cond.methodLink "TourRoomsModel" (170 : Nat) ({ cls := "TourRoomsModel", name := "isTown", desc := "(I)Z" } : Jvm.MethodName)) ∈ lw_all := lw_g (lw_at lw_m6 235 rfl) rfl
theorem q1521 : (Jvm.Cond.privateMethod ({ cls := "TourRoomsModel", name := "isTown", desc := "(I)Z" } : Jvm.MethodName)) ∈ lw_tbl := lw_at lw_m6 236 rfl
theorem q1522 : (Jvm.Cond.instanceMethod ({ cls := "TourRoomsModel", name := "isTown", desc := "(I)Z" } : Jvm.MethodName)) ∈ lw_all := lw_g (lw_at lw_m6 237 rfl) rfl
theorem q1523 : (Jvm.Cond.code ({ cls := "TourRoomsModel", name := "isTown", desc := "(I)Z" } : Jvm.MethodName) prog_17_method_5_code (2 : Nat) (Option.some Jvm.ClassFile.FieldType.boolean)) ∈ lw_all := lw_g (lw_at lw_m6 238 rfl) rfl
theorem q1525 : (Jvm.Cond.instanceMethod ({ cls := "TourRoomsModel", name := "put", desc := "(III)Z" } : Jvm.MethodName)) ∈ lw_all := lw_g (lw_at lw_m7 0 rfl) rfl
theorem q1526 : (Jvm.Cond.selects "TourRoomsModel" ({ cls := "TourRoomsModel", name := "put", desc := "(III)Z" } : Jvm.MethodName) ({ cls := "TourRoomsModel", name := "put", desc := "(III)Z" } : Jvm.MethodName)) ∈ lw_all := lw_g (lw_at lw_m7 1 rfl) rfl
theorem q1527 : (Jvm.Cond.code ({ cls := "TourRoomsModel", name := "put", desc := "(III)Z" } : Jvm.MethodName) prog_17_method_26_code (9 : Nat) (Option.some Jvm.ClassFile.FieldType.boolean)) ∈ lw_all := lw_g (lw_at lw_m7 2 rfl) rfl
theorem q1528 : (Jvm.Cond.methodLink "TourRoomsModel" (205 : Nat) ({ cls := "TourRoomsModel", name := "isThere", desc := "(II)Z" } : Jvm.MethodName)) ∈ lw_all := lw_g (lw_at lw_m7 3 rfl) rfl
theorem q1529 : (Jvm.Cond.privateMethod ({ cls := "TourRoomsModel", name := "isThere", desc := "(II)Z" } : Jvm.MethodName)) ∈ lw_tbl := lw_at lw_m7 4 rfl
theorem q1530 : (Jvm.Cond.instanceMethod ({ cls := "TourRoomsModel", name := "isThere", desc := "(II)Z" } : Jvm.MethodName)) ∈ lw_all := lw_g (lw_at lw_m7 5 rfl) rfl
theorem q1531 : (Jvm.Cond.code ({ cls := "TourRoomsModel", name := "isThere", desc := "(II)Z" } : Jvm.MethodName) prog_17_method_8_code (3 : Nat) (Option.some Jvm.ClassFile.FieldType.boolean)) ∈ lw_all := lw_g (lw_at lw_m7 6 rfl) rfl
theorem q1532 : (Jvm.Cond.methodLink "TourRoomsModel" (208 : Nat) ({ cls := "TourRoomsModel", name := "isRoom", desc := "(II)Z" } : Jvm.MethodName)) ∈ lw_all := lw_g (lw_at lw_m7 7 rfl) rfl
theorem q1533 : (Jvm.Cond.privateMethod ({ cls := "TourRoomsModel", name := "isRoom", desc := "(II)Z" } : Jvm.MethodName)) ∈ lw_tbl := lw_at lw_m7 8 rfl
theorem q1534 : (Jvm.Cond.instanceMethod ({ cls := "TourRoomsModel", name := "isRoom", desc := "(II)Z" } : Jvm.MethodName)) ∈ lw_all := lw_g (lw_at lw_m7 9 rfl) rfl
theorem q1535 : (Jvm.Cond.code ({ cls := "TourRoomsModel", name := "isRoom", desc := "(II)Z" } : Jvm.MethodName) prog_17_method_9_code (3 : Nat) (Option.some Jvm.ClassFile.FieldType.boolean)) ∈ lw_all := lw_g (lw_at lw_m7 10 rfl) rfl
theorem q1536 : (Jvm.Cond.methodLink "TourRoomsModel" (211 : Nat) ({ cls := "TourRoomsModel", name := "setIn", desc := "(II)I" } : Jvm.MethodName)) ∈ lw_all := lw_g (lw_at lw_m7 11 rfl) rfl
theorem q1537 : (Jvm.Cond.privateMethod ({ cls := "TourRoomsModel", name := "setIn", desc := "(II)I" } : Jvm.MethodName)) ∈ lw_tbl := lw_at lw_m7 12 rfl
theorem q1538 : (Jvm.Cond.instanceMethod ({ cls := "TourRoomsModel", name := "setIn", desc := "(II)I" } : Jvm.MethodName)) ∈ lw_all := lw_g (lw_at lw_m7 13 rfl) rfl
theorem q1539 : (Jvm.Cond.code ({ cls := "TourRoomsModel", name := "setIn", desc := "(II)I" } : Jvm.MethodName) prog_17_method_24_code (5 : Nat) (Option.some Jvm.ClassFile.FieldType.int)) ∈ lw_all := lw_g (lw_at lw_m7 14 rfl) rfl
theorem q1540 : (Jvm.Cond.methodLink "TourRoomsModel" (201 : Nat) ({ cls := "TourRoomsModel", name := "mayShare", desc := "(II)Z" } : Jvm.MethodName)) ∈ lw_all := lw_g (lw_at lw_m7 15 rfl) rfl
theorem q1541 : (Jvm.Cond.privateMethod ({ cls := "TourRoomsModel", name := "mayShare", desc := "(II)Z" } : Jvm.MethodName)) ∈ lw_tbl := lw_at lw_m7 16 rfl
theorem q1542 : (Jvm.Cond.instanceMethod ({ cls := "TourRoomsModel", name := "mayShare", desc := "(II)Z" } : Jvm.MethodName)) ∈ lw_all := lw_g (lw_at lw_m7 17 rfl) rfl
theorem q1543 : (Jvm.Cond.code ({ cls := "TourRoomsModel", name := "mayShare", desc := "(II)Z" } : Jvm.MethodName) prog_17_method_10_code (3 : Nat) (Option.some Jvm.ClassFile.FieldType.boolean)) ∈ lw_all := lw_g (lw_at lw_m7 18 rfl) rfl
theorem q1545 : (Jvm.Cond.instanceMethod ({ cls := "TourRoomsModel", name := "settle", desc := "(II)I" } : Jvm.MethodName)) ∈ lw_all := lw_g (lw_at lw_m7 20 rfl) rfl
theorem q1546 : (Jvm.Cond.selects "TourRoomsModel" ({ cls := "TourRoomsModel", name := "settle", desc := "(II)I" } : Jvm.MethodName) ({ cls := "TourRoomsModel", name := "settle", desc := "(II)I" } : Jvm.MethodName)) ∈ lw_all := lw_g (lw_at lw_m7 21 rfl) rfl
theorem q1547 : (Jvm.Cond.code ({ cls := "TourRoomsModel", name := "settle", desc := "(II)I" } : Jvm.MethodName) prog_17_method_31_code (12 : Nat) (Option.some Jvm.ClassFile.FieldType.int)) ∈ lw_all := lw_g (lw_at lw_m7 22 rfl) rfl
theorem q1548 : (Jvm.Cond.methodLink "TourRoomsModel" (227 : Nat) ({ cls := "TourRoomsModel", name := "findSets", desc := "(I)V" } : Jvm.MethodName)) ∈ lw_all := lw_g (lw_at lw_m7 23 rfl) rfl
theorem q1549 : (Jvm.Cond.privateMethod ({ cls := "TourRoomsModel", name := "findSets", desc := "(I)V" } : Jvm.MethodName)) ∈ lw_tbl := lw_at lw_m7 24 rfl
theorem q1550 : (Jvm.Cond.instanceMethod ({ cls := "TourRoomsModel", name := "findSets", desc := "(I)V" } : Jvm.MethodName)) ∈ lw_all := lw_g (lw_at lw_m7 25 rfl) rfl
theorem q1551 : (Jvm.Cond.code ({ cls := "TourRoomsModel", name := "findSets", desc := "(I)V" } : Jvm.MethodName) prog_17_method_28_code (5 : Nat) (Option.none : Option Jvm.ClassFile.FieldType)) ∈ lw_all := lw_g (lw_at lw_m7 26 rfl) rfl
theorem q1552 : (Jvm.Cond.methodLink "TourRoomsModel" (215 : Nat) ({ cls := "TourRoomsModel", name := "there", desc := "(I)I" } : Jvm.MethodName)) ∈ lw_all := lw_g (lw_at lw_m7 27 rfl) rfl
theorem q1553 : (Jvm.Cond.privateMethod ({ cls := "TourRoomsModel", name := "there", desc := "(I)I" } : Jvm.MethodName)) ∈ lw_tbl := lw_at lw_m7 28 rfl
theorem q1554 : (Jvm.Cond.instanceMethod ({ cls := "TourRoomsModel", name := "there", desc := "(I)I" } : Jvm.MethodName)) ∈ lw_all := lw_g (lw_at lw_m7 29 rfl) rfl
theorem q1555 : (Jvm.Cond.code ({ cls := "TourRoomsModel", name := "there", desc := "(I)I" } : Jvm.MethodName) prog_17_method_27_code (4 : Nat) (Option.some Jvm.ClassFile.FieldType.int)) ∈ lw_all := lw_g (lw_at lw_m7 30 rfl) rfl
theorem q1556 : (Jvm.Cond.methodLink "TourRoomsModel" (219 : Nat) ({ cls := "TourRoomsModel", name := "mayBe", desc := "(III)Z" } : Jvm.MethodName)) ∈ lw_all := lw_g (lw_at lw_m7 31 rfl) rfl
theorem q1557 : (Jvm.Cond.privateMethod ({ cls := "TourRoomsModel", name := "mayBe", desc := "(III)Z" } : Jvm.MethodName)) ∈ lw_tbl := lw_at lw_m7 32 rfl
theorem q1558 : (Jvm.Cond.instanceMethod ({ cls := "TourRoomsModel", name := "mayBe", desc := "(III)Z" } : Jvm.MethodName)) ∈ lw_all := lw_g (lw_at lw_m7 33 rfl) rfl
theorem q1559 : (Jvm.Cond.code ({ cls := "TourRoomsModel", name := "mayBe", desc := "(III)Z" } : Jvm.MethodName) prog_17_method_25_code (8 : Nat) (Option.some Jvm.ClassFile.FieldType.boolean)) ∈ lw_all := lw_g (lw_at lw_m7 34 rfl) rfl
theorem q1560 : (Jvm.Cond.constant "TourRoomsModel" (231 : Nat) (1073741824 : Int32)) ∈ lw_all := lw_g (lw_at lw_m7 35 rfl) rfl
theorem q1561 : (Jvm.Cond.methodLink "TourRoomsModel" (232 : Nat) ({ cls := "TourRoomsModel", name := "weight", desc := "(IIII)I" } : Jvm.MethodName)) ∈ lw_all := lw_g (lw_at lw_m7 36 rfl) rfl
theorem q1562 : (Jvm.Cond.privateMethod ({ cls := "TourRoomsModel", name := "weight", desc := "(IIII)I" } : Jvm.MethodName)) ∈ lw_tbl := lw_at lw_m7 37 rfl
theorem q1563 : (Jvm.Cond.instanceMethod ({ cls := "TourRoomsModel", name := "weight", desc := "(IIII)I" } : Jvm.MethodName)) ∈ lw_all := lw_g (lw_at lw_m7 38 rfl) rfl
theorem q1564 : (Jvm.Cond.code ({ cls := "TourRoomsModel", name := "weight", desc := "(IIII)I" } : Jvm.MethodName) prog_17_method_30_code (7 : Nat) (Option.some Jvm.ClassFile.FieldType.int)) ∈ lw_all := lw_g (lw_at lw_m7 39 rfl) rfl
theorem q1565 : (Jvm.Cond.methodLink "TourRoomsModel" (222 : Nat) ({ cls := "TourRoomsModel", name := "movedBy", desc := "(III)I" } : Jvm.MethodName)) ∈ lw_all := lw_g (lw_at lw_m7 40 rfl) rfl
theorem q1566 : (Jvm.Cond.privateMethod ({ cls := "TourRoomsModel", name := "movedBy", desc := "(III)I" } : Jvm.MethodName)) ∈ lw_tbl := lw_at lw_m7 41 rfl
theorem q1567 : (Jvm.Cond.instanceMethod ({ cls := "TourRoomsModel", name := "movedBy", desc := "(III)I" } : Jvm.MethodName)) ∈ lw_all := lw_g (lw_at lw_m7 42 rfl) rfl
theorem q1568 : (Jvm.Cond.code ({ cls := "TourRoomsModel", name := "movedBy", desc := "(III)I" } : Jvm.MethodName) prog_17_method_29_code (6 : Nat) (Option.some Jvm.ClassFile.FieldType.int)) ∈ lw_all := lw_g (lw_at lw_m7 43 rfl) rfl
theorem q1569 : (Jvm.Cond.constant "TourRoomsModel" (226 : Nat) (32768 : Int32)) ∈ lw_all := lw_g (lw_at lw_m7 44 rfl) rfl
theorem q1570 : (Jvm.Cond.methodLink "TourRoomsModel" (236 : Nat) ({ cls := "TourRoomsModel", name := "takes", desc := "(III)I" } : Jvm.MethodName)) ∈ lw_all := lw_g (lw_at lw_m7 45 rfl) rfl
theorem q1571 : (Jvm.Cond.privateMethod ({ cls := "TourRoomsModel", name := "takes", desc := "(III)I" } : Jvm.MethodName)) ∈ lw_tbl := lw_at lw_m7 46 rfl
theorem q1572 : (Jvm.Cond.instanceMethod ({ cls := "TourRoomsModel", name := "takes", desc := "(III)I" } : Jvm.MethodName)) ∈ lw_all := lw_g (lw_at lw_m7 47 rfl) rfl
theorem q1573 : (Jvm.Cond.code ({ cls := "TourRoomsModel", name := "takes", desc := "(III)I" } : Jvm.MethodName) prog_17_method_32_code (11 : Nat) (Option.some Jvm.ClassFile.FieldType.int)) ∈ lw_all := lw_g (lw_at lw_m7 48 rfl) rfl
theorem q1574 : (Jvm.Cond.methodLink "TourRoomsModel" (239 : Nat) ({ cls := "TourRoomsModel", name := "isLeast", desc := "(IIIII)Z" } : Jvm.MethodName)) ∈ lw_all := lw_g (lw_at lw_m7 49 rfl) rfl
theorem q1575 : (Jvm.Cond.privateMethod ({ cls := "TourRoomsModel", name := "isLeast", desc := "(IIIII)Z" } : Jvm.MethodName)) ∈ lw_tbl := lw_at lw_m7 50 rfl
theorem q1576 : (Jvm.Cond.instanceMethod ({ cls := "TourRoomsModel", name := "isLeast", desc := "(IIIII)Z" } : Jvm.MethodName)) ∈ lw_all := lw_g (lw_at lw_m7 51 rfl) rfl
theorem q1577 : (Jvm.Cond.code ({ cls := "TourRoomsModel", name := "isLeast", desc := "(IIIII)Z" } : Jvm.MethodName) prog_17_method_33_code (7 : Nat) (Option.some Jvm.ClassFile.FieldType.boolean)) ∈ lw_all := lw_g (lw_at lw_m7 52 rfl) rfl
theorem q1579 : (Jvm.Cond.instanceMethod ({ cls := "TourRoomsModel", name := "moved", desc := "()I" } : Jvm.MethodName)) ∈ lw_all := lw_g (lw_at lw_m7 54 rfl) rfl
theorem q1580 : (Jvm.Cond.selects "TourRoomsModel" ({ cls := "TourRoomsModel", name := "moved", desc := "()I" } : Jvm.MethodName) ({ cls := "TourRoomsModel", name := "moved", desc := "()I" } : Jvm.MethodName)) ∈ lw_all := lw_g (lw_at lw_m7 55 rfl) rfl
theorem q1581 : (Jvm.Cond.code ({ cls := "TourRoomsModel", name := "moved", desc := "()I" } : Jvm.MethodName) prog_17_method_34_code (1 : Nat) (Option.some Jvm.ClassFile.FieldType.int)) ∈ lw_all := lw_g (lw_at lw_m7 56 rfl) rfl
theorem q1583 : (Jvm.Cond.instanceMethod ({ cls := "TourRoomsModel", name := "most", desc := "(I)I" } : Jvm.MethodName)) ∈ lw_all := lw_g (lw_at lw_m7 58 rfl) rfl
theorem q1584 : (Jvm.Cond.selects "TourRoomsModel" ({ cls := "TourRoomsModel", name := "most", desc := "(I)I" } : Jvm.MethodName) ({ cls := "TourRoomsModel", name := "most", desc := "(I)I" } : Jvm.MethodName)) ∈ lw_all := lw_g (lw_at lw_m7 59 rfl) rfl
theorem q1585 : (Jvm.Cond.code ({ cls := "TourRoomsModel", name := "most", desc := "(I)I" } : Jvm.MethodName) prog_17_method_36_code (6 : Nat) (Option.some Jvm.ClassFile.FieldType.int)) ∈ lw_all := lw_g (lw_at lw_m7 60 rfl) rfl
theorem q1586 : (Jvm.Cond.methodLink "TourRoomsModel" (243 : Nat) ({ cls := "TourRoomsModel", name := "sizeOf", desc := "(I)I" } : Jvm.MethodName)) ∈ lw_all := lw_g (lw_at lw_m7 61 rfl) rfl
theorem q1587 : (Jvm.Cond.static ({ cls := "TourRoomsModel", name := "sizeOf", desc := "(I)I" } : Jvm.MethodName)) ∈ lw_all := lw_g (lw_at lw_m7 62 rfl) rfl
theorem q1588 : (Jvm.Cond.code ({ cls := "TourRoomsModel", name := "sizeOf", desc := "(I)I" } : Jvm.MethodName) prog_17_method_35_code (3 : Nat) (Option.some Jvm.ClassFile.FieldType.int)) ∈ lw_all := lw_g (lw_at lw_m7 63 rfl) rfl
theorem q1590 : (Jvm.Cond.instanceMethod ({ cls := "TourRoomsModel", name := "right", desc := "(I)Z" } : Jvm.MethodName)) ∈ lw_all := lw_g (lw_at lw_m7 65 rfl) rfl
theorem q1591 : (Jvm.Cond.selects "TourRoomsModel" ({ cls := "TourRoomsModel", name := "right", desc := "(I)Z" } : Jvm.MethodName) ({ cls := "TourRoomsModel", name := "right", desc := "(I)Z" } : Jvm.MethodName)) ∈ lw_all := lw_g (lw_at lw_m7 66 rfl) rfl
theorem q1592 : (Jvm.Cond.code ({ cls := "TourRoomsModel", name := "right", desc := "(I)Z" } : Jvm.MethodName) prog_17_method_37_code (3 : Nat) (Option.some Jvm.ClassFile.FieldType.boolean)) ∈ lw_all := lw_g (lw_at lw_m7 67 rfl) rfl
theorem q1594 : (Jvm.Cond.instanceMethod ({ cls := "TourRoomsModel", name := "listed", desc := "(III)I" } : Jvm.MethodName)) ∈ lw_all := lw_g (lw_at lw_m7 69 rfl) rfl
theorem q1595 : (Jvm.Cond.selects "TourRoomsModel" ({ cls := "TourRoomsModel", name := "listed", desc := "(III)I" } : Jvm.MethodName) ({ cls := "TourRoomsModel", name := "listed", desc := "(III)I" } : Jvm.MethodName)) ∈ lw_all := lw_g (lw_at lw_m7 70 rfl) rfl
theorem q1596 : (Jvm.Cond.code ({ cls := "TourRoomsModel", name := "listed", desc := "(III)I" } : Jvm.MethodName) prog_17_method_38_code (6 : Nat) (Option.some Jvm.ClassFile.FieldType.int)) ∈ lw_all := lw_g (lw_at lw_m7 71 rfl) rfl
theorem q1598 : (Jvm.Cond.instanceMethod ({ cls := "TourRoomsModel", name := "feed", desc := "(JJJ)I" } : Jvm.MethodName)) ∈ lw_all := lw_g (lw_at lw_m7 73 rfl) rfl
theorem q1599 : (Jvm.Cond.selects "TourRoomsModel" ({ cls := "TourRoomsModel", name := "feed", desc := "(JJJ)I" } : Jvm.MethodName) ({ cls := "TourRoomsModel", name := "feed", desc := "(JJJ)I" } : Jvm.MethodName)) ∈ lw_all := lw_g (lw_at lw_m7 74 rfl) rfl
theorem q1600 : (Jvm.Cond.code ({ cls := "TourRoomsModel", name := "feed", desc := "(JJJ)I" } : Jvm.MethodName) prog_17_method_39_code (11 : Nat) (Option.some Jvm.ClassFile.FieldType.int)) ∈ lw_all := lw_g (lw_at lw_m7 75 rfl) rfl
theorem q1602 : (Jvm.Cond.instanceMethod ({ cls := "TourRoomsModel", name := "read", desc := "(I)I" } : Jvm.MethodName)) ∈ lw_all := lw_g (lw_at lw_m7 77 rfl) rfl
theorem q1603 : (Jvm.Cond.selects "TourRoomsModel" ({ cls := "TourRoomsModel", name := "read", desc := "(I)I" } : Jvm.MethodName) ({ cls := "TourRoomsModel", name := "read", desc := "(I)I" } : Jvm.MethodName)) ∈ lw_all := lw_g (lw_at lw_m7 78 rfl) rfl
theorem q1604 : (Jvm.Cond.code ({ cls := "TourRoomsModel", name := "read", desc := "(I)I" } : Jvm.MethodName) prog_17_method_52_code (3 : Nat) (Option.some Jvm.ClassFile.FieldType.int)) ∈ lw_all := lw_g (lw_at lw_m7 79 rfl) rfl
theorem q1605 : (Jvm.Cond.methodLink "TourRoomsModel" (372 : Nat) ({ cls := "TourRoomsModel", name := "goes", desc := "(I)V" } : Jvm.MethodName)) ∈ lw_all := lw_g (lw_at lw_m7 80 rfl) rfl
theorem q1606 : (Jvm.Cond.privateMethod ({ cls := "TourRoomsModel", name := "goes", desc := "(I)V" } : Jvm.MethodName)) ∈ lw_tbl := lw_at lw_m7 81 rfl
theorem q1607 : (Jvm.Cond.instanceMethod ({ cls := "TourRoomsModel", name := "goes", desc := "(I)V" } : Jvm.MethodName)) ∈ lw_all := lw_g (lw_at lw_m7 82 rfl) rfl
theorem q1608 : (Jvm.Cond.code ({ cls := "TourRoomsModel", name := "goes", desc := "(I)V" } : Jvm.MethodName) prog_17_method_51_code (5 : Nat) (Option.none : Option Jvm.ClassFile.FieldType)) ∈ lw_all := lw_g (lw_at lw_m7 83 rfl) rfl
theorem q1609 : (Jvm.Cond.methodLink "TourRoomsModel" (309 : Nat) ({ cls := "TourRoomsModel", name := "next", desc := "()V" } : Jvm.MethodName)) ∈ lw_all := lw_g (lw_at lw_m7 84 rfl) rfl
theorem q1610 : (Jvm.Cond.privateMethod ({ cls := "TourRoomsModel", name := "next", desc := "()V" } : Jvm.MethodName)) ∈ lw_tbl := lw_at lw_m7 85 rfl
theorem q1611 : (Jvm.Cond.instanceMethod ({ cls := "TourRoomsModel", name := "next", desc := "()V" } : Jvm.MethodName)) ∈ lw_all := lw_g (lw_at lw_m7 86 rfl) rfl
theorem q1612 : (Jvm.Cond.code ({ cls := "TourRoomsModel", name := "next", desc := "()V" } : Jvm.MethodName) prog_17_method_42_code (1 : Nat) (Option.none : Option Jvm.ClassFile.FieldType)) ∈ lw_all := lw_g (lw_at lw_m7 87 rfl) rfl
theorem q1613 : (Jvm.Cond.methodLink "TourRoomsModel" (265 : Nat) ({ cls := "TourRoomsModel", name := "isSmall", desc := "()Z" } : Jvm.MethodName)) ∈ lw_all := lw_g (lw_at lw_m7 88 rfl) rfl
theorem q1614 : (Jvm.Cond.privateMethod ({ cls := "TourRoomsModel", name := "isSmall", desc := "()Z" } : Jvm.MethodName)) ∈ lw_tbl := lw_at lw_m7 89 rfl
theorem q1615 : (Jvm.Cond.instanceMethod ({ cls := "TourRoomsModel", name := "isSmall", desc := "()Z" } : Jvm.MethodName)) ∈ lw_all := lw_g (lw_at lw_m7 90 rfl) rfl
theorem q1616 : (Jvm.Cond.code ({ cls := "TourRoomsModel", name := "isSmall", desc := "()Z" } : Jvm.MethodName) prog_17_method_40_code (1 : Nat) (Option.some Jvm.ClassFile.FieldType.boolean)) ∈ lw_all := lw_g (lw_at lw_m7 91 rfl) rfl
theorem q1617 : (Jvm.Cond.constantLong "TourRoomsModel" (269 : Nat) (27 : Int64)) ∈ lw_all := lw_g (lw_at lw_m7 92 rfl) rfl
theorem q1618 : (Jvm.Cond.constantLong "TourRoomsModel" (271 : Nat) (96 : Int64)) ∈ lw_all := lw_g (lw_at lw_m7 93 rfl) rfl
theorem q1619 : (Jvm.Cond.methodLink "TourRoomsModel" (273 : Nat) ({ cls := "TourRoomsModel", name := "isDigit", desc := "()Z" } : Jvm.MethodName)) ∈ lw_all := lw_g (lw_at lw_m7 94 rfl) rfl
theorem q1620 : (Jvm.Cond.privateMethod ({ cls := "TourRoomsModel", name := "isDigit", desc := "()Z" } : Jvm.MethodName)) ∈ lw_tbl := lw_at lw_m7 95 rfl
theorem q1621 : (Jvm.Cond.instanceMethod ({ cls := "TourRoomsModel", name := "isDigit", desc := "()Z" } : Jvm.MethodName)) ∈ lw_all := lw_g (lw_at lw_m7 96 rfl) rfl
theorem q1622 : (Jvm.Cond.code ({ cls := "TourRoomsModel", name := "isDigit", desc := "()Z" } : Jvm.MethodName) prog_17_method_41_code (1 : Nat) (Option.some Jvm.ClassFile.FieldType.boolean)) ∈ lw_all := lw_g (lw_at lw_m7 97 rfl) rfl
theorem q1623 : (Jvm.Cond.constantLong "TourRoomsModel" (276 : Nat) (10 : Int64)) ∈ lw_all := lw_g (lw_at lw_m7 98 rfl) rfl
theorem q1624 : (Jvm.Cond.constantLong "TourRoomsModel" (278 : Nat) (48 : Int64)) ∈ lw_all := lw_g (lw_at lw_m7 99 rfl) rfl
theorem q1625 : (Jvm.Cond.constantLong "TourRoomsModel" (280 : Nat) (59 : Int64)) ∈ lw_all := lw_g (lw_at lw_m7 100 rfl) rfl
theorem q1626 : (Jvm.Cond.constantLong "TourRoomsModel" (282 : Nat) (40 : Int64)) ∈ lw_all := lw_g (lw_at lw_m7 101 rfl) rfl
theorem q1627 : (Jvm.Cond.constantLong "TourRoomsModel" (284 : Nat) (41 : Int64)) ∈ lw_all := lw_g (lw_at lw_m7 102 rfl) rfl
theorem q1628 : (Jvm.Cond.constantLong "TourRoomsModel" (286 : Nat) (60 : Int64)) ∈ lw_all := lw_g (lw_at lw_m7 103 rfl) rfl
theorem q1629 : (Jvm.Cond.constantLong "TourRoomsModel" (288 : Nat) (61 : Int64)) ∈ lw_all := lw_g (lw_at lw_m7 104 rfl) rfl
theorem q1630 : (Jvm.Cond.constantLong "TourRoomsModel" (290 : Nat) (43 : Int64)) ∈ lw_all := lw_g (lw_at lw_m7 105 rfl) rfl
theorem q1631 : (Jvm.Cond.constantLong "TourRoomsModel" (292 : Nat) (45 : Int64)) ∈ lw_all := lw_g (lw_at lw_m7 106 rfl) rfl
theorem q1632 : (Jvm.Cond.methodLink "TourRoomsModel" (367 : Nat) ({ cls := "TourRoomsModel", name := "kindHere", desc := "()I" } : Jvm.MethodName)) ∈ lw_all := lw_g (lw_at lw_m7 107 rfl) rfl
theorem q1633 : (Jvm.Cond.privateMethod ({ cls := "TourRoomsModel", name := "kindHere", desc := "()I" } : Jvm.MethodName)) ∈ lw_tbl := lw_at lw_m7 108 rfl
theorem q1634 : (Jvm.Cond.instanceMethod ({ cls := "TourRoomsModel", name := "kindHere", desc := "()I" } : Jvm.MethodName)) ∈ lw_all := lw_g (lw_at lw_m7 109 rfl) rfl
theorem q1635 : (Jvm.Cond.code ({ cls := "TourRoomsModel", name := "kindHere", desc := "()I" } : Jvm.MethodName) prog_17_method_50_code (1 : Nat) (Option.some Jvm.ClassFile.FieldType.int)) ∈ lw_all := lw_g (lw_at lw_m7 110 rfl) rfl
theorem q1636 : (Jvm.Cond.constantLong "TourRoomsModel" (353 : Nat) (4514 : Int64)) ∈ lw_all := lw_g (lw_at lw_m7 111 rfl) rfl
theorem q1637 : (Jvm.Cond.methodLink "TourRoomsModel" (318 : Nat) ({ cls := "TourRoomsModel", name := "isWord", desc := "(J)Z" } : Jvm.MethodName)) ∈ lw_all := lw_g (lw_at lw_m7 112 rfl) rfl
theorem q1638 : (Jvm.Cond.privateMethod ({ cls := "TourRoomsModel", name := "isWord", desc := "(J)Z" } : Jvm.MethodName)) ∈ lw_tbl := lw_at lw_m7 113 rfl
theorem q1639 : (Jvm.Cond.instanceMethod ({ cls := "TourRoomsModel", name := "isWord", desc := "(J)Z" } : Jvm.MethodName)) ∈ lw_all := lw_g (lw_at lw_m7 114 rfl) rfl
theorem q1640 : (Jvm.Cond.code ({ cls := "TourRoomsModel", name := "isWord", desc := "(J)Z" } : Jvm.MethodName) prog_17_method_44_code (3 : Nat) (Option.some Jvm.ClassFile.FieldType.boolean)) ∈ lw_all := lw_g (lw_at lw_m7 115 rfl) rfl
theorem q1641 : (Jvm.Cond.constantLong "TourRoomsModel" (355 : Nat) (40187 : Int64)) ∈ lw_all := lw_g (lw_at lw_m7 116 rfl) rfl
theorem q1642 : (Jvm.Cond.constantLong "TourRoomsModel" (357 : Nat) (261071320 : Int64)) ∈ lw_all := lw_g (lw_at lw_m7 117 rfl) rfl
theorem q1643 : (Jvm.Cond.constantLong "TourRoomsModel" (359 : Nat) (131360 : Int64)) ∈ lw_all := lw_g (lw_at lw_m7 118 rfl) rfl
theorem q1644 : (Jvm.Cond.methodLink "TourRoomsModel" (306 : Nat) ({ cls := "TourRoomsModel", name := "wrong", desc := "(I)V" } : Jvm.MethodName)) ∈ lw_all := lw_g (lw_at lw_m7 119 rfl) rfl
theorem q1645 : (Jvm.Cond.privateMethod ({ cls := "TourRoomsModel", name := "wrong", desc := "(I)V" } : Jvm.MethodName)) ∈ lw_tbl := lw_at lw_m7 120 rfl
theorem q1646 : (Jvm.Cond.instanceMethod ({ cls := "TourRoomsModel", name := "wrong", desc := "(I)V" } : Jvm.MethodName)) ∈ lw_all := lw_g (lw_at lw_m7 121 rfl) rfl
theorem q1647 : (Jvm.Cond.code ({ cls := "TourRoomsModel", name := "wrong", desc := "(I)V" } : Jvm.MethodName) prog_17_method_45_code (2 : Nat) (Option.none : Option Jvm.ClassFile.FieldType)) ∈ lw_all := lw_g (lw_at lw_m7 122 rfl) rfl
theorem q1648 : (Jvm.Cond.methodLink "TourRoomsModel" (312 : Nat) ({ cls := "TourRoomsModel", name := "whole", desc := "()I" } : Jvm.MethodName)) ∈ lw_all := lw_g (lw_at lw_m7 123 rfl) rfl
theorem q1649 : (Jvm.Cond.privateMethod ({ cls := "TourRoomsModel", name := "whole", desc := "()I" } : Jvm.MethodName)) ∈ lw_tbl := lw_at lw_m7 124 rfl
theorem q1650 : (Jvm.Cond.instanceMethod ({ cls := "TourRoomsModel", name := "whole", desc := "()I" } : Jvm.MethodName)) ∈ lw_all := lw_g (lw_at lw_m7 125 rfl) rfl
theorem q1651 : (Jvm.Cond.code ({ cls := "TourRoomsModel", name := "whole", desc := "()I" } : Jvm.MethodName) prog_17_method_49_code (3 : Nat) (Option.some Jvm.ClassFile.FieldType.int)) ∈ lw_all := lw_g (lw_at lw_m7 126 rfl) rfl
theorem q1652 : (Jvm.Cond.methodLink "TourRoomsModel" (348 : Nat) ({ cls := "TourRoomsModel", name := "test", desc := "()I" } : Jvm.MethodName)) ∈ lw_all := lw_g (lw_at lw_m7 127 rfl) rfl
theorem q1653 : (Jvm.Cond.privateMethod ({ cls := "TourRoomsModel", name := "test", desc := "()I" } : Jvm.MethodName)) ∈ lw_tbl := lw_at lw_m7 128 rfl
theorem q1654 : (Jvm.Cond.instanceMethod ({ cls := "TourRoomsModel", name := "test", desc := "()I" } : Jvm.MethodName)) ∈ lw_all := lw_g (lw_at lw_m7 129 rfl) rfl
theorem q1655 : (Jvm.Cond.code ({ cls := "TourRoomsModel", name := "test", desc := "()I" } : Jvm.MethodName) prog_17_method_48_code (4 : Nat) (Option.some Jvm.ClassFile.FieldType.int)) ∈ lw_all := lw_g (lw_at lw_m7 130 rfl) rfl
theorem q1656 : (Jvm.Cond.methodLink "TourRoomsModel" (345 : Nat) ({ cls := "TourRoomsModel", name := "sum", desc := "()I" } : Jvm.MethodName)) ∈ lw_all := lw_g (lw_at lw_m7 131 rfl) rfl
theorem q1657 : (Jvm.Cond.privateMethod ({ cls := "TourRoomsModel", name := "sum", desc := "()I" } : Jvm.MethodName)) ∈ lw_tbl := lw_at lw_m7 132 rfl
theorem q1658 : (Jvm.Cond.instanceMethod ({ cls := "TourRoomsModel", name := "sum", desc := "()I" } : Jvm.MethodName)) ∈ lw_all := lw_g (lw_at lw_m7 133 rfl) rfl
theorem q1659 : (Jvm.Cond.code ({ cls := "TourRoomsModel", name := "sum", desc := "()I" } : Jvm.MethodName) prog_17_method_47_code (4 : Nat) (Option.some Jvm.ClassFile.FieldType.int)) ∈ lw_all := lw_g (lw_at lw_m7 134 rfl) rfl
theorem q1660 : (Jvm.Cond.methodLink "TourRoomsModel" (342 : Nat) ({ cls := "TourRoomsModel", name := "part", desc := "()I" } : Jvm.MethodName)) ∈ lw_all := lw_g (lw_at lw_m7 135 rfl) rfl
theorem q1661 : (Jvm.Cond.privateMethod ({ cls := "TourRoomsModel", name := "part", desc := "()I" } : Jvm.MethodName)) ∈ lw_tbl := lw_at lw_m7 136 rfl
theorem q1662 : (Jvm.Cond.instanceMethod ({ cls := "TourRoomsModel", name := "part", desc := "()I" } : Jvm.MethodName)) ∈ lw_all := lw_g (lw_at lw_m7 137 rfl) rfl
theorem q1663 : (Jvm.Cond.code ({ cls := "TourRoomsModel", name := "part", desc := "()I" } : Jvm.MethodName) prog_17_method_46_code (2 : Nat) (Option.some Jvm.ClassFile.FieldType.int)) ∈ lw_all := lw_g (lw_at lw_m7 138 rfl) rfl
theorem q1664 : (Jvm.Cond.methodLink "TourRoomsModel" (300 : Nat) ({ cls := "TourRoomsModel", name := "isSign", desc := "(I)Z" } : Jvm.MethodName)) ∈ lw_all := lw_g (lw_at lw_m7 139 rfl) rfl
theorem q1665 : (Jvm.Cond.privateMethod ({ cls := "TourRoomsModel", name := "isSign", desc := "(I)Z" } : Jvm.MethodName)) ∈ lw_tbl := lw_at lw_m7 140 rfl
theorem q1666 : (Jvm.Cond.instanceMethod ({ cls := "TourRoomsModel", name := "isSign", desc := "(I)Z" } : Jvm.MethodName)) ∈ lw_all := lw_g (lw_at lw_m7 141 rfl) rfl
theorem q1667 : (Jvm.Cond.code ({ cls := "TourRoomsModel", name := "isSign", desc := "(I)Z" } : Jvm.MethodName) prog_17_method_43_code (2 : Nat) (Option.some Jvm.ClassFile.FieldType.boolean)) ∈ lw_all := lw_g (lw_at lw_m7 142 rfl) rfl
theorem q1668 : (Jvm.Cond.constantLong "TourRoomsModel" (316 : Nat) (240023 : Int64)) ∈ lw_all := lw_g (lw_at lw_m7 143 rfl) rfl
theorem q1669 : (Jvm.Cond.constantLong "TourRoomsModel" (325 : Nat) (161437 : Int64)) ∈ lw_all := lw_g (lw_at lw_m7 144 rfl) rfl
theorem q1670 : (Jvm.Cond.constantLong "TourRoomsModel" (330 : Nat) (427333 : Int64)) ∈ lw_all := lw_g (lw_at lw_m7 145 rfl) rfl
theorem q1671 : (Jvm.Cond.constantLong "TourRoomsModel" (335 : Nat) (232546955 : Int64)) ∈ lw_all := lw_g (lw_at lw_m7 146 rfl) rfl
theorem q1672 : (Jvm.Cond.constantLong "TourRoomsModel" (340 : Nat) (275320391 : Int64)) ∈ lw_all := lw_g (lw_at lw_m7 147 rfl) rfl
theorem q1673 : (Jvm.Cond.constantLong "TourRoomsModel" (351 : Nat) (1111 : Int64)) ∈ lw_all := lw_g (lw_at lw_m7 148 rfl) rfl
theorem q1674 : (Jvm.Cond.constantLong "TourRoomsModel" (370 : Nat) (458690 : Int64)) ∈ lw_all := lw_g (lw_at lw_m7 149 rfl) rfl
theorem q1676 : (Jvm.Cond.instanceMethod ({ cls := "TourRoomsModel", name := "worth", desc := "(II)I" } : Jvm.MethodName)) ∈ lw_all := lw_g (lw_at lw_m7 151 rfl) rfl
theorem q1677 : (Jvm.Cond.selects "TourRoomsModel" ({ cls := "TourRoomsModel", name := "worth", desc := "(II)I" } : Jvm.MethodName) ({ cls := "TourRoomsModel", name := "worth", desc := "(II)I" } : Jvm.MethodName)) ∈ lw_all := lw_g (lw_at lw_m7 152 rfl) rfl
theorem q1678 : (Jvm.Cond.code ({ cls := "TourRoomsModel", name := "worth", desc := "(II)I" } : Jvm.MethodName) prog_17_method_58_code (3 : Nat) (Option.some Jvm.ClassFile.FieldType.int)) ∈ lw_all := lw_g (lw_at lw_m7 153 rfl) rfl
theorem q1679 : (Jvm.Cond.methodLink "TourRoomsModel" (387 : Nat) ({ cls := "TourRoomsModel", name := "now", desc := "(II)I" } : Jvm.MethodName)) ∈ lw_all := lw_g (lw_at lw_m7 154 rfl) rfl
theorem q1680 : (Jvm.Cond.privateMethod ({ cls := "TourRoomsModel", name := "now", desc := "(II)I" } : Jvm.MethodName)) ∈ lw_tbl := lw_at lw_m7 155 rfl
theorem q1681 : (Jvm.Cond.instanceMethod ({ cls := "TourRoomsModel", name := "now", desc := "(II)I" } : Jvm.MethodName)) ∈ lw_all := lw_g (lw_at lw_m7 156 rfl) rfl
theorem q1682 : (Jvm.Cond.code ({ cls := "TourRoomsModel", name := "now", desc := "(II)I" } : Jvm.MethodName) prog_17_method_57_code (3 : Nat) (Option.some Jvm.ClassFile.FieldType.int)) ∈ lw_all := lw_g (lw_at lw_m7 157 rfl) rfl
theorem q1683 : (Jvm.Cond.methodLink "TourRoomsModel" (375 : Nat) ({ cls := "TourRoomsModel", name := "heldIn", desc := "(I)I" } : Jvm.MethodName)) ∈ lw_all := lw_g (lw_at lw_m7 158 rfl) rfl
theorem q1684 : (Jvm.Cond.privateMethod ({ cls := "TourRoomsModel", name := "heldIn", desc := "(I)I" } : Jvm.MethodName)) ∈ lw_tbl := lw_at lw_m7 159 rfl
theorem q1685 : (Jvm.Cond.instanceMethod ({ cls := "TourRoomsModel", name := "heldIn", desc := "(I)I" } : Jvm.MethodName)) ∈ lw_all := lw_g (lw_at lw_m7 160 rfl) rfl
theorem q1686 : (Jvm.Cond.code ({ cls := "TourRoomsModel", name := "heldIn", desc := "(I)I" } : Jvm.MethodName) prog_17_method_54_code (4 : Nat) (Option.some Jvm.ClassFile.FieldType.int)) ∈ lw_all := lw_g (lw_at lw_m7 161 rfl) rfl
theorem q1687 : (Jvm.Cond.methodLink "TourRoomsModel" (378 : Nat) ({ cls := "TourRoomsModel", name := "usedIn", desc := "(I)I" } : Jvm.MethodName)) ∈ lw_all := lw_g (lw_at lw_m7 162 rfl) rfl
theorem q1688 : (Jvm.Cond.privateMethod ({ cls := "TourRoomsModel", name := "usedIn", desc := "(I)I" } : Jvm.MethodName)) ∈ lw_tbl := lw_at lw_m7 163 rfl
theorem q1689 : (Jvm.Cond.instanceMethod ({ cls := "TourRoomsModel", name := "usedIn", desc := "(I)I" } : Jvm.MethodName)) ∈ lw_all := lw_g (lw_at lw_m7 164 rfl) rfl
theorem q1690 : (Jvm.Cond.code ({ cls := "TourRoomsModel", name := "usedIn", desc := "(I)I" } : Jvm.MethodName) prog_17_method_55_code (4 : Nat) (Option.some Jvm.ClassFile.FieldType.int)) ∈ lw_all := lw_g (lw_at lw_m7 165 rfl) rfl
theorem q1691 : (Jvm.Cond.methodLink "TourRoomsModel" (381 : Nat) ({ cls := "TourRoomsModel", name := "peopleIn", desc := "(I)I" } : Jvm.MethodName)) ∈ lw_all := lw_g (lw_at lw_m7 166 rfl) rfl
theorem q1692 : (Jvm.Cond.privateMethod ({ cls := "TourRoomsModel", name := "peopleIn", desc := "(I)I" } : Jvm.MethodName)) ∈ lw_tbl := lw_at lw_m7 167 rfl
theorem q1693 : (Jvm.Cond.instanceMethod ({ cls := "TourRoomsModel", name := "peopleIn", desc := "(I)I" } : Jvm.MethodName)) ∈ lw_all := lw_g (lw_at lw_m7 168 rfl) rfl
theorem q1694 : (Jvm.Cond.code ({ cls := "TourRoomsModel", name := "peopleIn", desc := "(I)I" } : Jvm.MethodName) prog_17_method_56_code (4 : Nat) (Option.some Jvm.ClassFile.FieldType.int)) ∈ lw_all := lw_g (lw_at lw_m7 169 rfl) rfl
theorem q1695 : (Jvm.Cond.methodLink "TourRoomsModel" (384 : Nat) ({ cls := "TourRoomsModel", name := "told", desc := "(II)I" } : Jvm.MethodName)) ∈ lw_all := lw_g (lw_at lw_m7 170 rfl) rfl
theorem q1696 : (Jvm.Cond.privateMethod ({ cls := "TourRoomsModel", name := "told", desc := "(II)I" } : Jvm.MethodName)) ∈ lw_tbl := lw_at lw_m7 171 rfl
theorem q1697 : (Jvm.Cond.instanceMethod ({ cls := "TourRoomsModel", name := "told", desc := "(II)I" } : Jvm.MethodName)) ∈ lw_all := lw_g (lw_at lw_m7 172 rfl) rfl
theorem q1698 : (Jvm.Cond.code ({ cls := "TourRoomsModel", name := "told", desc := "(II)I" } : Jvm.MethodName) prog_17_method_53_code (4 : Nat) (Option.some Jvm.ClassFile.FieldType.int)) ∈ lw_all := lw_g (lw_at lw_m7 173 rfl) rfl
theorem q1700 : (Jvm.Cond.instanceMethod ({ cls := "TourRoomsModel", name := "give", desc := "(II)I" } : Jvm.MethodName)) ∈ lw_all := lw_g (lw_at lw_m7 175 rfl) rfl
theorem q1701 : (Jvm.Cond.selects "TourRoomsModel" ({ cls := "TourRoomsModel", name := "give", desc := "(II)I" } : Jvm.MethodName) ({ cls := "TourRoomsModel", name := "give", desc := "(II)I" } : Jvm.MethodName)) ∈ lw_all := lw_g (lw_at lw_m7 176 rfl) rfl
theorem q1702 : (Jvm.Cond.code ({ cls := "TourRoomsModel", name := "give", desc := "(II)I" } : Jvm.MethodName) prog_17_method_60_code (4 : Nat) (Option.some Jvm.ClassFile.FieldType.int)) ∈ lw_all := lw_g (lw_at lw_m7 177 rfl) rfl
theorem q1703 : (Jvm.Cond.methodLink "TourRoomsModel" (390 : Nat) ({ cls := "TourRoomsModel", name := "part", desc := "(III)I" } : Jvm.MethodName)) ∈ lw_all := lw_g (lw_at lw_m7 178 rfl) rfl
theorem q1704 : (Jvm.Cond.privateMethod ({ cls := "TourRoomsModel", name := "part", desc := "(III)I" } : Jvm.MethodName)) ∈ lw_tbl := lw_at lw_m7 179 rfl
theorem q1705 : (Jvm.Cond.instanceMethod ({ cls := "TourRoomsModel", name := "part", desc := "(III)I" } : Jvm.MethodName)) ∈ lw_all := lw_g (lw_at lw_m7 180 rfl) rfl
theorem q1706 : (Jvm.Cond.code ({ cls := "TourRoomsModel", name := "part", desc := "(III)I" } : Jvm.MethodName) prog_17_method_59_code (4 : Nat) (Option.some Jvm.ClassFile.FieldType.int)) ∈ lw_all := lw_g (lw_at lw_m7 181 rfl) rfl
theorem q1708 : (Jvm.Cond.instanceMethod ({ cls := "TourRoomsModel", name := "buy", desc := "(II)I" } : Jvm.MethodName)) ∈ lw_all := lw_g (lw_at lw_m7 183 rfl) rfl
theorem q1709 : (Jvm.Cond.selects "TourRoomsModel" ({ cls := "TourRoomsModel", name := "buy", desc := "(II)I" } : Jvm.MethodName) ({ cls := "TourRoomsModel", name := "buy", desc := "(II)I" } : Jvm.MethodName)) ∈ lw_all := lw_g (lw_at lw_m7 184 rfl) rfl
theorem q1710 : (Jvm.Cond.code ({ cls := "TourRoomsModel", name := "buy", desc := "(II)I" } : Jvm.MethodName) prog_17_method_61_code (4 : Nat) (Option.some Jvm.ClassFile.FieldType.int)) ∈ lw_all := lw_g (lw_at lw_m7 185 rfl) rfl
theorem q1712 : (Jvm.Cond.instanceMethod ({ cls := "TourRoomsModel", name := "loss", desc := "(IIIII)I" } : Jvm.MethodName)) ∈ lw_all := lw_g (lw_at lw_m7 187 rfl) rfl
theorem q1713 : (Jvm.Cond.selects "TourRoomsModel" ({ cls := "TourRoomsModel", name := "loss", desc := "(IIIII)I" } : Jvm.MethodName) ({ cls := "TourRoomsModel", name := "loss", desc := "(IIIII)I" } : Jvm.MethodName)) ∈ lw_all := lw_g (lw_at lw_m7 188 rfl) rfl
theorem q1714 : (Jvm.Cond.code ({ cls := "TourRoomsModel", name := "loss", desc := "(IIIII)I" } : Jvm.MethodName) prog_17_method_64_code (6 : Nat) (Option.some Jvm.ClassFile.FieldType.int)) ∈ lw_all := lw_g (lw_at lw_m7 189 rfl) rfl
theorem q1715 : (Jvm.Cond.methodLink "TourRoomsModel" (398 : Nat) ({ cls := "TourRoomsModel", name := "isLoss", desc := "(IIIII)Z" } : Jvm.MethodName)) ∈ lw_all := lw_g (lw_at lw_m7 190 rfl) rfl
theorem q1716 : (Jvm.Cond.privateMethod ({ cls := "TourRoomsModel", name := "isLoss", desc := "(IIIII)Z" } : Jvm.MethodName)) ∈ lw_tbl := lw_at lw_m7 191 rfl
theorem q1717 : (Jvm.Cond.instanceMethod ({ cls := "TourRoomsModel", name := "isLoss", desc := "(IIIII)Z" } : Jvm.MethodName)) ∈ lw_all := lw_g (lw_at lw_m7 192 rfl) rfl
theorem q1718 : (Jvm.Cond.code ({ cls := "TourRoomsModel", name := "isLoss", desc := "(IIIII)Z" } : Jvm.MethodName) prog_17_method_62_code (6 : Nat) (Option.some Jvm.ClassFile.FieldType.boolean)) ∈ lw_all := lw_g (lw_at lw_m7 193 rfl) rfl
theorem q1719 : (Jvm.Cond.methodLink "TourRoomsModel" (401 : Nat) ({ cls := "TourRoomsModel", name := "losses", desc := "(IIIII)V" } : Jvm.MethodName)) ∈ lw_all := lw_g (lw_at lw_m7 194 rfl) rfl
theorem q1720 : (Jvm.Cond.privateMethod ({ cls := "TourRoomsModel", name := "losses", desc := "(IIIII)V" } : Jvm.MethodName)) ∈ lw_tbl := lw_at lw_m7 195 rfl
theorem q1721 : (Jvm.Cond.instanceMethod ({ cls := "TourRoomsModel", name := "losses", desc := "(IIIII)V" } : Jvm.MethodName)) ∈ lw_all := lw_g (lw_at lw_m7 196 rfl) rfl
theorem q1722 : (Jvm.Cond.code ({ cls := "TourRoomsModel", name := "losses", desc := "(IIIII)V" } : Jvm.MethodName) prog_17_method_63_code (16 : Nat) (Option.none : Option Jvm.ClassFile.FieldType)) ∈ lw_all := lw_g (lw_at lw_m7 197 rfl) rfl
theorem q1724 : (Jvm.Cond.instanceMethod ({ cls := "TourRoomsModel", name := "gives", desc := "(IIIII)I" } : Jvm.MethodName)) ∈ lw_all := lw_g (lw_at lw_m7 199 rfl) rfl
theorem q1725 : (Jvm.Cond.selects "TourRoomsModel" ({ cls := "TourRoomsModel", name := "gives", desc := "(IIIII)I" } : Jvm.MethodName) ({ cls := "TourRoomsModel", name := "gives", desc := "(IIIII)I" } : Jvm.MethodName)) ∈ lw_all := lw_g (lw_at lw_m7 200 rfl) rfl
theorem q1726 : (Jvm.Cond.code ({ cls := "TourRoomsModel", name := "gives", desc := "(IIIII)I" } : Jvm.MethodName) prog_17_method_65_code (6 : Nat) (Option.some Jvm.ClassFile.FieldType.int)) ∈ lw_all := lw_g (lw_at lw_m7 201 rfl) rfl
theorem q1728 : (Jvm.Cond.instanceMethod ({ cls := "TourRoomsModel", name := "sight", desc := "(III)I" } : Jvm.MethodName)) ∈ lw_all := lw_g (lw_at lw_m7 203 rfl) rfl
theorem q1729 : (Jvm.Cond.selects "TourRoomsModel" ({ cls := "TourRoomsModel", name := "sight", desc := "(III)I" } : Jvm.MethodName) ({ cls := "TourRoomsModel", name := "sight", desc := "(III)I" } : Jvm.MethodName)) ∈ lw_all := lw_g (lw_at lw_m7 204 rfl) rfl
theorem q1730 : (Jvm.Cond.code ({ cls := "TourRoomsModel", name := "sight", desc := "(III)I" } : Jvm.MethodName) prog_17_method_66_code (4 : Nat) (Option.some Jvm.ClassFile.FieldType.int)) ∈ lw_all := lw_g (lw_at lw_m7 205 rfl) rfl
theorem q1732 : (Jvm.Cond.instanceMethod ({ cls := "TourRoomsModel", name := "way", desc := "(III)Z" } : Jvm.MethodName)) ∈ lw_all := lw_g (lw_at lw_m7 207 rfl) rfl
theorem q1733 : (Jvm.Cond.selects "TourRoomsModel" ({ cls := "TourRoomsModel", name := "way", desc := "(III)Z" } : Jvm.MethodName) ({ cls := "TourRoomsModel", name := "way", desc := "(III)Z" } : Jvm.MethodName)) ∈ lw_all := lw_g (lw_at lw_m7 208 rfl) rfl
theorem q1734 : (Jvm.Cond.code ({ cls := "TourRoomsModel", name := "way", desc := "(III)Z" } : Jvm.MethodName) prog_17_method_67_code (4 : Nat) (Option.some Jvm.ClassFile.FieldType.boolean)) ∈ lw_all := lw_g (lw_at lw_m7 209 rfl) rfl
theorem q1736 : (Jvm.Cond.instanceMethod ({ cls := "TourRoomsModel", name := "clear", desc := "()I" } : Jvm.MethodName)) ∈ lw_all := lw_g (lw_at lw_m7 211 rfl) rfl
theorem q1737 : (Jvm.Cond.selects "TourRoomsModel" ({ cls := "TourRoomsModel", name := "clear", desc := "()I" } : Jvm.MethodName) ({ cls := "TourRoomsModel", name := "clear", desc := "()I" } : Jvm.MethodName)) ∈ lw_all := lw_g (lw_at lw_m7 212 rfl) rfl
theorem q1738 : (Jvm.Cond.code ({ cls := "TourRoomsModel", name := "clear", desc := "()I" } : Jvm.MethodName) prog_17_method_68_code (3 : Nat) (Option.some Jvm.ClassFile.FieldType.int)) ∈ lw_all := lw_g (lw_at lw_m7 213 rfl) rfl
theorem q1740 : (Jvm.Cond.instanceMethod ({ cls := "TourRoomsModel", name := "trip", desc := "(I)I" } : Jvm.MethodName)) ∈ lw_all := lw_g (lw_at lw_m7 215 rfl) rfl
theorem q1741 : (Jvm.Cond.selects "TourRoomsModel" ({ cls := "TourRoomsModel", name := "trip", desc := "(I)I" } : Jvm.MethodName) ({ cls := "TourRoomsModel", name := "trip", desc := "(I)I" } : Jvm.MethodName)) ∈ lw_all := lw_g (lw_at lw_m7 216 rfl) rfl
theorem q1742 : (Jvm.Cond.code ({ cls := "TourRoomsModel", name := "trip", desc := "(I)I" } : Jvm.MethodName) prog_17_method_71_code (2 : Nat) (Option.some Jvm.ClassFile.FieldType.int)) ∈ lw_all := lw_g (lw_at lw_m7 217 rfl) rfl
theorem q1743 : (Jvm.Cond.methodLink "TourRoomsModel" (412 : Nat) ({ cls := "TourRoomsModel", name := "goesOn", desc := "(IIIIIII)V" } : Jvm.MethodName)) ∈ lw_all := lw_g (lw_at lw_m7 218 rfl) rfl
theorem q1744 : (Jvm.Cond.privateMethod ({ cls := "TourRoomsModel", name := "goesOn", desc := "(IIIIIII)V" } : Jvm.MethodName)) ∈ lw_tbl := lw_at lw_m7 219 rfl
theorem q1745 : (Jvm.Cond.instanceMethod ({ cls := "TourRoomsModel", name := "goesOn", desc := "(IIIIIII)V" } : Jvm.MethodName)) ∈ lw_all := lw_g (lw_at lw_m7 220 rfl) rfl
theorem q1746 : (Jvm.Cond.code ({ cls := "TourRoomsModel", name := "goesOn", desc := "(IIIIIII)V" } : Jvm.MethodName) prog_17_method_69_code (15 : Nat) (Option.none : Option Jvm.ClassFile.FieldType)) ∈ lw_all := lw_g (lw_at lw_m7 221 rfl) rfl
theorem q1747 : (Jvm.Cond.methodLink "TourRoomsModel" (408 : Nat) ({ cls := "TourRoomsModel", name := "home", desc := "(IIIIII)V" } : Jvm.MethodName)) ∈ lw_all := lw_g (lw_at lw_m7 222 rfl) rfl
theorem q1748 : (Jvm.Cond.privateMethod ({ cls := "TourRoomsModel", name := "home", desc := "(IIIIII)V" } : Jvm.MethodName)) ∈ lw_tbl := lw_at lw_m7 223 rfl
theorem q1749 : (Jvm.Cond.instanceMethod ({ cls := "TourRoomsModel", name := "home", desc := "(IIIIII)V" } : Jvm.MethodName)) ∈ lw_all := lw_g (lw_at lw_m7 224 rfl) rfl
theorem q1750 : (Jvm.Cond.code ({ cls := "TourRoomsModel", name := "home", desc := "(IIIIII)V" } : Jvm.MethodName) prog_17_method_70_code (11 : Nat) (Option.none : Option Jvm.ClassFile.FieldType)) ∈ lw_all := lw_g (lw_at lw_m7 225 rfl) rfl
theorem q1752 : (Jvm.Cond.instanceMethod ({ cls := "TourRoomsModel", name := "tripOf", desc := "(I)I" } : Jvm.MethodName)) ∈ lw_all := lw_g (lw_at lw_m7 227 rfl) rfl
theorem q1753 : (Jvm.Cond.selects "TourRoomsModel" ({ cls := "TourRoomsModel", name := "tripOf", desc := "(I)I" } : Jvm.MethodName) ({ cls := "TourRoomsModel", name := "tripOf", desc := "(I)I" } : Jvm.MethodName)) ∈ lw_all := lw_g (lw_at lw_m7 228 rfl) rfl
theorem q1754 : (Jvm.Cond.code ({ cls := "TourRoomsModel", name := "tripOf", desc := "(I)I" } : Jvm.MethodName) prog_17_method_72_code (2 : Nat) (Option.some Jvm.ClassFile.FieldType.int)) ∈ lw_all := lw_g (lw_at lw_m7 229 rfl) rfl
theorem q1756 : (Jvm.Cond.instanceMethod ({ cls := "TourRoomsModel", name := "night", desc := "()I" } : Jvm.MethodName)) ∈ lw_all := lw_g (lw_at lw_m7 231 rfl) rfl
theorem q1757 : (Jvm.Cond.selects "TourRoomsModel" ({ cls := "TourRoomsModel", name := "night", desc := "()I" } : Jvm.MethodName) ({ cls := "TourRoomsModel", name := "night", desc := "()I" } : Jvm.MethodName)) ∈ lw_all := lw_g (lw_at lw_m7 232 rfl) rfl
theorem q1758 : (Jvm.Cond.code ({ cls := "TourRoomsModel", name := "night", desc := "()I" } : Jvm.MethodName) prog_17_method_76_code (10 : Nat) (Option.some Jvm.ClassFile.FieldType.int)) ∈ lw_all := lw_g (lw_at lw_m7 233 rfl) rfl
theorem q1759 : (Jvm.Cond.methodLink "TourRoomsModel" (432 : Nat) ({ cls := "TourRoomsModel", name := "townAt", desc := "(I)I" } : Jvm.MethodName)) ∈ lw_all := lw_g (lw_at lw_m7 234 rfl) rfl
theorem q1760 : (Jvm.Cond.privateMethod ({ cls := "TourRoomsModel", name := "townAt", desc := "(I)I" } : Jvm.MethodName)) ∈ lw_tbl := lw_at lw_m7 235 rfl
theorem q1761 : (Jvm.Cond.instanceMethod ({ cls := "TourRoomsModel", name := "townAt", desc := "(I)I" } : Jvm.MethodName)) ∈ lw_all := lw_g (lw_at lw_m7 236 rfl) rfl
theorem q1762 : (Jvm.Cond.code ({ cls := "TourRoomsModel", name := "townAt", desc := "(I)I" } : Jvm.MethodName) prog_17_method_73_code (3 : Nat) (Option.some Jvm.ClassFile.FieldType.int)) ∈ lw_all := lw_g (lw_at lw_m7 237 rfl) rfl
theorem q1763 : (Jvm.Cond.methodLink "TourRoomsModel" (435 : Nat) ({ cls := "TourRoomsModel", name := "right", desc := "(I)Z" } : Jvm.MethodName)) ∈ lw_all := lw_g (lw_at lw_m7 238 rfl) rfl
theorem q1764 : (Jvm.Cond.methodLink "TourRoomsModel" (438 : Nat) ({ cls := "TourRoomsModel", name := "billOf", desc := "(I)I" } : Jvm.MethodName)) ∈ lw_all := lw_g (lw_at lw_m7 239 rfl) rfl
theorem q1765 : (Jvm.Cond.privateMethod ({ cls := "TourRoomsModel", name := "billOf", desc := "(I)I" } : Jvm.MethodName)) ∈ lw_tbl := lw_at lw_m8 0 rfl
theorem q1766 : (Jvm.Cond.instanceMethod ({ cls := "TourRoomsModel", name := "billOf", desc := "(I)I" } : Jvm.MethodName)) ∈ lw_all := lw_g (lw_at lw_m8 1 rfl) rfl
theorem q1767 : (Jvm.Cond.code ({ cls := "TourRoomsModel", name := "billOf", desc := "(I)I" } : Jvm.MethodName) prog_17_method_75_code (7 : Nat) (Option.some Jvm.ClassFile.FieldType.int)) ∈ lw_all := lw_g (lw_at lw_m8 2 rfl) rfl
theorem q1768 : (Jvm.Cond.methodLink "TourRoomsModel" (441 : Nat) ({ cls := "TourRoomsModel", name := "owes", desc := "(IIII)V" } : Jvm.MethodName)) ∈ lw_all := lw_g (lw_at lw_m8 3 rfl) rfl
theorem q1769 : (Jvm.Cond.privateMethod ({ cls := "TourRoomsModel", name := "owes", desc := "(IIII)V" } : Jvm.MethodName)) ∈ lw_tbl := lw_at lw_m8 4 rfl
theorem q1770 : (Jvm.Cond.instanceMethod ({ cls := "TourRoomsModel", name := "owes", desc := "(IIII)V" } : Jvm.MethodName)) ∈ lw_all := lw_g (lw_at lw_m8 5 rfl) rfl
theorem q1771 : (Jvm.Cond.code ({ cls := "TourRoomsModel", name := "owes", desc := "(IIII)V" } : Jvm.MethodName) prog_17_method_74_code (5 : Nat) (Option.none : Option Jvm.ClassFile.FieldType)) ∈ lw_all := lw_g (lw_at lw_m8 6 rfl) rfl
theorem q1773 : (Jvm.Cond.instanceMethod ({ cls := "TourRoomsModel", name := "lay", desc := "(II)I" } : Jvm.MethodName)) ∈ lw_all := lw_g (lw_at lw_m8 8 rfl) rfl
theorem q1774 : (Jvm.Cond.selects "TourRoomsModel" ({ cls := "TourRoomsModel", name := "lay", desc := "(II)I" } : Jvm.MethodName) ({ cls := "TourRoomsModel", name := "lay", desc := "(II)I" } : Jvm.MethodName)) ∈ lw_all := lw_g (lw_at lw_m8 9 rfl) rfl
theorem q1775 : (Jvm.Cond.code ({ cls := "TourRoomsModel", name := "lay", desc := "(II)I" } : Jvm.MethodName) prog_17_method_77_code (3 : Nat) (Option.some Jvm.ClassFile.FieldType.int)) ∈ lw_all := lw_g (lw_at lw_m8 10 rfl) rfl
theorem q1777 : (Jvm.Cond.instanceMethod ({ cls := "TourRoomsModel", name := "bill", desc := "(I)I" } : Jvm.MethodName)) ∈ lw_all := lw_g (lw_at lw_m8 12 rfl) rfl
theorem q1778 : (Jvm.Cond.selects "TourRoomsModel" ({ cls := "TourRoomsModel", name := "bill", desc := "(I)I" } : Jvm.MethodName) ({ cls := "TourRoomsModel", name := "bill", desc := "(I)I" } : Jvm.MethodName)) ∈ lw_all := lw_g (lw_at lw_m8 13 rfl) rfl
theorem q1779 : (Jvm.Cond.code ({ cls := "TourRoomsModel", name := "bill", desc := "(I)I" } : Jvm.MethodName) prog_17_method_78_code (2 : Nat) (Option.some Jvm.ClassFile.FieldType.int)) ∈ lw_all := lw_g (lw_at lw_m8 14 rfl) rfl
theorem q1781 : (Jvm.Cond.instanceMethod ({ cls := "TourRoomsModel", name := "owes", desc := "(I)I" } : Jvm.MethodName)) ∈ lw_all := lw_g (lw_at lw_m8 16 rfl) rfl
theorem q1782 : (Jvm.Cond.selects "TourRoomsModel" ({ cls := "TourRoomsModel", name := "owes", desc := "(I)I" } : Jvm.MethodName) ({ cls := "TourRoomsModel", name := "owes", desc := "(I)I" } : Jvm.MethodName)) ∈ lw_all := lw_g (lw_at lw_m8 17 rfl) rfl
theorem q1783 : (Jvm.Cond.code ({ cls := "TourRoomsModel", name := "owes", desc := "(I)I" } : Jvm.MethodName) prog_17_method_79_code (2 : Nat) (Option.some Jvm.ClassFile.FieldType.int)) ∈ lw_all := lw_g (lw_at lw_m8 18 rfl) rfl
theorem q1785 : (Jvm.Cond.instanceMethod ({ cls := "TourRoomsModel", name := "meals", desc := "(II)I" } : Jvm.MethodName)) ∈ lw_all := lw_g (lw_at lw_m8 20 rfl) rfl
theorem q1786 : (Jvm.Cond.selects "TourRoomsModel" ({ cls := "TourRoomsModel", name := "meals", desc := "(II)I" } : Jvm.MethodName) ({ cls := "TourRoomsModel", name := "meals", desc := "(II)I" } : Jvm.MethodName)) ∈ lw_all := lw_g (lw_at lw_m8 21 rfl) rfl
theorem q1787 : (Jvm.Cond.code ({ cls := "TourRoomsModel", name := "meals", desc := "(II)I" } : Jvm.MethodName) prog_17_method_80_code (5 : Nat) (Option.some Jvm.ClassFile.FieldType.int)) ∈ lw_all := lw_g (lw_at lw_m8 22 rfl) rfl
theorem q1789 : (Jvm.Cond.instanceMethod ({ cls := "TourRoomsModel", name := "townOf", desc := "(II)I" } : Jvm.MethodName)) ∈ lw_all := lw_g (lw_at lw_m8 24 rfl) rfl
theorem q1790 : (Jvm.Cond.selects "TourRoomsModel" ({ cls := "TourRoomsModel", name := "townOf", desc := "(II)I" } : Jvm.MethodName) ({ cls := "TourRoomsModel", name := "townOf", desc := "(II)I" } : Jvm.MethodName)) ∈ lw_all := lw_g (lw_at lw_m8 25 rfl) rfl
theorem q1791 : (Jvm.Cond.code ({ cls := "TourRoomsModel", name := "townOf", desc := "(II)I" } : Jvm.MethodName) prog_17_method_82_code (3 : Nat) (Option.some Jvm.ClassFile.FieldType.int)) ∈ lw_all := lw_g (lw_at lw_m8 26 rfl) rfl
theorem q1792 : (Jvm.Cond.methodLink "TourRoomsModel" (445 : Nat) ({ cls := "TourRoomsModel", name := "costOf", desc := "(I)I" } : Jvm.MethodName)) ∈ lw_all := lw_g (lw_at lw_m8 27 rfl) rfl
theorem q1793 : (Jvm.Cond.privateMethod ({ cls := "TourRoomsModel", name := "costOf", desc := "(I)I" } : Jvm.MethodName)) ∈ lw_tbl := lw_at lw_m8 28 rfl
theorem q1794 : (Jvm.Cond.instanceMethod ({ cls := "TourRoomsModel", name := "costOf", desc := "(I)I" } : Jvm.MethodName)) ∈ lw_all := lw_g (lw_at lw_m8 29 rfl) rfl
theorem q1795 : (Jvm.Cond.code ({ cls := "TourRoomsModel", name := "costOf", desc := "(I)I" } : Jvm.MethodName) prog_17_method_81_code (4 : Nat) (Option.some Jvm.ClassFile.FieldType.int)) ∈ lw_all := lw_g (lw_at lw_m8 30 rfl) rfl
theorem q1797 : (Jvm.Cond.instanceMethod ({ cls := "TourRoomsModel", name := "roomOf", desc := "(III)I" } : Jvm.MethodName)) ∈ lw_all := lw_g (lw_at lw_m8 32 rfl) rfl
theorem q1798 : (Jvm.Cond.selects "TourRoomsModel" ({ cls := "TourRoomsModel", name := "roomOf", desc := "(III)I" } : Jvm.MethodName) ({ cls := "TourRoomsModel", name := "roomOf", desc := "(III)I" } : Jvm.MethodName)) ∈ lw_all := lw_g (lw_at lw_m8 33 rfl) rfl
theorem q1799 : (Jvm.Cond.code ({ cls := "TourRoomsModel", name := "roomOf", desc := "(III)I" } : Jvm.MethodName) prog_17_method_83_code (5 : Nat) (Option.some Jvm.ClassFile.FieldType.int)) ∈ lw_all := lw_g (lw_at lw_m8 34 rfl) rfl
theorem q1801 : (Jvm.Cond.instanceMethod ({ cls := "TourRoomsModel", name := "personOf", desc := "(II)I" } : Jvm.MethodName)) ∈ lw_all := lw_g (lw_at lw_m8 36 rfl) rfl
theorem q1802 : (Jvm.Cond.selects "TourRoomsModel" ({ cls := "TourRoomsModel", name := "personOf", desc := "(II)I" } : Jvm.MethodName) ({ cls := "TourRoomsModel", name := "personOf", desc := "(II)I" } : Jvm.MethodName)) ∈ lw_all := lw_g (lw_at lw_m8 37 rfl) rfl
theorem q1803 : (Jvm.Cond.code ({ cls := "TourRoomsModel", name := "personOf", desc := "(II)I" } : Jvm.MethodName) prog_17_method_84_code (5 : Nat) (Option.some Jvm.ClassFile.FieldType.int)) ∈ lw_all := lw_g (lw_at lw_m8 38 rfl) rfl
theorem q1805 : (Jvm.Cond.instanceMethod ({ cls := "TourRoomsModel", name := "count", desc := "(I)I" } : Jvm.MethodName)) ∈ lw_all := lw_g (lw_at lw_m8 40 rfl) rfl
theorem q1806 : (Jvm.Cond.selects "TourRoomsModel" ({ cls := "TourRoomsModel", name := "count", desc := "(I)I" } : Jvm.MethodName) ({ cls := "TourRoomsModel", name := "count", desc := "(I)I" } : Jvm.MethodName)) ∈ lw_all := lw_g (lw_at lw_m8 41 rfl) rfl
theorem q1807 : (Jvm.Cond.code ({ cls := "TourRoomsModel", name := "count", desc := "(I)I" } : Jvm.MethodName) prog_17_method_85_code (2 : Nat) (Option.some Jvm.ClassFile.FieldType.int)) ∈ lw_all := lw_g (lw_at lw_m8 42 rfl) rfl
theorem q1815 : (Jvm.Cond.castable "TourRoomsModel" "java/lang/Object") ∈ lw_tbl := lw_at lw_m8 50 rfl
theorem in_X3 : ∀ w ∈ wsX30, w ∈ lw_all := lw_in wsX30 [1296, 1298, 1300, 1302, 1304, 1306, 1308, 1310, 1312, 1314, 1316, 1318, 1320, 1322, 1324, 1326, 1328, 1330, 1332, 1334, 1336, 1338, 1340, 1342, 1344, 1346, 1348, 1350, 1352, 1354, 1356, 1358, 1360, 1362, 1364, 1366, 1368, 1370, 1372, 1374, 1376, 1378, 1380, 1382, 1384, 1386, 1388, 1390, 1392, 1394, 1396, 1398, 1400, 1402, 1404, 1406, 1408, 1410, 1412, 1414, 1416, 1418, 1420, 1422, 1424, 1426, 1428, 1430, 1432, 1434, 1436, 1438, 1440, 1442, 1444, 1446, 1448, 1450] (by decide +kernel) (by decide +kernel)
