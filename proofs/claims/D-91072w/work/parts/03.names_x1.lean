/-! TourRooms -/
set_option maxRecDepth 100000
def RX1 : String := "TourRooms"
def TX1 : u_T := fun k => match k with
  | 0 => ("TourRooms", "people", "[LTourRooms$Person;", true)
  | 1 => ("TourRooms", "towns", "[LTourRooms$Town;", true)
  | 2 => ("TourRooms", "peopleMany", "I", false)
  | 3 => ("TourRooms", "townMany", "I", false)
  | 4 => ("TourRooms", "nightMany", "I", false)
  | 5 => ("TourRooms", "closed", "I", false)
  | 6 => ("TourRooms", "day", "I", false)
  | 7 => ("TourRooms", "start", "I", false)
  | 8 => ("TourRooms", "season", "I", false)
  | 9 => ("TourRooms", "spent", "I", false)
  | 10 => ("TourRooms", "noteMany", "I", false)
  | 11 => ("TourRooms", "moved", "I", false)
  | 12 => ("TourRooms", "noteTown", "[I", true)
  | 13 => ("TourRooms", "notePerson", "[I", true)
  | 14 => ("TourRooms", "noteRoom", "[I", true)
  | 15 => ("TourRooms", "noteDay", "[I", true)
  | 16 => ("TourRooms", "tape", "[B", true)
  | 17 => ("TourRooms", "taped", "I", false)
  | 18 => ("TourRooms", "state", "LTourRooms$State;", true)
  | 19 => ("TourRooms", "absent", "[[Z", true)
  | 20 => ("TourRooms", "lay", "[[I", true)
  | 21 => ("TourRooms", "bills", "[I", true)
  | 22 => ("TourRooms", "worths", "[[J", true)
  | 23 => ("TourRooms", "fresh", "[I", true)
  | 24 => ("TourRooms", "losses", "[[[I", true)
  | 25 => ("TourRooms", "gives", "I", false)
  | 26 => ("TourRooms", "opens", "[I", true)
  | 27 => ("TourRooms", "shuts", "[I", true)
  | 28 => ("TourRooms", "stays", "[I", true)
  | 29 => ("TourRooms", "ways", "[[I", true)
  | 30 => ("TourRooms", "sightMany", "I", false)
  | 31 => ("TourRooms", "tried", "[I", true)
  | 32 => ("TourRooms", "begun", "[I", true)
  | 33 => ("TourRooms", "bestSights", "[I", true)
  | 34 => ("TourRooms", "bestBegun", "[I", true)
  | 35 => ("TourRooms", "bestMany", "I", false)
  | 36 => ("TourRooms", "bestEnd", "I", false)
  | 37 => ("TourRooms", "bestDriven", "I", false)
  | _ => ("TourRooms", "bestRests", "I", false)
def tyX1 : Nat → FieldType := fun k => match k with
  | 0 => .array (.object "TourRooms$Person")
  | 1 => .array (.object "TourRooms$Town")
  | 2 => .int
  | 3 => .int
  | 4 => .int
  | 5 => .int
  | 6 => .int
  | 7 => .int
  | 8 => .int
  | 9 => .int
  | 10 => .int
  | 11 => .int
  | 12 => .array .int
  | 13 => .array .int
  | 14 => .array .int
  | 15 => .array .int
  | 16 => .array .byte
  | 17 => .int
  | 18 => .object "TourRooms$State"
  | 19 => .array (.array .boolean)
  | 20 => .array (.array .int)
  | 21 => .array .int
  | 22 => .array (.array .long)
  | 23 => .array .int
  | 24 => .array (.array (.array .int))
  | 25 => .int
  | 26 => .array .int
  | 27 => .array .int
  | 28 => .array .int
  | 29 => .array (.array .int)
  | 30 => .int
  | 31 => .array .int
  | 32 => .array .int
  | 33 => .array .int
  | 34 => .array .int
  | 35 => .int
  | 36 => .int
  | 37 => .int
  | _ => .int
abbrev wsX10 : List Cond := u_ws RX1 TX1 39
set_option maxRecDepth 100000 in
theorem nmX1 : ∀ a, a < 39 → ∀ b, b < 39 → a ≠ b → (TX1 a).2.1 ≠ (TX1 b).2.1 := by decide +kernel
set_option maxRecDepth 100000 in
theorem tyX1_ok : ∀ k, k < 39 → parseFieldDescriptor (TX1 k).2.2.1 = some (tyX1 k) := by decide +kernel
abbrev cX1_init : ByteArray := prog_1_method_2_code
def yX1_init : MethodName := ⟨RX1, "<init>", "()V"⟩
theorem dX1_init_0 : decode cX1_init 0 = .ok (.aload_n 0, 1) := by decide +kernel
theorem dX1_init_1 : decode cX1_init 1 = .ok (.invokespecial 3, 3) := by decide +kernel
theorem dX1_init_4 : decode cX1_init 4 = .ok (.aload_n 0, 1) := by decide +kernel
theorem dX1_init_5 : decode cX1_init 5 = .ok (.bipush 10, 2) := by decide +kernel
theorem dX1_init_7 : decode cX1_init 7 = .ok (.anewarray 9, 3) := by decide +kernel
theorem dX1_init_10 : decode cX1_init 10 = .ok (.putfield 11, 3) := by decide +kernel
theorem dX1_init_13 : decode cX1_init 13 = .ok (.aload_n 0, 1) := by decide +kernel
theorem dX1_init_14 : decode cX1_init 14 = .ok (.bipush 6, 2) := by decide +kernel
theorem dX1_init_16 : decode cX1_init 16 = .ok (.anewarray 15, 3) := by decide +kernel
theorem dX1_init_19 : decode cX1_init 19 = .ok (.putfield 17, 3) := by decide +kernel
theorem dX1_init_22 : decode cX1_init 22 = .ok (.aload_n 0, 1) := by decide +kernel
theorem dX1_init_23 : decode cX1_init 23 = .ok (.bipush 30, 2) := by decide +kernel
theorem dX1_init_25 : decode cX1_init 25 = .ok (.putfield 21, 3) := by decide +kernel
theorem dX1_init_28 : decode cX1_init 28 = .ok (.aload_n 0, 1) := by decide +kernel
theorem dX1_init_29 : decode cX1_init 29 = .ok (.iconst (-1), 1) := by decide +kernel
theorem dX1_init_30 : decode cX1_init 30 = .ok (.putfield 25, 3) := by decide +kernel
theorem dX1_init_33 : decode cX1_init 33 = .ok (.aload_n 0, 1) := by decide +kernel
theorem dX1_init_34 : decode cX1_init 34 = .ok (.sipush 500, 3) := by decide +kernel
theorem dX1_init_37 : decode cX1_init 37 = .ok (.newarray .int, 2) := by decide +kernel
theorem dX1_init_39 : decode cX1_init 39 = .ok (.putfield 28, 3) := by decide +kernel
theorem dX1_init_42 : decode cX1_init 42 = .ok (.aload_n 0, 1) := by decide +kernel
theorem dX1_init_43 : decode cX1_init 43 = .ok (.sipush 500, 3) := by decide +kernel
theorem dX1_init_46 : decode cX1_init 46 = .ok (.newarray .int, 2) := by decide +kernel
theorem dX1_init_48 : decode cX1_init 48 = .ok (.putfield 32, 3) := by decide +kernel
theorem dX1_init_51 : decode cX1_init 51 = .ok (.aload_n 0, 1) := by decide +kernel
theorem dX1_init_52 : decode cX1_init 52 = .ok (.sipush 500, 3) := by decide +kernel
theorem dX1_init_55 : decode cX1_init 55 = .ok (.newarray .int, 2) := by decide +kernel
theorem dX1_init_57 : decode cX1_init 57 = .ok (.putfield 35, 3) := by decide +kernel
theorem dX1_init_60 : decode cX1_init 60 = .ok (.aload_n 0, 1) := by decide +kernel
theorem dX1_init_61 : decode cX1_init 61 = .ok (.sipush 500, 3) := by decide +kernel
theorem dX1_init_64 : decode cX1_init 64 = .ok (.newarray .int, 2) := by decide +kernel
theorem dX1_init_66 : decode cX1_init 66 = .ok (.putfield 38, 3) := by decide +kernel
theorem dX1_init_69 : decode cX1_init 69 = .ok (.aload_n 0, 1) := by decide +kernel
theorem dX1_init_70 : decode cX1_init 70 = .ok (.sipush 400, 3) := by decide +kernel
theorem dX1_init_73 : decode cX1_init 73 = .ok (.newarray .byte, 2) := by decide +kernel
theorem dX1_init_75 : decode cX1_init 75 = .ok (.putfield 41, 3) := by decide +kernel
theorem dX1_init_78 : decode cX1_init 78 = .ok (.aload_n 0, 1) := by decide +kernel
theorem dX1_init_79 : decode cX1_init 79 = .ok (.new 45, 3) := by decide +kernel
theorem dX1_init_82 : decode cX1_init 82 = .ok (.dup, 1) := by decide +kernel
theorem dX1_init_83 : decode cX1_init 83 = .ok (.invokespecial 47, 3) := by decide +kernel
theorem dX1_init_86 : decode cX1_init 86 = .ok (.putfield 48, 3) := by decide +kernel
theorem dX1_init_89 : decode cX1_init 89 = .ok (.aload_n 0, 1) := by decide +kernel
theorem dX1_init_90 : decode cX1_init 90 = .ok (.bipush 30, 2) := by decide +kernel
theorem dX1_init_92 : decode cX1_init 92 = .ok (.bipush 10, 2) := by decide +kernel
theorem dX1_init_94 : decode cX1_init 94 = .ok (.multianewarray 52 2, 4) := by decide +kernel
theorem dX1_init_98 : decode cX1_init 98 = .ok (.putfield 54, 3) := by decide +kernel
theorem dX1_init_101 : decode cX1_init 101 = .ok (.aload_n 0, 1) := by decide +kernel
theorem dX1_init_102 : decode cX1_init 102 = .ok (.bipush 30, 2) := by decide +kernel
theorem dX1_init_104 : decode cX1_init 104 = .ok (.bipush 10, 2) := by decide +kernel
theorem dX1_init_106 : decode cX1_init 106 = .ok (.multianewarray 57 2, 4) := by decide +kernel
theorem dX1_init_110 : decode cX1_init 110 = .ok (.putfield 59, 3) := by decide +kernel
theorem dX1_init_113 : decode cX1_init 113 = .ok (.aload_n 0, 1) := by decide +kernel
theorem dX1_init_114 : decode cX1_init 114 = .ok (.bipush 30, 2) := by decide +kernel
theorem dX1_init_116 : decode cX1_init 116 = .ok (.newarray .int, 2) := by decide +kernel
theorem dX1_init_118 : decode cX1_init 118 = .ok (.putfield 62, 3) := by decide +kernel
theorem dX1_init_121 : decode cX1_init 121 = .ok (.aload_n 0, 1) := by decide +kernel
theorem dX1_init_122 : decode cX1_init 122 = .ok (.bipush 11, 2) := by decide +kernel
theorem dX1_init_124 : decode cX1_init 124 = .ok (.sipush 1024, 3) := by decide +kernel
theorem dX1_init_127 : decode cX1_init 127 = .ok (.multianewarray 65 2, 4) := by decide +kernel
theorem dX1_init_131 : decode cX1_init 131 = .ok (.putfield 67, 3) := by decide +kernel
theorem dX1_init_134 : decode cX1_init 134 = .ok (.aload_n 0, 1) := by decide +kernel
theorem dX1_init_135 : decode cX1_init 135 = .ok (.bipush 10, 2) := by decide +kernel
theorem dX1_init_137 : decode cX1_init 137 = .ok (.newarray .int, 2) := by decide +kernel
theorem dX1_init_139 : decode cX1_init 139 = .ok (.putfield 70, 3) := by decide +kernel
theorem dX1_init_142 : decode cX1_init 142 = .ok (.aload_n 0, 1) := by decide +kernel
theorem dX1_init_143 : decode cX1_init 143 = .ok (.bipush 31, 2) := by decide +kernel
theorem dX1_init_145 : decode cX1_init 145 = .ok (.bipush 11, 2) := by decide +kernel
theorem dX1_init_147 : decode cX1_init 147 = .ok (.bipush 11, 2) := by decide +kernel
theorem dX1_init_149 : decode cX1_init 149 = .ok (.multianewarray 73 3, 4) := by decide +kernel
theorem dX1_init_153 : decode cX1_init 153 = .ok (.putfield 75, 3) := by decide +kernel
theorem dX1_init_156 : decode cX1_init 156 = .ok (.aload_n 0, 1) := by decide +kernel
theorem dX1_init_157 : decode cX1_init 157 = .ok (.bipush 7, 2) := by decide +kernel
theorem dX1_init_159 : decode cX1_init 159 = .ok (.newarray .int, 2) := by decide +kernel
theorem dX1_init_161 : decode cX1_init 161 = .ok (.putfield 78, 3) := by decide +kernel
theorem dX1_init_164 : decode cX1_init 164 = .ok (.aload_n 0, 1) := by decide +kernel
theorem dX1_init_165 : decode cX1_init 165 = .ok (.bipush 7, 2) := by decide +kernel
theorem dX1_init_167 : decode cX1_init 167 = .ok (.newarray .int, 2) := by decide +kernel
theorem dX1_init_169 : decode cX1_init 169 = .ok (.putfield 81, 3) := by decide +kernel
theorem dX1_init_172 : decode cX1_init 172 = .ok (.aload_n 0, 1) := by decide +kernel
theorem dX1_init_173 : decode cX1_init 173 = .ok (.bipush 7, 2) := by decide +kernel
theorem dX1_init_175 : decode cX1_init 175 = .ok (.newarray .int, 2) := by decide +kernel
theorem dX1_init_177 : decode cX1_init 177 = .ok (.putfield 84, 3) := by decide +kernel
theorem dX1_init_180 : decode cX1_init 180 = .ok (.aload_n 0, 1) := by decide +kernel
theorem dX1_init_181 : decode cX1_init 181 = .ok (.bipush 7, 2) := by decide +kernel
theorem dX1_init_183 : decode cX1_init 183 = .ok (.bipush 7, 2) := by decide +kernel
theorem dX1_init_185 : decode cX1_init 185 = .ok (.multianewarray 57 2, 4) := by decide +kernel
theorem dX1_init_189 : decode cX1_init 189 = .ok (.putfield 87, 3) := by decide +kernel
theorem dX1_init_192 : decode cX1_init 192 = .ok (.aload_n 0, 1) := by decide +kernel
theorem dX1_init_193 : decode cX1_init 193 = .ok (.bipush 6, 2) := by decide +kernel
theorem dX1_init_195 : decode cX1_init 195 = .ok (.newarray .int, 2) := by decide +kernel
theorem dX1_init_197 : decode cX1_init 197 = .ok (.putfield 90, 3) := by decide +kernel
theorem dX1_init_200 : decode cX1_init 200 = .ok (.aload_n 0, 1) := by decide +kernel
theorem dX1_init_201 : decode cX1_init 201 = .ok (.bipush 6, 2) := by decide +kernel
theorem dX1_init_203 : decode cX1_init 203 = .ok (.newarray .int, 2) := by decide +kernel
theorem dX1_init_205 : decode cX1_init 205 = .ok (.putfield 93, 3) := by decide +kernel
theorem dX1_init_208 : decode cX1_init 208 = .ok (.aload_n 0, 1) := by decide +kernel
theorem dX1_init_209 : decode cX1_init 209 = .ok (.bipush 6, 2) := by decide +kernel
theorem dX1_init_211 : decode cX1_init 211 = .ok (.newarray .int, 2) := by decide +kernel
theorem dX1_init_213 : decode cX1_init 213 = .ok (.putfield 96, 3) := by decide +kernel
theorem dX1_init_216 : decode cX1_init 216 = .ok (.aload_n 0, 1) := by decide +kernel
theorem dX1_init_217 : decode cX1_init 217 = .ok (.bipush 6, 2) := by decide +kernel
theorem dX1_init_219 : decode cX1_init 219 = .ok (.newarray .int, 2) := by decide +kernel
theorem dX1_init_221 : decode cX1_init 221 = .ok (.putfield 99, 3) := by decide +kernel
theorem dX1_init_224 : decode cX1_init 224 = .ok (.aload_n 0, 1) := by decide +kernel
theorem dX1_init_225 : decode cX1_init 225 = .ok (.iconst (-1), 1) := by decide +kernel
theorem dX1_init_226 : decode cX1_init 226 = .ok (.putfield 102, 3) := by decide +kernel
theorem dX1_init_229 : decode cX1_init 229 = .ok (.iconst 0, 1) := by decide +kernel
theorem dX1_init_230 : decode cX1_init 230 = .ok (.istore_n 1, 1) := by decide +kernel
theorem dX1_init_231 : decode cX1_init 231 = .ok (.iload_n 1, 1) := by decide +kernel
theorem dX1_init_232 : decode cX1_init 232 = .ok (.bipush 6, 2) := by decide +kernel
theorem dX1_init_234 : decode cX1_init 234 = .ok (.if_icmp .gt 32, 3) := by decide +kernel
theorem dX1_init_237 : decode cX1_init 237 = .ok (.iconst 0, 1) := by decide +kernel
theorem dX1_init_238 : decode cX1_init 238 = .ok (.istore_n 2, 1) := by decide +kernel
theorem dX1_init_239 : decode cX1_init 239 = .ok (.iload_n 2, 1) := by decide +kernel
theorem dX1_init_240 : decode cX1_init 240 = .ok (.bipush 6, 2) := by decide +kernel
theorem dX1_init_242 : decode cX1_init 242 = .ok (.if_icmp .gt 18, 3) := by decide +kernel
theorem dX1_init_245 : decode cX1_init 245 = .ok (.aload_n 0, 1) := by decide +kernel
theorem dX1_init_246 : decode cX1_init 246 = .ok (.getfield 87, 3) := by decide +kernel
theorem dX1_init_249 : decode cX1_init 249 = .ok (.iload_n 1, 1) := by decide +kernel
theorem dX1_init_250 : decode cX1_init 250 = .ok (.aaload, 1) := by decide +kernel
theorem dX1_init_251 : decode cX1_init 251 = .ok (.iload_n 2, 1) := by decide +kernel
theorem dX1_init_252 : decode cX1_init 252 = .ok (.iconst 0, 1) := by decide +kernel
theorem dX1_init_253 : decode cX1_init 253 = .ok (.iastore, 1) := by decide +kernel
theorem dX1_init_254 : decode cX1_init 254 = .ok (.iinc 2 1, 3) := by decide +kernel
theorem dX1_init_257 : decode cX1_init 257 = .ok (.goto (-18), 3) := by decide +kernel
theorem dX1_init_260 : decode cX1_init 260 = .ok (.iinc 1 1, 3) := by decide +kernel
theorem dX1_init_263 : decode cX1_init 263 = .ok (.goto (-32), 3) := by decide +kernel
theorem dX1_init_266 : decode cX1_init 266 = .ok (.return_, 1) := by decide +kernel
abbrev cX1_person : ByteArray := prog_1_method_7_code
def yX1_person : MethodName := ⟨RX1, "person", "(ZIZIII)I"⟩
theorem dX1_person_0 : decode cX1_person 0 = .ok (.iload_n 2, 1) := by decide +kernel
theorem dX1_person_1 : decode cX1_person 1 = .ok (.iconst 0, 1) := by decide +kernel
theorem dX1_person_2 : decode cX1_person 2 = .ok (.iconst 3, 1) := by decide +kernel
theorem dX1_person_3 : decode cX1_person 3 = .ok (.invokestatic 108, 3) := by decide +kernel
theorem dX1_person_6 : decode cX1_person 6 = .ok (.ifCond .eq 43, 3) := by decide +kernel
theorem dX1_person_9 : decode cX1_person 9 = .ok (.iload 4, 2) := by decide +kernel
theorem dX1_person_11 : decode cX1_person 11 = .ok (.iconst 0, 1) := by decide +kernel
theorem dX1_person_12 : decode cX1_person 12 = .ok (.iconst 3, 1) := by decide +kernel
theorem dX1_person_13 : decode cX1_person 13 = .ok (.invokestatic 108, 3) := by decide +kernel
theorem dX1_person_16 : decode cX1_person 16 = .ok (.ifCond .eq 33, 3) := by decide +kernel
theorem dX1_person_19 : decode cX1_person 19 = .ok (.iload 5, 2) := by decide +kernel
theorem dX1_person_21 : decode cX1_person 21 = .ok (.iconst 0, 1) := by decide +kernel
theorem dX1_person_22 : decode cX1_person 22 = .ok (.iconst 5, 1) := by decide +kernel
theorem dX1_person_23 : decode cX1_person 23 = .ok (.invokestatic 108, 3) := by decide +kernel
theorem dX1_person_26 : decode cX1_person 26 = .ok (.ifCond .eq 23, 3) := by decide +kernel
theorem dX1_person_29 : decode cX1_person 29 = .ok (.iload 6, 2) := by decide +kernel
theorem dX1_person_31 : decode cX1_person 31 = .ok (.iload 5, 2) := by decide +kernel
theorem dX1_person_33 : decode cX1_person 33 = .ok (.iconst 5, 1) := by decide +kernel
theorem dX1_person_34 : decode cX1_person 34 = .ok (.invokestatic 108, 3) := by decide +kernel
theorem dX1_person_37 : decode cX1_person 37 = .ok (.ifCond .eq 12, 3) := by decide +kernel
theorem dX1_person_40 : decode cX1_person 40 = .ok (.aload_n 0, 1) := by decide +kernel
theorem dX1_person_41 : decode cX1_person 41 = .ok (.getfield 105, 3) := by decide +kernel
theorem dX1_person_44 : decode cX1_person 44 = .ok (.bipush 10, 2) := by decide +kernel
theorem dX1_person_46 : decode cX1_person 46 = .ok (.if_icmp .ne 5, 3) := by decide +kernel
theorem dX1_person_49 : decode cX1_person 49 = .ok (.iconst (-1), 1) := by decide +kernel
theorem dX1_person_50 : decode cX1_person 50 = .ok (.ireturn, 1) := by decide +kernel
theorem dX1_person_51 : decode cX1_person 51 = .ok (.aload_n 0, 1) := by decide +kernel
theorem dX1_person_52 : decode cX1_person 52 = .ok (.getfield 11, 3) := by decide +kernel
theorem dX1_person_55 : decode cX1_person 55 = .ok (.aload_n 0, 1) := by decide +kernel
theorem dX1_person_56 : decode cX1_person 56 = .ok (.getfield 105, 3) := by decide +kernel
theorem dX1_person_59 : decode cX1_person 59 = .ok (.new 9, 3) := by decide +kernel
theorem dX1_person_62 : decode cX1_person 62 = .ok (.dup, 1) := by decide +kernel
theorem dX1_person_63 : decode cX1_person 63 = .ok (.aload_n 0, 1) := by decide +kernel
theorem dX1_person_64 : decode cX1_person 64 = .ok (.getfield 105, 3) := by decide +kernel
theorem dX1_person_67 : decode cX1_person 67 = .ok (.iload_n 1, 1) := by decide +kernel
theorem dX1_person_68 : decode cX1_person 68 = .ok (.iload_n 2, 1) := by decide +kernel
theorem dX1_person_69 : decode cX1_person 69 = .ok (.iload_n 3, 1) := by decide +kernel
theorem dX1_person_70 : decode cX1_person 70 = .ok (.iload 4, 2) := by decide +kernel
theorem dX1_person_72 : decode cX1_person 72 = .ok (.iload 5, 2) := by decide +kernel
theorem dX1_person_74 : decode cX1_person 74 = .ok (.iload 6, 2) := by decide +kernel
theorem dX1_person_76 : decode cX1_person 76 = .ok (.invokespecial 131, 3) := by decide +kernel
theorem dX1_person_79 : decode cX1_person 79 = .ok (.aastore, 1) := by decide +kernel
theorem dX1_person_80 : decode cX1_person 80 = .ok (.aload_n 0, 1) := by decide +kernel
theorem dX1_person_81 : decode cX1_person 81 = .ok (.dup, 1) := by decide +kernel
theorem dX1_person_82 : decode cX1_person 82 = .ok (.getfield 105, 3) := by decide +kernel
theorem dX1_person_85 : decode cX1_person 85 = .ok (.iconst 1, 1) := by decide +kernel
theorem dX1_person_86 : decode cX1_person 86 = .ok (.iadd, 1) := by decide +kernel
theorem dX1_person_87 : decode cX1_person 87 = .ok (.putfield 105, 3) := by decide +kernel
theorem dX1_person_90 : decode cX1_person 90 = .ok (.aload_n 0, 1) := by decide +kernel
theorem dX1_person_91 : decode cX1_person 91 = .ok (.getfield 105, 3) := by decide +kernel
theorem dX1_person_94 : decode cX1_person 94 = .ok (.iconst 1, 1) := by decide +kernel
theorem dX1_person_95 : decode cX1_person 95 = .ok (.isub, 1) := by decide +kernel
theorem dX1_person_96 : decode cX1_person 96 = .ok (.ireturn, 1) := by decide +kernel
abbrev cX1_in : ByteArray := prog_1_method_1_code
def yX1_in : MethodName := ⟨RX1, "in", "(III)Z"⟩
theorem dX1_in_0 : decode cX1_in 0 = .ok (.iload_n 0, 1) := by decide +kernel
theorem dX1_in_1 : decode cX1_in 1 = .ok (.iload_n 1, 1) := by decide +kernel
theorem dX1_in_2 : decode cX1_in 2 = .ok (.if_icmp .lt 12, 3) := by decide +kernel
theorem dX1_in_5 : decode cX1_in 5 = .ok (.iload_n 0, 1) := by decide +kernel
theorem dX1_in_6 : decode cX1_in 6 = .ok (.iload_n 2, 1) := by decide +kernel
theorem dX1_in_7 : decode cX1_in 7 = .ok (.if_icmp .gt 7, 3) := by decide +kernel
theorem dX1_in_10 : decode cX1_in 10 = .ok (.iconst 1, 1) := by decide +kernel
theorem dX1_in_11 : decode cX1_in 11 = .ok (.goto 4, 3) := by decide +kernel
theorem dX1_in_14 : decode cX1_in 14 = .ok (.iconst 0, 1) := by decide +kernel
theorem dX1_in_15 : decode cX1_in 15 = .ok (.ireturn, 1) := by decide +kernel
abbrev cX1_friends : ByteArray := prog_1_method_8_code
def yX1_friends : MethodName := ⟨RX1, "friends", "(IIZ)Z"⟩
theorem dX1_friends_0 : decode cX1_friends 0 = .ok (.aload_n 0, 1) := by decide +kernel
theorem dX1_friends_1 : decode cX1_friends 1 = .ok (.iload_n 1, 1) := by decide +kernel
theorem dX1_friends_2 : decode cX1_friends 2 = .ok (.invokevirtual 134, 3) := by decide +kernel
theorem dX1_friends_5 : decode cX1_friends 5 = .ok (.ifCond .eq 40, 3) := by decide +kernel
theorem dX1_friends_8 : decode cX1_friends 8 = .ok (.aload_n 0, 1) := by decide +kernel
theorem dX1_friends_9 : decode cX1_friends 9 = .ok (.iload_n 2, 1) := by decide +kernel
theorem dX1_friends_10 : decode cX1_friends 10 = .ok (.invokevirtual 134, 3) := by decide +kernel
theorem dX1_friends_13 : decode cX1_friends 13 = .ok (.ifCond .eq 32, 3) := by decide +kernel
theorem dX1_friends_16 : decode cX1_friends 16 = .ok (.iload_n 1, 1) := by decide +kernel
theorem dX1_friends_17 : decode cX1_friends 17 = .ok (.iload_n 2, 1) := by decide +kernel
theorem dX1_friends_18 : decode cX1_friends 18 = .ok (.if_icmp .eq 27, 3) := by decide +kernel
theorem dX1_friends_21 : decode cX1_friends 21 = .ok (.aload_n 0, 1) := by decide +kernel
theorem dX1_friends_22 : decode cX1_friends 22 = .ok (.getfield 11, 3) := by decide +kernel
theorem dX1_friends_25 : decode cX1_friends 25 = .ok (.iload_n 1, 1) := by decide +kernel
theorem dX1_friends_26 : decode cX1_friends 26 = .ok (.aaload, 1) := by decide +kernel
theorem dX1_friends_27 : decode cX1_friends 27 = .ok (.getfield 137, 3) := by decide +kernel
theorem dX1_friends_30 : decode cX1_friends 30 = .ok (.ifCond .ne 15, 3) := by decide +kernel
theorem dX1_friends_33 : decode cX1_friends 33 = .ok (.aload_n 0, 1) := by decide +kernel
theorem dX1_friends_34 : decode cX1_friends 34 = .ok (.getfield 11, 3) := by decide +kernel
theorem dX1_friends_37 : decode cX1_friends 37 = .ok (.iload_n 2, 1) := by decide +kernel
theorem dX1_friends_38 : decode cX1_friends 38 = .ok (.aaload, 1) := by decide +kernel
theorem dX1_friends_39 : decode cX1_friends 39 = .ok (.getfield 137, 3) := by decide +kernel
theorem dX1_friends_42 : decode cX1_friends 42 = .ok (.ifCond .eq 5, 3) := by decide +kernel
theorem dX1_friends_45 : decode cX1_friends 45 = .ok (.iconst 0, 1) := by decide +kernel
theorem dX1_friends_46 : decode cX1_friends 46 = .ok (.ireturn, 1) := by decide +kernel
theorem dX1_friends_47 : decode cX1_friends 47 = .ok (.aload_n 0, 1) := by decide +kernel
theorem dX1_friends_48 : decode cX1_friends 48 = .ok (.getfield 11, 3) := by decide +kernel
theorem dX1_friends_51 : decode cX1_friends 51 = .ok (.iload_n 1, 1) := by decide +kernel
theorem dX1_friends_52 : decode cX1_friends 52 = .ok (.aaload, 1) := by decide +kernel
theorem dX1_friends_53 : decode cX1_friends 53 = .ok (.astore 4, 2) := by decide +kernel
theorem dX1_friends_55 : decode cX1_friends 55 = .ok (.aload_n 0, 1) := by decide +kernel
theorem dX1_friends_56 : decode cX1_friends 56 = .ok (.getfield 11, 3) := by decide +kernel
theorem dX1_friends_59 : decode cX1_friends 59 = .ok (.iload_n 2, 1) := by decide +kernel
theorem dX1_friends_60 : decode cX1_friends 60 = .ok (.aaload, 1) := by decide +kernel
theorem dX1_friends_61 : decode cX1_friends 61 = .ok (.astore 5, 2) := by decide +kernel
theorem dX1_friends_63 : decode cX1_friends 63 = .ok (.iload_n 3, 1) := by decide +kernel
theorem dX1_friends_64 : decode cX1_friends 64 = .ok (.ifCond .eq 22, 3) := by decide +kernel
theorem dX1_friends_67 : decode cX1_friends 67 = .ok (.aload 4, 2) := by decide +kernel
theorem dX1_friends_69 : decode cX1_friends 69 = .ok (.getfield 141, 3) := by decide +kernel
theorem dX1_friends_72 : decode cX1_friends 72 = .ok (.ifnonnull 24, 3) := by decide +kernel
theorem dX1_friends_75 : decode cX1_friends 75 = .ok (.aload 5, 2) := by decide +kernel
theorem dX1_friends_77 : decode cX1_friends 77 = .ok (.getfield 141, 3) := by decide +kernel
theorem dX1_friends_80 : decode cX1_friends 80 = .ok (.ifnull 18, 3) := by decide +kernel
theorem dX1_friends_83 : decode cX1_friends 83 = .ok (.goto 13, 3) := by decide +kernel
theorem dX1_friends_86 : decode cX1_friends 86 = .ok (.aload 4, 2) := by decide +kernel
theorem dX1_friends_88 : decode cX1_friends 88 = .ok (.getfield 141, 3) := by decide +kernel
theorem dX1_friends_91 : decode cX1_friends 91 = .ok (.aload 5, 2) := by decide +kernel
theorem dX1_friends_93 : decode cX1_friends 93 = .ok (.if_acmp .eq 5, 3) := by decide +kernel
theorem dX1_friends_96 : decode cX1_friends 96 = .ok (.iconst 0, 1) := by decide +kernel
theorem dX1_friends_97 : decode cX1_friends 97 = .ok (.ireturn, 1) := by decide +kernel
theorem dX1_friends_98 : decode cX1_friends 98 = .ok (.aload 4, 2) := by decide +kernel
theorem dX1_friends_100 : decode cX1_friends 100 = .ok (.iload_n 3, 1) := by decide +kernel
theorem dX1_friends_101 : decode cX1_friends 101 = .ok (.ifCond .eq 8, 3) := by decide +kernel
theorem dX1_friends_104 : decode cX1_friends 104 = .ok (.aload 5, 2) := by decide +kernel
theorem dX1_friends_106 : decode cX1_friends 106 = .ok (.goto 4, 3) := by decide +kernel
theorem dX1_friends_109 : decode cX1_friends 109 = .ok (.aconst_null, 1) := by decide +kernel
theorem dX1_friends_110 : decode cX1_friends 110 = .ok (.putfield 141, 3) := by decide +kernel
theorem dX1_friends_113 : decode cX1_friends 113 = .ok (.aload 5, 2) := by decide +kernel
theorem dX1_friends_115 : decode cX1_friends 115 = .ok (.iload_n 3, 1) := by decide +kernel
theorem dX1_friends_116 : decode cX1_friends 116 = .ok (.ifCond .eq 8, 3) := by decide +kernel
theorem dX1_friends_119 : decode cX1_friends 119 = .ok (.aload 4, 2) := by decide +kernel
theorem dX1_friends_121 : decode cX1_friends 121 = .ok (.goto 4, 3) := by decide +kernel
theorem dX1_friends_124 : decode cX1_friends 124 = .ok (.aconst_null, 1) := by decide +kernel
theorem dX1_friends_125 : decode cX1_friends 125 = .ok (.putfield 141, 3) := by decide +kernel
theorem dX1_friends_128 : decode cX1_friends 128 = .ok (.iconst 1, 1) := by decide +kernel
theorem dX1_friends_129 : decode cX1_friends 129 = .ok (.ireturn, 1) := by decide +kernel
abbrev cX1_isPerson : ByteArray := prog_1_method_3_code
def yX1_isPerson : MethodName := ⟨RX1, "isPerson", "(I)Z"⟩
theorem dX1_isPerson_0 : decode cX1_isPerson 0 = .ok (.iload_n 1, 1) := by decide +kernel
theorem dX1_isPerson_1 : decode cX1_isPerson 1 = .ok (.iconst 0, 1) := by decide +kernel
theorem dX1_isPerson_2 : decode cX1_isPerson 2 = .ok (.aload_n 0, 1) := by decide +kernel
theorem dX1_isPerson_3 : decode cX1_isPerson 3 = .ok (.getfield 105, 3) := by decide +kernel
theorem dX1_isPerson_6 : decode cX1_isPerson 6 = .ok (.iconst 1, 1) := by decide +kernel
theorem dX1_isPerson_7 : decode cX1_isPerson 7 = .ok (.isub, 1) := by decide +kernel
theorem dX1_isPerson_8 : decode cX1_isPerson 8 = .ok (.invokestatic 108, 3) := by decide +kernel
theorem dX1_isPerson_11 : decode cX1_isPerson 11 = .ok (.ireturn, 1) := by decide +kernel
abbrev cX1_bar : ByteArray := prog_1_method_9_code
def yX1_bar : MethodName := ⟨RX1, "bar", "(IIZ)Z"⟩
theorem dX1_bar_0 : decode cX1_bar 0 = .ok (.aload_n 0, 1) := by decide +kernel
theorem dX1_bar_1 : decode cX1_bar 1 = .ok (.iload_n 1, 1) := by decide +kernel
theorem dX1_bar_2 : decode cX1_bar 2 = .ok (.invokevirtual 134, 3) := by decide +kernel
theorem dX1_bar_5 : decode cX1_bar 5 = .ok (.ifCond .eq 42, 3) := by decide +kernel
theorem dX1_bar_8 : decode cX1_bar 8 = .ok (.aload_n 0, 1) := by decide +kernel
theorem dX1_bar_9 : decode cX1_bar 9 = .ok (.iload_n 2, 1) := by decide +kernel
theorem dX1_bar_10 : decode cX1_bar 10 = .ok (.invokevirtual 134, 3) := by decide +kernel
theorem dX1_bar_13 : decode cX1_bar 13 = .ok (.ifCond .eq 34, 3) := by decide +kernel
theorem dX1_bar_16 : decode cX1_bar 16 = .ok (.iload_n 1, 1) := by decide +kernel
theorem dX1_bar_17 : decode cX1_bar 17 = .ok (.iload_n 2, 1) := by decide +kernel
theorem dX1_bar_18 : decode cX1_bar 18 = .ok (.if_icmp .eq 29, 3) := by decide +kernel
theorem dX1_bar_21 : decode cX1_bar 21 = .ok (.aload_n 0, 1) := by decide +kernel
theorem dX1_bar_22 : decode cX1_bar 22 = .ok (.getfield 11, 3) := by decide +kernel
theorem dX1_bar_25 : decode cX1_bar 25 = .ok (.iload_n 1, 1) := by decide +kernel
theorem dX1_bar_26 : decode cX1_bar 26 = .ok (.aaload, 1) := by decide +kernel
theorem dX1_bar_27 : decode cX1_bar 27 = .ok (.getfield 145, 3) := by decide +kernel
theorem dX1_bar_30 : decode cX1_bar 30 = .ok (.iload_n 2, 1) := by decide +kernel
theorem dX1_bar_31 : decode cX1_bar 31 = .ok (.ishr, 1) := by decide +kernel
theorem dX1_bar_32 : decode cX1_bar 32 = .ok (.iconst 1, 1) := by decide +kernel
theorem dX1_bar_33 : decode cX1_bar 33 = .ok (.iand, 1) := by decide +kernel
theorem dX1_bar_34 : decode cX1_bar 34 = .ok (.iconst 1, 1) := by decide +kernel
theorem dX1_bar_35 : decode cX1_bar 35 = .ok (.if_icmp .ne 7, 3) := by decide +kernel
theorem dX1_bar_38 : decode cX1_bar 38 = .ok (.iconst 1, 1) := by decide +kernel
theorem dX1_bar_39 : decode cX1_bar 39 = .ok (.goto 4, 3) := by decide +kernel
theorem dX1_bar_42 : decode cX1_bar 42 = .ok (.iconst 0, 1) := by decide +kernel
theorem dX1_bar_43 : decode cX1_bar 43 = .ok (.iload_n 3, 1) := by decide +kernel
theorem dX1_bar_44 : decode cX1_bar 44 = .ok (.if_icmp .ne 5, 3) := by decide +kernel
theorem dX1_bar_47 : decode cX1_bar 47 = .ok (.iconst 0, 1) := by decide +kernel
theorem dX1_bar_48 : decode cX1_bar 48 = .ok (.ireturn, 1) := by decide +kernel
theorem dX1_bar_49 : decode cX1_bar 49 = .ok (.aload_n 0, 1) := by decide +kernel
theorem dX1_bar_50 : decode cX1_bar 50 = .ok (.getfield 11, 3) := by decide +kernel
theorem dX1_bar_53 : decode cX1_bar 53 = .ok (.iload_n 1, 1) := by decide +kernel
theorem dX1_bar_54 : decode cX1_bar 54 = .ok (.aaload, 1) := by decide +kernel
theorem dX1_bar_55 : decode cX1_bar 55 = .ok (.dup, 1) := by decide +kernel
theorem dX1_bar_56 : decode cX1_bar 56 = .ok (.getfield 145, 3) := by decide +kernel
theorem dX1_bar_59 : decode cX1_bar 59 = .ok (.iconst 1, 1) := by decide +kernel
theorem dX1_bar_60 : decode cX1_bar 60 = .ok (.iload_n 2, 1) := by decide +kernel
theorem dX1_bar_61 : decode cX1_bar 61 = .ok (.ishl, 1) := by decide +kernel
theorem dX1_bar_62 : decode cX1_bar 62 = .ok (.ixor, 1) := by decide +kernel
theorem dX1_bar_63 : decode cX1_bar 63 = .ok (.putfield 145, 3) := by decide +kernel
theorem dX1_bar_66 : decode cX1_bar 66 = .ok (.aload_n 0, 1) := by decide +kernel
theorem dX1_bar_67 : decode cX1_bar 67 = .ok (.getfield 11, 3) := by decide +kernel
theorem dX1_bar_70 : decode cX1_bar 70 = .ok (.iload_n 2, 1) := by decide +kernel
theorem dX1_bar_71 : decode cX1_bar 71 = .ok (.aaload, 1) := by decide +kernel
theorem dX1_bar_72 : decode cX1_bar 72 = .ok (.dup, 1) := by decide +kernel
theorem dX1_bar_73 : decode cX1_bar 73 = .ok (.getfield 145, 3) := by decide +kernel
theorem dX1_bar_76 : decode cX1_bar 76 = .ok (.iconst 1, 1) := by decide +kernel
theorem dX1_bar_77 : decode cX1_bar 77 = .ok (.iload_n 1, 1) := by decide +kernel
theorem dX1_bar_78 : decode cX1_bar 78 = .ok (.ishl, 1) := by decide +kernel
theorem dX1_bar_79 : decode cX1_bar 79 = .ok (.ixor, 1) := by decide +kernel
theorem dX1_bar_80 : decode cX1_bar 80 = .ok (.putfield 145, 3) := by decide +kernel
theorem dX1_bar_83 : decode cX1_bar 83 = .ok (.iconst 1, 1) := by decide +kernel
theorem dX1_bar_84 : decode cX1_bar 84 = .ok (.ireturn, 1) := by decide +kernel
abbrev cX1_stays : ByteArray := prog_1_method_13_code
def yX1_stays : MethodName := ⟨RX1, "stays", "(III)Z"⟩
theorem dX1_stays_0 : decode cX1_stays 0 = .ok (.aload_n 0, 1) := by decide +kernel
theorem dX1_stays_1 : decode cX1_stays 1 = .ok (.iload_n 1, 1) := by decide +kernel
theorem dX1_stays_2 : decode cX1_stays 2 = .ok (.invokevirtual 134, 3) := by decide +kernel
theorem dX1_stays_5 : decode cX1_stays 5 = .ok (.ifCond .eq 44, 3) := by decide +kernel
theorem dX1_stays_8 : decode cX1_stays 8 = .ok (.aload_n 0, 1) := by decide +kernel
theorem dX1_stays_9 : decode cX1_stays 9 = .ok (.getfield 11, 3) := by decide +kernel
theorem dX1_stays_12 : decode cX1_stays 12 = .ok (.iload_n 1, 1) := by decide +kernel
theorem dX1_stays_13 : decode cX1_stays 13 = .ok (.aaload, 1) := by decide +kernel
theorem dX1_stays_14 : decode cX1_stays 14 = .ok (.getfield 137, 3) := by decide +kernel
theorem dX1_stays_17 : decode cX1_stays 17 = .ok (.ifCond .ne 32, 3) := by decide +kernel
theorem dX1_stays_20 : decode cX1_stays 20 = .ok (.iload_n 2, 1) := by decide +kernel
theorem dX1_stays_21 : decode cX1_stays 21 = .ok (.iconst 0, 1) := by decide +kernel
theorem dX1_stays_22 : decode cX1_stays 22 = .ok (.iconst 5, 1) := by decide +kernel
theorem dX1_stays_23 : decode cX1_stays 23 = .ok (.invokestatic 108, 3) := by decide +kernel
theorem dX1_stays_26 : decode cX1_stays 26 = .ok (.ifCond .eq 23, 3) := by decide +kernel
theorem dX1_stays_29 : decode cX1_stays 29 = .ok (.iload_n 3, 1) := by decide +kernel
theorem dX1_stays_30 : decode cX1_stays 30 = .ok (.iload_n 2, 1) := by decide +kernel
theorem dX1_stays_31 : decode cX1_stays 31 = .ok (.iconst 5, 1) := by decide +kernel
theorem dX1_stays_32 : decode cX1_stays 32 = .ok (.invokestatic 108, 3) := by decide +kernel
theorem dX1_stays_35 : decode cX1_stays 35 = .ok (.ifCond .eq 14, 3) := by decide +kernel
theorem dX1_stays_38 : decode cX1_stays 38 = .ok (.aload_n 0, 1) := by decide +kernel
theorem dX1_stays_39 : decode cX1_stays 39 = .ok (.iload_n 1, 1) := by decide +kernel
theorem dX1_stays_40 : decode cX1_stays 40 = .ok (.iconst 0, 1) := by decide +kernel
theorem dX1_stays_41 : decode cX1_stays 41 = .ok (.iload_n 2, 1) := by decide +kernel
theorem dX1_stays_42 : decode cX1_stays 42 = .ok (.iload_n 3, 1) := by decide +kernel
theorem dX1_stays_43 : decode cX1_stays 43 = .ok (.invokevirtual 168, 3) := by decide +kernel
theorem dX1_stays_46 : decode cX1_stays 46 = .ok (.ifCond .ne 5, 3) := by decide +kernel
theorem dX1_stays_49 : decode cX1_stays 49 = .ok (.iconst 0, 1) := by decide +kernel
theorem dX1_stays_50 : decode cX1_stays 50 = .ok (.ireturn, 1) := by decide +kernel
theorem dX1_stays_51 : decode cX1_stays 51 = .ok (.aload_n 0, 1) := by decide +kernel
theorem dX1_stays_52 : decode cX1_stays 52 = .ok (.getfield 11, 3) := by decide +kernel
theorem dX1_stays_55 : decode cX1_stays 55 = .ok (.iload_n 1, 1) := by decide +kernel
theorem dX1_stays_56 : decode cX1_stays 56 = .ok (.aaload, 1) := by decide +kernel
theorem dX1_stays_57 : decode cX1_stays 57 = .ok (.iload_n 2, 1) := by decide +kernel
theorem dX1_stays_58 : decode cX1_stays 58 = .ok (.putfield 172, 3) := by decide +kernel
theorem dX1_stays_61 : decode cX1_stays 61 = .ok (.aload_n 0, 1) := by decide +kernel
theorem dX1_stays_62 : decode cX1_stays 62 = .ok (.getfield 11, 3) := by decide +kernel
theorem dX1_stays_65 : decode cX1_stays 65 = .ok (.iload_n 1, 1) := by decide +kernel
theorem dX1_stays_66 : decode cX1_stays 66 = .ok (.aaload, 1) := by decide +kernel
theorem dX1_stays_67 : decode cX1_stays 67 = .ok (.iload_n 3, 1) := by decide +kernel
theorem dX1_stays_68 : decode cX1_stays 68 = .ok (.putfield 175, 3) := by decide +kernel
theorem dX1_stays_71 : decode cX1_stays 71 = .ok (.iconst 1, 1) := by decide +kernel
theorem dX1_stays_72 : decode cX1_stays 72 = .ok (.ireturn, 1) := by decide +kernel
abbrev cX1_leaves : ByteArray := prog_1_method_12_code
def yX1_leaves : MethodName := ⟨RX1, "leaves", "(IZII)Z"⟩
theorem dX1_leaves_0 : decode cX1_leaves 0 = .ok (.iconst 0, 1) := by decide +kernel
theorem dX1_leaves_1 : decode cX1_leaves 1 = .ok (.istore 5, 2) := by decide +kernel
theorem dX1_leaves_3 : decode cX1_leaves 3 = .ok (.iconst 0, 1) := by decide +kernel
theorem dX1_leaves_4 : decode cX1_leaves 4 = .ok (.istore 6, 2) := by decide +kernel
theorem dX1_leaves_6 : decode cX1_leaves 6 = .ok (.iload 6, 2) := by decide +kernel
theorem dX1_leaves_8 : decode cX1_leaves 8 = .ok (.aload_n 0, 1) := by decide +kernel
theorem dX1_leaves_9 : decode cX1_leaves 9 = .ok (.getfield 112, 3) := by decide +kernel
theorem dX1_leaves_12 : decode cX1_leaves 12 = .ok (.if_icmp .ge 33, 3) := by decide +kernel
theorem dX1_leaves_15 : decode cX1_leaves 15 = .ok (.iload 5, 2) := by decide +kernel
theorem dX1_leaves_17 : decode cX1_leaves 17 = .ok (.aload_n 0, 1) := by decide +kernel
theorem dX1_leaves_18 : decode cX1_leaves 18 = .ok (.iload 6, 2) := by decide +kernel
theorem dX1_leaves_20 : decode cX1_leaves 20 = .ok (.iload_n 1, 1) := by decide +kernel
theorem dX1_leaves_21 : decode cX1_leaves 21 = .ok (.iload_n 2, 1) := by decide +kernel
theorem dX1_leaves_22 : decode cX1_leaves 22 = .ok (.iload_n 3, 1) := by decide +kernel
theorem dX1_leaves_23 : decode cX1_leaves 23 = .ok (.iload 4, 2) := by decide +kernel
theorem dX1_leaves_25 : decode cX1_leaves 25 = .ok (.invokevirtual 160, 3) := by decide +kernel
theorem dX1_leaves_28 : decode cX1_leaves 28 = .ok (.ifCond .eq 7, 3) := by decide +kernel
theorem dX1_leaves_31 : decode cX1_leaves 31 = .ok (.iconst 1, 1) := by decide +kernel
theorem dX1_leaves_32 : decode cX1_leaves 32 = .ok (.goto 4, 3) := by decide +kernel
theorem dX1_leaves_35 : decode cX1_leaves 35 = .ok (.iconst 0, 1) := by decide +kernel
theorem dX1_leaves_36 : decode cX1_leaves 36 = .ok (.iadd, 1) := by decide +kernel
theorem dX1_leaves_37 : decode cX1_leaves 37 = .ok (.istore 5, 2) := by decide +kernel
theorem dX1_leaves_39 : decode cX1_leaves 39 = .ok (.iinc 6 1, 3) := by decide +kernel
theorem dX1_leaves_42 : decode cX1_leaves 42 = .ok (.goto (-36), 3) := by decide +kernel
theorem dX1_leaves_45 : decode cX1_leaves 45 = .ok (.aload_n 0, 1) := by decide +kernel
theorem dX1_leaves_46 : decode cX1_leaves 46 = .ok (.getfield 151, 3) := by decide +kernel
theorem dX1_leaves_49 : decode cX1_leaves 49 = .ok (.iload 5, 2) := by decide +kernel
theorem dX1_leaves_51 : decode cX1_leaves 51 = .ok (.iadd, 1) := by decide +kernel
theorem dX1_leaves_52 : decode cX1_leaves 52 = .ok (.sipush 500, 3) := by decide +kernel
theorem dX1_leaves_55 : decode cX1_leaves 55 = .ok (.if_icmp .le 5, 3) := by decide +kernel
theorem dX1_leaves_58 : decode cX1_leaves 58 = .ok (.iconst 0, 1) := by decide +kernel
theorem dX1_leaves_59 : decode cX1_leaves 59 = .ok (.ireturn, 1) := by decide +kernel
theorem dX1_leaves_60 : decode cX1_leaves 60 = .ok (.iconst 0, 1) := by decide +kernel
theorem dX1_leaves_61 : decode cX1_leaves 61 = .ok (.istore 6, 2) := by decide +kernel
theorem dX1_leaves_63 : decode cX1_leaves 63 = .ok (.iload 6, 2) := by decide +kernel
theorem dX1_leaves_65 : decode cX1_leaves 65 = .ok (.aload_n 0, 1) := by decide +kernel
theorem dX1_leaves_66 : decode cX1_leaves 66 = .ok (.getfield 112, 3) := by decide +kernel
theorem dX1_leaves_69 : decode cX1_leaves 69 = .ok (.if_icmp .ge 31, 3) := by decide +kernel
theorem dX1_leaves_72 : decode cX1_leaves 72 = .ok (.aload_n 0, 1) := by decide +kernel
theorem dX1_leaves_73 : decode cX1_leaves 73 = .ok (.iload 6, 2) := by decide +kernel
theorem dX1_leaves_75 : decode cX1_leaves 75 = .ok (.iload_n 1, 1) := by decide +kernel
theorem dX1_leaves_76 : decode cX1_leaves 76 = .ok (.iload_n 2, 1) := by decide +kernel
theorem dX1_leaves_77 : decode cX1_leaves 77 = .ok (.iload_n 3, 1) := by decide +kernel
theorem dX1_leaves_78 : decode cX1_leaves 78 = .ok (.iload 4, 2) := by decide +kernel
theorem dX1_leaves_80 : decode cX1_leaves 80 = .ok (.invokevirtual 160, 3) := by decide +kernel
theorem dX1_leaves_83 : decode cX1_leaves 83 = .ok (.ifCond .eq 11, 3) := by decide +kernel
theorem dX1_leaves_86 : decode cX1_leaves 86 = .ok (.aload_n 0, 1) := by decide +kernel
theorem dX1_leaves_87 : decode cX1_leaves 87 = .ok (.iload 6, 2) := by decide +kernel
theorem dX1_leaves_89 : decode cX1_leaves 89 = .ok (.iload_n 1, 1) := by decide +kernel
theorem dX1_leaves_90 : decode cX1_leaves 90 = .ok (.iconst (-1), 1) := by decide +kernel
theorem dX1_leaves_91 : decode cX1_leaves 91 = .ok (.invokevirtual 164, 3) := by decide +kernel
theorem dX1_leaves_94 : decode cX1_leaves 94 = .ok (.iinc 6 1, 3) := by decide +kernel
theorem dX1_leaves_97 : decode cX1_leaves 97 = .ok (.goto (-34), 3) := by decide +kernel
theorem dX1_leaves_100 : decode cX1_leaves 100 = .ok (.iconst 1, 1) := by decide +kernel
theorem dX1_leaves_101 : decode cX1_leaves 101 = .ok (.ireturn, 1) := by decide +kernel
abbrev cX1_falls : ByteArray := prog_1_method_11_code
def yX1_falls : MethodName := ⟨RX1, "falls", "(IIZII)Z"⟩
theorem dX1_falls_0 : decode cX1_falls 0 = .ok (.aload_n 0, 1) := by decide +kernel
theorem dX1_falls_1 : decode cX1_falls 1 = .ok (.iload_n 1, 1) := by decide +kernel
theorem dX1_falls_2 : decode cX1_falls 2 = .ok (.invokevirtual 157, 3) := by decide +kernel
theorem dX1_falls_5 : decode cX1_falls 5 = .ok (.ifCond .ne 37, 3) := by decide +kernel
theorem dX1_falls_8 : decode cX1_falls 8 = .ok (.aload_n 0, 1) := by decide +kernel
theorem dX1_falls_9 : decode cX1_falls 9 = .ok (.getfield 17, 3) := by decide +kernel
theorem dX1_falls_12 : decode cX1_falls 12 = .ok (.iload_n 1, 1) := by decide +kernel
theorem dX1_falls_13 : decode cX1_falls 13 = .ok (.aaload, 1) := by decide +kernel
theorem dX1_falls_14 : decode cX1_falls 14 = .ok (.getfield 148, 3) := by decide +kernel
theorem dX1_falls_17 : decode cX1_falls 17 = .ok (.iload_n 2, 1) := by decide +kernel
theorem dX1_falls_18 : decode cX1_falls 18 = .ok (.iaload, 1) := by decide +kernel
theorem dX1_falls_19 : decode cX1_falls 19 = .ok (.iconst (-1), 1) := by decide +kernel
theorem dX1_falls_20 : decode cX1_falls 20 = .ok (.if_icmp .eq 22, 3) := by decide +kernel
theorem dX1_falls_23 : decode cX1_falls 23 = .ok (.iload_n 3, 1) := by decide +kernel
theorem dX1_falls_24 : decode cX1_falls 24 = .ok (.ifCond .ne 14, 3) := by decide +kernel
theorem dX1_falls_27 : decode cX1_falls 27 = .ok (.iload_n 1, 1) := by decide +kernel
theorem dX1_falls_28 : decode cX1_falls 28 = .ok (.iload 4, 2) := by decide +kernel
theorem dX1_falls_30 : decode cX1_falls 30 = .ok (.iload 5, 2) := by decide +kernel
theorem dX1_falls_32 : decode cX1_falls 32 = .ok (.invokestatic 108, 3) := by decide +kernel
theorem dX1_falls_35 : decode cX1_falls 35 = .ok (.ifCond .ne 7, 3) := by decide +kernel
theorem dX1_falls_38 : decode cX1_falls 38 = .ok (.iconst 1, 1) := by decide +kernel
theorem dX1_falls_39 : decode cX1_falls 39 = .ok (.goto 4, 3) := by decide +kernel
theorem dX1_falls_42 : decode cX1_falls 42 = .ok (.iconst 0, 1) := by decide +kernel
theorem dX1_falls_43 : decode cX1_falls 43 = .ok (.ireturn, 1) := by decide +kernel
abbrev cX1_isOver : ByteArray := prog_1_method_5_code
def yX1_isOver : MethodName := ⟨RX1, "isOver", "(I)Z"⟩
theorem dX1_isOver_0 : decode cX1_isOver 0 = .ok (.aload_n 0, 1) := by decide +kernel
theorem dX1_isOver_1 : decode cX1_isOver 1 = .ok (.getfield 115, 3) := by decide +kernel
theorem dX1_isOver_4 : decode cX1_isOver 4 = .ok (.aload_n 0, 1) := by decide +kernel
theorem dX1_isOver_5 : decode cX1_isOver 5 = .ok (.getfield 17, 3) := by decide +kernel
theorem dX1_isOver_8 : decode cX1_isOver 8 = .ok (.iload_n 1, 1) := by decide +kernel
theorem dX1_isOver_9 : decode cX1_isOver 9 = .ok (.aaload, 1) := by decide +kernel
theorem dX1_isOver_10 : decode cX1_isOver 10 = .ok (.getfield 118, 3) := by decide +kernel
theorem dX1_isOver_13 : decode cX1_isOver 13 = .ok (.aload_n 0, 1) := by decide +kernel
theorem dX1_isOver_14 : decode cX1_isOver 14 = .ok (.getfield 17, 3) := by decide +kernel
theorem dX1_isOver_17 : decode cX1_isOver 17 = .ok (.iload_n 1, 1) := by decide +kernel
theorem dX1_isOver_18 : decode cX1_isOver 18 = .ok (.aaload, 1) := by decide +kernel
theorem dX1_isOver_19 : decode cX1_isOver 19 = .ok (.getfield 121, 3) := by decide +kernel
theorem dX1_isOver_22 : decode cX1_isOver 22 = .ok (.iadd, 1) := by decide +kernel
theorem dX1_isOver_23 : decode cX1_isOver 23 = .ok (.if_icmp .lt 7, 3) := by decide +kernel
theorem dX1_isOver_26 : decode cX1_isOver 26 = .ok (.iconst 1, 1) := by decide +kernel
theorem dX1_isOver_27 : decode cX1_isOver 27 = .ok (.goto 4, 3) := by decide +kernel
theorem dX1_isOver_30 : decode cX1_isOver 30 = .ok (.iconst 0, 1) := by decide +kernel
theorem dX1_isOver_31 : decode cX1_isOver 31 = .ok (.ireturn, 1) := by decide +kernel
abbrev cX1_note : ByteArray := prog_1_method_10_code
def yX1_note : MethodName := ⟨RX1, "note", "(III)V"⟩
theorem dX1_note_0 : decode cX1_note 0 = .ok (.aload_n 0, 1) := by decide +kernel
theorem dX1_note_1 : decode cX1_note 1 = .ok (.getfield 17, 3) := by decide +kernel
theorem dX1_note_4 : decode cX1_note 4 = .ok (.iload_n 1, 1) := by decide +kernel
theorem dX1_note_5 : decode cX1_note 5 = .ok (.aaload, 1) := by decide +kernel
theorem dX1_note_6 : decode cX1_note 6 = .ok (.getfield 148, 3) := by decide +kernel
theorem dX1_note_9 : decode cX1_note 9 = .ok (.iload_n 2, 1) := by decide +kernel
theorem dX1_note_10 : decode cX1_note 10 = .ok (.iload_n 3, 1) := by decide +kernel
theorem dX1_note_11 : decode cX1_note 11 = .ok (.iastore, 1) := by decide +kernel
theorem dX1_note_12 : decode cX1_note 12 = .ok (.aload_n 0, 1) := by decide +kernel
theorem dX1_note_13 : decode cX1_note 13 = .ok (.getfield 28, 3) := by decide +kernel
theorem dX1_note_16 : decode cX1_note 16 = .ok (.aload_n 0, 1) := by decide +kernel
theorem dX1_note_17 : decode cX1_note 17 = .ok (.getfield 151, 3) := by decide +kernel
theorem dX1_note_20 : decode cX1_note 20 = .ok (.iload_n 1, 1) := by decide +kernel
theorem dX1_note_21 : decode cX1_note 21 = .ok (.iastore, 1) := by decide +kernel
theorem dX1_note_22 : decode cX1_note 22 = .ok (.aload_n 0, 1) := by decide +kernel
theorem dX1_note_23 : decode cX1_note 23 = .ok (.getfield 32, 3) := by decide +kernel
theorem dX1_note_26 : decode cX1_note 26 = .ok (.aload_n 0, 1) := by decide +kernel
theorem dX1_note_27 : decode cX1_note 27 = .ok (.getfield 151, 3) := by decide +kernel
theorem dX1_note_30 : decode cX1_note 30 = .ok (.iload_n 2, 1) := by decide +kernel
theorem dX1_note_31 : decode cX1_note 31 = .ok (.iastore, 1) := by decide +kernel
theorem dX1_note_32 : decode cX1_note 32 = .ok (.aload_n 0, 1) := by decide +kernel
theorem dX1_note_33 : decode cX1_note 33 = .ok (.getfield 35, 3) := by decide +kernel
theorem dX1_note_36 : decode cX1_note 36 = .ok (.aload_n 0, 1) := by decide +kernel
theorem dX1_note_37 : decode cX1_note 37 = .ok (.getfield 151, 3) := by decide +kernel
theorem dX1_note_40 : decode cX1_note 40 = .ok (.iload_n 3, 1) := by decide +kernel
theorem dX1_note_41 : decode cX1_note 41 = .ok (.iastore, 1) := by decide +kernel
theorem dX1_note_42 : decode cX1_note 42 = .ok (.aload_n 0, 1) := by decide +kernel
theorem dX1_note_43 : decode cX1_note 43 = .ok (.getfield 38, 3) := by decide +kernel
theorem dX1_note_46 : decode cX1_note 46 = .ok (.aload_n 0, 1) := by decide +kernel
theorem dX1_note_47 : decode cX1_note 47 = .ok (.getfield 151, 3) := by decide +kernel
theorem dX1_note_50 : decode cX1_note 50 = .ok (.aload_n 0, 1) := by decide +kernel
theorem dX1_note_51 : decode cX1_note 51 = .ok (.getfield 154, 3) := by decide +kernel
theorem dX1_note_54 : decode cX1_note 54 = .ok (.iastore, 1) := by decide +kernel
theorem dX1_note_55 : decode cX1_note 55 = .ok (.aload_n 0, 1) := by decide +kernel
theorem dX1_note_56 : decode cX1_note 56 = .ok (.dup, 1) := by decide +kernel
theorem dX1_note_57 : decode cX1_note 57 = .ok (.getfield 151, 3) := by decide +kernel
theorem dX1_note_60 : decode cX1_note 60 = .ok (.iconst 1, 1) := by decide +kernel
theorem dX1_note_61 : decode cX1_note 61 = .ok (.iadd, 1) := by decide +kernel
theorem dX1_note_62 : decode cX1_note 62 = .ok (.putfield 151, 3) := by decide +kernel
theorem dX1_note_65 : decode cX1_note 65 = .ok (.return_, 1) := by decide +kernel
abbrev cX1_gone : ByteArray := prog_1_method_14_code
def yX1_gone : MethodName := ⟨RX1, "gone", "(I)Z"⟩
theorem dX1_gone_0 : decode cX1_gone 0 = .ok (.aload_n 0, 1) := by decide +kernel
theorem dX1_gone_1 : decode cX1_gone 1 = .ok (.iload_n 1, 1) := by decide +kernel
theorem dX1_gone_2 : decode cX1_gone 2 = .ok (.invokevirtual 134, 3) := by decide +kernel
theorem dX1_gone_5 : decode cX1_gone 5 = .ok (.ifCond .eq 26, 3) := by decide +kernel
theorem dX1_gone_8 : decode cX1_gone 8 = .ok (.aload_n 0, 1) := by decide +kernel
theorem dX1_gone_9 : decode cX1_gone 9 = .ok (.getfield 11, 3) := by decide +kernel
theorem dX1_gone_12 : decode cX1_gone 12 = .ok (.iload_n 1, 1) := by decide +kernel
theorem dX1_gone_13 : decode cX1_gone 13 = .ok (.aaload, 1) := by decide +kernel
theorem dX1_gone_14 : decode cX1_gone 14 = .ok (.getfield 137, 3) := by decide +kernel
theorem dX1_gone_17 : decode cX1_gone 17 = .ok (.ifCond .ne 14, 3) := by decide +kernel
theorem dX1_gone_20 : decode cX1_gone 20 = .ok (.aload_n 0, 1) := by decide +kernel
theorem dX1_gone_21 : decode cX1_gone 21 = .ok (.iload_n 1, 1) := by decide +kernel
theorem dX1_gone_22 : decode cX1_gone 22 = .ok (.iconst 1, 1) := by decide +kernel
theorem dX1_gone_23 : decode cX1_gone 23 = .ok (.iconst 0, 1) := by decide +kernel
theorem dX1_gone_24 : decode cX1_gone 24 = .ok (.iconst 0, 1) := by decide +kernel
theorem dX1_gone_25 : decode cX1_gone 25 = .ok (.invokevirtual 168, 3) := by decide +kernel
theorem dX1_gone_28 : decode cX1_gone 28 = .ok (.ifCond .ne 5, 3) := by decide +kernel
theorem dX1_gone_31 : decode cX1_gone 31 = .ok (.iconst 0, 1) := by decide +kernel
theorem dX1_gone_32 : decode cX1_gone 32 = .ok (.ireturn, 1) := by decide +kernel
theorem dX1_gone_33 : decode cX1_gone 33 = .ok (.aload_n 0, 1) := by decide +kernel
theorem dX1_gone_34 : decode cX1_gone 34 = .ok (.getfield 11, 3) := by decide +kernel
theorem dX1_gone_37 : decode cX1_gone 37 = .ok (.iload_n 1, 1) := by decide +kernel
theorem dX1_gone_38 : decode cX1_gone 38 = .ok (.aaload, 1) := by decide +kernel
theorem dX1_gone_39 : decode cX1_gone 39 = .ok (.astore_n 2, 1) := by decide +kernel
theorem dX1_gone_40 : decode cX1_gone 40 = .ok (.aload_n 2, 1) := by decide +kernel
theorem dX1_gone_41 : decode cX1_gone 41 = .ok (.iconst 1, 1) := by decide +kernel
theorem dX1_gone_42 : decode cX1_gone 42 = .ok (.putfield 137, 3) := by decide +kernel
theorem dX1_gone_45 : decode cX1_gone 45 = .ok (.aload_n 2, 1) := by decide +kernel
theorem dX1_gone_46 : decode cX1_gone 46 = .ok (.getfield 141, 3) := by decide +kernel
theorem dX1_gone_49 : decode cX1_gone 49 = .ok (.ifnull 11, 3) := by decide +kernel
theorem dX1_gone_52 : decode cX1_gone 52 = .ok (.aload_n 2, 1) := by decide +kernel
theorem dX1_gone_53 : decode cX1_gone 53 = .ok (.getfield 141, 3) := by decide +kernel
theorem dX1_gone_56 : decode cX1_gone 56 = .ok (.aconst_null, 1) := by decide +kernel
theorem dX1_gone_57 : decode cX1_gone 57 = .ok (.putfield 141, 3) := by decide +kernel
theorem dX1_gone_60 : decode cX1_gone 60 = .ok (.aload_n 2, 1) := by decide +kernel
theorem dX1_gone_61 : decode cX1_gone 61 = .ok (.aconst_null, 1) := by decide +kernel
theorem dX1_gone_62 : decode cX1_gone 62 = .ok (.putfield 141, 3) := by decide +kernel
theorem dX1_gone_65 : decode cX1_gone 65 = .ok (.iconst 1, 1) := by decide +kernel
theorem dX1_gone_66 : decode cX1_gone 66 = .ok (.ireturn, 1) := by decide +kernel
abbrev cX1_absent : ByteArray := prog_1_method_15_code
def yX1_absent : MethodName := ⟨RX1, "absent", "(IIZ)Z"⟩
theorem dX1_absent_0 : decode cX1_absent 0 = .ok (.aload_n 0, 1) := by decide +kernel
theorem dX1_absent_1 : decode cX1_absent 1 = .ok (.iload_n 1, 1) := by decide +kernel
theorem dX1_absent_2 : decode cX1_absent 2 = .ok (.invokevirtual 134, 3) := by decide +kernel
theorem dX1_absent_5 : decode cX1_absent 5 = .ok (.ifCond .eq 20, 3) := by decide +kernel
theorem dX1_absent_8 : decode cX1_absent 8 = .ok (.iload_n 2, 1) := by decide +kernel
theorem dX1_absent_9 : decode cX1_absent 9 = .ok (.aload_n 0, 1) := by decide +kernel
theorem dX1_absent_10 : decode cX1_absent 10 = .ok (.getfield 115, 3) := by decide +kernel
theorem dX1_absent_13 : decode cX1_absent 13 = .ok (.aload_n 0, 1) := by decide +kernel
theorem dX1_absent_14 : decode cX1_absent 14 = .ok (.getfield 178, 3) := by decide +kernel
theorem dX1_absent_17 : decode cX1_absent 17 = .ok (.iconst 1, 1) := by decide +kernel
theorem dX1_absent_18 : decode cX1_absent 18 = .ok (.isub, 1) := by decide +kernel
theorem dX1_absent_19 : decode cX1_absent 19 = .ok (.invokestatic 108, 3) := by decide +kernel
theorem dX1_absent_22 : decode cX1_absent 22 = .ok (.ifCond .ne 5, 3) := by decide +kernel
theorem dX1_absent_25 : decode cX1_absent 25 = .ok (.iconst 0, 1) := by decide +kernel
theorem dX1_absent_26 : decode cX1_absent 26 = .ok (.ireturn, 1) := by decide +kernel
theorem dX1_absent_27 : decode cX1_absent 27 = .ok (.aload_n 0, 1) := by decide +kernel
theorem dX1_absent_28 : decode cX1_absent 28 = .ok (.getfield 54, 3) := by decide +kernel
theorem dX1_absent_31 : decode cX1_absent 31 = .ok (.iload_n 2, 1) := by decide +kernel
theorem dX1_absent_32 : decode cX1_absent 32 = .ok (.aaload, 1) := by decide +kernel
theorem dX1_absent_33 : decode cX1_absent 33 = .ok (.iload_n 1, 1) := by decide +kernel
theorem dX1_absent_34 : decode cX1_absent 34 = .ok (.iload_n 3, 1) := by decide +kernel
theorem dX1_absent_35 : decode cX1_absent 35 = .ok (.bastore, 1) := by decide +kernel
theorem dX1_absent_36 : decode cX1_absent 36 = .ok (.iconst 1, 1) := by decide +kernel
theorem dX1_absent_37 : decode cX1_absent 37 = .ok (.ireturn, 1) := by decide +kernel
abbrev cX1_town : ByteArray := prog_1_method_16_code
def yX1_town : MethodName := ⟨RX1, "town", "(I)I"⟩
theorem dX1_town_0 : decode cX1_town 0 = .ok (.iload_n 1, 1) := by decide +kernel
theorem dX1_town_1 : decode cX1_town 1 = .ok (.iconst 1, 1) := by decide +kernel
theorem dX1_town_2 : decode cX1_town 2 = .ok (.iconst 5, 1) := by decide +kernel
theorem dX1_town_3 : decode cX1_town 3 = .ok (.invokestatic 108, 3) := by decide +kernel
theorem dX1_town_6 : decode cX1_town 6 = .ok (.ifCond .eq 19, 3) := by decide +kernel
theorem dX1_town_9 : decode cX1_town 9 = .ok (.aload_n 0, 1) := by decide +kernel
theorem dX1_town_10 : decode cX1_town 10 = .ok (.getfield 112, 3) := by decide +kernel
theorem dX1_town_13 : decode cX1_town 13 = .ok (.bipush 6, 2) := by decide +kernel
theorem dX1_town_15 : decode cX1_town 15 = .ok (.if_icmp .eq 10, 3) := by decide +kernel
theorem dX1_town_18 : decode cX1_town 18 = .ok (.aload_n 0, 1) := by decide +kernel
theorem dX1_town_19 : decode cX1_town 19 = .ok (.getfield 115, 3) := by decide +kernel
theorem dX1_town_22 : decode cX1_town 22 = .ok (.ifCond .le 5, 3) := by decide +kernel
theorem dX1_town_25 : decode cX1_town 25 = .ok (.iconst (-1), 1) := by decide +kernel
theorem dX1_town_26 : decode cX1_town 26 = .ok (.ireturn, 1) := by decide +kernel
theorem dX1_town_27 : decode cX1_town 27 = .ok (.aload_n 0, 1) := by decide +kernel
theorem dX1_town_28 : decode cX1_town 28 = .ok (.getfield 17, 3) := by decide +kernel
theorem dX1_town_31 : decode cX1_town 31 = .ok (.aload_n 0, 1) := by decide +kernel
theorem dX1_town_32 : decode cX1_town 32 = .ok (.getfield 112, 3) := by decide +kernel
theorem dX1_town_35 : decode cX1_town 35 = .ok (.new 15, 3) := by decide +kernel
theorem dX1_town_38 : decode cX1_town 38 = .ok (.dup, 1) := by decide +kernel
theorem dX1_town_39 : decode cX1_town 39 = .ok (.iload_n 1, 1) := by decide +kernel
theorem dX1_town_40 : decode cX1_town 40 = .ok (.aload_n 0, 1) := by decide +kernel
theorem dX1_town_41 : decode cX1_town 41 = .ok (.getfield 178, 3) := by decide +kernel
theorem dX1_town_44 : decode cX1_town 44 = .ok (.invokespecial 181, 3) := by decide +kernel
theorem dX1_town_47 : decode cX1_town 47 = .ok (.aastore, 1) := by decide +kernel
theorem dX1_town_48 : decode cX1_town 48 = .ok (.aload_n 0, 1) := by decide +kernel
theorem dX1_town_49 : decode cX1_town 49 = .ok (.dup, 1) := by decide +kernel
theorem dX1_town_50 : decode cX1_town 50 = .ok (.getfield 178, 3) := by decide +kernel
theorem dX1_town_53 : decode cX1_town 53 = .ok (.iload_n 1, 1) := by decide +kernel
theorem dX1_town_54 : decode cX1_town 54 = .ok (.iadd, 1) := by decide +kernel
theorem dX1_town_55 : decode cX1_town 55 = .ok (.putfield 178, 3) := by decide +kernel
theorem dX1_town_58 : decode cX1_town 58 = .ok (.aload_n 0, 1) := by decide +kernel
theorem dX1_town_59 : decode cX1_town 59 = .ok (.dup, 1) := by decide +kernel
theorem dX1_town_60 : decode cX1_town 60 = .ok (.getfield 112, 3) := by decide +kernel
theorem dX1_town_63 : decode cX1_town 63 = .ok (.iconst 1, 1) := by decide +kernel
theorem dX1_town_64 : decode cX1_town 64 = .ok (.iadd, 1) := by decide +kernel
theorem dX1_town_65 : decode cX1_town 65 = .ok (.putfield 112, 3) := by decide +kernel
theorem dX1_town_68 : decode cX1_town 68 = .ok (.aload_n 0, 1) := by decide +kernel
theorem dX1_town_69 : decode cX1_town 69 = .ok (.getfield 112, 3) := by decide +kernel
theorem dX1_town_72 : decode cX1_town 72 = .ok (.iconst 1, 1) := by decide +kernel
theorem dX1_town_73 : decode cX1_town 73 = .ok (.isub, 1) := by decide +kernel
theorem dX1_town_74 : decode cX1_town 74 = .ok (.ireturn, 1) := by decide +kernel
abbrev cX1_start : ByteArray := prog_1_method_17_code
def yX1_start : MethodName := ⟨RX1, "start", "(I)Z"⟩
theorem dX1_start_0 : decode cX1_start 0 = .ok (.iload_n 1, 1) := by decide +kernel
theorem dX1_start_1 : decode cX1_start 1 = .ok (.iconst 0, 1) := by decide +kernel
theorem dX1_start_2 : decode cX1_start 2 = .ok (.sipush 400, 3) := by decide +kernel
theorem dX1_start_5 : decode cX1_start 5 = .ok (.invokestatic 108, 3) := by decide +kernel
theorem dX1_start_8 : decode cX1_start 8 = .ok (.ifCond .eq 10, 3) := by decide +kernel
theorem dX1_start_11 : decode cX1_start 11 = .ok (.aload_n 0, 1) := by decide +kernel
theorem dX1_start_12 : decode cX1_start 12 = .ok (.getfield 115, 3) := by decide +kernel
theorem dX1_start_15 : decode cX1_start 15 = .ok (.ifCond .le 5, 3) := by decide +kernel
theorem dX1_start_18 : decode cX1_start 18 = .ok (.iconst 0, 1) := by decide +kernel
theorem dX1_start_19 : decode cX1_start 19 = .ok (.ireturn, 1) := by decide +kernel
theorem dX1_start_20 : decode cX1_start 20 = .ok (.aload_n 0, 1) := by decide +kernel
theorem dX1_start_21 : decode cX1_start 21 = .ok (.iload_n 1, 1) := by decide +kernel
theorem dX1_start_22 : decode cX1_start 22 = .ok (.putfield 21, 3) := by decide +kernel
theorem dX1_start_25 : decode cX1_start 25 = .ok (.iconst 1, 1) := by decide +kernel
theorem dX1_start_26 : decode cX1_start 26 = .ok (.ireturn, 1) := by decide +kernel
abbrev cX1_season : ByteArray := prog_1_method_18_code
def yX1_season : MethodName := ⟨RX1, "season", "(I)Z"⟩
theorem dX1_season_0 : decode cX1_season 0 = .ok (.iload_n 1, 1) := by decide +kernel
theorem dX1_season_1 : decode cX1_season 1 = .ok (.iconst 0, 1) := by decide +kernel
theorem dX1_season_2 : decode cX1_season 2 = .ok (.iconst 3, 1) := by decide +kernel
theorem dX1_season_3 : decode cX1_season 3 = .ok (.invokestatic 108, 3) := by decide +kernel
theorem dX1_season_6 : decode cX1_season 6 = .ok (.ifCond .ne 5, 3) := by decide +kernel
theorem dX1_season_9 : decode cX1_season 9 = .ok (.iconst 0, 1) := by decide +kernel
theorem dX1_season_10 : decode cX1_season 10 = .ok (.ireturn, 1) := by decide +kernel
theorem dX1_season_11 : decode cX1_season 11 = .ok (.aload_n 0, 1) := by decide +kernel
theorem dX1_season_12 : decode cX1_season 12 = .ok (.iload_n 1, 1) := by decide +kernel
theorem dX1_season_13 : decode cX1_season 13 = .ok (.putfield 184, 3) := by decide +kernel
theorem dX1_season_16 : decode cX1_season 16 = .ok (.iconst 1, 1) := by decide +kernel
theorem dX1_season_17 : decode cX1_season 17 = .ok (.ireturn, 1) := by decide +kernel
abbrev cX1_day : ByteArray := prog_1_method_19_code
def yX1_day : MethodName := ⟨RX1, "day", "(I)I"⟩
theorem dX1_day_0 : decode cX1_day 0 = .ok (.iload_n 1, 1) := by decide +kernel
theorem dX1_day_1 : decode cX1_day 1 = .ok (.iconst 0, 1) := by decide +kernel
theorem dX1_day_2 : decode cX1_day 2 = .ok (.bipush 100, 2) := by decide +kernel
theorem dX1_day_4 : decode cX1_day 4 = .ok (.invokestatic 108, 3) := by decide +kernel
theorem dX1_day_7 : decode cX1_day 7 = .ok (.ifCond .eq 15, 3) := by decide +kernel
theorem dX1_day_10 : decode cX1_day 10 = .ok (.aload_n 0, 1) := by decide +kernel
theorem dX1_day_11 : decode cX1_day 11 = .ok (.getfield 154, 3) := by decide +kernel
theorem dX1_day_14 : decode cX1_day 14 = .ok (.iload_n 1, 1) := by decide +kernel
theorem dX1_day_15 : decode cX1_day 15 = .ok (.iadd, 1) := by decide +kernel
theorem dX1_day_16 : decode cX1_day 16 = .ok (.sipush 1000, 3) := by decide +kernel
theorem dX1_day_19 : decode cX1_day 19 = .ok (.if_icmp .le 5, 3) := by decide +kernel
theorem dX1_day_22 : decode cX1_day 22 = .ok (.iconst (-1), 1) := by decide +kernel
theorem dX1_day_23 : decode cX1_day 23 = .ok (.ireturn, 1) := by decide +kernel
theorem dX1_day_24 : decode cX1_day 24 = .ok (.aload_n 0, 1) := by decide +kernel
theorem dX1_day_25 : decode cX1_day 25 = .ok (.dup, 1) := by decide +kernel
theorem dX1_day_26 : decode cX1_day 26 = .ok (.getfield 154, 3) := by decide +kernel
theorem dX1_day_29 : decode cX1_day 29 = .ok (.iload_n 1, 1) := by decide +kernel
theorem dX1_day_30 : decode cX1_day 30 = .ok (.iadd, 1) := by decide +kernel
theorem dX1_day_31 : decode cX1_day 31 = .ok (.putfield 154, 3) := by decide +kernel
theorem dX1_day_34 : decode cX1_day 34 = .ok (.aload_n 0, 1) := by decide +kernel
theorem dX1_day_35 : decode cX1_day 35 = .ok (.getfield 154, 3) := by decide +kernel
theorem dX1_day_38 : decode cX1_day 38 = .ok (.ireturn, 1) := by decide +kernel
abbrev cX1_room : ByteArray := prog_1_method_20_code
def yX1_room : MethodName := ⟨RX1, "room", "(IIZI)I"⟩
theorem dX1_room_0 : decode cX1_room 0 = .ok (.aload_n 0, 1) := by decide +kernel
theorem dX1_room_1 : decode cX1_room 1 = .ok (.iload_n 1, 1) := by decide +kernel
theorem dX1_room_2 : decode cX1_room 2 = .ok (.invokevirtual 124, 3) := by decide +kernel
theorem dX1_room_5 : decode cX1_room 5 = .ok (.ifCond .eq 46, 3) := by decide +kernel
theorem dX1_room_8 : decode cX1_room 8 = .ok (.aload_n 0, 1) := by decide +kernel
theorem dX1_room_9 : decode cX1_room 9 = .ok (.iload_n 1, 1) := by decide +kernel
theorem dX1_room_10 : decode cX1_room 10 = .ok (.invokevirtual 157, 3) := by decide +kernel
theorem dX1_room_13 : decode cX1_room 13 = .ok (.ifCond .ne 38, 3) := by decide +kernel
theorem dX1_room_16 : decode cX1_room 16 = .ok (.iload_n 2, 1) := by decide +kernel
theorem dX1_room_17 : decode cX1_room 17 = .ok (.iconst 1, 1) := by decide +kernel
theorem dX1_room_18 : decode cX1_room 18 = .ok (.iconst 2, 1) := by decide +kernel
theorem dX1_room_19 : decode cX1_room 19 = .ok (.invokestatic 108, 3) := by decide +kernel
theorem dX1_room_22 : decode cX1_room 22 = .ok (.ifCond .eq 29, 3) := by decide +kernel
theorem dX1_room_25 : decode cX1_room 25 = .ok (.iload 4, 2) := by decide +kernel
theorem dX1_room_27 : decode cX1_room 27 = .ok (.iconst 1, 1) := by decide +kernel
theorem dX1_room_28 : decode cX1_room 28 = .ok (.sipush 1000, 3) := by decide +kernel
theorem dX1_room_31 : decode cX1_room 31 = .ok (.invokestatic 108, 3) := by decide +kernel
theorem dX1_room_34 : decode cX1_room 34 = .ok (.ifCond .eq 17, 3) := by decide +kernel
theorem dX1_room_37 : decode cX1_room 37 = .ok (.aload_n 0, 1) := by decide +kernel
theorem dX1_room_38 : decode cX1_room 38 = .ok (.getfield 17, 3) := by decide +kernel
theorem dX1_room_41 : decode cX1_room 41 = .ok (.iload_n 1, 1) := by decide +kernel
theorem dX1_room_42 : decode cX1_room 42 = .ok (.aaload, 1) := by decide +kernel
theorem dX1_room_43 : decode cX1_room 43 = .ok (.getfield 128, 3) := by decide +kernel
theorem dX1_room_46 : decode cX1_room 46 = .ok (.bipush 10, 2) := by decide +kernel
theorem dX1_room_48 : decode cX1_room 48 = .ok (.if_icmp .ne 5, 3) := by decide +kernel
theorem dX1_room_51 : decode cX1_room 51 = .ok (.iconst (-1), 1) := by decide +kernel
theorem dX1_room_52 : decode cX1_room 52 = .ok (.ireturn, 1) := by decide +kernel
theorem dX1_room_53 : decode cX1_room 53 = .ok (.aload_n 0, 1) := by decide +kernel
theorem dX1_room_54 : decode cX1_room 54 = .ok (.getfield 17, 3) := by decide +kernel
theorem dX1_room_57 : decode cX1_room 57 = .ok (.iload_n 1, 1) := by decide +kernel
theorem dX1_room_58 : decode cX1_room 58 = .ok (.aaload, 1) := by decide +kernel
theorem dX1_room_59 : decode cX1_room 59 = .ok (.astore 5, 2) := by decide +kernel
theorem dX1_room_61 : decode cX1_room 61 = .ok (.aload 5, 2) := by decide +kernel
theorem dX1_room_63 : decode cX1_room 63 = .ok (.getfield 187, 3) := by decide +kernel
theorem dX1_room_66 : decode cX1_room 66 = .ok (.aload 5, 2) := by decide +kernel
theorem dX1_room_68 : decode cX1_room 68 = .ok (.getfield 128, 3) := by decide +kernel
theorem dX1_room_71 : decode cX1_room 71 = .ok (.new 191, 3) := by decide +kernel
theorem dX1_room_74 : decode cX1_room 74 = .ok (.dup, 1) := by decide +kernel
theorem dX1_room_75 : decode cX1_room 75 = .ok (.iload_n 2, 1) := by decide +kernel
theorem dX1_room_76 : decode cX1_room 76 = .ok (.iload_n 3, 1) := by decide +kernel
theorem dX1_room_77 : decode cX1_room 77 = .ok (.iload 4, 2) := by decide +kernel
theorem dX1_room_79 : decode cX1_room 79 = .ok (.invokespecial 193, 3) := by decide +kernel
theorem dX1_room_82 : decode cX1_room 82 = .ok (.aastore, 1) := by decide +kernel
theorem dX1_room_83 : decode cX1_room 83 = .ok (.aload 5, 2) := by decide +kernel
theorem dX1_room_85 : decode cX1_room 85 = .ok (.dup, 1) := by decide +kernel
theorem dX1_room_86 : decode cX1_room 86 = .ok (.getfield 128, 3) := by decide +kernel
theorem dX1_room_89 : decode cX1_room 89 = .ok (.iconst 1, 1) := by decide +kernel
theorem dX1_room_90 : decode cX1_room 90 = .ok (.iadd, 1) := by decide +kernel
theorem dX1_room_91 : decode cX1_room 91 = .ok (.putfield 128, 3) := by decide +kernel
theorem dX1_room_94 : decode cX1_room 94 = .ok (.aload 5, 2) := by decide +kernel
theorem dX1_room_96 : decode cX1_room 96 = .ok (.getfield 128, 3) := by decide +kernel
theorem dX1_room_99 : decode cX1_room 99 = .ok (.iconst 1, 1) := by decide +kernel
theorem dX1_room_100 : decode cX1_room 100 = .ok (.isub, 1) := by decide +kernel
theorem dX1_room_101 : decode cX1_room 101 = .ok (.ireturn, 1) := by decide +kernel
abbrev cX1_isTown : ByteArray := prog_1_method_4_code
def yX1_isTown : MethodName := ⟨RX1, "isTown", "(I)Z"⟩
theorem dX1_isTown_0 : decode cX1_isTown 0 = .ok (.iload_n 1, 1) := by decide +kernel
theorem dX1_isTown_1 : decode cX1_isTown 1 = .ok (.iconst 0, 1) := by decide +kernel
theorem dX1_isTown_2 : decode cX1_isTown 2 = .ok (.aload_n 0, 1) := by decide +kernel
theorem dX1_isTown_3 : decode cX1_isTown 3 = .ok (.getfield 112, 3) := by decide +kernel
theorem dX1_isTown_6 : decode cX1_isTown 6 = .ok (.iconst 1, 1) := by decide +kernel
theorem dX1_isTown_7 : decode cX1_isTown 7 = .ok (.isub, 1) := by decide +kernel
theorem dX1_isTown_8 : decode cX1_isTown 8 = .ok (.invokestatic 108, 3) := by decide +kernel
theorem dX1_isTown_11 : decode cX1_isTown 11 = .ok (.ireturn, 1) := by decide +kernel
abbrev cX1_put : ByteArray := prog_1_method_22_code
def yX1_put : MethodName := ⟨RX1, "put", "(III)Z"⟩
theorem dX1_put_0 : decode cX1_put 0 = .ok (.aload_n 0, 1) := by decide +kernel
theorem dX1_put_1 : decode cX1_put 1 = .ok (.iload_n 1, 1) := by decide +kernel
theorem dX1_put_2 : decode cX1_put 2 = .ok (.invokevirtual 124, 3) := by decide +kernel
theorem dX1_put_5 : decode cX1_put 5 = .ok (.ifCond .eq 46, 3) := by decide +kernel
theorem dX1_put_8 : decode cX1_put 8 = .ok (.aload_n 0, 1) := by decide +kernel
theorem dX1_put_9 : decode cX1_put 9 = .ok (.iload_n 2, 1) := by decide +kernel
theorem dX1_put_10 : decode cX1_put 10 = .ok (.invokevirtual 134, 3) := by decide +kernel
theorem dX1_put_13 : decode cX1_put 13 = .ok (.ifCond .eq 38, 3) := by decide +kernel
theorem dX1_put_16 : decode cX1_put 16 = .ok (.aload_n 0, 1) := by decide +kernel
theorem dX1_put_17 : decode cX1_put 17 = .ok (.iload_n 1, 1) := by decide +kernel
theorem dX1_put_18 : decode cX1_put 18 = .ok (.invokevirtual 157, 3) := by decide +kernel
theorem dX1_put_21 : decode cX1_put 21 = .ok (.ifCond .ne 30, 3) := by decide +kernel
theorem dX1_put_24 : decode cX1_put 24 = .ok (.aload_n 0, 1) := by decide +kernel
theorem dX1_put_25 : decode cX1_put 25 = .ok (.getfield 11, 3) := by decide +kernel
theorem dX1_put_28 : decode cX1_put 28 = .ok (.iload_n 2, 1) := by decide +kernel
theorem dX1_put_29 : decode cX1_put 29 = .ok (.aaload, 1) := by decide +kernel
theorem dX1_put_30 : decode cX1_put 30 = .ok (.iload_n 1, 1) := by decide +kernel
theorem dX1_put_31 : decode cX1_put 31 = .ok (.invokevirtual 219, 3) := by decide +kernel
theorem dX1_put_34 : decode cX1_put 34 = .ok (.ifCond .eq 17, 3) := by decide +kernel
theorem dX1_put_37 : decode cX1_put 37 = .ok (.iload_n 3, 1) := by decide +kernel
theorem dX1_put_38 : decode cX1_put 38 = .ok (.iconst (-1), 1) := by decide +kernel
theorem dX1_put_39 : decode cX1_put 39 = .ok (.if_icmp .eq 14, 3) := by decide +kernel
theorem dX1_put_42 : decode cX1_put 42 = .ok (.aload_n 0, 1) := by decide +kernel
theorem dX1_put_43 : decode cX1_put 43 = .ok (.iload_n 1, 1) := by decide +kernel
theorem dX1_put_44 : decode cX1_put 44 = .ok (.iload_n 3, 1) := by decide +kernel
theorem dX1_put_45 : decode cX1_put 45 = .ok (.invokevirtual 222, 3) := by decide +kernel
theorem dX1_put_48 : decode cX1_put 48 = .ok (.ifCond .ne 5, 3) := by decide +kernel
theorem dX1_put_51 : decode cX1_put 51 = .ok (.iconst 0, 1) := by decide +kernel
theorem dX1_put_52 : decode cX1_put 52 = .ok (.ireturn, 1) := by decide +kernel
theorem dX1_put_53 : decode cX1_put 53 = .ok (.aload_n 0, 1) := by decide +kernel
theorem dX1_put_54 : decode cX1_put 54 = .ok (.getfield 17, 3) := by decide +kernel
theorem dX1_put_57 : decode cX1_put 57 = .ok (.iload_n 1, 1) := by decide +kernel
theorem dX1_put_58 : decode cX1_put 58 = .ok (.aaload, 1) := by decide +kernel
theorem dX1_put_59 : decode cX1_put 59 = .ok (.astore 4, 2) := by decide +kernel
theorem dX1_put_61 : decode cX1_put 61 = .ok (.iload_n 3, 1) := by decide +kernel
theorem dX1_put_62 : decode cX1_put 62 = .ok (.iconst (-1), 1) := by decide +kernel
theorem dX1_put_63 : decode cX1_put 63 = .ok (.if_icmp .eq 32, 3) := by decide +kernel
theorem dX1_put_66 : decode cX1_put 66 = .ok (.aload_n 0, 1) := by decide +kernel
theorem dX1_put_67 : decode cX1_put 67 = .ok (.aload 4, 2) := by decide +kernel
theorem dX1_put_69 : decode cX1_put 69 = .ok (.getfield 187, 3) := by decide +kernel
theorem dX1_put_72 : decode cX1_put 72 = .ok (.iload_n 3, 1) := by decide +kernel
theorem dX1_put_73 : decode cX1_put 73 = .ok (.aaload, 1) := by decide +kernel
theorem dX1_put_74 : decode cX1_put 74 = .ok (.aload 4, 2) := by decide +kernel
theorem dX1_put_76 : decode cX1_put 76 = .ok (.iload_n 3, 1) := by decide +kernel
theorem dX1_put_77 : decode cX1_put 77 = .ok (.invokevirtual 226, 3) := by decide +kernel
theorem dX1_put_80 : decode cX1_put 80 = .ok (.iconst 1, 1) := by decide +kernel
theorem dX1_put_81 : decode cX1_put 81 = .ok (.iload_n 2, 1) := by decide +kernel
theorem dX1_put_82 : decode cX1_put 82 = .ok (.ishl, 1) := by decide +kernel
theorem dX1_put_83 : decode cX1_put 83 = .ok (.iconst (-1), 1) := by decide +kernel
theorem dX1_put_84 : decode cX1_put 84 = .ok (.ixor, 1) := by decide +kernel
theorem dX1_put_85 : decode cX1_put 85 = .ok (.iand, 1) := by decide +kernel
theorem dX1_put_86 : decode cX1_put 86 = .ok (.iload_n 2, 1) := by decide +kernel
theorem dX1_put_87 : decode cX1_put 87 = .ok (.invokevirtual 229, 3) := by decide +kernel
theorem dX1_put_90 : decode cX1_put 90 = .ok (.ifCond .ne 5, 3) := by decide +kernel
theorem dX1_put_93 : decode cX1_put 93 = .ok (.iconst 0, 1) := by decide +kernel
theorem dX1_put_94 : decode cX1_put 94 = .ok (.ireturn, 1) := by decide +kernel
theorem dX1_put_95 : decode cX1_put 95 = .ok (.aload 4, 2) := by decide +kernel
theorem dX1_put_97 : decode cX1_put 97 = .ok (.getfield 148, 3) := by decide +kernel
theorem dX1_put_100 : decode cX1_put 100 = .ok (.iload_n 2, 1) := by decide +kernel
theorem dX1_put_101 : decode cX1_put 101 = .ok (.iaload, 1) := by decide +kernel
theorem dX1_put_102 : decode cX1_put 102 = .ok (.iload_n 3, 1) := by decide +kernel
theorem dX1_put_103 : decode cX1_put 103 = .ok (.if_icmp .ne 5, 3) := by decide +kernel
theorem dX1_put_106 : decode cX1_put 106 = .ok (.iconst 1, 1) := by decide +kernel
theorem dX1_put_107 : decode cX1_put 107 = .ok (.ireturn, 1) := by decide +kernel
theorem dX1_put_108 : decode cX1_put 108 = .ok (.aload_n 0, 1) := by decide +kernel
theorem dX1_put_109 : decode cX1_put 109 = .ok (.getfield 151, 3) := by decide +kernel
theorem dX1_put_112 : decode cX1_put 112 = .ok (.sipush 500, 3) := by decide +kernel
theorem dX1_put_115 : decode cX1_put 115 = .ok (.if_icmp .ne 5, 3) := by decide +kernel
theorem dX1_put_118 : decode cX1_put 118 = .ok (.iconst 0, 1) := by decide +kernel
theorem dX1_put_119 : decode cX1_put 119 = .ok (.ireturn, 1) := by decide +kernel
theorem dX1_put_120 : decode cX1_put 120 = .ok (.aload_n 0, 1) := by decide +kernel
theorem dX1_put_121 : decode cX1_put 121 = .ok (.iload_n 1, 1) := by decide +kernel
theorem dX1_put_122 : decode cX1_put 122 = .ok (.iload_n 2, 1) := by decide +kernel
theorem dX1_put_123 : decode cX1_put 123 = .ok (.iload_n 3, 1) := by decide +kernel
theorem dX1_put_124 : decode cX1_put 124 = .ok (.invokevirtual 164, 3) := by decide +kernel
theorem dX1_put_127 : decode cX1_put 127 = .ok (.iconst 1, 1) := by decide +kernel
theorem dX1_put_128 : decode cX1_put 128 = .ok (.ireturn, 1) := by decide +kernel
abbrev cX1_isRoom : ByteArray := prog_1_method_6_code
def yX1_isRoom : MethodName := ⟨RX1, "isRoom", "(II)Z"⟩
theorem dX1_isRoom_0 : decode cX1_isRoom 0 = .ok (.aload_n 0, 1) := by decide +kernel
theorem dX1_isRoom_1 : decode cX1_isRoom 1 = .ok (.iload_n 1, 1) := by decide +kernel
theorem dX1_isRoom_2 : decode cX1_isRoom 2 = .ok (.invokevirtual 124, 3) := by decide +kernel
theorem dX1_isRoom_5 : decode cX1_isRoom 5 = .ok (.ifCond .eq 26, 3) := by decide +kernel
theorem dX1_isRoom_8 : decode cX1_isRoom 8 = .ok (.iload_n 2, 1) := by decide +kernel
theorem dX1_isRoom_9 : decode cX1_isRoom 9 = .ok (.iconst 0, 1) := by decide +kernel
theorem dX1_isRoom_10 : decode cX1_isRoom 10 = .ok (.aload_n 0, 1) := by decide +kernel
theorem dX1_isRoom_11 : decode cX1_isRoom 11 = .ok (.getfield 17, 3) := by decide +kernel
theorem dX1_isRoom_14 : decode cX1_isRoom 14 = .ok (.iload_n 1, 1) := by decide +kernel
theorem dX1_isRoom_15 : decode cX1_isRoom 15 = .ok (.aaload, 1) := by decide +kernel
theorem dX1_isRoom_16 : decode cX1_isRoom 16 = .ok (.getfield 128, 3) := by decide +kernel
theorem dX1_isRoom_19 : decode cX1_isRoom 19 = .ok (.iconst 1, 1) := by decide +kernel
theorem dX1_isRoom_20 : decode cX1_isRoom 20 = .ok (.isub, 1) := by decide +kernel
theorem dX1_isRoom_21 : decode cX1_isRoom 21 = .ok (.invokestatic 108, 3) := by decide +kernel
theorem dX1_isRoom_24 : decode cX1_isRoom 24 = .ok (.ifCond .eq 7, 3) := by decide +kernel
theorem dX1_isRoom_27 : decode cX1_isRoom 27 = .ok (.iconst 1, 1) := by decide +kernel
theorem dX1_isRoom_28 : decode cX1_isRoom 28 = .ok (.goto 4, 3) := by decide +kernel
theorem dX1_isRoom_31 : decode cX1_isRoom 31 = .ok (.iconst 0, 1) := by decide +kernel
theorem dX1_isRoom_32 : decode cX1_isRoom 32 = .ok (.ireturn, 1) := by decide +kernel
abbrev cX1_joins : ByteArray := prog_1_method_23_code
def yX1_joins : MethodName := ⟨RX1, "joins", "(LTourRooms$Room;II)Z"⟩
theorem dX1_joins_0 : decode cX1_joins 0 = .ok (.aload_n 1, 1) := by decide +kernel
theorem dX1_joins_1 : decode cX1_joins 1 = .ok (.getfield 196, 3) := by decide +kernel
theorem dX1_joins_4 : decode cX1_joins 4 = .ok (.ifCond .eq 33, 3) := by decide +kernel
theorem dX1_joins_7 : decode cX1_joins 7 = .ok (.iload_n 2, 1) := by decide +kernel
theorem dX1_joins_8 : decode cX1_joins 8 = .ok (.invokestatic 199, 3) := by decide +kernel
theorem dX1_joins_11 : decode cX1_joins 11 = .ok (.aload_n 1, 1) := by decide +kernel
theorem dX1_joins_12 : decode cX1_joins 12 = .ok (.getfield 205, 3) := by decide +kernel
theorem dX1_joins_15 : decode cX1_joins 15 = .ok (.if_icmp .ge 22, 3) := by decide +kernel
theorem dX1_joins_18 : decode cX1_joins 18 = .ok (.aload_n 0, 1) := by decide +kernel
theorem dX1_joins_19 : decode cX1_joins 19 = .ok (.getfield 11, 3) := by decide +kernel
theorem dX1_joins_22 : decode cX1_joins 22 = .ok (.iload_n 3, 1) := by decide +kernel
theorem dX1_joins_23 : decode cX1_joins 23 = .ok (.aaload, 1) := by decide +kernel
theorem dX1_joins_24 : decode cX1_joins 24 = .ok (.getfield 211, 3) := by decide +kernel
theorem dX1_joins_27 : decode cX1_joins 27 = .ok (.ifCond .eq 12, 3) := by decide +kernel
theorem dX1_joins_30 : decode cX1_joins 30 = .ok (.aload_n 1, 1) := by decide +kernel
theorem dX1_joins_31 : decode cX1_joins 31 = .ok (.getfield 214, 3) := by decide +kernel
theorem dX1_joins_34 : decode cX1_joins 34 = .ok (.ifCond .ne 5, 3) := by decide +kernel
theorem dX1_joins_37 : decode cX1_joins 37 = .ok (.iconst 0, 1) := by decide +kernel
theorem dX1_joins_38 : decode cX1_joins 38 = .ok (.ireturn, 1) := by decide +kernel
theorem dX1_joins_39 : decode cX1_joins 39 = .ok (.iload_n 2, 1) := by decide +kernel
theorem dX1_joins_40 : decode cX1_joins 40 = .ok (.ifCond .eq 24, 3) := by decide +kernel
theorem dX1_joins_43 : decode cX1_joins 43 = .ok (.aload_n 0, 1) := by decide +kernel
theorem dX1_joins_44 : decode cX1_joins 44 = .ok (.getfield 11, 3) := by decide +kernel
theorem dX1_joins_47 : decode cX1_joins 47 = .ok (.iload_n 3, 1) := by decide +kernel
theorem dX1_joins_48 : decode cX1_joins 48 = .ok (.aaload, 1) := by decide +kernel
theorem dX1_joins_49 : decode cX1_joins 49 = .ok (.aload_n 0, 1) := by decide +kernel
theorem dX1_joins_50 : decode cX1_joins 50 = .ok (.getfield 11, 3) := by decide +kernel
theorem dX1_joins_53 : decode cX1_joins 53 = .ok (.iload_n 2, 1) := by decide +kernel
theorem dX1_joins_54 : decode cX1_joins 54 = .ok (.invokestatic 208, 3) := by decide +kernel
theorem dX1_joins_57 : decode cX1_joins 57 = .ok (.aaload, 1) := by decide +kernel
theorem dX1_joins_58 : decode cX1_joins 58 = .ok (.invokevirtual 215, 3) := by decide +kernel
theorem dX1_joins_61 : decode cX1_joins 61 = .ok (.ifCond .eq 7, 3) := by decide +kernel
theorem dX1_joins_64 : decode cX1_joins 64 = .ok (.iconst 1, 1) := by decide +kernel
theorem dX1_joins_65 : decode cX1_joins 65 = .ok (.goto 4, 3) := by decide +kernel
theorem dX1_joins_68 : decode cX1_joins 68 = .ok (.iconst 0, 1) := by decide +kernel
theorem dX1_joins_69 : decode cX1_joins 69 = .ok (.ireturn, 1) := by decide +kernel
abbrev cX1_settle : ByteArray := prog_1_method_27_code
def yX1_settle : MethodName := ⟨RX1, "settle", "(II)I"⟩
theorem dX1_settle_0 : decode cX1_settle 0 = .ok (.aload_n 0, 1) := by decide +kernel
theorem dX1_settle_1 : decode cX1_settle 1 = .ok (.iload_n 1, 1) := by decide +kernel
theorem dX1_settle_2 : decode cX1_settle 2 = .ok (.invokevirtual 124, 3) := by decide +kernel
theorem dX1_settle_5 : decode cX1_settle 5 = .ok (.ifCond .eq 20, 3) := by decide +kernel
theorem dX1_settle_8 : decode cX1_settle 8 = .ok (.iload_n 2, 1) := by decide +kernel
theorem dX1_settle_9 : decode cX1_settle 9 = .ok (.iconst 0, 1) := by decide +kernel
theorem dX1_settle_10 : decode cX1_settle 10 = .ok (.iconst 1, 1) := by decide +kernel
theorem dX1_settle_11 : decode cX1_settle 11 = .ok (.invokestatic 108, 3) := by decide +kernel
theorem dX1_settle_14 : decode cX1_settle 14 = .ok (.ifCond .eq 11, 3) := by decide +kernel
theorem dX1_settle_17 : decode cX1_settle 17 = .ok (.aload_n 0, 1) := by decide +kernel
theorem dX1_settle_18 : decode cX1_settle 18 = .ok (.iload_n 1, 1) := by decide +kernel
theorem dX1_settle_19 : decode cX1_settle 19 = .ok (.invokevirtual 157, 3) := by decide +kernel
theorem dX1_settle_22 : decode cX1_settle 22 = .ok (.ifCond .eq 5, 3) := by decide +kernel
theorem dX1_settle_25 : decode cX1_settle 25 = .ok (.iconst (-1), 1) := by decide +kernel
theorem dX1_settle_26 : decode cX1_settle 26 = .ok (.ireturn, 1) := by decide +kernel
theorem dX1_settle_27 : decode cX1_settle 27 = .ok (.aload_n 0, 1) := by decide +kernel
theorem dX1_settle_28 : decode cX1_settle 28 = .ok (.getfield 17, 3) := by decide +kernel
theorem dX1_settle_31 : decode cX1_settle 31 = .ok (.iload_n 1, 1) := by decide +kernel
theorem dX1_settle_32 : decode cX1_settle 32 = .ok (.aaload, 1) := by decide +kernel
theorem dX1_settle_33 : decode cX1_settle 33 = .ok (.astore_n 3, 1) := by decide +kernel
theorem dX1_settle_34 : decode cX1_settle 34 = .ok (.aload_n 0, 1) := by decide +kernel
theorem dX1_settle_35 : decode cX1_settle 35 = .ok (.iload_n 1, 1) := by decide +kernel
theorem dX1_settle_36 : decode cX1_settle 36 = .ok (.invokevirtual 255, 3) := by decide +kernel
theorem dX1_settle_39 : decode cX1_settle 39 = .ok (.istore 4, 2) := by decide +kernel
theorem dX1_settle_41 : decode cX1_settle 41 = .ok (.aload_n 3, 1) := by decide +kernel
theorem dX1_settle_42 : decode cX1_settle 42 = .ok (.getfield 128, 3) := by decide +kernel
theorem dX1_settle_45 : decode cX1_settle 45 = .ok (.istore 5, 2) := by decide +kernel
theorem dX1_settle_47 : decode cX1_settle 47 = .ok (.iconst 0, 1) := by decide +kernel
theorem dX1_settle_48 : decode cX1_settle 48 = .ok (.istore 6, 2) := by decide +kernel
theorem dX1_settle_50 : decode cX1_settle 50 = .ok (.iload 6, 2) := by decide +kernel
theorem dX1_settle_52 : decode cX1_settle 52 = .ok (.sipush 1024, 3) := by decide +kernel
theorem dX1_settle_55 : decode cX1_settle 55 = .ok (.if_icmp .ge 31, 3) := by decide +kernel
theorem dX1_settle_58 : decode cX1_settle 58 = .ok (.aload_n 0, 1) := by decide +kernel
theorem dX1_settle_59 : decode cX1_settle 59 = .ok (.getfield 67, 3) := by decide +kernel
theorem dX1_settle_62 : decode cX1_settle 62 = .ok (.iload 5, 2) := by decide +kernel
theorem dX1_settle_64 : decode cX1_settle 64 = .ok (.aaload, 1) := by decide +kernel
theorem dX1_settle_65 : decode cX1_settle 65 = .ok (.iload 6, 2) := by decide +kernel
theorem dX1_settle_67 : decode cX1_settle 67 = .ok (.iload 6, 2) := by decide +kernel
theorem dX1_settle_69 : decode cX1_settle 69 = .ok (.ifCond .ne 7, 3) := by decide +kernel
theorem dX1_settle_72 : decode cX1_settle 72 = .ok (.lconst 0, 1) := by decide +kernel
theorem dX1_settle_73 : decode cX1_settle 73 = .ok (.goto 6, 3) := by decide +kernel
theorem dX1_settle_76 : decode cX1_settle 76 = .ok (.ldc2_w 240, 3) := by decide +kernel
theorem dX1_settle_79 : decode cX1_settle 79 = .ok (.lastore, 1) := by decide +kernel
theorem dX1_settle_80 : decode cX1_settle 80 = .ok (.iinc 6 1, 3) := by decide +kernel
theorem dX1_settle_83 : decode cX1_settle 83 = .ok (.goto (-33), 3) := by decide +kernel
theorem dX1_settle_86 : decode cX1_settle 86 = .ok (.iload 5, 2) := by decide +kernel
theorem dX1_settle_88 : decode cX1_settle 88 = .ok (.iconst 1, 1) := by decide +kernel
theorem dX1_settle_89 : decode cX1_settle 89 = .ok (.isub, 1) := by decide +kernel
theorem dX1_settle_90 : decode cX1_settle 90 = .ok (.istore 6, 2) := by decide +kernel
theorem dX1_settle_92 : decode cX1_settle 92 = .ok (.iload 6, 2) := by decide +kernel
theorem dX1_settle_94 : decode cX1_settle 94 = .ok (.ifCond .lt 56, 3) := by decide +kernel
theorem dX1_settle_97 : decode cX1_settle 97 = .ok (.iconst 0, 1) := by decide +kernel
theorem dX1_settle_98 : decode cX1_settle 98 = .ok (.istore 7, 2) := by decide +kernel
theorem dX1_settle_100 : decode cX1_settle 100 = .ok (.iload 7, 2) := by decide +kernel
theorem dX1_settle_102 : decode cX1_settle 102 = .ok (.sipush 1024, 3) := by decide +kernel
theorem dX1_settle_105 : decode cX1_settle 105 = .ok (.if_icmp .ge 39, 3) := by decide +kernel
theorem dX1_settle_108 : decode cX1_settle 108 = .ok (.iload 7, 2) := by decide +kernel
theorem dX1_settle_110 : decode cX1_settle 110 = .ok (.iload 4, 2) := by decide +kernel
theorem dX1_settle_112 : decode cX1_settle 112 = .ok (.iconst (-1), 1) := by decide +kernel
theorem dX1_settle_113 : decode cX1_settle 113 = .ok (.ixor, 1) := by decide +kernel
theorem dX1_settle_114 : decode cX1_settle 114 = .ok (.iand, 1) := by decide +kernel
theorem dX1_settle_115 : decode cX1_settle 115 = .ok (.ifCond .ne 23, 3) := by decide +kernel
theorem dX1_settle_118 : decode cX1_settle 118 = .ok (.aload_n 0, 1) := by decide +kernel
theorem dX1_settle_119 : decode cX1_settle 119 = .ok (.getfield 67, 3) := by decide +kernel
theorem dX1_settle_122 : decode cX1_settle 122 = .ok (.iload 6, 2) := by decide +kernel
theorem dX1_settle_124 : decode cX1_settle 124 = .ok (.aaload, 1) := by decide +kernel
theorem dX1_settle_125 : decode cX1_settle 125 = .ok (.iload 7, 2) := by decide +kernel
theorem dX1_settle_127 : decode cX1_settle 127 = .ok (.aload_n 0, 1) := by decide +kernel
theorem dX1_settle_128 : decode cX1_settle 128 = .ok (.aload_n 3, 1) := by decide +kernel
theorem dX1_settle_129 : decode cX1_settle 129 = .ok (.iload 6, 2) := by decide +kernel
theorem dX1_settle_131 : decode cX1_settle 131 = .ok (.iload 7, 2) := by decide +kernel
theorem dX1_settle_133 : decode cX1_settle 133 = .ok (.iload_n 2, 1) := by decide +kernel
theorem dX1_settle_134 : decode cX1_settle 134 = .ok (.invokevirtual 258, 3) := by decide +kernel
theorem dX1_settle_137 : decode cX1_settle 137 = .ok (.lastore, 1) := by decide +kernel
theorem dX1_settle_138 : decode cX1_settle 138 = .ok (.iinc 7 1, 3) := by decide +kernel
theorem dX1_settle_141 : decode cX1_settle 141 = .ok (.goto (-41), 3) := by decide +kernel
theorem dX1_settle_144 : decode cX1_settle 144 = .ok (.iinc 6 (-1), 3) := by decide +kernel
theorem dX1_settle_147 : decode cX1_settle 147 = .ok (.goto (-55), 3) := by decide +kernel
theorem dX1_settle_150 : decode cX1_settle 150 = .ok (.aload_n 0, 1) := by decide +kernel
theorem dX1_settle_151 : decode cX1_settle 151 = .ok (.getfield 67, 3) := by decide +kernel
theorem dX1_settle_154 : decode cX1_settle 154 = .ok (.iconst 0, 1) := by decide +kernel
theorem dX1_settle_155 : decode cX1_settle 155 = .ok (.aaload, 1) := by decide +kernel
theorem dX1_settle_156 : decode cX1_settle 156 = .ok (.iload 4, 2) := by decide +kernel
theorem dX1_settle_158 : decode cX1_settle 158 = .ok (.laload, 1) := by decide +kernel
theorem dX1_settle_159 : decode cX1_settle 159 = .ok (.ldc2_w 240, 3) := by decide +kernel
theorem dX1_settle_162 : decode cX1_settle 162 = .ok (.lcmp, 1) := by decide +kernel
theorem dX1_settle_163 : decode cX1_settle 163 = .ok (.ifCond .lt 5, 3) := by decide +kernel
theorem dX1_settle_166 : decode cX1_settle 166 = .ok (.iconst (-1), 1) := by decide +kernel
theorem dX1_settle_167 : decode cX1_settle 167 = .ok (.ireturn, 1) := by decide +kernel
theorem dX1_settle_168 : decode cX1_settle 168 = .ok (.iload 4, 2) := by decide +kernel
theorem dX1_settle_170 : decode cX1_settle 170 = .ok (.istore 6, 2) := by decide +kernel
theorem dX1_settle_172 : decode cX1_settle 172 = .ok (.iconst 0, 1) := by decide +kernel
theorem dX1_settle_173 : decode cX1_settle 173 = .ok (.istore 7, 2) := by decide +kernel
theorem dX1_settle_175 : decode cX1_settle 175 = .ok (.iload 7, 2) := by decide +kernel
theorem dX1_settle_177 : decode cX1_settle 177 = .ok (.iload 5, 2) := by decide +kernel
theorem dX1_settle_179 : decode cX1_settle 179 = .ok (.if_icmp .ge 76, 3) := by decide +kernel
theorem dX1_settle_182 : decode cX1_settle 182 = .ok (.iconst 0, 1) := by decide +kernel
theorem dX1_settle_183 : decode cX1_settle 183 = .ok (.istore 8, 2) := by decide +kernel
theorem dX1_settle_185 : decode cX1_settle 185 = .ok (.aload_n 0, 1) := by decide +kernel
theorem dX1_settle_186 : decode cX1_settle 186 = .ok (.aload_n 3, 1) := by decide +kernel
theorem dX1_settle_187 : decode cX1_settle 187 = .ok (.iload 7, 2) := by decide +kernel
theorem dX1_settle_189 : decode cX1_settle 189 = .ok (.iload 6, 2) := by decide +kernel
theorem dX1_settle_191 : decode cX1_settle 191 = .ok (.iload 8, 2) := by decide +kernel
theorem dX1_settle_193 : decode cX1_settle 193 = .ok (.iload_n 2, 1) := by decide +kernel
theorem dX1_settle_194 : decode cX1_settle 194 = .ok (.invokevirtual 261, 3) := by decide +kernel
theorem dX1_settle_197 : decode cX1_settle 197 = .ok (.ifCond .ne 9, 3) := by decide +kernel
theorem dX1_settle_200 : decode cX1_settle 200 = .ok (.iinc 8 1, 3) := by decide +kernel
theorem dX1_settle_203 : decode cX1_settle 203 = .ok (.goto (-18), 3) := by decide +kernel
theorem dX1_settle_206 : decode cX1_settle 206 = .ok (.iconst 0, 1) := by decide +kernel
theorem dX1_settle_207 : decode cX1_settle 207 = .ok (.istore 9, 2) := by decide +kernel
theorem dX1_settle_209 : decode cX1_settle 209 = .ok (.iload 9, 2) := by decide +kernel
theorem dX1_settle_211 : decode cX1_settle 211 = .ok (.bipush 10, 2) := by decide +kernel
theorem dX1_settle_213 : decode cX1_settle 213 = .ok (.if_icmp .ge 29, 3) := by decide +kernel
theorem dX1_settle_216 : decode cX1_settle 216 = .ok (.iload 8, 2) := by decide +kernel
theorem dX1_settle_218 : decode cX1_settle 218 = .ok (.iload 9, 2) := by decide +kernel
theorem dX1_settle_220 : decode cX1_settle 220 = .ok (.ishr, 1) := by decide +kernel
theorem dX1_settle_221 : decode cX1_settle 221 = .ok (.iconst 1, 1) := by decide +kernel
theorem dX1_settle_222 : decode cX1_settle 222 = .ok (.iand, 1) := by decide +kernel
theorem dX1_settle_223 : decode cX1_settle 223 = .ok (.iconst 1, 1) := by decide +kernel
theorem dX1_settle_224 : decode cX1_settle 224 = .ok (.if_icmp .ne 12, 3) := by decide +kernel
theorem dX1_settle_227 : decode cX1_settle 227 = .ok (.aload_n 0, 1) := by decide +kernel
theorem dX1_settle_228 : decode cX1_settle 228 = .ok (.getfield 70, 3) := by decide +kernel
theorem dX1_settle_231 : decode cX1_settle 231 = .ok (.iload 9, 2) := by decide +kernel
theorem dX1_settle_233 : decode cX1_settle 233 = .ok (.iload 7, 2) := by decide +kernel
theorem dX1_settle_235 : decode cX1_settle 235 = .ok (.iastore, 1) := by decide +kernel
theorem dX1_settle_236 : decode cX1_settle 236 = .ok (.iinc 9 1, 3) := by decide +kernel
theorem dX1_settle_239 : decode cX1_settle 239 = .ok (.goto (-30), 3) := by decide +kernel
theorem dX1_settle_242 : decode cX1_settle 242 = .ok (.iload 6, 2) := by decide +kernel
theorem dX1_settle_244 : decode cX1_settle 244 = .ok (.iload 8, 2) := by decide +kernel
theorem dX1_settle_246 : decode cX1_settle 246 = .ok (.ixor, 1) := by decide +kernel
theorem dX1_settle_247 : decode cX1_settle 247 = .ok (.istore 6, 2) := by decide +kernel
theorem dX1_settle_249 : decode cX1_settle 249 = .ok (.iinc 7 1, 3) := by decide +kernel
theorem dX1_settle_252 : decode cX1_settle 252 = .ok (.goto (-77), 3) := by decide +kernel
theorem dX1_settle_255 : decode cX1_settle 255 = .ok (.iconst 0, 1) := by decide +kernel
theorem dX1_settle_256 : decode cX1_settle 256 = .ok (.istore 7, 2) := by decide +kernel
theorem dX1_settle_258 : decode cX1_settle 258 = .ok (.iconst 0, 1) := by decide +kernel
theorem dX1_settle_259 : decode cX1_settle 259 = .ok (.istore 8, 2) := by decide +kernel
theorem dX1_settle_261 : decode cX1_settle 261 = .ok (.iconst 0, 1) := by decide +kernel
theorem dX1_settle_262 : decode cX1_settle 262 = .ok (.istore 9, 2) := by decide +kernel
theorem dX1_settle_264 : decode cX1_settle 264 = .ok (.iload 9, 2) := by decide +kernel
theorem dX1_settle_266 : decode cX1_settle 266 = .ok (.bipush 10, 2) := by decide +kernel
theorem dX1_settle_268 : decode cX1_settle 268 = .ok (.if_icmp .ge 63, 3) := by decide +kernel
theorem dX1_settle_271 : decode cX1_settle 271 = .ok (.iload 4, 2) := by decide +kernel
theorem dX1_settle_273 : decode cX1_settle 273 = .ok (.iload 9, 2) := by decide +kernel
theorem dX1_settle_275 : decode cX1_settle 275 = .ok (.ishr, 1) := by decide +kernel
theorem dX1_settle_276 : decode cX1_settle 276 = .ok (.iconst 1, 1) := by decide +kernel
theorem dX1_settle_277 : decode cX1_settle 277 = .ok (.iand, 1) := by decide +kernel
theorem dX1_settle_278 : decode cX1_settle 278 = .ok (.ifCond .eq 47, 3) := by decide +kernel
theorem dX1_settle_281 : decode cX1_settle 281 = .ok (.aload_n 0, 1) := by decide +kernel
theorem dX1_settle_282 : decode cX1_settle 282 = .ok (.getfield 70, 3) := by decide +kernel
theorem dX1_settle_285 : decode cX1_settle 285 = .ok (.iload 9, 2) := by decide +kernel
theorem dX1_settle_287 : decode cX1_settle 287 = .ok (.iaload, 1) := by decide +kernel
theorem dX1_settle_288 : decode cX1_settle 288 = .ok (.aload_n 3, 1) := by decide +kernel
theorem dX1_settle_289 : decode cX1_settle 289 = .ok (.getfield 148, 3) := by decide +kernel
theorem dX1_settle_292 : decode cX1_settle 292 = .ok (.iload 9, 2) := by decide +kernel
theorem dX1_settle_294 : decode cX1_settle 294 = .ok (.iaload, 1) := by decide +kernel
theorem dX1_settle_295 : decode cX1_settle 295 = .ok (.if_icmp .ne 6, 3) := by decide +kernel
theorem dX1_settle_298 : decode cX1_settle 298 = .ok (.goto 27, 3) := by decide +kernel
theorem dX1_settle_301 : decode cX1_settle 301 = .ok (.iinc 7 1, 3) := by decide +kernel
theorem dX1_settle_304 : decode cX1_settle 304 = .ok (.iload 8, 2) := by decide +kernel
theorem dX1_settle_306 : decode cX1_settle 306 = .ok (.aload_n 3, 1) := by decide +kernel
theorem dX1_settle_307 : decode cX1_settle 307 = .ok (.getfield 148, 3) := by decide +kernel
theorem dX1_settle_310 : decode cX1_settle 310 = .ok (.iload 9, 2) := by decide +kernel
theorem dX1_settle_312 : decode cX1_settle 312 = .ok (.iaload, 1) := by decide +kernel
theorem dX1_settle_313 : decode cX1_settle 313 = .ok (.iconst (-1), 1) := by decide +kernel
theorem dX1_settle_314 : decode cX1_settle 314 = .ok (.if_icmp .ne 7, 3) := by decide +kernel
theorem dX1_settle_317 : decode cX1_settle 317 = .ok (.iconst 0, 1) := by decide +kernel
theorem dX1_settle_318 : decode cX1_settle 318 = .ok (.goto 4, 3) := by decide +kernel
theorem dX1_settle_321 : decode cX1_settle 321 = .ok (.iconst 1, 1) := by decide +kernel
theorem dX1_settle_322 : decode cX1_settle 322 = .ok (.iadd, 1) := by decide +kernel
theorem dX1_settle_323 : decode cX1_settle 323 = .ok (.istore 8, 2) := by decide +kernel
theorem dX1_settle_325 : decode cX1_settle 325 = .ok (.iinc 9 1, 3) := by decide +kernel
theorem dX1_settle_328 : decode cX1_settle 328 = .ok (.goto (-64), 3) := by decide +kernel
theorem dX1_settle_331 : decode cX1_settle 331 = .ok (.aload_n 0, 1) := by decide +kernel
theorem dX1_settle_332 : decode cX1_settle 332 = .ok (.getfield 151, 3) := by decide +kernel
theorem dX1_settle_335 : decode cX1_settle 335 = .ok (.iload 7, 2) := by decide +kernel
theorem dX1_settle_337 : decode cX1_settle 337 = .ok (.iadd, 1) := by decide +kernel
theorem dX1_settle_338 : decode cX1_settle 338 = .ok (.sipush 500, 3) := by decide +kernel
theorem dX1_settle_341 : decode cX1_settle 341 = .ok (.if_icmp .le 5, 3) := by decide +kernel
theorem dX1_settle_344 : decode cX1_settle 344 = .ok (.iconst (-1), 1) := by decide +kernel
theorem dX1_settle_345 : decode cX1_settle 345 = .ok (.ireturn, 1) := by decide +kernel
theorem dX1_settle_346 : decode cX1_settle 346 = .ok (.iconst 0, 1) := by decide +kernel
theorem dX1_settle_347 : decode cX1_settle 347 = .ok (.istore 9, 2) := by decide +kernel
theorem dX1_settle_349 : decode cX1_settle 349 = .ok (.iload 9, 2) := by decide +kernel
theorem dX1_settle_351 : decode cX1_settle 351 = .ok (.bipush 10, 2) := by decide +kernel
theorem dX1_settle_353 : decode cX1_settle 353 = .ok (.if_icmp .ge 51, 3) := by decide +kernel
theorem dX1_settle_356 : decode cX1_settle 356 = .ok (.iload 4, 2) := by decide +kernel
theorem dX1_settle_358 : decode cX1_settle 358 = .ok (.iload 9, 2) := by decide +kernel
theorem dX1_settle_360 : decode cX1_settle 360 = .ok (.ishr, 1) := by decide +kernel
theorem dX1_settle_361 : decode cX1_settle 361 = .ok (.iconst 1, 1) := by decide +kernel
theorem dX1_settle_362 : decode cX1_settle 362 = .ok (.iand, 1) := by decide +kernel
theorem dX1_settle_363 : decode cX1_settle 363 = .ok (.iconst 1, 1) := by decide +kernel
theorem dX1_settle_364 : decode cX1_settle 364 = .ok (.if_icmp .ne 34, 3) := by decide +kernel
theorem dX1_settle_367 : decode cX1_settle 367 = .ok (.aload_n 0, 1) := by decide +kernel
theorem dX1_settle_368 : decode cX1_settle 368 = .ok (.getfield 70, 3) := by decide +kernel
theorem dX1_settle_371 : decode cX1_settle 371 = .ok (.iload 9, 2) := by decide +kernel
theorem dX1_settle_373 : decode cX1_settle 373 = .ok (.iaload, 1) := by decide +kernel
theorem dX1_settle_374 : decode cX1_settle 374 = .ok (.aload_n 3, 1) := by decide +kernel
theorem dX1_settle_375 : decode cX1_settle 375 = .ok (.getfield 148, 3) := by decide +kernel
theorem dX1_settle_378 : decode cX1_settle 378 = .ok (.iload 9, 2) := by decide +kernel
theorem dX1_settle_380 : decode cX1_settle 380 = .ok (.iaload, 1) := by decide +kernel
theorem dX1_settle_381 : decode cX1_settle 381 = .ok (.if_icmp .eq 17, 3) := by decide +kernel
theorem dX1_settle_384 : decode cX1_settle 384 = .ok (.aload_n 0, 1) := by decide +kernel
theorem dX1_settle_385 : decode cX1_settle 385 = .ok (.iload_n 1, 1) := by decide +kernel
theorem dX1_settle_386 : decode cX1_settle 386 = .ok (.iload 9, 2) := by decide +kernel
theorem dX1_settle_388 : decode cX1_settle 388 = .ok (.aload_n 0, 1) := by decide +kernel
theorem dX1_settle_389 : decode cX1_settle 389 = .ok (.getfield 70, 3) := by decide +kernel
theorem dX1_settle_392 : decode cX1_settle 392 = .ok (.iload 9, 2) := by decide +kernel
theorem dX1_settle_394 : decode cX1_settle 394 = .ok (.iaload, 1) := by decide +kernel
theorem dX1_settle_395 : decode cX1_settle 395 = .ok (.invokevirtual 164, 3) := by decide +kernel
theorem dX1_settle_398 : decode cX1_settle 398 = .ok (.iinc 9 1, 3) := by decide +kernel
theorem dX1_settle_401 : decode cX1_settle 401 = .ok (.goto (-52), 3) := by decide +kernel
theorem dX1_settle_404 : decode cX1_settle 404 = .ok (.aload_n 0, 1) := by decide +kernel
theorem dX1_settle_405 : decode cX1_settle 405 = .ok (.iload 8, 2) := by decide +kernel
theorem dX1_settle_407 : decode cX1_settle 407 = .ok (.putfield 25, 3) := by decide +kernel
theorem dX1_settle_410 : decode cX1_settle 410 = .ok (.aload_n 3, 1) := by decide +kernel
theorem dX1_settle_411 : decode cX1_settle 411 = .ok (.invokevirtual 265, 3) := by decide +kernel
theorem dX1_settle_414 : decode cX1_settle 414 = .ok (.ireturn, 1) := by decide +kernel
abbrev cX1_there : ByteArray := prog_1_method_24_code
def yX1_there : MethodName := ⟨RX1, "there", "(I)I"⟩
theorem dX1_there_0 : decode cX1_there 0 = .ok (.iconst 0, 1) := by decide +kernel
theorem dX1_there_1 : decode cX1_there 1 = .ok (.istore_n 2, 1) := by decide +kernel
theorem dX1_there_2 : decode cX1_there 2 = .ok (.iconst 0, 1) := by decide +kernel
theorem dX1_there_3 : decode cX1_there 3 = .ok (.istore_n 3, 1) := by decide +kernel
theorem dX1_there_4 : decode cX1_there 4 = .ok (.iload_n 3, 1) := by decide +kernel
theorem dX1_there_5 : decode cX1_there 5 = .ok (.aload_n 0, 1) := by decide +kernel
theorem dX1_there_6 : decode cX1_there 6 = .ok (.getfield 105, 3) := by decide +kernel
theorem dX1_there_9 : decode cX1_there 9 = .ok (.if_icmp .ge 32, 3) := by decide +kernel
theorem dX1_there_12 : decode cX1_there 12 = .ok (.iload_n 2, 1) := by decide +kernel
theorem dX1_there_13 : decode cX1_there 13 = .ok (.aload_n 0, 1) := by decide +kernel
theorem dX1_there_14 : decode cX1_there 14 = .ok (.getfield 11, 3) := by decide +kernel
theorem dX1_there_17 : decode cX1_there 17 = .ok (.iload_n 3, 1) := by decide +kernel
theorem dX1_there_18 : decode cX1_there 18 = .ok (.aaload, 1) := by decide +kernel
theorem dX1_there_19 : decode cX1_there 19 = .ok (.iload_n 1, 1) := by decide +kernel
theorem dX1_there_20 : decode cX1_there 20 = .ok (.invokevirtual 219, 3) := by decide +kernel
theorem dX1_there_23 : decode cX1_there 23 = .ok (.ifCond .eq 9, 3) := by decide +kernel
theorem dX1_there_26 : decode cX1_there 26 = .ok (.iconst 1, 1) := by decide +kernel
theorem dX1_there_27 : decode cX1_there 27 = .ok (.iload_n 3, 1) := by decide +kernel
theorem dX1_there_28 : decode cX1_there 28 = .ok (.ishl, 1) := by decide +kernel
theorem dX1_there_29 : decode cX1_there 29 = .ok (.goto 4, 3) := by decide +kernel
theorem dX1_there_32 : decode cX1_there 32 = .ok (.iconst 0, 1) := by decide +kernel
theorem dX1_there_33 : decode cX1_there 33 = .ok (.ior, 1) := by decide +kernel
theorem dX1_there_34 : decode cX1_there 34 = .ok (.istore_n 2, 1) := by decide +kernel
theorem dX1_there_35 : decode cX1_there 35 = .ok (.iinc 3 1, 3) := by decide +kernel
theorem dX1_there_38 : decode cX1_there 38 = .ok (.goto (-34), 3) := by decide +kernel
theorem dX1_there_41 : decode cX1_there 41 = .ok (.iload_n 2, 1) := by decide +kernel
theorem dX1_there_42 : decode cX1_there 42 = .ok (.ireturn, 1) := by decide +kernel
abbrev cX1_best : ByteArray := prog_1_method_26_code
def yX1_best : MethodName := ⟨RX1, "best", "(LTourRooms$Town;III)J"⟩
theorem dX1_best_0 : decode cX1_best 0 = .ok (.aload_n 0, 1) := by decide +kernel
theorem dX1_best_1 : decode cX1_best 1 = .ok (.getfield 67, 3) := by decide +kernel
theorem dX1_best_4 : decode cX1_best 4 = .ok (.iload_n 2, 1) := by decide +kernel
theorem dX1_best_5 : decode cX1_best 5 = .ok (.iconst 1, 1) := by decide +kernel
theorem dX1_best_6 : decode cX1_best 6 = .ok (.iadd, 1) := by decide +kernel
theorem dX1_best_7 : decode cX1_best 7 = .ok (.aaload, 1) := by decide +kernel
theorem dX1_best_8 : decode cX1_best 8 = .ok (.iload_n 3, 1) := by decide +kernel
theorem dX1_best_9 : decode cX1_best 9 = .ok (.laload, 1) := by decide +kernel
theorem dX1_best_10 : decode cX1_best 10 = .ok (.lstore 5, 2) := by decide +kernel
theorem dX1_best_12 : decode cX1_best 12 = .ok (.iconst 0, 1) := by decide +kernel
theorem dX1_best_13 : decode cX1_best 13 = .ok (.istore 7, 2) := by decide +kernel
theorem dX1_best_15 : decode cX1_best 15 = .ok (.iload 7, 2) := by decide +kernel
theorem dX1_best_17 : decode cX1_best 17 = .ok (.bipush 10, 2) := by decide +kernel
theorem dX1_best_19 : decode cX1_best 19 = .ok (.if_icmp .ge 127, 3) := by decide +kernel
theorem dX1_best_22 : decode cX1_best 22 = .ok (.iload_n 3, 1) := by decide +kernel
theorem dX1_best_23 : decode cX1_best 23 = .ok (.iload 7, 2) := by decide +kernel
theorem dX1_best_25 : decode cX1_best 25 = .ok (.ishr, 1) := by decide +kernel
theorem dX1_best_26 : decode cX1_best 26 = .ok (.iconst 1, 1) := by decide +kernel
theorem dX1_best_27 : decode cX1_best 27 = .ok (.iand, 1) := by decide +kernel
theorem dX1_best_28 : decode cX1_best 28 = .ok (.ifCond .ne 6, 3) := by decide +kernel
theorem dX1_best_31 : decode cX1_best 31 = .ok (.goto 109, 3) := by decide +kernel
theorem dX1_best_34 : decode cX1_best 34 = .ok (.iload 7, 2) := by decide +kernel
theorem dX1_best_36 : decode cX1_best 36 = .ok (.istore 8, 2) := by decide +kernel
theorem dX1_best_38 : decode cX1_best 38 = .ok (.iload 8, 2) := by decide +kernel
theorem dX1_best_40 : decode cX1_best 40 = .ok (.bipush 10, 2) := by decide +kernel
theorem dX1_best_42 : decode cX1_best 42 = .ok (.if_icmp .ge 98, 3) := by decide +kernel
theorem dX1_best_45 : decode cX1_best 45 = .ok (.iconst 1, 1) := by decide +kernel
theorem dX1_best_46 : decode cX1_best 46 = .ok (.iload 7, 2) := by decide +kernel
theorem dX1_best_48 : decode cX1_best 48 = .ok (.ishl, 1) := by decide +kernel
theorem dX1_best_49 : decode cX1_best 49 = .ok (.iconst 1, 1) := by decide +kernel
theorem dX1_best_50 : decode cX1_best 50 = .ok (.iload 8, 2) := by decide +kernel
theorem dX1_best_52 : decode cX1_best 52 = .ok (.ishl, 1) := by decide +kernel
theorem dX1_best_53 : decode cX1_best 53 = .ok (.ior, 1) := by decide +kernel
theorem dX1_best_54 : decode cX1_best 54 = .ok (.istore 9, 2) := by decide +kernel
theorem dX1_best_56 : decode cX1_best 56 = .ok (.iload 9, 2) := by decide +kernel
theorem dX1_best_58 : decode cX1_best 58 = .ok (.iload_n 3, 1) := by decide +kernel
theorem dX1_best_59 : decode cX1_best 59 = .ok (.iconst (-1), 1) := by decide +kernel
theorem dX1_best_60 : decode cX1_best 60 = .ok (.ixor, 1) := by decide +kernel
theorem dX1_best_61 : decode cX1_best 61 = .ok (.iand, 1) := by decide +kernel
theorem dX1_best_62 : decode cX1_best 62 = .ok (.ifCond .ne 72, 3) := by decide +kernel
theorem dX1_best_65 : decode cX1_best 65 = .ok (.aload_n 0, 1) := by decide +kernel
theorem dX1_best_66 : decode cX1_best 66 = .ok (.getfield 67, 3) := by decide +kernel
theorem dX1_best_69 : decode cX1_best 69 = .ok (.iload_n 2, 1) := by decide +kernel
theorem dX1_best_70 : decode cX1_best 70 = .ok (.iconst 1, 1) := by decide +kernel
theorem dX1_best_71 : decode cX1_best 71 = .ok (.iadd, 1) := by decide +kernel
theorem dX1_best_72 : decode cX1_best 72 = .ok (.aaload, 1) := by decide +kernel
theorem dX1_best_73 : decode cX1_best 73 = .ok (.iload_n 3, 1) := by decide +kernel
theorem dX1_best_74 : decode cX1_best 74 = .ok (.iload 9, 2) := by decide +kernel
theorem dX1_best_76 : decode cX1_best 76 = .ok (.ixor, 1) := by decide +kernel
theorem dX1_best_77 : decode cX1_best 77 = .ok (.laload, 1) := by decide +kernel
theorem dX1_best_78 : decode cX1_best 78 = .ok (.ldc2_w 240, 3) := by decide +kernel
theorem dX1_best_81 : decode cX1_best 81 = .ok (.lcmp, 1) := by decide +kernel
theorem dX1_best_82 : decode cX1_best 82 = .ok (.ifCond .ge 52, 3) := by decide +kernel
theorem dX1_best_85 : decode cX1_best 85 = .ok (.aload_n 0, 1) := by decide +kernel
theorem dX1_best_86 : decode cX1_best 86 = .ok (.aload_n 1, 1) := by decide +kernel
theorem dX1_best_87 : decode cX1_best 87 = .ok (.getfield 187, 3) := by decide +kernel
theorem dX1_best_90 : decode cX1_best 90 = .ok (.iload_n 2, 1) := by decide +kernel
theorem dX1_best_91 : decode cX1_best 91 = .ok (.aaload, 1) := by decide +kernel
theorem dX1_best_92 : decode cX1_best 92 = .ok (.iload 9, 2) := by decide +kernel
theorem dX1_best_94 : decode cX1_best 94 = .ok (.invokevirtual 242, 3) := by decide +kernel
theorem dX1_best_97 : decode cX1_best 97 = .ok (.ifCond .ne 6, 3) := by decide +kernel
theorem dX1_best_100 : decode cX1_best 100 = .ok (.goto 34, 3) := by decide +kernel
theorem dX1_best_103 : decode cX1_best 103 = .ok (.lload 5, 2) := by decide +kernel
theorem dX1_best_105 : decode cX1_best 105 = .ok (.aload_n 0, 1) := by decide +kernel
theorem dX1_best_106 : decode cX1_best 106 = .ok (.aload_n 1, 1) := by decide +kernel
theorem dX1_best_107 : decode cX1_best 107 = .ok (.iload_n 2, 1) := by decide +kernel
theorem dX1_best_108 : decode cX1_best 108 = .ok (.iload 9, 2) := by decide +kernel
theorem dX1_best_110 : decode cX1_best 110 = .ok (.iload 4, 2) := by decide +kernel
theorem dX1_best_112 : decode cX1_best 112 = .ok (.invokevirtual 246, 3) := by decide +kernel
theorem dX1_best_115 : decode cX1_best 115 = .ok (.aload_n 0, 1) := by decide +kernel
theorem dX1_best_116 : decode cX1_best 116 = .ok (.getfield 67, 3) := by decide +kernel
theorem dX1_best_119 : decode cX1_best 119 = .ok (.iload_n 2, 1) := by decide +kernel
theorem dX1_best_120 : decode cX1_best 120 = .ok (.iconst 1, 1) := by decide +kernel
theorem dX1_best_121 : decode cX1_best 121 = .ok (.iadd, 1) := by decide +kernel
theorem dX1_best_122 : decode cX1_best 122 = .ok (.aaload, 1) := by decide +kernel
theorem dX1_best_123 : decode cX1_best 123 = .ok (.iload_n 3, 1) := by decide +kernel
theorem dX1_best_124 : decode cX1_best 124 = .ok (.iload 9, 2) := by decide +kernel
theorem dX1_best_126 : decode cX1_best 126 = .ok (.ixor, 1) := by decide +kernel
theorem dX1_best_127 : decode cX1_best 127 = .ok (.laload, 1) := by decide +kernel
theorem dX1_best_128 : decode cX1_best 128 = .ok (.ladd, 1) := by decide +kernel
theorem dX1_best_129 : decode cX1_best 129 = .ok (.invokestatic 249, 3) := by decide +kernel
theorem dX1_best_132 : decode cX1_best 132 = .ok (.lstore 5, 2) := by decide +kernel
theorem dX1_best_134 : decode cX1_best 134 = .ok (.iinc 8 1, 3) := by decide +kernel
theorem dX1_best_137 : decode cX1_best 137 = .ok (.goto (-99), 3) := by decide +kernel
theorem dX1_best_140 : decode cX1_best 140 = .ok (.iinc 7 1, 3) := by decide +kernel
theorem dX1_best_143 : decode cX1_best 143 = .ok (.goto (-128), 3) := by decide +kernel
theorem dX1_best_146 : decode cX1_best 146 = .ok (.lload 5, 2) := by decide +kernel
theorem dX1_best_148 : decode cX1_best 148 = .ok (.lreturn, 1) := by decide +kernel
abbrev cX1_fits : ByteArray := prog_1_method_21_code
def yX1_fits : MethodName := ⟨RX1, "fits", "(LTourRooms$Room;I)Z"⟩
theorem dX1_fits_0 : decode cX1_fits 0 = .ok (.iload_n 2, 1) := by decide +kernel
theorem dX1_fits_1 : decode cX1_fits 1 = .ok (.ifCond .ne 5, 3) := by decide +kernel
theorem dX1_fits_4 : decode cX1_fits 4 = .ok (.iconst 1, 1) := by decide +kernel
theorem dX1_fits_5 : decode cX1_fits 5 = .ok (.ireturn, 1) := by decide +kernel
theorem dX1_fits_6 : decode cX1_fits 6 = .ok (.aload_n 1, 1) := by decide +kernel
theorem dX1_fits_7 : decode cX1_fits 7 = .ok (.getfield 196, 3) := by decide +kernel
theorem dX1_fits_10 : decode cX1_fits 10 = .ok (.ifCond .eq 14, 3) := by decide +kernel
theorem dX1_fits_13 : decode cX1_fits 13 = .ok (.iload_n 2, 1) := by decide +kernel
theorem dX1_fits_14 : decode cX1_fits 14 = .ok (.invokestatic 199, 3) := by decide +kernel
theorem dX1_fits_17 : decode cX1_fits 17 = .ok (.aload_n 1, 1) := by decide +kernel
theorem dX1_fits_18 : decode cX1_fits 18 = .ok (.getfield 205, 3) := by decide +kernel
theorem dX1_fits_21 : decode cX1_fits 21 = .ok (.if_icmp .le 5, 3) := by decide +kernel
theorem dX1_fits_24 : decode cX1_fits 24 = .ok (.iconst 0, 1) := by decide +kernel
theorem dX1_fits_25 : decode cX1_fits 25 = .ok (.ireturn, 1) := by decide +kernel
theorem dX1_fits_26 : decode cX1_fits 26 = .ok (.iload_n 2, 1) := by decide +kernel
theorem dX1_fits_27 : decode cX1_fits 27 = .ok (.invokestatic 208, 3) := by decide +kernel
theorem dX1_fits_30 : decode cX1_fits 30 = .ok (.istore_n 3, 1) := by decide +kernel
theorem dX1_fits_31 : decode cX1_fits 31 = .ok (.iload_n 2, 1) := by decide +kernel
theorem dX1_fits_32 : decode cX1_fits 32 = .ok (.iload_n 2, 1) := by decide +kernel
theorem dX1_fits_33 : decode cX1_fits 33 = .ok (.iconst 1, 1) := by decide +kernel
theorem dX1_fits_34 : decode cX1_fits 34 = .ok (.isub, 1) := by decide +kernel
theorem dX1_fits_35 : decode cX1_fits 35 = .ok (.iand, 1) := by decide +kernel
theorem dX1_fits_36 : decode cX1_fits 36 = .ok (.istore 4, 2) := by decide +kernel
theorem dX1_fits_38 : decode cX1_fits 38 = .ok (.aload_n 0, 1) := by decide +kernel
theorem dX1_fits_39 : decode cX1_fits 39 = .ok (.getfield 11, 3) := by decide +kernel
theorem dX1_fits_42 : decode cX1_fits 42 = .ok (.iload_n 3, 1) := by decide +kernel
theorem dX1_fits_43 : decode cX1_fits 43 = .ok (.aaload, 1) := by decide +kernel
theorem dX1_fits_44 : decode cX1_fits 44 = .ok (.getfield 211, 3) := by decide +kernel
theorem dX1_fits_47 : decode cX1_fits 47 = .ok (.ifCond .eq 12, 3) := by decide +kernel
theorem dX1_fits_50 : decode cX1_fits 50 = .ok (.aload_n 1, 1) := by decide +kernel
theorem dX1_fits_51 : decode cX1_fits 51 = .ok (.getfield 214, 3) := by decide +kernel
theorem dX1_fits_54 : decode cX1_fits 54 = .ok (.ifCond .ne 5, 3) := by decide +kernel
theorem dX1_fits_57 : decode cX1_fits 57 = .ok (.iconst 0, 1) := by decide +kernel
theorem dX1_fits_58 : decode cX1_fits 58 = .ok (.ireturn, 1) := by decide +kernel
theorem dX1_fits_59 : decode cX1_fits 59 = .ok (.iload 4, 2) := by decide +kernel
theorem dX1_fits_61 : decode cX1_fits 61 = .ok (.ifCond .ne 5, 3) := by decide +kernel
theorem dX1_fits_64 : decode cX1_fits 64 = .ok (.iconst 1, 1) := by decide +kernel
theorem dX1_fits_65 : decode cX1_fits 65 = .ok (.ireturn, 1) := by decide +kernel
theorem dX1_fits_66 : decode cX1_fits 66 = .ok (.iload 4, 2) := by decide +kernel
theorem dX1_fits_68 : decode cX1_fits 68 = .ok (.invokestatic 208, 3) := by decide +kernel
theorem dX1_fits_71 : decode cX1_fits 71 = .ok (.istore 5, 2) := by decide +kernel
theorem dX1_fits_73 : decode cX1_fits 73 = .ok (.aload_n 0, 1) := by decide +kernel
theorem dX1_fits_74 : decode cX1_fits 74 = .ok (.getfield 11, 3) := by decide +kernel
theorem dX1_fits_77 : decode cX1_fits 77 = .ok (.iload 5, 2) := by decide +kernel
theorem dX1_fits_79 : decode cX1_fits 79 = .ok (.aaload, 1) := by decide +kernel
theorem dX1_fits_80 : decode cX1_fits 80 = .ok (.getfield 211, 3) := by decide +kernel
theorem dX1_fits_83 : decode cX1_fits 83 = .ok (.ifCond .eq 10, 3) := by decide +kernel
theorem dX1_fits_86 : decode cX1_fits 86 = .ok (.aload_n 1, 1) := by decide +kernel
theorem dX1_fits_87 : decode cX1_fits 87 = .ok (.getfield 214, 3) := by decide +kernel
theorem dX1_fits_90 : decode cX1_fits 90 = .ok (.ifCond .eq 26, 3) := by decide +kernel
theorem dX1_fits_93 : decode cX1_fits 93 = .ok (.aload_n 0, 1) := by decide +kernel
theorem dX1_fits_94 : decode cX1_fits 94 = .ok (.getfield 11, 3) := by decide +kernel
theorem dX1_fits_97 : decode cX1_fits 97 = .ok (.iload_n 3, 1) := by decide +kernel
theorem dX1_fits_98 : decode cX1_fits 98 = .ok (.aaload, 1) := by decide +kernel
theorem dX1_fits_99 : decode cX1_fits 99 = .ok (.aload_n 0, 1) := by decide +kernel
theorem dX1_fits_100 : decode cX1_fits 100 = .ok (.getfield 11, 3) := by decide +kernel
theorem dX1_fits_103 : decode cX1_fits 103 = .ok (.iload 5, 2) := by decide +kernel
theorem dX1_fits_105 : decode cX1_fits 105 = .ok (.aaload, 1) := by decide +kernel
theorem dX1_fits_106 : decode cX1_fits 106 = .ok (.invokevirtual 215, 3) := by decide +kernel
theorem dX1_fits_109 : decode cX1_fits 109 = .ok (.ifCond .eq 7, 3) := by decide +kernel
theorem dX1_fits_112 : decode cX1_fits 112 = .ok (.iconst 1, 1) := by decide +kernel
theorem dX1_fits_113 : decode cX1_fits 113 = .ok (.goto 4, 3) := by decide +kernel
theorem dX1_fits_116 : decode cX1_fits 116 = .ok (.iconst 0, 1) := by decide +kernel
theorem dX1_fits_117 : decode cX1_fits 117 = .ok (.ireturn, 1) := by decide +kernel
abbrev cX1_price : ByteArray := prog_1_method_25_code
def yX1_price : MethodName := ⟨RX1, "price", "(LTourRooms$Town;III)J"⟩
theorem dX1_price_0 : decode cX1_price 0 = .ok (.iload_n 3, 1) := by decide +kernel
theorem dX1_price_1 : decode cX1_price 1 = .ok (.ifCond .ne 5, 3) := by decide +kernel
theorem dX1_price_4 : decode cX1_price 4 = .ok (.lconst 0, 1) := by decide +kernel
theorem dX1_price_5 : decode cX1_price 5 = .ok (.lreturn, 1) := by decide +kernel
theorem dX1_price_6 : decode cX1_price 6 = .ok (.iconst 0, 1) := by decide +kernel
theorem dX1_price_7 : decode cX1_price 7 = .ok (.istore 5, 2) := by decide +kernel
theorem dX1_price_9 : decode cX1_price 9 = .ok (.iconst 0, 1) := by decide +kernel
theorem dX1_price_10 : decode cX1_price 10 = .ok (.istore 6, 2) := by decide +kernel
theorem dX1_price_12 : decode cX1_price 12 = .ok (.iload 6, 2) := by decide +kernel
theorem dX1_price_14 : decode cX1_price 14 = .ok (.bipush 10, 2) := by decide +kernel
theorem dX1_price_16 : decode cX1_price 16 = .ok (.if_icmp .ge 51, 3) := by decide +kernel
theorem dX1_price_19 : decode cX1_price 19 = .ok (.iload 5, 2) := by decide +kernel
theorem dX1_price_21 : decode cX1_price 21 = .ok (.iload_n 3, 1) := by decide +kernel
theorem dX1_price_22 : decode cX1_price 22 = .ok (.iload 6, 2) := by decide +kernel
theorem dX1_price_24 : decode cX1_price 24 = .ok (.ishr, 1) := by decide +kernel
theorem dX1_price_25 : decode cX1_price 25 = .ok (.iconst 1, 1) := by decide +kernel
theorem dX1_price_26 : decode cX1_price 26 = .ok (.iand, 1) := by decide +kernel
theorem dX1_price_27 : decode cX1_price 27 = .ok (.iconst 1, 1) := by decide +kernel
theorem dX1_price_28 : decode cX1_price 28 = .ok (.if_icmp .ne 29, 3) := by decide +kernel
theorem dX1_price_31 : decode cX1_price 31 = .ok (.aload_n 1, 1) := by decide +kernel
theorem dX1_price_32 : decode cX1_price 32 = .ok (.getfield 148, 3) := by decide +kernel
theorem dX1_price_35 : decode cX1_price 35 = .ok (.iload 6, 2) := by decide +kernel
theorem dX1_price_37 : decode cX1_price 37 = .ok (.iaload, 1) := by decide +kernel
theorem dX1_price_38 : decode cX1_price 38 = .ok (.iconst (-1), 1) := by decide +kernel
theorem dX1_price_39 : decode cX1_price 39 = .ok (.if_icmp .eq 18, 3) := by decide +kernel
theorem dX1_price_42 : decode cX1_price 42 = .ok (.aload_n 1, 1) := by decide +kernel
theorem dX1_price_43 : decode cX1_price 43 = .ok (.getfield 148, 3) := by decide +kernel
theorem dX1_price_46 : decode cX1_price 46 = .ok (.iload 6, 2) := by decide +kernel
theorem dX1_price_48 : decode cX1_price 48 = .ok (.iaload, 1) := by decide +kernel
theorem dX1_price_49 : decode cX1_price 49 = .ok (.iload_n 2, 1) := by decide +kernel
theorem dX1_price_50 : decode cX1_price 50 = .ok (.if_icmp .eq 7, 3) := by decide +kernel
theorem dX1_price_53 : decode cX1_price 53 = .ok (.iconst 1, 1) := by decide +kernel
theorem dX1_price_54 : decode cX1_price 54 = .ok (.goto 4, 3) := by decide +kernel
theorem dX1_price_57 : decode cX1_price 57 = .ok (.iconst 0, 1) := by decide +kernel
theorem dX1_price_58 : decode cX1_price 58 = .ok (.iadd, 1) := by decide +kernel
theorem dX1_price_59 : decode cX1_price 59 = .ok (.istore 5, 2) := by decide +kernel
theorem dX1_price_61 : decode cX1_price 61 = .ok (.iinc 6 1, 3) := by decide +kernel
theorem dX1_price_64 : decode cX1_price 64 = .ok (.goto (-52), 3) := by decide +kernel
theorem dX1_price_67 : decode cX1_price 67 = .ok (.iload 4, 2) := by decide +kernel
theorem dX1_price_69 : decode cX1_price 69 = .ok (.ifCond .ne 24, 3) := by decide +kernel
theorem dX1_price_72 : decode cX1_price 72 = .ok (.ldc2_w 233, 3) := by decide +kernel
theorem dX1_price_75 : decode cX1_price 75 = .ok (.aload_n 1, 1) := by decide +kernel
theorem dX1_price_76 : decode cX1_price 76 = .ok (.getfield 187, 3) := by decide +kernel
theorem dX1_price_79 : decode cX1_price 79 = .ok (.iload_n 2, 1) := by decide +kernel
theorem dX1_price_80 : decode cX1_price 80 = .ok (.aaload, 1) := by decide +kernel
theorem dX1_price_81 : decode cX1_price 81 = .ok (.getfield 235, 3) := by decide +kernel
theorem dX1_price_84 : decode cX1_price 84 = .ok (.i2l, 1) := by decide +kernel
theorem dX1_price_85 : decode cX1_price 85 = .ok (.lmul, 1) := by decide +kernel
theorem dX1_price_86 : decode cX1_price 86 = .ok (.iload 5, 2) := by decide +kernel
theorem dX1_price_88 : decode cX1_price 88 = .ok (.i2l, 1) := by decide +kernel
theorem dX1_price_89 : decode cX1_price 89 = .ok (.ladd, 1) := by decide +kernel
theorem dX1_price_90 : decode cX1_price 90 = .ok (.goto 21, 3) := by decide +kernel
theorem dX1_price_93 : decode cX1_price 93 = .ok (.ldc2_w 238, 3) := by decide +kernel
theorem dX1_price_96 : decode cX1_price 96 = .ok (.iload 5, 2) := by decide +kernel
theorem dX1_price_98 : decode cX1_price 98 = .ok (.i2l, 1) := by decide +kernel
theorem dX1_price_99 : decode cX1_price 99 = .ok (.lmul, 1) := by decide +kernel
theorem dX1_price_100 : decode cX1_price 100 = .ok (.aload_n 1, 1) := by decide +kernel
theorem dX1_price_101 : decode cX1_price 101 = .ok (.getfield 187, 3) := by decide +kernel
theorem dX1_price_104 : decode cX1_price 104 = .ok (.iload_n 2, 1) := by decide +kernel
theorem dX1_price_105 : decode cX1_price 105 = .ok (.aaload, 1) := by decide +kernel
theorem dX1_price_106 : decode cX1_price 106 = .ok (.getfield 235, 3) := by decide +kernel
theorem dX1_price_109 : decode cX1_price 109 = .ok (.i2l, 1) := by decide +kernel
theorem dX1_price_110 : decode cX1_price 110 = .ok (.ladd, 1) := by decide +kernel
theorem dX1_price_111 : decode cX1_price 111 = .ok (.lreturn, 1) := by decide +kernel
abbrev cX1_isBest : ByteArray := prog_1_method_28_code
def yX1_isBest : MethodName := ⟨RX1, "isBest", "(LTourRooms$Town;IIII)Z"⟩
theorem dX1_isBest_0 : decode cX1_isBest 0 = .ok (.iload 4, 2) := by decide +kernel
theorem dX1_isBest_2 : decode cX1_isBest 2 = .ok (.iload_n 3, 1) := by decide +kernel
theorem dX1_isBest_3 : decode cX1_isBest 3 = .ok (.iconst (-1), 1) := by decide +kernel
theorem dX1_isBest_4 : decode cX1_isBest 4 = .ok (.ixor, 1) := by decide +kernel
theorem dX1_isBest_5 : decode cX1_isBest 5 = .ok (.iand, 1) := by decide +kernel
theorem dX1_isBest_6 : decode cX1_isBest 6 = .ok (.ifCond .ne 78, 3) := by decide +kernel
theorem dX1_isBest_9 : decode cX1_isBest 9 = .ok (.aload_n 0, 1) := by decide +kernel
theorem dX1_isBest_10 : decode cX1_isBest 10 = .ok (.getfield 67, 3) := by decide +kernel
theorem dX1_isBest_13 : decode cX1_isBest 13 = .ok (.iload_n 2, 1) := by decide +kernel
theorem dX1_isBest_14 : decode cX1_isBest 14 = .ok (.iconst 1, 1) := by decide +kernel
theorem dX1_isBest_15 : decode cX1_isBest 15 = .ok (.iadd, 1) := by decide +kernel
theorem dX1_isBest_16 : decode cX1_isBest 16 = .ok (.aaload, 1) := by decide +kernel
theorem dX1_isBest_17 : decode cX1_isBest 17 = .ok (.iload_n 3, 1) := by decide +kernel
theorem dX1_isBest_18 : decode cX1_isBest 18 = .ok (.iload 4, 2) := by decide +kernel
theorem dX1_isBest_20 : decode cX1_isBest 20 = .ok (.ixor, 1) := by decide +kernel
theorem dX1_isBest_21 : decode cX1_isBest 21 = .ok (.laload, 1) := by decide +kernel
theorem dX1_isBest_22 : decode cX1_isBest 22 = .ok (.ldc2_w 240, 3) := by decide +kernel
theorem dX1_isBest_25 : decode cX1_isBest 25 = .ok (.lcmp, 1) := by decide +kernel
theorem dX1_isBest_26 : decode cX1_isBest 26 = .ok (.ifCond .ge 58, 3) := by decide +kernel
theorem dX1_isBest_29 : decode cX1_isBest 29 = .ok (.aload_n 0, 1) := by decide +kernel
theorem dX1_isBest_30 : decode cX1_isBest 30 = .ok (.aload_n 1, 1) := by decide +kernel
theorem dX1_isBest_31 : decode cX1_isBest 31 = .ok (.getfield 187, 3) := by decide +kernel
theorem dX1_isBest_34 : decode cX1_isBest 34 = .ok (.iload_n 2, 1) := by decide +kernel
theorem dX1_isBest_35 : decode cX1_isBest 35 = .ok (.aaload, 1) := by decide +kernel
theorem dX1_isBest_36 : decode cX1_isBest 36 = .ok (.iload 4, 2) := by decide +kernel
theorem dX1_isBest_38 : decode cX1_isBest 38 = .ok (.invokevirtual 242, 3) := by decide +kernel
theorem dX1_isBest_41 : decode cX1_isBest 41 = .ok (.ifCond .eq 43, 3) := by decide +kernel
theorem dX1_isBest_44 : decode cX1_isBest 44 = .ok (.aload_n 0, 1) := by decide +kernel
theorem dX1_isBest_45 : decode cX1_isBest 45 = .ok (.aload_n 1, 1) := by decide +kernel
theorem dX1_isBest_46 : decode cX1_isBest 46 = .ok (.iload_n 2, 1) := by decide +kernel
theorem dX1_isBest_47 : decode cX1_isBest 47 = .ok (.iload 4, 2) := by decide +kernel
theorem dX1_isBest_49 : decode cX1_isBest 49 = .ok (.iload 5, 2) := by decide +kernel
theorem dX1_isBest_51 : decode cX1_isBest 51 = .ok (.invokevirtual 246, 3) := by decide +kernel
theorem dX1_isBest_54 : decode cX1_isBest 54 = .ok (.aload_n 0, 1) := by decide +kernel
theorem dX1_isBest_55 : decode cX1_isBest 55 = .ok (.getfield 67, 3) := by decide +kernel
theorem dX1_isBest_58 : decode cX1_isBest 58 = .ok (.iload_n 2, 1) := by decide +kernel
theorem dX1_isBest_59 : decode cX1_isBest 59 = .ok (.iconst 1, 1) := by decide +kernel
theorem dX1_isBest_60 : decode cX1_isBest 60 = .ok (.iadd, 1) := by decide +kernel
theorem dX1_isBest_61 : decode cX1_isBest 61 = .ok (.aaload, 1) := by decide +kernel
theorem dX1_isBest_62 : decode cX1_isBest 62 = .ok (.iload_n 3, 1) := by decide +kernel
theorem dX1_isBest_63 : decode cX1_isBest 63 = .ok (.iload 4, 2) := by decide +kernel
theorem dX1_isBest_65 : decode cX1_isBest 65 = .ok (.ixor, 1) := by decide +kernel
theorem dX1_isBest_66 : decode cX1_isBest 66 = .ok (.laload, 1) := by decide +kernel
theorem dX1_isBest_67 : decode cX1_isBest 67 = .ok (.ladd, 1) := by decide +kernel
theorem dX1_isBest_68 : decode cX1_isBest 68 = .ok (.aload_n 0, 1) := by decide +kernel
theorem dX1_isBest_69 : decode cX1_isBest 69 = .ok (.getfield 67, 3) := by decide +kernel
theorem dX1_isBest_72 : decode cX1_isBest 72 = .ok (.iload_n 2, 1) := by decide +kernel
theorem dX1_isBest_73 : decode cX1_isBest 73 = .ok (.aaload, 1) := by decide +kernel
theorem dX1_isBest_74 : decode cX1_isBest 74 = .ok (.iload_n 3, 1) := by decide +kernel
theorem dX1_isBest_75 : decode cX1_isBest 75 = .ok (.laload, 1) := by decide +kernel
theorem dX1_isBest_76 : decode cX1_isBest 76 = .ok (.lcmp, 1) := by decide +kernel
theorem dX1_isBest_77 : decode cX1_isBest 77 = .ok (.ifCond .ne 7, 3) := by decide +kernel
theorem dX1_isBest_80 : decode cX1_isBest 80 = .ok (.iconst 1, 1) := by decide +kernel
theorem dX1_isBest_81 : decode cX1_isBest 81 = .ok (.goto 4, 3) := by decide +kernel
theorem dX1_isBest_84 : decode cX1_isBest 84 = .ok (.iconst 0, 1) := by decide +kernel
theorem dX1_isBest_85 : decode cX1_isBest 85 = .ok (.ireturn, 1) := by decide +kernel
abbrev cX1_moved : ByteArray := prog_1_method_29_code
def yX1_moved : MethodName := ⟨RX1, "moved", "()I"⟩
theorem dX1_moved_0 : decode cX1_moved 0 = .ok (.aload_n 0, 1) := by decide +kernel
theorem dX1_moved_1 : decode cX1_moved 1 = .ok (.getfield 25, 3) := by decide +kernel
theorem dX1_moved_4 : decode cX1_moved 4 = .ok (.ireturn, 1) := by decide +kernel
abbrev cX1_most : ByteArray := prog_1_method_30_code
def yX1_most : MethodName := ⟨RX1, "most", "(I)I"⟩
theorem dX1_most_0 : decode cX1_most 0 = .ok (.aload_n 0, 1) := by decide +kernel
theorem dX1_most_1 : decode cX1_most 1 = .ok (.iload_n 1, 1) := by decide +kernel
theorem dX1_most_2 : decode cX1_most 2 = .ok (.invokevirtual 124, 3) := by decide +kernel
theorem dX1_most_5 : decode cX1_most 5 = .ok (.ifCond .ne 5, 3) := by decide +kernel
theorem dX1_most_8 : decode cX1_most 8 = .ok (.iconst (-1), 1) := by decide +kernel
theorem dX1_most_9 : decode cX1_most 9 = .ok (.ireturn, 1) := by decide +kernel
theorem dX1_most_10 : decode cX1_most 10 = .ok (.aload_n 0, 1) := by decide +kernel
theorem dX1_most_11 : decode cX1_most 11 = .ok (.getfield 17, 3) := by decide +kernel
theorem dX1_most_14 : decode cX1_most 14 = .ok (.iload_n 1, 1) := by decide +kernel
theorem dX1_most_15 : decode cX1_most 15 = .ok (.aaload, 1) := by decide +kernel
theorem dX1_most_16 : decode cX1_most 16 = .ok (.astore_n 2, 1) := by decide +kernel
theorem dX1_most_17 : decode cX1_most 17 = .ok (.aload_n 0, 1) := by decide +kernel
theorem dX1_most_18 : decode cX1_most 18 = .ok (.iload_n 1, 1) := by decide +kernel
theorem dX1_most_19 : decode cX1_most 19 = .ok (.invokevirtual 255, 3) := by decide +kernel
theorem dX1_most_22 : decode cX1_most 22 = .ok (.istore_n 3, 1) := by decide +kernel
theorem dX1_most_23 : decode cX1_most 23 = .ok (.iconst 0, 1) := by decide +kernel
theorem dX1_most_24 : decode cX1_most 24 = .ok (.istore 4, 2) := by decide +kernel
theorem dX1_most_26 : decode cX1_most 26 = .ok (.iload 4, 2) := by decide +kernel
theorem dX1_most_28 : decode cX1_most 28 = .ok (.sipush 1024, 3) := by decide +kernel
theorem dX1_most_31 : decode cX1_most 31 = .ok (.if_icmp .ge 22, 3) := by decide +kernel
theorem dX1_most_34 : decode cX1_most 34 = .ok (.aload_n 0, 1) := by decide +kernel
theorem dX1_most_35 : decode cX1_most 35 = .ok (.getfield 67, 3) := by decide +kernel
theorem dX1_most_38 : decode cX1_most 38 = .ok (.aload_n 2, 1) := by decide +kernel
theorem dX1_most_39 : decode cX1_most 39 = .ok (.getfield 128, 3) := by decide +kernel
theorem dX1_most_42 : decode cX1_most 42 = .ok (.aaload, 1) := by decide +kernel
theorem dX1_most_43 : decode cX1_most 43 = .ok (.iload 4, 2) := by decide +kernel
theorem dX1_most_45 : decode cX1_most 45 = .ok (.lconst 0, 1) := by decide +kernel
theorem dX1_most_46 : decode cX1_most 46 = .ok (.lastore, 1) := by decide +kernel
theorem dX1_most_47 : decode cX1_most 47 = .ok (.iinc 4 1, 3) := by decide +kernel
theorem dX1_most_50 : decode cX1_most 50 = .ok (.goto (-24), 3) := by decide +kernel
theorem dX1_most_53 : decode cX1_most 53 = .ok (.aload_n 2, 1) := by decide +kernel
theorem dX1_most_54 : decode cX1_most 54 = .ok (.getfield 128, 3) := by decide +kernel
theorem dX1_most_57 : decode cX1_most 57 = .ok (.iconst 1, 1) := by decide +kernel
theorem dX1_most_58 : decode cX1_most 58 = .ok (.isub, 1) := by decide +kernel
theorem dX1_most_59 : decode cX1_most 59 = .ok (.istore 4, 2) := by decide +kernel
theorem dX1_most_61 : decode cX1_most 61 = .ok (.iload 4, 2) := by decide +kernel
theorem dX1_most_63 : decode cX1_most 63 = .ok (.ifCond .lt 54, 3) := by decide +kernel
theorem dX1_most_66 : decode cX1_most 66 = .ok (.iconst 0, 1) := by decide +kernel
theorem dX1_most_67 : decode cX1_most 67 = .ok (.istore 5, 2) := by decide +kernel
theorem dX1_most_69 : decode cX1_most 69 = .ok (.iload 5, 2) := by decide +kernel
theorem dX1_most_71 : decode cX1_most 71 = .ok (.sipush 1024, 3) := by decide +kernel
theorem dX1_most_74 : decode cX1_most 74 = .ok (.if_icmp .ge 37, 3) := by decide +kernel
theorem dX1_most_77 : decode cX1_most 77 = .ok (.iload 5, 2) := by decide +kernel
theorem dX1_most_79 : decode cX1_most 79 = .ok (.iload_n 3, 1) := by decide +kernel
theorem dX1_most_80 : decode cX1_most 80 = .ok (.iconst (-1), 1) := by decide +kernel
theorem dX1_most_81 : decode cX1_most 81 = .ok (.ixor, 1) := by decide +kernel
theorem dX1_most_82 : decode cX1_most 82 = .ok (.iand, 1) := by decide +kernel
theorem dX1_most_83 : decode cX1_most 83 = .ok (.ifCond .ne 22, 3) := by decide +kernel
theorem dX1_most_86 : decode cX1_most 86 = .ok (.aload_n 0, 1) := by decide +kernel
theorem dX1_most_87 : decode cX1_most 87 = .ok (.getfield 67, 3) := by decide +kernel
theorem dX1_most_90 : decode cX1_most 90 = .ok (.iload 4, 2) := by decide +kernel
theorem dX1_most_92 : decode cX1_most 92 = .ok (.aaload, 1) := by decide +kernel
theorem dX1_most_93 : decode cX1_most 93 = .ok (.iload 5, 2) := by decide +kernel
theorem dX1_most_95 : decode cX1_most 95 = .ok (.aload_n 0, 1) := by decide +kernel
theorem dX1_most_96 : decode cX1_most 96 = .ok (.aload_n 2, 1) := by decide +kernel
theorem dX1_most_97 : decode cX1_most 97 = .ok (.iload 4, 2) := by decide +kernel
theorem dX1_most_99 : decode cX1_most 99 = .ok (.iload 5, 2) := by decide +kernel
theorem dX1_most_101 : decode cX1_most 101 = .ok (.invokevirtual 269, 3) := by decide +kernel
theorem dX1_most_104 : decode cX1_most 104 = .ok (.lastore, 1) := by decide +kernel
theorem dX1_most_105 : decode cX1_most 105 = .ok (.iinc 5 1, 3) := by decide +kernel
theorem dX1_most_108 : decode cX1_most 108 = .ok (.goto (-39), 3) := by decide +kernel
theorem dX1_most_111 : decode cX1_most 111 = .ok (.iinc 4 (-1), 3) := by decide +kernel
theorem dX1_most_114 : decode cX1_most 114 = .ok (.goto (-53), 3) := by decide +kernel
theorem dX1_most_117 : decode cX1_most 117 = .ok (.aload_n 0, 1) := by decide +kernel
theorem dX1_most_118 : decode cX1_most 118 = .ok (.getfield 67, 3) := by decide +kernel
theorem dX1_most_121 : decode cX1_most 121 = .ok (.iconst 0, 1) := by decide +kernel
theorem dX1_most_122 : decode cX1_most 122 = .ok (.aaload, 1) := by decide +kernel
theorem dX1_most_123 : decode cX1_most 123 = .ok (.iload_n 3, 1) := by decide +kernel
theorem dX1_most_124 : decode cX1_most 124 = .ok (.laload, 1) := by decide +kernel
theorem dX1_most_125 : decode cX1_most 125 = .ok (.l2i, 1) := by decide +kernel
theorem dX1_most_126 : decode cX1_most 126 = .ok (.ireturn, 1) := by decide +kernel
abbrev cX1_mostOf : ByteArray := prog_1_method_31_code
def yX1_mostOf : MethodName := ⟨RX1, "mostOf", "(LTourRooms$Town;II)J"⟩
theorem dX1_mostOf_0 : decode cX1_mostOf 0 = .ok (.aload_n 0, 1) := by decide +kernel
theorem dX1_mostOf_1 : decode cX1_mostOf 1 = .ok (.getfield 67, 3) := by decide +kernel
theorem dX1_mostOf_4 : decode cX1_mostOf 4 = .ok (.iload_n 2, 1) := by decide +kernel
theorem dX1_mostOf_5 : decode cX1_mostOf 5 = .ok (.iconst 1, 1) := by decide +kernel
theorem dX1_mostOf_6 : decode cX1_mostOf 6 = .ok (.iadd, 1) := by decide +kernel
theorem dX1_mostOf_7 : decode cX1_mostOf 7 = .ok (.aaload, 1) := by decide +kernel
theorem dX1_mostOf_8 : decode cX1_mostOf 8 = .ok (.iload_n 3, 1) := by decide +kernel
theorem dX1_mostOf_9 : decode cX1_mostOf 9 = .ok (.laload, 1) := by decide +kernel
theorem dX1_mostOf_10 : decode cX1_mostOf 10 = .ok (.lstore 4, 2) := by decide +kernel
theorem dX1_mostOf_12 : decode cX1_mostOf 12 = .ok (.iconst 0, 1) := by decide +kernel
theorem dX1_mostOf_13 : decode cX1_mostOf 13 = .ok (.istore 6, 2) := by decide +kernel
theorem dX1_mostOf_15 : decode cX1_mostOf 15 = .ok (.iload 6, 2) := by decide +kernel
theorem dX1_mostOf_17 : decode cX1_mostOf 17 = .ok (.bipush 10, 2) := by decide +kernel
theorem dX1_mostOf_19 : decode cX1_mostOf 19 = .ok (.if_icmp .ge 100, 3) := by decide +kernel
theorem dX1_mostOf_22 : decode cX1_mostOf 22 = .ok (.iload_n 3, 1) := by decide +kernel
theorem dX1_mostOf_23 : decode cX1_mostOf 23 = .ok (.iload 6, 2) := by decide +kernel
theorem dX1_mostOf_25 : decode cX1_mostOf 25 = .ok (.ishr, 1) := by decide +kernel
theorem dX1_mostOf_26 : decode cX1_mostOf 26 = .ok (.iconst 1, 1) := by decide +kernel
theorem dX1_mostOf_27 : decode cX1_mostOf 27 = .ok (.iand, 1) := by decide +kernel
theorem dX1_mostOf_28 : decode cX1_mostOf 28 = .ok (.ifCond .ne 6, 3) := by decide +kernel
theorem dX1_mostOf_31 : decode cX1_mostOf 31 = .ok (.goto 82, 3) := by decide +kernel
theorem dX1_mostOf_34 : decode cX1_mostOf 34 = .ok (.iload 6, 2) := by decide +kernel
theorem dX1_mostOf_36 : decode cX1_mostOf 36 = .ok (.istore 7, 2) := by decide +kernel
theorem dX1_mostOf_38 : decode cX1_mostOf 38 = .ok (.iload 7, 2) := by decide +kernel
theorem dX1_mostOf_40 : decode cX1_mostOf 40 = .ok (.bipush 10, 2) := by decide +kernel
theorem dX1_mostOf_42 : decode cX1_mostOf 42 = .ok (.if_icmp .ge 71, 3) := by decide +kernel
theorem dX1_mostOf_45 : decode cX1_mostOf 45 = .ok (.iconst 1, 1) := by decide +kernel
theorem dX1_mostOf_46 : decode cX1_mostOf 46 = .ok (.iload 6, 2) := by decide +kernel
theorem dX1_mostOf_48 : decode cX1_mostOf 48 = .ok (.ishl, 1) := by decide +kernel
theorem dX1_mostOf_49 : decode cX1_mostOf 49 = .ok (.iconst 1, 1) := by decide +kernel
theorem dX1_mostOf_50 : decode cX1_mostOf 50 = .ok (.iload 7, 2) := by decide +kernel
theorem dX1_mostOf_52 : decode cX1_mostOf 52 = .ok (.ishl, 1) := by decide +kernel
theorem dX1_mostOf_53 : decode cX1_mostOf 53 = .ok (.ior, 1) := by decide +kernel
theorem dX1_mostOf_54 : decode cX1_mostOf 54 = .ok (.istore 8, 2) := by decide +kernel
theorem dX1_mostOf_56 : decode cX1_mostOf 56 = .ok (.iload 8, 2) := by decide +kernel
theorem dX1_mostOf_58 : decode cX1_mostOf 58 = .ok (.iload_n 3, 1) := by decide +kernel
theorem dX1_mostOf_59 : decode cX1_mostOf 59 = .ok (.iconst (-1), 1) := by decide +kernel
theorem dX1_mostOf_60 : decode cX1_mostOf 60 = .ok (.ixor, 1) := by decide +kernel
theorem dX1_mostOf_61 : decode cX1_mostOf 61 = .ok (.iand, 1) := by decide +kernel
theorem dX1_mostOf_62 : decode cX1_mostOf 62 = .ok (.ifCond .ne 45, 3) := by decide +kernel
theorem dX1_mostOf_65 : decode cX1_mostOf 65 = .ok (.aload_n 0, 1) := by decide +kernel
theorem dX1_mostOf_66 : decode cX1_mostOf 66 = .ok (.aload_n 1, 1) := by decide +kernel
theorem dX1_mostOf_67 : decode cX1_mostOf 67 = .ok (.getfield 187, 3) := by decide +kernel
theorem dX1_mostOf_70 : decode cX1_mostOf 70 = .ok (.iload_n 2, 1) := by decide +kernel
theorem dX1_mostOf_71 : decode cX1_mostOf 71 = .ok (.aaload, 1) := by decide +kernel
theorem dX1_mostOf_72 : decode cX1_mostOf 72 = .ok (.iload 8, 2) := by decide +kernel
theorem dX1_mostOf_74 : decode cX1_mostOf 74 = .ok (.invokevirtual 242, 3) := by decide +kernel
theorem dX1_mostOf_77 : decode cX1_mostOf 77 = .ok (.ifCond .eq 30, 3) := by decide +kernel
theorem dX1_mostOf_80 : decode cX1_mostOf 80 = .ok (.lload 4, 2) := by decide +kernel
theorem dX1_mostOf_82 : decode cX1_mostOf 82 = .ok (.iload 8, 2) := by decide +kernel
theorem dX1_mostOf_84 : decode cX1_mostOf 84 = .ok (.invokestatic 199, 3) := by decide +kernel
theorem dX1_mostOf_87 : decode cX1_mostOf 87 = .ok (.i2l, 1) := by decide +kernel
theorem dX1_mostOf_88 : decode cX1_mostOf 88 = .ok (.aload_n 0, 1) := by decide +kernel
theorem dX1_mostOf_89 : decode cX1_mostOf 89 = .ok (.getfield 67, 3) := by decide +kernel
theorem dX1_mostOf_92 : decode cX1_mostOf 92 = .ok (.iload_n 2, 1) := by decide +kernel
theorem dX1_mostOf_93 : decode cX1_mostOf 93 = .ok (.iconst 1, 1) := by decide +kernel
theorem dX1_mostOf_94 : decode cX1_mostOf 94 = .ok (.iadd, 1) := by decide +kernel
theorem dX1_mostOf_95 : decode cX1_mostOf 95 = .ok (.aaload, 1) := by decide +kernel
theorem dX1_mostOf_96 : decode cX1_mostOf 96 = .ok (.iload_n 3, 1) := by decide +kernel
theorem dX1_mostOf_97 : decode cX1_mostOf 97 = .ok (.iload 8, 2) := by decide +kernel
theorem dX1_mostOf_99 : decode cX1_mostOf 99 = .ok (.ixor, 1) := by decide +kernel
theorem dX1_mostOf_100 : decode cX1_mostOf 100 = .ok (.laload, 1) := by decide +kernel
theorem dX1_mostOf_101 : decode cX1_mostOf 101 = .ok (.ladd, 1) := by decide +kernel
theorem dX1_mostOf_102 : decode cX1_mostOf 102 = .ok (.invokestatic 273, 3) := by decide +kernel
theorem dX1_mostOf_105 : decode cX1_mostOf 105 = .ok (.lstore 4, 2) := by decide +kernel
theorem dX1_mostOf_107 : decode cX1_mostOf 107 = .ok (.iinc 7 1, 3) := by decide +kernel
theorem dX1_mostOf_110 : decode cX1_mostOf 110 = .ok (.goto (-72), 3) := by decide +kernel
theorem dX1_mostOf_113 : decode cX1_mostOf 113 = .ok (.iinc 6 1, 3) := by decide +kernel
theorem dX1_mostOf_116 : decode cX1_mostOf 116 = .ok (.goto (-101), 3) := by decide +kernel
theorem dX1_mostOf_119 : decode cX1_mostOf 119 = .ok (.lload 4, 2) := by decide +kernel
theorem dX1_mostOf_121 : decode cX1_mostOf 121 = .ok (.lreturn, 1) := by decide +kernel
abbrev cX1_right : ByteArray := prog_1_method_33_code
def yX1_right : MethodName := ⟨RX1, "right", "(I)Z"⟩
theorem dX1_right_0 : decode cX1_right 0 = .ok (.aload_n 0, 1) := by decide +kernel
theorem dX1_right_1 : decode cX1_right 1 = .ok (.iload_n 1, 1) := by decide +kernel
theorem dX1_right_2 : decode cX1_right 2 = .ok (.invokevirtual 124, 3) := by decide +kernel
theorem dX1_right_5 : decode cX1_right 5 = .ok (.ifCond .eq 15, 3) := by decide +kernel
theorem dX1_right_8 : decode cX1_right 8 = .ok (.aload_n 0, 1) := by decide +kernel
theorem dX1_right_9 : decode cX1_right 9 = .ok (.iload_n 1, 1) := by decide +kernel
theorem dX1_right_10 : decode cX1_right 10 = .ok (.invokevirtual 276, 3) := by decide +kernel
theorem dX1_right_13 : decode cX1_right 13 = .ok (.ifCond .eq 7, 3) := by decide +kernel
theorem dX1_right_16 : decode cX1_right 16 = .ok (.iconst 1, 1) := by decide +kernel
theorem dX1_right_17 : decode cX1_right 17 = .ok (.goto 4, 3) := by decide +kernel
theorem dX1_right_20 : decode cX1_right 20 = .ok (.iconst 0, 1) := by decide +kernel
theorem dX1_right_21 : decode cX1_right 21 = .ok (.ireturn, 1) := by decide +kernel
abbrev cX1_isRight : ByteArray := prog_1_method_32_code
def yX1_isRight : MethodName := ⟨RX1, "isRight", "(I)Z"⟩
theorem dX1_isRight_0 : decode cX1_isRight 0 = .ok (.aload_n 0, 1) := by decide +kernel
theorem dX1_isRight_1 : decode cX1_isRight 1 = .ok (.getfield 17, 3) := by decide +kernel
theorem dX1_isRight_4 : decode cX1_isRight 4 = .ok (.iload_n 1, 1) := by decide +kernel
theorem dX1_isRight_5 : decode cX1_isRight 5 = .ok (.aaload, 1) := by decide +kernel
theorem dX1_isRight_6 : decode cX1_isRight 6 = .ok (.astore_n 2, 1) := by decide +kernel
theorem dX1_isRight_7 : decode cX1_isRight 7 = .ok (.iconst 1, 1) := by decide +kernel
theorem dX1_isRight_8 : decode cX1_isRight 8 = .ok (.istore_n 3, 1) := by decide +kernel
theorem dX1_isRight_9 : decode cX1_isRight 9 = .ok (.iconst 0, 1) := by decide +kernel
theorem dX1_isRight_10 : decode cX1_isRight 10 = .ok (.istore 4, 2) := by decide +kernel
theorem dX1_isRight_12 : decode cX1_isRight 12 = .ok (.iload 4, 2) := by decide +kernel
theorem dX1_isRight_14 : decode cX1_isRight 14 = .ok (.aload_n 0, 1) := by decide +kernel
theorem dX1_isRight_15 : decode cX1_isRight 15 = .ok (.getfield 105, 3) := by decide +kernel
theorem dX1_isRight_18 : decode cX1_isRight 18 = .ok (.if_icmp .ge 44, 3) := by decide +kernel
theorem dX1_isRight_21 : decode cX1_isRight 21 = .ok (.iload_n 3, 1) := by decide +kernel
theorem dX1_isRight_22 : decode cX1_isRight 22 = .ok (.ifCond .eq 32, 3) := by decide +kernel
theorem dX1_isRight_25 : decode cX1_isRight 25 = .ok (.aload_n 0, 1) := by decide +kernel
theorem dX1_isRight_26 : decode cX1_isRight 26 = .ok (.getfield 11, 3) := by decide +kernel
theorem dX1_isRight_29 : decode cX1_isRight 29 = .ok (.iload 4, 2) := by decide +kernel
theorem dX1_isRight_31 : decode cX1_isRight 31 = .ok (.aaload, 1) := by decide +kernel
theorem dX1_isRight_32 : decode cX1_isRight 32 = .ok (.iload_n 1, 1) := by decide +kernel
theorem dX1_isRight_33 : decode cX1_isRight 33 = .ok (.invokevirtual 219, 3) := by decide +kernel
theorem dX1_isRight_36 : decode cX1_isRight 36 = .ok (.ifCond .eq 14, 3) := by decide +kernel
theorem dX1_isRight_39 : decode cX1_isRight 39 = .ok (.aload_n 2, 1) := by decide +kernel
theorem dX1_isRight_40 : decode cX1_isRight 40 = .ok (.getfield 148, 3) := by decide +kernel
theorem dX1_isRight_43 : decode cX1_isRight 43 = .ok (.iload 4, 2) := by decide +kernel
theorem dX1_isRight_45 : decode cX1_isRight 45 = .ok (.iaload, 1) := by decide +kernel
theorem dX1_isRight_46 : decode cX1_isRight 46 = .ok (.iconst (-1), 1) := by decide +kernel
theorem dX1_isRight_47 : decode cX1_isRight 47 = .ok (.if_icmp .eq 7, 3) := by decide +kernel
theorem dX1_isRight_50 : decode cX1_isRight 50 = .ok (.iconst 1, 1) := by decide +kernel
theorem dX1_isRight_51 : decode cX1_isRight 51 = .ok (.goto 4, 3) := by decide +kernel
theorem dX1_isRight_54 : decode cX1_isRight 54 = .ok (.iconst 0, 1) := by decide +kernel
theorem dX1_isRight_55 : decode cX1_isRight 55 = .ok (.istore_n 3, 1) := by decide +kernel
theorem dX1_isRight_56 : decode cX1_isRight 56 = .ok (.iinc 4 1, 3) := by decide +kernel
theorem dX1_isRight_59 : decode cX1_isRight 59 = .ok (.goto (-47), 3) := by decide +kernel
theorem dX1_isRight_62 : decode cX1_isRight 62 = .ok (.iconst 0, 1) := by decide +kernel
theorem dX1_isRight_63 : decode cX1_isRight 63 = .ok (.istore 4, 2) := by decide +kernel
theorem dX1_isRight_65 : decode cX1_isRight 65 = .ok (.iload 4, 2) := by decide +kernel
theorem dX1_isRight_67 : decode cX1_isRight 67 = .ok (.aload_n 2, 1) := by decide +kernel
theorem dX1_isRight_68 : decode cX1_isRight 68 = .ok (.getfield 128, 3) := by decide +kernel
theorem dX1_isRight_71 : decode cX1_isRight 71 = .ok (.if_icmp .ge 39, 3) := by decide +kernel
theorem dX1_isRight_74 : decode cX1_isRight 74 = .ok (.iload_n 3, 1) := by decide +kernel
theorem dX1_isRight_75 : decode cX1_isRight 75 = .ok (.ifCond .eq 27, 3) := by decide +kernel
theorem dX1_isRight_78 : decode cX1_isRight 78 = .ok (.aload_n 0, 1) := by decide +kernel
theorem dX1_isRight_79 : decode cX1_isRight 79 = .ok (.aload_n 2, 1) := by decide +kernel
theorem dX1_isRight_80 : decode cX1_isRight 80 = .ok (.getfield 187, 3) := by decide +kernel
theorem dX1_isRight_83 : decode cX1_isRight 83 = .ok (.iload 4, 2) := by decide +kernel
theorem dX1_isRight_85 : decode cX1_isRight 85 = .ok (.aaload, 1) := by decide +kernel
theorem dX1_isRight_86 : decode cX1_isRight 86 = .ok (.aload_n 2, 1) := by decide +kernel
theorem dX1_isRight_87 : decode cX1_isRight 87 = .ok (.iload 4, 2) := by decide +kernel
theorem dX1_isRight_89 : decode cX1_isRight 89 = .ok (.invokevirtual 226, 3) := by decide +kernel
theorem dX1_isRight_92 : decode cX1_isRight 92 = .ok (.invokevirtual 242, 3) := by decide +kernel
theorem dX1_isRight_95 : decode cX1_isRight 95 = .ok (.ifCond .eq 7, 3) := by decide +kernel
theorem dX1_isRight_98 : decode cX1_isRight 98 = .ok (.iconst 1, 1) := by decide +kernel
theorem dX1_isRight_99 : decode cX1_isRight 99 = .ok (.goto 4, 3) := by decide +kernel
theorem dX1_isRight_102 : decode cX1_isRight 102 = .ok (.iconst 0, 1) := by decide +kernel
theorem dX1_isRight_103 : decode cX1_isRight 103 = .ok (.istore_n 3, 1) := by decide +kernel
theorem dX1_isRight_104 : decode cX1_isRight 104 = .ok (.iinc 4 1, 3) := by decide +kernel
theorem dX1_isRight_107 : decode cX1_isRight 107 = .ok (.goto (-42), 3) := by decide +kernel
theorem dX1_isRight_110 : decode cX1_isRight 110 = .ok (.iload_n 3, 1) := by decide +kernel
theorem dX1_isRight_111 : decode cX1_isRight 111 = .ok (.ireturn, 1) := by decide +kernel
abbrev cX1_listed : ByteArray := prog_1_method_34_code
def yX1_listed : MethodName := ⟨RX1, "listed", "(III)I"⟩
theorem dX1_listed_0 : decode cX1_listed 0 = .ok (.aload_n 0, 1) := by decide +kernel
theorem dX1_listed_1 : decode cX1_listed 1 = .ok (.iload_n 1, 1) := by decide +kernel
theorem dX1_listed_2 : decode cX1_listed 2 = .ok (.invokevirtual 124, 3) := by decide +kernel
theorem dX1_listed_5 : decode cX1_listed 5 = .ok (.ifCond .eq 23, 3) := by decide +kernel
theorem dX1_listed_8 : decode cX1_listed 8 = .ok (.aload_n 0, 1) := by decide +kernel
theorem dX1_listed_9 : decode cX1_listed 9 = .ok (.iload_n 2, 1) := by decide +kernel
theorem dX1_listed_10 : decode cX1_listed 10 = .ok (.invokevirtual 134, 3) := by decide +kernel
theorem dX1_listed_13 : decode cX1_listed 13 = .ok (.ifCond .eq 15, 3) := by decide +kernel
theorem dX1_listed_16 : decode cX1_listed 16 = .ok (.iload_n 3, 1) := by decide +kernel
theorem dX1_listed_17 : decode cX1_listed 17 = .ok (.iconst 0, 1) := by decide +kernel
theorem dX1_listed_18 : decode cX1_listed 18 = .ok (.aload_n 0, 1) := by decide +kernel
theorem dX1_listed_19 : decode cX1_listed 19 = .ok (.getfield 154, 3) := by decide +kernel
theorem dX1_listed_22 : decode cX1_listed 22 = .ok (.invokestatic 108, 3) := by decide +kernel
theorem dX1_listed_25 : decode cX1_listed 25 = .ok (.ifCond .ne 5, 3) := by decide +kernel
theorem dX1_listed_28 : decode cX1_listed 28 = .ok (.iconst (-1), 1) := by decide +kernel
theorem dX1_listed_29 : decode cX1_listed 29 = .ok (.ireturn, 1) := by decide +kernel
theorem dX1_listed_30 : decode cX1_listed 30 = .ok (.aload_n 0, 1) := by decide +kernel
theorem dX1_listed_31 : decode cX1_listed 31 = .ok (.getfield 151, 3) := by decide +kernel
theorem dX1_listed_34 : decode cX1_listed 34 = .ok (.iconst 1, 1) := by decide +kernel
theorem dX1_listed_35 : decode cX1_listed 35 = .ok (.isub, 1) := by decide +kernel
theorem dX1_listed_36 : decode cX1_listed 36 = .ok (.istore 4, 2) := by decide +kernel
theorem dX1_listed_38 : decode cX1_listed 38 = .ok (.iload 4, 2) := by decide +kernel
theorem dX1_listed_40 : decode cX1_listed 40 = .ok (.ifCond .lt 50, 3) := by decide +kernel
theorem dX1_listed_43 : decode cX1_listed 43 = .ok (.aload_n 0, 1) := by decide +kernel
theorem dX1_listed_44 : decode cX1_listed 44 = .ok (.getfield 28, 3) := by decide +kernel
theorem dX1_listed_47 : decode cX1_listed 47 = .ok (.iload 4, 2) := by decide +kernel
theorem dX1_listed_49 : decode cX1_listed 49 = .ok (.iaload, 1) := by decide +kernel
theorem dX1_listed_50 : decode cX1_listed 50 = .ok (.iload_n 1, 1) := by decide +kernel
theorem dX1_listed_51 : decode cX1_listed 51 = .ok (.if_icmp .ne 33, 3) := by decide +kernel
theorem dX1_listed_54 : decode cX1_listed 54 = .ok (.aload_n 0, 1) := by decide +kernel
theorem dX1_listed_55 : decode cX1_listed 55 = .ok (.getfield 32, 3) := by decide +kernel
theorem dX1_listed_58 : decode cX1_listed 58 = .ok (.iload 4, 2) := by decide +kernel
theorem dX1_listed_60 : decode cX1_listed 60 = .ok (.iaload, 1) := by decide +kernel
theorem dX1_listed_61 : decode cX1_listed 61 = .ok (.iload_n 2, 1) := by decide +kernel
theorem dX1_listed_62 : decode cX1_listed 62 = .ok (.if_icmp .ne 22, 3) := by decide +kernel
theorem dX1_listed_65 : decode cX1_listed 65 = .ok (.aload_n 0, 1) := by decide +kernel
theorem dX1_listed_66 : decode cX1_listed 66 = .ok (.getfield 38, 3) := by decide +kernel
theorem dX1_listed_69 : decode cX1_listed 69 = .ok (.iload 4, 2) := by decide +kernel
theorem dX1_listed_71 : decode cX1_listed 71 = .ok (.iaload, 1) := by decide +kernel
theorem dX1_listed_72 : decode cX1_listed 72 = .ok (.iload_n 3, 1) := by decide +kernel
theorem dX1_listed_73 : decode cX1_listed 73 = .ok (.if_icmp .gt 11, 3) := by decide +kernel
theorem dX1_listed_76 : decode cX1_listed 76 = .ok (.aload_n 0, 1) := by decide +kernel
theorem dX1_listed_77 : decode cX1_listed 77 = .ok (.getfield 35, 3) := by decide +kernel
theorem dX1_listed_80 : decode cX1_listed 80 = .ok (.iload 4, 2) := by decide +kernel
theorem dX1_listed_82 : decode cX1_listed 82 = .ok (.iaload, 1) := by decide +kernel
theorem dX1_listed_83 : decode cX1_listed 83 = .ok (.ireturn, 1) := by decide +kernel
theorem dX1_listed_84 : decode cX1_listed 84 = .ok (.iinc 4 (-1), 3) := by decide +kernel
theorem dX1_listed_87 : decode cX1_listed 87 = .ok (.goto (-49), 3) := by decide +kernel
theorem dX1_listed_90 : decode cX1_listed 90 = .ok (.iconst (-1), 1) := by decide +kernel
theorem dX1_listed_91 : decode cX1_listed 91 = .ok (.ireturn, 1) := by decide +kernel
abbrev cX1_feed : ByteArray := prog_1_method_35_code
def yX1_feed : MethodName := ⟨RX1, "feed", "(JJJ)I"⟩
theorem dX1_feed_0 : decode cX1_feed 0 = .ok (.iconst 0, 1) := by decide +kernel
theorem dX1_feed_1 : decode cX1_feed 1 = .ok (.istore 7, 2) := by decide +kernel
theorem dX1_feed_3 : decode cX1_feed 3 = .ok (.iload 7, 2) := by decide +kernel
theorem dX1_feed_5 : decode cX1_feed 5 = .ok (.bipush 24, 2) := by decide +kernel
theorem dX1_feed_7 : decode cX1_feed 7 = .ok (.if_icmp .ge 85, 3) := by decide +kernel
theorem dX1_feed_10 : decode cX1_feed 10 = .ok (.iload 7, 2) := by decide +kernel
theorem dX1_feed_12 : decode cX1_feed 12 = .ok (.bipush 8, 2) := by decide +kernel
theorem dX1_feed_14 : decode cX1_feed 14 = .ok (.if_icmp .ge 7, 3) := by decide +kernel
theorem dX1_feed_17 : decode cX1_feed 17 = .ok (.lload_n 1, 1) := by decide +kernel
theorem dX1_feed_18 : decode cX1_feed 18 = .ok (.goto 16, 3) := by decide +kernel
theorem dX1_feed_21 : decode cX1_feed 21 = .ok (.iload 7, 2) := by decide +kernel
theorem dX1_feed_23 : decode cX1_feed 23 = .ok (.bipush 16, 2) := by decide +kernel
theorem dX1_feed_25 : decode cX1_feed 25 = .ok (.if_icmp .ge 7, 3) := by decide +kernel
theorem dX1_feed_28 : decode cX1_feed 28 = .ok (.lload_n 3, 1) := by decide +kernel
theorem dX1_feed_29 : decode cX1_feed 29 = .ok (.goto 5, 3) := by decide +kernel
theorem dX1_feed_32 : decode cX1_feed 32 = .ok (.lload 5, 2) := by decide +kernel
theorem dX1_feed_34 : decode cX1_feed 34 = .ok (.bipush 56, 2) := by decide +kernel
theorem dX1_feed_36 : decode cX1_feed 36 = .ok (.bipush 8, 2) := by decide +kernel
theorem dX1_feed_38 : decode cX1_feed 38 = .ok (.iload 7, 2) := by decide +kernel
theorem dX1_feed_40 : decode cX1_feed 40 = .ok (.bipush 8, 2) := by decide +kernel
theorem dX1_feed_42 : decode cX1_feed 42 = .ok (.irem, 1) := by decide +kernel
theorem dX1_feed_43 : decode cX1_feed 43 = .ok (.imul, 1) := by decide +kernel
theorem dX1_feed_44 : decode cX1_feed 44 = .ok (.isub, 1) := by decide +kernel
theorem dX1_feed_45 : decode cX1_feed 45 = .ok (.lshr, 1) := by decide +kernel
theorem dX1_feed_46 : decode cX1_feed 46 = .ok (.l2i, 1) := by decide +kernel
theorem dX1_feed_47 : decode cX1_feed 47 = .ok (.i2b, 1) := by decide +kernel
theorem dX1_feed_48 : decode cX1_feed 48 = .ok (.istore 8, 2) := by decide +kernel
theorem dX1_feed_50 : decode cX1_feed 50 = .ok (.iload 8, 2) := by decide +kernel
theorem dX1_feed_52 : decode cX1_feed 52 = .ok (.ifCond .eq 34, 3) := by decide +kernel
theorem dX1_feed_55 : decode cX1_feed 55 = .ok (.aload_n 0, 1) := by decide +kernel
theorem dX1_feed_56 : decode cX1_feed 56 = .ok (.getfield 279, 3) := by decide +kernel
theorem dX1_feed_59 : decode cX1_feed 59 = .ok (.sipush 400, 3) := by decide +kernel
theorem dX1_feed_62 : decode cX1_feed 62 = .ok (.if_icmp .ge 24, 3) := by decide +kernel
theorem dX1_feed_65 : decode cX1_feed 65 = .ok (.aload_n 0, 1) := by decide +kernel
theorem dX1_feed_66 : decode cX1_feed 66 = .ok (.getfield 41, 3) := by decide +kernel
theorem dX1_feed_69 : decode cX1_feed 69 = .ok (.aload_n 0, 1) := by decide +kernel
theorem dX1_feed_70 : decode cX1_feed 70 = .ok (.getfield 279, 3) := by decide +kernel
theorem dX1_feed_73 : decode cX1_feed 73 = .ok (.iload 8, 2) := by decide +kernel
theorem dX1_feed_75 : decode cX1_feed 75 = .ok (.bastore, 1) := by decide +kernel
theorem dX1_feed_76 : decode cX1_feed 76 = .ok (.aload_n 0, 1) := by decide +kernel
theorem dX1_feed_77 : decode cX1_feed 77 = .ok (.dup, 1) := by decide +kernel
theorem dX1_feed_78 : decode cX1_feed 78 = .ok (.getfield 279, 3) := by decide +kernel
theorem dX1_feed_81 : decode cX1_feed 81 = .ok (.iconst 1, 1) := by decide +kernel
theorem dX1_feed_82 : decode cX1_feed 82 = .ok (.iadd, 1) := by decide +kernel
theorem dX1_feed_83 : decode cX1_feed 83 = .ok (.putfield 279, 3) := by decide +kernel
theorem dX1_feed_86 : decode cX1_feed 86 = .ok (.iinc 7 1, 3) := by decide +kernel
theorem dX1_feed_89 : decode cX1_feed 89 = .ok (.goto (-86), 3) := by decide +kernel
theorem dX1_feed_92 : decode cX1_feed 92 = .ok (.aload_n 0, 1) := by decide +kernel
theorem dX1_feed_93 : decode cX1_feed 93 = .ok (.getfield 279, 3) := by decide +kernel
theorem dX1_feed_96 : decode cX1_feed 96 = .ok (.ireturn, 1) := by decide +kernel
abbrev cX1_read : ByteArray := prog_1_method_36_code
def yX1_read : MethodName := ⟨RX1, "read", "(I)I"⟩
theorem dX1_read_0 : decode cX1_read 0 = .ok (.aload_n 0, 1) := by decide +kernel
theorem dX1_read_1 : decode cX1_read 1 = .ok (.iload_n 1, 1) := by decide +kernel
theorem dX1_read_2 : decode cX1_read 2 = .ok (.invokevirtual 124, 3) := by decide +kernel
theorem dX1_read_5 : decode cX1_read 5 = .ok (.ifCond .ne 5, 3) := by decide +kernel
theorem dX1_read_8 : decode cX1_read 8 = .ok (.iconst (-1), 1) := by decide +kernel
theorem dX1_read_9 : decode cX1_read 9 = .ok (.ireturn, 1) := by decide +kernel
theorem dX1_read_10 : decode cX1_read 10 = .ok (.iconst 0, 1) := by decide +kernel
theorem dX1_read_11 : decode cX1_read 11 = .ok (.istore_n 2, 1) := by decide +kernel
theorem dX1_read_12 : decode cX1_read 12 = .ok (.aload_n 0, 1) := by decide +kernel
theorem dX1_read_13 : decode cX1_read 13 = .ok (.getfield 17, 3) := by decide +kernel
theorem dX1_read_16 : decode cX1_read 16 = .ok (.iload_n 1, 1) := by decide +kernel
theorem dX1_read_17 : decode cX1_read 17 = .ok (.aaload, 1) := by decide +kernel
theorem dX1_read_18 : decode cX1_read 18 = .ok (.new 282, 3) := by decide +kernel
theorem dX1_read_21 : decode cX1_read 21 = .ok (.dup, 1) := by decide +kernel
theorem dX1_read_22 : decode cX1_read 22 = .ok (.aload_n 0, 1) := by decide +kernel
theorem dX1_read_23 : decode cX1_read 23 = .ok (.invokespecial 284, 3) := by decide +kernel
theorem dX1_read_26 : decode cX1_read 26 = .ok (.invokevirtual 287, 3) := by decide +kernel
theorem dX1_read_29 : decode cX1_read 29 = .ok (.putfield 291, 3) := by decide +kernel
theorem dX1_read_32 : decode cX1_read 32 = .ok (.goto 9, 3) := by decide +kernel
theorem dX1_read_35 : decode cX1_read 35 = .ok (.astore_n 3, 1) := by decide +kernel
theorem dX1_read_36 : decode cX1_read 36 = .ok (.aload_n 3, 1) := by decide +kernel
theorem dX1_read_37 : decode cX1_read 37 = .ok (.getfield 297, 3) := by decide +kernel
theorem dX1_read_40 : decode cX1_read 40 = .ok (.istore_n 2, 1) := by decide +kernel
theorem dX1_read_41 : decode cX1_read 41 = .ok (.aload_n 0, 1) := by decide +kernel
theorem dX1_read_42 : decode cX1_read 42 = .ok (.iconst 0, 1) := by decide +kernel
theorem dX1_read_43 : decode cX1_read 43 = .ok (.putfield 279, 3) := by decide +kernel
theorem dX1_read_46 : decode cX1_read 46 = .ok (.iload_n 2, 1) := by decide +kernel
theorem dX1_read_47 : decode cX1_read 47 = .ok (.ireturn, 1) := by decide +kernel
abbrev cX1_worth : ByteArray := prog_1_method_39_code
def yX1_worth : MethodName := ⟨RX1, "worth", "(II)I"⟩
theorem dX1_worth_0 : decode cX1_worth 0 = .ok (.aload_n 0, 1) := by decide +kernel
theorem dX1_worth_1 : decode cX1_worth 1 = .ok (.iload_n 1, 1) := by decide +kernel
theorem dX1_worth_2 : decode cX1_worth 2 = .ok (.invokevirtual 124, 3) := by decide +kernel
theorem dX1_worth_5 : decode cX1_worth 5 = .ok (.ifCond .eq 25, 3) := by decide +kernel
theorem dX1_worth_8 : decode cX1_worth 8 = .ok (.iload_n 2, 1) := by decide +kernel
theorem dX1_worth_9 : decode cX1_worth 9 = .ok (.iconst 0, 1) := by decide +kernel
theorem dX1_worth_10 : decode cX1_worth 10 = .ok (.iconst 3, 1) := by decide +kernel
theorem dX1_worth_11 : decode cX1_worth 11 = .ok (.invokestatic 108, 3) := by decide +kernel
theorem dX1_worth_14 : decode cX1_worth 14 = .ok (.ifCond .eq 16, 3) := by decide +kernel
theorem dX1_worth_17 : decode cX1_worth 17 = .ok (.aload_n 0, 1) := by decide +kernel
theorem dX1_worth_18 : decode cX1_worth 18 = .ok (.aload_n 0, 1) := by decide +kernel
theorem dX1_worth_19 : decode cX1_worth 19 = .ok (.iload_n 1, 1) := by decide +kernel
theorem dX1_worth_20 : decode cX1_worth 20 = .ok (.invokevirtual 349, 3) := by decide +kernel
theorem dX1_worth_23 : decode cX1_worth 23 = .ok (.iload_n 2, 1) := by decide +kernel
theorem dX1_worth_24 : decode cX1_worth 24 = .ok (.invokevirtual 353, 3) := by decide +kernel
theorem dX1_worth_27 : decode cX1_worth 27 = .ok (.goto 4, 3) := by decide +kernel
theorem dX1_worth_30 : decode cX1_worth 30 = .ok (.iconst (-1), 1) := by decide +kernel
theorem dX1_worth_31 : decode cX1_worth 31 = .ok (.ireturn, 1) := by decide +kernel
abbrev cX1_lays : ByteArray := prog_1_method_38_code
def yX1_lays : MethodName := ⟨RX1, "lays", "(I)LTourRooms$Town;"⟩
theorem dX1_lays_0 : decode cX1_lays 0 = .ok (.aload_n 0, 1) := by decide +kernel
theorem dX1_lays_1 : decode cX1_lays 1 = .ok (.getfield 17, 3) := by decide +kernel
theorem dX1_lays_4 : decode cX1_lays 4 = .ok (.iload_n 1, 1) := by decide +kernel
theorem dX1_lays_5 : decode cX1_lays 5 = .ok (.aaload, 1) := by decide +kernel
theorem dX1_lays_6 : decode cX1_lays 6 = .ok (.astore_n 2, 1) := by decide +kernel
theorem dX1_lays_7 : decode cX1_lays 7 = .ok (.aload_n 0, 1) := by decide +kernel
theorem dX1_lays_8 : decode cX1_lays 8 = .ok (.getfield 48, 3) := by decide +kernel
theorem dX1_lays_11 : decode cX1_lays 11 = .ok (.aload_n 0, 1) := by decide +kernel
theorem dX1_lays_12 : decode cX1_lays 12 = .ok (.getfield 21, 3) := by decide +kernel
theorem dX1_lays_15 : decode cX1_lays 15 = .ok (.aload_n 2, 1) := by decide +kernel
theorem dX1_lays_16 : decode cX1_lays 16 = .ok (.getfield 118, 3) := by decide +kernel
theorem dX1_lays_19 : decode cX1_lays 19 = .ok (.iadd, 1) := by decide +kernel
theorem dX1_lays_20 : decode cX1_lays 20 = .ok (.aload_n 0, 1) := by decide +kernel
theorem dX1_lays_21 : decode cX1_lays 21 = .ok (.getfield 154, 3) := by decide +kernel
theorem dX1_lays_24 : decode cX1_lays 24 = .ok (.isub, 1) := by decide +kernel
theorem dX1_lays_25 : decode cX1_lays 25 = .ok (.putfield 332, 3) := by decide +kernel
theorem dX1_lays_28 : decode cX1_lays 28 = .ok (.aload_n 0, 1) := by decide +kernel
theorem dX1_lays_29 : decode cX1_lays 29 = .ok (.getfield 48, 3) := by decide +kernel
theorem dX1_lays_32 : decode cX1_lays 32 = .ok (.aload_n 2, 1) := by decide +kernel
theorem dX1_lays_33 : decode cX1_lays 33 = .ok (.invokevirtual 335, 3) := by decide +kernel
theorem dX1_lays_36 : decode cX1_lays 36 = .ok (.putfield 337, 3) := by decide +kernel
theorem dX1_lays_39 : decode cX1_lays 39 = .ok (.aload_n 0, 1) := by decide +kernel
theorem dX1_lays_40 : decode cX1_lays 40 = .ok (.getfield 48, 3) := by decide +kernel
theorem dX1_lays_43 : decode cX1_lays 43 = .ok (.aload_n 2, 1) := by decide +kernel
theorem dX1_lays_44 : decode cX1_lays 44 = .ok (.invokevirtual 339, 3) := by decide +kernel
theorem dX1_lays_47 : decode cX1_lays 47 = .ok (.putfield 342, 3) := by decide +kernel
theorem dX1_lays_50 : decode cX1_lays 50 = .ok (.aload_n 0, 1) := by decide +kernel
theorem dX1_lays_51 : decode cX1_lays 51 = .ok (.getfield 48, 3) := by decide +kernel
theorem dX1_lays_54 : decode cX1_lays 54 = .ok (.aload_n 2, 1) := by decide +kernel
theorem dX1_lays_55 : decode cX1_lays 55 = .ok (.invokevirtual 344, 3) := by decide +kernel
theorem dX1_lays_58 : decode cX1_lays 58 = .ok (.putfield 346, 3) := by decide +kernel
theorem dX1_lays_61 : decode cX1_lays 61 = .ok (.aload_n 0, 1) := by decide +kernel
theorem dX1_lays_62 : decode cX1_lays 62 = .ok (.getfield 48, 3) := by decide +kernel
theorem dX1_lays_65 : decode cX1_lays 65 = .ok (.aload_n 0, 1) := by decide +kernel
theorem dX1_lays_66 : decode cX1_lays 66 = .ok (.getfield 184, 3) := by decide +kernel
theorem dX1_lays_69 : decode cX1_lays 69 = .ok (.putfield 348, 3) := by decide +kernel
theorem dX1_lays_72 : decode cX1_lays 72 = .ok (.aload_n 2, 1) := by decide +kernel
theorem dX1_lays_73 : decode cX1_lays 73 = .ok (.areturn, 1) := by decide +kernel
abbrev cX1_worthOf : ByteArray := prog_1_method_37_code
def yX1_worthOf : MethodName := ⟨RX1, "worthOf", "(LTourRooms$Town;I)I"⟩
theorem dX1_worthOf_0 : decode cX1_worthOf 0 = .ok (.iconst 0, 1) := by decide +kernel
theorem dX1_worthOf_1 : decode cX1_worthOf 1 = .ok (.istore_n 3, 1) := by decide +kernel
theorem dX1_worthOf_2 : decode cX1_worthOf 2 = .ok (.iload_n 3, 1) := by decide +kernel
theorem dX1_worthOf_3 : decode cX1_worthOf 3 = .ok (.aload_n 1, 1) := by decide +kernel
theorem dX1_worthOf_4 : decode cX1_worthOf 4 = .ok (.getfield 291, 3) := by decide +kernel
theorem dX1_worthOf_7 : decode cX1_worthOf 7 = .ok (.invokevirtual 300, 3) := by decide +kernel
theorem dX1_worthOf_10 : decode cX1_worthOf 10 = .ok (.if_icmp .ge 79, 3) := by decide +kernel
theorem dX1_worthOf_13 : decode cX1_worthOf 13 = .ok (.aload_n 1, 1) := by decide +kernel
theorem dX1_worthOf_14 : decode cX1_worthOf 14 = .ok (.getfield 291, 3) := by decide +kernel
theorem dX1_worthOf_17 : decode cX1_worthOf 17 = .ok (.iload_n 3, 1) := by decide +kernel
theorem dX1_worthOf_18 : decode cX1_worthOf 18 = .ok (.invokevirtual 305, 3) := by decide +kernel
theorem dX1_worthOf_21 : decode cX1_worthOf 21 = .ok (.checkcast 309, 3) := by decide +kernel
theorem dX1_worthOf_24 : decode cX1_worthOf 24 = .ok (.astore 4, 2) := by decide +kernel
theorem dX1_worthOf_26 : decode cX1_worthOf 26 = .ok (.aload 4, 2) := by decide +kernel
theorem dX1_worthOf_28 : decode cX1_worthOf 28 = .ok (.getfield 311, 3) := by decide +kernel
theorem dX1_worthOf_31 : decode cX1_worthOf 31 = .ok (.iload_n 2, 1) := by decide +kernel
theorem dX1_worthOf_32 : decode cX1_worthOf 32 = .ok (.if_icmp .ne 51, 3) := by decide +kernel
theorem dX1_worthOf_35 : decode cX1_worthOf 35 = .ok (.aload 4, 2) := by decide +kernel
theorem dX1_worthOf_37 : decode cX1_worthOf 37 = .ok (.getfield 314, 3) := by decide +kernel
theorem dX1_worthOf_40 : decode cX1_worthOf 40 = .ok (.ifnull 21, 3) := by decide +kernel
theorem dX1_worthOf_43 : decode cX1_worthOf 43 = .ok (.aload 4, 2) := by decide +kernel
theorem dX1_worthOf_45 : decode cX1_worthOf 45 = .ok (.getfield 314, 3) := by decide +kernel
theorem dX1_worthOf_48 : decode cX1_worthOf 48 = .ok (.aload_n 0, 1) := by decide +kernel
theorem dX1_worthOf_49 : decode cX1_worthOf 49 = .ok (.getfield 48, 3) := by decide +kernel
theorem dX1_worthOf_52 : decode cX1_worthOf 52 = .ok (.invokevirtual 318, 3) := by decide +kernel
theorem dX1_worthOf_55 : decode cX1_worthOf 55 = .ok (.ifCond .ne 6, 3) := by decide +kernel
theorem dX1_worthOf_58 : decode cX1_worthOf 58 = .ok (.goto 25, 3) := by decide +kernel
theorem dX1_worthOf_61 : decode cX1_worthOf 61 = .ok (.iconst 0, 1) := by decide +kernel
theorem dX1_worthOf_62 : decode cX1_worthOf 62 = .ok (.bipush 100, 2) := by decide +kernel
theorem dX1_worthOf_64 : decode cX1_worthOf 64 = .ok (.aload 4, 2) := by decide +kernel
theorem dX1_worthOf_66 : decode cX1_worthOf 66 = .ok (.getfield 324, 3) := by decide +kernel
theorem dX1_worthOf_69 : decode cX1_worthOf 69 = .ok (.aload_n 0, 1) := by decide +kernel
theorem dX1_worthOf_70 : decode cX1_worthOf 70 = .ok (.getfield 48, 3) := by decide +kernel
theorem dX1_worthOf_73 : decode cX1_worthOf 73 = .ok (.invokevirtual 318, 3) := by decide +kernel
theorem dX1_worthOf_76 : decode cX1_worthOf 76 = .ok (.invokestatic 327, 3) := by decide +kernel
theorem dX1_worthOf_79 : decode cX1_worthOf 79 = .ok (.invokestatic 330, 3) := by decide +kernel
theorem dX1_worthOf_82 : decode cX1_worthOf 82 = .ok (.ireturn, 1) := by decide +kernel
theorem dX1_worthOf_83 : decode cX1_worthOf 83 = .ok (.iinc 3 1, 3) := by decide +kernel
theorem dX1_worthOf_86 : decode cX1_worthOf 86 = .ok (.goto (-84), 3) := by decide +kernel
theorem dX1_worthOf_89 : decode cX1_worthOf 89 = .ok (.iconst 0, 1) := by decide +kernel
theorem dX1_worthOf_90 : decode cX1_worthOf 90 = .ok (.ireturn, 1) := by decide +kernel
abbrev cX1_give : ByteArray := prog_1_method_41_code
def yX1_give : MethodName := ⟨RX1, "give", "(II)I"⟩
theorem dX1_give_0 : decode cX1_give 0 = .ok (.aload_n 0, 1) := by decide +kernel
theorem dX1_give_1 : decode cX1_give 1 = .ok (.iload_n 1, 1) := by decide +kernel
theorem dX1_give_2 : decode cX1_give 2 = .ok (.iload_n 2, 1) := by decide +kernel
theorem dX1_give_3 : decode cX1_give 3 = .ok (.invokevirtual 222, 3) := by decide +kernel
theorem dX1_give_6 : decode cX1_give 6 = .ok (.ifCond .eq 41, 3) := by decide +kernel
theorem dX1_give_9 : decode cX1_give 9 = .ok (.aload_n 0, 1) := by decide +kernel
theorem dX1_give_10 : decode cX1_give 10 = .ok (.iload_n 1, 1) := by decide +kernel
theorem dX1_give_11 : decode cX1_give 11 = .ok (.invokevirtual 157, 3) := by decide +kernel
theorem dX1_give_14 : decode cX1_give 14 = .ok (.ifCond .ne 33, 3) := by decide +kernel
theorem dX1_give_17 : decode cX1_give 17 = .ok (.aload_n 0, 1) := by decide +kernel
theorem dX1_give_18 : decode cX1_give 18 = .ok (.getfield 17, 3) := by decide +kernel
theorem dX1_give_21 : decode cX1_give 21 = .ok (.iload_n 1, 1) := by decide +kernel
theorem dX1_give_22 : decode cX1_give 22 = .ok (.aaload, 1) := by decide +kernel
theorem dX1_give_23 : decode cX1_give 23 = .ok (.getfield 187, 3) := by decide +kernel
theorem dX1_give_26 : decode cX1_give 26 = .ok (.iload_n 2, 1) := by decide +kernel
theorem dX1_give_27 : decode cX1_give 27 = .ok (.aaload, 1) := by decide +kernel
theorem dX1_give_28 : decode cX1_give 28 = .ok (.getfield 196, 3) := by decide +kernel
theorem dX1_give_31 : decode cX1_give 31 = .ok (.ifCond .eq 16, 3) := by decide +kernel
theorem dX1_give_34 : decode cX1_give 34 = .ok (.aload_n 0, 1) := by decide +kernel
theorem dX1_give_35 : decode cX1_give 35 = .ok (.getfield 17, 3) := by decide +kernel
theorem dX1_give_38 : decode cX1_give 38 = .ok (.iload_n 1, 1) := by decide +kernel
theorem dX1_give_39 : decode cX1_give 39 = .ok (.aaload, 1) := by decide +kernel
theorem dX1_give_40 : decode cX1_give 40 = .ok (.iload_n 2, 1) := by decide +kernel
theorem dX1_give_41 : decode cX1_give 41 = .ok (.invokevirtual 226, 3) := by decide +kernel
theorem dX1_give_44 : decode cX1_give 44 = .ok (.ifCond .eq 5, 3) := by decide +kernel
theorem dX1_give_47 : decode cX1_give 47 = .ok (.iconst (-1), 1) := by decide +kernel
theorem dX1_give_48 : decode cX1_give 48 = .ok (.ireturn, 1) := by decide +kernel
theorem dX1_give_49 : decode cX1_give 49 = .ok (.aload_n 0, 1) := by decide +kernel
theorem dX1_give_50 : decode cX1_give 50 = .ok (.iload_n 1, 1) := by decide +kernel
theorem dX1_give_51 : decode cX1_give 51 = .ok (.iload_n 2, 1) := by decide +kernel
theorem dX1_give_52 : decode cX1_give 52 = .ok (.iconst 0, 1) := by decide +kernel
theorem dX1_give_53 : decode cX1_give 53 = .ok (.invokevirtual 360, 3) := by decide +kernel
theorem dX1_give_56 : decode cX1_give 56 = .ok (.istore_n 3, 1) := by decide +kernel
theorem dX1_give_57 : decode cX1_give 57 = .ok (.aload_n 0, 1) := by decide +kernel
theorem dX1_give_58 : decode cX1_give 58 = .ok (.getfield 17, 3) := by decide +kernel
theorem dX1_give_61 : decode cX1_give 61 = .ok (.iload_n 1, 1) := by decide +kernel
theorem dX1_give_62 : decode cX1_give 62 = .ok (.aaload, 1) := by decide +kernel
theorem dX1_give_63 : decode cX1_give 63 = .ok (.getfield 187, 3) := by decide +kernel
theorem dX1_give_66 : decode cX1_give 66 = .ok (.iload_n 2, 1) := by decide +kernel
theorem dX1_give_67 : decode cX1_give 67 = .ok (.aaload, 1) := by decide +kernel
theorem dX1_give_68 : decode cX1_give 68 = .ok (.iconst 0, 1) := by decide +kernel
theorem dX1_give_69 : decode cX1_give 69 = .ok (.putfield 196, 3) := by decide +kernel
theorem dX1_give_72 : decode cX1_give 72 = .ok (.iload_n 3, 1) := by decide +kernel
theorem dX1_give_73 : decode cX1_give 73 = .ok (.ireturn, 1) := by decide +kernel
abbrev cX1_costs : ByteArray := prog_1_method_40_code
def yX1_costs : MethodName := ⟨RX1, "costs", "(III)I"⟩
theorem dX1_costs_0 : decode cX1_costs 0 = .ok (.aload_n 0, 1) := by decide +kernel
theorem dX1_costs_1 : decode cX1_costs 1 = .ok (.iload_n 1, 1) := by decide +kernel
theorem dX1_costs_2 : decode cX1_costs 2 = .ok (.invokevirtual 349, 3) := by decide +kernel
theorem dX1_costs_5 : decode cX1_costs 5 = .ok (.astore 4, 2) := by decide +kernel
theorem dX1_costs_7 : decode cX1_costs 7 = .ok (.aload 4, 2) := by decide +kernel
theorem dX1_costs_9 : decode cX1_costs 9 = .ok (.getfield 187, 3) := by decide +kernel
theorem dX1_costs_12 : decode cX1_costs 12 = .ok (.iload_n 2, 1) := by decide +kernel
theorem dX1_costs_13 : decode cX1_costs 13 = .ok (.aaload, 1) := by decide +kernel
theorem dX1_costs_14 : decode cX1_costs 14 = .ok (.getfield 235, 3) := by decide +kernel
theorem dX1_costs_17 : decode cX1_costs 17 = .ok (.aload 4, 2) := by decide +kernel
theorem dX1_costs_19 : decode cX1_costs 19 = .ok (.getfield 121, 3) := by decide +kernel
theorem dX1_costs_22 : decode cX1_costs 22 = .ok (.imul, 1) := by decide +kernel
theorem dX1_costs_23 : decode cX1_costs 23 = .ok (.aload_n 0, 1) := by decide +kernel
theorem dX1_costs_24 : decode cX1_costs 24 = .ok (.aload 4, 2) := by decide +kernel
theorem dX1_costs_26 : decode cX1_costs 26 = .ok (.iload_n 3, 1) := by decide +kernel
theorem dX1_costs_27 : decode cX1_costs 27 = .ok (.invokevirtual 353, 3) := by decide +kernel
theorem dX1_costs_30 : decode cX1_costs 30 = .ok (.imul, 1) := by decide +kernel
theorem dX1_costs_31 : decode cX1_costs 31 = .ok (.bipush 99, 2) := by decide +kernel
theorem dX1_costs_33 : decode cX1_costs 33 = .ok (.iadd, 1) := by decide +kernel
theorem dX1_costs_34 : decode cX1_costs 34 = .ok (.bipush 100, 2) := by decide +kernel
theorem dX1_costs_36 : decode cX1_costs 36 = .ok (.idiv, 1) := by decide +kernel
theorem dX1_costs_37 : decode cX1_costs 37 = .ok (.istore 5, 2) := by decide +kernel
theorem dX1_costs_39 : decode cX1_costs 39 = .ok (.aload_n 0, 1) := by decide +kernel
theorem dX1_costs_40 : decode cX1_costs 40 = .ok (.dup, 1) := by decide +kernel
theorem dX1_costs_41 : decode cX1_costs 41 = .ok (.getfield 357, 3) := by decide +kernel
theorem dX1_costs_44 : decode cX1_costs 44 = .ok (.iload 5, 2) := by decide +kernel
theorem dX1_costs_46 : decode cX1_costs 46 = .ok (.iadd, 1) := by decide +kernel
theorem dX1_costs_47 : decode cX1_costs 47 = .ok (.putfield 357, 3) := by decide +kernel
theorem dX1_costs_50 : decode cX1_costs 50 = .ok (.iload 5, 2) := by decide +kernel
theorem dX1_costs_52 : decode cX1_costs 52 = .ok (.ireturn, 1) := by decide +kernel
abbrev cX1_buy : ByteArray := prog_1_method_42_code
def yX1_buy : MethodName := ⟨RX1, "buy", "(II)I"⟩
theorem dX1_buy_0 : decode cX1_buy 0 = .ok (.aload_n 0, 1) := by decide +kernel
theorem dX1_buy_1 : decode cX1_buy 1 = .ok (.iload_n 1, 1) := by decide +kernel
theorem dX1_buy_2 : decode cX1_buy 2 = .ok (.iload_n 2, 1) := by decide +kernel
theorem dX1_buy_3 : decode cX1_buy 3 = .ok (.invokevirtual 222, 3) := by decide +kernel
theorem dX1_buy_6 : decode cX1_buy 6 = .ok (.ifCond .eq 28, 3) := by decide +kernel
theorem dX1_buy_9 : decode cX1_buy 9 = .ok (.aload_n 0, 1) := by decide +kernel
theorem dX1_buy_10 : decode cX1_buy 10 = .ok (.iload_n 1, 1) := by decide +kernel
theorem dX1_buy_11 : decode cX1_buy 11 = .ok (.invokevirtual 157, 3) := by decide +kernel
theorem dX1_buy_14 : decode cX1_buy 14 = .ok (.ifCond .ne 20, 3) := by decide +kernel
theorem dX1_buy_17 : decode cX1_buy 17 = .ok (.aload_n 0, 1) := by decide +kernel
theorem dX1_buy_18 : decode cX1_buy 18 = .ok (.getfield 17, 3) := by decide +kernel
theorem dX1_buy_21 : decode cX1_buy 21 = .ok (.iload_n 1, 1) := by decide +kernel
theorem dX1_buy_22 : decode cX1_buy 22 = .ok (.aaload, 1) := by decide +kernel
theorem dX1_buy_23 : decode cX1_buy 23 = .ok (.getfield 187, 3) := by decide +kernel
theorem dX1_buy_26 : decode cX1_buy 26 = .ok (.iload_n 2, 1) := by decide +kernel
theorem dX1_buy_27 : decode cX1_buy 27 = .ok (.aaload, 1) := by decide +kernel
theorem dX1_buy_28 : decode cX1_buy 28 = .ok (.getfield 196, 3) := by decide +kernel
theorem dX1_buy_31 : decode cX1_buy 31 = .ok (.ifCond .eq 5, 3) := by decide +kernel
theorem dX1_buy_34 : decode cX1_buy 34 = .ok (.iconst (-1), 1) := by decide +kernel
theorem dX1_buy_35 : decode cX1_buy 35 = .ok (.ireturn, 1) := by decide +kernel
theorem dX1_buy_36 : decode cX1_buy 36 = .ok (.aload_n 0, 1) := by decide +kernel
theorem dX1_buy_37 : decode cX1_buy 37 = .ok (.iload_n 1, 1) := by decide +kernel
theorem dX1_buy_38 : decode cX1_buy 38 = .ok (.iload_n 2, 1) := by decide +kernel
theorem dX1_buy_39 : decode cX1_buy 39 = .ok (.iconst 1, 1) := by decide +kernel
theorem dX1_buy_40 : decode cX1_buy 40 = .ok (.invokevirtual 360, 3) := by decide +kernel
theorem dX1_buy_43 : decode cX1_buy 43 = .ok (.istore_n 3, 1) := by decide +kernel
theorem dX1_buy_44 : decode cX1_buy 44 = .ok (.aload_n 0, 1) := by decide +kernel
theorem dX1_buy_45 : decode cX1_buy 45 = .ok (.getfield 17, 3) := by decide +kernel
theorem dX1_buy_48 : decode cX1_buy 48 = .ok (.iload_n 1, 1) := by decide +kernel
theorem dX1_buy_49 : decode cX1_buy 49 = .ok (.aaload, 1) := by decide +kernel
theorem dX1_buy_50 : decode cX1_buy 50 = .ok (.getfield 187, 3) := by decide +kernel
theorem dX1_buy_53 : decode cX1_buy 53 = .ok (.iload_n 2, 1) := by decide +kernel
theorem dX1_buy_54 : decode cX1_buy 54 = .ok (.aaload, 1) := by decide +kernel
theorem dX1_buy_55 : decode cX1_buy 55 = .ok (.iconst 1, 1) := by decide +kernel
theorem dX1_buy_56 : decode cX1_buy 56 = .ok (.putfield 196, 3) := by decide +kernel
theorem dX1_buy_59 : decode cX1_buy 59 = .ok (.iload_n 3, 1) := by decide +kernel
theorem dX1_buy_60 : decode cX1_buy 60 = .ok (.ireturn, 1) := by decide +kernel
abbrev cX1_loss : ByteArray := prog_1_method_46_code
def yX1_loss : MethodName := ⟨RX1, "loss", "(IIIII)I"⟩
theorem dX1_loss_0 : decode cX1_loss 0 = .ok (.aload_n 0, 1) := by decide +kernel
theorem dX1_loss_1 : decode cX1_loss 1 = .ok (.iload_n 1, 1) := by decide +kernel
theorem dX1_loss_2 : decode cX1_loss 2 = .ok (.iload_n 2, 1) := by decide +kernel
theorem dX1_loss_3 : decode cX1_loss 3 = .ok (.iload_n 3, 1) := by decide +kernel
theorem dX1_loss_4 : decode cX1_loss 4 = .ok (.iload 4, 2) := by decide +kernel
theorem dX1_loss_6 : decode cX1_loss 6 = .ok (.iload 5, 2) := by decide +kernel
theorem dX1_loss_8 : decode cX1_loss 8 = .ok (.invokevirtual 371, 3) := by decide +kernel
theorem dX1_loss_11 : decode cX1_loss 11 = .ok (.ifCond .ne 5, 3) := by decide +kernel
theorem dX1_loss_14 : decode cX1_loss 14 = .ok (.iconst (-1), 1) := by decide +kernel
theorem dX1_loss_15 : decode cX1_loss 15 = .ok (.ireturn, 1) := by decide +kernel
theorem dX1_loss_16 : decode cX1_loss 16 = .ok (.aload_n 0, 1) := by decide +kernel
theorem dX1_loss_17 : decode cX1_loss 17 = .ok (.iload_n 1, 1) := by decide +kernel
theorem dX1_loss_18 : decode cX1_loss 18 = .ok (.invokevirtual 349, 3) := by decide +kernel
theorem dX1_loss_21 : decode cX1_loss 21 = .ok (.astore 6, 2) := by decide +kernel
theorem dX1_loss_23 : decode cX1_loss 23 = .ok (.aload_n 0, 1) := by decide +kernel
theorem dX1_loss_24 : decode cX1_loss 24 = .ok (.getfield 48, 3) := by decide +kernel
theorem dX1_loss_27 : decode cX1_loss 27 = .ok (.getfield 337, 3) := by decide +kernel
theorem dX1_loss_30 : decode cX1_loss 30 = .ok (.istore 7, 2) := by decide +kernel
theorem dX1_loss_32 : decode cX1_loss 32 = .ok (.aload_n 0, 1) := by decide +kernel
theorem dX1_loss_33 : decode cX1_loss 33 = .ok (.getfield 48, 3) := by decide +kernel
theorem dX1_loss_36 : decode cX1_loss 36 = .ok (.getfield 342, 3) := by decide +kernel
theorem dX1_loss_39 : decode cX1_loss 39 = .ok (.istore 8, 2) := by decide +kernel
theorem dX1_loss_41 : decode cX1_loss 41 = .ok (.aload_n 0, 1) := by decide +kernel
theorem dX1_loss_42 : decode cX1_loss 42 = .ok (.iconst 0, 1) := by decide +kernel
theorem dX1_loss_43 : decode cX1_loss 43 = .ok (.putfield 368, 3) := by decide +kernel
theorem dX1_loss_46 : decode cX1_loss 46 = .ok (.iconst 0, 1) := by decide +kernel
theorem dX1_loss_47 : decode cX1_loss 47 = .ok (.istore 9, 2) := by decide +kernel
theorem dX1_loss_49 : decode cX1_loss 49 = .ok (.iload 9, 2) := by decide +kernel
theorem dX1_loss_51 : decode cX1_loss 51 = .ok (.bipush 10, 2) := by decide +kernel
theorem dX1_loss_53 : decode cX1_loss 53 = .ok (.if_icmp .gt 63, 3) := by decide +kernel
theorem dX1_loss_56 : decode cX1_loss 56 = .ok (.iconst 0, 1) := by decide +kernel
theorem dX1_loss_57 : decode cX1_loss 57 = .ok (.istore 10, 2) := by decide +kernel
theorem dX1_loss_59 : decode cX1_loss 59 = .ok (.iload 10, 2) := by decide +kernel
theorem dX1_loss_61 : decode cX1_loss 61 = .ok (.bipush 10, 2) := by decide +kernel
theorem dX1_loss_63 : decode cX1_loss 63 = .ok (.if_icmp .gt 47, 3) := by decide +kernel
theorem dX1_loss_66 : decode cX1_loss 66 = .ok (.aload_n 0, 1) := by decide +kernel
theorem dX1_loss_67 : decode cX1_loss 67 = .ok (.getfield 75, 3) := by decide +kernel
theorem dX1_loss_70 : decode cX1_loss 70 = .ok (.iconst 0, 1) := by decide +kernel
theorem dX1_loss_71 : decode cX1_loss 71 = .ok (.aaload, 1) := by decide +kernel
theorem dX1_loss_72 : decode cX1_loss 72 = .ok (.iload 9, 2) := by decide +kernel
theorem dX1_loss_74 : decode cX1_loss 74 = .ok (.aaload, 1) := by decide +kernel
theorem dX1_loss_75 : decode cX1_loss 75 = .ok (.iload 10, 2) := by decide +kernel
theorem dX1_loss_77 : decode cX1_loss 77 = .ok (.iload 9, 2) := by decide +kernel
theorem dX1_loss_79 : decode cX1_loss 79 = .ok (.iload 10, 2) := by decide +kernel
theorem dX1_loss_81 : decode cX1_loss 81 = .ok (.if_icmp .le 14, 3) := by decide +kernel
theorem dX1_loss_84 : decode cX1_loss 84 = .ok (.bipush 100, 2) := by decide +kernel
theorem dX1_loss_86 : decode cX1_loss 86 = .ok (.iload 9, 2) := by decide +kernel
theorem dX1_loss_88 : decode cX1_loss 88 = .ok (.iload 10, 2) := by decide +kernel
theorem dX1_loss_90 : decode cX1_loss 90 = .ok (.isub, 1) := by decide +kernel
theorem dX1_loss_91 : decode cX1_loss 91 = .ok (.imul, 1) := by decide +kernel
theorem dX1_loss_92 : decode cX1_loss 92 = .ok (.goto 11, 3) := by decide +kernel
theorem dX1_loss_95 : decode cX1_loss 95 = .ok (.iload 5, 2) := by decide +kernel
theorem dX1_loss_97 : decode cX1_loss 97 = .ok (.iload 10, 2) := by decide +kernel
theorem dX1_loss_99 : decode cX1_loss 99 = .ok (.iload 9, 2) := by decide +kernel
theorem dX1_loss_101 : decode cX1_loss 101 = .ok (.isub, 1) := by decide +kernel
theorem dX1_loss_102 : decode cX1_loss 102 = .ok (.imul, 1) := by decide +kernel
theorem dX1_loss_103 : decode cX1_loss 103 = .ok (.iastore, 1) := by decide +kernel
theorem dX1_loss_104 : decode cX1_loss 104 = .ok (.iinc 10 1, 3) := by decide +kernel
theorem dX1_loss_107 : decode cX1_loss 107 = .ok (.goto (-48), 3) := by decide +kernel
theorem dX1_loss_110 : decode cX1_loss 110 = .ok (.iinc 9 1, 3) := by decide +kernel
theorem dX1_loss_113 : decode cX1_loss 113 = .ok (.goto (-64), 3) := by decide +kernel
theorem dX1_loss_116 : decode cX1_loss 116 = .ok (.iconst 1, 1) := by decide +kernel
theorem dX1_loss_117 : decode cX1_loss 117 = .ok (.istore 9, 2) := by decide +kernel
theorem dX1_loss_119 : decode cX1_loss 119 = .ok (.iload 9, 2) := by decide +kernel
theorem dX1_loss_121 : decode cX1_loss 121 = .ok (.iload_n 2, 1) := by decide +kernel
theorem dX1_loss_122 : decode cX1_loss 122 = .ok (.if_icmp .ge 69, 3) := by decide +kernel
theorem dX1_loss_125 : decode cX1_loss 125 = .ok (.iconst 0, 1) := by decide +kernel
theorem dX1_loss_126 : decode cX1_loss 126 = .ok (.istore 10, 2) := by decide +kernel
theorem dX1_loss_128 : decode cX1_loss 128 = .ok (.iload 10, 2) := by decide +kernel
theorem dX1_loss_130 : decode cX1_loss 130 = .ok (.bipush 10, 2) := by decide +kernel
theorem dX1_loss_132 : decode cX1_loss 132 = .ok (.if_icmp .gt 53, 3) := by decide +kernel
theorem dX1_loss_135 : decode cX1_loss 135 = .ok (.iconst 0, 1) := by decide +kernel
theorem dX1_loss_136 : decode cX1_loss 136 = .ok (.istore 11, 2) := by decide +kernel
theorem dX1_loss_138 : decode cX1_loss 138 = .ok (.iload 11, 2) := by decide +kernel
theorem dX1_loss_140 : decode cX1_loss 140 = .ok (.bipush 10, 2) := by decide +kernel
theorem dX1_loss_142 : decode cX1_loss 142 = .ok (.if_icmp .gt 37, 3) := by decide +kernel
theorem dX1_loss_145 : decode cX1_loss 145 = .ok (.aload_n 0, 1) := by decide +kernel
theorem dX1_loss_146 : decode cX1_loss 146 = .ok (.getfield 75, 3) := by decide +kernel
theorem dX1_loss_149 : decode cX1_loss 149 = .ok (.iload 9, 2) := by decide +kernel
theorem dX1_loss_151 : decode cX1_loss 151 = .ok (.aaload, 1) := by decide +kernel
theorem dX1_loss_152 : decode cX1_loss 152 = .ok (.iload 10, 2) := by decide +kernel
theorem dX1_loss_154 : decode cX1_loss 154 = .ok (.aaload, 1) := by decide +kernel
theorem dX1_loss_155 : decode cX1_loss 155 = .ok (.iload 11, 2) := by decide +kernel
theorem dX1_loss_157 : decode cX1_loss 157 = .ok (.aload_n 0, 1) := by decide +kernel
theorem dX1_loss_158 : decode cX1_loss 158 = .ok (.aload 6, 2) := by decide +kernel
theorem dX1_loss_160 : decode cX1_loss 160 = .ok (.iload 9, 2) := by decide +kernel
theorem dX1_loss_162 : decode cX1_loss 162 = .ok (.iload 10, 2) := by decide +kernel
theorem dX1_loss_164 : decode cX1_loss 164 = .ok (.iload 11, 2) := by decide +kernel
theorem dX1_loss_166 : decode cX1_loss 166 = .ok (.iload_n 3, 1) := by decide +kernel
theorem dX1_loss_167 : decode cX1_loss 167 = .ok (.iload 4, 2) := by decide +kernel
theorem dX1_loss_169 : decode cX1_loss 169 = .ok (.invokevirtual 375, 3) := by decide +kernel
theorem dX1_loss_172 : decode cX1_loss 172 = .ok (.iastore, 1) := by decide +kernel
theorem dX1_loss_173 : decode cX1_loss 173 = .ok (.iinc 11 1, 3) := by decide +kernel
theorem dX1_loss_176 : decode cX1_loss 176 = .ok (.goto (-38), 3) := by decide +kernel
theorem dX1_loss_179 : decode cX1_loss 179 = .ok (.iinc 10 1, 3) := by decide +kernel
theorem dX1_loss_182 : decode cX1_loss 182 = .ok (.goto (-54), 3) := by decide +kernel
theorem dX1_loss_185 : decode cX1_loss 185 = .ok (.iinc 9 1, 3) := by decide +kernel
theorem dX1_loss_188 : decode cX1_loss 188 = .ok (.goto (-69), 3) := by decide +kernel
theorem dX1_loss_191 : decode cX1_loss 191 = .ok (.aload_n 0, 1) := by decide +kernel
theorem dX1_loss_192 : decode cX1_loss 192 = .ok (.iconst 0, 1) := by decide +kernel
theorem dX1_loss_193 : decode cX1_loss 193 = .ok (.putfield 368, 3) := by decide +kernel
theorem dX1_loss_196 : decode cX1_loss 196 = .ok (.iload_n 2, 1) := by decide +kernel
theorem dX1_loss_197 : decode cX1_loss 197 = .ok (.ifCond .ne 18, 3) := by decide +kernel
theorem dX1_loss_200 : decode cX1_loss 200 = .ok (.aload_n 0, 1) := by decide +kernel
theorem dX1_loss_201 : decode cX1_loss 201 = .ok (.getfield 75, 3) := by decide +kernel
theorem dX1_loss_204 : decode cX1_loss 204 = .ok (.iconst 0, 1) := by decide +kernel
theorem dX1_loss_205 : decode cX1_loss 205 = .ok (.aaload, 1) := by decide +kernel
theorem dX1_loss_206 : decode cX1_loss 206 = .ok (.iload 7, 2) := by decide +kernel
theorem dX1_loss_208 : decode cX1_loss 208 = .ok (.aaload, 1) := by decide +kernel
theorem dX1_loss_209 : decode cX1_loss 209 = .ok (.iload 8, 2) := by decide +kernel
theorem dX1_loss_211 : decode cX1_loss 211 = .ok (.iaload, 1) := by decide +kernel
theorem dX1_loss_212 : decode cX1_loss 212 = .ok (.goto 17, 3) := by decide +kernel
theorem dX1_loss_215 : decode cX1_loss 215 = .ok (.aload_n 0, 1) := by decide +kernel
theorem dX1_loss_216 : decode cX1_loss 216 = .ok (.aload 6, 2) := by decide +kernel
theorem dX1_loss_218 : decode cX1_loss 218 = .ok (.iload_n 2, 1) := by decide +kernel
theorem dX1_loss_219 : decode cX1_loss 219 = .ok (.iload 7, 2) := by decide +kernel
theorem dX1_loss_221 : decode cX1_loss 221 = .ok (.iload 8, 2) := by decide +kernel
theorem dX1_loss_223 : decode cX1_loss 223 = .ok (.iload_n 3, 1) := by decide +kernel
theorem dX1_loss_224 : decode cX1_loss 224 = .ok (.iload 4, 2) := by decide +kernel
theorem dX1_loss_226 : decode cX1_loss 226 = .ok (.invokevirtual 375, 3) := by decide +kernel
theorem dX1_loss_229 : decode cX1_loss 229 = .ok (.ireturn, 1) := by decide +kernel
abbrev cX1_isLoss : ByteArray := prog_1_method_45_code
def yX1_isLoss : MethodName := ⟨RX1, "isLoss", "(IIIII)Z"⟩
theorem dX1_isLoss_0 : decode cX1_isLoss 0 = .ok (.aload_n 0, 1) := by decide +kernel
theorem dX1_isLoss_1 : decode cX1_isLoss 1 = .ok (.iload_n 1, 1) := by decide +kernel
theorem dX1_isLoss_2 : decode cX1_isLoss 2 = .ok (.invokevirtual 124, 3) := by decide +kernel
theorem dX1_isLoss_5 : decode cX1_isLoss 5 = .ok (.ifCond .eq 48, 3) := by decide +kernel
theorem dX1_isLoss_8 : decode cX1_isLoss 8 = .ok (.iload_n 2, 1) := by decide +kernel
theorem dX1_isLoss_9 : decode cX1_isLoss 9 = .ok (.iconst 0, 1) := by decide +kernel
theorem dX1_isLoss_10 : decode cX1_isLoss 10 = .ok (.bipush 30, 2) := by decide +kernel
theorem dX1_isLoss_12 : decode cX1_isLoss 12 = .ok (.invokestatic 108, 3) := by decide +kernel
theorem dX1_isLoss_15 : decode cX1_isLoss 15 = .ok (.ifCond .eq 38, 3) := by decide +kernel
theorem dX1_isLoss_18 : decode cX1_isLoss 18 = .ok (.iload_n 3, 1) := by decide +kernel
theorem dX1_isLoss_19 : decode cX1_isLoss 19 = .ok (.iconst 0, 1) := by decide +kernel
theorem dX1_isLoss_20 : decode cX1_isLoss 20 = .ok (.iconst 3, 1) := by decide +kernel
theorem dX1_isLoss_21 : decode cX1_isLoss 21 = .ok (.invokestatic 108, 3) := by decide +kernel
theorem dX1_isLoss_24 : decode cX1_isLoss 24 = .ok (.ifCond .eq 29, 3) := by decide +kernel
theorem dX1_isLoss_27 : decode cX1_isLoss 27 = .ok (.iload 4, 2) := by decide +kernel
theorem dX1_isLoss_29 : decode cX1_isLoss 29 = .ok (.iconst 0, 1) := by decide +kernel
theorem dX1_isLoss_30 : decode cX1_isLoss 30 = .ok (.iconst 3, 1) := by decide +kernel
theorem dX1_isLoss_31 : decode cX1_isLoss 31 = .ok (.invokestatic 108, 3) := by decide +kernel
theorem dX1_isLoss_34 : decode cX1_isLoss 34 = .ok (.ifCond .eq 19, 3) := by decide +kernel
theorem dX1_isLoss_37 : decode cX1_isLoss 37 = .ok (.iload 5, 2) := by decide +kernel
theorem dX1_isLoss_39 : decode cX1_isLoss 39 = .ok (.iconst 0, 1) := by decide +kernel
theorem dX1_isLoss_40 : decode cX1_isLoss 40 = .ok (.sipush 1000, 3) := by decide +kernel
theorem dX1_isLoss_43 : decode cX1_isLoss 43 = .ok (.invokestatic 108, 3) := by decide +kernel
theorem dX1_isLoss_46 : decode cX1_isLoss 46 = .ok (.ifCond .eq 7, 3) := by decide +kernel
theorem dX1_isLoss_49 : decode cX1_isLoss 49 = .ok (.iconst 1, 1) := by decide +kernel
theorem dX1_isLoss_50 : decode cX1_isLoss 50 = .ok (.goto 4, 3) := by decide +kernel
theorem dX1_isLoss_53 : decode cX1_isLoss 53 = .ok (.iconst 0, 1) := by decide +kernel
theorem dX1_isLoss_54 : decode cX1_isLoss 54 = .ok (.ireturn, 1) := by decide +kernel
abbrev cX1_lossOf : ByteArray := prog_1_method_44_code
def yX1_lossOf : MethodName := ⟨RX1, "lossOf", "(LTourRooms$Town;IIIII)I"⟩
theorem dX1_lossOf_0 : decode cX1_lossOf 0 = .ok (.aload_n 0, 1) := by decide +kernel
theorem dX1_lossOf_1 : decode cX1_lossOf 1 = .ok (.getfield 48, 3) := by decide +kernel
theorem dX1_lossOf_4 : decode cX1_lossOf 4 = .ok (.iload_n 2, 1) := by decide +kernel
theorem dX1_lossOf_5 : decode cX1_lossOf 5 = .ok (.putfield 332, 3) := by decide +kernel
theorem dX1_lossOf_8 : decode cX1_lossOf 8 = .ok (.aload_n 0, 1) := by decide +kernel
theorem dX1_lossOf_9 : decode cX1_lossOf 9 = .ok (.getfield 48, 3) := by decide +kernel
theorem dX1_lossOf_12 : decode cX1_lossOf 12 = .ok (.iload_n 3, 1) := by decide +kernel
theorem dX1_lossOf_13 : decode cX1_lossOf 13 = .ok (.putfield 337, 3) := by decide +kernel
theorem dX1_lossOf_16 : decode cX1_lossOf 16 = .ok (.aload_n 0, 1) := by decide +kernel
theorem dX1_lossOf_17 : decode cX1_lossOf 17 = .ok (.getfield 48, 3) := by decide +kernel
theorem dX1_lossOf_20 : decode cX1_lossOf 20 = .ok (.iload 4, 2) := by decide +kernel
theorem dX1_lossOf_22 : decode cX1_lossOf 22 = .ok (.putfield 342, 3) := by decide +kernel
theorem dX1_lossOf_25 : decode cX1_lossOf 25 = .ok (.aload_n 0, 1) := by decide +kernel
theorem dX1_lossOf_26 : decode cX1_lossOf 26 = .ok (.aload_n 1, 1) := by decide +kernel
theorem dX1_lossOf_27 : decode cX1_lossOf 27 = .ok (.iconst 0, 1) := by decide +kernel
theorem dX1_lossOf_28 : decode cX1_lossOf 28 = .ok (.invokevirtual 353, 3) := by decide +kernel
theorem dX1_lossOf_31 : decode cX1_lossOf 31 = .ok (.istore 7, 2) := by decide +kernel
theorem dX1_lossOf_33 : decode cX1_lossOf 33 = .ok (.aload_n 0, 1) := by decide +kernel
theorem dX1_lossOf_34 : decode cX1_lossOf 34 = .ok (.iload_n 2, 1) := by decide +kernel
theorem dX1_lossOf_35 : decode cX1_lossOf 35 = .ok (.iload_n 3, 1) := by decide +kernel
theorem dX1_lossOf_36 : decode cX1_lossOf 36 = .ok (.iload 4, 2) := by decide +kernel
theorem dX1_lossOf_38 : decode cX1_lossOf 38 = .ok (.iload 5, 2) := by decide +kernel
theorem dX1_lossOf_40 : decode cX1_lossOf 40 = .ok (.iload 6, 2) := by decide +kernel
theorem dX1_lossOf_42 : decode cX1_lossOf 42 = .ok (.invokevirtual 364, 3) := by decide +kernel
theorem dX1_lossOf_45 : decode cX1_lossOf 45 = .ok (.istore 8, 2) := by decide +kernel
theorem dX1_lossOf_47 : decode cX1_lossOf 47 = .ok (.aload_n 0, 1) := by decide +kernel
theorem dX1_lossOf_48 : decode cX1_lossOf 48 = .ok (.iconst 0, 1) := by decide +kernel
theorem dX1_lossOf_49 : decode cX1_lossOf 49 = .ok (.putfield 368, 3) := by decide +kernel
theorem dX1_lossOf_52 : decode cX1_lossOf 52 = .ok (.iconst 1, 1) := by decide +kernel
theorem dX1_lossOf_53 : decode cX1_lossOf 53 = .ok (.istore 9, 2) := by decide +kernel
theorem dX1_lossOf_55 : decode cX1_lossOf 55 = .ok (.iload 9, 2) := by decide +kernel
theorem dX1_lossOf_57 : decode cX1_lossOf 57 = .ok (.iload_n 3, 1) := by decide +kernel
theorem dX1_lossOf_58 : decode cX1_lossOf 58 = .ok (.if_icmp .gt 52, 3) := by decide +kernel
theorem dX1_lossOf_61 : decode cX1_lossOf 61 = .ok (.iload 9, 2) := by decide +kernel
theorem dX1_lossOf_63 : decode cX1_lossOf 63 = .ok (.iload 7, 2) := by decide +kernel
theorem dX1_lossOf_65 : decode cX1_lossOf 65 = .ok (.imul, 1) := by decide +kernel
theorem dX1_lossOf_66 : decode cX1_lossOf 66 = .ok (.aload_n 0, 1) := by decide +kernel
theorem dX1_lossOf_67 : decode cX1_lossOf 67 = .ok (.iload_n 2, 1) := by decide +kernel
theorem dX1_lossOf_68 : decode cX1_lossOf 68 = .ok (.iload_n 3, 1) := by decide +kernel
theorem dX1_lossOf_69 : decode cX1_lossOf 69 = .ok (.iload 9, 2) := by decide +kernel
theorem dX1_lossOf_71 : decode cX1_lossOf 71 = .ok (.isub, 1) := by decide +kernel
theorem dX1_lossOf_72 : decode cX1_lossOf 72 = .ok (.iload 4, 2) := by decide +kernel
theorem dX1_lossOf_74 : decode cX1_lossOf 74 = .ok (.iload 5, 2) := by decide +kernel
theorem dX1_lossOf_76 : decode cX1_lossOf 76 = .ok (.iload 6, 2) := by decide +kernel
theorem dX1_lossOf_78 : decode cX1_lossOf 78 = .ok (.invokevirtual 364, 3) := by decide +kernel
theorem dX1_lossOf_81 : decode cX1_lossOf 81 = .ok (.iadd, 1) := by decide +kernel
theorem dX1_lossOf_82 : decode cX1_lossOf 82 = .ok (.istore 10, 2) := by decide +kernel
theorem dX1_lossOf_84 : decode cX1_lossOf 84 = .ok (.iload 10, 2) := by decide +kernel
theorem dX1_lossOf_86 : decode cX1_lossOf 86 = .ok (.iload 8, 2) := by decide +kernel
theorem dX1_lossOf_88 : decode cX1_lossOf 88 = .ok (.if_icmp .lt 6, 3) := by decide +kernel
theorem dX1_lossOf_91 : decode cX1_lossOf 91 = .ok (.goto 13, 3) := by decide +kernel
theorem dX1_lossOf_94 : decode cX1_lossOf 94 = .ok (.iload 10, 2) := by decide +kernel
theorem dX1_lossOf_96 : decode cX1_lossOf 96 = .ok (.istore 8, 2) := by decide +kernel
theorem dX1_lossOf_98 : decode cX1_lossOf 98 = .ok (.aload_n 0, 1) := by decide +kernel
theorem dX1_lossOf_99 : decode cX1_lossOf 99 = .ok (.iload 9, 2) := by decide +kernel
theorem dX1_lossOf_101 : decode cX1_lossOf 101 = .ok (.putfield 368, 3) := by decide +kernel
theorem dX1_lossOf_104 : decode cX1_lossOf 104 = .ok (.iinc 9 1, 3) := by decide +kernel
theorem dX1_lossOf_107 : decode cX1_lossOf 107 = .ok (.goto (-52), 3) := by decide +kernel
theorem dX1_lossOf_110 : decode cX1_lossOf 110 = .ok (.iload 8, 2) := by decide +kernel
theorem dX1_lossOf_112 : decode cX1_lossOf 112 = .ok (.ireturn, 1) := by decide +kernel
abbrev cX1_worstOf : ByteArray := prog_1_method_43_code
def yX1_worstOf : MethodName := ⟨RX1, "worstOf", "(IIIII)I"⟩
theorem dX1_worstOf_0 : decode cX1_worstOf 0 = .ok (.iconst 0, 1) := by decide +kernel
theorem dX1_worstOf_1 : decode cX1_worstOf 1 = .ok (.istore 6, 2) := by decide +kernel
theorem dX1_worstOf_3 : decode cX1_worstOf 3 = .ok (.iconst 0, 1) := by decide +kernel
theorem dX1_worstOf_4 : decode cX1_worstOf 4 = .ok (.iload_n 3, 1) := by decide +kernel
theorem dX1_worstOf_5 : decode cX1_worstOf 5 = .ok (.iload 5, 2) := by decide +kernel
theorem dX1_worstOf_7 : decode cX1_worstOf 7 = .ok (.isub, 1) := by decide +kernel
theorem dX1_worstOf_8 : decode cX1_worstOf 8 = .ok (.invokestatic 330, 3) := by decide +kernel
theorem dX1_worstOf_11 : decode cX1_worstOf 11 = .ok (.istore 7, 2) := by decide +kernel
theorem dX1_worstOf_13 : decode cX1_worstOf 13 = .ok (.iload 7, 2) := by decide +kernel
theorem dX1_worstOf_15 : decode cX1_worstOf 15 = .ok (.bipush 10, 2) := by decide +kernel
theorem dX1_worstOf_17 : decode cX1_worstOf 17 = .ok (.iload_n 3, 1) := by decide +kernel
theorem dX1_worstOf_18 : decode cX1_worstOf 18 = .ok (.iload 4, 2) := by decide +kernel
theorem dX1_worstOf_20 : decode cX1_worstOf 20 = .ok (.iadd, 1) := by decide +kernel
theorem dX1_worstOf_21 : decode cX1_worstOf 21 = .ok (.invokestatic 327, 3) := by decide +kernel
theorem dX1_worstOf_24 : decode cX1_worstOf 24 = .ok (.if_icmp .gt 29, 3) := by decide +kernel
theorem dX1_worstOf_27 : decode cX1_worstOf 27 = .ok (.iload 6, 2) := by decide +kernel
theorem dX1_worstOf_29 : decode cX1_worstOf 29 = .ok (.aload_n 0, 1) := by decide +kernel
theorem dX1_worstOf_30 : decode cX1_worstOf 30 = .ok (.getfield 75, 3) := by decide +kernel
theorem dX1_worstOf_33 : decode cX1_worstOf 33 = .ok (.iload_n 1, 1) := by decide +kernel
theorem dX1_worstOf_34 : decode cX1_worstOf 34 = .ok (.iconst 1, 1) := by decide +kernel
theorem dX1_worstOf_35 : decode cX1_worstOf 35 = .ok (.isub, 1) := by decide +kernel
theorem dX1_worstOf_36 : decode cX1_worstOf 36 = .ok (.aaload, 1) := by decide +kernel
theorem dX1_worstOf_37 : decode cX1_worstOf 37 = .ok (.iload_n 2, 1) := by decide +kernel
theorem dX1_worstOf_38 : decode cX1_worstOf 38 = .ok (.aaload, 1) := by decide +kernel
theorem dX1_worstOf_39 : decode cX1_worstOf 39 = .ok (.iload 7, 2) := by decide +kernel
theorem dX1_worstOf_41 : decode cX1_worstOf 41 = .ok (.iaload, 1) := by decide +kernel
theorem dX1_worstOf_42 : decode cX1_worstOf 42 = .ok (.invokestatic 330, 3) := by decide +kernel
theorem dX1_worstOf_45 : decode cX1_worstOf 45 = .ok (.istore 6, 2) := by decide +kernel
theorem dX1_worstOf_47 : decode cX1_worstOf 47 = .ok (.iinc 7 1, 3) := by decide +kernel
theorem dX1_worstOf_50 : decode cX1_worstOf 50 = .ok (.goto (-37), 3) := by decide +kernel
theorem dX1_worstOf_53 : decode cX1_worstOf 53 = .ok (.iload 6, 2) := by decide +kernel
theorem dX1_worstOf_55 : decode cX1_worstOf 55 = .ok (.ireturn, 1) := by decide +kernel
abbrev cX1_gives : ByteArray := prog_1_method_47_code
def yX1_gives : MethodName := ⟨RX1, "gives", "(IIIII)I"⟩
theorem dX1_gives_0 : decode cX1_gives 0 = .ok (.aload_n 0, 1) := by decide +kernel
theorem dX1_gives_1 : decode cX1_gives 1 = .ok (.iload_n 1, 1) := by decide +kernel
theorem dX1_gives_2 : decode cX1_gives 2 = .ok (.iload_n 2, 1) := by decide +kernel
theorem dX1_gives_3 : decode cX1_gives 3 = .ok (.iload_n 3, 1) := by decide +kernel
theorem dX1_gives_4 : decode cX1_gives 4 = .ok (.iload 4, 2) := by decide +kernel
theorem dX1_gives_6 : decode cX1_gives 6 = .ok (.iload 5, 2) := by decide +kernel
theorem dX1_gives_8 : decode cX1_gives 8 = .ok (.invokevirtual 379, 3) := by decide +kernel
theorem dX1_gives_11 : decode cX1_gives 11 = .ok (.iconst (-1), 1) := by decide +kernel
theorem dX1_gives_12 : decode cX1_gives 12 = .ok (.if_icmp .ne 7, 3) := by decide +kernel
theorem dX1_gives_15 : decode cX1_gives 15 = .ok (.iconst (-1), 1) := by decide +kernel
theorem dX1_gives_16 : decode cX1_gives 16 = .ok (.goto 7, 3) := by decide +kernel
theorem dX1_gives_19 : decode cX1_gives 19 = .ok (.aload_n 0, 1) := by decide +kernel
theorem dX1_gives_20 : decode cX1_gives 20 = .ok (.getfield 368, 3) := by decide +kernel
theorem dX1_gives_23 : decode cX1_gives 23 = .ok (.ireturn, 1) := by decide +kernel
abbrev cX1_sight : ByteArray := prog_1_method_48_code
def yX1_sight : MethodName := ⟨RX1, "sight", "(III)I"⟩
theorem dX1_sight_0 : decode cX1_sight 0 = .ok (.iload_n 1, 1) := by decide +kernel
theorem dX1_sight_1 : decode cX1_sight 1 = .ok (.iconst 0, 1) := by decide +kernel
theorem dX1_sight_2 : decode cX1_sight 2 = .ok (.sipush 1440, 3) := by decide +kernel
theorem dX1_sight_5 : decode cX1_sight 5 = .ok (.invokestatic 108, 3) := by decide +kernel
theorem dX1_sight_8 : decode cX1_sight 8 = .ok (.ifCond .eq 41, 3) := by decide +kernel
theorem dX1_sight_11 : decode cX1_sight 11 = .ok (.iload_n 2, 1) := by decide +kernel
theorem dX1_sight_12 : decode cX1_sight 12 = .ok (.iconst 0, 1) := by decide +kernel
theorem dX1_sight_13 : decode cX1_sight 13 = .ok (.sipush 1440, 3) := by decide +kernel
theorem dX1_sight_16 : decode cX1_sight 16 = .ok (.invokestatic 108, 3) := by decide +kernel
theorem dX1_sight_19 : decode cX1_sight 19 = .ok (.ifCond .eq 30, 3) := by decide +kernel
theorem dX1_sight_22 : decode cX1_sight 22 = .ok (.iload_n 3, 1) := by decide +kernel
theorem dX1_sight_23 : decode cX1_sight 23 = .ok (.iconst 1, 1) := by decide +kernel
theorem dX1_sight_24 : decode cX1_sight 24 = .ok (.sipush 300, 3) := by decide +kernel
theorem dX1_sight_27 : decode cX1_sight 27 = .ok (.invokestatic 108, 3) := by decide +kernel
theorem dX1_sight_30 : decode cX1_sight 30 = .ok (.ifCond .eq 19, 3) := by decide +kernel
theorem dX1_sight_33 : decode cX1_sight 33 = .ok (.iload_n 1, 1) := by decide +kernel
theorem dX1_sight_34 : decode cX1_sight 34 = .ok (.iload_n 3, 1) := by decide +kernel
theorem dX1_sight_35 : decode cX1_sight 35 = .ok (.iadd, 1) := by decide +kernel
theorem dX1_sight_36 : decode cX1_sight 36 = .ok (.iload_n 2, 1) := by decide +kernel
theorem dX1_sight_37 : decode cX1_sight 37 = .ok (.if_icmp .gt 12, 3) := by decide +kernel
theorem dX1_sight_40 : decode cX1_sight 40 = .ok (.aload_n 0, 1) := by decide +kernel
theorem dX1_sight_41 : decode cX1_sight 41 = .ok (.getfield 382, 3) := by decide +kernel
theorem dX1_sight_44 : decode cX1_sight 44 = .ok (.bipush 6, 2) := by decide +kernel
theorem dX1_sight_46 : decode cX1_sight 46 = .ok (.if_icmp .ne 5, 3) := by decide +kernel
theorem dX1_sight_49 : decode cX1_sight 49 = .ok (.iconst (-1), 1) := by decide +kernel
theorem dX1_sight_50 : decode cX1_sight 50 = .ok (.ireturn, 1) := by decide +kernel
theorem dX1_sight_51 : decode cX1_sight 51 = .ok (.aload_n 0, 1) := by decide +kernel
theorem dX1_sight_52 : decode cX1_sight 52 = .ok (.dup, 1) := by decide +kernel
theorem dX1_sight_53 : decode cX1_sight 53 = .ok (.getfield 382, 3) := by decide +kernel
theorem dX1_sight_56 : decode cX1_sight 56 = .ok (.iconst 1, 1) := by decide +kernel
theorem dX1_sight_57 : decode cX1_sight 57 = .ok (.iadd, 1) := by decide +kernel
theorem dX1_sight_58 : decode cX1_sight 58 = .ok (.putfield 382, 3) := by decide +kernel
theorem dX1_sight_61 : decode cX1_sight 61 = .ok (.aload_n 0, 1) := by decide +kernel
theorem dX1_sight_62 : decode cX1_sight 62 = .ok (.getfield 78, 3) := by decide +kernel
theorem dX1_sight_65 : decode cX1_sight 65 = .ok (.aload_n 0, 1) := by decide +kernel
theorem dX1_sight_66 : decode cX1_sight 66 = .ok (.getfield 382, 3) := by decide +kernel
theorem dX1_sight_69 : decode cX1_sight 69 = .ok (.iload_n 1, 1) := by decide +kernel
theorem dX1_sight_70 : decode cX1_sight 70 = .ok (.iastore, 1) := by decide +kernel
theorem dX1_sight_71 : decode cX1_sight 71 = .ok (.aload_n 0, 1) := by decide +kernel
theorem dX1_sight_72 : decode cX1_sight 72 = .ok (.getfield 81, 3) := by decide +kernel
theorem dX1_sight_75 : decode cX1_sight 75 = .ok (.aload_n 0, 1) := by decide +kernel
theorem dX1_sight_76 : decode cX1_sight 76 = .ok (.getfield 382, 3) := by decide +kernel
theorem dX1_sight_79 : decode cX1_sight 79 = .ok (.iload_n 2, 1) := by decide +kernel
theorem dX1_sight_80 : decode cX1_sight 80 = .ok (.iastore, 1) := by decide +kernel
theorem dX1_sight_81 : decode cX1_sight 81 = .ok (.aload_n 0, 1) := by decide +kernel
theorem dX1_sight_82 : decode cX1_sight 82 = .ok (.getfield 84, 3) := by decide +kernel
theorem dX1_sight_85 : decode cX1_sight 85 = .ok (.aload_n 0, 1) := by decide +kernel
theorem dX1_sight_86 : decode cX1_sight 86 = .ok (.getfield 382, 3) := by decide +kernel
theorem dX1_sight_89 : decode cX1_sight 89 = .ok (.iload_n 3, 1) := by decide +kernel
theorem dX1_sight_90 : decode cX1_sight 90 = .ok (.iastore, 1) := by decide +kernel
theorem dX1_sight_91 : decode cX1_sight 91 = .ok (.aload_n 0, 1) := by decide +kernel
theorem dX1_sight_92 : decode cX1_sight 92 = .ok (.getfield 382, 3) := by decide +kernel
theorem dX1_sight_95 : decode cX1_sight 95 = .ok (.ireturn, 1) := by decide +kernel
abbrev cX1_way : ByteArray := prog_1_method_49_code
def yX1_way : MethodName := ⟨RX1, "way", "(III)Z"⟩
theorem dX1_way_0 : decode cX1_way 0 = .ok (.iload_n 1, 1) := by decide +kernel
theorem dX1_way_1 : decode cX1_way 1 = .ok (.iconst 0, 1) := by decide +kernel
theorem dX1_way_2 : decode cX1_way 2 = .ok (.aload_n 0, 1) := by decide +kernel
theorem dX1_way_3 : decode cX1_way 3 = .ok (.getfield 382, 3) := by decide +kernel
theorem dX1_way_6 : decode cX1_way 6 = .ok (.invokestatic 108, 3) := by decide +kernel
theorem dX1_way_9 : decode cX1_way 9 = .ok (.ifCond .eq 31, 3) := by decide +kernel
theorem dX1_way_12 : decode cX1_way 12 = .ok (.iload_n 2, 1) := by decide +kernel
theorem dX1_way_13 : decode cX1_way 13 = .ok (.iconst 0, 1) := by decide +kernel
theorem dX1_way_14 : decode cX1_way 14 = .ok (.aload_n 0, 1) := by decide +kernel
theorem dX1_way_15 : decode cX1_way 15 = .ok (.getfield 382, 3) := by decide +kernel
theorem dX1_way_18 : decode cX1_way 18 = .ok (.invokestatic 108, 3) := by decide +kernel
theorem dX1_way_21 : decode cX1_way 21 = .ok (.ifCond .eq 19, 3) := by decide +kernel
theorem dX1_way_24 : decode cX1_way 24 = .ok (.iload_n 1, 1) := by decide +kernel
theorem dX1_way_25 : decode cX1_way 25 = .ok (.iload_n 2, 1) := by decide +kernel
theorem dX1_way_26 : decode cX1_way 26 = .ok (.if_icmp .eq 14, 3) := by decide +kernel
theorem dX1_way_29 : decode cX1_way 29 = .ok (.iload_n 3, 1) := by decide +kernel
theorem dX1_way_30 : decode cX1_way 30 = .ok (.iconst 0, 1) := by decide +kernel
theorem dX1_way_31 : decode cX1_way 31 = .ok (.sipush 270, 3) := by decide +kernel
theorem dX1_way_34 : decode cX1_way 34 = .ok (.invokestatic 108, 3) := by decide +kernel
theorem dX1_way_37 : decode cX1_way 37 = .ok (.ifCond .ne 5, 3) := by decide +kernel
theorem dX1_way_40 : decode cX1_way 40 = .ok (.iconst 0, 1) := by decide +kernel
theorem dX1_way_41 : decode cX1_way 41 = .ok (.ireturn, 1) := by decide +kernel
theorem dX1_way_42 : decode cX1_way 42 = .ok (.aload_n 0, 1) := by decide +kernel
theorem dX1_way_43 : decode cX1_way 43 = .ok (.getfield 87, 3) := by decide +kernel
theorem dX1_way_46 : decode cX1_way 46 = .ok (.iload_n 1, 1) := by decide +kernel
theorem dX1_way_47 : decode cX1_way 47 = .ok (.aaload, 1) := by decide +kernel
theorem dX1_way_48 : decode cX1_way 48 = .ok (.iload_n 2, 1) := by decide +kernel
theorem dX1_way_49 : decode cX1_way 49 = .ok (.iload_n 3, 1) := by decide +kernel
theorem dX1_way_50 : decode cX1_way 50 = .ok (.iastore, 1) := by decide +kernel
theorem dX1_way_51 : decode cX1_way 51 = .ok (.iconst 1, 1) := by decide +kernel
theorem dX1_way_52 : decode cX1_way 52 = .ok (.ireturn, 1) := by decide +kernel
abbrev cX1_clear : ByteArray := prog_1_method_50_code
def yX1_clear : MethodName := ⟨RX1, "clear", "()I"⟩
theorem dX1_clear_0 : decode cX1_clear 0 = .ok (.aload_n 0, 1) := by decide +kernel
theorem dX1_clear_1 : decode cX1_clear 1 = .ok (.getfield 382, 3) := by decide +kernel
theorem dX1_clear_4 : decode cX1_clear 4 = .ok (.istore_n 1, 1) := by decide +kernel
theorem dX1_clear_5 : decode cX1_clear 5 = .ok (.aload_n 0, 1) := by decide +kernel
theorem dX1_clear_6 : decode cX1_clear 6 = .ok (.iconst 0, 1) := by decide +kernel
theorem dX1_clear_7 : decode cX1_clear 7 = .ok (.putfield 382, 3) := by decide +kernel
theorem dX1_clear_10 : decode cX1_clear 10 = .ok (.iconst 0, 1) := by decide +kernel
theorem dX1_clear_11 : decode cX1_clear 11 = .ok (.istore_n 2, 1) := by decide +kernel
theorem dX1_clear_12 : decode cX1_clear 12 = .ok (.iload_n 2, 1) := by decide +kernel
theorem dX1_clear_13 : decode cX1_clear 13 = .ok (.bipush 6, 2) := by decide +kernel
theorem dX1_clear_15 : decode cX1_clear 15 = .ok (.if_icmp .gt 32, 3) := by decide +kernel
theorem dX1_clear_18 : decode cX1_clear 18 = .ok (.iconst 0, 1) := by decide +kernel
theorem dX1_clear_19 : decode cX1_clear 19 = .ok (.istore_n 3, 1) := by decide +kernel
theorem dX1_clear_20 : decode cX1_clear 20 = .ok (.iload_n 3, 1) := by decide +kernel
theorem dX1_clear_21 : decode cX1_clear 21 = .ok (.bipush 6, 2) := by decide +kernel
theorem dX1_clear_23 : decode cX1_clear 23 = .ok (.if_icmp .gt 18, 3) := by decide +kernel
theorem dX1_clear_26 : decode cX1_clear 26 = .ok (.aload_n 0, 1) := by decide +kernel
theorem dX1_clear_27 : decode cX1_clear 27 = .ok (.getfield 87, 3) := by decide +kernel
theorem dX1_clear_30 : decode cX1_clear 30 = .ok (.iload_n 2, 1) := by decide +kernel
theorem dX1_clear_31 : decode cX1_clear 31 = .ok (.aaload, 1) := by decide +kernel
theorem dX1_clear_32 : decode cX1_clear 32 = .ok (.iload_n 3, 1) := by decide +kernel
theorem dX1_clear_33 : decode cX1_clear 33 = .ok (.iconst 0, 1) := by decide +kernel
theorem dX1_clear_34 : decode cX1_clear 34 = .ok (.iastore, 1) := by decide +kernel
theorem dX1_clear_35 : decode cX1_clear 35 = .ok (.iinc 3 1, 3) := by decide +kernel
theorem dX1_clear_38 : decode cX1_clear 38 = .ok (.goto (-18), 3) := by decide +kernel
theorem dX1_clear_41 : decode cX1_clear 41 = .ok (.iinc 2 1, 3) := by decide +kernel
theorem dX1_clear_44 : decode cX1_clear 44 = .ok (.goto (-32), 3) := by decide +kernel
theorem dX1_clear_47 : decode cX1_clear 47 = .ok (.iload_n 1, 1) := by decide +kernel
theorem dX1_clear_48 : decode cX1_clear 48 = .ok (.ireturn, 1) := by decide +kernel
abbrev cX1_trip : ByteArray := prog_1_method_54_code
def yX1_trip : MethodName := ⟨RX1, "trip", "(I)I"⟩
theorem dX1_trip_0 : decode cX1_trip 0 = .ok (.iload_n 1, 1) := by decide +kernel
theorem dX1_trip_1 : decode cX1_trip 1 = .ok (.iconst 0, 1) := by decide +kernel
theorem dX1_trip_2 : decode cX1_trip 2 = .ok (.sipush 1440, 3) := by decide +kernel
theorem dX1_trip_5 : decode cX1_trip 5 = .ok (.invokestatic 108, 3) := by decide +kernel
theorem dX1_trip_8 : decode cX1_trip 8 = .ok (.ifCond .ne 5, 3) := by decide +kernel
theorem dX1_trip_11 : decode cX1_trip 11 = .ok (.iconst (-1), 1) := by decide +kernel
theorem dX1_trip_12 : decode cX1_trip 12 = .ok (.ireturn, 1) := by decide +kernel
theorem dX1_trip_13 : decode cX1_trip 13 = .ok (.aload_n 0, 1) := by decide +kernel
theorem dX1_trip_14 : decode cX1_trip 14 = .ok (.iconst 0, 1) := by decide +kernel
theorem dX1_trip_15 : decode cX1_trip 15 = .ok (.putfield 102, 3) := by decide +kernel
theorem dX1_trip_18 : decode cX1_trip 18 = .ok (.aload_n 0, 1) := by decide +kernel
theorem dX1_trip_19 : decode cX1_trip 19 = .ok (.iload_n 1, 1) := by decide +kernel
theorem dX1_trip_20 : decode cX1_trip 20 = .ok (.putfield 385, 3) := by decide +kernel
theorem dX1_trip_23 : decode cX1_trip 23 = .ok (.aload_n 0, 1) := by decide +kernel
theorem dX1_trip_24 : decode cX1_trip 24 = .ok (.iconst 0, 1) := by decide +kernel
theorem dX1_trip_25 : decode cX1_trip 25 = .ok (.putfield 388, 3) := by decide +kernel
theorem dX1_trip_28 : decode cX1_trip 28 = .ok (.aload_n 0, 1) := by decide +kernel
theorem dX1_trip_29 : decode cX1_trip 29 = .ok (.iconst 0, 1) := by decide +kernel
theorem dX1_trip_30 : decode cX1_trip 30 = .ok (.putfield 401, 3) := by decide +kernel
theorem dX1_trip_33 : decode cX1_trip 33 = .ok (.aload_n 0, 1) := by decide +kernel
theorem dX1_trip_34 : decode cX1_trip 34 = .ok (.iconst 0, 1) := by decide +kernel
theorem dX1_trip_35 : decode cX1_trip 35 = .ok (.iconst 0, 1) := by decide +kernel
theorem dX1_trip_36 : decode cX1_trip 36 = .ok (.iload_n 1, 1) := by decide +kernel
theorem dX1_trip_37 : decode cX1_trip 37 = .ok (.iconst 0, 1) := by decide +kernel
theorem dX1_trip_38 : decode cX1_trip 38 = .ok (.iconst 0, 1) := by decide +kernel
theorem dX1_trip_39 : decode cX1_trip 39 = .ok (.iconst 0, 1) := by decide +kernel
theorem dX1_trip_40 : decode cX1_trip 40 = .ok (.invokevirtual 395, 3) := by decide +kernel
theorem dX1_trip_43 : decode cX1_trip 43 = .ok (.aload_n 0, 1) := by decide +kernel
theorem dX1_trip_44 : decode cX1_trip 44 = .ok (.getfield 102, 3) := by decide +kernel
theorem dX1_trip_47 : decode cX1_trip 47 = .ok (.ireturn, 1) := by decide +kernel
abbrev cX1_goes : ByteArray := prog_1_method_52_code
def yX1_goes : MethodName := ⟨RX1, "goes", "(IIIIII)V"⟩
theorem dX1_goes_0 : decode cX1_goes 0 = .ok (.iload_n 1, 1) := by decide +kernel
theorem dX1_goes_1 : decode cX1_goes 1 = .ok (.ifCond .le 16, 3) := by decide +kernel
theorem dX1_goes_4 : decode cX1_goes 4 = .ok (.aload_n 0, 1) := by decide +kernel
theorem dX1_goes_5 : decode cX1_goes 5 = .ok (.iload_n 1, 1) := by decide +kernel
theorem dX1_goes_6 : decode cX1_goes 6 = .ok (.iload_n 2, 1) := by decide +kernel
theorem dX1_goes_7 : decode cX1_goes 7 = .ok (.iload_n 3, 1) := by decide +kernel
theorem dX1_goes_8 : decode cX1_goes 8 = .ok (.iload 4, 2) := by decide +kernel
theorem dX1_goes_10 : decode cX1_goes 10 = .ok (.iload 5, 2) := by decide +kernel
theorem dX1_goes_12 : decode cX1_goes 12 = .ok (.iload 6, 2) := by decide +kernel
theorem dX1_goes_14 : decode cX1_goes 14 = .ok (.invokevirtual 391, 3) := by decide +kernel
theorem dX1_goes_17 : decode cX1_goes 17 = .ok (.iconst 1, 1) := by decide +kernel
theorem dX1_goes_18 : decode cX1_goes 18 = .ok (.istore 7, 2) := by decide +kernel
theorem dX1_goes_20 : decode cX1_goes 20 = .ok (.iload 7, 2) := by decide +kernel
theorem dX1_goes_22 : decode cX1_goes 22 = .ok (.aload_n 0, 1) := by decide +kernel
theorem dX1_goes_23 : decode cX1_goes 23 = .ok (.getfield 382, 3) := by decide +kernel
theorem dX1_goes_26 : decode cX1_goes 26 = .ok (.if_icmp .gt 245, 3) := by decide +kernel
theorem dX1_goes_29 : decode cX1_goes 29 = .ok (.iconst 0, 1) := by decide +kernel
theorem dX1_goes_30 : decode cX1_goes 30 = .ok (.istore 8, 2) := by decide +kernel
theorem dX1_goes_32 : decode cX1_goes 32 = .ok (.iconst 0, 1) := by decide +kernel
theorem dX1_goes_33 : decode cX1_goes 33 = .ok (.istore 9, 2) := by decide +kernel
theorem dX1_goes_35 : decode cX1_goes 35 = .ok (.iload 9, 2) := by decide +kernel
theorem dX1_goes_37 : decode cX1_goes 37 = .ok (.iload_n 1, 1) := by decide +kernel
theorem dX1_goes_38 : decode cX1_goes 38 = .ok (.if_icmp .ge 33, 3) := by decide +kernel
theorem dX1_goes_41 : decode cX1_goes 41 = .ok (.iload 8, 2) := by decide +kernel
theorem dX1_goes_43 : decode cX1_goes 43 = .ok (.ifCond .ne 15, 3) := by decide +kernel
theorem dX1_goes_46 : decode cX1_goes 46 = .ok (.aload_n 0, 1) := by decide +kernel
theorem dX1_goes_47 : decode cX1_goes 47 = .ok (.getfield 90, 3) := by decide +kernel
theorem dX1_goes_50 : decode cX1_goes 50 = .ok (.iload 9, 2) := by decide +kernel
theorem dX1_goes_52 : decode cX1_goes 52 = .ok (.iaload, 1) := by decide +kernel
theorem dX1_goes_53 : decode cX1_goes 53 = .ok (.iload 7, 2) := by decide +kernel
theorem dX1_goes_55 : decode cX1_goes 55 = .ok (.if_icmp .ne 7, 3) := by decide +kernel
theorem dX1_goes_58 : decode cX1_goes 58 = .ok (.iconst 1, 1) := by decide +kernel
theorem dX1_goes_59 : decode cX1_goes 59 = .ok (.goto 4, 3) := by decide +kernel
theorem dX1_goes_62 : decode cX1_goes 62 = .ok (.iconst 0, 1) := by decide +kernel
theorem dX1_goes_63 : decode cX1_goes 63 = .ok (.istore 8, 2) := by decide +kernel
theorem dX1_goes_65 : decode cX1_goes 65 = .ok (.iinc 9 1, 3) := by decide +kernel
theorem dX1_goes_68 : decode cX1_goes 68 = .ok (.goto (-33), 3) := by decide +kernel
theorem dX1_goes_71 : decode cX1_goes 71 = .ok (.aload_n 0, 1) := by decide +kernel
theorem dX1_goes_72 : decode cX1_goes 72 = .ok (.getfield 87, 3) := by decide +kernel
theorem dX1_goes_75 : decode cX1_goes 75 = .ok (.iload_n 2, 1) := by decide +kernel
theorem dX1_goes_76 : decode cX1_goes 76 = .ok (.aaload, 1) := by decide +kernel
theorem dX1_goes_77 : decode cX1_goes 77 = .ok (.iload 7, 2) := by decide +kernel
theorem dX1_goes_79 : decode cX1_goes 79 = .ok (.iaload, 1) := by decide +kernel
theorem dX1_goes_80 : decode cX1_goes 80 = .ok (.istore 9, 2) := by decide +kernel
theorem dX1_goes_82 : decode cX1_goes 82 = .ok (.iload 8, 2) := by decide +kernel
theorem dX1_goes_84 : decode cX1_goes 84 = .ok (.ifCond .ne 181, 3) := by decide +kernel
theorem dX1_goes_87 : decode cX1_goes 87 = .ok (.iload 9, 2) := by decide +kernel
theorem dX1_goes_89 : decode cX1_goes 89 = .ok (.ifCond .eq 176, 3) := by decide +kernel
theorem dX1_goes_92 : decode cX1_goes 92 = .ok (.iload 4, 2) := by decide +kernel
theorem dX1_goes_94 : decode cX1_goes 94 = .ok (.iload 9, 2) := by decide +kernel
theorem dX1_goes_96 : decode cX1_goes 96 = .ok (.iadd, 1) := by decide +kernel
theorem dX1_goes_97 : decode cX1_goes 97 = .ok (.sipush 540, 3) := by decide +kernel
theorem dX1_goes_100 : decode cX1_goes 100 = .ok (.if_icmp .le 6, 3) := by decide +kernel
theorem dX1_goes_103 : decode cX1_goes 103 = .ok (.goto 162, 3) := by decide +kernel
theorem dX1_goes_106 : decode cX1_goes 106 = .ok (.iload 5, 2) := by decide +kernel
theorem dX1_goes_108 : decode cX1_goes 108 = .ok (.iload 9, 2) := by decide +kernel
theorem dX1_goes_110 : decode cX1_goes 110 = .ok (.iadd, 1) := by decide +kernel
theorem dX1_goes_111 : decode cX1_goes 111 = .ok (.sipush 270, 3) := by decide +kernel
theorem dX1_goes_114 : decode cX1_goes 114 = .ok (.if_icmp .le 7, 3) := by decide +kernel
theorem dX1_goes_117 : decode cX1_goes 117 = .ok (.iconst 1, 1) := by decide +kernel
theorem dX1_goes_118 : decode cX1_goes 118 = .ok (.goto 4, 3) := by decide +kernel
theorem dX1_goes_121 : decode cX1_goes 121 = .ok (.iconst 0, 1) := by decide +kernel
theorem dX1_goes_122 : decode cX1_goes 122 = .ok (.istore 10, 2) := by decide +kernel
theorem dX1_goes_124 : decode cX1_goes 124 = .ok (.iload_n 3, 1) := by decide +kernel
theorem dX1_goes_125 : decode cX1_goes 125 = .ok (.iload 9, 2) := by decide +kernel
theorem dX1_goes_127 : decode cX1_goes 127 = .ok (.iadd, 1) := by decide +kernel
theorem dX1_goes_128 : decode cX1_goes 128 = .ok (.iload 10, 2) := by decide +kernel
theorem dX1_goes_130 : decode cX1_goes 130 = .ok (.ifCond .eq 8, 3) := by decide +kernel
theorem dX1_goes_133 : decode cX1_goes 133 = .ok (.bipush 45, 2) := by decide +kernel
theorem dX1_goes_135 : decode cX1_goes 135 = .ok (.goto 4, 3) := by decide +kernel
theorem dX1_goes_138 : decode cX1_goes 138 = .ok (.iconst 0, 1) := by decide +kernel
theorem dX1_goes_139 : decode cX1_goes 139 = .ok (.iadd, 1) := by decide +kernel
theorem dX1_goes_140 : decode cX1_goes 140 = .ok (.istore 11, 2) := by decide +kernel
theorem dX1_goes_142 : decode cX1_goes 142 = .ok (.iload 11, 2) := by decide +kernel
theorem dX1_goes_144 : decode cX1_goes 144 = .ok (.aload_n 0, 1) := by decide +kernel
theorem dX1_goes_145 : decode cX1_goes 145 = .ok (.getfield 78, 3) := by decide +kernel
theorem dX1_goes_148 : decode cX1_goes 148 = .ok (.iload 7, 2) := by decide +kernel
theorem dX1_goes_150 : decode cX1_goes 150 = .ok (.iaload, 1) := by decide +kernel
theorem dX1_goes_151 : decode cX1_goes 151 = .ok (.invokestatic 330, 3) := by decide +kernel
theorem dX1_goes_154 : decode cX1_goes 154 = .ok (.istore 12, 2) := by decide +kernel
theorem dX1_goes_156 : decode cX1_goes 156 = .ok (.iload 12, 2) := by decide +kernel
theorem dX1_goes_158 : decode cX1_goes 158 = .ok (.aload_n 0, 1) := by decide +kernel
theorem dX1_goes_159 : decode cX1_goes 159 = .ok (.getfield 84, 3) := by decide +kernel
theorem dX1_goes_162 : decode cX1_goes 162 = .ok (.iload 7, 2) := by decide +kernel
theorem dX1_goes_164 : decode cX1_goes 164 = .ok (.iaload, 1) := by decide +kernel
theorem dX1_goes_165 : decode cX1_goes 165 = .ok (.iadd, 1) := by decide +kernel
theorem dX1_goes_166 : decode cX1_goes 166 = .ok (.aload_n 0, 1) := by decide +kernel
theorem dX1_goes_167 : decode cX1_goes 167 = .ok (.getfield 81, 3) := by decide +kernel
theorem dX1_goes_170 : decode cX1_goes 170 = .ok (.iload 7, 2) := by decide +kernel
theorem dX1_goes_172 : decode cX1_goes 172 = .ok (.iaload, 1) := by decide +kernel
theorem dX1_goes_173 : decode cX1_goes 173 = .ok (.if_icmp .le 6, 3) := by decide +kernel
theorem dX1_goes_176 : decode cX1_goes 176 = .ok (.goto 89, 3) := by decide +kernel
theorem dX1_goes_179 : decode cX1_goes 179 = .ok (.iload 12, 2) := by decide +kernel
theorem dX1_goes_181 : decode cX1_goes 181 = .ok (.aload_n 0, 1) := by decide +kernel
theorem dX1_goes_182 : decode cX1_goes 182 = .ok (.getfield 84, 3) := by decide +kernel
theorem dX1_goes_185 : decode cX1_goes 185 = .ok (.iload 7, 2) := by decide +kernel
theorem dX1_goes_187 : decode cX1_goes 187 = .ok (.iaload, 1) := by decide +kernel
theorem dX1_goes_188 : decode cX1_goes 188 = .ok (.iadd, 1) := by decide +kernel
theorem dX1_goes_189 : decode cX1_goes 189 = .ok (.istore 13, 2) := by decide +kernel
theorem dX1_goes_191 : decode cX1_goes 191 = .ok (.aload_n 0, 1) := by decide +kernel
theorem dX1_goes_192 : decode cX1_goes 192 = .ok (.getfield 90, 3) := by decide +kernel
theorem dX1_goes_195 : decode cX1_goes 195 = .ok (.iload_n 1, 1) := by decide +kernel
theorem dX1_goes_196 : decode cX1_goes 196 = .ok (.iload 7, 2) := by decide +kernel
theorem dX1_goes_198 : decode cX1_goes 198 = .ok (.iastore, 1) := by decide +kernel
theorem dX1_goes_199 : decode cX1_goes 199 = .ok (.aload_n 0, 1) := by decide +kernel
theorem dX1_goes_200 : decode cX1_goes 200 = .ok (.getfield 93, 3) := by decide +kernel
theorem dX1_goes_203 : decode cX1_goes 203 = .ok (.iload_n 1, 1) := by decide +kernel
theorem dX1_goes_204 : decode cX1_goes 204 = .ok (.iload 12, 2) := by decide +kernel
theorem dX1_goes_206 : decode cX1_goes 206 = .ok (.iastore, 1) := by decide +kernel
theorem dX1_goes_207 : decode cX1_goes 207 = .ok (.aload_n 0, 1) := by decide +kernel
theorem dX1_goes_208 : decode cX1_goes 208 = .ok (.iload_n 1, 1) := by decide +kernel
theorem dX1_goes_209 : decode cX1_goes 209 = .ok (.iconst 1, 1) := by decide +kernel
theorem dX1_goes_210 : decode cX1_goes 210 = .ok (.iadd, 1) := by decide +kernel
theorem dX1_goes_211 : decode cX1_goes 211 = .ok (.iload 7, 2) := by decide +kernel
theorem dX1_goes_213 : decode cX1_goes 213 = .ok (.iload 13, 2) := by decide +kernel
theorem dX1_goes_215 : decode cX1_goes 215 = .ok (.iload 4, 2) := by decide +kernel
theorem dX1_goes_217 : decode cX1_goes 217 = .ok (.iload 9, 2) := by decide +kernel
theorem dX1_goes_219 : decode cX1_goes 219 = .ok (.iadd, 1) := by decide +kernel
theorem dX1_goes_220 : decode cX1_goes 220 = .ok (.iload 13, 2) := by decide +kernel
theorem dX1_goes_222 : decode cX1_goes 222 = .ok (.iload 11, 2) := by decide +kernel
theorem dX1_goes_224 : decode cX1_goes 224 = .ok (.isub, 1) := by decide +kernel
theorem dX1_goes_225 : decode cX1_goes 225 = .ok (.bipush 45, 2) := by decide +kernel
theorem dX1_goes_227 : decode cX1_goes 227 = .ok (.if_icmp .lt 7, 3) := by decide +kernel
theorem dX1_goes_230 : decode cX1_goes 230 = .ok (.iconst 0, 1) := by decide +kernel
theorem dX1_goes_231 : decode cX1_goes 231 = .ok (.goto 18, 3) := by decide +kernel
theorem dX1_goes_234 : decode cX1_goes 234 = .ok (.iload 10, 2) := by decide +kernel
theorem dX1_goes_236 : decode cX1_goes 236 = .ok (.ifCond .eq 8, 3) := by decide +kernel
theorem dX1_goes_239 : decode cX1_goes 239 = .ok (.iload 9, 2) := by decide +kernel
theorem dX1_goes_241 : decode cX1_goes 241 = .ok (.goto 8, 3) := by decide +kernel
theorem dX1_goes_244 : decode cX1_goes 244 = .ok (.iload 5, 2) := by decide +kernel
theorem dX1_goes_246 : decode cX1_goes 246 = .ok (.iload 9, 2) := by decide +kernel
theorem dX1_goes_248 : decode cX1_goes 248 = .ok (.iadd, 1) := by decide +kernel
theorem dX1_goes_249 : decode cX1_goes 249 = .ok (.iload 6, 2) := by decide +kernel
theorem dX1_goes_251 : decode cX1_goes 251 = .ok (.iload 10, 2) := by decide +kernel
theorem dX1_goes_253 : decode cX1_goes 253 = .ok (.ifCond .eq 7, 3) := by decide +kernel
theorem dX1_goes_256 : decode cX1_goes 256 = .ok (.iconst 1, 1) := by decide +kernel
theorem dX1_goes_257 : decode cX1_goes 257 = .ok (.goto 4, 3) := by decide +kernel
theorem dX1_goes_260 : decode cX1_goes 260 = .ok (.iconst 0, 1) := by decide +kernel
theorem dX1_goes_261 : decode cX1_goes 261 = .ok (.iadd, 1) := by decide +kernel
theorem dX1_goes_262 : decode cX1_goes 262 = .ok (.invokevirtual 395, 3) := by decide +kernel
theorem dX1_goes_265 : decode cX1_goes 265 = .ok (.iinc 7 1, 3) := by decide +kernel
theorem dX1_goes_268 : decode cX1_goes 268 = .ok (.goto (-248), 3) := by decide +kernel
theorem dX1_goes_271 : decode cX1_goes 271 = .ok (.return_, 1) := by decide +kernel
abbrev cX1_home : ByteArray := prog_1_method_53_code
def yX1_home : MethodName := ⟨RX1, "home", "(IIIIII)V"⟩
theorem dX1_home_0 : decode cX1_home 0 = .ok (.aload_n 0, 1) := by decide +kernel
theorem dX1_home_1 : decode cX1_home 1 = .ok (.getfield 87, 3) := by decide +kernel
theorem dX1_home_4 : decode cX1_home 4 = .ok (.iload_n 2, 1) := by decide +kernel
theorem dX1_home_5 : decode cX1_home 5 = .ok (.aaload, 1) := by decide +kernel
theorem dX1_home_6 : decode cX1_home 6 = .ok (.iconst 0, 1) := by decide +kernel
theorem dX1_home_7 : decode cX1_home 7 = .ok (.iaload, 1) := by decide +kernel
theorem dX1_home_8 : decode cX1_home 8 = .ok (.istore 7, 2) := by decide +kernel
theorem dX1_home_10 : decode cX1_home 10 = .ok (.iload 5, 2) := by decide +kernel
theorem dX1_home_12 : decode cX1_home 12 = .ok (.iload 7, 2) := by decide +kernel
theorem dX1_home_14 : decode cX1_home 14 = .ok (.iadd, 1) := by decide +kernel
theorem dX1_home_15 : decode cX1_home 15 = .ok (.sipush 270, 3) := by decide +kernel
theorem dX1_home_18 : decode cX1_home 18 = .ok (.if_icmp .le 7, 3) := by decide +kernel
theorem dX1_home_21 : decode cX1_home 21 = .ok (.iconst 1, 1) := by decide +kernel
theorem dX1_home_22 : decode cX1_home 22 = .ok (.goto 4, 3) := by decide +kernel
theorem dX1_home_25 : decode cX1_home 25 = .ok (.iconst 0, 1) := by decide +kernel
theorem dX1_home_26 : decode cX1_home 26 = .ok (.istore 8, 2) := by decide +kernel
theorem dX1_home_28 : decode cX1_home 28 = .ok (.iload_n 3, 1) := by decide +kernel
theorem dX1_home_29 : decode cX1_home 29 = .ok (.iload 7, 2) := by decide +kernel
theorem dX1_home_31 : decode cX1_home 31 = .ok (.iadd, 1) := by decide +kernel
theorem dX1_home_32 : decode cX1_home 32 = .ok (.iload 8, 2) := by decide +kernel
theorem dX1_home_34 : decode cX1_home 34 = .ok (.ifCond .eq 8, 3) := by decide +kernel
theorem dX1_home_37 : decode cX1_home 37 = .ok (.bipush 45, 2) := by decide +kernel
theorem dX1_home_39 : decode cX1_home 39 = .ok (.goto 4, 3) := by decide +kernel
theorem dX1_home_42 : decode cX1_home 42 = .ok (.iconst 0, 1) := by decide +kernel
theorem dX1_home_43 : decode cX1_home 43 = .ok (.iadd, 1) := by decide +kernel
theorem dX1_home_44 : decode cX1_home 44 = .ok (.istore 9, 2) := by decide +kernel
theorem dX1_home_46 : decode cX1_home 46 = .ok (.iload 7, 2) := by decide +kernel
theorem dX1_home_48 : decode cX1_home 48 = .ok (.ifCond .eq 37, 3) := by decide +kernel
theorem dX1_home_51 : decode cX1_home 51 = .ok (.iload 4, 2) := by decide +kernel
theorem dX1_home_53 : decode cX1_home 53 = .ok (.iload 7, 2) := by decide +kernel
theorem dX1_home_55 : decode cX1_home 55 = .ok (.iadd, 1) := by decide +kernel
theorem dX1_home_56 : decode cX1_home 56 = .ok (.sipush 540, 3) := by decide +kernel
theorem dX1_home_59 : decode cX1_home 59 = .ok (.if_icmp .gt 26, 3) := by decide +kernel
theorem dX1_home_62 : decode cX1_home 62 = .ok (.iload 9, 2) := by decide +kernel
theorem dX1_home_64 : decode cX1_home 64 = .ok (.sipush 1440, 3) := by decide +kernel
theorem dX1_home_67 : decode cX1_home 67 = .ok (.if_icmp .gt 18, 3) := by decide +kernel
theorem dX1_home_70 : decode cX1_home 70 = .ok (.aload_n 0, 1) := by decide +kernel
theorem dX1_home_71 : decode cX1_home 71 = .ok (.iload_n 1, 1) := by decide +kernel
theorem dX1_home_72 : decode cX1_home 72 = .ok (.iload 9, 2) := by decide +kernel
theorem dX1_home_74 : decode cX1_home 74 = .ok (.iload 4, 2) := by decide +kernel
theorem dX1_home_76 : decode cX1_home 76 = .ok (.iload 7, 2) := by decide +kernel
theorem dX1_home_78 : decode cX1_home 78 = .ok (.iadd, 1) := by decide +kernel
theorem dX1_home_79 : decode cX1_home 79 = .ok (.invokevirtual 398, 3) := by decide +kernel
theorem dX1_home_82 : decode cX1_home 82 = .ok (.ifCond .ne 4, 3) := by decide +kernel
theorem dX1_home_85 : decode cX1_home 85 = .ok (.return_, 1) := by decide +kernel
theorem dX1_home_86 : decode cX1_home 86 = .ok (.aload_n 0, 1) := by decide +kernel
theorem dX1_home_87 : decode cX1_home 87 = .ok (.iload_n 1, 1) := by decide +kernel
theorem dX1_home_88 : decode cX1_home 88 = .ok (.putfield 102, 3) := by decide +kernel
theorem dX1_home_91 : decode cX1_home 91 = .ok (.aload_n 0, 1) := by decide +kernel
theorem dX1_home_92 : decode cX1_home 92 = .ok (.iload 9, 2) := by decide +kernel
theorem dX1_home_94 : decode cX1_home 94 = .ok (.putfield 385, 3) := by decide +kernel
theorem dX1_home_97 : decode cX1_home 97 = .ok (.aload_n 0, 1) := by decide +kernel
theorem dX1_home_98 : decode cX1_home 98 = .ok (.iload 4, 2) := by decide +kernel
theorem dX1_home_100 : decode cX1_home 100 = .ok (.iload 7, 2) := by decide +kernel
theorem dX1_home_102 : decode cX1_home 102 = .ok (.iadd, 1) := by decide +kernel
theorem dX1_home_103 : decode cX1_home 103 = .ok (.putfield 388, 3) := by decide +kernel
theorem dX1_home_106 : decode cX1_home 106 = .ok (.aload_n 0, 1) := by decide +kernel
theorem dX1_home_107 : decode cX1_home 107 = .ok (.iload 6, 2) := by decide +kernel
theorem dX1_home_109 : decode cX1_home 109 = .ok (.iload 8, 2) := by decide +kernel
theorem dX1_home_111 : decode cX1_home 111 = .ok (.ifCond .eq 7, 3) := by decide +kernel
theorem dX1_home_114 : decode cX1_home 114 = .ok (.iconst 1, 1) := by decide +kernel
theorem dX1_home_115 : decode cX1_home 115 = .ok (.goto 4, 3) := by decide +kernel
theorem dX1_home_118 : decode cX1_home 118 = .ok (.iconst 0, 1) := by decide +kernel
theorem dX1_home_119 : decode cX1_home 119 = .ok (.iadd, 1) := by decide +kernel
theorem dX1_home_120 : decode cX1_home 120 = .ok (.putfield 401, 3) := by decide +kernel
theorem dX1_home_123 : decode cX1_home 123 = .ok (.iconst 0, 1) := by decide +kernel
theorem dX1_home_124 : decode cX1_home 124 = .ok (.istore 10, 2) := by decide +kernel
theorem dX1_home_126 : decode cX1_home 126 = .ok (.iload 10, 2) := by decide +kernel
theorem dX1_home_128 : decode cX1_home 128 = .ok (.iload_n 1, 1) := by decide +kernel
theorem dX1_home_129 : decode cX1_home 129 = .ok (.if_icmp .ge 37, 3) := by decide +kernel
theorem dX1_home_132 : decode cX1_home 132 = .ok (.aload_n 0, 1) := by decide +kernel
theorem dX1_home_133 : decode cX1_home 133 = .ok (.getfield 96, 3) := by decide +kernel
theorem dX1_home_136 : decode cX1_home 136 = .ok (.iload 10, 2) := by decide +kernel
theorem dX1_home_138 : decode cX1_home 138 = .ok (.aload_n 0, 1) := by decide +kernel
theorem dX1_home_139 : decode cX1_home 139 = .ok (.getfield 90, 3) := by decide +kernel
theorem dX1_home_142 : decode cX1_home 142 = .ok (.iload 10, 2) := by decide +kernel
theorem dX1_home_144 : decode cX1_home 144 = .ok (.iaload, 1) := by decide +kernel
theorem dX1_home_145 : decode cX1_home 145 = .ok (.iastore, 1) := by decide +kernel
theorem dX1_home_146 : decode cX1_home 146 = .ok (.aload_n 0, 1) := by decide +kernel
theorem dX1_home_147 : decode cX1_home 147 = .ok (.getfield 99, 3) := by decide +kernel
theorem dX1_home_150 : decode cX1_home 150 = .ok (.iload 10, 2) := by decide +kernel
theorem dX1_home_152 : decode cX1_home 152 = .ok (.aload_n 0, 1) := by decide +kernel
theorem dX1_home_153 : decode cX1_home 153 = .ok (.getfield 93, 3) := by decide +kernel
theorem dX1_home_156 : decode cX1_home 156 = .ok (.iload 10, 2) := by decide +kernel
theorem dX1_home_158 : decode cX1_home 158 = .ok (.iaload, 1) := by decide +kernel
theorem dX1_home_159 : decode cX1_home 159 = .ok (.iastore, 1) := by decide +kernel
theorem dX1_home_160 : decode cX1_home 160 = .ok (.iinc 10 1, 3) := by decide +kernel
theorem dX1_home_163 : decode cX1_home 163 = .ok (.goto (-37), 3) := by decide +kernel
theorem dX1_home_166 : decode cX1_home 166 = .ok (.return_, 1) := by decide +kernel
abbrev cX1_isBetter : ByteArray := prog_1_method_51_code
def yX1_isBetter : MethodName := ⟨RX1, "isBetter", "(III)Z"⟩
theorem dX1_isBetter_0 : decode cX1_isBetter 0 = .ok (.iload_n 1, 1) := by decide +kernel
theorem dX1_isBetter_1 : decode cX1_isBetter 1 = .ok (.aload_n 0, 1) := by decide +kernel
theorem dX1_isBetter_2 : decode cX1_isBetter 2 = .ok (.getfield 102, 3) := by decide +kernel
theorem dX1_isBetter_5 : decode cX1_isBetter 5 = .ok (.if_icmp .eq 17, 3) := by decide +kernel
theorem dX1_isBetter_8 : decode cX1_isBetter 8 = .ok (.iload_n 1, 1) := by decide +kernel
theorem dX1_isBetter_9 : decode cX1_isBetter 9 = .ok (.aload_n 0, 1) := by decide +kernel
theorem dX1_isBetter_10 : decode cX1_isBetter 10 = .ok (.getfield 102, 3) := by decide +kernel
theorem dX1_isBetter_13 : decode cX1_isBetter 13 = .ok (.if_icmp .le 7, 3) := by decide +kernel
theorem dX1_isBetter_16 : decode cX1_isBetter 16 = .ok (.iconst 1, 1) := by decide +kernel
theorem dX1_isBetter_17 : decode cX1_isBetter 17 = .ok (.goto 4, 3) := by decide +kernel
theorem dX1_isBetter_20 : decode cX1_isBetter 20 = .ok (.iconst 0, 1) := by decide +kernel
theorem dX1_isBetter_21 : decode cX1_isBetter 21 = .ok (.ireturn, 1) := by decide +kernel
theorem dX1_isBetter_22 : decode cX1_isBetter 22 = .ok (.iload_n 2, 1) := by decide +kernel
theorem dX1_isBetter_23 : decode cX1_isBetter 23 = .ok (.aload_n 0, 1) := by decide +kernel
theorem dX1_isBetter_24 : decode cX1_isBetter 24 = .ok (.getfield 385, 3) := by decide +kernel
theorem dX1_isBetter_27 : decode cX1_isBetter 27 = .ok (.if_icmp .eq 19, 3) := by decide +kernel
theorem dX1_isBetter_30 : decode cX1_isBetter 30 = .ok (.iload_n 2, 1) := by decide +kernel
theorem dX1_isBetter_31 : decode cX1_isBetter 31 = .ok (.aload_n 0, 1) := by decide +kernel
theorem dX1_isBetter_32 : decode cX1_isBetter 32 = .ok (.getfield 385, 3) := by decide +kernel
theorem dX1_isBetter_35 : decode cX1_isBetter 35 = .ok (.if_icmp .ge 7, 3) := by decide +kernel
theorem dX1_isBetter_38 : decode cX1_isBetter 38 = .ok (.iconst 1, 1) := by decide +kernel
theorem dX1_isBetter_39 : decode cX1_isBetter 39 = .ok (.goto 20, 3) := by decide +kernel
theorem dX1_isBetter_42 : decode cX1_isBetter 42 = .ok (.iconst 0, 1) := by decide +kernel
theorem dX1_isBetter_43 : decode cX1_isBetter 43 = .ok (.goto 16, 3) := by decide +kernel
theorem dX1_isBetter_46 : decode cX1_isBetter 46 = .ok (.iload_n 3, 1) := by decide +kernel
theorem dX1_isBetter_47 : decode cX1_isBetter 47 = .ok (.aload_n 0, 1) := by decide +kernel
theorem dX1_isBetter_48 : decode cX1_isBetter 48 = .ok (.getfield 388, 3) := by decide +kernel
theorem dX1_isBetter_51 : decode cX1_isBetter 51 = .ok (.if_icmp .ge 7, 3) := by decide +kernel
theorem dX1_isBetter_54 : decode cX1_isBetter 54 = .ok (.iconst 1, 1) := by decide +kernel
theorem dX1_isBetter_55 : decode cX1_isBetter 55 = .ok (.goto 4, 3) := by decide +kernel
theorem dX1_isBetter_58 : decode cX1_isBetter 58 = .ok (.iconst 0, 1) := by decide +kernel
theorem dX1_isBetter_59 : decode cX1_isBetter 59 = .ok (.ireturn, 1) := by decide +kernel
abbrev cX1_tripOf : ByteArray := prog_1_method_55_code
def yX1_tripOf : MethodName := ⟨RX1, "tripOf", "(I)I"⟩
theorem dX1_tripOf_0 : decode cX1_tripOf 0 = .ok (.aload_n 0, 1) := by decide +kernel
theorem dX1_tripOf_1 : decode cX1_tripOf 1 = .ok (.getfield 102, 3) := by decide +kernel
theorem dX1_tripOf_4 : decode cX1_tripOf 4 = .ok (.iconst (-1), 1) := by decide +kernel
theorem dX1_tripOf_5 : decode cX1_tripOf 5 = .ok (.if_icmp .ne 5, 3) := by decide +kernel
theorem dX1_tripOf_8 : decode cX1_tripOf 8 = .ok (.iconst (-1), 1) := by decide +kernel
theorem dX1_tripOf_9 : decode cX1_tripOf 9 = .ok (.ireturn, 1) := by decide +kernel
theorem dX1_tripOf_10 : decode cX1_tripOf 10 = .ok (.iload_n 1, 1) := by decide +kernel
theorem dX1_tripOf_11 : decode cX1_tripOf 11 = .ok (.tableswitch 40 0 2 #[25, 30, 35], 25) := by decide +kernel
theorem dX1_tripOf_36 : decode cX1_tripOf 36 = .ok (.aload_n 0, 1) := by decide +kernel
theorem dX1_tripOf_37 : decode cX1_tripOf 37 = .ok (.getfield 385, 3) := by decide +kernel
theorem dX1_tripOf_40 : decode cX1_tripOf 40 = .ok (.ireturn, 1) := by decide +kernel
theorem dX1_tripOf_41 : decode cX1_tripOf 41 = .ok (.aload_n 0, 1) := by decide +kernel
theorem dX1_tripOf_42 : decode cX1_tripOf 42 = .ok (.getfield 388, 3) := by decide +kernel
theorem dX1_tripOf_45 : decode cX1_tripOf 45 = .ok (.ireturn, 1) := by decide +kernel
theorem dX1_tripOf_46 : decode cX1_tripOf 46 = .ok (.aload_n 0, 1) := by decide +kernel
theorem dX1_tripOf_47 : decode cX1_tripOf 47 = .ok (.getfield 401, 3) := by decide +kernel
theorem dX1_tripOf_50 : decode cX1_tripOf 50 = .ok (.ireturn, 1) := by decide +kernel
theorem dX1_tripOf_51 : decode cX1_tripOf 51 = .ok (.iload_n 1, 1) := by decide +kernel
theorem dX1_tripOf_52 : decode cX1_tripOf 52 = .ok (.bipush 10, 2) := by decide +kernel
theorem dX1_tripOf_54 : decode cX1_tripOf 54 = .ok (.bipush 9, 2) := by decide +kernel
theorem dX1_tripOf_56 : decode cX1_tripOf 56 = .ok (.aload_n 0, 1) := by decide +kernel
theorem dX1_tripOf_57 : decode cX1_tripOf 57 = .ok (.getfield 102, 3) := by decide +kernel
theorem dX1_tripOf_60 : decode cX1_tripOf 60 = .ok (.iadd, 1) := by decide +kernel
theorem dX1_tripOf_61 : decode cX1_tripOf 61 = .ok (.invokestatic 108, 3) := by decide +kernel
theorem dX1_tripOf_64 : decode cX1_tripOf 64 = .ok (.ifCond .eq 13, 3) := by decide +kernel
theorem dX1_tripOf_67 : decode cX1_tripOf 67 = .ok (.aload_n 0, 1) := by decide +kernel
theorem dX1_tripOf_68 : decode cX1_tripOf 68 = .ok (.getfield 96, 3) := by decide +kernel
theorem dX1_tripOf_71 : decode cX1_tripOf 71 = .ok (.iload_n 1, 1) := by decide +kernel
theorem dX1_tripOf_72 : decode cX1_tripOf 72 = .ok (.bipush 10, 2) := by decide +kernel
theorem dX1_tripOf_74 : decode cX1_tripOf 74 = .ok (.isub, 1) := by decide +kernel
theorem dX1_tripOf_75 : decode cX1_tripOf 75 = .ok (.iaload, 1) := by decide +kernel
theorem dX1_tripOf_76 : decode cX1_tripOf 76 = .ok (.ireturn, 1) := by decide +kernel
theorem dX1_tripOf_77 : decode cX1_tripOf 77 = .ok (.iload_n 1, 1) := by decide +kernel
theorem dX1_tripOf_78 : decode cX1_tripOf 78 = .ok (.bipush 20, 2) := by decide +kernel
theorem dX1_tripOf_80 : decode cX1_tripOf 80 = .ok (.bipush 19, 2) := by decide +kernel
theorem dX1_tripOf_82 : decode cX1_tripOf 82 = .ok (.aload_n 0, 1) := by decide +kernel
theorem dX1_tripOf_83 : decode cX1_tripOf 83 = .ok (.getfield 102, 3) := by decide +kernel
theorem dX1_tripOf_86 : decode cX1_tripOf 86 = .ok (.iadd, 1) := by decide +kernel
theorem dX1_tripOf_87 : decode cX1_tripOf 87 = .ok (.invokestatic 108, 3) := by decide +kernel
theorem dX1_tripOf_90 : decode cX1_tripOf 90 = .ok (.ifCond .eq 15, 3) := by decide +kernel
theorem dX1_tripOf_93 : decode cX1_tripOf 93 = .ok (.aload_n 0, 1) := by decide +kernel
theorem dX1_tripOf_94 : decode cX1_tripOf 94 = .ok (.getfield 99, 3) := by decide +kernel
theorem dX1_tripOf_97 : decode cX1_tripOf 97 = .ok (.iload_n 1, 1) := by decide +kernel
theorem dX1_tripOf_98 : decode cX1_tripOf 98 = .ok (.bipush 20, 2) := by decide +kernel
theorem dX1_tripOf_100 : decode cX1_tripOf 100 = .ok (.isub, 1) := by decide +kernel
theorem dX1_tripOf_101 : decode cX1_tripOf 101 = .ok (.iaload, 1) := by decide +kernel
theorem dX1_tripOf_102 : decode cX1_tripOf 102 = .ok (.goto 4, 3) := by decide +kernel
theorem dX1_tripOf_105 : decode cX1_tripOf 105 = .ok (.iconst (-1), 1) := by decide +kernel
theorem dX1_tripOf_106 : decode cX1_tripOf 106 = .ok (.ireturn, 1) := by decide +kernel
abbrev cX1_night : ByteArray := prog_1_method_58_code
def yX1_night : MethodName := ⟨RX1, "night", "()I"⟩
theorem dX1_night_0 : decode cX1_night 0 = .ok (.aload_n 0, 1) := by decide +kernel
theorem dX1_night_1 : decode cX1_night 1 = .ok (.getfield 115, 3) := by decide +kernel
theorem dX1_night_4 : decode cX1_night 4 = .ok (.aload_n 0, 1) := by decide +kernel
theorem dX1_night_5 : decode cX1_night 5 = .ok (.getfield 178, 3) := by decide +kernel
theorem dX1_night_8 : decode cX1_night 8 = .ok (.if_icmp .eq 19, 3) := by decide +kernel
theorem dX1_night_11 : decode cX1_night 11 = .ok (.aload_n 0, 1) := by decide +kernel
theorem dX1_night_12 : decode cX1_night 12 = .ok (.getfield 154, 3) := by decide +kernel
theorem dX1_night_15 : decode cX1_night 15 = .ok (.aload_n 0, 1) := by decide +kernel
theorem dX1_night_16 : decode cX1_night 16 = .ok (.getfield 21, 3) := by decide +kernel
theorem dX1_night_19 : decode cX1_night 19 = .ok (.aload_n 0, 1) := by decide +kernel
theorem dX1_night_20 : decode cX1_night 20 = .ok (.getfield 115, 3) := by decide +kernel
theorem dX1_night_23 : decode cX1_night 23 = .ok (.iadd, 1) := by decide +kernel
theorem dX1_night_24 : decode cX1_night 24 = .ok (.if_icmp .ge 5, 3) := by decide +kernel
theorem dX1_night_27 : decode cX1_night 27 = .ok (.iconst (-1), 1) := by decide +kernel
theorem dX1_night_28 : decode cX1_night 28 = .ok (.ireturn, 1) := by decide +kernel
theorem dX1_night_29 : decode cX1_night 29 = .ok (.aload_n 0, 1) := by decide +kernel
theorem dX1_night_30 : decode cX1_night 30 = .ok (.aload_n 0, 1) := by decide +kernel
theorem dX1_night_31 : decode cX1_night 31 = .ok (.getfield 115, 3) := by decide +kernel
theorem dX1_night_34 : decode cX1_night 34 = .ok (.invokevirtual 404, 3) := by decide +kernel
theorem dX1_night_37 : decode cX1_night 37 = .ok (.istore_n 1, 1) := by decide +kernel
theorem dX1_night_38 : decode cX1_night 38 = .ok (.aload_n 0, 1) := by decide +kernel
theorem dX1_night_39 : decode cX1_night 39 = .ok (.iload_n 1, 1) := by decide +kernel
theorem dX1_night_40 : decode cX1_night 40 = .ok (.invokevirtual 276, 3) := by decide +kernel
theorem dX1_night_43 : decode cX1_night 43 = .ok (.ifCond .ne 5, 3) := by decide +kernel
theorem dX1_night_46 : decode cX1_night 46 = .ok (.iconst (-1), 1) := by decide +kernel
theorem dX1_night_47 : decode cX1_night 47 = .ok (.ireturn, 1) := by decide +kernel
theorem dX1_night_48 : decode cX1_night 48 = .ok (.aload_n 0, 1) := by decide +kernel
theorem dX1_night_49 : decode cX1_night 49 = .ok (.iload_n 1, 1) := by decide +kernel
theorem dX1_night_50 : decode cX1_night 50 = .ok (.invokevirtual 349, 3) := by decide +kernel
theorem dX1_night_53 : decode cX1_night 53 = .ok (.astore_n 2, 1) := by decide +kernel
theorem dX1_night_54 : decode cX1_night 54 = .ok (.aload_n 0, 1) := by decide +kernel
theorem dX1_night_55 : decode cX1_night 55 = .ok (.aload_n 2, 1) := by decide +kernel
theorem dX1_night_56 : decode cX1_night 56 = .ok (.iconst 2, 1) := by decide +kernel
theorem dX1_night_57 : decode cX1_night 57 = .ok (.invokevirtual 353, 3) := by decide +kernel
theorem dX1_night_60 : decode cX1_night 60 = .ok (.istore_n 3, 1) := by decide +kernel
theorem dX1_night_61 : decode cX1_night 61 = .ok (.aload_n 0, 1) := by decide +kernel
theorem dX1_night_62 : decode cX1_night 62 = .ok (.getfield 62, 3) := by decide +kernel
theorem dX1_night_65 : decode cX1_night 65 = .ok (.aload_n 0, 1) := by decide +kernel
theorem dX1_night_66 : decode cX1_night 66 = .ok (.getfield 115, 3) := by decide +kernel
theorem dX1_night_69 : decode cX1_night 69 = .ok (.aload_n 0, 1) := by decide +kernel
theorem dX1_night_70 : decode cX1_night 70 = .ok (.aload_n 2, 1) := by decide +kernel
theorem dX1_night_71 : decode cX1_night 71 = .ok (.aload_n 0, 1) := by decide +kernel
theorem dX1_night_72 : decode cX1_night 72 = .ok (.aload_n 2, 1) := by decide +kernel
theorem dX1_night_73 : decode cX1_night 73 = .ok (.iconst 3, 1) := by decide +kernel
theorem dX1_night_74 : decode cX1_night 74 = .ok (.invokevirtual 353, 3) := by decide +kernel
theorem dX1_night_77 : decode cX1_night 77 = .ok (.invokevirtual 407, 3) := by decide +kernel
theorem dX1_night_80 : decode cX1_night 80 = .ok (.iastore, 1) := by decide +kernel
theorem dX1_night_81 : decode cX1_night 81 = .ok (.iconst 0, 1) := by decide +kernel
theorem dX1_night_82 : decode cX1_night 82 = .ok (.istore 4, 2) := by decide +kernel
theorem dX1_night_84 : decode cX1_night 84 = .ok (.iload 4, 2) := by decide +kernel
theorem dX1_night_86 : decode cX1_night 86 = .ok (.bipush 10, 2) := by decide +kernel
theorem dX1_night_88 : decode cX1_night 88 = .ok (.if_icmp .ge 28, 3) := by decide +kernel
theorem dX1_night_91 : decode cX1_night 91 = .ok (.aload_n 0, 1) := by decide +kernel
theorem dX1_night_92 : decode cX1_night 92 = .ok (.getfield 59, 3) := by decide +kernel
theorem dX1_night_95 : decode cX1_night 95 = .ok (.aload_n 0, 1) := by decide +kernel
theorem dX1_night_96 : decode cX1_night 96 = .ok (.getfield 115, 3) := by decide +kernel
theorem dX1_night_99 : decode cX1_night 99 = .ok (.aaload, 1) := by decide +kernel
theorem dX1_night_100 : decode cX1_night 100 = .ok (.iload 4, 2) := by decide +kernel
theorem dX1_night_102 : decode cX1_night 102 = .ok (.aload_n 2, 1) := by decide +kernel
theorem dX1_night_103 : decode cX1_night 103 = .ok (.getfield 148, 3) := by decide +kernel
theorem dX1_night_106 : decode cX1_night 106 = .ok (.iload 4, 2) := by decide +kernel
theorem dX1_night_108 : decode cX1_night 108 = .ok (.iaload, 1) := by decide +kernel
theorem dX1_night_109 : decode cX1_night 109 = .ok (.iastore, 1) := by decide +kernel
theorem dX1_night_110 : decode cX1_night 110 = .ok (.iinc 4 1, 3) := by decide +kernel
theorem dX1_night_113 : decode cX1_night 113 = .ok (.goto (-29), 3) := by decide +kernel
theorem dX1_night_116 : decode cX1_night 116 = .ok (.iconst 0, 1) := by decide +kernel
theorem dX1_night_117 : decode cX1_night 117 = .ok (.istore 4, 2) := by decide +kernel
theorem dX1_night_119 : decode cX1_night 119 = .ok (.iload 4, 2) := by decide +kernel
theorem dX1_night_121 : decode cX1_night 121 = .ok (.aload_n 2, 1) := by decide +kernel
theorem dX1_night_122 : decode cX1_night 122 = .ok (.getfield 128, 3) := by decide +kernel
theorem dX1_night_125 : decode cX1_night 125 = .ok (.if_icmp .ge 171, 3) := by decide +kernel
theorem dX1_night_128 : decode cX1_night 128 = .ok (.aload_n 2, 1) := by decide +kernel
theorem dX1_night_129 : decode cX1_night 129 = .ok (.iload 4, 2) := by decide +kernel
theorem dX1_night_131 : decode cX1_night 131 = .ok (.invokevirtual 226, 3) := by decide +kernel
theorem dX1_night_134 : decode cX1_night 134 = .ok (.istore 5, 2) := by decide +kernel
theorem dX1_night_136 : decode cX1_night 136 = .ok (.iload 5, 2) := by decide +kernel
theorem dX1_night_138 : decode cX1_night 138 = .ok (.invokestatic 199, 3) := by decide +kernel
theorem dX1_night_141 : decode cX1_night 141 = .ok (.istore 6, 2) := by decide +kernel
theorem dX1_night_143 : decode cX1_night 143 = .ok (.iconst 0, 1) := by decide +kernel
theorem dX1_night_144 : decode cX1_night 144 = .ok (.istore 7, 2) := by decide +kernel
theorem dX1_night_146 : decode cX1_night 146 = .ok (.iload 7, 2) := by decide +kernel
theorem dX1_night_148 : decode cX1_night 148 = .ok (.aload_n 0, 1) := by decide +kernel
theorem dX1_night_149 : decode cX1_night 149 = .ok (.getfield 105, 3) := by decide +kernel
theorem dX1_night_152 : decode cX1_night 152 = .ok (.if_icmp .ge 138, 3) := by decide +kernel
theorem dX1_night_155 : decode cX1_night 155 = .ok (.iload 5, 2) := by decide +kernel
theorem dX1_night_157 : decode cX1_night 157 = .ok (.iload 7, 2) := by decide +kernel
theorem dX1_night_159 : decode cX1_night 159 = .ok (.ishr, 1) := by decide +kernel
theorem dX1_night_160 : decode cX1_night 160 = .ok (.iconst 1, 1) := by decide +kernel
theorem dX1_night_161 : decode cX1_night 161 = .ok (.iand, 1) := by decide +kernel
theorem dX1_night_162 : decode cX1_night 162 = .ok (.ifCond .ne 6, 3) := by decide +kernel
theorem dX1_night_165 : decode cX1_night 165 = .ok (.goto 119, 3) := by decide +kernel
theorem dX1_night_168 : decode cX1_night 168 = .ok (.iload 5, 2) := by decide +kernel
theorem dX1_night_170 : decode cX1_night 170 = .ok (.invokestatic 208, 3) := by decide +kernel
theorem dX1_night_173 : decode cX1_night 173 = .ok (.iload 7, 2) := by decide +kernel
theorem dX1_night_175 : decode cX1_night 175 = .ok (.if_icmp .ne 7, 3) := by decide +kernel
theorem dX1_night_178 : decode cX1_night 178 = .ok (.iconst 1, 1) := by decide +kernel
theorem dX1_night_179 : decode cX1_night 179 = .ok (.goto 4, 3) := by decide +kernel
theorem dX1_night_182 : decode cX1_night 182 = .ok (.iconst 0, 1) := by decide +kernel
theorem dX1_night_183 : decode cX1_night 183 = .ok (.istore 8, 2) := by decide +kernel
theorem dX1_night_185 : decode cX1_night 185 = .ok (.iload 6, 2) := by decide +kernel
theorem dX1_night_187 : decode cX1_night 187 = .ok (.iconst 1, 1) := by decide +kernel
theorem dX1_night_188 : decode cX1_night 188 = .ok (.if_icmp .ne 16, 3) := by decide +kernel
theorem dX1_night_191 : decode cX1_night 191 = .ok (.aload_n 2, 1) := by decide +kernel
theorem dX1_night_192 : decode cX1_night 192 = .ok (.getfield 187, 3) := by decide +kernel
theorem dX1_night_195 : decode cX1_night 195 = .ok (.iload 4, 2) := by decide +kernel
theorem dX1_night_197 : decode cX1_night 197 = .ok (.aaload, 1) := by decide +kernel
theorem dX1_night_198 : decode cX1_night 198 = .ok (.getfield 235, 3) := by decide +kernel
theorem dX1_night_201 : decode cX1_night 201 = .ok (.goto 37, 3) := by decide +kernel
theorem dX1_night_204 : decode cX1_night 204 = .ok (.iload 8, 2) := by decide +kernel
theorem dX1_night_206 : decode cX1_night 206 = .ok (.ifCond .eq 20, 3) := by decide +kernel
theorem dX1_night_209 : decode cX1_night 209 = .ok (.aload_n 2, 1) := by decide +kernel
theorem dX1_night_210 : decode cX1_night 210 = .ok (.getfield 187, 3) := by decide +kernel
theorem dX1_night_213 : decode cX1_night 213 = .ok (.iload 4, 2) := by decide +kernel
theorem dX1_night_215 : decode cX1_night 215 = .ok (.aaload, 1) := by decide +kernel
theorem dX1_night_216 : decode cX1_night 216 = .ok (.getfield 235, 3) := by decide +kernel
theorem dX1_night_219 : decode cX1_night 219 = .ok (.iconst 1, 1) := by decide +kernel
theorem dX1_night_220 : decode cX1_night 220 = .ok (.iadd, 1) := by decide +kernel
theorem dX1_night_221 : decode cX1_night 221 = .ok (.iconst 2, 1) := by decide +kernel
theorem dX1_night_222 : decode cX1_night 222 = .ok (.idiv, 1) := by decide +kernel
theorem dX1_night_223 : decode cX1_night 223 = .ok (.goto 15, 3) := by decide +kernel
theorem dX1_night_226 : decode cX1_night 226 = .ok (.aload_n 2, 1) := by decide +kernel
theorem dX1_night_227 : decode cX1_night 227 = .ok (.getfield 187, 3) := by decide +kernel
theorem dX1_night_230 : decode cX1_night 230 = .ok (.iload 4, 2) := by decide +kernel
theorem dX1_night_232 : decode cX1_night 232 = .ok (.aaload, 1) := by decide +kernel
theorem dX1_night_233 : decode cX1_night 233 = .ok (.getfield 235, 3) := by decide +kernel
theorem dX1_night_236 : decode cX1_night 236 = .ok (.iconst 2, 1) := by decide +kernel
theorem dX1_night_237 : decode cX1_night 237 = .ok (.idiv, 1) := by decide +kernel
theorem dX1_night_238 : decode cX1_night 238 = .ok (.istore 9, 2) := by decide +kernel
theorem dX1_night_240 : decode cX1_night 240 = .ok (.aload_n 0, 1) := by decide +kernel
theorem dX1_night_241 : decode cX1_night 241 = .ok (.getfield 11, 3) := by decide +kernel
theorem dX1_night_244 : decode cX1_night 244 = .ok (.iload 7, 2) := by decide +kernel
theorem dX1_night_246 : decode cX1_night 246 = .ok (.aaload, 1) := by decide +kernel
theorem dX1_night_247 : decode cX1_night 247 = .ok (.dup, 1) := by decide +kernel
theorem dX1_night_248 : decode cX1_night 248 = .ok (.getfield 410, 3) := by decide +kernel
theorem dX1_night_251 : decode cX1_night 251 = .ok (.iload 9, 2) := by decide +kernel
theorem dX1_night_253 : decode cX1_night 253 = .ok (.aload_n 0, 1) := by decide +kernel
theorem dX1_night_254 : decode cX1_night 254 = .ok (.getfield 54, 3) := by decide +kernel
theorem dX1_night_257 : decode cX1_night 257 = .ok (.aload_n 0, 1) := by decide +kernel
theorem dX1_night_258 : decode cX1_night 258 = .ok (.getfield 115, 3) := by decide +kernel
theorem dX1_night_261 : decode cX1_night 261 = .ok (.aaload, 1) := by decide +kernel
theorem dX1_night_262 : decode cX1_night 262 = .ok (.iload 7, 2) := by decide +kernel
theorem dX1_night_264 : decode cX1_night 264 = .ok (.baload, 1) := by decide +kernel
theorem dX1_night_265 : decode cX1_night 265 = .ok (.ifCond .eq 13, 3) := by decide +kernel
theorem dX1_night_268 : decode cX1_night 268 = .ok (.iload 9, 2) := by decide +kernel
theorem dX1_night_270 : decode cX1_night 270 = .ok (.iload_n 3, 1) := by decide +kernel
theorem dX1_night_271 : decode cX1_night 271 = .ok (.imul, 1) := by decide +kernel
theorem dX1_night_272 : decode cX1_night 272 = .ok (.bipush 100, 2) := by decide +kernel
theorem dX1_night_274 : decode cX1_night 274 = .ok (.idiv, 1) := by decide +kernel
theorem dX1_night_275 : decode cX1_night 275 = .ok (.goto 4, 3) := by decide +kernel
theorem dX1_night_278 : decode cX1_night 278 = .ok (.iconst 0, 1) := by decide +kernel
theorem dX1_night_279 : decode cX1_night 279 = .ok (.isub, 1) := by decide +kernel
theorem dX1_night_280 : decode cX1_night 280 = .ok (.iadd, 1) := by decide +kernel
theorem dX1_night_281 : decode cX1_night 281 = .ok (.putfield 410, 3) := by decide +kernel
theorem dX1_night_284 : decode cX1_night 284 = .ok (.iinc 7 1, 3) := by decide +kernel
theorem dX1_night_287 : decode cX1_night 287 = .ok (.goto (-141), 3) := by decide +kernel
theorem dX1_night_290 : decode cX1_night 290 = .ok (.iinc 4 1, 3) := by decide +kernel
theorem dX1_night_293 : decode cX1_night 293 = .ok (.goto (-174), 3) := by decide +kernel
theorem dX1_night_296 : decode cX1_night 296 = .ok (.aload_n 0, 1) := by decide +kernel
theorem dX1_night_297 : decode cX1_night 297 = .ok (.dup, 1) := by decide +kernel
theorem dX1_night_298 : decode cX1_night 298 = .ok (.getfield 115, 3) := by decide +kernel
theorem dX1_night_301 : decode cX1_night 301 = .ok (.iconst 1, 1) := by decide +kernel
theorem dX1_night_302 : decode cX1_night 302 = .ok (.iadd, 1) := by decide +kernel
theorem dX1_night_303 : decode cX1_night 303 = .ok (.putfield 115, 3) := by decide +kernel
theorem dX1_night_306 : decode cX1_night 306 = .ok (.aload_n 0, 1) := by decide +kernel
theorem dX1_night_307 : decode cX1_night 307 = .ok (.getfield 115, 3) := by decide +kernel
theorem dX1_night_310 : decode cX1_night 310 = .ok (.iconst 1, 1) := by decide +kernel
theorem dX1_night_311 : decode cX1_night 311 = .ok (.isub, 1) := by decide +kernel
theorem dX1_night_312 : decode cX1_night 312 = .ok (.ireturn, 1) := by decide +kernel
abbrev cX1_townOfNight : ByteArray := prog_1_method_56_code
def yX1_townOfNight : MethodName := ⟨RX1, "townOfNight", "(I)I"⟩
theorem dX1_townOfNight_0 : decode cX1_townOfNight 0 = .ok (.iconst 0, 1) := by decide +kernel
theorem dX1_townOfNight_1 : decode cX1_townOfNight 1 = .ok (.istore_n 2, 1) := by decide +kernel
theorem dX1_townOfNight_2 : decode cX1_townOfNight 2 = .ok (.iload_n 1, 1) := by decide +kernel
theorem dX1_townOfNight_3 : decode cX1_townOfNight 3 = .ok (.aload_n 0, 1) := by decide +kernel
theorem dX1_townOfNight_4 : decode cX1_townOfNight 4 = .ok (.getfield 17, 3) := by decide +kernel
theorem dX1_townOfNight_7 : decode cX1_townOfNight 7 = .ok (.iload_n 2, 1) := by decide +kernel
theorem dX1_townOfNight_8 : decode cX1_townOfNight 8 = .ok (.aaload, 1) := by decide +kernel
theorem dX1_townOfNight_9 : decode cX1_townOfNight 9 = .ok (.getfield 118, 3) := by decide +kernel
theorem dX1_townOfNight_12 : decode cX1_townOfNight 12 = .ok (.aload_n 0, 1) := by decide +kernel
theorem dX1_townOfNight_13 : decode cX1_townOfNight 13 = .ok (.getfield 17, 3) := by decide +kernel
theorem dX1_townOfNight_16 : decode cX1_townOfNight 16 = .ok (.iload_n 2, 1) := by decide +kernel
theorem dX1_townOfNight_17 : decode cX1_townOfNight 17 = .ok (.aaload, 1) := by decide +kernel
theorem dX1_townOfNight_18 : decode cX1_townOfNight 18 = .ok (.getfield 121, 3) := by decide +kernel
theorem dX1_townOfNight_21 : decode cX1_townOfNight 21 = .ok (.iadd, 1) := by decide +kernel
theorem dX1_townOfNight_22 : decode cX1_townOfNight 22 = .ok (.if_icmp .lt 9, 3) := by decide +kernel
theorem dX1_townOfNight_25 : decode cX1_townOfNight 25 = .ok (.iinc 2 1, 3) := by decide +kernel
theorem dX1_townOfNight_28 : decode cX1_townOfNight 28 = .ok (.goto (-26), 3) := by decide +kernel
theorem dX1_townOfNight_31 : decode cX1_townOfNight 31 = .ok (.iload_n 2, 1) := by decide +kernel
theorem dX1_townOfNight_32 : decode cX1_townOfNight 32 = .ok (.ireturn, 1) := by decide +kernel
abbrev cX1_billOf : ByteArray := prog_1_method_57_code
def yX1_billOf : MethodName := ⟨RX1, "billOf", "(LTourRooms$Town;I)I"⟩
theorem dX1_billOf_0 : decode cX1_billOf 0 = .ok (.iconst 0, 1) := by decide +kernel
theorem dX1_billOf_1 : decode cX1_billOf 1 = .ok (.istore_n 3, 1) := by decide +kernel
theorem dX1_billOf_2 : decode cX1_billOf 2 = .ok (.iconst 0, 1) := by decide +kernel
theorem dX1_billOf_3 : decode cX1_billOf 3 = .ok (.istore 4, 2) := by decide +kernel
theorem dX1_billOf_5 : decode cX1_billOf 5 = .ok (.iconst 0, 1) := by decide +kernel
theorem dX1_billOf_6 : decode cX1_billOf 6 = .ok (.istore 5, 2) := by decide +kernel
theorem dX1_billOf_8 : decode cX1_billOf 8 = .ok (.iload 5, 2) := by decide +kernel
theorem dX1_billOf_10 : decode cX1_billOf 10 = .ok (.aload_n 1, 1) := by decide +kernel
theorem dX1_billOf_11 : decode cX1_billOf 11 = .ok (.getfield 128, 3) := by decide +kernel
theorem dX1_billOf_14 : decode cX1_billOf 14 = .ok (.if_icmp .ge 123, 3) := by decide +kernel
theorem dX1_billOf_17 : decode cX1_billOf 17 = .ok (.iconst (-1), 1) := by decide +kernel
theorem dX1_billOf_18 : decode cX1_billOf 18 = .ok (.istore 6, 2) := by decide +kernel
theorem dX1_billOf_20 : decode cX1_billOf 20 = .ok (.iconst 0, 1) := by decide +kernel
theorem dX1_billOf_21 : decode cX1_billOf 21 = .ok (.istore 7, 2) := by decide +kernel
theorem dX1_billOf_23 : decode cX1_billOf 23 = .ok (.iload 7, 2) := by decide +kernel
theorem dX1_billOf_25 : decode cX1_billOf 25 = .ok (.aload_n 1, 1) := by decide +kernel
theorem dX1_billOf_26 : decode cX1_billOf 26 = .ok (.getfield 128, 3) := by decide +kernel
theorem dX1_billOf_29 : decode cX1_billOf 29 = .ok (.if_icmp .ge 61, 3) := by decide +kernel
theorem dX1_billOf_32 : decode cX1_billOf 32 = .ok (.aload_n 1, 1) := by decide +kernel
theorem dX1_billOf_33 : decode cX1_billOf 33 = .ok (.iload 7, 2) := by decide +kernel
theorem dX1_billOf_35 : decode cX1_billOf 35 = .ok (.invokevirtual 226, 3) := by decide +kernel
theorem dX1_billOf_38 : decode cX1_billOf 38 = .ok (.ifCond .eq 46, 3) := by decide +kernel
theorem dX1_billOf_41 : decode cX1_billOf 41 = .ok (.iload 4, 2) := by decide +kernel
theorem dX1_billOf_43 : decode cX1_billOf 43 = .ok (.iload 7, 2) := by decide +kernel
theorem dX1_billOf_45 : decode cX1_billOf 45 = .ok (.ishr, 1) := by decide +kernel
theorem dX1_billOf_46 : decode cX1_billOf 46 = .ok (.iconst 1, 1) := by decide +kernel
theorem dX1_billOf_47 : decode cX1_billOf 47 = .ok (.iand, 1) := by decide +kernel
theorem dX1_billOf_48 : decode cX1_billOf 48 = .ok (.ifCond .ne 36, 3) := by decide +kernel
theorem dX1_billOf_51 : decode cX1_billOf 51 = .ok (.iload 6, 2) := by decide +kernel
theorem dX1_billOf_53 : decode cX1_billOf 53 = .ok (.iconst (-1), 1) := by decide +kernel
theorem dX1_billOf_54 : decode cX1_billOf 54 = .ok (.if_icmp .eq 26, 3) := by decide +kernel
theorem dX1_billOf_57 : decode cX1_billOf 57 = .ok (.aload_n 1, 1) := by decide +kernel
theorem dX1_billOf_58 : decode cX1_billOf 58 = .ok (.getfield 187, 3) := by decide +kernel
theorem dX1_billOf_61 : decode cX1_billOf 61 = .ok (.iload 7, 2) := by decide +kernel
theorem dX1_billOf_63 : decode cX1_billOf 63 = .ok (.aaload, 1) := by decide +kernel
theorem dX1_billOf_64 : decode cX1_billOf 64 = .ok (.getfield 235, 3) := by decide +kernel
theorem dX1_billOf_67 : decode cX1_billOf 67 = .ok (.aload_n 1, 1) := by decide +kernel
theorem dX1_billOf_68 : decode cX1_billOf 68 = .ok (.getfield 187, 3) := by decide +kernel
theorem dX1_billOf_71 : decode cX1_billOf 71 = .ok (.iload 6, 2) := by decide +kernel
theorem dX1_billOf_73 : decode cX1_billOf 73 = .ok (.aaload, 1) := by decide +kernel
theorem dX1_billOf_74 : decode cX1_billOf 74 = .ok (.getfield 235, 3) := by decide +kernel
theorem dX1_billOf_77 : decode cX1_billOf 77 = .ok (.if_icmp .le 7, 3) := by decide +kernel
theorem dX1_billOf_80 : decode cX1_billOf 80 = .ok (.iload 7, 2) := by decide +kernel
theorem dX1_billOf_82 : decode cX1_billOf 82 = .ok (.istore 6, 2) := by decide +kernel
theorem dX1_billOf_84 : decode cX1_billOf 84 = .ok (.iinc 7 1, 3) := by decide +kernel
theorem dX1_billOf_87 : decode cX1_billOf 87 = .ok (.goto (-64), 3) := by decide +kernel
theorem dX1_billOf_90 : decode cX1_billOf 90 = .ok (.iload 6, 2) := by decide +kernel
theorem dX1_billOf_92 : decode cX1_billOf 92 = .ok (.iconst (-1), 1) := by decide +kernel
theorem dX1_billOf_93 : decode cX1_billOf 93 = .ok (.if_icmp .eq 14, 3) := by decide +kernel
theorem dX1_billOf_96 : decode cX1_billOf 96 = .ok (.iload 5, 2) := by decide +kernel
theorem dX1_billOf_98 : decode cX1_billOf 98 = .ok (.aload_n 1, 1) := by decide +kernel
theorem dX1_billOf_99 : decode cX1_billOf 99 = .ok (.invokevirtual 339, 3) := by decide +kernel
theorem dX1_billOf_102 : decode cX1_billOf 102 = .ok (.iload_n 2, 1) := by decide +kernel
theorem dX1_billOf_103 : decode cX1_billOf 103 = .ok (.isub, 1) := by decide +kernel
theorem dX1_billOf_104 : decode cX1_billOf 104 = .ok (.if_icmp .lt 5, 3) := by decide +kernel
theorem dX1_billOf_107 : decode cX1_billOf 107 = .ok (.iload_n 3, 1) := by decide +kernel
theorem dX1_billOf_108 : decode cX1_billOf 108 = .ok (.ireturn, 1) := by decide +kernel
theorem dX1_billOf_109 : decode cX1_billOf 109 = .ok (.iload 4, 2) := by decide +kernel
theorem dX1_billOf_111 : decode cX1_billOf 111 = .ok (.iconst 1, 1) := by decide +kernel
theorem dX1_billOf_112 : decode cX1_billOf 112 = .ok (.iload 6, 2) := by decide +kernel
theorem dX1_billOf_114 : decode cX1_billOf 114 = .ok (.ishl, 1) := by decide +kernel
theorem dX1_billOf_115 : decode cX1_billOf 115 = .ok (.ior, 1) := by decide +kernel
theorem dX1_billOf_116 : decode cX1_billOf 116 = .ok (.istore 4, 2) := by decide +kernel
theorem dX1_billOf_118 : decode cX1_billOf 118 = .ok (.iload_n 3, 1) := by decide +kernel
theorem dX1_billOf_119 : decode cX1_billOf 119 = .ok (.aload_n 1, 1) := by decide +kernel
theorem dX1_billOf_120 : decode cX1_billOf 120 = .ok (.getfield 187, 3) := by decide +kernel
theorem dX1_billOf_123 : decode cX1_billOf 123 = .ok (.iload 6, 2) := by decide +kernel
theorem dX1_billOf_125 : decode cX1_billOf 125 = .ok (.aaload, 1) := by decide +kernel
theorem dX1_billOf_126 : decode cX1_billOf 126 = .ok (.getfield 235, 3) := by decide +kernel
theorem dX1_billOf_129 : decode cX1_billOf 129 = .ok (.iadd, 1) := by decide +kernel
theorem dX1_billOf_130 : decode cX1_billOf 130 = .ok (.istore_n 3, 1) := by decide +kernel
theorem dX1_billOf_131 : decode cX1_billOf 131 = .ok (.iinc 5 1, 3) := by decide +kernel
theorem dX1_billOf_134 : decode cX1_billOf 134 = .ok (.goto (-126), 3) := by decide +kernel
theorem dX1_billOf_137 : decode cX1_billOf 137 = .ok (.iload_n 3, 1) := by decide +kernel
theorem dX1_billOf_138 : decode cX1_billOf 138 = .ok (.ireturn, 1) := by decide +kernel
abbrev cX1_lay : ByteArray := prog_1_method_59_code
def yX1_lay : MethodName := ⟨RX1, "lay", "(II)I"⟩
theorem dX1_lay_0 : decode cX1_lay 0 = .ok (.iload_n 1, 1) := by decide +kernel
theorem dX1_lay_1 : decode cX1_lay 1 = .ok (.iconst 0, 1) := by decide +kernel
theorem dX1_lay_2 : decode cX1_lay 2 = .ok (.aload_n 0, 1) := by decide +kernel
theorem dX1_lay_3 : decode cX1_lay 3 = .ok (.getfield 115, 3) := by decide +kernel
theorem dX1_lay_6 : decode cX1_lay 6 = .ok (.iconst 1, 1) := by decide +kernel
theorem dX1_lay_7 : decode cX1_lay 7 = .ok (.isub, 1) := by decide +kernel
theorem dX1_lay_8 : decode cX1_lay 8 = .ok (.invokestatic 108, 3) := by decide +kernel
theorem dX1_lay_11 : decode cX1_lay 11 = .ok (.ifCond .eq 22, 3) := by decide +kernel
theorem dX1_lay_14 : decode cX1_lay 14 = .ok (.aload_n 0, 1) := by decide +kernel
theorem dX1_lay_15 : decode cX1_lay 15 = .ok (.iload_n 2, 1) := by decide +kernel
theorem dX1_lay_16 : decode cX1_lay 16 = .ok (.invokevirtual 134, 3) := by decide +kernel
theorem dX1_lay_19 : decode cX1_lay 19 = .ok (.ifCond .eq 14, 3) := by decide +kernel
theorem dX1_lay_22 : decode cX1_lay 22 = .ok (.aload_n 0, 1) := by decide +kernel
theorem dX1_lay_23 : decode cX1_lay 23 = .ok (.getfield 59, 3) := by decide +kernel
theorem dX1_lay_26 : decode cX1_lay 26 = .ok (.iload_n 1, 1) := by decide +kernel
theorem dX1_lay_27 : decode cX1_lay 27 = .ok (.aaload, 1) := by decide +kernel
theorem dX1_lay_28 : decode cX1_lay 28 = .ok (.iload_n 2, 1) := by decide +kernel
theorem dX1_lay_29 : decode cX1_lay 29 = .ok (.iaload, 1) := by decide +kernel
theorem dX1_lay_30 : decode cX1_lay 30 = .ok (.goto 4, 3) := by decide +kernel
theorem dX1_lay_33 : decode cX1_lay 33 = .ok (.iconst (-1), 1) := by decide +kernel
theorem dX1_lay_34 : decode cX1_lay 34 = .ok (.ireturn, 1) := by decide +kernel
abbrev cX1_meals : ByteArray := prog_1_method_62_code
def yX1_meals : MethodName := ⟨RX1, "meals", "(II)I"⟩
theorem dX1_meals_0 : decode cX1_meals 0 = .ok (.aload_n 0, 1) := by decide +kernel
theorem dX1_meals_1 : decode cX1_meals 1 = .ok (.iload_n 1, 1) := by decide +kernel
theorem dX1_meals_2 : decode cX1_meals 2 = .ok (.invokevirtual 124, 3) := by decide +kernel
theorem dX1_meals_5 : decode cX1_meals 5 = .ok (.ifCond .eq 12, 3) := by decide +kernel
theorem dX1_meals_8 : decode cX1_meals 8 = .ok (.iload_n 2, 1) := by decide +kernel
theorem dX1_meals_9 : decode cX1_meals 9 = .ok (.iconst 0, 1) := by decide +kernel
theorem dX1_meals_10 : decode cX1_meals 10 = .ok (.iconst 3, 1) := by decide +kernel
theorem dX1_meals_11 : decode cX1_meals 11 = .ok (.invokestatic 108, 3) := by decide +kernel
theorem dX1_meals_14 : decode cX1_meals 14 = .ok (.ifCond .ne 5, 3) := by decide +kernel
theorem dX1_meals_17 : decode cX1_meals 17 = .ok (.iconst (-1), 1) := by decide +kernel
theorem dX1_meals_18 : decode cX1_meals 18 = .ok (.ireturn, 1) := by decide +kernel
theorem dX1_meals_19 : decode cX1_meals 19 = .ok (.iconst 0, 1) := by decide +kernel
theorem dX1_meals_20 : decode cX1_meals 20 = .ok (.istore_n 3, 1) := by decide +kernel
theorem dX1_meals_21 : decode cX1_meals 21 = .ok (.iconst 0, 1) := by decide +kernel
theorem dX1_meals_22 : decode cX1_meals 22 = .ok (.istore 4, 2) := by decide +kernel
theorem dX1_meals_24 : decode cX1_meals 24 = .ok (.iload 4, 2) := by decide +kernel
theorem dX1_meals_26 : decode cX1_meals 26 = .ok (.aload_n 0, 1) := by decide +kernel
theorem dX1_meals_27 : decode cX1_meals 27 = .ok (.getfield 105, 3) := by decide +kernel
theorem dX1_meals_30 : decode cX1_meals 30 = .ok (.if_icmp .ge 47, 3) := by decide +kernel
theorem dX1_meals_33 : decode cX1_meals 33 = .ok (.iload_n 3, 1) := by decide +kernel
theorem dX1_meals_34 : decode cX1_meals 34 = .ok (.aload_n 0, 1) := by decide +kernel
theorem dX1_meals_35 : decode cX1_meals 35 = .ok (.getfield 17, 3) := by decide +kernel
theorem dX1_meals_38 : decode cX1_meals 38 = .ok (.iload_n 1, 1) := by decide +kernel
theorem dX1_meals_39 : decode cX1_meals 39 = .ok (.aaload, 1) := by decide +kernel
theorem dX1_meals_40 : decode cX1_meals 40 = .ok (.getfield 148, 3) := by decide +kernel
theorem dX1_meals_43 : decode cX1_meals 43 = .ok (.iload 4, 2) := by decide +kernel
theorem dX1_meals_45 : decode cX1_meals 45 = .ok (.iaload, 1) := by decide +kernel
theorem dX1_meals_46 : decode cX1_meals 46 = .ok (.iconst (-1), 1) := by decide +kernel
theorem dX1_meals_47 : decode cX1_meals 47 = .ok (.if_icmp .eq 21, 3) := by decide +kernel
theorem dX1_meals_50 : decode cX1_meals 50 = .ok (.aload_n 0, 1) := by decide +kernel
theorem dX1_meals_51 : decode cX1_meals 51 = .ok (.getfield 11, 3) := by decide +kernel
theorem dX1_meals_54 : decode cX1_meals 54 = .ok (.iload 4, 2) := by decide +kernel
theorem dX1_meals_56 : decode cX1_meals 56 = .ok (.aaload, 1) := by decide +kernel
theorem dX1_meals_57 : decode cX1_meals 57 = .ok (.getfield 416, 3) := by decide +kernel
theorem dX1_meals_60 : decode cX1_meals 60 = .ok (.iload_n 2, 1) := by decide +kernel
theorem dX1_meals_61 : decode cX1_meals 61 = .ok (.if_icmp .ne 7, 3) := by decide +kernel
theorem dX1_meals_64 : decode cX1_meals 64 = .ok (.iconst 1, 1) := by decide +kernel
theorem dX1_meals_65 : decode cX1_meals 65 = .ok (.goto 4, 3) := by decide +kernel
theorem dX1_meals_68 : decode cX1_meals 68 = .ok (.iconst 0, 1) := by decide +kernel
theorem dX1_meals_69 : decode cX1_meals 69 = .ok (.iadd, 1) := by decide +kernel
theorem dX1_meals_70 : decode cX1_meals 70 = .ok (.istore_n 3, 1) := by decide +kernel
theorem dX1_meals_71 : decode cX1_meals 71 = .ok (.iinc 4 1, 3) := by decide +kernel
theorem dX1_meals_74 : decode cX1_meals 74 = .ok (.goto (-50), 3) := by decide +kernel
theorem dX1_meals_77 : decode cX1_meals 77 = .ok (.iload_n 3, 1) := by decide +kernel
theorem dX1_meals_78 : decode cX1_meals 78 = .ok (.ireturn, 1) := by decide +kernel
abbrev cX1_townOf : ByteArray := prog_1_method_63_code
def yX1_townOf : MethodName := ⟨RX1, "townOf", "(II)I"⟩
theorem dX1_townOf_0 : decode cX1_townOf 0 = .ok (.aload_n 0, 1) := by decide +kernel
theorem dX1_townOf_1 : decode cX1_townOf 1 = .ok (.iload_n 1, 1) := by decide +kernel
theorem dX1_townOf_2 : decode cX1_townOf 2 = .ok (.invokevirtual 124, 3) := by decide +kernel
theorem dX1_townOf_5 : decode cX1_townOf 5 = .ok (.ifCond .ne 5, 3) := by decide +kernel
theorem dX1_townOf_8 : decode cX1_townOf 8 = .ok (.iconst (-1), 1) := by decide +kernel
theorem dX1_townOf_9 : decode cX1_townOf 9 = .ok (.ireturn, 1) := by decide +kernel
theorem dX1_townOf_10 : decode cX1_townOf 10 = .ok (.aload_n 0, 1) := by decide +kernel
theorem dX1_townOf_11 : decode cX1_townOf 11 = .ok (.getfield 17, 3) := by decide +kernel
theorem dX1_townOf_14 : decode cX1_townOf 14 = .ok (.iload_n 1, 1) := by decide +kernel
theorem dX1_townOf_15 : decode cX1_townOf 15 = .ok (.aaload, 1) := by decide +kernel
theorem dX1_townOf_16 : decode cX1_townOf 16 = .ok (.astore_n 3, 1) := by decide +kernel
theorem dX1_townOf_17 : decode cX1_townOf 17 = .ok (.iload_n 2, 1) := by decide +kernel
theorem dX1_townOf_18 : decode cX1_townOf 18 = .ok (.tableswitch 107 0 8 #[50, 55, 60, 65, 70, 75, 80, 85, 99], 50) := by decide +kernel
theorem dX1_townOf_68 : decode cX1_townOf 68 = .ok (.aload_n 3, 1) := by decide +kernel
theorem dX1_townOf_69 : decode cX1_townOf 69 = .ok (.getfield 121, 3) := by decide +kernel
theorem dX1_townOf_72 : decode cX1_townOf 72 = .ok (.ireturn, 1) := by decide +kernel
theorem dX1_townOf_73 : decode cX1_townOf 73 = .ok (.aload_n 3, 1) := by decide +kernel
theorem dX1_townOf_74 : decode cX1_townOf 74 = .ok (.getfield 118, 3) := by decide +kernel
theorem dX1_townOf_77 : decode cX1_townOf 77 = .ok (.ireturn, 1) := by decide +kernel
theorem dX1_townOf_78 : decode cX1_townOf 78 = .ok (.aload_n 3, 1) := by decide +kernel
theorem dX1_townOf_79 : decode cX1_townOf 79 = .ok (.getfield 128, 3) := by decide +kernel
theorem dX1_townOf_82 : decode cX1_townOf 82 = .ok (.ireturn, 1) := by decide +kernel
theorem dX1_townOf_83 : decode cX1_townOf 83 = .ok (.aload_n 3, 1) := by decide +kernel
theorem dX1_townOf_84 : decode cX1_townOf 84 = .ok (.invokevirtual 335, 3) := by decide +kernel
theorem dX1_townOf_87 : decode cX1_townOf 87 = .ok (.ireturn, 1) := by decide +kernel
theorem dX1_townOf_88 : decode cX1_townOf 88 = .ok (.aload_n 3, 1) := by decide +kernel
theorem dX1_townOf_89 : decode cX1_townOf 89 = .ok (.invokevirtual 339, 3) := by decide +kernel
theorem dX1_townOf_92 : decode cX1_townOf 92 = .ok (.ireturn, 1) := by decide +kernel
theorem dX1_townOf_93 : decode cX1_townOf 93 = .ok (.aload_n 3, 1) := by decide +kernel
theorem dX1_townOf_94 : decode cX1_townOf 94 = .ok (.invokevirtual 344, 3) := by decide +kernel
theorem dX1_townOf_97 : decode cX1_townOf 97 = .ok (.ireturn, 1) := by decide +kernel
theorem dX1_townOf_98 : decode cX1_townOf 98 = .ok (.aload_n 3, 1) := by decide +kernel
theorem dX1_townOf_99 : decode cX1_townOf 99 = .ok (.invokevirtual 265, 3) := by decide +kernel
theorem dX1_townOf_102 : decode cX1_townOf 102 = .ok (.ireturn, 1) := by decide +kernel
theorem dX1_townOf_103 : decode cX1_townOf 103 = .ok (.aload_n 0, 1) := by decide +kernel
theorem dX1_townOf_104 : decode cX1_townOf 104 = .ok (.iload_n 1, 1) := by decide +kernel
theorem dX1_townOf_105 : decode cX1_townOf 105 = .ok (.invokevirtual 157, 3) := by decide +kernel
theorem dX1_townOf_108 : decode cX1_townOf 108 = .ok (.ifCond .eq 7, 3) := by decide +kernel
theorem dX1_townOf_111 : decode cX1_townOf 111 = .ok (.iconst 1, 1) := by decide +kernel
theorem dX1_townOf_112 : decode cX1_townOf 112 = .ok (.goto 4, 3) := by decide +kernel
theorem dX1_townOf_115 : decode cX1_townOf 115 = .ok (.iconst 0, 1) := by decide +kernel
theorem dX1_townOf_116 : decode cX1_townOf 116 = .ok (.ireturn, 1) := by decide +kernel
theorem dX1_townOf_117 : decode cX1_townOf 117 = .ok (.aload_n 3, 1) := by decide +kernel
theorem dX1_townOf_118 : decode cX1_townOf 118 = .ok (.getfield 291, 3) := by decide +kernel
theorem dX1_townOf_121 : decode cX1_townOf 121 = .ok (.invokevirtual 300, 3) := by decide +kernel
theorem dX1_townOf_124 : decode cX1_townOf 124 = .ok (.ireturn, 1) := by decide +kernel
theorem dX1_townOf_125 : decode cX1_townOf 125 = .ok (.iconst (-1), 1) := by decide +kernel
theorem dX1_townOf_126 : decode cX1_townOf 126 = .ok (.ireturn, 1) := by decide +kernel
abbrev cX1_roomOf : ByteArray := prog_1_method_64_code
def yX1_roomOf : MethodName := ⟨RX1, "roomOf", "(III)I"⟩
theorem dX1_roomOf_0 : decode cX1_roomOf 0 = .ok (.aload_n 0, 1) := by decide +kernel
theorem dX1_roomOf_1 : decode cX1_roomOf 1 = .ok (.iload_n 1, 1) := by decide +kernel
theorem dX1_roomOf_2 : decode cX1_roomOf 2 = .ok (.iload_n 2, 1) := by decide +kernel
theorem dX1_roomOf_3 : decode cX1_roomOf 3 = .ok (.invokevirtual 222, 3) := by decide +kernel
theorem dX1_roomOf_6 : decode cX1_roomOf 6 = .ok (.ifCond .ne 5, 3) := by decide +kernel
theorem dX1_roomOf_9 : decode cX1_roomOf 9 = .ok (.iconst (-1), 1) := by decide +kernel
theorem dX1_roomOf_10 : decode cX1_roomOf 10 = .ok (.ireturn, 1) := by decide +kernel
theorem dX1_roomOf_11 : decode cX1_roomOf 11 = .ok (.aload_n 0, 1) := by decide +kernel
theorem dX1_roomOf_12 : decode cX1_roomOf 12 = .ok (.getfield 17, 3) := by decide +kernel
theorem dX1_roomOf_15 : decode cX1_roomOf 15 = .ok (.iload_n 1, 1) := by decide +kernel
theorem dX1_roomOf_16 : decode cX1_roomOf 16 = .ok (.aaload, 1) := by decide +kernel
theorem dX1_roomOf_17 : decode cX1_roomOf 17 = .ok (.getfield 187, 3) := by decide +kernel
theorem dX1_roomOf_20 : decode cX1_roomOf 20 = .ok (.iload_n 2, 1) := by decide +kernel
theorem dX1_roomOf_21 : decode cX1_roomOf 21 = .ok (.aaload, 1) := by decide +kernel
theorem dX1_roomOf_22 : decode cX1_roomOf 22 = .ok (.astore 4, 2) := by decide +kernel
theorem dX1_roomOf_24 : decode cX1_roomOf 24 = .ok (.iload_n 3, 1) := by decide +kernel
theorem dX1_roomOf_25 : decode cX1_roomOf 25 = .ok (.tableswitch 86 0 4 #[35, 41, 55, 61, 75], 35) := by decide +kernel
theorem dX1_roomOf_60 : decode cX1_roomOf 60 = .ok (.aload 4, 2) := by decide +kernel
theorem dX1_roomOf_62 : decode cX1_roomOf 62 = .ok (.getfield 205, 3) := by decide +kernel
theorem dX1_roomOf_65 : decode cX1_roomOf 65 = .ok (.ireturn, 1) := by decide +kernel
theorem dX1_roomOf_66 : decode cX1_roomOf 66 = .ok (.aload 4, 2) := by decide +kernel
theorem dX1_roomOf_68 : decode cX1_roomOf 68 = .ok (.getfield 214, 3) := by decide +kernel
theorem dX1_roomOf_71 : decode cX1_roomOf 71 = .ok (.ifCond .eq 7, 3) := by decide +kernel
theorem dX1_roomOf_74 : decode cX1_roomOf 74 = .ok (.iconst 1, 1) := by decide +kernel
theorem dX1_roomOf_75 : decode cX1_roomOf 75 = .ok (.goto 4, 3) := by decide +kernel
theorem dX1_roomOf_78 : decode cX1_roomOf 78 = .ok (.iconst 0, 1) := by decide +kernel
theorem dX1_roomOf_79 : decode cX1_roomOf 79 = .ok (.ireturn, 1) := by decide +kernel
theorem dX1_roomOf_80 : decode cX1_roomOf 80 = .ok (.aload 4, 2) := by decide +kernel
theorem dX1_roomOf_82 : decode cX1_roomOf 82 = .ok (.getfield 235, 3) := by decide +kernel
theorem dX1_roomOf_85 : decode cX1_roomOf 85 = .ok (.ireturn, 1) := by decide +kernel
theorem dX1_roomOf_86 : decode cX1_roomOf 86 = .ok (.aload 4, 2) := by decide +kernel
theorem dX1_roomOf_88 : decode cX1_roomOf 88 = .ok (.getfield 196, 3) := by decide +kernel
theorem dX1_roomOf_91 : decode cX1_roomOf 91 = .ok (.ifCond .eq 7, 3) := by decide +kernel
theorem dX1_roomOf_94 : decode cX1_roomOf 94 = .ok (.iconst 1, 1) := by decide +kernel
theorem dX1_roomOf_95 : decode cX1_roomOf 95 = .ok (.goto 4, 3) := by decide +kernel
theorem dX1_roomOf_98 : decode cX1_roomOf 98 = .ok (.iconst 0, 1) := by decide +kernel
theorem dX1_roomOf_99 : decode cX1_roomOf 99 = .ok (.ireturn, 1) := by decide +kernel
theorem dX1_roomOf_100 : decode cX1_roomOf 100 = .ok (.aload_n 0, 1) := by decide +kernel
theorem dX1_roomOf_101 : decode cX1_roomOf 101 = .ok (.getfield 17, 3) := by decide +kernel
theorem dX1_roomOf_104 : decode cX1_roomOf 104 = .ok (.iload_n 1, 1) := by decide +kernel
theorem dX1_roomOf_105 : decode cX1_roomOf 105 = .ok (.aaload, 1) := by decide +kernel
theorem dX1_roomOf_106 : decode cX1_roomOf 106 = .ok (.iload_n 2, 1) := by decide +kernel
theorem dX1_roomOf_107 : decode cX1_roomOf 107 = .ok (.invokevirtual 226, 3) := by decide +kernel
theorem dX1_roomOf_110 : decode cX1_roomOf 110 = .ok (.ireturn, 1) := by decide +kernel
theorem dX1_roomOf_111 : decode cX1_roomOf 111 = .ok (.iconst (-1), 1) := by decide +kernel
theorem dX1_roomOf_112 : decode cX1_roomOf 112 = .ok (.ireturn, 1) := by decide +kernel
abbrev cX1_personOf : ByteArray := prog_1_method_65_code
def yX1_personOf : MethodName := ⟨RX1, "personOf", "(II)I"⟩
theorem dX1_personOf_0 : decode cX1_personOf 0 = .ok (.aload_n 0, 1) := by decide +kernel
theorem dX1_personOf_1 : decode cX1_personOf 1 = .ok (.iload_n 1, 1) := by decide +kernel
theorem dX1_personOf_2 : decode cX1_personOf 2 = .ok (.invokevirtual 134, 3) := by decide +kernel
theorem dX1_personOf_5 : decode cX1_personOf 5 = .ok (.ifCond .ne 5, 3) := by decide +kernel
theorem dX1_personOf_8 : decode cX1_personOf 8 = .ok (.iconst (-1), 1) := by decide +kernel
theorem dX1_personOf_9 : decode cX1_personOf 9 = .ok (.ireturn, 1) := by decide +kernel
theorem dX1_personOf_10 : decode cX1_personOf 10 = .ok (.aload_n 0, 1) := by decide +kernel
theorem dX1_personOf_11 : decode cX1_personOf 11 = .ok (.getfield 11, 3) := by decide +kernel
theorem dX1_personOf_14 : decode cX1_personOf 14 = .ok (.iload_n 1, 1) := by decide +kernel
theorem dX1_personOf_15 : decode cX1_personOf 15 = .ok (.aaload, 1) := by decide +kernel
theorem dX1_personOf_16 : decode cX1_personOf 16 = .ok (.astore_n 3, 1) := by decide +kernel
theorem dX1_personOf_17 : decode cX1_personOf 17 = .ok (.iload_n 2, 1) := by decide +kernel
theorem dX1_personOf_18 : decode cX1_personOf 18 = .ok (.tableswitch 195 0 8 #[50, 63, 68, 81, 86, 91, 96, 109, 128], 50) := by decide +kernel
theorem dX1_personOf_68 : decode cX1_personOf 68 = .ok (.aload_n 3, 1) := by decide +kernel
theorem dX1_personOf_69 : decode cX1_personOf 69 = .ok (.getfield 419, 3) := by decide +kernel
theorem dX1_personOf_72 : decode cX1_personOf 72 = .ok (.ifCond .eq 7, 3) := by decide +kernel
theorem dX1_personOf_75 : decode cX1_personOf 75 = .ok (.iconst 1, 1) := by decide +kernel
theorem dX1_personOf_76 : decode cX1_personOf 76 = .ok (.goto 4, 3) := by decide +kernel
theorem dX1_personOf_79 : decode cX1_personOf 79 = .ok (.iconst 0, 1) := by decide +kernel
theorem dX1_personOf_80 : decode cX1_personOf 80 = .ok (.ireturn, 1) := by decide +kernel
theorem dX1_personOf_81 : decode cX1_personOf 81 = .ok (.aload_n 3, 1) := by decide +kernel
theorem dX1_personOf_82 : decode cX1_personOf 82 = .ok (.getfield 422, 3) := by decide +kernel
theorem dX1_personOf_85 : decode cX1_personOf 85 = .ok (.ireturn, 1) := by decide +kernel
theorem dX1_personOf_86 : decode cX1_personOf 86 = .ok (.aload_n 3, 1) := by decide +kernel
theorem dX1_personOf_87 : decode cX1_personOf 87 = .ok (.getfield 211, 3) := by decide +kernel
theorem dX1_personOf_90 : decode cX1_personOf 90 = .ok (.ifCond .eq 7, 3) := by decide +kernel
theorem dX1_personOf_93 : decode cX1_personOf 93 = .ok (.iconst 1, 1) := by decide +kernel
theorem dX1_personOf_94 : decode cX1_personOf 94 = .ok (.goto 4, 3) := by decide +kernel
theorem dX1_personOf_97 : decode cX1_personOf 97 = .ok (.iconst 0, 1) := by decide +kernel
theorem dX1_personOf_98 : decode cX1_personOf 98 = .ok (.ireturn, 1) := by decide +kernel
theorem dX1_personOf_99 : decode cX1_personOf 99 = .ok (.aload_n 3, 1) := by decide +kernel
theorem dX1_personOf_100 : decode cX1_personOf 100 = .ok (.getfield 416, 3) := by decide +kernel
theorem dX1_personOf_103 : decode cX1_personOf 103 = .ok (.ireturn, 1) := by decide +kernel
theorem dX1_personOf_104 : decode cX1_personOf 104 = .ok (.aload_n 3, 1) := by decide +kernel
theorem dX1_personOf_105 : decode cX1_personOf 105 = .ok (.getfield 172, 3) := by decide +kernel
theorem dX1_personOf_108 : decode cX1_personOf 108 = .ok (.ireturn, 1) := by decide +kernel
theorem dX1_personOf_109 : decode cX1_personOf 109 = .ok (.aload_n 3, 1) := by decide +kernel
theorem dX1_personOf_110 : decode cX1_personOf 110 = .ok (.getfield 175, 3) := by decide +kernel
theorem dX1_personOf_113 : decode cX1_personOf 113 = .ok (.ireturn, 1) := by decide +kernel
theorem dX1_personOf_114 : decode cX1_personOf 114 = .ok (.aload_n 3, 1) := by decide +kernel
theorem dX1_personOf_115 : decode cX1_personOf 115 = .ok (.getfield 137, 3) := by decide +kernel
theorem dX1_personOf_118 : decode cX1_personOf 118 = .ok (.ifCond .eq 7, 3) := by decide +kernel
theorem dX1_personOf_121 : decode cX1_personOf 121 = .ok (.iconst 1, 1) := by decide +kernel
theorem dX1_personOf_122 : decode cX1_personOf 122 = .ok (.goto 4, 3) := by decide +kernel
theorem dX1_personOf_125 : decode cX1_personOf 125 = .ok (.iconst 0, 1) := by decide +kernel
theorem dX1_personOf_126 : decode cX1_personOf 126 = .ok (.ireturn, 1) := by decide +kernel
theorem dX1_personOf_127 : decode cX1_personOf 127 = .ok (.aload_n 3, 1) := by decide +kernel
theorem dX1_personOf_128 : decode cX1_personOf 128 = .ok (.getfield 141, 3) := by decide +kernel
theorem dX1_personOf_131 : decode cX1_personOf 131 = .ok (.ifnonnull 7, 3) := by decide +kernel
theorem dX1_personOf_134 : decode cX1_personOf 134 = .ok (.iconst (-1), 1) := by decide +kernel
theorem dX1_personOf_135 : decode cX1_personOf 135 = .ok (.goto 10, 3) := by decide +kernel
theorem dX1_personOf_138 : decode cX1_personOf 138 = .ok (.aload_n 3, 1) := by decide +kernel
theorem dX1_personOf_139 : decode cX1_personOf 139 = .ok (.getfield 141, 3) := by decide +kernel
theorem dX1_personOf_142 : decode cX1_personOf 142 = .ok (.getfield 425, 3) := by decide +kernel
theorem dX1_personOf_145 : decode cX1_personOf 145 = .ok (.ireturn, 1) := by decide +kernel
theorem dX1_personOf_146 : decode cX1_personOf 146 = .ok (.iconst 0, 1) := by decide +kernel
theorem dX1_personOf_147 : decode cX1_personOf 147 = .ok (.istore 4, 2) := by decide +kernel
theorem dX1_personOf_149 : decode cX1_personOf 149 = .ok (.iconst 0, 1) := by decide +kernel
theorem dX1_personOf_150 : decode cX1_personOf 150 = .ok (.istore 5, 2) := by decide +kernel
theorem dX1_personOf_152 : decode cX1_personOf 152 = .ok (.iload 5, 2) := by decide +kernel
theorem dX1_personOf_154 : decode cX1_personOf 154 = .ok (.aload_n 0, 1) := by decide +kernel
theorem dX1_personOf_155 : decode cX1_personOf 155 = .ok (.getfield 105, 3) := by decide +kernel
theorem dX1_personOf_158 : decode cX1_personOf 158 = .ok (.if_icmp .ge 52, 3) := by decide +kernel
theorem dX1_personOf_161 : decode cX1_personOf 161 = .ok (.iload 4, 2) := by decide +kernel
theorem dX1_personOf_163 : decode cX1_personOf 163 = .ok (.iload 5, 2) := by decide +kernel
theorem dX1_personOf_165 : decode cX1_personOf 165 = .ok (.iload_n 1, 1) := by decide +kernel
theorem dX1_personOf_166 : decode cX1_personOf 166 = .ok (.if_icmp .eq 34, 3) := by decide +kernel
theorem dX1_personOf_169 : decode cX1_personOf 169 = .ok (.aload_n 0, 1) := by decide +kernel
theorem dX1_personOf_170 : decode cX1_personOf 170 = .ok (.getfield 11, 3) := by decide +kernel
theorem dX1_personOf_173 : decode cX1_personOf 173 = .ok (.iload 5, 2) := by decide +kernel
theorem dX1_personOf_175 : decode cX1_personOf 175 = .ok (.aaload, 1) := by decide +kernel
theorem dX1_personOf_176 : decode cX1_personOf 176 = .ok (.getfield 137, 3) := by decide +kernel
theorem dX1_personOf_179 : decode cX1_personOf 179 = .ok (.ifCond .ne 21, 3) := by decide +kernel
theorem dX1_personOf_182 : decode cX1_personOf 182 = .ok (.aload_n 3, 1) := by decide +kernel
theorem dX1_personOf_183 : decode cX1_personOf 183 = .ok (.aload_n 0, 1) := by decide +kernel
theorem dX1_personOf_184 : decode cX1_personOf 184 = .ok (.getfield 11, 3) := by decide +kernel
theorem dX1_personOf_187 : decode cX1_personOf 187 = .ok (.iload 5, 2) := by decide +kernel
theorem dX1_personOf_189 : decode cX1_personOf 189 = .ok (.aaload, 1) := by decide +kernel
theorem dX1_personOf_190 : decode cX1_personOf 190 = .ok (.invokevirtual 215, 3) := by decide +kernel
theorem dX1_personOf_193 : decode cX1_personOf 193 = .ok (.ifCond .eq 7, 3) := by decide +kernel
theorem dX1_personOf_196 : decode cX1_personOf 196 = .ok (.iconst 1, 1) := by decide +kernel
theorem dX1_personOf_197 : decode cX1_personOf 197 = .ok (.goto 4, 3) := by decide +kernel
theorem dX1_personOf_200 : decode cX1_personOf 200 = .ok (.iconst 0, 1) := by decide +kernel
theorem dX1_personOf_201 : decode cX1_personOf 201 = .ok (.iadd, 1) := by decide +kernel
theorem dX1_personOf_202 : decode cX1_personOf 202 = .ok (.istore 4, 2) := by decide +kernel
theorem dX1_personOf_204 : decode cX1_personOf 204 = .ok (.iinc 5 1, 3) := by decide +kernel
theorem dX1_personOf_207 : decode cX1_personOf 207 = .ok (.goto (-55), 3) := by decide +kernel
theorem dX1_personOf_210 : decode cX1_personOf 210 = .ok (.iload 4, 2) := by decide +kernel
theorem dX1_personOf_212 : decode cX1_personOf 212 = .ok (.ireturn, 1) := by decide +kernel
theorem dX1_personOf_213 : decode cX1_personOf 213 = .ok (.iconst (-1), 1) := by decide +kernel
theorem dX1_personOf_214 : decode cX1_personOf 214 = .ok (.ireturn, 1) := by decide +kernel
abbrev cX1_count : ByteArray := prog_1_method_66_code
def yX1_count : MethodName := ⟨RX1, "count", "(I)I"⟩
theorem dX1_count_0 : decode cX1_count 0 = .ok (.iload_n 1, 1) := by decide +kernel
theorem dX1_count_1 : decode cX1_count 1 = .ok (.tableswitch 114 0 10 #[59, 64, 69, 74, 79, 84, 89, 94, 99, 104, 109], 59) := by decide +kernel
theorem dX1_count_60 : decode cX1_count 60 = .ok (.aload_n 0, 1) := by decide +kernel
theorem dX1_count_61 : decode cX1_count 61 = .ok (.getfield 154, 3) := by decide +kernel
theorem dX1_count_64 : decode cX1_count 64 = .ok (.ireturn, 1) := by decide +kernel
theorem dX1_count_65 : decode cX1_count 65 = .ok (.aload_n 0, 1) := by decide +kernel
theorem dX1_count_66 : decode cX1_count 66 = .ok (.getfield 21, 3) := by decide +kernel
theorem dX1_count_69 : decode cX1_count 69 = .ok (.ireturn, 1) := by decide +kernel
theorem dX1_count_70 : decode cX1_count 70 = .ok (.aload_n 0, 1) := by decide +kernel
theorem dX1_count_71 : decode cX1_count 71 = .ok (.getfield 184, 3) := by decide +kernel
theorem dX1_count_74 : decode cX1_count 74 = .ok (.ireturn, 1) := by decide +kernel
theorem dX1_count_75 : decode cX1_count 75 = .ok (.aload_n 0, 1) := by decide +kernel
theorem dX1_count_76 : decode cX1_count 76 = .ok (.getfield 105, 3) := by decide +kernel
theorem dX1_count_79 : decode cX1_count 79 = .ok (.ireturn, 1) := by decide +kernel
theorem dX1_count_80 : decode cX1_count 80 = .ok (.aload_n 0, 1) := by decide +kernel
theorem dX1_count_81 : decode cX1_count 81 = .ok (.getfield 112, 3) := by decide +kernel
theorem dX1_count_84 : decode cX1_count 84 = .ok (.ireturn, 1) := by decide +kernel
theorem dX1_count_85 : decode cX1_count 85 = .ok (.aload_n 0, 1) := by decide +kernel
theorem dX1_count_86 : decode cX1_count 86 = .ok (.getfield 178, 3) := by decide +kernel
theorem dX1_count_89 : decode cX1_count 89 = .ok (.ireturn, 1) := by decide +kernel
theorem dX1_count_90 : decode cX1_count 90 = .ok (.aload_n 0, 1) := by decide +kernel
theorem dX1_count_91 : decode cX1_count 91 = .ok (.getfield 115, 3) := by decide +kernel
theorem dX1_count_94 : decode cX1_count 94 = .ok (.ireturn, 1) := by decide +kernel
theorem dX1_count_95 : decode cX1_count 95 = .ok (.aload_n 0, 1) := by decide +kernel
theorem dX1_count_96 : decode cX1_count 96 = .ok (.getfield 357, 3) := by decide +kernel
theorem dX1_count_99 : decode cX1_count 99 = .ok (.ireturn, 1) := by decide +kernel
theorem dX1_count_100 : decode cX1_count 100 = .ok (.aload_n 0, 1) := by decide +kernel
theorem dX1_count_101 : decode cX1_count 101 = .ok (.getfield 279, 3) := by decide +kernel
theorem dX1_count_104 : decode cX1_count 104 = .ok (.ireturn, 1) := by decide +kernel
theorem dX1_count_105 : decode cX1_count 105 = .ok (.aload_n 0, 1) := by decide +kernel
theorem dX1_count_106 : decode cX1_count 106 = .ok (.getfield 382, 3) := by decide +kernel
theorem dX1_count_109 : decode cX1_count 109 = .ok (.ireturn, 1) := by decide +kernel
theorem dX1_count_110 : decode cX1_count 110 = .ok (.aload_n 0, 1) := by decide +kernel
theorem dX1_count_111 : decode cX1_count 111 = .ok (.getfield 151, 3) := by decide +kernel
theorem dX1_count_114 : decode cX1_count 114 = .ok (.ireturn, 1) := by decide +kernel
theorem dX1_count_115 : decode cX1_count 115 = .ok (.iconst (-1), 1) := by decide +kernel
theorem dX1_count_116 : decode cX1_count 116 = .ok (.ireturn, 1) := by decide +kernel
abbrev cX1_bill : ByteArray := prog_1_method_60_code
def yX1_bill : MethodName := ⟨RX1, "bill", "(I)I"⟩
theorem dX1_bill_0 : decode cX1_bill 0 = .ok (.iload_n 1, 1) := by decide +kernel
theorem dX1_bill_1 : decode cX1_bill 1 = .ok (.iconst 0, 1) := by decide +kernel
theorem dX1_bill_2 : decode cX1_bill 2 = .ok (.aload_n 0, 1) := by decide +kernel
theorem dX1_bill_3 : decode cX1_bill 3 = .ok (.getfield 115, 3) := by decide +kernel
theorem dX1_bill_6 : decode cX1_bill 6 = .ok (.iconst 1, 1) := by decide +kernel
theorem dX1_bill_7 : decode cX1_bill 7 = .ok (.isub, 1) := by decide +kernel
theorem dX1_bill_8 : decode cX1_bill 8 = .ok (.invokestatic 108, 3) := by decide +kernel
theorem dX1_bill_11 : decode cX1_bill 11 = .ok (.ifCond .ne 11, 3) := by decide +kernel
theorem dX1_bill_14 : decode cX1_bill 14 = .ok (.new 413, 3) := by decide +kernel
theorem dX1_bill_17 : decode cX1_bill 17 = .ok (.dup, 1) := by decide +kernel
theorem dX1_bill_18 : decode cX1_bill 18 = .ok (.invokespecial 415, 3) := by decide +kernel
theorem dX1_bill_21 : decode cX1_bill 21 = .ok (.athrow, 1) := by decide +kernel
theorem dX1_bill_22 : decode cX1_bill 22 = .ok (.aload_n 0, 1) := by decide +kernel
theorem dX1_bill_23 : decode cX1_bill 23 = .ok (.getfield 62, 3) := by decide +kernel
theorem dX1_bill_26 : decode cX1_bill 26 = .ok (.iload_n 1, 1) := by decide +kernel
theorem dX1_bill_27 : decode cX1_bill 27 = .ok (.iaload, 1) := by decide +kernel
theorem dX1_bill_28 : decode cX1_bill 28 = .ok (.ireturn, 1) := by decide +kernel
abbrev cX1_owes : ByteArray := prog_1_method_61_code
def yX1_owes : MethodName := ⟨RX1, "owes", "(I)I"⟩
theorem dX1_owes_0 : decode cX1_owes 0 = .ok (.aload_n 0, 1) := by decide +kernel
theorem dX1_owes_1 : decode cX1_owes 1 = .ok (.iload_n 1, 1) := by decide +kernel
theorem dX1_owes_2 : decode cX1_owes 2 = .ok (.invokevirtual 134, 3) := by decide +kernel
theorem dX1_owes_5 : decode cX1_owes 5 = .ok (.ifCond .ne 11, 3) := by decide +kernel
theorem dX1_owes_8 : decode cX1_owes 8 = .ok (.new 413, 3) := by decide +kernel
theorem dX1_owes_11 : decode cX1_owes 11 = .ok (.dup, 1) := by decide +kernel
theorem dX1_owes_12 : decode cX1_owes 12 = .ok (.invokespecial 415, 3) := by decide +kernel
theorem dX1_owes_15 : decode cX1_owes 15 = .ok (.athrow, 1) := by decide +kernel
theorem dX1_owes_16 : decode cX1_owes 16 = .ok (.aload_n 0, 1) := by decide +kernel
theorem dX1_owes_17 : decode cX1_owes 17 = .ok (.getfield 11, 3) := by decide +kernel
theorem dX1_owes_20 : decode cX1_owes 20 = .ok (.iload_n 1, 1) := by decide +kernel
theorem dX1_owes_21 : decode cX1_owes 21 = .ok (.aaload, 1) := by decide +kernel
theorem dX1_owes_22 : decode cX1_owes 22 = .ok (.getfield 410, 3) := by decide +kernel
theorem dX1_owes_25 : decode cX1_owes 25 = .ok (.ireturn, 1) := by decide +kernel
theorem q86 : (Jvm.Cond.initialized "TourRooms") ∈ lw_all := lw_g (lw_at lw_m1 1 rfl) rfl
theorem q121 : (Jvm.Cond.instantiable "TourRooms" (39 : Nat)) ∈ lw_all := lw_g (lw_at lw_m1 36 rfl) rfl
theorem q123 : (Jvm.Cond.instanceMethod ({ cls := "TourRooms", name := "<init>", desc := "()V" } : Jvm.MethodName)) ∈ lw_all := lw_g (lw_at lw_m1 38 rfl) rfl
theorem q124 : (Jvm.Cond.code ({ cls := "TourRooms", name := "<init>", desc := "()V" } : Jvm.MethodName) prog_1_method_2_code (3 : Nat) (Option.none : Option Jvm.ClassFile.FieldType)) ∈ lw_all := lw_g (lw_at lw_m1 39 rfl) rfl
theorem q125 : (Jvm.Cond.methodLink "TourRooms" (3 : Nat) ({ cls := "java/lang/Object", name := "<init>", desc := "()V" } : Jvm.MethodName)) ∈ lw_all := lw_g (lw_at lw_m1 40 rfl) rfl
theorem q128 : (Jvm.Cond.classLink "TourRooms" (9 : Nat) "TourRooms$Person") ∈ lw_all := lw_g (lw_at lw_m1 43 rfl) rfl
theorem q130 : (Jvm.Cond.classLink "TourRooms" (15 : Nat) "TourRooms$Town") ∈ lw_all := lw_g (lw_at lw_m1 45 rfl) rfl
theorem q132 : (Jvm.Cond.classLink "TourRooms" (45 : Nat) "TourRooms$State") ∈ lw_all := lw_g (lw_at lw_m1 47 rfl) rfl
theorem q134 : (Jvm.Cond.methodLinkNest "TourRooms" (47 : Nat) ({ cls := "TourRooms$State", name := "<init>", desc := "()V" } : Jvm.MethodName) "TourRooms") ∈ lw_tbl := lw_at lw_m1 49 rfl
theorem q139 : (Jvm.Cond.fieldLinkNest "TourRooms" (332 : Nat) "TourRooms$State" "left" "I" "TourRooms") ∈ lw_tbl := lw_at lw_m1 54 rfl
theorem q141 : (Jvm.Cond.fieldLinkNest "TourRooms" (337 : Nat) "TourRooms$State" "held" "I" "TourRooms") ∈ lw_tbl := lw_at lw_m1 56 rfl
theorem q143 : (Jvm.Cond.fieldLinkNest "TourRooms" (342 : Nat) "TourRooms$State" "used" "I" "TourRooms") ∈ lw_tbl := lw_at lw_m1 58 rfl
theorem q145 : (Jvm.Cond.fieldLinkNest "TourRooms" (346 : Nat) "TourRooms$State" "people" "I" "TourRooms") ∈ lw_tbl := lw_at lw_m1 60 rfl
theorem q147 : (Jvm.Cond.fieldLinkNest "TourRooms" (348 : Nat) "TourRooms$State" "season" "I" "TourRooms") ∈ lw_tbl := lw_at lw_m1 62 rfl
theorem q161 : (Jvm.Cond.classLink "TourRooms" (52 : Nat) "[[Z") ∈ lw_all := lw_g (lw_at lw_m1 76 rfl) rfl
theorem q163 : (Jvm.Cond.classLink "TourRooms" (57 : Nat) "[[I") ∈ lw_all := lw_g (lw_at lw_m1 78 rfl) rfl
theorem q165 : (Jvm.Cond.classLink "TourRooms" (65 : Nat) "[[J") ∈ lw_all := lw_g (lw_at lw_m1 80 rfl) rfl
theorem q167 : (Jvm.Cond.classLink "TourRooms" (73 : Nat) "[[[I") ∈ lw_all := lw_g (lw_at lw_m1 82 rfl) rfl
theorem q169 : (Jvm.Cond.fieldLink "TourRooms" (11 : Nat) "TourRooms" "people" "[LTourRooms$Person;") ∈ lw_all := lw_g (lw_at lw_m1 84 rfl) rfl
theorem q170 : (Jvm.Cond.fieldLink "TourRooms" (17 : Nat) "TourRooms" "towns" "[LTourRooms$Town;") ∈ lw_all := lw_g (lw_at lw_m1 85 rfl) rfl
theorem q171 : (Jvm.Cond.fieldLink "TourRooms" (105 : Nat) "TourRooms" "peopleMany" "I") ∈ lw_all := lw_g (lw_at lw_m1 86 rfl) rfl
theorem q172 : (Jvm.Cond.fieldLink "TourRooms" (112 : Nat) "TourRooms" "townMany" "I") ∈ lw_all := lw_g (lw_at lw_m1 87 rfl) rfl
theorem q173 : (Jvm.Cond.fieldLink "TourRooms" (178 : Nat) "TourRooms" "nightMany" "I") ∈ lw_all := lw_g (lw_at lw_m1 88 rfl) rfl
theorem q174 : (Jvm.Cond.fieldLink "TourRooms" (115 : Nat) "TourRooms" "closed" "I") ∈ lw_all := lw_g (lw_at lw_m1 89 rfl) rfl
theorem q175 : (Jvm.Cond.fieldLink "TourRooms" (154 : Nat) "TourRooms" "day" "I") ∈ lw_all := lw_g (lw_at lw_m1 90 rfl) rfl
theorem q176 : (Jvm.Cond.fieldLink "TourRooms" (21 : Nat) "TourRooms" "start" "I") ∈ lw_all := lw_g (lw_at lw_m1 91 rfl) rfl
theorem q177 : (Jvm.Cond.fieldLink "TourRooms" (184 : Nat) "TourRooms" "season" "I") ∈ lw_all := lw_g (lw_at lw_m1 92 rfl) rfl
theorem q178 : (Jvm.Cond.fieldLink "TourRooms" (357 : Nat) "TourRooms" "spent" "I") ∈ lw_all := lw_g (lw_at lw_m1 93 rfl) rfl
theorem q179 : (Jvm.Cond.fieldLink "TourRooms" (151 : Nat) "TourRooms" "noteMany" "I") ∈ lw_all := lw_g (lw_at lw_m1 94 rfl) rfl
theorem q180 : (Jvm.Cond.fieldLink "TourRooms" (25 : Nat) "TourRooms" "moved" "I") ∈ lw_all := lw_g (lw_at lw_m1 95 rfl) rfl
theorem q181 : (Jvm.Cond.fieldLink "TourRooms" (28 : Nat) "TourRooms" "noteTown" "[I") ∈ lw_all := lw_g (lw_at lw_m1 96 rfl) rfl
theorem q182 : (Jvm.Cond.fieldLink "TourRooms" (32 : Nat) "TourRooms" "notePerson" "[I") ∈ lw_all := lw_g (lw_at lw_m1 97 rfl) rfl
theorem q183 : (Jvm.Cond.fieldLink "TourRooms" (35 : Nat) "TourRooms" "noteRoom" "[I") ∈ lw_all := lw_g (lw_at lw_m1 98 rfl) rfl
theorem q184 : (Jvm.Cond.fieldLink "TourRooms" (38 : Nat) "TourRooms" "noteDay" "[I") ∈ lw_all := lw_g (lw_at lw_m1 99 rfl) rfl
theorem q186 : (Jvm.Cond.fieldLink "TourRooms" (41 : Nat) "TourRooms" "tape" "[B") ∈ lw_all := lw_g (lw_at lw_m1 101 rfl) rfl
theorem q188 : (Jvm.Cond.fieldLink "TourRooms" (279 : Nat) "TourRooms" "taped" "I") ∈ lw_all := lw_g (lw_at lw_m1 103 rfl) rfl
theorem q189 : (Jvm.Cond.fieldLink "TourRooms" (48 : Nat) "TourRooms" "state" "LTourRooms$State;") ∈ lw_all := lw_g (lw_at lw_m1 104 rfl) rfl
theorem q190 : (Jvm.Cond.fieldLink "TourRooms" (54 : Nat) "TourRooms" "absent" "[[Z") ∈ lw_all := lw_g (lw_at lw_m1 105 rfl) rfl
theorem q191 : (Jvm.Cond.fieldLink "TourRooms" (59 : Nat) "TourRooms" "lay" "[[I") ∈ lw_all := lw_g (lw_at lw_m1 106 rfl) rfl
theorem q192 : (Jvm.Cond.fieldLink "TourRooms" (62 : Nat) "TourRooms" "bills" "[I") ∈ lw_all := lw_g (lw_at lw_m1 107 rfl) rfl
theorem q193 : (Jvm.Cond.fieldLink "TourRooms" (67 : Nat) "TourRooms" "worths" "[[J") ∈ lw_all := lw_g (lw_at lw_m1 108 rfl) rfl
theorem q194 : (Jvm.Cond.fieldLink "TourRooms" (70 : Nat) "TourRooms" "fresh" "[I") ∈ lw_all := lw_g (lw_at lw_m1 109 rfl) rfl
theorem q195 : (Jvm.Cond.fieldLink "TourRooms" (75 : Nat) "TourRooms" "losses" "[[[I") ∈ lw_all := lw_g (lw_at lw_m1 110 rfl) rfl
theorem q196 : (Jvm.Cond.fieldLink "TourRooms" (368 : Nat) "TourRooms" "gives" "I") ∈ lw_all := lw_g (lw_at lw_m1 111 rfl) rfl
theorem q197 : (Jvm.Cond.fieldLink "TourRooms" (78 : Nat) "TourRooms" "opens" "[I") ∈ lw_all := lw_g (lw_at lw_m1 112 rfl) rfl
theorem q198 : (Jvm.Cond.fieldLink "TourRooms" (81 : Nat) "TourRooms" "shuts" "[I") ∈ lw_all := lw_g (lw_at lw_m1 113 rfl) rfl
theorem q199 : (Jvm.Cond.fieldLink "TourRooms" (84 : Nat) "TourRooms" "stays" "[I") ∈ lw_all := lw_g (lw_at lw_m1 114 rfl) rfl
theorem q200 : (Jvm.Cond.fieldLink "TourRooms" (87 : Nat) "TourRooms" "ways" "[[I") ∈ lw_all := lw_g (lw_at lw_m1 115 rfl) rfl
theorem q201 : (Jvm.Cond.fieldLink "TourRooms" (382 : Nat) "TourRooms" "sightMany" "I") ∈ lw_all := lw_g (lw_at lw_m1 116 rfl) rfl
theorem q202 : (Jvm.Cond.fieldLink "TourRooms" (90 : Nat) "TourRooms" "tried" "[I") ∈ lw_all := lw_g (lw_at lw_m1 117 rfl) rfl
theorem q203 : (Jvm.Cond.fieldLink "TourRooms" (93 : Nat) "TourRooms" "begun" "[I") ∈ lw_all := lw_g (lw_at lw_m1 118 rfl) rfl
theorem q204 : (Jvm.Cond.fieldLink "TourRooms" (96 : Nat) "TourRooms" "bestSights" "[I") ∈ lw_all := lw_g (lw_at lw_m1 119 rfl) rfl
theorem q205 : (Jvm.Cond.fieldLink "TourRooms" (99 : Nat) "TourRooms" "bestBegun" "[I") ∈ lw_all := lw_g (lw_at lw_m1 120 rfl) rfl
theorem q206 : (Jvm.Cond.fieldLink "TourRooms" (102 : Nat) "TourRooms" "bestMany" "I") ∈ lw_all := lw_g (lw_at lw_m1 121 rfl) rfl
theorem q207 : (Jvm.Cond.fieldLink "TourRooms" (385 : Nat) "TourRooms" "bestEnd" "I") ∈ lw_all := lw_g (lw_at lw_m1 122 rfl) rfl
theorem q208 : (Jvm.Cond.fieldLink "TourRooms" (388 : Nat) "TourRooms" "bestDriven" "I") ∈ lw_all := lw_g (lw_at lw_m1 123 rfl) rfl
theorem q209 : (Jvm.Cond.fieldLink "TourRooms" (401 : Nat) "TourRooms" "bestRests" "I") ∈ lw_all := lw_g (lw_at lw_m1 124 rfl) rfl
theorem q210 : (Jvm.Cond.laysFinal "TourRooms" "TourRooms" "people" "[LTourRooms$Person;") ∈ lw_all := lw_g (lw_at lw_m1 125 rfl) rfl
theorem q211 : (Jvm.Cond.soleField "TourRooms" "people") ∈ lw_all := lw_g (lw_at lw_m1 126 rfl) rfl
theorem q212 : (Jvm.Cond.laysFinal "TourRooms" "TourRooms" "towns" "[LTourRooms$Town;") ∈ lw_all := lw_g (lw_at lw_m1 127 rfl) rfl
theorem q213 : (Jvm.Cond.soleField "TourRooms" "towns") ∈ lw_all := lw_g (lw_at lw_m1 128 rfl) rfl
theorem q214 : (Jvm.Cond.lays "TourRooms" "TourRooms" "peopleMany" "I") ∈ lw_all := lw_g (lw_at lw_m1 129 rfl) rfl
theorem q215 : (Jvm.Cond.soleField "TourRooms" "peopleMany") ∈ lw_all := lw_g (lw_at lw_m1 130 rfl) rfl
theorem q216 : (Jvm.Cond.lays "TourRooms" "TourRooms" "townMany" "I") ∈ lw_all := lw_g (lw_at lw_m1 131 rfl) rfl
theorem q217 : (Jvm.Cond.soleField "TourRooms" "townMany") ∈ lw_all := lw_g (lw_at lw_m1 132 rfl) rfl
theorem q218 : (Jvm.Cond.lays "TourRooms" "TourRooms" "nightMany" "I") ∈ lw_all := lw_g (lw_at lw_m1 133 rfl) rfl
theorem q219 : (Jvm.Cond.soleField "TourRooms" "nightMany") ∈ lw_all := lw_g (lw_at lw_m1 134 rfl) rfl
theorem q220 : (Jvm.Cond.lays "TourRooms" "TourRooms" "closed" "I") ∈ lw_all := lw_g (lw_at lw_m1 135 rfl) rfl
theorem q221 : (Jvm.Cond.soleField "TourRooms" "closed") ∈ lw_all := lw_g (lw_at lw_m1 136 rfl) rfl
theorem q222 : (Jvm.Cond.lays "TourRooms" "TourRooms" "day" "I") ∈ lw_all := lw_g (lw_at lw_m1 137 rfl) rfl
theorem q223 : (Jvm.Cond.soleField "TourRooms" "day") ∈ lw_all := lw_g (lw_at lw_m1 138 rfl) rfl
theorem q224 : (Jvm.Cond.lays "TourRooms" "TourRooms" "start" "I") ∈ lw_all := lw_g (lw_at lw_m1 139 rfl) rfl
theorem q225 : (Jvm.Cond.soleField "TourRooms" "start") ∈ lw_all := lw_g (lw_at lw_m1 140 rfl) rfl
theorem q226 : (Jvm.Cond.lays "TourRooms" "TourRooms" "season" "I") ∈ lw_all := lw_g (lw_at lw_m1 141 rfl) rfl
theorem q227 : (Jvm.Cond.soleField "TourRooms" "season") ∈ lw_all := lw_g (lw_at lw_m1 142 rfl) rfl
theorem q228 : (Jvm.Cond.lays "TourRooms" "TourRooms" "spent" "I") ∈ lw_all := lw_g (lw_at lw_m1 143 rfl) rfl
theorem q229 : (Jvm.Cond.soleField "TourRooms" "spent") ∈ lw_all := lw_g (lw_at lw_m1 144 rfl) rfl
theorem q230 : (Jvm.Cond.lays "TourRooms" "TourRooms" "noteMany" "I") ∈ lw_all := lw_g (lw_at lw_m1 145 rfl) rfl
theorem q231 : (Jvm.Cond.soleField "TourRooms" "noteMany") ∈ lw_all := lw_g (lw_at lw_m1 146 rfl) rfl
theorem q232 : (Jvm.Cond.lays "TourRooms" "TourRooms" "moved" "I") ∈ lw_all := lw_g (lw_at lw_m1 147 rfl) rfl
theorem q233 : (Jvm.Cond.soleField "TourRooms" "moved") ∈ lw_all := lw_g (lw_at lw_m1 148 rfl) rfl
theorem q234 : (Jvm.Cond.laysFinal "TourRooms" "TourRooms" "noteTown" "[I") ∈ lw_all := lw_g (lw_at lw_m1 149 rfl) rfl
theorem q235 : (Jvm.Cond.soleField "TourRooms" "noteTown") ∈ lw_all := lw_g (lw_at lw_m1 150 rfl) rfl
theorem q236 : (Jvm.Cond.laysFinal "TourRooms" "TourRooms" "notePerson" "[I") ∈ lw_all := lw_g (lw_at lw_m1 151 rfl) rfl
theorem q237 : (Jvm.Cond.soleField "TourRooms" "notePerson") ∈ lw_all := lw_g (lw_at lw_m1 152 rfl) rfl
theorem q238 : (Jvm.Cond.laysFinal "TourRooms" "TourRooms" "noteRoom" "[I") ∈ lw_all := lw_g (lw_at lw_m1 153 rfl) rfl
theorem q239 : (Jvm.Cond.soleField "TourRooms" "noteRoom") ∈ lw_all := lw_g (lw_at lw_m1 154 rfl) rfl
theorem q240 : (Jvm.Cond.laysFinal "TourRooms" "TourRooms" "noteDay" "[I") ∈ lw_all := lw_g (lw_at lw_m1 155 rfl) rfl
theorem q241 : (Jvm.Cond.soleField "TourRooms" "noteDay") ∈ lw_all := lw_g (lw_at lw_m1 156 rfl) rfl
theorem q242 : (Jvm.Cond.laysFinal "TourRooms" "TourRooms" "tape" "[B") ∈ lw_all := lw_g (lw_at lw_m1 157 rfl) rfl
theorem q243 : (Jvm.Cond.soleField "TourRooms" "tape") ∈ lw_all := lw_g (lw_at lw_m1 158 rfl) rfl
theorem q244 : (Jvm.Cond.lays "TourRooms" "TourRooms" "taped" "I") ∈ lw_all := lw_g (lw_at lw_m1 159 rfl) rfl
theorem q245 : (Jvm.Cond.soleField "TourRooms" "taped") ∈ lw_all := lw_g (lw_at lw_m1 160 rfl) rfl
theorem q246 : (Jvm.Cond.laysFinal "TourRooms" "TourRooms" "state" "LTourRooms$State;") ∈ lw_all := lw_g (lw_at lw_m1 161 rfl) rfl
theorem q247 : (Jvm.Cond.soleField "TourRooms" "state") ∈ lw_all := lw_g (lw_at lw_m1 162 rfl) rfl
theorem q248 : (Jvm.Cond.laysFinal "TourRooms" "TourRooms" "absent" "[[Z") ∈ lw_all := lw_g (lw_at lw_m1 163 rfl) rfl
theorem q249 : (Jvm.Cond.soleField "TourRooms" "absent") ∈ lw_all := lw_g (lw_at lw_m1 164 rfl) rfl
theorem q250 : (Jvm.Cond.laysFinal "TourRooms" "TourRooms" "lay" "[[I") ∈ lw_all := lw_g (lw_at lw_m1 165 rfl) rfl
theorem q251 : (Jvm.Cond.soleField "TourRooms" "lay") ∈ lw_all := lw_g (lw_at lw_m1 166 rfl) rfl
theorem q252 : (Jvm.Cond.laysFinal "TourRooms" "TourRooms" "bills" "[I") ∈ lw_all := lw_g (lw_at lw_m1 167 rfl) rfl
theorem q253 : (Jvm.Cond.soleField "TourRooms" "bills") ∈ lw_all := lw_g (lw_at lw_m1 168 rfl) rfl
theorem q254 : (Jvm.Cond.laysFinal "TourRooms" "TourRooms" "worths" "[[J") ∈ lw_all := lw_g (lw_at lw_m1 169 rfl) rfl
theorem q255 : (Jvm.Cond.soleField "TourRooms" "worths") ∈ lw_all := lw_g (lw_at lw_m1 170 rfl) rfl
theorem q256 : (Jvm.Cond.laysFinal "TourRooms" "TourRooms" "fresh" "[I") ∈ lw_all := lw_g (lw_at lw_m1 171 rfl) rfl
theorem q257 : (Jvm.Cond.soleField "TourRooms" "fresh") ∈ lw_all := lw_g (lw_at lw_m1 172 rfl) rfl
theorem q258 : (Jvm.Cond.laysFinal "TourRooms" "TourRooms" "losses" "[[[I") ∈ lw_all := lw_g (lw_at lw_m1 173 rfl) rfl
theorem q259 : (Jvm.Cond.soleField "TourRooms" "losses") ∈ lw_all := lw_g (lw_at lw_m1 174 rfl) rfl
theorem q260 : (Jvm.Cond.lays "TourRooms" "TourRooms" "gives" "I") ∈ lw_all := lw_g (lw_at lw_m1 175 rfl) rfl
theorem q261 : (Jvm.Cond.soleField "TourRooms" "gives") ∈ lw_all := lw_g (lw_at lw_m1 176 rfl) rfl
theorem q262 : (Jvm.Cond.laysFinal "TourRooms" "TourRooms" "opens" "[I") ∈ lw_all := lw_g (lw_at lw_m1 177 rfl) rfl
theorem q263 : (Jvm.Cond.soleField "TourRooms" "opens") ∈ lw_all := lw_g (lw_at lw_m1 178 rfl) rfl
theorem q264 : (Jvm.Cond.laysFinal "TourRooms" "TourRooms" "shuts" "[I") ∈ lw_all := lw_g (lw_at lw_m1 179 rfl) rfl
theorem q265 : (Jvm.Cond.soleField "TourRooms" "shuts") ∈ lw_all := lw_g (lw_at lw_m1 180 rfl) rfl
theorem q266 : (Jvm.Cond.laysFinal "TourRooms" "TourRooms" "stays" "[I") ∈ lw_all := lw_g (lw_at lw_m1 181 rfl) rfl
theorem q267 : (Jvm.Cond.soleField "TourRooms" "stays") ∈ lw_all := lw_g (lw_at lw_m1 182 rfl) rfl
theorem q268 : (Jvm.Cond.laysFinal "TourRooms" "TourRooms" "ways" "[[I") ∈ lw_all := lw_g (lw_at lw_m1 183 rfl) rfl
theorem q269 : (Jvm.Cond.soleField "TourRooms" "ways") ∈ lw_all := lw_g (lw_at lw_m1 184 rfl) rfl
theorem q270 : (Jvm.Cond.lays "TourRooms" "TourRooms" "sightMany" "I") ∈ lw_all := lw_g (lw_at lw_m1 185 rfl) rfl
theorem q271 : (Jvm.Cond.soleField "TourRooms" "sightMany") ∈ lw_all := lw_g (lw_at lw_m1 186 rfl) rfl
theorem q272 : (Jvm.Cond.laysFinal "TourRooms" "TourRooms" "tried" "[I") ∈ lw_all := lw_g (lw_at lw_m1 187 rfl) rfl
theorem q273 : (Jvm.Cond.soleField "TourRooms" "tried") ∈ lw_all := lw_g (lw_at lw_m1 188 rfl) rfl
theorem q274 : (Jvm.Cond.laysFinal "TourRooms" "TourRooms" "begun" "[I") ∈ lw_all := lw_g (lw_at lw_m1 189 rfl) rfl
theorem q275 : (Jvm.Cond.soleField "TourRooms" "begun") ∈ lw_all := lw_g (lw_at lw_m1 190 rfl) rfl
theorem q276 : (Jvm.Cond.laysFinal "TourRooms" "TourRooms" "bestSights" "[I") ∈ lw_all := lw_g (lw_at lw_m1 191 rfl) rfl
theorem q277 : (Jvm.Cond.soleField "TourRooms" "bestSights") ∈ lw_all := lw_g (lw_at lw_m1 192 rfl) rfl
theorem q278 : (Jvm.Cond.laysFinal "TourRooms" "TourRooms" "bestBegun" "[I") ∈ lw_all := lw_g (lw_at lw_m1 193 rfl) rfl
theorem q279 : (Jvm.Cond.soleField "TourRooms" "bestBegun") ∈ lw_all := lw_g (lw_at lw_m1 194 rfl) rfl
theorem q280 : (Jvm.Cond.lays "TourRooms" "TourRooms" "bestMany" "I") ∈ lw_all := lw_g (lw_at lw_m1 195 rfl) rfl
theorem q281 : (Jvm.Cond.soleField "TourRooms" "bestMany") ∈ lw_all := lw_g (lw_at lw_m1 196 rfl) rfl
theorem q282 : (Jvm.Cond.lays "TourRooms" "TourRooms" "bestEnd" "I") ∈ lw_all := lw_g (lw_at lw_m1 197 rfl) rfl
theorem q283 : (Jvm.Cond.soleField "TourRooms" "bestEnd") ∈ lw_all := lw_g (lw_at lw_m1 198 rfl) rfl
theorem q284 : (Jvm.Cond.lays "TourRooms" "TourRooms" "bestDriven" "I") ∈ lw_all := lw_g (lw_at lw_m1 199 rfl) rfl
theorem q285 : (Jvm.Cond.soleField "TourRooms" "bestDriven") ∈ lw_all := lw_g (lw_at lw_m1 200 rfl) rfl
theorem q286 : (Jvm.Cond.lays "TourRooms" "TourRooms" "bestRests" "I") ∈ lw_all := lw_g (lw_at lw_m1 201 rfl) rfl
theorem q287 : (Jvm.Cond.soleField "TourRooms" "bestRests") ∈ lw_all := lw_g (lw_at lw_m1 202 rfl) rfl
theorem q288 : (Jvm.Cond.superclass "TourRooms" "java/lang/Object") ∈ lw_all := lw_g (lw_at lw_m1 203 rfl) rfl
theorem q292 : (Jvm.Cond.instanceMethod ({ cls := "TourRooms", name := "person", desc := "(ZIZIII)I" } : Jvm.MethodName)) ∈ lw_all := lw_g (lw_at lw_m1 207 rfl) rfl
theorem q293 : (Jvm.Cond.selects "TourRooms" ({ cls := "TourRooms", name := "person", desc := "(ZIZIII)I" } : Jvm.MethodName) ({ cls := "TourRooms", name := "person", desc := "(ZIZIII)I" } : Jvm.MethodName)) ∈ lw_all := lw_g (lw_at lw_m1 208 rfl) rfl
theorem q294 : (Jvm.Cond.code ({ cls := "TourRooms", name := "person", desc := "(ZIZIII)I" } : Jvm.MethodName) prog_1_method_7_code (7 : Nat) (Option.some Jvm.ClassFile.FieldType.int)) ∈ lw_all := lw_g (lw_at lw_m1 209 rfl) rfl
theorem q295 : (Jvm.Cond.methodLink "TourRooms" (108 : Nat) ({ cls := "TourRooms", name := "in", desc := "(III)Z" } : Jvm.MethodName)) ∈ lw_all := lw_g (lw_at lw_m1 210 rfl) rfl
theorem q296 : (Jvm.Cond.static ({ cls := "TourRooms", name := "in", desc := "(III)Z" } : Jvm.MethodName)) ∈ lw_all := lw_g (lw_at lw_m1 211 rfl) rfl
theorem q297 : (Jvm.Cond.code ({ cls := "TourRooms", name := "in", desc := "(III)Z" } : Jvm.MethodName) prog_1_method_1_code (3 : Nat) (Option.some Jvm.ClassFile.FieldType.boolean)) ∈ lw_all := lw_g (lw_at lw_m1 212 rfl) rfl
theorem q299 : (Jvm.Cond.methodLink "TourRooms" (131 : Nat) ({ cls := "TourRooms$Person", name := "<init>", desc := "(IZIZIII)V" } : Jvm.MethodName)) ∈ lw_all := lw_g (lw_at lw_m1 214 rfl) rfl
theorem q304 : (Jvm.Cond.fieldLinkNest "TourRooms" (425 : Nat) "TourRooms$Person" "number" "I" "TourRooms") ∈ lw_tbl := lw_at lw_m1 219 rfl
theorem q306 : (Jvm.Cond.fieldLinkNest "TourRooms" (422 : Nat) "TourRooms$Person" "sort" "I" "TourRooms") ∈ lw_tbl := lw_at lw_m1 221 rfl
theorem q308 : (Jvm.Cond.fieldLinkNest "TourRooms" (416 : Nat) "TourRooms$Person" "diet" "I" "TourRooms") ∈ lw_tbl := lw_at lw_m1 223 rfl
theorem q310 : (Jvm.Cond.fieldLinkNest "TourRooms" (419 : Nat) "TourRooms$Person" "shares" "Z" "TourRooms") ∈ lw_tbl := lw_at lw_m1 225 rfl
theorem q312 : (Jvm.Cond.fieldLinkNest "TourRooms" (211 : Nat) "TourRooms$Person" "low" "Z" "TourRooms") ∈ lw_tbl := lw_at lw_m1 227 rfl
theorem q314 : (Jvm.Cond.fieldLinkNest "TourRooms" (172 : Nat) "TourRooms$Person" "from" "I" "TourRooms") ∈ lw_tbl := lw_at lw_m1 229 rfl
theorem q316 : (Jvm.Cond.fieldLinkNest "TourRooms" (175 : Nat) "TourRooms$Person" "to" "I" "TourRooms") ∈ lw_tbl := lw_at lw_m1 231 rfl
theorem q318 : (Jvm.Cond.fieldLinkNest "TourRooms" (145 : Nat) "TourRooms$Person" "bars" "I" "TourRooms") ∈ lw_tbl := lw_at lw_m1 233 rfl
theorem q319 : (Jvm.Cond.fieldLinkNest "TourRooms" (410 : Nat) "TourRooms$Person" "owes" "I" "TourRooms") ∈ lw_tbl := lw_at lw_m1 234 rfl
theorem q321 : (Jvm.Cond.fieldLinkNest "TourRooms" (137 : Nat) "TourRooms$Person" "isGone" "Z" "TourRooms") ∈ lw_tbl := lw_at lw_m1 236 rfl
theorem q323 : (Jvm.Cond.fieldLinkNest "TourRooms" (141 : Nat) "TourRooms$Person" "friend" "LTourRooms$Person;" "TourRooms") ∈ lw_tbl := lw_at lw_m1 238 rfl
theorem q348 : (Jvm.Cond.instanceMethod ({ cls := "TourRooms", name := "friends", desc := "(IIZ)Z" } : Jvm.MethodName)) ∈ lw_all := lw_g (lw_at lw_m2 23 rfl) rfl
theorem q349 : (Jvm.Cond.selects "TourRooms" ({ cls := "TourRooms", name := "friends", desc := "(IIZ)Z" } : Jvm.MethodName) ({ cls := "TourRooms", name := "friends", desc := "(IIZ)Z" } : Jvm.MethodName)) ∈ lw_all := lw_g (lw_at lw_m2 24 rfl) rfl
theorem q350 : (Jvm.Cond.code ({ cls := "TourRooms", name := "friends", desc := "(IIZ)Z" } : Jvm.MethodName) prog_1_method_8_code (6 : Nat) (Option.some Jvm.ClassFile.FieldType.boolean)) ∈ lw_all := lw_g (lw_at lw_m2 25 rfl) rfl
theorem q351 : (Jvm.Cond.methodLink "TourRooms" (134 : Nat) ({ cls := "TourRooms", name := "isPerson", desc := "(I)Z" } : Jvm.MethodName)) ∈ lw_all := lw_g (lw_at lw_m2 26 rfl) rfl
theorem q352 : (Jvm.Cond.privateMethod ({ cls := "TourRooms", name := "isPerson", desc := "(I)Z" } : Jvm.MethodName)) ∈ lw_tbl := lw_at lw_m2 27 rfl
theorem q353 : (Jvm.Cond.instanceMethod ({ cls := "TourRooms", name := "isPerson", desc := "(I)Z" } : Jvm.MethodName)) ∈ lw_all := lw_g (lw_at lw_m2 28 rfl) rfl
theorem q354 : (Jvm.Cond.code ({ cls := "TourRooms", name := "isPerson", desc := "(I)Z" } : Jvm.MethodName) prog_1_method_3_code (2 : Nat) (Option.some Jvm.ClassFile.FieldType.boolean)) ∈ lw_all := lw_g (lw_at lw_m2 29 rfl) rfl
theorem q356 : (Jvm.Cond.instanceMethod ({ cls := "TourRooms", name := "bar", desc := "(IIZ)Z" } : Jvm.MethodName)) ∈ lw_all := lw_g (lw_at lw_m2 31 rfl) rfl
theorem q357 : (Jvm.Cond.selects "TourRooms" ({ cls := "TourRooms", name := "bar", desc := "(IIZ)Z" } : Jvm.MethodName) ({ cls := "TourRooms", name := "bar", desc := "(IIZ)Z" } : Jvm.MethodName)) ∈ lw_all := lw_g (lw_at lw_m2 32 rfl) rfl
theorem q358 : (Jvm.Cond.code ({ cls := "TourRooms", name := "bar", desc := "(IIZ)Z" } : Jvm.MethodName) prog_1_method_9_code (4 : Nat) (Option.some Jvm.ClassFile.FieldType.boolean)) ∈ lw_all := lw_g (lw_at lw_m2 33 rfl) rfl
theorem q360 : (Jvm.Cond.instanceMethod ({ cls := "TourRooms", name := "stays", desc := "(III)Z" } : Jvm.MethodName)) ∈ lw_all := lw_g (lw_at lw_m2 35 rfl) rfl
theorem q361 : (Jvm.Cond.selects "TourRooms" ({ cls := "TourRooms", name := "stays", desc := "(III)Z" } : Jvm.MethodName) ({ cls := "TourRooms", name := "stays", desc := "(III)Z" } : Jvm.MethodName)) ∈ lw_all := lw_g (lw_at lw_m2 36 rfl) rfl
theorem q362 : (Jvm.Cond.code ({ cls := "TourRooms", name := "stays", desc := "(III)Z" } : Jvm.MethodName) prog_1_method_13_code (4 : Nat) (Option.some Jvm.ClassFile.FieldType.boolean)) ∈ lw_all := lw_g (lw_at lw_m2 37 rfl) rfl
theorem q363 : (Jvm.Cond.methodLink "TourRooms" (168 : Nat) ({ cls := "TourRooms", name := "leaves", desc := "(IZII)Z" } : Jvm.MethodName)) ∈ lw_all := lw_g (lw_at lw_m2 38 rfl) rfl
theorem q364 : (Jvm.Cond.privateMethod ({ cls := "TourRooms", name := "leaves", desc := "(IZII)Z" } : Jvm.MethodName)) ∈ lw_tbl := lw_at lw_m2 39 rfl
theorem q365 : (Jvm.Cond.instanceMethod ({ cls := "TourRooms", name := "leaves", desc := "(IZII)Z" } : Jvm.MethodName)) ∈ lw_all := lw_g (lw_at lw_m2 40 rfl) rfl
theorem q366 : (Jvm.Cond.code ({ cls := "TourRooms", name := "leaves", desc := "(IZII)Z" } : Jvm.MethodName) prog_1_method_12_code (7 : Nat) (Option.some Jvm.ClassFile.FieldType.boolean)) ∈ lw_all := lw_g (lw_at lw_m2 41 rfl) rfl
theorem q367 : (Jvm.Cond.methodLink "TourRooms" (160 : Nat) ({ cls := "TourRooms", name := "falls", desc := "(IIZII)Z" } : Jvm.MethodName)) ∈ lw_all := lw_g (lw_at lw_m2 42 rfl) rfl
theorem q368 : (Jvm.Cond.privateMethod ({ cls := "TourRooms", name := "falls", desc := "(IIZII)Z" } : Jvm.MethodName)) ∈ lw_tbl := lw_at lw_m2 43 rfl
theorem q369 : (Jvm.Cond.instanceMethod ({ cls := "TourRooms", name := "falls", desc := "(IIZII)Z" } : Jvm.MethodName)) ∈ lw_all := lw_g (lw_at lw_m2 44 rfl) rfl
theorem q370 : (Jvm.Cond.code ({ cls := "TourRooms", name := "falls", desc := "(IIZII)Z" } : Jvm.MethodName) prog_1_method_11_code (6 : Nat) (Option.some Jvm.ClassFile.FieldType.boolean)) ∈ lw_all := lw_g (lw_at lw_m2 45 rfl) rfl
theorem q371 : (Jvm.Cond.methodLink "TourRooms" (157 : Nat) ({ cls := "TourRooms", name := "isOver", desc := "(I)Z" } : Jvm.MethodName)) ∈ lw_all := lw_g (lw_at lw_m2 46 rfl) rfl
theorem q372 : (Jvm.Cond.privateMethod ({ cls := "TourRooms", name := "isOver", desc := "(I)Z" } : Jvm.MethodName)) ∈ lw_tbl := lw_at lw_m2 47 rfl
theorem q373 : (Jvm.Cond.instanceMethod ({ cls := "TourRooms", name := "isOver", desc := "(I)Z" } : Jvm.MethodName)) ∈ lw_all := lw_g (lw_at lw_m2 48 rfl) rfl
theorem q374 : (Jvm.Cond.code ({ cls := "TourRooms", name := "isOver", desc := "(I)Z" } : Jvm.MethodName) prog_1_method_5_code (2 : Nat) (Option.some Jvm.ClassFile.FieldType.boolean)) ∈ lw_all := lw_g (lw_at lw_m2 49 rfl) rfl
theorem q375 : (Jvm.Cond.methodLink "TourRooms" (164 : Nat) ({ cls := "TourRooms", name := "note", desc := "(III)V" } : Jvm.MethodName)) ∈ lw_all := lw_g (lw_at lw_m2 50 rfl) rfl
theorem q376 : (Jvm.Cond.privateMethod ({ cls := "TourRooms", name := "note", desc := "(III)V" } : Jvm.MethodName)) ∈ lw_tbl := lw_at lw_m2 51 rfl
theorem q377 : (Jvm.Cond.instanceMethod ({ cls := "TourRooms", name := "note", desc := "(III)V" } : Jvm.MethodName)) ∈ lw_all := lw_g (lw_at lw_m2 52 rfl) rfl
theorem q378 : (Jvm.Cond.code ({ cls := "TourRooms", name := "note", desc := "(III)V" } : Jvm.MethodName) prog_1_method_10_code (4 : Nat) (Option.none : Option Jvm.ClassFile.FieldType)) ∈ lw_all := lw_g (lw_at lw_m2 53 rfl) rfl
theorem q380 : (Jvm.Cond.instanceMethod ({ cls := "TourRooms", name := "gone", desc := "(I)Z" } : Jvm.MethodName)) ∈ lw_all := lw_g (lw_at lw_m2 55 rfl) rfl
theorem q381 : (Jvm.Cond.selects "TourRooms" ({ cls := "TourRooms", name := "gone", desc := "(I)Z" } : Jvm.MethodName) ({ cls := "TourRooms", name := "gone", desc := "(I)Z" } : Jvm.MethodName)) ∈ lw_all := lw_g (lw_at lw_m2 56 rfl) rfl
theorem q382 : (Jvm.Cond.code ({ cls := "TourRooms", name := "gone", desc := "(I)Z" } : Jvm.MethodName) prog_1_method_14_code (3 : Nat) (Option.some Jvm.ClassFile.FieldType.boolean)) ∈ lw_all := lw_g (lw_at lw_m2 57 rfl) rfl
theorem q384 : (Jvm.Cond.instanceMethod ({ cls := "TourRooms", name := "absent", desc := "(IIZ)Z" } : Jvm.MethodName)) ∈ lw_all := lw_g (lw_at lw_m2 59 rfl) rfl
theorem q385 : (Jvm.Cond.selects "TourRooms" ({ cls := "TourRooms", name := "absent", desc := "(IIZ)Z" } : Jvm.MethodName) ({ cls := "TourRooms", name := "absent", desc := "(IIZ)Z" } : Jvm.MethodName)) ∈ lw_all := lw_g (lw_at lw_m2 60 rfl) rfl
theorem q386 : (Jvm.Cond.code ({ cls := "TourRooms", name := "absent", desc := "(IIZ)Z" } : Jvm.MethodName) prog_1_method_15_code (4 : Nat) (Option.some Jvm.ClassFile.FieldType.boolean)) ∈ lw_all := lw_g (lw_at lw_m2 61 rfl) rfl
theorem q388 : (Jvm.Cond.instanceMethod ({ cls := "TourRooms", name := "town", desc := "(I)I" } : Jvm.MethodName)) ∈ lw_all := lw_g (lw_at lw_m2 63 rfl) rfl
theorem q389 : (Jvm.Cond.selects "TourRooms" ({ cls := "TourRooms", name := "town", desc := "(I)I" } : Jvm.MethodName) ({ cls := "TourRooms", name := "town", desc := "(I)I" } : Jvm.MethodName)) ∈ lw_all := lw_g (lw_at lw_m2 64 rfl) rfl
theorem q390 : (Jvm.Cond.code ({ cls := "TourRooms", name := "town", desc := "(I)I" } : Jvm.MethodName) prog_1_method_16_code (2 : Nat) (Option.some Jvm.ClassFile.FieldType.int)) ∈ lw_all := lw_g (lw_at lw_m2 65 rfl) rfl
theorem q392 : (Jvm.Cond.methodLink "TourRooms" (181 : Nat) ({ cls := "TourRooms$Town", name := "<init>", desc := "(II)V" } : Jvm.MethodName)) ∈ lw_all := lw_g (lw_at lw_m2 67 rfl) rfl
theorem q427 : (Jvm.Cond.fieldLinkNest "TourRooms" (121 : Nat) "TourRooms$Town" "nights" "I" "TourRooms") ∈ lw_tbl := lw_at lw_m2 102 rfl
theorem q429 : (Jvm.Cond.fieldLinkNest "TourRooms" (118 : Nat) "TourRooms$Town" "first" "I" "TourRooms") ∈ lw_tbl := lw_at lw_m2 104 rfl
theorem q431 : (Jvm.Cond.fieldLinkNest "TourRooms" (187 : Nat) "TourRooms$Town" "rooms" "[LTourRooms$Room;" "TourRooms") ∈ lw_tbl := lw_at lw_m2 106 rfl
theorem q433 : (Jvm.Cond.fieldLinkNest "TourRooms" (128 : Nat) "TourRooms$Town" "roomMany" "I" "TourRooms") ∈ lw_tbl := lw_at lw_m2 108 rfl
theorem q435 : (Jvm.Cond.fieldLinkNest "TourRooms" (148 : Nat) "TourRooms$Town" "list" "[I" "TourRooms") ∈ lw_tbl := lw_at lw_m2 110 rfl
theorem q437 : (Jvm.Cond.fieldLinkNest "TourRooms" (291 : Nat) "TourRooms$Town" "contract" "Ljava/util/ArrayList;" "TourRooms") ∈ lw_tbl := lw_at lw_m2 112 rfl
theorem q452 : (Jvm.Cond.instanceMethod ({ cls := "TourRooms", name := "start", desc := "(I)Z" } : Jvm.MethodName)) ∈ lw_all := lw_g (lw_at lw_m2 127 rfl) rfl
theorem q453 : (Jvm.Cond.selects "TourRooms" ({ cls := "TourRooms", name := "start", desc := "(I)Z" } : Jvm.MethodName) ({ cls := "TourRooms", name := "start", desc := "(I)Z" } : Jvm.MethodName)) ∈ lw_all := lw_g (lw_at lw_m2 128 rfl) rfl
theorem q454 : (Jvm.Cond.code ({ cls := "TourRooms", name := "start", desc := "(I)Z" } : Jvm.MethodName) prog_1_method_17_code (2 : Nat) (Option.some Jvm.ClassFile.FieldType.boolean)) ∈ lw_all := lw_g (lw_at lw_m2 129 rfl) rfl
theorem q456 : (Jvm.Cond.instanceMethod ({ cls := "TourRooms", name := "season", desc := "(I)Z" } : Jvm.MethodName)) ∈ lw_all := lw_g (lw_at lw_m2 131 rfl) rfl
theorem q457 : (Jvm.Cond.selects "TourRooms" ({ cls := "TourRooms", name := "season", desc := "(I)Z" } : Jvm.MethodName) ({ cls := "TourRooms", name := "season", desc := "(I)Z" } : Jvm.MethodName)) ∈ lw_all := lw_g (lw_at lw_m2 132 rfl) rfl
theorem q458 : (Jvm.Cond.code ({ cls := "TourRooms", name := "season", desc := "(I)Z" } : Jvm.MethodName) prog_1_method_18_code (2 : Nat) (Option.some Jvm.ClassFile.FieldType.boolean)) ∈ lw_all := lw_g (lw_at lw_m2 133 rfl) rfl
theorem q460 : (Jvm.Cond.instanceMethod ({ cls := "TourRooms", name := "day", desc := "(I)I" } : Jvm.MethodName)) ∈ lw_all := lw_g (lw_at lw_m2 135 rfl) rfl
theorem q461 : (Jvm.Cond.selects "TourRooms" ({ cls := "TourRooms", name := "day", desc := "(I)I" } : Jvm.MethodName) ({ cls := "TourRooms", name := "day", desc := "(I)I" } : Jvm.MethodName)) ∈ lw_all := lw_g (lw_at lw_m2 136 rfl) rfl
theorem q462 : (Jvm.Cond.code ({ cls := "TourRooms", name := "day", desc := "(I)I" } : Jvm.MethodName) prog_1_method_19_code (2 : Nat) (Option.some Jvm.ClassFile.FieldType.int)) ∈ lw_all := lw_g (lw_at lw_m2 137 rfl) rfl
theorem q464 : (Jvm.Cond.instanceMethod ({ cls := "TourRooms", name := "room", desc := "(IIZI)I" } : Jvm.MethodName)) ∈ lw_all := lw_g (lw_at lw_m2 139 rfl) rfl
theorem q465 : (Jvm.Cond.selects "TourRooms" ({ cls := "TourRooms", name := "room", desc := "(IIZI)I" } : Jvm.MethodName) ({ cls := "TourRooms", name := "room", desc := "(IIZI)I" } : Jvm.MethodName)) ∈ lw_all := lw_g (lw_at lw_m2 140 rfl) rfl
theorem q466 : (Jvm.Cond.code ({ cls := "TourRooms", name := "room", desc := "(IIZI)I" } : Jvm.MethodName) prog_1_method_20_code (6 : Nat) (Option.some Jvm.ClassFile.FieldType.int)) ∈ lw_all := lw_g (lw_at lw_m2 141 rfl) rfl
theorem q467 : (Jvm.Cond.methodLink "TourRooms" (124 : Nat) ({ cls := "TourRooms", name := "isTown", desc := "(I)Z" } : Jvm.MethodName)) ∈ lw_all := lw_g (lw_at lw_m2 142 rfl) rfl
theorem q468 : (Jvm.Cond.privateMethod ({ cls := "TourRooms", name := "isTown", desc := "(I)Z" } : Jvm.MethodName)) ∈ lw_tbl := lw_at lw_m2 143 rfl
theorem q469 : (Jvm.Cond.instanceMethod ({ cls := "TourRooms", name := "isTown", desc := "(I)Z" } : Jvm.MethodName)) ∈ lw_all := lw_g (lw_at lw_m2 144 rfl) rfl
theorem q470 : (Jvm.Cond.code ({ cls := "TourRooms", name := "isTown", desc := "(I)Z" } : Jvm.MethodName) prog_1_method_4_code (2 : Nat) (Option.some Jvm.ClassFile.FieldType.boolean)) ∈ lw_all := lw_g (lw_at lw_m2 145 rfl) rfl
theorem q471 : (Jvm.Cond.classLink "TourRooms" (191 : Nat) "TourRooms$Room") ∈ lw_all := lw_g (lw_at lw_m2 146 rfl) rfl
theorem q473 : (Jvm.Cond.methodLink "TourRooms" (193 : Nat) ({ cls := "TourRooms$Room", name := "<init>", desc := "(IZI)V" } : Jvm.MethodName)) ∈ lw_all := lw_g (lw_at lw_m2 148 rfl) rfl
theorem q478 : (Jvm.Cond.fieldLinkNest "TourRooms" (205 : Nat) "TourRooms$Room" "beds" "I" "TourRooms") ∈ lw_tbl := lw_at lw_m2 153 rfl
theorem q481 : (Jvm.Cond.fieldLinkNest "TourRooms" (235 : Nat) "TourRooms$Room" "price" "I" "TourRooms") ∈ lw_tbl := lw_at lw_m2 156 rfl
theorem q483 : (Jvm.Cond.fieldLinkNest "TourRooms" (214 : Nat) "TourRooms$Room" "low" "Z" "TourRooms") ∈ lw_tbl := lw_at lw_m2 158 rfl
theorem q486 : (Jvm.Cond.fieldLinkNest "TourRooms" (196 : Nat) "TourRooms$Room" "held" "Z" "TourRooms") ∈ lw_tbl := lw_at lw_m2 161 rfl
theorem q497 : (Jvm.Cond.instanceMethod ({ cls := "TourRooms", name := "put", desc := "(III)Z" } : Jvm.MethodName)) ∈ lw_all := lw_g (lw_at lw_m2 172 rfl) rfl
theorem q498 : (Jvm.Cond.selects "TourRooms" ({ cls := "TourRooms", name := "put", desc := "(III)Z" } : Jvm.MethodName) ({ cls := "TourRooms", name := "put", desc := "(III)Z" } : Jvm.MethodName)) ∈ lw_all := lw_g (lw_at lw_m2 173 rfl) rfl
theorem q499 : (Jvm.Cond.code ({ cls := "TourRooms", name := "put", desc := "(III)Z" } : Jvm.MethodName) prog_1_method_22_code (5 : Nat) (Option.some Jvm.ClassFile.FieldType.boolean)) ∈ lw_all := lw_g (lw_at lw_m2 174 rfl) rfl
theorem q500 : (Jvm.Cond.methodLink "TourRooms" (219 : Nat) ({ cls := "TourRooms$Person", name := "isThere", desc := "(I)Z" } : Jvm.MethodName)) ∈ lw_all := lw_g (lw_at lw_m2 175 rfl) rfl
theorem q505 : (Jvm.Cond.methodLink "TourRooms" (222 : Nat) ({ cls := "TourRooms", name := "isRoom", desc := "(II)Z" } : Jvm.MethodName)) ∈ lw_all := lw_g (lw_at lw_m2 180 rfl) rfl
theorem q506 : (Jvm.Cond.privateMethod ({ cls := "TourRooms", name := "isRoom", desc := "(II)Z" } : Jvm.MethodName)) ∈ lw_tbl := lw_at lw_m2 181 rfl
theorem q507 : (Jvm.Cond.instanceMethod ({ cls := "TourRooms", name := "isRoom", desc := "(II)Z" } : Jvm.MethodName)) ∈ lw_all := lw_g (lw_at lw_m2 182 rfl) rfl
theorem q508 : (Jvm.Cond.code ({ cls := "TourRooms", name := "isRoom", desc := "(II)Z" } : Jvm.MethodName) prog_1_method_6_code (3 : Nat) (Option.some Jvm.ClassFile.FieldType.boolean)) ∈ lw_all := lw_g (lw_at lw_m2 183 rfl) rfl
theorem q509 : (Jvm.Cond.methodLink "TourRooms" (226 : Nat) ({ cls := "TourRooms$Town", name := "inside", desc := "(I)I" } : Jvm.MethodName)) ∈ lw_all := lw_g (lw_at lw_m2 184 rfl) rfl
theorem q513 : (Jvm.Cond.methodLink "TourRooms" (229 : Nat) ({ cls := "TourRooms", name := "joins", desc := "(LTourRooms$Room;II)Z" } : Jvm.MethodName)) ∈ lw_all := lw_g (lw_at lw_m2 188 rfl) rfl
theorem q514 : (Jvm.Cond.privateMethod ({ cls := "TourRooms", name := "joins", desc := "(LTourRooms$Room;II)Z" } : Jvm.MethodName)) ∈ lw_tbl := lw_at lw_m2 189 rfl
theorem q515 : (Jvm.Cond.instanceMethod ({ cls := "TourRooms", name := "joins", desc := "(LTourRooms$Room;II)Z" } : Jvm.MethodName)) ∈ lw_all := lw_g (lw_at lw_m2 190 rfl) rfl
theorem q516 : (Jvm.Cond.code ({ cls := "TourRooms", name := "joins", desc := "(LTourRooms$Room;II)Z" } : Jvm.MethodName) prog_1_method_23_code (4 : Nat) (Option.some Jvm.ClassFile.FieldType.boolean)) ∈ lw_all := lw_g (lw_at lw_m2 191 rfl) rfl
theorem q517 : (Jvm.Cond.methodLink "TourRooms" (199 : Nat) ({ cls := "java/lang/Integer", name := "bitCount", desc := "(I)I" } : Jvm.MethodName)) ∈ lw_all := lw_g (lw_at lw_m2 192 rfl) rfl
theorem q523 : (Jvm.Cond.methodLink "TourRooms" (208 : Nat) ({ cls := "java/lang/Integer", name := "numberOfTrailingZeros", desc := "(I)I" } : Jvm.MethodName)) ∈ lw_all := lw_g (lw_at lw_m2 198 rfl) rfl
theorem q527 : (Jvm.Cond.methodLink "TourRooms" (215 : Nat) ({ cls := "TourRooms$Person", name := "mayShare", desc := "(LTourRooms$Person;)Z" } : Jvm.MethodName)) ∈ lw_all := lw_g (lw_at lw_m2 202 rfl) rfl
theorem q532 : (Jvm.Cond.instanceMethod ({ cls := "TourRooms", name := "settle", desc := "(II)I" } : Jvm.MethodName)) ∈ lw_all := lw_g (lw_at lw_m2 207 rfl) rfl
theorem q533 : (Jvm.Cond.selects "TourRooms" ({ cls := "TourRooms", name := "settle", desc := "(II)I" } : Jvm.MethodName) ({ cls := "TourRooms", name := "settle", desc := "(II)I" } : Jvm.MethodName)) ∈ lw_all := lw_g (lw_at lw_m2 208 rfl) rfl
theorem q534 : (Jvm.Cond.code ({ cls := "TourRooms", name := "settle", desc := "(II)I" } : Jvm.MethodName) prog_1_method_27_code (10 : Nat) (Option.some Jvm.ClassFile.FieldType.int)) ∈ lw_all := lw_g (lw_at lw_m2 209 rfl) rfl
theorem q535 : (Jvm.Cond.methodLink "TourRooms" (255 : Nat) ({ cls := "TourRooms", name := "there", desc := "(I)I" } : Jvm.MethodName)) ∈ lw_all := lw_g (lw_at lw_m2 210 rfl) rfl
theorem q536 : (Jvm.Cond.privateMethod ({ cls := "TourRooms", name := "there", desc := "(I)I" } : Jvm.MethodName)) ∈ lw_tbl := lw_at lw_m2 211 rfl
theorem q537 : (Jvm.Cond.instanceMethod ({ cls := "TourRooms", name := "there", desc := "(I)I" } : Jvm.MethodName)) ∈ lw_all := lw_g (lw_at lw_m2 212 rfl) rfl
theorem q538 : (Jvm.Cond.code ({ cls := "TourRooms", name := "there", desc := "(I)I" } : Jvm.MethodName) prog_1_method_24_code (4 : Nat) (Option.some Jvm.ClassFile.FieldType.int)) ∈ lw_all := lw_g (lw_at lw_m2 213 rfl) rfl
theorem q539 : (Jvm.Cond.constantLong "TourRooms" (240 : Nat) (1125899906842624 : Int64)) ∈ lw_all := lw_g (lw_at lw_m2 214 rfl) rfl
theorem q540 : (Jvm.Cond.methodLink "TourRooms" (258 : Nat) ({ cls := "TourRooms", name := "best", desc := "(LTourRooms$Town;III)J" } : Jvm.MethodName)) ∈ lw_all := lw_g (lw_at lw_m2 215 rfl) rfl
theorem q541 : (Jvm.Cond.privateMethod ({ cls := "TourRooms", name := "best", desc := "(LTourRooms$Town;III)J" } : Jvm.MethodName)) ∈ lw_tbl := lw_at lw_m2 216 rfl
theorem q542 : (Jvm.Cond.instanceMethod ({ cls := "TourRooms", name := "best", desc := "(LTourRooms$Town;III)J" } : Jvm.MethodName)) ∈ lw_all := lw_g (lw_at lw_m2 217 rfl) rfl
theorem q543 : (Jvm.Cond.code ({ cls := "TourRooms", name := "best", desc := "(LTourRooms$Town;III)J" } : Jvm.MethodName) prog_1_method_26_code (10 : Nat) (Option.some Jvm.ClassFile.FieldType.long)) ∈ lw_all := lw_g (lw_at lw_m2 218 rfl) rfl
theorem q544 : (Jvm.Cond.methodLink "TourRooms" (242 : Nat) ({ cls := "TourRooms", name := "fits", desc := "(LTourRooms$Room;I)Z" } : Jvm.MethodName)) ∈ lw_all := lw_g (lw_at lw_m2 219 rfl) rfl
theorem q545 : (Jvm.Cond.privateMethod ({ cls := "TourRooms", name := "fits", desc := "(LTourRooms$Room;I)Z" } : Jvm.MethodName)) ∈ lw_tbl := lw_at lw_m2 220 rfl
theorem q546 : (Jvm.Cond.instanceMethod ({ cls := "TourRooms", name := "fits", desc := "(LTourRooms$Room;I)Z" } : Jvm.MethodName)) ∈ lw_all := lw_g (lw_at lw_m2 221 rfl) rfl
theorem q547 : (Jvm.Cond.code ({ cls := "TourRooms", name := "fits", desc := "(LTourRooms$Room;I)Z" } : Jvm.MethodName) prog_1_method_21_code (6 : Nat) (Option.some Jvm.ClassFile.FieldType.boolean)) ∈ lw_all := lw_g (lw_at lw_m2 222 rfl) rfl
theorem q548 : (Jvm.Cond.methodLink "TourRooms" (246 : Nat) ({ cls := "TourRooms", name := "price", desc := "(LTourRooms$Town;III)J" } : Jvm.MethodName)) ∈ lw_all := lw_g (lw_at lw_m2 223 rfl) rfl
theorem q549 : (Jvm.Cond.privateMethod ({ cls := "TourRooms", name := "price", desc := "(LTourRooms$Town;III)J" } : Jvm.MethodName)) ∈ lw_tbl := lw_at lw_m2 224 rfl
theorem q550 : (Jvm.Cond.instanceMethod ({ cls := "TourRooms", name := "price", desc := "(LTourRooms$Town;III)J" } : Jvm.MethodName)) ∈ lw_all := lw_g (lw_at lw_m2 225 rfl) rfl
theorem q551 : (Jvm.Cond.code ({ cls := "TourRooms", name := "price", desc := "(LTourRooms$Town;III)J" } : Jvm.MethodName) prog_1_method_25_code (7 : Nat) (Option.some Jvm.ClassFile.FieldType.long)) ∈ lw_all := lw_g (lw_at lw_m2 226 rfl) rfl
theorem q552 : (Jvm.Cond.constantLong "TourRooms" (233 : Nat) (16 : Int64)) ∈ lw_all := lw_g (lw_at lw_m2 227 rfl) rfl
theorem q553 : (Jvm.Cond.constantLong "TourRooms" (238 : Nat) (16384 : Int64)) ∈ lw_all := lw_g (lw_at lw_m2 228 rfl) rfl
theorem q554 : (Jvm.Cond.methodLink "TourRooms" (249 : Nat) ({ cls := "java/lang/Math", name := "min", desc := "(JJ)J" } : Jvm.MethodName)) ∈ lw_all := lw_g (lw_at lw_m2 229 rfl) rfl
theorem q557 : (Jvm.Cond.methodLink "TourRooms" (261 : Nat) ({ cls := "TourRooms", name := "isBest", desc := "(LTourRooms$Town;IIII)Z" } : Jvm.MethodName)) ∈ lw_all := lw_g (lw_at lw_m2 232 rfl) rfl
theorem q558 : (Jvm.Cond.privateMethod ({ cls := "TourRooms", name := "isBest", desc := "(LTourRooms$Town;IIII)Z" } : Jvm.MethodName)) ∈ lw_tbl := lw_at lw_m2 233 rfl
theorem q559 : (Jvm.Cond.instanceMethod ({ cls := "TourRooms", name := "isBest", desc := "(LTourRooms$Town;IIII)Z" } : Jvm.MethodName)) ∈ lw_all := lw_g (lw_at lw_m2 234 rfl) rfl
theorem q560 : (Jvm.Cond.code ({ cls := "TourRooms", name := "isBest", desc := "(LTourRooms$Town;IIII)Z" } : Jvm.MethodName) prog_1_method_28_code (6 : Nat) (Option.some Jvm.ClassFile.FieldType.boolean)) ∈ lw_all := lw_g (lw_at lw_m2 235 rfl) rfl
theorem q561 : (Jvm.Cond.methodLink "TourRooms" (265 : Nat) ({ cls := "TourRooms$Town", name := "cost", desc := "()I" } : Jvm.MethodName)) ∈ lw_all := lw_g (lw_at lw_m2 236 rfl) rfl
theorem q567 : (Jvm.Cond.instanceMethod ({ cls := "TourRooms", name := "moved", desc := "()I" } : Jvm.MethodName)) ∈ lw_all := lw_g (lw_at lw_m3 2 rfl) rfl
theorem q568 : (Jvm.Cond.selects "TourRooms" ({ cls := "TourRooms", name := "moved", desc := "()I" } : Jvm.MethodName) ({ cls := "TourRooms", name := "moved", desc := "()I" } : Jvm.MethodName)) ∈ lw_all := lw_g (lw_at lw_m3 3 rfl) rfl
theorem q569 : (Jvm.Cond.code ({ cls := "TourRooms", name := "moved", desc := "()I" } : Jvm.MethodName) prog_1_method_29_code (1 : Nat) (Option.some Jvm.ClassFile.FieldType.int)) ∈ lw_all := lw_g (lw_at lw_m3 4 rfl) rfl
theorem q571 : (Jvm.Cond.instanceMethod ({ cls := "TourRooms", name := "most", desc := "(I)I" } : Jvm.MethodName)) ∈ lw_all := lw_g (lw_at lw_m3 6 rfl) rfl
theorem q572 : (Jvm.Cond.selects "TourRooms" ({ cls := "TourRooms", name := "most", desc := "(I)I" } : Jvm.MethodName) ({ cls := "TourRooms", name := "most", desc := "(I)I" } : Jvm.MethodName)) ∈ lw_all := lw_g (lw_at lw_m3 7 rfl) rfl
theorem q573 : (Jvm.Cond.code ({ cls := "TourRooms", name := "most", desc := "(I)I" } : Jvm.MethodName) prog_1_method_30_code (6 : Nat) (Option.some Jvm.ClassFile.FieldType.int)) ∈ lw_all := lw_g (lw_at lw_m3 8 rfl) rfl
theorem q574 : (Jvm.Cond.methodLink "TourRooms" (269 : Nat) ({ cls := "TourRooms", name := "mostOf", desc := "(LTourRooms$Town;II)J" } : Jvm.MethodName)) ∈ lw_all := lw_g (lw_at lw_m3 9 rfl) rfl
theorem q575 : (Jvm.Cond.privateMethod ({ cls := "TourRooms", name := "mostOf", desc := "(LTourRooms$Town;II)J" } : Jvm.MethodName)) ∈ lw_tbl := lw_at lw_m3 10 rfl
theorem q576 : (Jvm.Cond.instanceMethod ({ cls := "TourRooms", name := "mostOf", desc := "(LTourRooms$Town;II)J" } : Jvm.MethodName)) ∈ lw_all := lw_g (lw_at lw_m3 11 rfl) rfl
theorem q577 : (Jvm.Cond.code ({ cls := "TourRooms", name := "mostOf", desc := "(LTourRooms$Town;II)J" } : Jvm.MethodName) prog_1_method_31_code (9 : Nat) (Option.some Jvm.ClassFile.FieldType.long)) ∈ lw_all := lw_g (lw_at lw_m3 12 rfl) rfl
theorem q578 : (Jvm.Cond.methodLink "TourRooms" (273 : Nat) ({ cls := "java/lang/Math", name := "max", desc := "(JJ)J" } : Jvm.MethodName)) ∈ lw_all := lw_g (lw_at lw_m3 13 rfl) rfl
theorem q582 : (Jvm.Cond.instanceMethod ({ cls := "TourRooms", name := "right", desc := "(I)Z" } : Jvm.MethodName)) ∈ lw_all := lw_g (lw_at lw_m3 17 rfl) rfl
theorem q583 : (Jvm.Cond.selects "TourRooms" ({ cls := "TourRooms", name := "right", desc := "(I)Z" } : Jvm.MethodName) ({ cls := "TourRooms", name := "right", desc := "(I)Z" } : Jvm.MethodName)) ∈ lw_all := lw_g (lw_at lw_m3 18 rfl) rfl
theorem q584 : (Jvm.Cond.code ({ cls := "TourRooms", name := "right", desc := "(I)Z" } : Jvm.MethodName) prog_1_method_33_code (2 : Nat) (Option.some Jvm.ClassFile.FieldType.boolean)) ∈ lw_all := lw_g (lw_at lw_m3 19 rfl) rfl
theorem q585 : (Jvm.Cond.methodLink "TourRooms" (276 : Nat) ({ cls := "TourRooms", name := "isRight", desc := "(I)Z" } : Jvm.MethodName)) ∈ lw_all := lw_g (lw_at lw_m3 20 rfl) rfl
theorem q586 : (Jvm.Cond.privateMethod ({ cls := "TourRooms", name := "isRight", desc := "(I)Z" } : Jvm.MethodName)) ∈ lw_tbl := lw_at lw_m3 21 rfl
theorem q587 : (Jvm.Cond.instanceMethod ({ cls := "TourRooms", name := "isRight", desc := "(I)Z" } : Jvm.MethodName)) ∈ lw_all := lw_g (lw_at lw_m3 22 rfl) rfl
theorem q588 : (Jvm.Cond.code ({ cls := "TourRooms", name := "isRight", desc := "(I)Z" } : Jvm.MethodName) prog_1_method_32_code (5 : Nat) (Option.some Jvm.ClassFile.FieldType.boolean)) ∈ lw_all := lw_g (lw_at lw_m3 23 rfl) rfl
theorem q590 : (Jvm.Cond.instanceMethod ({ cls := "TourRooms", name := "listed", desc := "(III)I" } : Jvm.MethodName)) ∈ lw_all := lw_g (lw_at lw_m3 25 rfl) rfl
theorem q591 : (Jvm.Cond.selects "TourRooms" ({ cls := "TourRooms", name := "listed", desc := "(III)I" } : Jvm.MethodName) ({ cls := "TourRooms", name := "listed", desc := "(III)I" } : Jvm.MethodName)) ∈ lw_all := lw_g (lw_at lw_m3 26 rfl) rfl
theorem q592 : (Jvm.Cond.code ({ cls := "TourRooms", name := "listed", desc := "(III)I" } : Jvm.MethodName) prog_1_method_34_code (5 : Nat) (Option.some Jvm.ClassFile.FieldType.int)) ∈ lw_all := lw_g (lw_at lw_m3 27 rfl) rfl
theorem q594 : (Jvm.Cond.instanceMethod ({ cls := "TourRooms", name := "feed", desc := "(JJJ)I" } : Jvm.MethodName)) ∈ lw_all := lw_g (lw_at lw_m3 29 rfl) rfl
theorem q595 : (Jvm.Cond.selects "TourRooms" ({ cls := "TourRooms", name := "feed", desc := "(JJJ)I" } : Jvm.MethodName) ({ cls := "TourRooms", name := "feed", desc := "(JJJ)I" } : Jvm.MethodName)) ∈ lw_all := lw_g (lw_at lw_m3 30 rfl) rfl
theorem q596 : (Jvm.Cond.code ({ cls := "TourRooms", name := "feed", desc := "(JJJ)I" } : Jvm.MethodName) prog_1_method_35_code (9 : Nat) (Option.some Jvm.ClassFile.FieldType.int)) ∈ lw_all := lw_g (lw_at lw_m3 31 rfl) rfl
theorem q598 : (Jvm.Cond.instanceMethod ({ cls := "TourRooms", name := "read", desc := "(I)I" } : Jvm.MethodName)) ∈ lw_all := lw_g (lw_at lw_m3 33 rfl) rfl
theorem q599 : (Jvm.Cond.selects "TourRooms" ({ cls := "TourRooms", name := "read", desc := "(I)I" } : Jvm.MethodName) ({ cls := "TourRooms", name := "read", desc := "(I)I" } : Jvm.MethodName)) ∈ lw_all := lw_g (lw_at lw_m3 34 rfl) rfl
theorem q600 : (Jvm.Cond.codeWith ({ cls := "TourRooms", name := "read", desc := "(I)I" } : Jvm.MethodName) prog_1_method_36_code (4 : Nat) (Option.some Jvm.ClassFile.FieldType.int) [((12 : Nat), (32 : Nat), (35 : Nat), (295 : Nat))]) ∈ lw_all := lw_g (lw_at lw_m3 35 rfl) rfl
theorem q601 : (Jvm.Cond.classLink "TourRooms" (295 : Nat) "TourRooms$Wrong") ∈ lw_all := lw_g (lw_at lw_m3 36 rfl) rfl
theorem q602 : (Jvm.Cond.classLink "TourRooms" (282 : Nat) "TourRooms$Reader") ∈ lw_all := lw_g (lw_at lw_m3 37 rfl) rfl
theorem q604 : (Jvm.Cond.methodLinkNest "TourRooms" (284 : Nat) ({ cls := "TourRooms$Reader", name := "<init>", desc := "(LTourRooms;)V" } : Jvm.MethodName) "TourRooms") ∈ lw_tbl := lw_at lw_m3 39 rfl
theorem q627 : (Jvm.Cond.methodLink "TourRooms" (287 : Nat) ({ cls := "TourRooms$Reader", name := "whole", desc := "()Ljava/util/ArrayList;" } : Jvm.MethodName)) ∈ lw_all := lw_g (lw_at lw_m3 62 rfl) rfl
theorem q818 : (Jvm.Cond.fieldLinkNest "TourRooms" (297 : Nat) "TourRooms$Wrong" "fault" "I" "TourRooms") ∈ lw_tbl := lw_at lw_m4 13 rfl
theorem q935 : (Jvm.Cond.fieldLinkNest "TourRooms" (311 : Nat) "TourRooms$Rule" "kind" "I" "TourRooms") ∈ lw_tbl := lw_at lw_m4 130 rfl
theorem q937 : (Jvm.Cond.fieldLinkNest "TourRooms" (324 : Nat) "TourRooms$Rule" "tells" "LTourRooms$Exp;" "TourRooms") ∈ lw_tbl := lw_at lw_m4 132 rfl
theorem q939 : (Jvm.Cond.fieldLinkNest "TourRooms" (314 : Nat) "TourRooms$Rule" "when" "LTourRooms$Exp;" "TourRooms") ∈ lw_tbl := lw_at lw_m4 134 rfl
theorem q977 : (Jvm.Cond.selects "TourRooms" ({ cls := "java/lang/Object", name := "getClass", desc := "()Ljava/lang/Class;" } : Jvm.MethodName) ({ cls := "java/lang/Object", name := "getClass", desc := "()Ljava/lang/Class;" } : Jvm.MethodName)) ∈ lw_all := lw_g (lw_at lw_m4 172 rfl) rfl
theorem q1005 : (Jvm.Cond.instanceMethod ({ cls := "TourRooms", name := "worth", desc := "(II)I" } : Jvm.MethodName)) ∈ lw_all := lw_g (lw_at lw_m4 200 rfl) rfl
theorem q1006 : (Jvm.Cond.selects "TourRooms" ({ cls := "TourRooms", name := "worth", desc := "(II)I" } : Jvm.MethodName) ({ cls := "TourRooms", name := "worth", desc := "(II)I" } : Jvm.MethodName)) ∈ lw_all := lw_g (lw_at lw_m4 201 rfl) rfl
theorem q1007 : (Jvm.Cond.code ({ cls := "TourRooms", name := "worth", desc := "(II)I" } : Jvm.MethodName) prog_1_method_39_code (3 : Nat) (Option.some Jvm.ClassFile.FieldType.int)) ∈ lw_all := lw_g (lw_at lw_m4 202 rfl) rfl
theorem q1008 : (Jvm.Cond.methodLink "TourRooms" (349 : Nat) ({ cls := "TourRooms", name := "lays", desc := "(I)LTourRooms$Town;" } : Jvm.MethodName)) ∈ lw_all := lw_g (lw_at lw_m4 203 rfl) rfl
theorem q1009 : (Jvm.Cond.privateMethod ({ cls := "TourRooms", name := "lays", desc := "(I)LTourRooms$Town;" } : Jvm.MethodName)) ∈ lw_tbl := lw_at lw_m4 204 rfl
theorem q1010 : (Jvm.Cond.instanceMethod ({ cls := "TourRooms", name := "lays", desc := "(I)LTourRooms$Town;" } : Jvm.MethodName)) ∈ lw_all := lw_g (lw_at lw_m4 205 rfl) rfl
theorem q1011 : (Jvm.Cond.code ({ cls := "TourRooms", name := "lays", desc := "(I)LTourRooms$Town;" } : Jvm.MethodName) prog_1_method_38_code (3 : Nat) (Option.some (Jvm.ClassFile.FieldType.object "TourRooms$Town"))) ∈ lw_all := lw_g (lw_at lw_m4 206 rfl) rfl
theorem q1012 : (Jvm.Cond.methodLink "TourRooms" (335 : Nat) ({ cls := "TourRooms$Town", name := "held", desc := "()I" } : Jvm.MethodName)) ∈ lw_all := lw_g (lw_at lw_m4 207 rfl) rfl
theorem q1016 : (Jvm.Cond.methodLink "TourRooms" (339 : Nat) ({ cls := "TourRooms$Town", name := "used", desc := "()I" } : Jvm.MethodName)) ∈ lw_all := lw_g (lw_at lw_m4 211 rfl) rfl
theorem q1020 : (Jvm.Cond.methodLink "TourRooms" (344 : Nat) ({ cls := "TourRooms$Town", name := "people", desc := "()I" } : Jvm.MethodName)) ∈ lw_all := lw_g (lw_at lw_m4 215 rfl) rfl
theorem q1024 : (Jvm.Cond.methodLink "TourRooms" (353 : Nat) ({ cls := "TourRooms", name := "worthOf", desc := "(LTourRooms$Town;I)I" } : Jvm.MethodName)) ∈ lw_all := lw_g (lw_at lw_m4 219 rfl) rfl
theorem q1025 : (Jvm.Cond.privateMethod ({ cls := "TourRooms", name := "worthOf", desc := "(LTourRooms$Town;I)I" } : Jvm.MethodName)) ∈ lw_tbl := lw_at lw_m4 220 rfl
theorem q1026 : (Jvm.Cond.instanceMethod ({ cls := "TourRooms", name := "worthOf", desc := "(LTourRooms$Town;I)I" } : Jvm.MethodName)) ∈ lw_all := lw_g (lw_at lw_m4 221 rfl) rfl
theorem q1027 : (Jvm.Cond.code ({ cls := "TourRooms", name := "worthOf", desc := "(LTourRooms$Town;I)I" } : Jvm.MethodName) prog_1_method_37_code (5 : Nat) (Option.some Jvm.ClassFile.FieldType.int)) ∈ lw_all := lw_g (lw_at lw_m4 222 rfl) rfl
theorem q1028 : (Jvm.Cond.methodLink "TourRooms" (300 : Nat) ({ cls := "java/util/ArrayList", name := "size", desc := "()I" } : Jvm.MethodName)) ∈ lw_all := lw_g (lw_at lw_m4 223 rfl) rfl
theorem q1029 : (Jvm.Cond.methodLink "TourRooms" (305 : Nat) ({ cls := "java/util/ArrayList", name := "get", desc := "(I)Ljava/lang/Object;" } : Jvm.MethodName)) ∈ lw_all := lw_g (lw_at lw_m4 224 rfl) rfl
theorem q1041 : (Jvm.Cond.classLink "TourRooms" (309 : Nat) "TourRooms$Rule") ∈ lw_all := lw_g (lw_at lw_m4 236 rfl) rfl
theorem q1042 : (Jvm.Cond.methodLink "TourRooms" (318 : Nat) ({ cls := "TourRooms$Exp", name := "of", desc := "(LTourRooms$State;)I" } : Jvm.MethodName)) ∈ lw_all := lw_g (lw_at lw_m4 237 rfl) rfl
theorem q1069 : (Jvm.Cond.methodLink "TourRooms" (327 : Nat) ({ cls := "java/lang/Math", name := "min", desc := "(II)I" } : Jvm.MethodName)) ∈ lw_all := lw_g (lw_at lw_m5 24 rfl) rfl
theorem q1070 : (Jvm.Cond.methodLink "TourRooms" (330 : Nat) ({ cls := "java/lang/Math", name := "max", desc := "(II)I" } : Jvm.MethodName)) ∈ lw_all := lw_g (lw_at lw_m5 25 rfl) rfl
theorem q1072 : (Jvm.Cond.instanceMethod ({ cls := "TourRooms", name := "give", desc := "(II)I" } : Jvm.MethodName)) ∈ lw_all := lw_g (lw_at lw_m5 27 rfl) rfl
theorem q1073 : (Jvm.Cond.selects "TourRooms" ({ cls := "TourRooms", name := "give", desc := "(II)I" } : Jvm.MethodName) ({ cls := "TourRooms", name := "give", desc := "(II)I" } : Jvm.MethodName)) ∈ lw_all := lw_g (lw_at lw_m5 28 rfl) rfl
theorem q1074 : (Jvm.Cond.code ({ cls := "TourRooms", name := "give", desc := "(II)I" } : Jvm.MethodName) prog_1_method_41_code (4 : Nat) (Option.some Jvm.ClassFile.FieldType.int)) ∈ lw_all := lw_g (lw_at lw_m5 29 rfl) rfl
theorem q1075 : (Jvm.Cond.methodLink "TourRooms" (360 : Nat) ({ cls := "TourRooms", name := "costs", desc := "(III)I" } : Jvm.MethodName)) ∈ lw_all := lw_g (lw_at lw_m5 30 rfl) rfl
theorem q1076 : (Jvm.Cond.privateMethod ({ cls := "TourRooms", name := "costs", desc := "(III)I" } : Jvm.MethodName)) ∈ lw_tbl := lw_at lw_m5 31 rfl
theorem q1077 : (Jvm.Cond.instanceMethod ({ cls := "TourRooms", name := "costs", desc := "(III)I" } : Jvm.MethodName)) ∈ lw_all := lw_g (lw_at lw_m5 32 rfl) rfl
theorem q1078 : (Jvm.Cond.code ({ cls := "TourRooms", name := "costs", desc := "(III)I" } : Jvm.MethodName) prog_1_method_40_code (6 : Nat) (Option.some Jvm.ClassFile.FieldType.int)) ∈ lw_all := lw_g (lw_at lw_m5 33 rfl) rfl
theorem q1080 : (Jvm.Cond.instanceMethod ({ cls := "TourRooms", name := "buy", desc := "(II)I" } : Jvm.MethodName)) ∈ lw_all := lw_g (lw_at lw_m5 35 rfl) rfl
theorem q1081 : (Jvm.Cond.selects "TourRooms" ({ cls := "TourRooms", name := "buy", desc := "(II)I" } : Jvm.MethodName) ({ cls := "TourRooms", name := "buy", desc := "(II)I" } : Jvm.MethodName)) ∈ lw_all := lw_g (lw_at lw_m5 36 rfl) rfl
theorem q1082 : (Jvm.Cond.code ({ cls := "TourRooms", name := "buy", desc := "(II)I" } : Jvm.MethodName) prog_1_method_42_code (4 : Nat) (Option.some Jvm.ClassFile.FieldType.int)) ∈ lw_all := lw_g (lw_at lw_m5 37 rfl) rfl
theorem q1084 : (Jvm.Cond.instanceMethod ({ cls := "TourRooms", name := "loss", desc := "(IIIII)I" } : Jvm.MethodName)) ∈ lw_all := lw_g (lw_at lw_m5 39 rfl) rfl
theorem q1085 : (Jvm.Cond.selects "TourRooms" ({ cls := "TourRooms", name := "loss", desc := "(IIIII)I" } : Jvm.MethodName) ({ cls := "TourRooms", name := "loss", desc := "(IIIII)I" } : Jvm.MethodName)) ∈ lw_all := lw_g (lw_at lw_m5 40 rfl) rfl
theorem q1086 : (Jvm.Cond.code ({ cls := "TourRooms", name := "loss", desc := "(IIIII)I" } : Jvm.MethodName) prog_1_method_46_code (12 : Nat) (Option.some Jvm.ClassFile.FieldType.int)) ∈ lw_all := lw_g (lw_at lw_m5 41 rfl) rfl
theorem q1087 : (Jvm.Cond.methodLink "TourRooms" (371 : Nat) ({ cls := "TourRooms", name := "isLoss", desc := "(IIIII)Z" } : Jvm.MethodName)) ∈ lw_all := lw_g (lw_at lw_m5 42 rfl) rfl
theorem q1088 : (Jvm.Cond.privateMethod ({ cls := "TourRooms", name := "isLoss", desc := "(IIIII)Z" } : Jvm.MethodName)) ∈ lw_tbl := lw_at lw_m5 43 rfl
theorem q1089 : (Jvm.Cond.instanceMethod ({ cls := "TourRooms", name := "isLoss", desc := "(IIIII)Z" } : Jvm.MethodName)) ∈ lw_all := lw_g (lw_at lw_m5 44 rfl) rfl
theorem q1090 : (Jvm.Cond.code ({ cls := "TourRooms", name := "isLoss", desc := "(IIIII)Z" } : Jvm.MethodName) prog_1_method_45_code (6 : Nat) (Option.some Jvm.ClassFile.FieldType.boolean)) ∈ lw_all := lw_g (lw_at lw_m5 45 rfl) rfl
theorem q1091 : (Jvm.Cond.methodLink "TourRooms" (375 : Nat) ({ cls := "TourRooms", name := "lossOf", desc := "(LTourRooms$Town;IIIII)I" } : Jvm.MethodName)) ∈ lw_all := lw_g (lw_at lw_m5 46 rfl) rfl
theorem q1092 : (Jvm.Cond.privateMethod ({ cls := "TourRooms", name := "lossOf", desc := "(LTourRooms$Town;IIIII)I" } : Jvm.MethodName)) ∈ lw_tbl := lw_at lw_m5 47 rfl
theorem q1093 : (Jvm.Cond.instanceMethod ({ cls := "TourRooms", name := "lossOf", desc := "(LTourRooms$Town;IIIII)I" } : Jvm.MethodName)) ∈ lw_all := lw_g (lw_at lw_m5 48 rfl) rfl
theorem q1094 : (Jvm.Cond.code ({ cls := "TourRooms", name := "lossOf", desc := "(LTourRooms$Town;IIIII)I" } : Jvm.MethodName) prog_1_method_44_code (11 : Nat) (Option.some Jvm.ClassFile.FieldType.int)) ∈ lw_all := lw_g (lw_at lw_m5 49 rfl) rfl
theorem q1095 : (Jvm.Cond.methodLink "TourRooms" (364 : Nat) ({ cls := "TourRooms", name := "worstOf", desc := "(IIIII)I" } : Jvm.MethodName)) ∈ lw_all := lw_g (lw_at lw_m5 50 rfl) rfl
theorem q1096 : (Jvm.Cond.privateMethod ({ cls := "TourRooms", name := "worstOf", desc := "(IIIII)I" } : Jvm.MethodName)) ∈ lw_tbl := lw_at lw_m5 51 rfl
theorem q1097 : (Jvm.Cond.instanceMethod ({ cls := "TourRooms", name := "worstOf", desc := "(IIIII)I" } : Jvm.MethodName)) ∈ lw_all := lw_g (lw_at lw_m5 52 rfl) rfl
theorem q1098 : (Jvm.Cond.code ({ cls := "TourRooms", name := "worstOf", desc := "(IIIII)I" } : Jvm.MethodName) prog_1_method_43_code (8 : Nat) (Option.some Jvm.ClassFile.FieldType.int)) ∈ lw_all := lw_g (lw_at lw_m5 53 rfl) rfl
theorem q1100 : (Jvm.Cond.instanceMethod ({ cls := "TourRooms", name := "gives", desc := "(IIIII)I" } : Jvm.MethodName)) ∈ lw_all := lw_g (lw_at lw_m5 55 rfl) rfl
theorem q1101 : (Jvm.Cond.selects "TourRooms" ({ cls := "TourRooms", name := "gives", desc := "(IIIII)I" } : Jvm.MethodName) ({ cls := "TourRooms", name := "gives", desc := "(IIIII)I" } : Jvm.MethodName)) ∈ lw_all := lw_g (lw_at lw_m5 56 rfl) rfl
theorem q1102 : (Jvm.Cond.code ({ cls := "TourRooms", name := "gives", desc := "(IIIII)I" } : Jvm.MethodName) prog_1_method_47_code (6 : Nat) (Option.some Jvm.ClassFile.FieldType.int)) ∈ lw_all := lw_g (lw_at lw_m5 57 rfl) rfl
theorem q1103 : (Jvm.Cond.methodLink "TourRooms" (379 : Nat) ({ cls := "TourRooms", name := "loss", desc := "(IIIII)I" } : Jvm.MethodName)) ∈ lw_all := lw_g (lw_at lw_m5 58 rfl) rfl
theorem q1105 : (Jvm.Cond.instanceMethod ({ cls := "TourRooms", name := "sight", desc := "(III)I" } : Jvm.MethodName)) ∈ lw_all := lw_g (lw_at lw_m5 60 rfl) rfl
theorem q1106 : (Jvm.Cond.selects "TourRooms" ({ cls := "TourRooms", name := "sight", desc := "(III)I" } : Jvm.MethodName) ({ cls := "TourRooms", name := "sight", desc := "(III)I" } : Jvm.MethodName)) ∈ lw_all := lw_g (lw_at lw_m5 61 rfl) rfl
theorem q1107 : (Jvm.Cond.code ({ cls := "TourRooms", name := "sight", desc := "(III)I" } : Jvm.MethodName) prog_1_method_48_code (4 : Nat) (Option.some Jvm.ClassFile.FieldType.int)) ∈ lw_all := lw_g (lw_at lw_m5 62 rfl) rfl
theorem q1109 : (Jvm.Cond.instanceMethod ({ cls := "TourRooms", name := "way", desc := "(III)Z" } : Jvm.MethodName)) ∈ lw_all := lw_g (lw_at lw_m5 64 rfl) rfl
theorem q1110 : (Jvm.Cond.selects "TourRooms" ({ cls := "TourRooms", name := "way", desc := "(III)Z" } : Jvm.MethodName) ({ cls := "TourRooms", name := "way", desc := "(III)Z" } : Jvm.MethodName)) ∈ lw_all := lw_g (lw_at lw_m5 65 rfl) rfl
theorem q1111 : (Jvm.Cond.code ({ cls := "TourRooms", name := "way", desc := "(III)Z" } : Jvm.MethodName) prog_1_method_49_code (4 : Nat) (Option.some Jvm.ClassFile.FieldType.boolean)) ∈ lw_all := lw_g (lw_at lw_m5 66 rfl) rfl
theorem q1113 : (Jvm.Cond.instanceMethod ({ cls := "TourRooms", name := "clear", desc := "()I" } : Jvm.MethodName)) ∈ lw_all := lw_g (lw_at lw_m5 68 rfl) rfl
theorem q1114 : (Jvm.Cond.selects "TourRooms" ({ cls := "TourRooms", name := "clear", desc := "()I" } : Jvm.MethodName) ({ cls := "TourRooms", name := "clear", desc := "()I" } : Jvm.MethodName)) ∈ lw_all := lw_g (lw_at lw_m5 69 rfl) rfl
theorem q1115 : (Jvm.Cond.code ({ cls := "TourRooms", name := "clear", desc := "()I" } : Jvm.MethodName) prog_1_method_50_code (4 : Nat) (Option.some Jvm.ClassFile.FieldType.int)) ∈ lw_all := lw_g (lw_at lw_m5 70 rfl) rfl
theorem q1117 : (Jvm.Cond.instanceMethod ({ cls := "TourRooms", name := "trip", desc := "(I)I" } : Jvm.MethodName)) ∈ lw_all := lw_g (lw_at lw_m5 72 rfl) rfl
theorem q1118 : (Jvm.Cond.selects "TourRooms" ({ cls := "TourRooms", name := "trip", desc := "(I)I" } : Jvm.MethodName) ({ cls := "TourRooms", name := "trip", desc := "(I)I" } : Jvm.MethodName)) ∈ lw_all := lw_g (lw_at lw_m5 73 rfl) rfl
theorem q1119 : (Jvm.Cond.code ({ cls := "TourRooms", name := "trip", desc := "(I)I" } : Jvm.MethodName) prog_1_method_54_code (2 : Nat) (Option.some Jvm.ClassFile.FieldType.int)) ∈ lw_all := lw_g (lw_at lw_m5 74 rfl) rfl
theorem q1120 : (Jvm.Cond.methodLink "TourRooms" (395 : Nat) ({ cls := "TourRooms", name := "goes", desc := "(IIIIII)V" } : Jvm.MethodName)) ∈ lw_all := lw_g (lw_at lw_m5 75 rfl) rfl
theorem q1121 : (Jvm.Cond.privateMethod ({ cls := "TourRooms", name := "goes", desc := "(IIIIII)V" } : Jvm.MethodName)) ∈ lw_tbl := lw_at lw_m5 76 rfl
theorem q1122 : (Jvm.Cond.instanceMethod ({ cls := "TourRooms", name := "goes", desc := "(IIIIII)V" } : Jvm.MethodName)) ∈ lw_all := lw_g (lw_at lw_m5 77 rfl) rfl
theorem q1123 : (Jvm.Cond.code ({ cls := "TourRooms", name := "goes", desc := "(IIIIII)V" } : Jvm.MethodName) prog_1_method_52_code (14 : Nat) (Option.none : Option Jvm.ClassFile.FieldType)) ∈ lw_all := lw_g (lw_at lw_m5 78 rfl) rfl
theorem q1124 : (Jvm.Cond.methodLink "TourRooms" (391 : Nat) ({ cls := "TourRooms", name := "home", desc := "(IIIIII)V" } : Jvm.MethodName)) ∈ lw_all := lw_g (lw_at lw_m5 79 rfl) rfl
theorem q1125 : (Jvm.Cond.privateMethod ({ cls := "TourRooms", name := "home", desc := "(IIIIII)V" } : Jvm.MethodName)) ∈ lw_tbl := lw_at lw_m5 80 rfl
theorem q1126 : (Jvm.Cond.instanceMethod ({ cls := "TourRooms", name := "home", desc := "(IIIIII)V" } : Jvm.MethodName)) ∈ lw_all := lw_g (lw_at lw_m5 81 rfl) rfl
theorem q1127 : (Jvm.Cond.code ({ cls := "TourRooms", name := "home", desc := "(IIIIII)V" } : Jvm.MethodName) prog_1_method_53_code (11 : Nat) (Option.none : Option Jvm.ClassFile.FieldType)) ∈ lw_all := lw_g (lw_at lw_m5 82 rfl) rfl
theorem q1128 : (Jvm.Cond.methodLink "TourRooms" (398 : Nat) ({ cls := "TourRooms", name := "isBetter", desc := "(III)Z" } : Jvm.MethodName)) ∈ lw_all := lw_g (lw_at lw_m5 83 rfl) rfl
theorem q1129 : (Jvm.Cond.privateMethod ({ cls := "TourRooms", name := "isBetter", desc := "(III)Z" } : Jvm.MethodName)) ∈ lw_tbl := lw_at lw_m5 84 rfl
theorem q1130 : (Jvm.Cond.instanceMethod ({ cls := "TourRooms", name := "isBetter", desc := "(III)Z" } : Jvm.MethodName)) ∈ lw_all := lw_g (lw_at lw_m5 85 rfl) rfl
theorem q1131 : (Jvm.Cond.code ({ cls := "TourRooms", name := "isBetter", desc := "(III)Z" } : Jvm.MethodName) prog_1_method_51_code (4 : Nat) (Option.some Jvm.ClassFile.FieldType.boolean)) ∈ lw_all := lw_g (lw_at lw_m5 86 rfl) rfl
theorem q1133 : (Jvm.Cond.instanceMethod ({ cls := "TourRooms", name := "tripOf", desc := "(I)I" } : Jvm.MethodName)) ∈ lw_all := lw_g (lw_at lw_m5 88 rfl) rfl
theorem q1134 : (Jvm.Cond.selects "TourRooms" ({ cls := "TourRooms", name := "tripOf", desc := "(I)I" } : Jvm.MethodName) ({ cls := "TourRooms", name := "tripOf", desc := "(I)I" } : Jvm.MethodName)) ∈ lw_all := lw_g (lw_at lw_m5 89 rfl) rfl
theorem q1135 : (Jvm.Cond.code ({ cls := "TourRooms", name := "tripOf", desc := "(I)I" } : Jvm.MethodName) prog_1_method_55_code (2 : Nat) (Option.some Jvm.ClassFile.FieldType.int)) ∈ lw_all := lw_g (lw_at lw_m5 90 rfl) rfl
theorem q1137 : (Jvm.Cond.instanceMethod ({ cls := "TourRooms", name := "night", desc := "()I" } : Jvm.MethodName)) ∈ lw_all := lw_g (lw_at lw_m5 92 rfl) rfl
theorem q1138 : (Jvm.Cond.selects "TourRooms" ({ cls := "TourRooms", name := "night", desc := "()I" } : Jvm.MethodName) ({ cls := "TourRooms", name := "night", desc := "()I" } : Jvm.MethodName)) ∈ lw_all := lw_g (lw_at lw_m5 93 rfl) rfl
theorem q1139 : (Jvm.Cond.code ({ cls := "TourRooms", name := "night", desc := "()I" } : Jvm.MethodName) prog_1_method_58_code (10 : Nat) (Option.some Jvm.ClassFile.FieldType.int)) ∈ lw_all := lw_g (lw_at lw_m5 94 rfl) rfl
theorem q1140 : (Jvm.Cond.methodLink "TourRooms" (404 : Nat) ({ cls := "TourRooms", name := "townOfNight", desc := "(I)I" } : Jvm.MethodName)) ∈ lw_all := lw_g (lw_at lw_m5 95 rfl) rfl
theorem q1141 : (Jvm.Cond.privateMethod ({ cls := "TourRooms", name := "townOfNight", desc := "(I)I" } : Jvm.MethodName)) ∈ lw_tbl := lw_at lw_m5 96 rfl
theorem q1142 : (Jvm.Cond.instanceMethod ({ cls := "TourRooms", name := "townOfNight", desc := "(I)I" } : Jvm.MethodName)) ∈ lw_all := lw_g (lw_at lw_m5 97 rfl) rfl
theorem q1143 : (Jvm.Cond.code ({ cls := "TourRooms", name := "townOfNight", desc := "(I)I" } : Jvm.MethodName) prog_1_method_56_code (3 : Nat) (Option.some Jvm.ClassFile.FieldType.int)) ∈ lw_all := lw_g (lw_at lw_m5 98 rfl) rfl
theorem q1144 : (Jvm.Cond.methodLink "TourRooms" (407 : Nat) ({ cls := "TourRooms", name := "billOf", desc := "(LTourRooms$Town;I)I" } : Jvm.MethodName)) ∈ lw_all := lw_g (lw_at lw_m5 99 rfl) rfl
theorem q1145 : (Jvm.Cond.privateMethod ({ cls := "TourRooms", name := "billOf", desc := "(LTourRooms$Town;I)I" } : Jvm.MethodName)) ∈ lw_tbl := lw_at lw_m5 100 rfl
theorem q1146 : (Jvm.Cond.instanceMethod ({ cls := "TourRooms", name := "billOf", desc := "(LTourRooms$Town;I)I" } : Jvm.MethodName)) ∈ lw_all := lw_g (lw_at lw_m5 101 rfl) rfl
theorem q1147 : (Jvm.Cond.code ({ cls := "TourRooms", name := "billOf", desc := "(LTourRooms$Town;I)I" } : Jvm.MethodName) prog_1_method_57_code (8 : Nat) (Option.some Jvm.ClassFile.FieldType.int)) ∈ lw_all := lw_g (lw_at lw_m5 102 rfl) rfl
theorem q1149 : (Jvm.Cond.instanceMethod ({ cls := "TourRooms", name := "lay", desc := "(II)I" } : Jvm.MethodName)) ∈ lw_all := lw_g (lw_at lw_m5 104 rfl) rfl
theorem q1150 : (Jvm.Cond.selects "TourRooms" ({ cls := "TourRooms", name := "lay", desc := "(II)I" } : Jvm.MethodName) ({ cls := "TourRooms", name := "lay", desc := "(II)I" } : Jvm.MethodName)) ∈ lw_all := lw_g (lw_at lw_m5 105 rfl) rfl
theorem q1151 : (Jvm.Cond.code ({ cls := "TourRooms", name := "lay", desc := "(II)I" } : Jvm.MethodName) prog_1_method_59_code (3 : Nat) (Option.some Jvm.ClassFile.FieldType.int)) ∈ lw_all := lw_g (lw_at lw_m5 106 rfl) rfl
theorem q1153 : (Jvm.Cond.instanceMethod ({ cls := "TourRooms", name := "meals", desc := "(II)I" } : Jvm.MethodName)) ∈ lw_all := lw_g (lw_at lw_m5 108 rfl) rfl
theorem q1154 : (Jvm.Cond.selects "TourRooms" ({ cls := "TourRooms", name := "meals", desc := "(II)I" } : Jvm.MethodName) ({ cls := "TourRooms", name := "meals", desc := "(II)I" } : Jvm.MethodName)) ∈ lw_all := lw_g (lw_at lw_m5 109 rfl) rfl
theorem q1155 : (Jvm.Cond.code ({ cls := "TourRooms", name := "meals", desc := "(II)I" } : Jvm.MethodName) prog_1_method_62_code (5 : Nat) (Option.some Jvm.ClassFile.FieldType.int)) ∈ lw_all := lw_g (lw_at lw_m5 110 rfl) rfl
theorem q1157 : (Jvm.Cond.instanceMethod ({ cls := "TourRooms", name := "townOf", desc := "(II)I" } : Jvm.MethodName)) ∈ lw_all := lw_g (lw_at lw_m5 112 rfl) rfl
theorem q1158 : (Jvm.Cond.selects "TourRooms" ({ cls := "TourRooms", name := "townOf", desc := "(II)I" } : Jvm.MethodName) ({ cls := "TourRooms", name := "townOf", desc := "(II)I" } : Jvm.MethodName)) ∈ lw_all := lw_g (lw_at lw_m5 113 rfl) rfl
theorem q1159 : (Jvm.Cond.code ({ cls := "TourRooms", name := "townOf", desc := "(II)I" } : Jvm.MethodName) prog_1_method_63_code (4 : Nat) (Option.some Jvm.ClassFile.FieldType.int)) ∈ lw_all := lw_g (lw_at lw_m5 114 rfl) rfl
theorem q1161 : (Jvm.Cond.instanceMethod ({ cls := "TourRooms", name := "roomOf", desc := "(III)I" } : Jvm.MethodName)) ∈ lw_all := lw_g (lw_at lw_m5 116 rfl) rfl
theorem q1162 : (Jvm.Cond.selects "TourRooms" ({ cls := "TourRooms", name := "roomOf", desc := "(III)I" } : Jvm.MethodName) ({ cls := "TourRooms", name := "roomOf", desc := "(III)I" } : Jvm.MethodName)) ∈ lw_all := lw_g (lw_at lw_m5 117 rfl) rfl
theorem q1163 : (Jvm.Cond.code ({ cls := "TourRooms", name := "roomOf", desc := "(III)I" } : Jvm.MethodName) prog_1_method_64_code (5 : Nat) (Option.some Jvm.ClassFile.FieldType.int)) ∈ lw_all := lw_g (lw_at lw_m5 118 rfl) rfl
theorem q1165 : (Jvm.Cond.instanceMethod ({ cls := "TourRooms", name := "personOf", desc := "(II)I" } : Jvm.MethodName)) ∈ lw_all := lw_g (lw_at lw_m5 120 rfl) rfl
theorem q1166 : (Jvm.Cond.selects "TourRooms" ({ cls := "TourRooms", name := "personOf", desc := "(II)I" } : Jvm.MethodName) ({ cls := "TourRooms", name := "personOf", desc := "(II)I" } : Jvm.MethodName)) ∈ lw_all := lw_g (lw_at lw_m5 121 rfl) rfl
theorem q1167 : (Jvm.Cond.code ({ cls := "TourRooms", name := "personOf", desc := "(II)I" } : Jvm.MethodName) prog_1_method_65_code (6 : Nat) (Option.some Jvm.ClassFile.FieldType.int)) ∈ lw_all := lw_g (lw_at lw_m5 122 rfl) rfl
theorem q1169 : (Jvm.Cond.instanceMethod ({ cls := "TourRooms", name := "count", desc := "(I)I" } : Jvm.MethodName)) ∈ lw_all := lw_g (lw_at lw_m5 124 rfl) rfl
theorem q1170 : (Jvm.Cond.selects "TourRooms" ({ cls := "TourRooms", name := "count", desc := "(I)I" } : Jvm.MethodName) ({ cls := "TourRooms", name := "count", desc := "(I)I" } : Jvm.MethodName)) ∈ lw_all := lw_g (lw_at lw_m5 125 rfl) rfl
theorem q1171 : (Jvm.Cond.code ({ cls := "TourRooms", name := "count", desc := "(I)I" } : Jvm.MethodName) prog_1_method_66_code (2 : Nat) (Option.some Jvm.ClassFile.FieldType.int)) ∈ lw_all := lw_g (lw_at lw_m5 126 rfl) rfl
theorem q1177 : (Jvm.Cond.instanceMethod ({ cls := "TourRooms", name := "bill", desc := "(I)I" } : Jvm.MethodName)) ∈ lw_all := lw_g (lw_at lw_m5 132 rfl) rfl
theorem q1178 : (Jvm.Cond.selects "TourRooms" ({ cls := "TourRooms", name := "bill", desc := "(I)I" } : Jvm.MethodName) ({ cls := "TourRooms", name := "bill", desc := "(I)I" } : Jvm.MethodName)) ∈ lw_all := lw_g (lw_at lw_m5 133 rfl) rfl
theorem q1179 : (Jvm.Cond.code ({ cls := "TourRooms", name := "bill", desc := "(I)I" } : Jvm.MethodName) prog_1_method_60_code (2 : Nat) (Option.some Jvm.ClassFile.FieldType.int)) ∈ lw_all := lw_g (lw_at lw_m5 134 rfl) rfl
theorem q1180 : (Jvm.Cond.classLink "TourRooms" (413 : Nat) "java/util/NoSuchElementException") ∈ lw_all := lw_g (lw_at lw_m5 135 rfl) rfl
theorem q1189 : (Jvm.Cond.methodLink "TourRooms" (415 : Nat) ({ cls := "java/util/NoSuchElementException", name := "<init>", desc := "()V" } : Jvm.MethodName)) ∈ lw_all := lw_g (lw_at lw_m5 144 rfl) rfl
theorem q1205 : (Jvm.Cond.instanceMethod ({ cls := "TourRooms", name := "owes", desc := "(I)I" } : Jvm.MethodName)) ∈ lw_all := lw_g (lw_at lw_m5 160 rfl) rfl
theorem q1206 : (Jvm.Cond.selects "TourRooms" ({ cls := "TourRooms", name := "owes", desc := "(I)I" } : Jvm.MethodName) ({ cls := "TourRooms", name := "owes", desc := "(I)I" } : Jvm.MethodName)) ∈ lw_all := lw_g (lw_at lw_m5 161 rfl) rfl
theorem q1207 : (Jvm.Cond.code ({ cls := "TourRooms", name := "owes", desc := "(I)I" } : Jvm.MethodName) prog_1_method_61_code (2 : Nat) (Option.some Jvm.ClassFile.FieldType.int)) ∈ lw_all := lw_g (lw_at lw_m5 162 rfl) rfl
theorem q1813 : (Jvm.Cond.castable "TourRooms" "java/lang/Object") ∈ lw_tbl := lw_at lw_m8 48 rfl
theorem in_X1 : ∀ w ∈ wsX10, w ∈ lw_all := lw_in wsX10 [210, 212, 214, 216, 218, 220, 222, 224, 226, 228, 230, 232, 234, 236, 238, 240, 242, 244, 246, 248, 250, 252, 254, 256, 258, 260, 262, 264, 266, 268, 270, 272, 274, 276, 278, 280, 282, 284, 286] (by decide +kernel) (by decide +kernel)
