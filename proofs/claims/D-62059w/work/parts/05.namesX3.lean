set_option maxRecDepth 100000
/-! ReplicaDocumentModel -/
def RX3 : String := "ReplicaDocumentModel"
def TX3 : u_T := fun k => match k with
  | 0 => ("ReplicaDocumentModel", "bytes", "[I", false)
  | 1 => ("ReplicaDocumentModel", "holds", "[I", false)
  | 2 => ("ReplicaDocumentModel", "applied", "[Z", false)
  | 3 => ("ReplicaDocumentModel", "order", "[I", false)
  | 4 => ("ReplicaDocumentModel", "logged", "[I", false)
  | 5 => ("ReplicaDocumentModel", "line", "[I", false)
  | 6 => ("ReplicaDocumentModel", "many", "I", false)
  | 7 => ("ReplicaDocumentModel", "me", "I", false)
  | 8 => ("ReplicaDocumentModel", "fit", "[Z", false)
  | 9 => ("ReplicaDocumentModel", "pasts", "[I", false)
  | 10 => ("ReplicaDocumentModel", "totals", "[I", false)
  | _ => ("ReplicaDocumentModel", "fresh", "[I", false)
def tyX3 : Nat → FieldType := fun k => match k with
  | 0 => .array .int
  | 1 => .array .int
  | 2 => .array .boolean
  | 3 => .array .int
  | 4 => .array .int
  | 5 => .array .int
  | 6 => .int
  | 7 => .int
  | 8 => .array .boolean
  | 9 => .array .int
  | 10 => .array .int
  | _ => .array .int
abbrev wsX30 : List Cond := u_ws RX3 TX3 12
theorem nmX3 : ∀ a, a < 12 → ∀ b, b < 12 → a ≠ b → (TX3 a).2.1 ≠ (TX3 b).2.1 := by decide +kernel
theorem tyX3_ok : ∀ k, k < 12 → parseFieldDescriptor (TX3 k).2.2.1 = some (tyX3 k) := by decide +kernel
abbrev cX3_init : ByteArray := prog_9_method_1_code
def yX3_init : MethodName := ⟨RX3, "<init>", "()V"⟩
theorem dX3_init_0 : decode cX3_init 0 = .ok (.aload_n 0, 1) := by decide +kernel
theorem dX3_init_1 : decode cX3_init 1 = .ok (.invokespecial 1, 3) := by decide +kernel
theorem dX3_init_4 : decode cX3_init 4 = .ok (.aload_n 0, 1) := by decide +kernel
theorem dX3_init_5 : decode cX3_init 5 = .ok (.sipush 576, 3) := by decide +kernel
theorem dX3_init_8 : decode cX3_init 8 = .ok (.newarray .int, 2) := by decide +kernel
theorem dX3_init_10 : decode cX3_init 10 = .ok (.putfield 7, 3) := by decide +kernel
theorem dX3_init_13 : decode cX3_init 13 = .ok (.aload_n 0, 1) := by decide +kernel
theorem dX3_init_14 : decode cX3_init 14 = .ok (.iconst 3, 1) := by decide +kernel
theorem dX3_init_15 : decode cX3_init 15 = .ok (.newarray .int, 2) := by decide +kernel
theorem dX3_init_17 : decode cX3_init 17 = .ok (.putfield 13, 3) := by decide +kernel
theorem dX3_init_20 : decode cX3_init 20 = .ok (.aload_n 0, 1) := by decide +kernel
theorem dX3_init_21 : decode cX3_init 21 = .ok (.bipush 48, 2) := by decide +kernel
theorem dX3_init_23 : decode cX3_init 23 = .ok (.newarray .boolean, 2) := by decide +kernel
theorem dX3_init_25 : decode cX3_init 25 = .ok (.putfield 16, 3) := by decide +kernel
theorem dX3_init_28 : decode cX3_init 28 = .ok (.aload_n 0, 1) := by decide +kernel
theorem dX3_init_29 : decode cX3_init 29 = .ok (.bipush 48, 2) := by decide +kernel
theorem dX3_init_31 : decode cX3_init 31 = .ok (.newarray .int, 2) := by decide +kernel
theorem dX3_init_33 : decode cX3_init 33 = .ok (.putfield 20, 3) := by decide +kernel
theorem dX3_init_36 : decode cX3_init 36 = .ok (.aload_n 0, 1) := by decide +kernel
theorem dX3_init_37 : decode cX3_init 37 = .ok (.iconst 3, 1) := by decide +kernel
theorem dX3_init_38 : decode cX3_init 38 = .ok (.newarray .int, 2) := by decide +kernel
theorem dX3_init_40 : decode cX3_init 40 = .ok (.putfield 23, 3) := by decide +kernel
theorem dX3_init_43 : decode cX3_init 43 = .ok (.aload_n 0, 1) := by decide +kernel
theorem dX3_init_44 : decode cX3_init 44 = .ok (.bipush 16, 2) := by decide +kernel
theorem dX3_init_46 : decode cX3_init 46 = .ok (.newarray .int, 2) := by decide +kernel
theorem dX3_init_48 : decode cX3_init 48 = .ok (.putfield 26, 3) := by decide +kernel
theorem dX3_init_51 : decode cX3_init 51 = .ok (.aload_n 0, 1) := by decide +kernel
theorem dX3_init_52 : decode cX3_init 52 = .ok (.bipush 16, 2) := by decide +kernel
theorem dX3_init_54 : decode cX3_init 54 = .ok (.newarray .boolean, 2) := by decide +kernel
theorem dX3_init_56 : decode cX3_init 56 = .ok (.putfield 29, 3) := by decide +kernel
theorem dX3_init_59 : decode cX3_init 59 = .ok (.aload_n 0, 1) := by decide +kernel
theorem dX3_init_60 : decode cX3_init 60 = .ok (.bipush 16, 2) := by decide +kernel
theorem dX3_init_62 : decode cX3_init 62 = .ok (.newarray .int, 2) := by decide +kernel
theorem dX3_init_64 : decode cX3_init 64 = .ok (.putfield 32, 3) := by decide +kernel
theorem dX3_init_67 : decode cX3_init 67 = .ok (.aload_n 0, 1) := by decide +kernel
theorem dX3_init_68 : decode cX3_init 68 = .ok (.bipush 16, 2) := by decide +kernel
theorem dX3_init_70 : decode cX3_init 70 = .ok (.newarray .int, 2) := by decide +kernel
theorem dX3_init_72 : decode cX3_init 72 = .ok (.putfield 35, 3) := by decide +kernel
theorem dX3_init_75 : decode cX3_init 75 = .ok (.aload_n 0, 1) := by decide +kernel
theorem dX3_init_76 : decode cX3_init 76 = .ok (.bipush 24, 2) := by decide +kernel
theorem dX3_init_78 : decode cX3_init 78 = .ok (.newarray .int, 2) := by decide +kernel
theorem dX3_init_80 : decode cX3_init 80 = .ok (.putfield 38, 3) := by decide +kernel
theorem dX3_init_83 : decode cX3_init 83 = .ok (.return_, 1) := by decide +kernel
abbrev cX3_edit : ByteArray := prog_9_method_15_code
def yX3_edit : MethodName := ⟨RX3, "edit", "(IIIII)I"⟩
theorem dX3_edit_0 : decode cX3_edit 0 = .ok (.iload_n 1, 1) := by decide +kernel
theorem dX3_edit_1 : decode cX3_edit 1 = .ok (.invokestatic 75, 3) := by decide +kernel
theorem dX3_edit_4 : decode cX3_edit 4 = .ok (.ifCond .eq 12, 3) := by decide +kernel
theorem dX3_edit_7 : decode cX3_edit 7 = .ok (.iload_n 2, 1) := by decide +kernel
theorem dX3_edit_8 : decode cX3_edit 8 = .ok (.ifCond .lt 8, 3) := by decide +kernel
theorem dX3_edit_11 : decode cX3_edit 11 = .ok (.iload_n 2, 1) := by decide +kernel
theorem dX3_edit_12 : decode cX3_edit 12 = .ok (.iconst 5, 1) := by decide +kernel
theorem dX3_edit_13 : decode cX3_edit 13 = .ok (.if_icmp .le 5, 3) := by decide +kernel
theorem dX3_edit_16 : decode cX3_edit 16 = .ok (.iconst (-1), 1) := by decide +kernel
theorem dX3_edit_17 : decode cX3_edit 17 = .ok (.ireturn, 1) := by decide +kernel
theorem dX3_edit_18 : decode cX3_edit 18 = .ok (.aload_n 0, 1) := by decide +kernel
theorem dX3_edit_19 : decode cX3_edit 19 = .ok (.iload_n 1, 1) := by decide +kernel
theorem dX3_edit_20 : decode cX3_edit 20 = .ok (.invokevirtual 78, 3) := by decide +kernel
theorem dX3_edit_23 : decode cX3_edit 23 = .ok (.iload_n 2, 1) := by decide +kernel
theorem dX3_edit_24 : decode cX3_edit 24 = .ok (.iconst 3, 1) := by decide +kernel
theorem dX3_edit_25 : decode cX3_edit 25 = .ok (.if_icmp .eq 12, 3) := by decide +kernel
theorem dX3_edit_28 : decode cX3_edit 28 = .ok (.iload_n 2, 1) := by decide +kernel
theorem dX3_edit_29 : decode cX3_edit 29 = .ok (.iconst 4, 1) := by decide +kernel
theorem dX3_edit_30 : decode cX3_edit 30 = .ok (.if_icmp .eq 7, 3) := by decide +kernel
theorem dX3_edit_33 : decode cX3_edit 33 = .ok (.iconst 1, 1) := by decide +kernel
theorem dX3_edit_34 : decode cX3_edit 34 = .ok (.goto 4, 3) := by decide +kernel
theorem dX3_edit_37 : decode cX3_edit 37 = .ok (.iconst 0, 1) := by decide +kernel
theorem dX3_edit_38 : decode cX3_edit 38 = .ok (.istore 6, 2) := by decide +kernel
theorem dX3_edit_40 : decode cX3_edit 40 = .ok (.iload_n 2, 1) := by decide +kernel
theorem dX3_edit_41 : decode cX3_edit 41 = .ok (.ifCond .eq 8, 3) := by decide +kernel
theorem dX3_edit_44 : decode cX3_edit 44 = .ok (.iload_n 2, 1) := by decide +kernel
theorem dX3_edit_45 : decode cX3_edit 45 = .ok (.iconst 3, 1) := by decide +kernel
theorem dX3_edit_46 : decode cX3_edit 46 = .ok (.if_icmp .ne 7, 3) := by decide +kernel
theorem dX3_edit_49 : decode cX3_edit 49 = .ok (.iconst 1, 1) := by decide +kernel
theorem dX3_edit_50 : decode cX3_edit 50 = .ok (.goto 4, 3) := by decide +kernel
theorem dX3_edit_53 : decode cX3_edit 53 = .ok (.iconst 0, 1) := by decide +kernel
theorem dX3_edit_54 : decode cX3_edit 54 = .ok (.istore 7, 2) := by decide +kernel
theorem dX3_edit_56 : decode cX3_edit 56 = .ok (.iload 6, 2) := by decide +kernel
theorem dX3_edit_58 : decode cX3_edit 58 = .ok (.ifCond .eq 14, 3) := by decide +kernel
theorem dX3_edit_61 : decode cX3_edit 61 = .ok (.iload 4, 2) := by decide +kernel
theorem dX3_edit_63 : decode cX3_edit 63 = .ok (.ifCond .lt 51, 3) := by decide +kernel
theorem dX3_edit_66 : decode cX3_edit 66 = .ok (.iload 4, 2) := by decide +kernel
theorem dX3_edit_68 : decode cX3_edit 68 = .ok (.iconst 3, 1) := by decide +kernel
theorem dX3_edit_69 : decode cX3_edit 69 = .ok (.if_icmp .gt 45, 3) := by decide +kernel
theorem dX3_edit_72 : decode cX3_edit 72 = .ok (.iload_n 2, 1) := by decide +kernel
theorem dX3_edit_73 : decode cX3_edit 73 = .ok (.iconst 4, 1) := by decide +kernel
theorem dX3_edit_74 : decode cX3_edit 74 = .ok (.if_icmp .ne 8, 3) := by decide +kernel
theorem dX3_edit_77 : decode cX3_edit 77 = .ok (.iload 4, 2) := by decide +kernel
theorem dX3_edit_79 : decode cX3_edit 79 = .ok (.ifCond .ne 35, 3) := by decide +kernel
theorem dX3_edit_82 : decode cX3_edit 82 = .ok (.iload 5, 2) := by decide +kernel
theorem dX3_edit_84 : decode cX3_edit 84 = .ok (.ifCond .lt 30, 3) := by decide +kernel
theorem dX3_edit_87 : decode cX3_edit 87 = .ok (.iload 5, 2) := by decide +kernel
theorem dX3_edit_89 : decode cX3_edit 89 = .ok (.iload 7, 2) := by decide +kernel
theorem dX3_edit_91 : decode cX3_edit 91 = .ok (.ifCond .eq 8, 3) := by decide +kernel
theorem dX3_edit_94 : decode cX3_edit 94 = .ok (.bipush 99, 2) := by decide +kernel
theorem dX3_edit_96 : decode cX3_edit 96 = .ok (.goto 4, 3) := by decide +kernel
theorem dX3_edit_99 : decode cX3_edit 99 = .ok (.iconst 0, 1) := by decide +kernel
theorem dX3_edit_100 : decode cX3_edit 100 = .ok (.if_icmp .gt 14, 3) := by decide +kernel
theorem dX3_edit_103 : decode cX3_edit 103 = .ok (.aload_n 0, 1) := by decide +kernel
theorem dX3_edit_104 : decode cX3_edit 104 = .ok (.iload_n 2, 1) := by decide +kernel
theorem dX3_edit_105 : decode cX3_edit 105 = .ok (.iload_n 3, 1) := by decide +kernel
theorem dX3_edit_106 : decode cX3_edit 106 = .ok (.iload 4, 2) := by decide +kernel
theorem dX3_edit_108 : decode cX3_edit 108 = .ok (.invokevirtual 57, 3) := by decide +kernel
theorem dX3_edit_111 : decode cX3_edit 111 = .ok (.ifCond .ne 5, 3) := by decide +kernel
theorem dX3_edit_114 : decode cX3_edit 114 = .ok (.iconst (-1), 1) := by decide +kernel
theorem dX3_edit_115 : decode cX3_edit 115 = .ok (.ireturn, 1) := by decide +kernel
theorem dX3_edit_116 : decode cX3_edit 116 = .ok (.iconst 1, 1) := by decide +kernel
theorem dX3_edit_117 : decode cX3_edit 117 = .ok (.istore 8, 2) := by decide +kernel
theorem dX3_edit_119 : decode cX3_edit 119 = .ok (.iconst 0, 1) := by decide +kernel
theorem dX3_edit_120 : decode cX3_edit 120 = .ok (.istore 9, 2) := by decide +kernel
theorem dX3_edit_122 : decode cX3_edit 122 = .ok (.iconst 4, 1) := by decide +kernel
theorem dX3_edit_123 : decode cX3_edit 123 = .ok (.istore 10, 2) := by decide +kernel
theorem dX3_edit_125 : decode cX3_edit 125 = .ok (.iload 10, 2) := by decide +kernel
theorem dX3_edit_127 : decode cX3_edit 127 = .ok (.sipush 162, 3) := by decide +kernel
theorem dX3_edit_130 : decode cX3_edit 130 = .ok (.if_icmp .gt 73, 3) := by decide +kernel
theorem dX3_edit_133 : decode cX3_edit 133 = .ok (.aload_n 0, 1) := by decide +kernel
theorem dX3_edit_134 : decode cX3_edit 134 = .ok (.iload 10, 2) := by decide +kernel
theorem dX3_edit_136 : decode cX3_edit 136 = .ok (.iconst 1, 1) := by decide +kernel
theorem dX3_edit_137 : decode cX3_edit 137 = .ok (.invokevirtual 53, 3) := by decide +kernel
theorem dX3_edit_140 : decode cX3_edit 140 = .ok (.istore 11, 2) := by decide +kernel
theorem dX3_edit_142 : decode cX3_edit 142 = .ok (.iload 11, 2) := by decide +kernel
theorem dX3_edit_144 : decode cX3_edit 144 = .ok (.ifCond .lt 53, 3) := by decide +kernel
theorem dX3_edit_147 : decode cX3_edit 147 = .ok (.iload 10, 2) := by decide +kernel
theorem dX3_edit_149 : decode cX3_edit 149 = .ok (.iconst 4, 1) := by decide +kernel
theorem dX3_edit_150 : decode cX3_edit 150 = .ok (.idiv, 1) := by decide +kernel
theorem dX3_edit_151 : decode cX3_edit 151 = .ok (.iconst 1, 1) := by decide +kernel
theorem dX3_edit_152 : decode cX3_edit 152 = .ok (.iadd, 1) := by decide +kernel
theorem dX3_edit_153 : decode cX3_edit 153 = .ok (.istore 8, 2) := by decide +kernel
theorem dX3_edit_155 : decode cX3_edit 155 = .ok (.aload_n 0, 1) := by decide +kernel
theorem dX3_edit_156 : decode cX3_edit 156 = .ok (.iload 11, 2) := by decide +kernel
theorem dX3_edit_158 : decode cX3_edit 158 = .ok (.invokevirtual 81, 3) := by decide +kernel
theorem dX3_edit_161 : decode cX3_edit 161 = .ok (.ifCond .ne 21, 3) := by decide +kernel
theorem dX3_edit_164 : decode cX3_edit 164 = .ok (.iload 10, 2) := by decide +kernel
theorem dX3_edit_166 : decode cX3_edit 166 = .ok (.iload_n 3, 1) := by decide +kernel
theorem dX3_edit_167 : decode cX3_edit 167 = .ok (.if_icmp .eq 15, 3) := by decide +kernel
theorem dX3_edit_170 : decode cX3_edit 170 = .ok (.iload_n 2, 1) := by decide +kernel
theorem dX3_edit_171 : decode cX3_edit 171 = .ok (.iconst 3, 1) := by decide +kernel
theorem dX3_edit_172 : decode cX3_edit 172 = .ok (.if_icmp .ne 25, 3) := by decide +kernel
theorem dX3_edit_175 : decode cX3_edit 175 = .ok (.iload 10, 2) := by decide +kernel
theorem dX3_edit_177 : decode cX3_edit 177 = .ok (.iload 4, 2) := by decide +kernel
theorem dX3_edit_179 : decode cX3_edit 179 = .ok (.if_icmp .ne 18, 3) := by decide +kernel
theorem dX3_edit_182 : decode cX3_edit 182 = .ok (.aload_n 0, 1) := by decide +kernel
theorem dX3_edit_183 : decode cX3_edit 183 = .ok (.getfield 38, 3) := by decide +kernel
theorem dX3_edit_186 : decode cX3_edit 186 = .ok (.bipush 6, 2) := by decide +kernel
theorem dX3_edit_188 : decode cX3_edit 188 = .ok (.iload 9, 2) := by decide +kernel
theorem dX3_edit_190 : decode cX3_edit 190 = .ok (.iadd, 1) := by decide +kernel
theorem dX3_edit_191 : decode cX3_edit 191 = .ok (.iload 10, 2) := by decide +kernel
theorem dX3_edit_193 : decode cX3_edit 193 = .ok (.iastore, 1) := by decide +kernel
theorem dX3_edit_194 : decode cX3_edit 194 = .ok (.iinc 9 1, 3) := by decide +kernel
theorem dX3_edit_197 : decode cX3_edit 197 = .ok (.iinc 10 1, 3) := by decide +kernel
theorem dX3_edit_200 : decode cX3_edit 200 = .ok (.goto (-75), 3) := by decide +kernel
theorem dX3_edit_203 : decode cX3_edit 203 = .ok (.aload_n 0, 1) := by decide +kernel
theorem dX3_edit_204 : decode cX3_edit 204 = .ok (.getfield 13, 3) := by decide +kernel
theorem dX3_edit_207 : decode cX3_edit 207 = .ok (.iload_n 1, 1) := by decide +kernel
theorem dX3_edit_208 : decode cX3_edit 208 = .ok (.iaload, 1) := by decide +kernel
theorem dX3_edit_209 : decode cX3_edit 209 = .ok (.bipush 16, 2) := by decide +kernel
theorem dX3_edit_211 : decode cX3_edit 211 = .ok (.if_icmp .ge 17, 3) := by decide +kernel
theorem dX3_edit_214 : decode cX3_edit 214 = .ok (.iload 9, 2) := by decide +kernel
theorem dX3_edit_216 : decode cX3_edit 216 = .ok (.bipush 6, 2) := by decide +kernel
theorem dX3_edit_218 : decode cX3_edit 218 = .ok (.if_icmp .gt 10, 3) := by decide +kernel
theorem dX3_edit_221 : decode cX3_edit 221 = .ok (.iload 8, 2) := by decide +kernel
theorem dX3_edit_223 : decode cX3_edit 223 = .ok (.bipush 40, 2) := by decide +kernel
theorem dX3_edit_225 : decode cX3_edit 225 = .ok (.if_icmp .le 6, 3) := by decide +kernel
theorem dX3_edit_228 : decode cX3_edit 228 = .ok (.bipush (-7), 2) := by decide +kernel
theorem dX3_edit_230 : decode cX3_edit 230 = .ok (.ireturn, 1) := by decide +kernel
theorem dX3_edit_231 : decode cX3_edit 231 = .ok (.bipush 12, 2) := by decide +kernel
theorem dX3_edit_233 : decode cX3_edit 233 = .ok (.bipush 16, 2) := by decide +kernel
theorem dX3_edit_235 : decode cX3_edit 235 = .ok (.iload_n 1, 1) := by decide +kernel
theorem dX3_edit_236 : decode cX3_edit 236 = .ok (.imul, 1) := by decide +kernel
theorem dX3_edit_237 : decode cX3_edit 237 = .ok (.aload_n 0, 1) := by decide +kernel
theorem dX3_edit_238 : decode cX3_edit 238 = .ok (.getfield 13, 3) := by decide +kernel
theorem dX3_edit_241 : decode cX3_edit 241 = .ok (.iload_n 1, 1) := by decide +kernel
theorem dX3_edit_242 : decode cX3_edit 242 = .ok (.iaload, 1) := by decide +kernel
theorem dX3_edit_243 : decode cX3_edit 243 = .ok (.iadd, 1) := by decide +kernel
theorem dX3_edit_244 : decode cX3_edit 244 = .ok (.imul, 1) := by decide +kernel
theorem dX3_edit_245 : decode cX3_edit 245 = .ok (.istore 10, 2) := by decide +kernel
theorem dX3_edit_247 : decode cX3_edit 247 = .ok (.aload_n 0, 1) := by decide +kernel
theorem dX3_edit_248 : decode cX3_edit 248 = .ok (.getfield 7, 3) := by decide +kernel
theorem dX3_edit_251 : decode cX3_edit 251 = .ok (.iload 10, 2) := by decide +kernel
theorem dX3_edit_253 : decode cX3_edit 253 = .ok (.iconst 4, 1) := by decide +kernel
theorem dX3_edit_254 : decode cX3_edit 254 = .ok (.iload 8, 2) := by decide +kernel
theorem dX3_edit_256 : decode cX3_edit 256 = .ok (.imul, 1) := by decide +kernel
theorem dX3_edit_257 : decode cX3_edit 257 = .ok (.iload_n 1, 1) := by decide +kernel
theorem dX3_edit_258 : decode cX3_edit 258 = .ok (.iadd, 1) := by decide +kernel
theorem dX3_edit_259 : decode cX3_edit 259 = .ok (.iastore, 1) := by decide +kernel
theorem dX3_edit_260 : decode cX3_edit 260 = .ok (.aload_n 0, 1) := by decide +kernel
theorem dX3_edit_261 : decode cX3_edit 261 = .ok (.getfield 7, 3) := by decide +kernel
theorem dX3_edit_264 : decode cX3_edit 264 = .ok (.iload 10, 2) := by decide +kernel
theorem dX3_edit_266 : decode cX3_edit 266 = .ok (.iconst 1, 1) := by decide +kernel
theorem dX3_edit_267 : decode cX3_edit 267 = .ok (.iadd, 1) := by decide +kernel
theorem dX3_edit_268 : decode cX3_edit 268 = .ok (.iload_n 2, 1) := by decide +kernel
theorem dX3_edit_269 : decode cX3_edit 269 = .ok (.iastore, 1) := by decide +kernel
theorem dX3_edit_270 : decode cX3_edit 270 = .ok (.aload_n 0, 1) := by decide +kernel
theorem dX3_edit_271 : decode cX3_edit 271 = .ok (.getfield 7, 3) := by decide +kernel
theorem dX3_edit_274 : decode cX3_edit 274 = .ok (.iload 10, 2) := by decide +kernel
theorem dX3_edit_276 : decode cX3_edit 276 = .ok (.iconst 2, 1) := by decide +kernel
theorem dX3_edit_277 : decode cX3_edit 277 = .ok (.iadd, 1) := by decide +kernel
theorem dX3_edit_278 : decode cX3_edit 278 = .ok (.iload_n 3, 1) := by decide +kernel
theorem dX3_edit_279 : decode cX3_edit 279 = .ok (.iastore, 1) := by decide +kernel
theorem dX3_edit_280 : decode cX3_edit 280 = .ok (.aload_n 0, 1) := by decide +kernel
theorem dX3_edit_281 : decode cX3_edit 281 = .ok (.getfield 7, 3) := by decide +kernel
theorem dX3_edit_284 : decode cX3_edit 284 = .ok (.iload 10, 2) := by decide +kernel
theorem dX3_edit_286 : decode cX3_edit 286 = .ok (.iconst 3, 1) := by decide +kernel
theorem dX3_edit_287 : decode cX3_edit 287 = .ok (.iadd, 1) := by decide +kernel
theorem dX3_edit_288 : decode cX3_edit 288 = .ok (.iload 4, 2) := by decide +kernel
theorem dX3_edit_290 : decode cX3_edit 290 = .ok (.iastore, 1) := by decide +kernel
theorem dX3_edit_291 : decode cX3_edit 291 = .ok (.aload_n 0, 1) := by decide +kernel
theorem dX3_edit_292 : decode cX3_edit 292 = .ok (.getfield 7, 3) := by decide +kernel
theorem dX3_edit_295 : decode cX3_edit 295 = .ok (.iload 10, 2) := by decide +kernel
theorem dX3_edit_297 : decode cX3_edit 297 = .ok (.iconst 4, 1) := by decide +kernel
theorem dX3_edit_298 : decode cX3_edit 298 = .ok (.iadd, 1) := by decide +kernel
theorem dX3_edit_299 : decode cX3_edit 299 = .ok (.iload 5, 2) := by decide +kernel
theorem dX3_edit_301 : decode cX3_edit 301 = .ok (.iastore, 1) := by decide +kernel
theorem dX3_edit_302 : decode cX3_edit 302 = .ok (.aload_n 0, 1) := by decide +kernel
theorem dX3_edit_303 : decode cX3_edit 303 = .ok (.getfield 7, 3) := by decide +kernel
theorem dX3_edit_306 : decode cX3_edit 306 = .ok (.iload 10, 2) := by decide +kernel
theorem dX3_edit_308 : decode cX3_edit 308 = .ok (.iconst 5, 1) := by decide +kernel
theorem dX3_edit_309 : decode cX3_edit 309 = .ok (.iadd, 1) := by decide +kernel
theorem dX3_edit_310 : decode cX3_edit 310 = .ok (.iload 9, 2) := by decide +kernel
theorem dX3_edit_312 : decode cX3_edit 312 = .ok (.iastore, 1) := by decide +kernel
theorem dX3_edit_313 : decode cX3_edit 313 = .ok (.iconst 0, 1) := by decide +kernel
theorem dX3_edit_314 : decode cX3_edit 314 = .ok (.istore 11, 2) := by decide +kernel
theorem dX3_edit_316 : decode cX3_edit 316 = .ok (.iload 11, 2) := by decide +kernel
theorem dX3_edit_318 : decode cX3_edit 318 = .ok (.iload 9, 2) := by decide +kernel
theorem dX3_edit_320 : decode cX3_edit 320 = .ok (.if_icmp .ge 32, 3) := by decide +kernel
theorem dX3_edit_323 : decode cX3_edit 323 = .ok (.aload_n 0, 1) := by decide +kernel
theorem dX3_edit_324 : decode cX3_edit 324 = .ok (.getfield 7, 3) := by decide +kernel
theorem dX3_edit_327 : decode cX3_edit 327 = .ok (.iload 10, 2) := by decide +kernel
theorem dX3_edit_329 : decode cX3_edit 329 = .ok (.bipush 6, 2) := by decide +kernel
theorem dX3_edit_331 : decode cX3_edit 331 = .ok (.iadd, 1) := by decide +kernel
theorem dX3_edit_332 : decode cX3_edit 332 = .ok (.iload 11, 2) := by decide +kernel
theorem dX3_edit_334 : decode cX3_edit 334 = .ok (.iadd, 1) := by decide +kernel
theorem dX3_edit_335 : decode cX3_edit 335 = .ok (.aload_n 0, 1) := by decide +kernel
theorem dX3_edit_336 : decode cX3_edit 336 = .ok (.getfield 38, 3) := by decide +kernel
theorem dX3_edit_339 : decode cX3_edit 339 = .ok (.bipush 6, 2) := by decide +kernel
theorem dX3_edit_341 : decode cX3_edit 341 = .ok (.iload 11, 2) := by decide +kernel
theorem dX3_edit_343 : decode cX3_edit 343 = .ok (.iadd, 1) := by decide +kernel
theorem dX3_edit_344 : decode cX3_edit 344 = .ok (.iaload, 1) := by decide +kernel
theorem dX3_edit_345 : decode cX3_edit 345 = .ok (.iastore, 1) := by decide +kernel
theorem dX3_edit_346 : decode cX3_edit 346 = .ok (.iinc 11 1, 3) := by decide +kernel
theorem dX3_edit_349 : decode cX3_edit 349 = .ok (.goto (-33), 3) := by decide +kernel
theorem dX3_edit_352 : decode cX3_edit 352 = .ok (.aload_n 0, 1) := by decide +kernel
theorem dX3_edit_353 : decode cX3_edit 353 = .ok (.getfield 16, 3) := by decide +kernel
theorem dX3_edit_356 : decode cX3_edit 356 = .ok (.bipush 16, 2) := by decide +kernel
theorem dX3_edit_358 : decode cX3_edit 358 = .ok (.iload_n 1, 1) := by decide +kernel
theorem dX3_edit_359 : decode cX3_edit 359 = .ok (.imul, 1) := by decide +kernel
theorem dX3_edit_360 : decode cX3_edit 360 = .ok (.aload_n 0, 1) := by decide +kernel
theorem dX3_edit_361 : decode cX3_edit 361 = .ok (.getfield 13, 3) := by decide +kernel
theorem dX3_edit_364 : decode cX3_edit 364 = .ok (.iload_n 1, 1) := by decide +kernel
theorem dX3_edit_365 : decode cX3_edit 365 = .ok (.iaload, 1) := by decide +kernel
theorem dX3_edit_366 : decode cX3_edit 366 = .ok (.iadd, 1) := by decide +kernel
theorem dX3_edit_367 : decode cX3_edit 367 = .ok (.iconst 0, 1) := by decide +kernel
theorem dX3_edit_368 : decode cX3_edit 368 = .ok (.bastore, 1) := by decide +kernel
theorem dX3_edit_369 : decode cX3_edit 369 = .ok (.aload_n 0, 1) := by decide +kernel
theorem dX3_edit_370 : decode cX3_edit 370 = .ok (.getfield 13, 3) := by decide +kernel
theorem dX3_edit_373 : decode cX3_edit 373 = .ok (.iload_n 1, 1) := by decide +kernel
theorem dX3_edit_374 : decode cX3_edit 374 = .ok (.dup2, 1) := by decide +kernel
theorem dX3_edit_375 : decode cX3_edit 375 = .ok (.iaload, 1) := by decide +kernel
theorem dX3_edit_376 : decode cX3_edit 376 = .ok (.iconst 1, 1) := by decide +kernel
theorem dX3_edit_377 : decode cX3_edit 377 = .ok (.iadd, 1) := by decide +kernel
theorem dX3_edit_378 : decode cX3_edit 378 = .ok (.iastore, 1) := by decide +kernel
theorem dX3_edit_379 : decode cX3_edit 379 = .ok (.aload_n 0, 1) := by decide +kernel
theorem dX3_edit_380 : decode cX3_edit 380 = .ok (.aload_n 0, 1) := by decide +kernel
theorem dX3_edit_381 : decode cX3_edit 381 = .ok (.getfield 13, 3) := by decide +kernel
theorem dX3_edit_384 : decode cX3_edit 384 = .ok (.iload_n 1, 1) := by decide +kernel
theorem dX3_edit_385 : decode cX3_edit 385 = .ok (.iaload, 1) := by decide +kernel
theorem dX3_edit_386 : decode cX3_edit 386 = .ok (.iconst 1, 1) := by decide +kernel
theorem dX3_edit_387 : decode cX3_edit 387 = .ok (.isub, 1) := by decide +kernel
theorem dX3_edit_388 : decode cX3_edit 388 = .ok (.invokevirtual 72, 3) := by decide +kernel
theorem dX3_edit_391 : decode cX3_edit 391 = .ok (.aload_n 0, 1) := by decide +kernel
theorem dX3_edit_392 : decode cX3_edit 392 = .ok (.invokevirtual 84, 3) := by decide +kernel
theorem dX3_edit_395 : decode cX3_edit 395 = .ok (.pop, 1) := by decide +kernel
theorem dX3_edit_396 : decode cX3_edit 396 = .ok (.iconst 4, 1) := by decide +kernel
theorem dX3_edit_397 : decode cX3_edit 397 = .ok (.iload 8, 2) := by decide +kernel
theorem dX3_edit_399 : decode cX3_edit 399 = .ok (.imul, 1) := by decide +kernel
theorem dX3_edit_400 : decode cX3_edit 400 = .ok (.iload_n 1, 1) := by decide +kernel
theorem dX3_edit_401 : decode cX3_edit 401 = .ok (.iadd, 1) := by decide +kernel
theorem dX3_edit_402 : decode cX3_edit 402 = .ok (.ireturn, 1) := by decide +kernel
abbrev cX3_isReplica : ByteArray := prog_9_method_2_code
def yX3_isReplica : MethodName := ⟨RX3, "isReplica", "(I)Z"⟩
theorem dX3_isReplica_0 : decode cX3_isReplica 0 = .ok (.iload_n 0, 1) := by decide +kernel
theorem dX3_isReplica_1 : decode cX3_isReplica 1 = .ok (.ifCond .lt 12, 3) := by decide +kernel
theorem dX3_isReplica_4 : decode cX3_isReplica 4 = .ok (.iload_n 0, 1) := by decide +kernel
theorem dX3_isReplica_5 : decode cX3_isReplica 5 = .ok (.iconst 2, 1) := by decide +kernel
theorem dX3_isReplica_6 : decode cX3_isReplica 6 = .ok (.if_icmp .gt 7, 3) := by decide +kernel
theorem dX3_isReplica_9 : decode cX3_isReplica 9 = .ok (.iconst 1, 1) := by decide +kernel
theorem dX3_isReplica_10 : decode cX3_isReplica 10 = .ok (.goto 4, 3) := by decide +kernel
theorem dX3_isReplica_13 : decode cX3_isReplica 13 = .ok (.iconst 0, 1) := by decide +kernel
theorem dX3_isReplica_14 : decode cX3_isReplica 14 = .ok (.ireturn, 1) := by decide +kernel
abbrev cX3_study : ByteArray := prog_9_method_9_code
def yX3_study : MethodName := ⟨RX3, "study", "(I)V"⟩
theorem dX3_study_0 : decode cX3_study 0 = .ok (.aload_n 0, 1) := by decide +kernel
theorem dX3_study_1 : decode cX3_study 1 = .ok (.iload_n 1, 1) := by decide +kernel
theorem dX3_study_2 : decode cX3_study 2 = .ok (.putfield 41, 3) := by decide +kernel
theorem dX3_study_5 : decode cX3_study 5 = .ok (.iconst 0, 1) := by decide +kernel
theorem dX3_study_6 : decode cX3_study 6 = .ok (.istore_n 2, 1) := by decide +kernel
theorem dX3_study_7 : decode cX3_study 7 = .ok (.iload_n 2, 1) := by decide +kernel
theorem dX3_study_8 : decode cX3_study 8 = .ok (.bipush 16, 2) := by decide +kernel
theorem dX3_study_10 : decode cX3_study 10 = .ok (.if_icmp .ge 23, 3) := by decide +kernel
theorem dX3_study_13 : decode cX3_study 13 = .ok (.aload_n 0, 1) := by decide +kernel
theorem dX3_study_14 : decode cX3_study 14 = .ok (.getfield 29, 3) := by decide +kernel
theorem dX3_study_17 : decode cX3_study 17 = .ok (.iload_n 2, 1) := by decide +kernel
theorem dX3_study_18 : decode cX3_study 18 = .ok (.iconst 0, 1) := by decide +kernel
theorem dX3_study_19 : decode cX3_study 19 = .ok (.bastore, 1) := by decide +kernel
theorem dX3_study_20 : decode cX3_study 20 = .ok (.aload_n 0, 1) := by decide +kernel
theorem dX3_study_21 : decode cX3_study 21 = .ok (.getfield 32, 3) := by decide +kernel
theorem dX3_study_24 : decode cX3_study 24 = .ok (.iload_n 2, 1) := by decide +kernel
theorem dX3_study_25 : decode cX3_study 25 = .ok (.iconst 0, 1) := by decide +kernel
theorem dX3_study_26 : decode cX3_study 26 = .ok (.iastore, 1) := by decide +kernel
theorem dX3_study_27 : decode cX3_study 27 = .ok (.iinc 2 1, 3) := by decide +kernel
theorem dX3_study_30 : decode cX3_study 30 = .ok (.goto (-23), 3) := by decide +kernel
theorem dX3_study_33 : decode cX3_study 33 = .ok (.iconst 0, 1) := by decide +kernel
theorem dX3_study_34 : decode cX3_study 34 = .ok (.istore_n 2, 1) := by decide +kernel
theorem dX3_study_35 : decode cX3_study 35 = .ok (.iload_n 2, 1) := by decide +kernel
theorem dX3_study_36 : decode cX3_study 36 = .ok (.bipush 17, 2) := by decide +kernel
theorem dX3_study_38 : decode cX3_study 38 = .ok (.if_icmp .ge 71, 3) := by decide +kernel
theorem dX3_study_41 : decode cX3_study 41 = .ok (.iconst 0, 1) := by decide +kernel
theorem dX3_study_42 : decode cX3_study 42 = .ok (.istore_n 3, 1) := by decide +kernel
theorem dX3_study_43 : decode cX3_study 43 = .ok (.iload_n 3, 1) := by decide +kernel
theorem dX3_study_44 : decode cX3_study 44 = .ok (.aload_n 0, 1) := by decide +kernel
theorem dX3_study_45 : decode cX3_study 45 = .ok (.getfield 13, 3) := by decide +kernel
theorem dX3_study_48 : decode cX3_study 48 = .ok (.aload_n 0, 1) := by decide +kernel
theorem dX3_study_49 : decode cX3_study 49 = .ok (.getfield 41, 3) := by decide +kernel
theorem dX3_study_52 : decode cX3_study 52 = .ok (.iaload, 1) := by decide +kernel
theorem dX3_study_53 : decode cX3_study 53 = .ok (.if_icmp .ge 50, 3) := by decide +kernel
theorem dX3_study_56 : decode cX3_study 56 = .ok (.aload_n 0, 1) := by decide +kernel
theorem dX3_study_57 : decode cX3_study 57 = .ok (.iload_n 3, 1) := by decide +kernel
theorem dX3_study_58 : decode cX3_study 58 = .ok (.invokevirtual 49, 3) := by decide +kernel
theorem dX3_study_61 : decode cX3_study 61 = .ok (.ifCond .eq 36, 3) := by decide +kernel
theorem dX3_study_64 : decode cX3_study 64 = .ok (.aload_n 0, 1) := by decide +kernel
theorem dX3_study_65 : decode cX3_study 65 = .ok (.getfield 29, 3) := by decide +kernel
theorem dX3_study_68 : decode cX3_study 68 = .ok (.iload_n 3, 1) := by decide +kernel
theorem dX3_study_69 : decode cX3_study 69 = .ok (.aload_n 0, 1) := by decide +kernel
theorem dX3_study_70 : decode cX3_study 70 = .ok (.aload_n 0, 1) := by decide +kernel
theorem dX3_study_71 : decode cX3_study 71 = .ok (.iload_n 3, 1) := by decide +kernel
theorem dX3_study_72 : decode cX3_study 72 = .ok (.iconst 1, 1) := by decide +kernel
theorem dX3_study_73 : decode cX3_study 73 = .ok (.invokevirtual 45, 3) := by decide +kernel
theorem dX3_study_76 : decode cX3_study 76 = .ok (.aload_n 0, 1) := by decide +kernel
theorem dX3_study_77 : decode cX3_study 77 = .ok (.iload_n 3, 1) := by decide +kernel
theorem dX3_study_78 : decode cX3_study 78 = .ok (.iconst 2, 1) := by decide +kernel
theorem dX3_study_79 : decode cX3_study 79 = .ok (.invokevirtual 45, 3) := by decide +kernel
theorem dX3_study_82 : decode cX3_study 82 = .ok (.aload_n 0, 1) := by decide +kernel
theorem dX3_study_83 : decode cX3_study 83 = .ok (.iload_n 3, 1) := by decide +kernel
theorem dX3_study_84 : decode cX3_study 84 = .ok (.iconst 3, 1) := by decide +kernel
theorem dX3_study_85 : decode cX3_study 85 = .ok (.invokevirtual 45, 3) := by decide +kernel
theorem dX3_study_88 : decode cX3_study 88 = .ok (.invokevirtual 57, 3) := by decide +kernel
theorem dX3_study_91 : decode cX3_study 91 = .ok (.bastore, 1) := by decide +kernel
theorem dX3_study_92 : decode cX3_study 92 = .ok (.aload_n 0, 1) := by decide +kernel
theorem dX3_study_93 : decode cX3_study 93 = .ok (.iload_n 3, 1) := by decide +kernel
theorem dX3_study_94 : decode cX3_study 94 = .ok (.invokevirtual 61, 3) := by decide +kernel
theorem dX3_study_97 : decode cX3_study 97 = .ok (.iinc 3 1, 3) := by decide +kernel
theorem dX3_study_100 : decode cX3_study 100 = .ok (.goto (-57), 3) := by decide +kernel
theorem dX3_study_103 : decode cX3_study 103 = .ok (.iinc 2 1, 3) := by decide +kernel
theorem dX3_study_106 : decode cX3_study 106 = .ok (.goto (-71), 3) := by decide +kernel
theorem dX3_study_109 : decode cX3_study 109 = .ok (.return_, 1) := by decide +kernel
abbrev cX3_done : ByteArray := prog_9_method_5_code
def yX3_done : MethodName := ⟨RX3, "done", "(I)Z"⟩
theorem dX3_done_0 : decode cX3_done 0 = .ok (.aload_n 0, 1) := by decide +kernel
theorem dX3_done_1 : decode cX3_done 1 = .ok (.getfield 16, 3) := by decide +kernel
theorem dX3_done_4 : decode cX3_done 4 = .ok (.bipush 16, 2) := by decide +kernel
theorem dX3_done_6 : decode cX3_done 6 = .ok (.aload_n 0, 1) := by decide +kernel
theorem dX3_done_7 : decode cX3_done 7 = .ok (.getfield 41, 3) := by decide +kernel
theorem dX3_done_10 : decode cX3_done 10 = .ok (.imul, 1) := by decide +kernel
theorem dX3_done_11 : decode cX3_done 11 = .ok (.iload_n 1, 1) := by decide +kernel
theorem dX3_done_12 : decode cX3_done 12 = .ok (.iadd, 1) := by decide +kernel
theorem dX3_done_13 : decode cX3_done 13 = .ok (.baload, 1) := by decide +kernel
theorem dX3_done_14 : decode cX3_done 14 = .ok (.ireturn, 1) := by decide +kernel
abbrev cX3_part : ByteArray := prog_9_method_4_code
def yX3_part : MethodName := ⟨RX3, "part", "(II)I"⟩
theorem dX3_part_0 : decode cX3_part 0 = .ok (.aload_n 0, 1) := by decide +kernel
theorem dX3_part_1 : decode cX3_part 1 = .ok (.getfield 7, 3) := by decide +kernel
theorem dX3_part_4 : decode cX3_part 4 = .ok (.bipush 12, 2) := by decide +kernel
theorem dX3_part_6 : decode cX3_part 6 = .ok (.bipush 16, 2) := by decide +kernel
theorem dX3_part_8 : decode cX3_part 8 = .ok (.aload_n 0, 1) := by decide +kernel
theorem dX3_part_9 : decode cX3_part 9 = .ok (.getfield 41, 3) := by decide +kernel
theorem dX3_part_12 : decode cX3_part 12 = .ok (.imul, 1) := by decide +kernel
theorem dX3_part_13 : decode cX3_part 13 = .ok (.iload_n 1, 1) := by decide +kernel
theorem dX3_part_14 : decode cX3_part 14 = .ok (.iadd, 1) := by decide +kernel
theorem dX3_part_15 : decode cX3_part 15 = .ok (.imul, 1) := by decide +kernel
theorem dX3_part_16 : decode cX3_part 16 = .ok (.iload_n 2, 1) := by decide +kernel
theorem dX3_part_17 : decode cX3_part 17 = .ok (.iadd, 1) := by decide +kernel
theorem dX3_part_18 : decode cX3_part 18 = .ok (.iaload, 1) := by decide +kernel
theorem dX3_part_19 : decode cX3_part 19 = .ok (.ireturn, 1) := by decide +kernel
abbrev cX3_fits : ByteArray := prog_9_method_8_code
def yX3_fits : MethodName := ⟨RX3, "fits", "(III)Z"⟩
theorem dX3_fits_0 : decode cX3_fits 0 = .ok (.aload_n 0, 1) := by decide +kernel
theorem dX3_fits_1 : decode cX3_fits 1 = .ok (.iload_n 2, 1) := by decide +kernel
theorem dX3_fits_2 : decode cX3_fits 2 = .ok (.iconst 1, 1) := by decide +kernel
theorem dX3_fits_3 : decode cX3_fits 3 = .ok (.invokevirtual 53, 3) := by decide +kernel
theorem dX3_fits_6 : decode cX3_fits 6 = .ok (.istore 4, 2) := by decide +kernel
theorem dX3_fits_8 : decode cX3_fits 8 = .ok (.iload_n 1, 1) := by decide +kernel
theorem dX3_fits_9 : decode cX3_fits 9 = .ok (.iconst 3, 1) := by decide +kernel
theorem dX3_fits_10 : decode cX3_fits 10 = .ok (.if_icmp .ne 76, 3) := by decide +kernel
theorem dX3_fits_13 : decode cX3_fits 13 = .ok (.iload 4, 2) := by decide +kernel
theorem dX3_fits_15 : decode cX3_fits 15 = .ok (.ifCond .lt 14, 3) := by decide +kernel
theorem dX3_fits_18 : decode cX3_fits 18 = .ok (.aload_n 0, 1) := by decide +kernel
theorem dX3_fits_19 : decode cX3_fits 19 = .ok (.iload 4, 2) := by decide +kernel
theorem dX3_fits_21 : decode cX3_fits 21 = .ok (.iconst 1, 1) := by decide +kernel
theorem dX3_fits_22 : decode cX3_fits 22 = .ok (.invokevirtual 45, 3) := by decide +kernel
theorem dX3_fits_25 : decode cX3_fits 25 = .ok (.iconst 2, 1) := by decide +kernel
theorem dX3_fits_26 : decode cX3_fits 26 = .ok (.if_icmp .eq 5, 3) := by decide +kernel
theorem dX3_fits_29 : decode cX3_fits 29 = .ok (.iconst 0, 1) := by decide +kernel
theorem dX3_fits_30 : decode cX3_fits 30 = .ok (.ireturn, 1) := by decide +kernel
theorem dX3_fits_31 : decode cX3_fits 31 = .ok (.aload_n 0, 1) := by decide +kernel
theorem dX3_fits_32 : decode cX3_fits 32 = .ok (.iload_n 3, 1) := by decide +kernel
theorem dX3_fits_33 : decode cX3_fits 33 = .ok (.iconst 1, 1) := by decide +kernel
theorem dX3_fits_34 : decode cX3_fits 34 = .ok (.invokevirtual 53, 3) := by decide +kernel
theorem dX3_fits_37 : decode cX3_fits 37 = .ok (.istore 5, 2) := by decide +kernel
theorem dX3_fits_39 : decode cX3_fits 39 = .ok (.iload_n 3, 1) := by decide +kernel
theorem dX3_fits_40 : decode cX3_fits 40 = .ok (.ifCond .eq 40, 3) := by decide +kernel
theorem dX3_fits_43 : decode cX3_fits 43 = .ok (.iload 5, 2) := by decide +kernel
theorem dX3_fits_45 : decode cX3_fits 45 = .ok (.ifCond .lt 39, 3) := by decide +kernel
theorem dX3_fits_48 : decode cX3_fits 48 = .ok (.aload_n 0, 1) := by decide +kernel
theorem dX3_fits_49 : decode cX3_fits 49 = .ok (.iload 5, 2) := by decide +kernel
theorem dX3_fits_51 : decode cX3_fits 51 = .ok (.iconst 1, 1) := by decide +kernel
theorem dX3_fits_52 : decode cX3_fits 52 = .ok (.invokevirtual 45, 3) := by decide +kernel
theorem dX3_fits_55 : decode cX3_fits 55 = .ok (.iconst 3, 1) := by decide +kernel
theorem dX3_fits_56 : decode cX3_fits 56 = .ok (.if_icmp .ne 28, 3) := by decide +kernel
theorem dX3_fits_59 : decode cX3_fits 59 = .ok (.aload_n 0, 1) := by decide +kernel
theorem dX3_fits_60 : decode cX3_fits 60 = .ok (.getfield 29, 3) := by decide +kernel
theorem dX3_fits_63 : decode cX3_fits 63 = .ok (.iload 5, 2) := by decide +kernel
theorem dX3_fits_65 : decode cX3_fits 65 = .ok (.baload, 1) := by decide +kernel
theorem dX3_fits_66 : decode cX3_fits 66 = .ok (.ifCond .eq 18, 3) := by decide +kernel
theorem dX3_fits_69 : decode cX3_fits 69 = .ok (.aload_n 0, 1) := by decide +kernel
theorem dX3_fits_70 : decode cX3_fits 70 = .ok (.iload 5, 2) := by decide +kernel
theorem dX3_fits_72 : decode cX3_fits 72 = .ok (.iconst 2, 1) := by decide +kernel
theorem dX3_fits_73 : decode cX3_fits 73 = .ok (.invokevirtual 45, 3) := by decide +kernel
theorem dX3_fits_76 : decode cX3_fits 76 = .ok (.iload_n 2, 1) := by decide +kernel
theorem dX3_fits_77 : decode cX3_fits 77 = .ok (.if_icmp .ne 7, 3) := by decide +kernel
theorem dX3_fits_80 : decode cX3_fits 80 = .ok (.iconst 1, 1) := by decide +kernel
theorem dX3_fits_81 : decode cX3_fits 81 = .ok (.goto 4, 3) := by decide +kernel
theorem dX3_fits_84 : decode cX3_fits 84 = .ok (.iconst 0, 1) := by decide +kernel
theorem dX3_fits_85 : decode cX3_fits 85 = .ok (.ireturn, 1) := by decide +kernel
theorem dX3_fits_86 : decode cX3_fits 86 = .ok (.iload_n 1, 1) := by decide +kernel
theorem dX3_fits_87 : decode cX3_fits 87 = .ok (.iconst 4, 1) := by decide +kernel
theorem dX3_fits_88 : decode cX3_fits 88 = .ok (.if_icmp .ne 35, 3) := by decide +kernel
theorem dX3_fits_91 : decode cX3_fits 91 = .ok (.iload 4, 2) := by decide +kernel
theorem dX3_fits_93 : decode cX3_fits 93 = .ok (.ifCond .lt 28, 3) := by decide +kernel
theorem dX3_fits_96 : decode cX3_fits 96 = .ok (.aload_n 0, 1) := by decide +kernel
theorem dX3_fits_97 : decode cX3_fits 97 = .ok (.iload 4, 2) := by decide +kernel
theorem dX3_fits_99 : decode cX3_fits 99 = .ok (.iconst 1, 1) := by decide +kernel
theorem dX3_fits_100 : decode cX3_fits 100 = .ok (.invokevirtual 45, 3) := by decide +kernel
theorem dX3_fits_103 : decode cX3_fits 103 = .ok (.iconst 3, 1) := by decide +kernel
theorem dX3_fits_104 : decode cX3_fits 104 = .ok (.if_icmp .ne 17, 3) := by decide +kernel
theorem dX3_fits_107 : decode cX3_fits 107 = .ok (.aload_n 0, 1) := by decide +kernel
theorem dX3_fits_108 : decode cX3_fits 108 = .ok (.getfield 29, 3) := by decide +kernel
theorem dX3_fits_111 : decode cX3_fits 111 = .ok (.iload 4, 2) := by decide +kernel
theorem dX3_fits_113 : decode cX3_fits 113 = .ok (.baload, 1) := by decide +kernel
theorem dX3_fits_114 : decode cX3_fits 114 = .ok (.ifCond .eq 7, 3) := by decide +kernel
theorem dX3_fits_117 : decode cX3_fits 117 = .ok (.iconst 1, 1) := by decide +kernel
theorem dX3_fits_118 : decode cX3_fits 118 = .ok (.goto 4, 3) := by decide +kernel
theorem dX3_fits_121 : decode cX3_fits 121 = .ok (.iconst 0, 1) := by decide +kernel
theorem dX3_fits_122 : decode cX3_fits 122 = .ok (.ireturn, 1) := by decide +kernel
theorem dX3_fits_123 : decode cX3_fits 123 = .ok (.iload_n 2, 1) := by decide +kernel
theorem dX3_fits_124 : decode cX3_fits 124 = .ok (.ifCond .eq 19, 3) := by decide +kernel
theorem dX3_fits_127 : decode cX3_fits 127 = .ok (.iload 4, 2) := by decide +kernel
theorem dX3_fits_129 : decode cX3_fits 129 = .ok (.ifCond .lt 18, 3) := by decide +kernel
theorem dX3_fits_132 : decode cX3_fits 132 = .ok (.aload_n 0, 1) := by decide +kernel
theorem dX3_fits_133 : decode cX3_fits 133 = .ok (.iload 4, 2) := by decide +kernel
theorem dX3_fits_135 : decode cX3_fits 135 = .ok (.iconst 1, 1) := by decide +kernel
theorem dX3_fits_136 : decode cX3_fits 136 = .ok (.invokevirtual 45, 3) := by decide +kernel
theorem dX3_fits_139 : decode cX3_fits 139 = .ok (.iconst 1, 1) := by decide +kernel
theorem dX3_fits_140 : decode cX3_fits 140 = .ok (.if_icmp .ne 7, 3) := by decide +kernel
theorem dX3_fits_143 : decode cX3_fits 143 = .ok (.iconst 1, 1) := by decide +kernel
theorem dX3_fits_144 : decode cX3_fits 144 = .ok (.goto 4, 3) := by decide +kernel
theorem dX3_fits_147 : decode cX3_fits 147 = .ok (.iconst 0, 1) := by decide +kernel
theorem dX3_fits_148 : decode cX3_fits 148 = .ok (.ireturn, 1) := by decide +kernel
abbrev cX3_find : ByteArray := prog_9_method_6_code
def yX3_find : MethodName := ⟨RX3, "find", "(IZ)I"⟩
theorem dX3_find_0 : decode cX3_find 0 = .ok (.iconst (-1), 1) := by decide +kernel
theorem dX3_find_1 : decode cX3_find 1 = .ok (.istore_n 3, 1) := by decide +kernel
theorem dX3_find_2 : decode cX3_find 2 = .ok (.iconst 0, 1) := by decide +kernel
theorem dX3_find_3 : decode cX3_find 3 = .ok (.istore 4, 2) := by decide +kernel
theorem dX3_find_5 : decode cX3_find 5 = .ok (.iload 4, 2) := by decide +kernel
theorem dX3_find_7 : decode cX3_find 7 = .ok (.aload_n 0, 1) := by decide +kernel
theorem dX3_find_8 : decode cX3_find 8 = .ok (.getfield 13, 3) := by decide +kernel
theorem dX3_find_11 : decode cX3_find 11 = .ok (.aload_n 0, 1) := by decide +kernel
theorem dX3_find_12 : decode cX3_find 12 = .ok (.getfield 41, 3) := by decide +kernel
theorem dX3_find_15 : decode cX3_find 15 = .ok (.iaload, 1) := by decide +kernel
theorem dX3_find_16 : decode cX3_find 16 = .ok (.if_icmp .ge 36, 3) := by decide +kernel
theorem dX3_find_19 : decode cX3_find 19 = .ok (.aload_n 0, 1) := by decide +kernel
theorem dX3_find_20 : decode cX3_find 20 = .ok (.iload 4, 2) := by decide +kernel
theorem dX3_find_22 : decode cX3_find 22 = .ok (.iconst 0, 1) := by decide +kernel
theorem dX3_find_23 : decode cX3_find 23 = .ok (.invokevirtual 45, 3) := by decide +kernel
theorem dX3_find_26 : decode cX3_find 26 = .ok (.iload_n 1, 1) := by decide +kernel
theorem dX3_find_27 : decode cX3_find 27 = .ok (.if_icmp .ne 19, 3) := by decide +kernel
theorem dX3_find_30 : decode cX3_find 30 = .ok (.iload_n 2, 1) := by decide +kernel
theorem dX3_find_31 : decode cX3_find 31 = .ok (.ifCond .eq 12, 3) := by decide +kernel
theorem dX3_find_34 : decode cX3_find 34 = .ok (.aload_n 0, 1) := by decide +kernel
theorem dX3_find_35 : decode cX3_find 35 = .ok (.iload 4, 2) := by decide +kernel
theorem dX3_find_37 : decode cX3_find 37 = .ok (.invokevirtual 49, 3) := by decide +kernel
theorem dX3_find_40 : decode cX3_find 40 = .ok (.ifCond .eq 6, 3) := by decide +kernel
theorem dX3_find_43 : decode cX3_find 43 = .ok (.iload 4, 2) := by decide +kernel
theorem dX3_find_45 : decode cX3_find 45 = .ok (.istore_n 3, 1) := by decide +kernel
theorem dX3_find_46 : decode cX3_find 46 = .ok (.iinc 4 1, 3) := by decide +kernel
theorem dX3_find_49 : decode cX3_find 49 = .ok (.goto (-44), 3) := by decide +kernel
theorem dX3_find_52 : decode cX3_find 52 = .ok (.iload_n 3, 1) := by decide +kernel
theorem dX3_find_53 : decode cX3_find 53 = .ok (.ireturn, 1) := by decide +kernel
abbrev cX3_widen : ByteArray := prog_9_method_10_code
def yX3_widen : MethodName := ⟨RX3, "widen", "(I)V"⟩
theorem dX3_widen_0 : decode cX3_widen 0 = .ok (.iconst 0, 1) := by decide +kernel
theorem dX3_widen_1 : decode cX3_widen 1 = .ok (.istore_n 2, 1) := by decide +kernel
theorem dX3_widen_2 : decode cX3_widen 2 = .ok (.iload_n 2, 1) := by decide +kernel
theorem dX3_widen_3 : decode cX3_widen 3 = .ok (.aload_n 0, 1) := by decide +kernel
theorem dX3_widen_4 : decode cX3_widen 4 = .ok (.getfield 13, 3) := by decide +kernel
theorem dX3_widen_7 : decode cX3_widen 7 = .ok (.aload_n 0, 1) := by decide +kernel
theorem dX3_widen_8 : decode cX3_widen 8 = .ok (.getfield 41, 3) := by decide +kernel
theorem dX3_widen_11 : decode cX3_widen 11 = .ok (.iaload, 1) := by decide +kernel
theorem dX3_widen_12 : decode cX3_widen 12 = .ok (.if_icmp .ge 44, 3) := by decide +kernel
theorem dX3_widen_15 : decode cX3_widen 15 = .ok (.aload_n 0, 1) := by decide +kernel
theorem dX3_widen_16 : decode cX3_widen 16 = .ok (.iload_n 2, 1) := by decide +kernel
theorem dX3_widen_17 : decode cX3_widen 17 = .ok (.iconst 0, 1) := by decide +kernel
theorem dX3_widen_18 : decode cX3_widen 18 = .ok (.invokevirtual 45, 3) := by decide +kernel
theorem dX3_widen_21 : decode cX3_widen 21 = .ok (.istore_n 3, 1) := by decide +kernel
theorem dX3_widen_22 : decode cX3_widen 22 = .ok (.aload_n 0, 1) := by decide +kernel
theorem dX3_widen_23 : decode cX3_widen 23 = .ok (.iload_n 1, 1) := by decide +kernel
theorem dX3_widen_24 : decode cX3_widen 24 = .ok (.iload_n 3, 1) := by decide +kernel
theorem dX3_widen_25 : decode cX3_widen 25 = .ok (.invokevirtual 65, 3) := by decide +kernel
theorem dX3_widen_28 : decode cX3_widen 28 = .ok (.ifCond .eq 22, 3) := by decide +kernel
theorem dX3_widen_31 : decode cX3_widen 31 = .ok (.aload_n 0, 1) := by decide +kernel
theorem dX3_widen_32 : decode cX3_widen 32 = .ok (.getfield 32, 3) := by decide +kernel
theorem dX3_widen_35 : decode cX3_widen 35 = .ok (.iload_n 1, 1) := by decide +kernel
theorem dX3_widen_36 : decode cX3_widen 36 = .ok (.dup2, 1) := by decide +kernel
theorem dX3_widen_37 : decode cX3_widen 37 = .ok (.iaload, 1) := by decide +kernel
theorem dX3_widen_38 : decode cX3_widen 38 = .ok (.iconst 1, 1) := by decide +kernel
theorem dX3_widen_39 : decode cX3_widen 39 = .ok (.iload_n 2, 1) := by decide +kernel
theorem dX3_widen_40 : decode cX3_widen 40 = .ok (.ishl, 1) := by decide +kernel
theorem dX3_widen_41 : decode cX3_widen 41 = .ok (.aload_n 0, 1) := by decide +kernel
theorem dX3_widen_42 : decode cX3_widen 42 = .ok (.getfield 32, 3) := by decide +kernel
theorem dX3_widen_45 : decode cX3_widen 45 = .ok (.iload_n 2, 1) := by decide +kernel
theorem dX3_widen_46 : decode cX3_widen 46 = .ok (.iaload, 1) := by decide +kernel
theorem dX3_widen_47 : decode cX3_widen 47 = .ok (.ior, 1) := by decide +kernel
theorem dX3_widen_48 : decode cX3_widen 48 = .ok (.ior, 1) := by decide +kernel
theorem dX3_widen_49 : decode cX3_widen 49 = .ok (.iastore, 1) := by decide +kernel
theorem dX3_widen_50 : decode cX3_widen 50 = .ok (.iinc 2 1, 3) := by decide +kernel
theorem dX3_widen_53 : decode cX3_widen 53 = .ok (.goto (-51), 3) := by decide +kernel
theorem dX3_widen_56 : decode cX3_widen 56 = .ok (.return_, 1) := by decide +kernel
abbrev cX3_has : ByteArray := prog_9_method_7_code
def yX3_has : MethodName := ⟨RX3, "has", "(II)Z"⟩
theorem dX3_has_0 : decode cX3_has 0 = .ok (.iconst 0, 1) := by decide +kernel
theorem dX3_has_1 : decode cX3_has 1 = .ok (.istore_n 3, 1) := by decide +kernel
theorem dX3_has_2 : decode cX3_has 2 = .ok (.iconst 0, 1) := by decide +kernel
theorem dX3_has_3 : decode cX3_has 3 = .ok (.istore 4, 2) := by decide +kernel
theorem dX3_has_5 : decode cX3_has 5 = .ok (.iload 4, 2) := by decide +kernel
theorem dX3_has_7 : decode cX3_has 7 = .ok (.aload_n 0, 1) := by decide +kernel
theorem dX3_has_8 : decode cX3_has 8 = .ok (.iload_n 1, 1) := by decide +kernel
theorem dX3_has_9 : decode cX3_has 9 = .ok (.iconst 5, 1) := by decide +kernel
theorem dX3_has_10 : decode cX3_has 10 = .ok (.invokevirtual 45, 3) := by decide +kernel
theorem dX3_has_13 : decode cX3_has 13 = .ok (.if_icmp .ge 33, 3) := by decide +kernel
theorem dX3_has_16 : decode cX3_has 16 = .ok (.iload_n 3, 1) := by decide +kernel
theorem dX3_has_17 : decode cX3_has 17 = .ok (.ifCond .ne 17, 3) := by decide +kernel
theorem dX3_has_20 : decode cX3_has 20 = .ok (.aload_n 0, 1) := by decide +kernel
theorem dX3_has_21 : decode cX3_has 21 = .ok (.iload_n 1, 1) := by decide +kernel
theorem dX3_has_22 : decode cX3_has 22 = .ok (.bipush 6, 2) := by decide +kernel
theorem dX3_has_24 : decode cX3_has 24 = .ok (.iload 4, 2) := by decide +kernel
theorem dX3_has_26 : decode cX3_has 26 = .ok (.iadd, 1) := by decide +kernel
theorem dX3_has_27 : decode cX3_has 27 = .ok (.invokevirtual 45, 3) := by decide +kernel
theorem dX3_has_30 : decode cX3_has 30 = .ok (.iload_n 2, 1) := by decide +kernel
theorem dX3_has_31 : decode cX3_has 31 = .ok (.if_icmp .ne 7, 3) := by decide +kernel
theorem dX3_has_34 : decode cX3_has 34 = .ok (.iconst 1, 1) := by decide +kernel
theorem dX3_has_35 : decode cX3_has 35 = .ok (.goto 4, 3) := by decide +kernel
theorem dX3_has_38 : decode cX3_has 38 = .ok (.iconst 0, 1) := by decide +kernel
theorem dX3_has_39 : decode cX3_has 39 = .ok (.istore_n 3, 1) := by decide +kernel
theorem dX3_has_40 : decode cX3_has 40 = .ok (.iinc 4 1, 3) := by decide +kernel
theorem dX3_has_43 : decode cX3_has 43 = .ok (.goto (-38), 3) := by decide +kernel
theorem dX3_has_46 : decode cX3_has 46 = .ok (.iload_n 3, 1) := by decide +kernel
theorem dX3_has_47 : decode cX3_has 47 = .ok (.ireturn, 1) := by decide +kernel
abbrev cX3_isHead : ByteArray := prog_9_method_11_code
def yX3_isHead : MethodName := ⟨RX3, "isHead", "(I)Z"⟩
theorem dX3_isHead_0 : decode cX3_isHead 0 = .ok (.aload_n 0, 1) := by decide +kernel
theorem dX3_isHead_1 : decode cX3_isHead 1 = .ok (.iload_n 1, 1) := by decide +kernel
theorem dX3_isHead_2 : decode cX3_isHead 2 = .ok (.invokevirtual 49, 3) := by decide +kernel
theorem dX3_isHead_5 : decode cX3_isHead 5 = .ok (.istore_n 2, 1) := by decide +kernel
theorem dX3_isHead_6 : decode cX3_isHead 6 = .ok (.aload_n 0, 1) := by decide +kernel
theorem dX3_isHead_7 : decode cX3_isHead 7 = .ok (.iload_n 1, 1) := by decide +kernel
theorem dX3_isHead_8 : decode cX3_isHead 8 = .ok (.iconst 0, 1) := by decide +kernel
theorem dX3_isHead_9 : decode cX3_isHead 9 = .ok (.invokevirtual 45, 3) := by decide +kernel
theorem dX3_isHead_12 : decode cX3_isHead 12 = .ok (.istore_n 3, 1) := by decide +kernel
theorem dX3_isHead_13 : decode cX3_isHead 13 = .ok (.iconst 0, 1) := by decide +kernel
theorem dX3_isHead_14 : decode cX3_isHead 14 = .ok (.istore 4, 2) := by decide +kernel
theorem dX3_isHead_16 : decode cX3_isHead 16 = .ok (.iload 4, 2) := by decide +kernel
theorem dX3_isHead_18 : decode cX3_isHead 18 = .ok (.aload_n 0, 1) := by decide +kernel
theorem dX3_isHead_19 : decode cX3_isHead 19 = .ok (.getfield 13, 3) := by decide +kernel
theorem dX3_isHead_22 : decode cX3_isHead 22 = .ok (.aload_n 0, 1) := by decide +kernel
theorem dX3_isHead_23 : decode cX3_isHead 23 = .ok (.getfield 41, 3) := by decide +kernel
theorem dX3_isHead_26 : decode cX3_isHead 26 = .ok (.iaload, 1) := by decide +kernel
theorem dX3_isHead_27 : decode cX3_isHead 27 = .ok (.if_icmp .ge 38, 3) := by decide +kernel
theorem dX3_isHead_30 : decode cX3_isHead 30 = .ok (.iload_n 2, 1) := by decide +kernel
theorem dX3_isHead_31 : decode cX3_isHead 31 = .ok (.ifCond .eq 26, 3) := by decide +kernel
theorem dX3_isHead_34 : decode cX3_isHead 34 = .ok (.aload_n 0, 1) := by decide +kernel
theorem dX3_isHead_35 : decode cX3_isHead 35 = .ok (.iload 4, 2) := by decide +kernel
theorem dX3_isHead_37 : decode cX3_isHead 37 = .ok (.invokevirtual 49, 3) := by decide +kernel
theorem dX3_isHead_40 : decode cX3_isHead 40 = .ok (.ifCond .eq 13, 3) := by decide +kernel
theorem dX3_isHead_43 : decode cX3_isHead 43 = .ok (.aload_n 0, 1) := by decide +kernel
theorem dX3_isHead_44 : decode cX3_isHead 44 = .ok (.iload 4, 2) := by decide +kernel
theorem dX3_isHead_46 : decode cX3_isHead 46 = .ok (.iload_n 3, 1) := by decide +kernel
theorem dX3_isHead_47 : decode cX3_isHead 47 = .ok (.invokevirtual 65, 3) := by decide +kernel
theorem dX3_isHead_50 : decode cX3_isHead 50 = .ok (.ifCond .ne 7, 3) := by decide +kernel
theorem dX3_isHead_53 : decode cX3_isHead 53 = .ok (.iconst 1, 1) := by decide +kernel
theorem dX3_isHead_54 : decode cX3_isHead 54 = .ok (.goto 4, 3) := by decide +kernel
theorem dX3_isHead_57 : decode cX3_isHead 57 = .ok (.iconst 0, 1) := by decide +kernel
theorem dX3_isHead_58 : decode cX3_isHead 58 = .ok (.istore_n 2, 1) := by decide +kernel
theorem dX3_isHead_59 : decode cX3_isHead 59 = .ok (.iinc 4 1, 3) := by decide +kernel
theorem dX3_isHead_62 : decode cX3_isHead 62 = .ok (.goto (-46), 3) := by decide +kernel
theorem dX3_isHead_65 : decode cX3_isHead 65 = .ok (.iload_n 2, 1) := by decide +kernel
theorem dX3_isHead_66 : decode cX3_isHead 66 = .ok (.ireturn, 1) := by decide +kernel
abbrev cX3_apply : ByteArray := prog_9_method_12_code
def yX3_apply : MethodName := ⟨RX3, "apply", "(I)V"⟩
theorem dX3_apply_0 : decode cX3_apply 0 = .ok (.aload_n 0, 1) := by decide +kernel
theorem dX3_apply_1 : decode cX3_apply 1 = .ok (.getfield 16, 3) := by decide +kernel
theorem dX3_apply_4 : decode cX3_apply 4 = .ok (.bipush 16, 2) := by decide +kernel
theorem dX3_apply_6 : decode cX3_apply 6 = .ok (.aload_n 0, 1) := by decide +kernel
theorem dX3_apply_7 : decode cX3_apply 7 = .ok (.getfield 41, 3) := by decide +kernel
theorem dX3_apply_10 : decode cX3_apply 10 = .ok (.imul, 1) := by decide +kernel
theorem dX3_apply_11 : decode cX3_apply 11 = .ok (.iload_n 1, 1) := by decide +kernel
theorem dX3_apply_12 : decode cX3_apply 12 = .ok (.iadd, 1) := by decide +kernel
theorem dX3_apply_13 : decode cX3_apply 13 = .ok (.iconst 1, 1) := by decide +kernel
theorem dX3_apply_14 : decode cX3_apply 14 = .ok (.bastore, 1) := by decide +kernel
theorem dX3_apply_15 : decode cX3_apply 15 = .ok (.aload_n 0, 1) := by decide +kernel
theorem dX3_apply_16 : decode cX3_apply 16 = .ok (.getfield 20, 3) := by decide +kernel
theorem dX3_apply_19 : decode cX3_apply 19 = .ok (.bipush 16, 2) := by decide +kernel
theorem dX3_apply_21 : decode cX3_apply 21 = .ok (.aload_n 0, 1) := by decide +kernel
theorem dX3_apply_22 : decode cX3_apply 22 = .ok (.getfield 41, 3) := by decide +kernel
theorem dX3_apply_25 : decode cX3_apply 25 = .ok (.imul, 1) := by decide +kernel
theorem dX3_apply_26 : decode cX3_apply 26 = .ok (.aload_n 0, 1) := by decide +kernel
theorem dX3_apply_27 : decode cX3_apply 27 = .ok (.getfield 23, 3) := by decide +kernel
theorem dX3_apply_30 : decode cX3_apply 30 = .ok (.aload_n 0, 1) := by decide +kernel
theorem dX3_apply_31 : decode cX3_apply 31 = .ok (.getfield 41, 3) := by decide +kernel
theorem dX3_apply_34 : decode cX3_apply 34 = .ok (.iaload, 1) := by decide +kernel
theorem dX3_apply_35 : decode cX3_apply 35 = .ok (.iadd, 1) := by decide +kernel
theorem dX3_apply_36 : decode cX3_apply 36 = .ok (.iload_n 1, 1) := by decide +kernel
theorem dX3_apply_37 : decode cX3_apply 37 = .ok (.iastore, 1) := by decide +kernel
theorem dX3_apply_38 : decode cX3_apply 38 = .ok (.aload_n 0, 1) := by decide +kernel
theorem dX3_apply_39 : decode cX3_apply 39 = .ok (.getfield 23, 3) := by decide +kernel
theorem dX3_apply_42 : decode cX3_apply 42 = .ok (.aload_n 0, 1) := by decide +kernel
theorem dX3_apply_43 : decode cX3_apply 43 = .ok (.getfield 41, 3) := by decide +kernel
theorem dX3_apply_46 : decode cX3_apply 46 = .ok (.dup2, 1) := by decide +kernel
theorem dX3_apply_47 : decode cX3_apply 47 = .ok (.iaload, 1) := by decide +kernel
theorem dX3_apply_48 : decode cX3_apply 48 = .ok (.iconst 1, 1) := by decide +kernel
theorem dX3_apply_49 : decode cX3_apply 49 = .ok (.iadd, 1) := by decide +kernel
theorem dX3_apply_50 : decode cX3_apply 50 = .ok (.iastore, 1) := by decide +kernel
theorem dX3_apply_51 : decode cX3_apply 51 = .ok (.return_, 1) := by decide +kernel
abbrev cX3_settle : ByteArray := prog_9_method_14_code
def yX3_settle : MethodName := ⟨RX3, "settle", "()I"⟩
theorem dX3_settle_0 : decode cX3_settle 0 = .ok (.iconst 0, 1) := by decide +kernel
theorem dX3_settle_1 : decode cX3_settle 1 = .ok (.istore_n 1, 1) := by decide +kernel
theorem dX3_settle_2 : decode cX3_settle 2 = .ok (.iconst 0, 1) := by decide +kernel
theorem dX3_settle_3 : decode cX3_settle 3 = .ok (.istore_n 2, 1) := by decide +kernel
theorem dX3_settle_4 : decode cX3_settle 4 = .ok (.iload_n 2, 1) := by decide +kernel
theorem dX3_settle_5 : decode cX3_settle 5 = .ok (.bipush 16, 2) := by decide +kernel
theorem dX3_settle_7 : decode cX3_settle 7 = .ok (.if_icmp .ge 87, 3) := by decide +kernel
theorem dX3_settle_10 : decode cX3_settle 10 = .ok (.iconst (-1), 1) := by decide +kernel
theorem dX3_settle_11 : decode cX3_settle 11 = .ok (.istore_n 3, 1) := by decide +kernel
theorem dX3_settle_12 : decode cX3_settle 12 = .ok (.iconst 0, 1) := by decide +kernel
theorem dX3_settle_13 : decode cX3_settle 13 = .ok (.istore 4, 2) := by decide +kernel
theorem dX3_settle_15 : decode cX3_settle 15 = .ok (.iload 4, 2) := by decide +kernel
theorem dX3_settle_17 : decode cX3_settle 17 = .ok (.aload_n 0, 1) := by decide +kernel
theorem dX3_settle_18 : decode cX3_settle 18 = .ok (.getfield 13, 3) := by decide +kernel
theorem dX3_settle_21 : decode cX3_settle 21 = .ok (.aload_n 0, 1) := by decide +kernel
theorem dX3_settle_22 : decode cX3_settle 22 = .ok (.getfield 41, 3) := by decide +kernel
theorem dX3_settle_25 : decode cX3_settle 25 = .ok (.iaload, 1) := by decide +kernel
theorem dX3_settle_26 : decode cX3_settle 26 = .ok (.if_icmp .ge 50, 3) := by decide +kernel
theorem dX3_settle_29 : decode cX3_settle 29 = .ok (.aload_n 0, 1) := by decide +kernel
theorem dX3_settle_30 : decode cX3_settle 30 = .ok (.iload 4, 2) := by decide +kernel
theorem dX3_settle_32 : decode cX3_settle 32 = .ok (.invokevirtual 49, 3) := by decide +kernel
theorem dX3_settle_35 : decode cX3_settle 35 = .ok (.ifCond .ne 35, 3) := by decide +kernel
theorem dX3_settle_38 : decode cX3_settle 38 = .ok (.aload_n 0, 1) := by decide +kernel
theorem dX3_settle_39 : decode cX3_settle 39 = .ok (.iload 4, 2) := by decide +kernel
theorem dX3_settle_41 : decode cX3_settle 41 = .ok (.invokevirtual 69, 3) := by decide +kernel
theorem dX3_settle_44 : decode cX3_settle 44 = .ok (.ifCond .eq 26, 3) := by decide +kernel
theorem dX3_settle_47 : decode cX3_settle 47 = .ok (.iload_n 3, 1) := by decide +kernel
theorem dX3_settle_48 : decode cX3_settle 48 = .ok (.ifCond .lt 19, 3) := by decide +kernel
theorem dX3_settle_51 : decode cX3_settle 51 = .ok (.aload_n 0, 1) := by decide +kernel
theorem dX3_settle_52 : decode cX3_settle 52 = .ok (.iload 4, 2) := by decide +kernel
theorem dX3_settle_54 : decode cX3_settle 54 = .ok (.iconst 0, 1) := by decide +kernel
theorem dX3_settle_55 : decode cX3_settle 55 = .ok (.invokevirtual 45, 3) := by decide +kernel
theorem dX3_settle_58 : decode cX3_settle 58 = .ok (.aload_n 0, 1) := by decide +kernel
theorem dX3_settle_59 : decode cX3_settle 59 = .ok (.iload_n 3, 1) := by decide +kernel
theorem dX3_settle_60 : decode cX3_settle 60 = .ok (.iconst 0, 1) := by decide +kernel
theorem dX3_settle_61 : decode cX3_settle 61 = .ok (.invokevirtual 45, 3) := by decide +kernel
theorem dX3_settle_64 : decode cX3_settle 64 = .ok (.if_icmp .ge 6, 3) := by decide +kernel
theorem dX3_settle_67 : decode cX3_settle 67 = .ok (.iload 4, 2) := by decide +kernel
theorem dX3_settle_69 : decode cX3_settle 69 = .ok (.istore_n 3, 1) := by decide +kernel
theorem dX3_settle_70 : decode cX3_settle 70 = .ok (.iinc 4 1, 3) := by decide +kernel
theorem dX3_settle_73 : decode cX3_settle 73 = .ok (.goto (-58), 3) := by decide +kernel
theorem dX3_settle_76 : decode cX3_settle 76 = .ok (.iload_n 3, 1) := by decide +kernel
theorem dX3_settle_77 : decode cX3_settle 77 = .ok (.ifCond .lt 11, 3) := by decide +kernel
theorem dX3_settle_80 : decode cX3_settle 80 = .ok (.aload_n 0, 1) := by decide +kernel
theorem dX3_settle_81 : decode cX3_settle 81 = .ok (.iload_n 3, 1) := by decide +kernel
theorem dX3_settle_82 : decode cX3_settle 82 = .ok (.invokevirtual 72, 3) := by decide +kernel
theorem dX3_settle_85 : decode cX3_settle 85 = .ok (.iinc 1 1, 3) := by decide +kernel
theorem dX3_settle_88 : decode cX3_settle 88 = .ok (.iinc 2 1, 3) := by decide +kernel
theorem dX3_settle_91 : decode cX3_settle 91 = .ok (.goto (-87), 3) := by decide +kernel
theorem dX3_settle_94 : decode cX3_settle 94 = .ok (.iload_n 1, 1) := by decide +kernel
theorem dX3_settle_95 : decode cX3_settle 95 = .ok (.ireturn, 1) := by decide +kernel
abbrev cX3_ready : ByteArray := prog_9_method_13_code
def yX3_ready : MethodName := ⟨RX3, "ready", "(I)Z"⟩
theorem dX3_ready_0 : decode cX3_ready 0 = .ok (.iconst 1, 1) := by decide +kernel
theorem dX3_ready_1 : decode cX3_ready 1 = .ok (.istore_n 2, 1) := by decide +kernel
theorem dX3_ready_2 : decode cX3_ready 2 = .ok (.iconst 0, 1) := by decide +kernel
theorem dX3_ready_3 : decode cX3_ready 3 = .ok (.istore_n 3, 1) := by decide +kernel
theorem dX3_ready_4 : decode cX3_ready 4 = .ok (.iload_n 3, 1) := by decide +kernel
theorem dX3_ready_5 : decode cX3_ready 5 = .ok (.aload_n 0, 1) := by decide +kernel
theorem dX3_ready_6 : decode cX3_ready 6 = .ok (.iload_n 1, 1) := by decide +kernel
theorem dX3_ready_7 : decode cX3_ready 7 = .ok (.iconst 5, 1) := by decide +kernel
theorem dX3_ready_8 : decode cX3_ready 8 = .ok (.invokevirtual 45, 3) := by decide +kernel
theorem dX3_ready_11 : decode cX3_ready 11 = .ok (.if_icmp .ge 40, 3) := by decide +kernel
theorem dX3_ready_14 : decode cX3_ready 14 = .ok (.aload_n 0, 1) := by decide +kernel
theorem dX3_ready_15 : decode cX3_ready 15 = .ok (.aload_n 0, 1) := by decide +kernel
theorem dX3_ready_16 : decode cX3_ready 16 = .ok (.iload_n 1, 1) := by decide +kernel
theorem dX3_ready_17 : decode cX3_ready 17 = .ok (.bipush 6, 2) := by decide +kernel
theorem dX3_ready_19 : decode cX3_ready 19 = .ok (.iload_n 3, 1) := by decide +kernel
theorem dX3_ready_20 : decode cX3_ready 20 = .ok (.iadd, 1) := by decide +kernel
theorem dX3_ready_21 : decode cX3_ready 21 = .ok (.invokevirtual 45, 3) := by decide +kernel
theorem dX3_ready_24 : decode cX3_ready 24 = .ok (.iconst 1, 1) := by decide +kernel
theorem dX3_ready_25 : decode cX3_ready 25 = .ok (.invokevirtual 53, 3) := by decide +kernel
theorem dX3_ready_28 : decode cX3_ready 28 = .ok (.istore 4, 2) := by decide +kernel
theorem dX3_ready_30 : decode cX3_ready 30 = .ok (.iload_n 2, 1) := by decide +kernel
theorem dX3_ready_31 : decode cX3_ready 31 = .ok (.ifCond .eq 12, 3) := by decide +kernel
theorem dX3_ready_34 : decode cX3_ready 34 = .ok (.iload 4, 2) := by decide +kernel
theorem dX3_ready_36 : decode cX3_ready 36 = .ok (.ifCond .lt 7, 3) := by decide +kernel
theorem dX3_ready_39 : decode cX3_ready 39 = .ok (.iconst 1, 1) := by decide +kernel
theorem dX3_ready_40 : decode cX3_ready 40 = .ok (.goto 4, 3) := by decide +kernel
theorem dX3_ready_43 : decode cX3_ready 43 = .ok (.iconst 0, 1) := by decide +kernel
theorem dX3_ready_44 : decode cX3_ready 44 = .ok (.istore_n 2, 1) := by decide +kernel
theorem dX3_ready_45 : decode cX3_ready 45 = .ok (.iinc 3 1, 3) := by decide +kernel
theorem dX3_ready_48 : decode cX3_ready 48 = .ok (.goto (-44), 3) := by decide +kernel
theorem dX3_ready_51 : decode cX3_ready 51 = .ok (.iload_n 2, 1) := by decide +kernel
theorem dX3_ready_52 : decode cX3_ready 52 = .ok (.ireturn, 1) := by decide +kernel
abbrev cX3_emit : ByteArray := prog_9_method_16_code
def yX3_emit : MethodName := ⟨RX3, "emit", "(II)I"⟩
theorem dX3_emit_0 : decode cX3_emit 0 = .ok (.iload_n 1, 1) := by decide +kernel
theorem dX3_emit_1 : decode cX3_emit 1 = .ok (.invokestatic 75, 3) := by decide +kernel
theorem dX3_emit_4 : decode cX3_emit 4 = .ok (.ifCond .ne 5, 3) := by decide +kernel
theorem dX3_emit_7 : decode cX3_emit 7 = .ok (.iconst (-1), 1) := by decide +kernel
theorem dX3_emit_8 : decode cX3_emit 8 = .ok (.ireturn, 1) := by decide +kernel
theorem dX3_emit_9 : decode cX3_emit 9 = .ok (.aload_n 0, 1) := by decide +kernel
theorem dX3_emit_10 : decode cX3_emit 10 = .ok (.iload_n 1, 1) := by decide +kernel
theorem dX3_emit_11 : decode cX3_emit 11 = .ok (.putfield 41, 3) := by decide +kernel
theorem dX3_emit_14 : decode cX3_emit 14 = .ok (.aload_n 0, 1) := by decide +kernel
theorem dX3_emit_15 : decode cX3_emit 15 = .ok (.iload_n 2, 1) := by decide +kernel
theorem dX3_emit_16 : decode cX3_emit 16 = .ok (.iconst 0, 1) := by decide +kernel
theorem dX3_emit_17 : decode cX3_emit 17 = .ok (.invokevirtual 53, 3) := by decide +kernel
theorem dX3_emit_20 : decode cX3_emit 20 = .ok (.istore_n 3, 1) := by decide +kernel
theorem dX3_emit_21 : decode cX3_emit 21 = .ok (.iload_n 3, 1) := by decide +kernel
theorem dX3_emit_22 : decode cX3_emit 22 = .ok (.ifCond .ge 5, 3) := by decide +kernel
theorem dX3_emit_25 : decode cX3_emit 25 = .ok (.iconst (-1), 1) := by decide +kernel
theorem dX3_emit_26 : decode cX3_emit 26 = .ok (.ireturn, 1) := by decide +kernel
theorem dX3_emit_27 : decode cX3_emit 27 = .ok (.aload_n 0, 1) := by decide +kernel
theorem dX3_emit_28 : decode cX3_emit 28 = .ok (.bipush 6, 2) := by decide +kernel
theorem dX3_emit_30 : decode cX3_emit 30 = .ok (.aload_n 0, 1) := by decide +kernel
theorem dX3_emit_31 : decode cX3_emit 31 = .ok (.iload_n 3, 1) := by decide +kernel
theorem dX3_emit_32 : decode cX3_emit 32 = .ok (.iconst 5, 1) := by decide +kernel
theorem dX3_emit_33 : decode cX3_emit 33 = .ok (.invokevirtual 45, 3) := by decide +kernel
theorem dX3_emit_36 : decode cX3_emit 36 = .ok (.iadd, 1) := by decide +kernel
theorem dX3_emit_37 : decode cX3_emit 37 = .ok (.putfield 88, 3) := by decide +kernel
theorem dX3_emit_40 : decode cX3_emit 40 = .ok (.iconst 0, 1) := by decide +kernel
theorem dX3_emit_41 : decode cX3_emit 41 = .ok (.istore 4, 2) := by decide +kernel
theorem dX3_emit_43 : decode cX3_emit 43 = .ok (.iload 4, 2) := by decide +kernel
theorem dX3_emit_45 : decode cX3_emit 45 = .ok (.aload_n 0, 1) := by decide +kernel
theorem dX3_emit_46 : decode cX3_emit 46 = .ok (.getfield 88, 3) := by decide +kernel
theorem dX3_emit_49 : decode cX3_emit 49 = .ok (.if_icmp .ge 23, 3) := by decide +kernel
theorem dX3_emit_52 : decode cX3_emit 52 = .ok (.aload_n 0, 1) := by decide +kernel
theorem dX3_emit_53 : decode cX3_emit 53 = .ok (.getfield 26, 3) := by decide +kernel
theorem dX3_emit_56 : decode cX3_emit 56 = .ok (.iload 4, 2) := by decide +kernel
theorem dX3_emit_58 : decode cX3_emit 58 = .ok (.aload_n 0, 1) := by decide +kernel
theorem dX3_emit_59 : decode cX3_emit 59 = .ok (.iload_n 3, 1) := by decide +kernel
theorem dX3_emit_60 : decode cX3_emit 60 = .ok (.iload 4, 2) := by decide +kernel
theorem dX3_emit_62 : decode cX3_emit 62 = .ok (.invokevirtual 45, 3) := by decide +kernel
theorem dX3_emit_65 : decode cX3_emit 65 = .ok (.iastore, 1) := by decide +kernel
theorem dX3_emit_66 : decode cX3_emit 66 = .ok (.iinc 4 1, 3) := by decide +kernel
theorem dX3_emit_69 : decode cX3_emit 69 = .ok (.goto (-26), 3) := by decide +kernel
theorem dX3_emit_72 : decode cX3_emit 72 = .ok (.aload_n 0, 1) := by decide +kernel
theorem dX3_emit_73 : decode cX3_emit 73 = .ok (.getfield 88, 3) := by decide +kernel
theorem dX3_emit_76 : decode cX3_emit 76 = .ok (.ireturn, 1) := by decide +kernel
abbrev cX3_wire : ByteArray := prog_9_method_17_code
def yX3_wire : MethodName := ⟨RX3, "wire", "(I)I"⟩
theorem dX3_wire_0 : decode cX3_wire 0 = .ok (.iload_n 1, 1) := by decide +kernel
theorem dX3_wire_1 : decode cX3_wire 1 = .ok (.iconst (-1), 1) := by decide +kernel
theorem dX3_wire_2 : decode cX3_wire 2 = .ok (.if_icmp .ne 10, 3) := by decide +kernel
theorem dX3_wire_5 : decode cX3_wire 5 = .ok (.aload_n 0, 1) := by decide +kernel
theorem dX3_wire_6 : decode cX3_wire 6 = .ok (.getfield 88, 3) := by decide +kernel
theorem dX3_wire_9 : decode cX3_wire 9 = .ok (.goto 25, 3) := by decide +kernel
theorem dX3_wire_12 : decode cX3_wire 12 = .ok (.iload_n 1, 1) := by decide +kernel
theorem dX3_wire_13 : decode cX3_wire 13 = .ok (.ifCond .lt 20, 3) := by decide +kernel
theorem dX3_wire_16 : decode cX3_wire 16 = .ok (.iload_n 1, 1) := by decide +kernel
theorem dX3_wire_17 : decode cX3_wire 17 = .ok (.aload_n 0, 1) := by decide +kernel
theorem dX3_wire_18 : decode cX3_wire 18 = .ok (.getfield 88, 3) := by decide +kernel
theorem dX3_wire_21 : decode cX3_wire 21 = .ok (.if_icmp .ge 12, 3) := by decide +kernel
theorem dX3_wire_24 : decode cX3_wire 24 = .ok (.aload_n 0, 1) := by decide +kernel
theorem dX3_wire_25 : decode cX3_wire 25 = .ok (.getfield 26, 3) := by decide +kernel
theorem dX3_wire_28 : decode cX3_wire 28 = .ok (.iload_n 1, 1) := by decide +kernel
theorem dX3_wire_29 : decode cX3_wire 29 = .ok (.iaload, 1) := by decide +kernel
theorem dX3_wire_30 : decode cX3_wire 30 = .ok (.goto 4, 3) := by decide +kernel
theorem dX3_wire_33 : decode cX3_wire 33 = .ok (.iconst (-1), 1) := by decide +kernel
theorem dX3_wire_34 : decode cX3_wire 34 = .ok (.ireturn, 1) := by decide +kernel
abbrev cX3_alter : ByteArray := prog_9_method_18_code
def yX3_alter : MethodName := ⟨RX3, "alter", "(II)Z"⟩
theorem dX3_alter_0 : decode cX3_alter 0 = .ok (.iload_n 1, 1) := by decide +kernel
theorem dX3_alter_1 : decode cX3_alter 1 = .ok (.ifCond .lt 28, 3) := by decide +kernel
theorem dX3_alter_4 : decode cX3_alter 4 = .ok (.iload_n 1, 1) := by decide +kernel
theorem dX3_alter_5 : decode cX3_alter 5 = .ok (.aload_n 0, 1) := by decide +kernel
theorem dX3_alter_6 : decode cX3_alter 6 = .ok (.getfield 88, 3) := by decide +kernel
theorem dX3_alter_9 : decode cX3_alter 9 = .ok (.if_icmp .gt 20, 3) := by decide +kernel
theorem dX3_alter_12 : decode cX3_alter 12 = .ok (.iload_n 1, 1) := by decide +kernel
theorem dX3_alter_13 : decode cX3_alter 13 = .ok (.bipush 16, 2) := by decide +kernel
theorem dX3_alter_15 : decode cX3_alter 15 = .ok (.if_icmp .ge 14, 3) := by decide +kernel
theorem dX3_alter_18 : decode cX3_alter 18 = .ok (.iload_n 2, 1) := by decide +kernel
theorem dX3_alter_19 : decode cX3_alter 19 = .ok (.ifCond .lt 10, 3) := by decide +kernel
theorem dX3_alter_22 : decode cX3_alter 22 = .ok (.iload_n 2, 1) := by decide +kernel
theorem dX3_alter_23 : decode cX3_alter 23 = .ok (.sipush 255, 3) := by decide +kernel
theorem dX3_alter_26 : decode cX3_alter 26 = .ok (.if_icmp .le 5, 3) := by decide +kernel
theorem dX3_alter_29 : decode cX3_alter 29 = .ok (.iconst 0, 1) := by decide +kernel
theorem dX3_alter_30 : decode cX3_alter 30 = .ok (.ireturn, 1) := by decide +kernel
theorem dX3_alter_31 : decode cX3_alter 31 = .ok (.aload_n 0, 1) := by decide +kernel
theorem dX3_alter_32 : decode cX3_alter 32 = .ok (.getfield 26, 3) := by decide +kernel
theorem dX3_alter_35 : decode cX3_alter 35 = .ok (.iload_n 1, 1) := by decide +kernel
theorem dX3_alter_36 : decode cX3_alter 36 = .ok (.iload_n 2, 1) := by decide +kernel
theorem dX3_alter_37 : decode cX3_alter 37 = .ok (.iastore, 1) := by decide +kernel
theorem dX3_alter_38 : decode cX3_alter 38 = .ok (.aload_n 0, 1) := by decide +kernel
theorem dX3_alter_39 : decode cX3_alter 39 = .ok (.iload_n 1, 1) := by decide +kernel
theorem dX3_alter_40 : decode cX3_alter 40 = .ok (.aload_n 0, 1) := by decide +kernel
theorem dX3_alter_41 : decode cX3_alter 41 = .ok (.getfield 88, 3) := by decide +kernel
theorem dX3_alter_44 : decode cX3_alter 44 = .ok (.if_icmp .ne 12, 3) := by decide +kernel
theorem dX3_alter_47 : decode cX3_alter 47 = .ok (.aload_n 0, 1) := by decide +kernel
theorem dX3_alter_48 : decode cX3_alter 48 = .ok (.getfield 88, 3) := by decide +kernel
theorem dX3_alter_51 : decode cX3_alter 51 = .ok (.iconst 1, 1) := by decide +kernel
theorem dX3_alter_52 : decode cX3_alter 52 = .ok (.iadd, 1) := by decide +kernel
theorem dX3_alter_53 : decode cX3_alter 53 = .ok (.goto 7, 3) := by decide +kernel
theorem dX3_alter_56 : decode cX3_alter 56 = .ok (.aload_n 0, 1) := by decide +kernel
theorem dX3_alter_57 : decode cX3_alter 57 = .ok (.getfield 88, 3) := by decide +kernel
theorem dX3_alter_60 : decode cX3_alter 60 = .ok (.putfield 88, 3) := by decide +kernel
theorem dX3_alter_63 : decode cX3_alter 63 = .ok (.iconst 1, 1) := by decide +kernel
theorem dX3_alter_64 : decode cX3_alter 64 = .ok (.ireturn, 1) := by decide +kernel
abbrev cX3_cut : ByteArray := prog_9_method_19_code
def yX3_cut : MethodName := ⟨RX3, "cut", "(I)Z"⟩
theorem dX3_cut_0 : decode cX3_cut 0 = .ok (.iload_n 1, 1) := by decide +kernel
theorem dX3_cut_1 : decode cX3_cut 1 = .ok (.ifCond .lt 11, 3) := by decide +kernel
theorem dX3_cut_4 : decode cX3_cut 4 = .ok (.iload_n 1, 1) := by decide +kernel
theorem dX3_cut_5 : decode cX3_cut 5 = .ok (.aload_n 0, 1) := by decide +kernel
theorem dX3_cut_6 : decode cX3_cut 6 = .ok (.getfield 88, 3) := by decide +kernel
theorem dX3_cut_9 : decode cX3_cut 9 = .ok (.if_icmp .le 5, 3) := by decide +kernel
theorem dX3_cut_12 : decode cX3_cut 12 = .ok (.iconst 0, 1) := by decide +kernel
theorem dX3_cut_13 : decode cX3_cut 13 = .ok (.ireturn, 1) := by decide +kernel
theorem dX3_cut_14 : decode cX3_cut 14 = .ok (.aload_n 0, 1) := by decide +kernel
theorem dX3_cut_15 : decode cX3_cut 15 = .ok (.iload_n 1, 1) := by decide +kernel
theorem dX3_cut_16 : decode cX3_cut 16 = .ok (.putfield 88, 3) := by decide +kernel
theorem dX3_cut_19 : decode cX3_cut 19 = .ok (.iconst 1, 1) := by decide +kernel
theorem dX3_cut_20 : decode cX3_cut 20 = .ok (.ireturn, 1) := by decide +kernel
abbrev cX3_receive : ByteArray := prog_9_method_23_code
def yX3_receive : MethodName := ⟨RX3, "receive", "(I)I"⟩
theorem dX3_receive_0 : decode cX3_receive 0 = .ok (.iload_n 1, 1) := by decide +kernel
theorem dX3_receive_1 : decode cX3_receive 1 = .ok (.invokestatic 75, 3) := by decide +kernel
theorem dX3_receive_4 : decode cX3_receive 4 = .ok (.ifCond .ne 5, 3) := by decide +kernel
theorem dX3_receive_7 : decode cX3_receive 7 = .ok (.iconst (-1), 1) := by decide +kernel
theorem dX3_receive_8 : decode cX3_receive 8 = .ok (.ireturn, 1) := by decide +kernel
theorem dX3_receive_9 : decode cX3_receive 9 = .ok (.aload_n 0, 1) := by decide +kernel
theorem dX3_receive_10 : decode cX3_receive 10 = .ok (.invokevirtual 94, 3) := by decide +kernel
theorem dX3_receive_13 : decode cX3_receive 13 = .ok (.ifCond .ne 6, 3) := by decide +kernel
theorem dX3_receive_16 : decode cX3_receive 16 = .ok (.bipush (-2), 2) := by decide +kernel
theorem dX3_receive_18 : decode cX3_receive 18 = .ok (.ireturn, 1) := by decide +kernel
theorem dX3_receive_19 : decode cX3_receive 19 = .ok (.aload_n 0, 1) := by decide +kernel
theorem dX3_receive_20 : decode cX3_receive 20 = .ok (.iload_n 1, 1) := by decide +kernel
theorem dX3_receive_21 : decode cX3_receive 21 = .ok (.putfield 41, 3) := by decide +kernel
theorem dX3_receive_24 : decode cX3_receive 24 = .ok (.aload_n 0, 1) := by decide +kernel
theorem dX3_receive_25 : decode cX3_receive 25 = .ok (.aload_n 0, 1) := by decide +kernel
theorem dX3_receive_26 : decode cX3_receive 26 = .ok (.getfield 26, 3) := by decide +kernel
theorem dX3_receive_29 : decode cX3_receive 29 = .ok (.iconst 0, 1) := by decide +kernel
theorem dX3_receive_30 : decode cX3_receive 30 = .ok (.iaload, 1) := by decide +kernel
theorem dX3_receive_31 : decode cX3_receive 31 = .ok (.iconst 0, 1) := by decide +kernel
theorem dX3_receive_32 : decode cX3_receive 32 = .ok (.invokevirtual 53, 3) := by decide +kernel
theorem dX3_receive_35 : decode cX3_receive 35 = .ok (.istore_n 2, 1) := by decide +kernel
theorem dX3_receive_36 : decode cX3_receive 36 = .ok (.iload_n 2, 1) := by decide +kernel
theorem dX3_receive_37 : decode cX3_receive 37 = .ok (.ifCond .lt 19, 3) := by decide +kernel
theorem dX3_receive_40 : decode cX3_receive 40 = .ok (.aload_n 0, 1) := by decide +kernel
theorem dX3_receive_41 : decode cX3_receive 41 = .ok (.iload_n 2, 1) := by decide +kernel
theorem dX3_receive_42 : decode cX3_receive 42 = .ok (.invokevirtual 98, 3) := by decide +kernel
theorem dX3_receive_45 : decode cX3_receive 45 = .ok (.ifCond .eq 8, 3) := by decide +kernel
theorem dX3_receive_48 : decode cX3_receive 48 = .ok (.bipush (-8), 2) := by decide +kernel
theorem dX3_receive_50 : decode cX3_receive 50 = .ok (.goto 5, 3) := by decide +kernel
theorem dX3_receive_53 : decode cX3_receive 53 = .ok (.bipush (-3), 2) := by decide +kernel
theorem dX3_receive_55 : decode cX3_receive 55 = .ok (.ireturn, 1) := by decide +kernel
theorem dX3_receive_56 : decode cX3_receive 56 = .ok (.aload_n 0, 1) := by decide +kernel
theorem dX3_receive_57 : decode cX3_receive 57 = .ok (.getfield 26, 3) := by decide +kernel
theorem dX3_receive_60 : decode cX3_receive 60 = .ok (.iconst 0, 1) := by decide +kernel
theorem dX3_receive_61 : decode cX3_receive 61 = .ok (.iaload, 1) := by decide +kernel
theorem dX3_receive_62 : decode cX3_receive 62 = .ok (.iconst 4, 1) := by decide +kernel
theorem dX3_receive_63 : decode cX3_receive 63 = .ok (.irem, 1) := by decide +kernel
theorem dX3_receive_64 : decode cX3_receive 64 = .ok (.iload_n 1, 1) := by decide +kernel
theorem dX3_receive_65 : decode cX3_receive 65 = .ok (.if_icmp .ne 6, 3) := by decide +kernel
theorem dX3_receive_68 : decode cX3_receive 68 = .ok (.bipush (-4), 2) := by decide +kernel
theorem dX3_receive_70 : decode cX3_receive 70 = .ok (.ireturn, 1) := by decide +kernel
theorem dX3_receive_71 : decode cX3_receive 71 = .ok (.aload_n 0, 1) := by decide +kernel
theorem dX3_receive_72 : decode cX3_receive 72 = .ok (.aload_n 0, 1) := by decide +kernel
theorem dX3_receive_73 : decode cX3_receive 73 = .ok (.getfield 26, 3) := by decide +kernel
theorem dX3_receive_76 : decode cX3_receive 76 = .ok (.iconst 2, 1) := by decide +kernel
theorem dX3_receive_77 : decode cX3_receive 77 = .ok (.iaload, 1) := by decide +kernel
theorem dX3_receive_78 : decode cX3_receive 78 = .ok (.invokevirtual 101, 3) := by decide +kernel
theorem dX3_receive_81 : decode cX3_receive 81 = .ok (.ifCond .eq 26, 3) := by decide +kernel
theorem dX3_receive_84 : decode cX3_receive 84 = .ok (.aload_n 0, 1) := by decide +kernel
theorem dX3_receive_85 : decode cX3_receive 85 = .ok (.getfield 26, 3) := by decide +kernel
theorem dX3_receive_88 : decode cX3_receive 88 = .ok (.iconst 1, 1) := by decide +kernel
theorem dX3_receive_89 : decode cX3_receive 89 = .ok (.iaload, 1) := by decide +kernel
theorem dX3_receive_90 : decode cX3_receive 90 = .ok (.iconst 3, 1) := by decide +kernel
theorem dX3_receive_91 : decode cX3_receive 91 = .ok (.if_icmp .ne 19, 3) := by decide +kernel
theorem dX3_receive_94 : decode cX3_receive 94 = .ok (.aload_n 0, 1) := by decide +kernel
theorem dX3_receive_95 : decode cX3_receive 95 = .ok (.aload_n 0, 1) := by decide +kernel
theorem dX3_receive_96 : decode cX3_receive 96 = .ok (.getfield 26, 3) := by decide +kernel
theorem dX3_receive_99 : decode cX3_receive 99 = .ok (.iconst 3, 1) := by decide +kernel
theorem dX3_receive_100 : decode cX3_receive 100 = .ok (.iaload, 1) := by decide +kernel
theorem dX3_receive_101 : decode cX3_receive 101 = .ok (.invokevirtual 101, 3) := by decide +kernel
theorem dX3_receive_104 : decode cX3_receive 104 = .ok (.ifCond .ne 6, 3) := by decide +kernel
theorem dX3_receive_107 : decode cX3_receive 107 = .ok (.bipush (-5), 2) := by decide +kernel
theorem dX3_receive_109 : decode cX3_receive 109 = .ok (.ireturn, 1) := by decide +kernel
theorem dX3_receive_110 : decode cX3_receive 110 = .ok (.aload_n 0, 1) := by decide +kernel
theorem dX3_receive_111 : decode cX3_receive 111 = .ok (.getfield 88, 3) := by decide +kernel
theorem dX3_receive_114 : decode cX3_receive 114 = .ok (.bipush 6, 2) := by decide +kernel
theorem dX3_receive_116 : decode cX3_receive 116 = .ok (.if_icmp .le 26, 3) := by decide +kernel
theorem dX3_receive_119 : decode cX3_receive 119 = .ok (.aload_n 0, 1) := by decide +kernel
theorem dX3_receive_120 : decode cX3_receive 120 = .ok (.getfield 26, 3) := by decide +kernel
theorem dX3_receive_123 : decode cX3_receive 123 = .ok (.aload_n 0, 1) := by decide +kernel
theorem dX3_receive_124 : decode cX3_receive 124 = .ok (.getfield 88, 3) := by decide +kernel
theorem dX3_receive_127 : decode cX3_receive 127 = .ok (.iconst 1, 1) := by decide +kernel
theorem dX3_receive_128 : decode cX3_receive 128 = .ok (.isub, 1) := by decide +kernel
theorem dX3_receive_129 : decode cX3_receive 129 = .ok (.iaload, 1) := by decide +kernel
theorem dX3_receive_130 : decode cX3_receive 130 = .ok (.aload_n 0, 1) := by decide +kernel
theorem dX3_receive_131 : decode cX3_receive 131 = .ok (.getfield 26, 3) := by decide +kernel
theorem dX3_receive_134 : decode cX3_receive 134 = .ok (.iconst 0, 1) := by decide +kernel
theorem dX3_receive_135 : decode cX3_receive 135 = .ok (.iaload, 1) := by decide +kernel
theorem dX3_receive_136 : decode cX3_receive 136 = .ok (.if_icmp .lt 6, 3) := by decide +kernel
theorem dX3_receive_139 : decode cX3_receive 139 = .ok (.bipush (-6), 2) := by decide +kernel
theorem dX3_receive_141 : decode cX3_receive 141 = .ok (.ireturn, 1) := by decide +kernel
theorem dX3_receive_142 : decode cX3_receive 142 = .ok (.aload_n 0, 1) := by decide +kernel
theorem dX3_receive_143 : decode cX3_receive 143 = .ok (.getfield 13, 3) := by decide +kernel
theorem dX3_receive_146 : decode cX3_receive 146 = .ok (.iload_n 1, 1) := by decide +kernel
theorem dX3_receive_147 : decode cX3_receive 147 = .ok (.iaload, 1) := by decide +kernel
theorem dX3_receive_148 : decode cX3_receive 148 = .ok (.bipush 16, 2) := by decide +kernel
theorem dX3_receive_150 : decode cX3_receive 150 = .ok (.if_icmp .lt 6, 3) := by decide +kernel
theorem dX3_receive_153 : decode cX3_receive 153 = .ok (.bipush (-7), 2) := by decide +kernel
theorem dX3_receive_155 : decode cX3_receive 155 = .ok (.ireturn, 1) := by decide +kernel
theorem dX3_receive_156 : decode cX3_receive 156 = .ok (.iconst 0, 1) := by decide +kernel
theorem dX3_receive_157 : decode cX3_receive 157 = .ok (.istore_n 3, 1) := by decide +kernel
theorem dX3_receive_158 : decode cX3_receive 158 = .ok (.iload_n 3, 1) := by decide +kernel
theorem dX3_receive_159 : decode cX3_receive 159 = .ok (.aload_n 0, 1) := by decide +kernel
theorem dX3_receive_160 : decode cX3_receive 160 = .ok (.getfield 88, 3) := by decide +kernel
theorem dX3_receive_163 : decode cX3_receive 163 = .ok (.if_icmp .ge 36, 3) := by decide +kernel
theorem dX3_receive_166 : decode cX3_receive 166 = .ok (.aload_n 0, 1) := by decide +kernel
theorem dX3_receive_167 : decode cX3_receive 167 = .ok (.getfield 7, 3) := by decide +kernel
theorem dX3_receive_170 : decode cX3_receive 170 = .ok (.bipush 12, 2) := by decide +kernel
theorem dX3_receive_172 : decode cX3_receive 172 = .ok (.bipush 16, 2) := by decide +kernel
theorem dX3_receive_174 : decode cX3_receive 174 = .ok (.iload_n 1, 1) := by decide +kernel
theorem dX3_receive_175 : decode cX3_receive 175 = .ok (.imul, 1) := by decide +kernel
theorem dX3_receive_176 : decode cX3_receive 176 = .ok (.aload_n 0, 1) := by decide +kernel
theorem dX3_receive_177 : decode cX3_receive 177 = .ok (.getfield 13, 3) := by decide +kernel
theorem dX3_receive_180 : decode cX3_receive 180 = .ok (.iload_n 1, 1) := by decide +kernel
theorem dX3_receive_181 : decode cX3_receive 181 = .ok (.iaload, 1) := by decide +kernel
theorem dX3_receive_182 : decode cX3_receive 182 = .ok (.iadd, 1) := by decide +kernel
theorem dX3_receive_183 : decode cX3_receive 183 = .ok (.imul, 1) := by decide +kernel
theorem dX3_receive_184 : decode cX3_receive 184 = .ok (.iload_n 3, 1) := by decide +kernel
theorem dX3_receive_185 : decode cX3_receive 185 = .ok (.iadd, 1) := by decide +kernel
theorem dX3_receive_186 : decode cX3_receive 186 = .ok (.aload_n 0, 1) := by decide +kernel
theorem dX3_receive_187 : decode cX3_receive 187 = .ok (.getfield 26, 3) := by decide +kernel
theorem dX3_receive_190 : decode cX3_receive 190 = .ok (.iload_n 3, 1) := by decide +kernel
theorem dX3_receive_191 : decode cX3_receive 191 = .ok (.iaload, 1) := by decide +kernel
theorem dX3_receive_192 : decode cX3_receive 192 = .ok (.iastore, 1) := by decide +kernel
theorem dX3_receive_193 : decode cX3_receive 193 = .ok (.iinc 3 1, 3) := by decide +kernel
theorem dX3_receive_196 : decode cX3_receive 196 = .ok (.goto (-38), 3) := by decide +kernel
theorem dX3_receive_199 : decode cX3_receive 199 = .ok (.aload_n 0, 1) := by decide +kernel
theorem dX3_receive_200 : decode cX3_receive 200 = .ok (.getfield 16, 3) := by decide +kernel
theorem dX3_receive_203 : decode cX3_receive 203 = .ok (.bipush 16, 2) := by decide +kernel
theorem dX3_receive_205 : decode cX3_receive 205 = .ok (.iload_n 1, 1) := by decide +kernel
theorem dX3_receive_206 : decode cX3_receive 206 = .ok (.imul, 1) := by decide +kernel
theorem dX3_receive_207 : decode cX3_receive 207 = .ok (.aload_n 0, 1) := by decide +kernel
theorem dX3_receive_208 : decode cX3_receive 208 = .ok (.getfield 13, 3) := by decide +kernel
theorem dX3_receive_211 : decode cX3_receive 211 = .ok (.iload_n 1, 1) := by decide +kernel
theorem dX3_receive_212 : decode cX3_receive 212 = .ok (.iaload, 1) := by decide +kernel
theorem dX3_receive_213 : decode cX3_receive 213 = .ok (.iadd, 1) := by decide +kernel
theorem dX3_receive_214 : decode cX3_receive 214 = .ok (.iconst 0, 1) := by decide +kernel
theorem dX3_receive_215 : decode cX3_receive 215 = .ok (.bastore, 1) := by decide +kernel
theorem dX3_receive_216 : decode cX3_receive 216 = .ok (.aload_n 0, 1) := by decide +kernel
theorem dX3_receive_217 : decode cX3_receive 217 = .ok (.getfield 13, 3) := by decide +kernel
theorem dX3_receive_220 : decode cX3_receive 220 = .ok (.iload_n 1, 1) := by decide +kernel
theorem dX3_receive_221 : decode cX3_receive 221 = .ok (.dup2, 1) := by decide +kernel
theorem dX3_receive_222 : decode cX3_receive 222 = .ok (.iaload, 1) := by decide +kernel
theorem dX3_receive_223 : decode cX3_receive 223 = .ok (.iconst 1, 1) := by decide +kernel
theorem dX3_receive_224 : decode cX3_receive 224 = .ok (.iadd, 1) := by decide +kernel
theorem dX3_receive_225 : decode cX3_receive 225 = .ok (.iastore, 1) := by decide +kernel
theorem dX3_receive_226 : decode cX3_receive 226 = .ok (.aload_n 0, 1) := by decide +kernel
theorem dX3_receive_227 : decode cX3_receive 227 = .ok (.invokevirtual 84, 3) := by decide +kernel
theorem dX3_receive_230 : decode cX3_receive 230 = .ok (.ireturn, 1) := by decide +kernel
abbrev cX3_wellFormed : ByteArray := prog_9_method_20_code
def yX3_wellFormed : MethodName := ⟨RX3, "wellFormed", "()Z"⟩
theorem dX3_wellFormed_0 : decode cX3_wellFormed 0 = .ok (.aload_n 0, 1) := by decide +kernel
theorem dX3_wellFormed_1 : decode cX3_wellFormed 1 = .ok (.getfield 88, 3) := by decide +kernel
theorem dX3_wellFormed_4 : decode cX3_wellFormed 4 = .ok (.bipush 6, 2) := by decide +kernel
theorem dX3_wellFormed_6 : decode cX3_wellFormed 6 = .ok (.if_icmp .lt 52, 3) := by decide +kernel
theorem dX3_wellFormed_9 : decode cX3_wellFormed 9 = .ok (.aload_n 0, 1) := by decide +kernel
theorem dX3_wellFormed_10 : decode cX3_wellFormed 10 = .ok (.getfield 26, 3) := by decide +kernel
theorem dX3_wellFormed_13 : decode cX3_wellFormed 13 = .ok (.iconst 5, 1) := by decide +kernel
theorem dX3_wellFormed_14 : decode cX3_wellFormed 14 = .ok (.iaload, 1) := by decide +kernel
theorem dX3_wellFormed_15 : decode cX3_wellFormed 15 = .ok (.bipush 6, 2) := by decide +kernel
theorem dX3_wellFormed_17 : decode cX3_wellFormed 17 = .ok (.if_icmp .gt 41, 3) := by decide +kernel
theorem dX3_wellFormed_20 : decode cX3_wellFormed 20 = .ok (.aload_n 0, 1) := by decide +kernel
theorem dX3_wellFormed_21 : decode cX3_wellFormed 21 = .ok (.getfield 88, 3) := by decide +kernel
theorem dX3_wellFormed_24 : decode cX3_wellFormed 24 = .ok (.bipush 6, 2) := by decide +kernel
theorem dX3_wellFormed_26 : decode cX3_wellFormed 26 = .ok (.aload_n 0, 1) := by decide +kernel
theorem dX3_wellFormed_27 : decode cX3_wellFormed 27 = .ok (.getfield 26, 3) := by decide +kernel
theorem dX3_wellFormed_30 : decode cX3_wellFormed 30 = .ok (.iconst 5, 1) := by decide +kernel
theorem dX3_wellFormed_31 : decode cX3_wellFormed 31 = .ok (.iaload, 1) := by decide +kernel
theorem dX3_wellFormed_32 : decode cX3_wellFormed 32 = .ok (.iadd, 1) := by decide +kernel
theorem dX3_wellFormed_33 : decode cX3_wellFormed 33 = .ok (.if_icmp .ne 25, 3) := by decide +kernel
theorem dX3_wellFormed_36 : decode cX3_wellFormed 36 = .ok (.aload_n 0, 1) := by decide +kernel
theorem dX3_wellFormed_37 : decode cX3_wellFormed 37 = .ok (.getfield 26, 3) := by decide +kernel
theorem dX3_wellFormed_40 : decode cX3_wellFormed 40 = .ok (.iconst 0, 1) := by decide +kernel
theorem dX3_wellFormed_41 : decode cX3_wellFormed 41 = .ok (.iaload, 1) := by decide +kernel
theorem dX3_wellFormed_42 : decode cX3_wellFormed 42 = .ok (.invokestatic 91, 3) := by decide +kernel
theorem dX3_wellFormed_45 : decode cX3_wellFormed 45 = .ok (.ifCond .eq 13, 3) := by decide +kernel
theorem dX3_wellFormed_48 : decode cX3_wellFormed 48 = .ok (.aload_n 0, 1) := by decide +kernel
theorem dX3_wellFormed_49 : decode cX3_wellFormed 49 = .ok (.getfield 26, 3) := by decide +kernel
theorem dX3_wellFormed_52 : decode cX3_wellFormed 52 = .ok (.iconst 1, 1) := by decide +kernel
theorem dX3_wellFormed_53 : decode cX3_wellFormed 53 = .ok (.iaload, 1) := by decide +kernel
theorem dX3_wellFormed_54 : decode cX3_wellFormed 54 = .ok (.iconst 5, 1) := by decide +kernel
theorem dX3_wellFormed_55 : decode cX3_wellFormed 55 = .ok (.if_icmp .le 5, 3) := by decide +kernel
theorem dX3_wellFormed_58 : decode cX3_wellFormed 58 = .ok (.iconst 0, 1) := by decide +kernel
theorem dX3_wellFormed_59 : decode cX3_wellFormed 59 = .ok (.ireturn, 1) := by decide +kernel
theorem dX3_wellFormed_60 : decode cX3_wellFormed 60 = .ok (.bipush 6, 2) := by decide +kernel
theorem dX3_wellFormed_62 : decode cX3_wellFormed 62 = .ok (.istore_n 1, 1) := by decide +kernel
theorem dX3_wellFormed_63 : decode cX3_wellFormed 63 = .ok (.iload_n 1, 1) := by decide +kernel
theorem dX3_wellFormed_64 : decode cX3_wellFormed 64 = .ok (.aload_n 0, 1) := by decide +kernel
theorem dX3_wellFormed_65 : decode cX3_wellFormed 65 = .ok (.getfield 88, 3) := by decide +kernel
theorem dX3_wellFormed_68 : decode cX3_wellFormed 68 = .ok (.if_icmp .ge 46, 3) := by decide +kernel
theorem dX3_wellFormed_71 : decode cX3_wellFormed 71 = .ok (.aload_n 0, 1) := by decide +kernel
theorem dX3_wellFormed_72 : decode cX3_wellFormed 72 = .ok (.getfield 26, 3) := by decide +kernel
theorem dX3_wellFormed_75 : decode cX3_wellFormed 75 = .ok (.iload_n 1, 1) := by decide +kernel
theorem dX3_wellFormed_76 : decode cX3_wellFormed 76 = .ok (.iaload, 1) := by decide +kernel
theorem dX3_wellFormed_77 : decode cX3_wellFormed 77 = .ok (.invokestatic 91, 3) := by decide +kernel
theorem dX3_wellFormed_80 : decode cX3_wellFormed 80 = .ok (.ifCond .eq 26, 3) := by decide +kernel
theorem dX3_wellFormed_83 : decode cX3_wellFormed 83 = .ok (.iload_n 1, 1) := by decide +kernel
theorem dX3_wellFormed_84 : decode cX3_wellFormed 84 = .ok (.bipush 6, 2) := by decide +kernel
theorem dX3_wellFormed_86 : decode cX3_wellFormed 86 = .ok (.if_icmp .le 22, 3) := by decide +kernel
theorem dX3_wellFormed_89 : decode cX3_wellFormed 89 = .ok (.aload_n 0, 1) := by decide +kernel
theorem dX3_wellFormed_90 : decode cX3_wellFormed 90 = .ok (.getfield 26, 3) := by decide +kernel
theorem dX3_wellFormed_93 : decode cX3_wellFormed 93 = .ok (.iload_n 1, 1) := by decide +kernel
theorem dX3_wellFormed_94 : decode cX3_wellFormed 94 = .ok (.iaload, 1) := by decide +kernel
theorem dX3_wellFormed_95 : decode cX3_wellFormed 95 = .ok (.aload_n 0, 1) := by decide +kernel
theorem dX3_wellFormed_96 : decode cX3_wellFormed 96 = .ok (.getfield 26, 3) := by decide +kernel
theorem dX3_wellFormed_99 : decode cX3_wellFormed 99 = .ok (.iload_n 1, 1) := by decide +kernel
theorem dX3_wellFormed_100 : decode cX3_wellFormed 100 = .ok (.iconst 1, 1) := by decide +kernel
theorem dX3_wellFormed_101 : decode cX3_wellFormed 101 = .ok (.isub, 1) := by decide +kernel
theorem dX3_wellFormed_102 : decode cX3_wellFormed 102 = .ok (.iaload, 1) := by decide +kernel
theorem dX3_wellFormed_103 : decode cX3_wellFormed 103 = .ok (.if_icmp .gt 5, 3) := by decide +kernel
theorem dX3_wellFormed_106 : decode cX3_wellFormed 106 = .ok (.iconst 0, 1) := by decide +kernel
theorem dX3_wellFormed_107 : decode cX3_wellFormed 107 = .ok (.ireturn, 1) := by decide +kernel
theorem dX3_wellFormed_108 : decode cX3_wellFormed 108 = .ok (.iinc 1 1, 3) := by decide +kernel
theorem dX3_wellFormed_111 : decode cX3_wellFormed 111 = .ok (.goto (-48), 3) := by decide +kernel
theorem dX3_wellFormed_114 : decode cX3_wellFormed 114 = .ok (.aload_n 0, 1) := by decide +kernel
theorem dX3_wellFormed_115 : decode cX3_wellFormed 115 = .ok (.getfield 26, 3) := by decide +kernel
theorem dX3_wellFormed_118 : decode cX3_wellFormed 118 = .ok (.iconst 1, 1) := by decide +kernel
theorem dX3_wellFormed_119 : decode cX3_wellFormed 119 = .ok (.iaload, 1) := by decide +kernel
theorem dX3_wellFormed_120 : decode cX3_wellFormed 120 = .ok (.istore_n 1, 1) := by decide +kernel
theorem dX3_wellFormed_121 : decode cX3_wellFormed 121 = .ok (.iload_n 1, 1) := by decide +kernel
theorem dX3_wellFormed_122 : decode cX3_wellFormed 122 = .ok (.ifCond .eq 8, 3) := by decide +kernel
theorem dX3_wellFormed_125 : decode cX3_wellFormed 125 = .ok (.iload_n 1, 1) := by decide +kernel
theorem dX3_wellFormed_126 : decode cX3_wellFormed 126 = .ok (.iconst 3, 1) := by decide +kernel
theorem dX3_wellFormed_127 : decode cX3_wellFormed 127 = .ok (.if_icmp .ne 7, 3) := by decide +kernel
theorem dX3_wellFormed_130 : decode cX3_wellFormed 130 = .ok (.iconst 1, 1) := by decide +kernel
theorem dX3_wellFormed_131 : decode cX3_wellFormed 131 = .ok (.goto 4, 3) := by decide +kernel
theorem dX3_wellFormed_134 : decode cX3_wellFormed 134 = .ok (.iconst 0, 1) := by decide +kernel
theorem dX3_wellFormed_135 : decode cX3_wellFormed 135 = .ok (.istore_n 2, 1) := by decide +kernel
theorem dX3_wellFormed_136 : decode cX3_wellFormed 136 = .ok (.aload_n 0, 1) := by decide +kernel
theorem dX3_wellFormed_137 : decode cX3_wellFormed 137 = .ok (.getfield 26, 3) := by decide +kernel
theorem dX3_wellFormed_140 : decode cX3_wellFormed 140 = .ok (.iconst 4, 1) := by decide +kernel
theorem dX3_wellFormed_141 : decode cX3_wellFormed 141 = .ok (.iaload, 1) := by decide +kernel
theorem dX3_wellFormed_142 : decode cX3_wellFormed 142 = .ok (.iload_n 2, 1) := by decide +kernel
theorem dX3_wellFormed_143 : decode cX3_wellFormed 143 = .ok (.ifCond .eq 8, 3) := by decide +kernel
theorem dX3_wellFormed_146 : decode cX3_wellFormed 146 = .ok (.bipush 99, 2) := by decide +kernel
theorem dX3_wellFormed_148 : decode cX3_wellFormed 148 = .ok (.goto 4, 3) := by decide +kernel
theorem dX3_wellFormed_151 : decode cX3_wellFormed 151 = .ok (.iconst 0, 1) := by decide +kernel
theorem dX3_wellFormed_152 : decode cX3_wellFormed 152 = .ok (.if_icmp .le 5, 3) := by decide +kernel
theorem dX3_wellFormed_155 : decode cX3_wellFormed 155 = .ok (.iconst 0, 1) := by decide +kernel
theorem dX3_wellFormed_156 : decode cX3_wellFormed 156 = .ok (.ireturn, 1) := by decide +kernel
theorem dX3_wellFormed_157 : decode cX3_wellFormed 157 = .ok (.iload_n 1, 1) := by decide +kernel
theorem dX3_wellFormed_158 : decode cX3_wellFormed 158 = .ok (.iconst 3, 1) := by decide +kernel
theorem dX3_wellFormed_159 : decode cX3_wellFormed 159 = .ok (.if_icmp .ne 42, 3) := by decide +kernel
theorem dX3_wellFormed_162 : decode cX3_wellFormed 162 = .ok (.aload_n 0, 1) := by decide +kernel
theorem dX3_wellFormed_163 : decode cX3_wellFormed 163 = .ok (.getfield 26, 3) := by decide +kernel
theorem dX3_wellFormed_166 : decode cX3_wellFormed 166 = .ok (.iconst 2, 1) := by decide +kernel
theorem dX3_wellFormed_167 : decode cX3_wellFormed 167 = .ok (.iaload, 1) := by decide +kernel
theorem dX3_wellFormed_168 : decode cX3_wellFormed 168 = .ok (.invokestatic 91, 3) := by decide +kernel
theorem dX3_wellFormed_171 : decode cX3_wellFormed 171 = .ok (.ifCond .eq 28, 3) := by decide +kernel
theorem dX3_wellFormed_174 : decode cX3_wellFormed 174 = .ok (.aload_n 0, 1) := by decide +kernel
theorem dX3_wellFormed_175 : decode cX3_wellFormed 175 = .ok (.getfield 26, 3) := by decide +kernel
theorem dX3_wellFormed_178 : decode cX3_wellFormed 178 = .ok (.iconst 3, 1) := by decide +kernel
theorem dX3_wellFormed_179 : decode cX3_wellFormed 179 = .ok (.iaload, 1) := by decide +kernel
theorem dX3_wellFormed_180 : decode cX3_wellFormed 180 = .ok (.ifCond .eq 15, 3) := by decide +kernel
theorem dX3_wellFormed_183 : decode cX3_wellFormed 183 = .ok (.aload_n 0, 1) := by decide +kernel
theorem dX3_wellFormed_184 : decode cX3_wellFormed 184 = .ok (.getfield 26, 3) := by decide +kernel
theorem dX3_wellFormed_187 : decode cX3_wellFormed 187 = .ok (.iconst 3, 1) := by decide +kernel
theorem dX3_wellFormed_188 : decode cX3_wellFormed 188 = .ok (.iaload, 1) := by decide +kernel
theorem dX3_wellFormed_189 : decode cX3_wellFormed 189 = .ok (.invokestatic 91, 3) := by decide +kernel
theorem dX3_wellFormed_192 : decode cX3_wellFormed 192 = .ok (.ifCond .eq 7, 3) := by decide +kernel
theorem dX3_wellFormed_195 : decode cX3_wellFormed 195 = .ok (.iconst 1, 1) := by decide +kernel
theorem dX3_wellFormed_196 : decode cX3_wellFormed 196 = .ok (.goto 4, 3) := by decide +kernel
theorem dX3_wellFormed_199 : decode cX3_wellFormed 199 = .ok (.iconst 0, 1) := by decide +kernel
theorem dX3_wellFormed_200 : decode cX3_wellFormed 200 = .ok (.ireturn, 1) := by decide +kernel
theorem dX3_wellFormed_201 : decode cX3_wellFormed 201 = .ok (.iload_n 1, 1) := by decide +kernel
theorem dX3_wellFormed_202 : decode cX3_wellFormed 202 = .ok (.iconst 4, 1) := by decide +kernel
theorem dX3_wellFormed_203 : decode cX3_wellFormed 203 = .ok (.if_icmp .ne 30, 3) := by decide +kernel
theorem dX3_wellFormed_206 : decode cX3_wellFormed 206 = .ok (.aload_n 0, 1) := by decide +kernel
theorem dX3_wellFormed_207 : decode cX3_wellFormed 207 = .ok (.getfield 26, 3) := by decide +kernel
theorem dX3_wellFormed_210 : decode cX3_wellFormed 210 = .ok (.iconst 2, 1) := by decide +kernel
theorem dX3_wellFormed_211 : decode cX3_wellFormed 211 = .ok (.iaload, 1) := by decide +kernel
theorem dX3_wellFormed_212 : decode cX3_wellFormed 212 = .ok (.invokestatic 91, 3) := by decide +kernel
theorem dX3_wellFormed_215 : decode cX3_wellFormed 215 = .ok (.ifCond .eq 16, 3) := by decide +kernel
theorem dX3_wellFormed_218 : decode cX3_wellFormed 218 = .ok (.aload_n 0, 1) := by decide +kernel
theorem dX3_wellFormed_219 : decode cX3_wellFormed 219 = .ok (.getfield 26, 3) := by decide +kernel
theorem dX3_wellFormed_222 : decode cX3_wellFormed 222 = .ok (.iconst 3, 1) := by decide +kernel
theorem dX3_wellFormed_223 : decode cX3_wellFormed 223 = .ok (.iaload, 1) := by decide +kernel
theorem dX3_wellFormed_224 : decode cX3_wellFormed 224 = .ok (.ifCond .ne 7, 3) := by decide +kernel
theorem dX3_wellFormed_227 : decode cX3_wellFormed 227 = .ok (.iconst 1, 1) := by decide +kernel
theorem dX3_wellFormed_228 : decode cX3_wellFormed 228 = .ok (.goto 4, 3) := by decide +kernel
theorem dX3_wellFormed_231 : decode cX3_wellFormed 231 = .ok (.iconst 0, 1) := by decide +kernel
theorem dX3_wellFormed_232 : decode cX3_wellFormed 232 = .ok (.ireturn, 1) := by decide +kernel
theorem dX3_wellFormed_233 : decode cX3_wellFormed 233 = .ok (.aload_n 0, 1) := by decide +kernel
theorem dX3_wellFormed_234 : decode cX3_wellFormed 234 = .ok (.getfield 26, 3) := by decide +kernel
theorem dX3_wellFormed_237 : decode cX3_wellFormed 237 = .ok (.iconst 2, 1) := by decide +kernel
theorem dX3_wellFormed_238 : decode cX3_wellFormed 238 = .ok (.iaload, 1) := by decide +kernel
theorem dX3_wellFormed_239 : decode cX3_wellFormed 239 = .ok (.ifCond .eq 15, 3) := by decide +kernel
theorem dX3_wellFormed_242 : decode cX3_wellFormed 242 = .ok (.aload_n 0, 1) := by decide +kernel
theorem dX3_wellFormed_243 : decode cX3_wellFormed 243 = .ok (.getfield 26, 3) := by decide +kernel
theorem dX3_wellFormed_246 : decode cX3_wellFormed 246 = .ok (.iconst 2, 1) := by decide +kernel
theorem dX3_wellFormed_247 : decode cX3_wellFormed 247 = .ok (.iaload, 1) := by decide +kernel
theorem dX3_wellFormed_248 : decode cX3_wellFormed 248 = .ok (.invokestatic 91, 3) := by decide +kernel
theorem dX3_wellFormed_251 : decode cX3_wellFormed 251 = .ok (.ifCond .eq 17, 3) := by decide +kernel
theorem dX3_wellFormed_254 : decode cX3_wellFormed 254 = .ok (.aload_n 0, 1) := by decide +kernel
theorem dX3_wellFormed_255 : decode cX3_wellFormed 255 = .ok (.getfield 26, 3) := by decide +kernel
theorem dX3_wellFormed_258 : decode cX3_wellFormed 258 = .ok (.iconst 3, 1) := by decide +kernel
theorem dX3_wellFormed_259 : decode cX3_wellFormed 259 = .ok (.iaload, 1) := by decide +kernel
theorem dX3_wellFormed_260 : decode cX3_wellFormed 260 = .ok (.iconst 3, 1) := by decide +kernel
theorem dX3_wellFormed_261 : decode cX3_wellFormed 261 = .ok (.if_icmp .gt 7, 3) := by decide +kernel
theorem dX3_wellFormed_264 : decode cX3_wellFormed 264 = .ok (.iconst 1, 1) := by decide +kernel
theorem dX3_wellFormed_265 : decode cX3_wellFormed 265 = .ok (.goto 4, 3) := by decide +kernel
theorem dX3_wellFormed_268 : decode cX3_wellFormed 268 = .ok (.iconst 0, 1) := by decide +kernel
theorem dX3_wellFormed_269 : decode cX3_wellFormed 269 = .ok (.ireturn, 1) := by decide +kernel
abbrev cX3_isId : ByteArray := prog_9_method_3_code
def yX3_isId : MethodName := ⟨RX3, "isId", "(I)Z"⟩
theorem dX3_isId_0 : decode cX3_isId 0 = .ok (.iload_n 0, 1) := by decide +kernel
theorem dX3_isId_1 : decode cX3_isId 1 = .ok (.iconst 4, 1) := by decide +kernel
theorem dX3_isId_2 : decode cX3_isId 2 = .ok (.if_icmp .lt 21, 3) := by decide +kernel
theorem dX3_isId_5 : decode cX3_isId 5 = .ok (.iload_n 0, 1) := by decide +kernel
theorem dX3_isId_6 : decode cX3_isId 6 = .ok (.sipush 162, 3) := by decide +kernel
theorem dX3_isId_9 : decode cX3_isId 9 = .ok (.if_icmp .gt 14, 3) := by decide +kernel
theorem dX3_isId_12 : decode cX3_isId 12 = .ok (.iload_n 0, 1) := by decide +kernel
theorem dX3_isId_13 : decode cX3_isId 13 = .ok (.iconst 4, 1) := by decide +kernel
theorem dX3_isId_14 : decode cX3_isId 14 = .ok (.irem, 1) := by decide +kernel
theorem dX3_isId_15 : decode cX3_isId 15 = .ok (.iconst 3, 1) := by decide +kernel
theorem dX3_isId_16 : decode cX3_isId 16 = .ok (.if_icmp .eq 7, 3) := by decide +kernel
theorem dX3_isId_19 : decode cX3_isId 19 = .ok (.iconst 1, 1) := by decide +kernel
theorem dX3_isId_20 : decode cX3_isId 20 = .ok (.goto 4, 3) := by decide +kernel
theorem dX3_isId_23 : decode cX3_isId 23 = .ok (.iconst 0, 1) := by decide +kernel
theorem dX3_isId_24 : decode cX3_isId 24 = .ok (.ireturn, 1) := by decide +kernel
abbrev cX3_sameAsLine : ByteArray := prog_9_method_22_code
def yX3_sameAsLine : MethodName := ⟨RX3, "sameAsLine", "(I)Z"⟩
theorem dX3_sameAsLine_0 : decode cX3_sameAsLine 0 = .ok (.aload_n 0, 1) := by decide +kernel
theorem dX3_sameAsLine_1 : decode cX3_sameAsLine 1 = .ok (.iload_n 1, 1) := by decide +kernel
theorem dX3_sameAsLine_2 : decode cX3_sameAsLine 2 = .ok (.iconst 5, 1) := by decide +kernel
theorem dX3_sameAsLine_3 : decode cX3_sameAsLine 3 = .ok (.invokevirtual 45, 3) := by decide +kernel
theorem dX3_sameAsLine_6 : decode cX3_sameAsLine 6 = .ok (.aload_n 0, 1) := by decide +kernel
theorem dX3_sameAsLine_7 : decode cX3_sameAsLine 7 = .ok (.getfield 26, 3) := by decide +kernel
theorem dX3_sameAsLine_10 : decode cX3_sameAsLine 10 = .ok (.iconst 5, 1) := by decide +kernel
theorem dX3_sameAsLine_11 : decode cX3_sameAsLine 11 = .ok (.iaload, 1) := by decide +kernel
theorem dX3_sameAsLine_12 : decode cX3_sameAsLine 12 = .ok (.if_icmp .ne 7, 3) := by decide +kernel
theorem dX3_sameAsLine_15 : decode cX3_sameAsLine 15 = .ok (.iconst 1, 1) := by decide +kernel
theorem dX3_sameAsLine_16 : decode cX3_sameAsLine 16 = .ok (.goto 4, 3) := by decide +kernel
theorem dX3_sameAsLine_19 : decode cX3_sameAsLine 19 = .ok (.iconst 0, 1) := by decide +kernel
theorem dX3_sameAsLine_20 : decode cX3_sameAsLine 20 = .ok (.istore_n 2, 1) := by decide +kernel
theorem dX3_sameAsLine_21 : decode cX3_sameAsLine 21 = .ok (.iconst 0, 1) := by decide +kernel
theorem dX3_sameAsLine_22 : decode cX3_sameAsLine 22 = .ok (.istore_n 3, 1) := by decide +kernel
theorem dX3_sameAsLine_23 : decode cX3_sameAsLine 23 = .ok (.iload_n 3, 1) := by decide +kernel
theorem dX3_sameAsLine_24 : decode cX3_sameAsLine 24 = .ok (.aload_n 0, 1) := by decide +kernel
theorem dX3_sameAsLine_25 : decode cX3_sameAsLine 25 = .ok (.getfield 88, 3) := by decide +kernel
theorem dX3_sameAsLine_28 : decode cX3_sameAsLine 28 = .ok (.if_icmp .ge 34, 3) := by decide +kernel
theorem dX3_sameAsLine_31 : decode cX3_sameAsLine 31 = .ok (.iload_n 2, 1) := by decide +kernel
theorem dX3_sameAsLine_32 : decode cX3_sameAsLine 32 = .ok (.ifCond .eq 30, 3) := by decide +kernel
theorem dX3_sameAsLine_35 : decode cX3_sameAsLine 35 = .ok (.aload_n 0, 1) := by decide +kernel
theorem dX3_sameAsLine_36 : decode cX3_sameAsLine 36 = .ok (.iload_n 1, 1) := by decide +kernel
theorem dX3_sameAsLine_37 : decode cX3_sameAsLine 37 = .ok (.iload_n 3, 1) := by decide +kernel
theorem dX3_sameAsLine_38 : decode cX3_sameAsLine 38 = .ok (.invokevirtual 45, 3) := by decide +kernel
theorem dX3_sameAsLine_41 : decode cX3_sameAsLine 41 = .ok (.aload_n 0, 1) := by decide +kernel
theorem dX3_sameAsLine_42 : decode cX3_sameAsLine 42 = .ok (.getfield 26, 3) := by decide +kernel
theorem dX3_sameAsLine_45 : decode cX3_sameAsLine 45 = .ok (.iload_n 3, 1) := by decide +kernel
theorem dX3_sameAsLine_46 : decode cX3_sameAsLine 46 = .ok (.iaload, 1) := by decide +kernel
theorem dX3_sameAsLine_47 : decode cX3_sameAsLine 47 = .ok (.if_icmp .ne 7, 3) := by decide +kernel
theorem dX3_sameAsLine_50 : decode cX3_sameAsLine 50 = .ok (.iconst 1, 1) := by decide +kernel
theorem dX3_sameAsLine_51 : decode cX3_sameAsLine 51 = .ok (.goto 4, 3) := by decide +kernel
theorem dX3_sameAsLine_54 : decode cX3_sameAsLine 54 = .ok (.iconst 0, 1) := by decide +kernel
theorem dX3_sameAsLine_55 : decode cX3_sameAsLine 55 = .ok (.istore_n 2, 1) := by decide +kernel
theorem dX3_sameAsLine_56 : decode cX3_sameAsLine 56 = .ok (.iinc 3 1, 3) := by decide +kernel
theorem dX3_sameAsLine_59 : decode cX3_sameAsLine 59 = .ok (.goto (-36), 3) := by decide +kernel
theorem dX3_sameAsLine_62 : decode cX3_sameAsLine 62 = .ok (.iload_n 2, 1) := by decide +kernel
theorem dX3_sameAsLine_63 : decode cX3_sameAsLine 63 = .ok (.ireturn, 1) := by decide +kernel
abbrev cX3_says : ByteArray := prog_9_method_21_code
def yX3_says : MethodName := ⟨RX3, "says", "(I)Z"⟩
theorem dX3_says_0 : decode cX3_says 0 = .ok (.iload_n 1, 1) := by decide +kernel
theorem dX3_says_1 : decode cX3_says 1 = .ok (.ifCond .ne 7, 3) := by decide +kernel
theorem dX3_says_4 : decode cX3_says 4 = .ok (.iconst 1, 1) := by decide +kernel
theorem dX3_says_5 : decode cX3_says 5 = .ok (.goto 4, 3) := by decide +kernel
theorem dX3_says_8 : decode cX3_says 8 = .ok (.iconst 0, 1) := by decide +kernel
theorem dX3_says_9 : decode cX3_says 9 = .ok (.istore_n 2, 1) := by decide +kernel
theorem dX3_says_10 : decode cX3_says 10 = .ok (.bipush 6, 2) := by decide +kernel
theorem dX3_says_12 : decode cX3_says 12 = .ok (.istore_n 3, 1) := by decide +kernel
theorem dX3_says_13 : decode cX3_says 13 = .ok (.iload_n 3, 1) := by decide +kernel
theorem dX3_says_14 : decode cX3_says 14 = .ok (.aload_n 0, 1) := by decide +kernel
theorem dX3_says_15 : decode cX3_says 15 = .ok (.getfield 88, 3) := by decide +kernel
theorem dX3_says_18 : decode cX3_says 18 = .ok (.if_icmp .ge 29, 3) := by decide +kernel
theorem dX3_says_21 : decode cX3_says 21 = .ok (.iload_n 2, 1) := by decide +kernel
theorem dX3_says_22 : decode cX3_says 22 = .ok (.ifCond .ne 13, 3) := by decide +kernel
theorem dX3_says_25 : decode cX3_says 25 = .ok (.aload_n 0, 1) := by decide +kernel
theorem dX3_says_26 : decode cX3_says 26 = .ok (.getfield 26, 3) := by decide +kernel
theorem dX3_says_29 : decode cX3_says 29 = .ok (.iload_n 3, 1) := by decide +kernel
theorem dX3_says_30 : decode cX3_says 30 = .ok (.iaload, 1) := by decide +kernel
theorem dX3_says_31 : decode cX3_says 31 = .ok (.iload_n 1, 1) := by decide +kernel
theorem dX3_says_32 : decode cX3_says 32 = .ok (.if_icmp .ne 7, 3) := by decide +kernel
theorem dX3_says_35 : decode cX3_says 35 = .ok (.iconst 1, 1) := by decide +kernel
theorem dX3_says_36 : decode cX3_says 36 = .ok (.goto 4, 3) := by decide +kernel
theorem dX3_says_39 : decode cX3_says 39 = .ok (.iconst 0, 1) := by decide +kernel
theorem dX3_says_40 : decode cX3_says 40 = .ok (.istore_n 2, 1) := by decide +kernel
theorem dX3_says_41 : decode cX3_says 41 = .ok (.iinc 3 1, 3) := by decide +kernel
theorem dX3_says_44 : decode cX3_says 44 = .ok (.goto (-31), 3) := by decide +kernel
theorem dX3_says_47 : decode cX3_says 47 = .ok (.iload_n 2, 1) := by decide +kernel
theorem dX3_says_48 : decode cX3_says 48 = .ok (.ireturn, 1) := by decide +kernel
abbrev cX3_held : ByteArray := prog_9_method_24_code
def yX3_held : MethodName := ⟨RX3, "held", "(I)I"⟩
theorem dX3_held_0 : decode cX3_held 0 = .ok (.iload_n 1, 1) := by decide +kernel
theorem dX3_held_1 : decode cX3_held 1 = .ok (.invokestatic 75, 3) := by decide +kernel
theorem dX3_held_4 : decode cX3_held 4 = .ok (.ifCond .eq 12, 3) := by decide +kernel
theorem dX3_held_7 : decode cX3_held 7 = .ok (.aload_n 0, 1) := by decide +kernel
theorem dX3_held_8 : decode cX3_held 8 = .ok (.getfield 13, 3) := by decide +kernel
theorem dX3_held_11 : decode cX3_held 11 = .ok (.iload_n 1, 1) := by decide +kernel
theorem dX3_held_12 : decode cX3_held 12 = .ok (.iaload, 1) := by decide +kernel
theorem dX3_held_13 : decode cX3_held 13 = .ok (.goto 4, 3) := by decide +kernel
theorem dX3_held_16 : decode cX3_held 16 = .ok (.iconst (-1), 1) := by decide +kernel
theorem dX3_held_17 : decode cX3_held 17 = .ok (.ireturn, 1) := by decide +kernel
abbrev cX3_log : ByteArray := prog_9_method_25_code
def yX3_log : MethodName := ⟨RX3, "log", "(II)I"⟩
theorem dX3_log_0 : decode cX3_log 0 = .ok (.iload_n 1, 1) := by decide +kernel
theorem dX3_log_1 : decode cX3_log 1 = .ok (.invokestatic 75, 3) := by decide +kernel
theorem dX3_log_4 : decode cX3_log 4 = .ok (.ifCond .eq 18, 3) := by decide +kernel
theorem dX3_log_7 : decode cX3_log 7 = .ok (.iload_n 2, 1) := by decide +kernel
theorem dX3_log_8 : decode cX3_log 8 = .ok (.iconst (-1), 1) := by decide +kernel
theorem dX3_log_9 : decode cX3_log 9 = .ok (.if_icmp .lt 13, 3) := by decide +kernel
theorem dX3_log_12 : decode cX3_log 12 = .ok (.iload_n 2, 1) := by decide +kernel
theorem dX3_log_13 : decode cX3_log 13 = .ok (.aload_n 0, 1) := by decide +kernel
theorem dX3_log_14 : decode cX3_log 14 = .ok (.getfield 23, 3) := by decide +kernel
theorem dX3_log_17 : decode cX3_log 17 = .ok (.iload_n 1, 1) := by decide +kernel
theorem dX3_log_18 : decode cX3_log 18 = .ok (.iaload, 1) := by decide +kernel
theorem dX3_log_19 : decode cX3_log 19 = .ok (.if_icmp .lt 5, 3) := by decide +kernel
theorem dX3_log_22 : decode cX3_log 22 = .ok (.iconst (-1), 1) := by decide +kernel
theorem dX3_log_23 : decode cX3_log 23 = .ok (.ireturn, 1) := by decide +kernel
theorem dX3_log_24 : decode cX3_log 24 = .ok (.aload_n 0, 1) := by decide +kernel
theorem dX3_log_25 : decode cX3_log 25 = .ok (.iload_n 1, 1) := by decide +kernel
theorem dX3_log_26 : decode cX3_log 26 = .ok (.putfield 41, 3) := by decide +kernel
theorem dX3_log_29 : decode cX3_log 29 = .ok (.iload_n 2, 1) := by decide +kernel
theorem dX3_log_30 : decode cX3_log 30 = .ok (.iconst (-1), 1) := by decide +kernel
theorem dX3_log_31 : decode cX3_log 31 = .ok (.if_icmp .ne 12, 3) := by decide +kernel
theorem dX3_log_34 : decode cX3_log 34 = .ok (.aload_n 0, 1) := by decide +kernel
theorem dX3_log_35 : decode cX3_log 35 = .ok (.getfield 23, 3) := by decide +kernel
theorem dX3_log_38 : decode cX3_log 38 = .ok (.iload_n 1, 1) := by decide +kernel
theorem dX3_log_39 : decode cX3_log 39 = .ok (.iaload, 1) := by decide +kernel
theorem dX3_log_40 : decode cX3_log 40 = .ok (.goto 19, 3) := by decide +kernel
theorem dX3_log_43 : decode cX3_log 43 = .ok (.aload_n 0, 1) := by decide +kernel
theorem dX3_log_44 : decode cX3_log 44 = .ok (.aload_n 0, 1) := by decide +kernel
theorem dX3_log_45 : decode cX3_log 45 = .ok (.getfield 20, 3) := by decide +kernel
theorem dX3_log_48 : decode cX3_log 48 = .ok (.bipush 16, 2) := by decide +kernel
theorem dX3_log_50 : decode cX3_log 50 = .ok (.iload_n 1, 1) := by decide +kernel
theorem dX3_log_51 : decode cX3_log 51 = .ok (.imul, 1) := by decide +kernel
theorem dX3_log_52 : decode cX3_log 52 = .ok (.iload_n 2, 1) := by decide +kernel
theorem dX3_log_53 : decode cX3_log 53 = .ok (.iadd, 1) := by decide +kernel
theorem dX3_log_54 : decode cX3_log 54 = .ok (.iaload, 1) := by decide +kernel
theorem dX3_log_55 : decode cX3_log 55 = .ok (.iconst 0, 1) := by decide +kernel
theorem dX3_log_56 : decode cX3_log 56 = .ok (.invokevirtual 45, 3) := by decide +kernel
theorem dX3_log_59 : decode cX3_log 59 = .ok (.ireturn, 1) := by decide +kernel
abbrev cX3_past : ByteArray := prog_9_method_26_code
def yX3_past : MethodName := ⟨RX3, "past", "(III)Z"⟩
theorem dX3_past_0 : decode cX3_past 0 = .ok (.iload_n 1, 1) := by decide +kernel
theorem dX3_past_1 : decode cX3_past 1 = .ok (.invokestatic 75, 3) := by decide +kernel
theorem dX3_past_4 : decode cX3_past 4 = .ok (.ifCond .ne 5, 3) := by decide +kernel
theorem dX3_past_7 : decode cX3_past 7 = .ok (.iconst 0, 1) := by decide +kernel
theorem dX3_past_8 : decode cX3_past 8 = .ok (.ireturn, 1) := by decide +kernel
theorem dX3_past_9 : decode cX3_past 9 = .ok (.aload_n 0, 1) := by decide +kernel
theorem dX3_past_10 : decode cX3_past 10 = .ok (.iload_n 1, 1) := by decide +kernel
theorem dX3_past_11 : decode cX3_past 11 = .ok (.invokevirtual 78, 3) := by decide +kernel
theorem dX3_past_14 : decode cX3_past 14 = .ok (.aload_n 0, 1) := by decide +kernel
theorem dX3_past_15 : decode cX3_past 15 = .ok (.iload_n 2, 1) := by decide +kernel
theorem dX3_past_16 : decode cX3_past 16 = .ok (.iconst 1, 1) := by decide +kernel
theorem dX3_past_17 : decode cX3_past 17 = .ok (.invokevirtual 53, 3) := by decide +kernel
theorem dX3_past_20 : decode cX3_past 20 = .ok (.istore 4, 2) := by decide +kernel
theorem dX3_past_22 : decode cX3_past 22 = .ok (.aload_n 0, 1) := by decide +kernel
theorem dX3_past_23 : decode cX3_past 23 = .ok (.iload_n 3, 1) := by decide +kernel
theorem dX3_past_24 : decode cX3_past 24 = .ok (.iconst 1, 1) := by decide +kernel
theorem dX3_past_25 : decode cX3_past 25 = .ok (.invokevirtual 53, 3) := by decide +kernel
theorem dX3_past_28 : decode cX3_past 28 = .ok (.istore 5, 2) := by decide +kernel
theorem dX3_past_30 : decode cX3_past 30 = .ok (.iload 4, 2) := by decide +kernel
theorem dX3_past_32 : decode cX3_past 32 = .ok (.ifCond .lt 28, 3) := by decide +kernel
theorem dX3_past_35 : decode cX3_past 35 = .ok (.iload 5, 2) := by decide +kernel
theorem dX3_past_37 : decode cX3_past 37 = .ok (.ifCond .lt 23, 3) := by decide +kernel
theorem dX3_past_40 : decode cX3_past 40 = .ok (.aload_n 0, 1) := by decide +kernel
theorem dX3_past_41 : decode cX3_past 41 = .ok (.getfield 32, 3) := by decide +kernel
theorem dX3_past_44 : decode cX3_past 44 = .ok (.iload 5, 2) := by decide +kernel
theorem dX3_past_46 : decode cX3_past 46 = .ok (.iaload, 1) := by decide +kernel
theorem dX3_past_47 : decode cX3_past 47 = .ok (.iload 4, 2) := by decide +kernel
theorem dX3_past_49 : decode cX3_past 49 = .ok (.ishr, 1) := by decide +kernel
theorem dX3_past_50 : decode cX3_past 50 = .ok (.iconst 1, 1) := by decide +kernel
theorem dX3_past_51 : decode cX3_past 51 = .ok (.iand, 1) := by decide +kernel
theorem dX3_past_52 : decode cX3_past 52 = .ok (.iconst 1, 1) := by decide +kernel
theorem dX3_past_53 : decode cX3_past 53 = .ok (.if_icmp .ne 7, 3) := by decide +kernel
theorem dX3_past_56 : decode cX3_past 56 = .ok (.iconst 1, 1) := by decide +kernel
theorem dX3_past_57 : decode cX3_past 57 = .ok (.goto 4, 3) := by decide +kernel
theorem dX3_past_60 : decode cX3_past 60 = .ok (.iconst 0, 1) := by decide +kernel
theorem dX3_past_61 : decode cX3_past 61 = .ok (.ireturn, 1) := by decide +kernel
abbrev cX3_heads : ByteArray := prog_9_method_27_code
def yX3_heads : MethodName := ⟨RX3, "heads", "(I)I"⟩
theorem dX3_heads_0 : decode cX3_heads 0 = .ok (.iload_n 1, 1) := by decide +kernel
theorem dX3_heads_1 : decode cX3_heads 1 = .ok (.invokestatic 75, 3) := by decide +kernel
theorem dX3_heads_4 : decode cX3_heads 4 = .ok (.ifCond .ne 5, 3) := by decide +kernel
theorem dX3_heads_7 : decode cX3_heads 7 = .ok (.iconst (-1), 1) := by decide +kernel
theorem dX3_heads_8 : decode cX3_heads 8 = .ok (.ireturn, 1) := by decide +kernel
theorem dX3_heads_9 : decode cX3_heads 9 = .ok (.aload_n 0, 1) := by decide +kernel
theorem dX3_heads_10 : decode cX3_heads 10 = .ok (.iload_n 1, 1) := by decide +kernel
theorem dX3_heads_11 : decode cX3_heads 11 = .ok (.putfield 41, 3) := by decide +kernel
theorem dX3_heads_14 : decode cX3_heads 14 = .ok (.iconst 0, 1) := by decide +kernel
theorem dX3_heads_15 : decode cX3_heads 15 = .ok (.istore_n 2, 1) := by decide +kernel
theorem dX3_heads_16 : decode cX3_heads 16 = .ok (.iconst 0, 1) := by decide +kernel
theorem dX3_heads_17 : decode cX3_heads 17 = .ok (.istore_n 3, 1) := by decide +kernel
theorem dX3_heads_18 : decode cX3_heads 18 = .ok (.iload_n 3, 1) := by decide +kernel
theorem dX3_heads_19 : decode cX3_heads 19 = .ok (.aload_n 0, 1) := by decide +kernel
theorem dX3_heads_20 : decode cX3_heads 20 = .ok (.getfield 13, 3) := by decide +kernel
theorem dX3_heads_23 : decode cX3_heads 23 = .ok (.iload_n 1, 1) := by decide +kernel
theorem dX3_heads_24 : decode cX3_heads 24 = .ok (.iaload, 1) := by decide +kernel
theorem dX3_heads_25 : decode cX3_heads 25 = .ok (.if_icmp .ge 25, 3) := by decide +kernel
theorem dX3_heads_28 : decode cX3_heads 28 = .ok (.iload_n 2, 1) := by decide +kernel
theorem dX3_heads_29 : decode cX3_heads 29 = .ok (.aload_n 0, 1) := by decide +kernel
theorem dX3_heads_30 : decode cX3_heads 30 = .ok (.iload_n 3, 1) := by decide +kernel
theorem dX3_heads_31 : decode cX3_heads 31 = .ok (.invokevirtual 81, 3) := by decide +kernel
theorem dX3_heads_34 : decode cX3_heads 34 = .ok (.ifCond .eq 7, 3) := by decide +kernel
theorem dX3_heads_37 : decode cX3_heads 37 = .ok (.iconst 1, 1) := by decide +kernel
theorem dX3_heads_38 : decode cX3_heads 38 = .ok (.goto 4, 3) := by decide +kernel
theorem dX3_heads_41 : decode cX3_heads 41 = .ok (.iconst 0, 1) := by decide +kernel
theorem dX3_heads_42 : decode cX3_heads 42 = .ok (.iadd, 1) := by decide +kernel
theorem dX3_heads_43 : decode cX3_heads 43 = .ok (.istore_n 2, 1) := by decide +kernel
theorem dX3_heads_44 : decode cX3_heads 44 = .ok (.iinc 3 1, 3) := by decide +kernel
theorem dX3_heads_47 : decode cX3_heads 47 = .ok (.goto (-29), 3) := by decide +kernel
theorem dX3_heads_50 : decode cX3_heads 50 = .ok (.iload_n 2, 1) := by decide +kernel
theorem dX3_heads_51 : decode cX3_heads 51 = .ok (.ireturn, 1) := by decide +kernel
abbrev cX3_value : ByteArray := prog_9_method_28_code
def yX3_value : MethodName := ⟨RX3, "value", "(II)I"⟩
theorem dX3_value_0 : decode cX3_value 0 = .ok (.iload_n 1, 1) := by decide +kernel
theorem dX3_value_1 : decode cX3_value 1 = .ok (.invokestatic 75, 3) := by decide +kernel
theorem dX3_value_4 : decode cX3_value 4 = .ok (.ifCond .ne 5, 3) := by decide +kernel
theorem dX3_value_7 : decode cX3_value 7 = .ok (.iconst (-1), 1) := by decide +kernel
theorem dX3_value_8 : decode cX3_value 8 = .ok (.ireturn, 1) := by decide +kernel
theorem dX3_value_9 : decode cX3_value 9 = .ok (.aload_n 0, 1) := by decide +kernel
theorem dX3_value_10 : decode cX3_value 10 = .ok (.iload_n 1, 1) := by decide +kernel
theorem dX3_value_11 : decode cX3_value 11 = .ok (.putfield 41, 3) := by decide +kernel
theorem dX3_value_14 : decode cX3_value 14 = .ok (.aload_n 0, 1) := by decide +kernel
theorem dX3_value_15 : decode cX3_value 15 = .ok (.iload_n 2, 1) := by decide +kernel
theorem dX3_value_16 : decode cX3_value 16 = .ok (.iconst 1, 1) := by decide +kernel
theorem dX3_value_17 : decode cX3_value 17 = .ok (.invokevirtual 53, 3) := by decide +kernel
theorem dX3_value_20 : decode cX3_value 20 = .ok (.istore_n 3, 1) := by decide +kernel
theorem dX3_value_21 : decode cX3_value 21 = .ok (.iload_n 3, 1) := by decide +kernel
theorem dX3_value_22 : decode cX3_value 22 = .ok (.ifCond .ge 7, 3) := by decide +kernel
theorem dX3_value_25 : decode cX3_value 25 = .ok (.iconst (-1), 1) := by decide +kernel
theorem dX3_value_26 : decode cX3_value 26 = .ok (.goto 9, 3) := by decide +kernel
theorem dX3_value_29 : decode cX3_value 29 = .ok (.aload_n 0, 1) := by decide +kernel
theorem dX3_value_30 : decode cX3_value 30 = .ok (.iload_n 3, 1) := by decide +kernel
theorem dX3_value_31 : decode cX3_value 31 = .ok (.iconst 4, 1) := by decide +kernel
theorem dX3_value_32 : decode cX3_value 32 = .ok (.invokevirtual 45, 3) := by decide +kernel
theorem dX3_value_35 : decode cX3_value 35 = .ok (.ireturn, 1) := by decide +kernel
abbrev cX3_level : ByteArray := prog_9_method_29_code
def yX3_level : MethodName := ⟨RX3, "level", "(II)Z"⟩
theorem dX3_level_0 : decode cX3_level 0 = .ok (.iload_n 1, 1) := by decide +kernel
theorem dX3_level_1 : decode cX3_level 1 = .ok (.invokestatic 75, 3) := by decide +kernel
theorem dX3_level_4 : decode cX3_level 4 = .ok (.ifCond .eq 10, 3) := by decide +kernel
theorem dX3_level_7 : decode cX3_level 7 = .ok (.iload_n 2, 1) := by decide +kernel
theorem dX3_level_8 : decode cX3_level 8 = .ok (.invokestatic 75, 3) := by decide +kernel
theorem dX3_level_11 : decode cX3_level 11 = .ok (.ifCond .ne 5, 3) := by decide +kernel
theorem dX3_level_14 : decode cX3_level 14 = .ok (.iconst 0, 1) := by decide +kernel
theorem dX3_level_15 : decode cX3_level 15 = .ok (.ireturn, 1) := by decide +kernel
theorem dX3_level_16 : decode cX3_level 16 = .ok (.aload_n 0, 1) := by decide +kernel
theorem dX3_level_17 : decode cX3_level 17 = .ok (.getfield 23, 3) := by decide +kernel
theorem dX3_level_20 : decode cX3_level 20 = .ok (.iload_n 1, 1) := by decide +kernel
theorem dX3_level_21 : decode cX3_level 21 = .ok (.iaload, 1) := by decide +kernel
theorem dX3_level_22 : decode cX3_level 22 = .ok (.aload_n 0, 1) := by decide +kernel
theorem dX3_level_23 : decode cX3_level 23 = .ok (.getfield 23, 3) := by decide +kernel
theorem dX3_level_26 : decode cX3_level 26 = .ok (.iload_n 2, 1) := by decide +kernel
theorem dX3_level_27 : decode cX3_level 27 = .ok (.iaload, 1) := by decide +kernel
theorem dX3_level_28 : decode cX3_level 28 = .ok (.if_icmp .ne 7, 3) := by decide +kernel
theorem dX3_level_31 : decode cX3_level 31 = .ok (.iconst 1, 1) := by decide +kernel
theorem dX3_level_32 : decode cX3_level 32 = .ok (.goto 4, 3) := by decide +kernel
theorem dX3_level_35 : decode cX3_level 35 = .ok (.iconst 0, 1) := by decide +kernel
theorem dX3_level_36 : decode cX3_level 36 = .ok (.istore_n 3, 1) := by decide +kernel
theorem dX3_level_37 : decode cX3_level 37 = .ok (.iconst 0, 1) := by decide +kernel
theorem dX3_level_38 : decode cX3_level 38 = .ok (.istore 4, 2) := by decide +kernel
theorem dX3_level_40 : decode cX3_level 40 = .ok (.iload 4, 2) := by decide +kernel
theorem dX3_level_42 : decode cX3_level 42 = .ok (.aload_n 0, 1) := by decide +kernel
theorem dX3_level_43 : decode cX3_level 43 = .ok (.getfield 13, 3) := by decide +kernel
theorem dX3_level_46 : decode cX3_level 46 = .ok (.iload_n 1, 1) := by decide +kernel
theorem dX3_level_47 : decode cX3_level 47 = .ok (.iaload, 1) := by decide +kernel
theorem dX3_level_48 : decode cX3_level 48 = .ok (.if_icmp .ge 102, 3) := by decide +kernel
theorem dX3_level_51 : decode cX3_level 51 = .ok (.iload_n 3, 1) := by decide +kernel
theorem dX3_level_52 : decode cX3_level 52 = .ok (.ifCond .eq 98, 3) := by decide +kernel
theorem dX3_level_55 : decode cX3_level 55 = .ok (.aload_n 0, 1) := by decide +kernel
theorem dX3_level_56 : decode cX3_level 56 = .ok (.getfield 16, 3) := by decide +kernel
theorem dX3_level_59 : decode cX3_level 59 = .ok (.bipush 16, 2) := by decide +kernel
theorem dX3_level_61 : decode cX3_level 61 = .ok (.iload_n 1, 1) := by decide +kernel
theorem dX3_level_62 : decode cX3_level 62 = .ok (.imul, 1) := by decide +kernel
theorem dX3_level_63 : decode cX3_level 63 = .ok (.iload 4, 2) := by decide +kernel
theorem dX3_level_65 : decode cX3_level 65 = .ok (.iadd, 1) := by decide +kernel
theorem dX3_level_66 : decode cX3_level 66 = .ok (.baload, 1) := by decide +kernel
theorem dX3_level_67 : decode cX3_level 67 = .ok (.ifCond .eq 77, 3) := by decide +kernel
theorem dX3_level_70 : decode cX3_level 70 = .ok (.iconst 0, 1) := by decide +kernel
theorem dX3_level_71 : decode cX3_level 71 = .ok (.istore 5, 2) := by decide +kernel
theorem dX3_level_73 : decode cX3_level 73 = .ok (.iconst 0, 1) := by decide +kernel
theorem dX3_level_74 : decode cX3_level 74 = .ok (.istore 6, 2) := by decide +kernel
theorem dX3_level_76 : decode cX3_level 76 = .ok (.iload 6, 2) := by decide +kernel
theorem dX3_level_78 : decode cX3_level 78 = .ok (.aload_n 0, 1) := by decide +kernel
theorem dX3_level_79 : decode cX3_level 79 = .ok (.getfield 13, 3) := by decide +kernel
theorem dX3_level_82 : decode cX3_level 82 = .ok (.iload_n 2, 1) := by decide +kernel
theorem dX3_level_83 : decode cX3_level 83 = .ok (.iaload, 1) := by decide +kernel
theorem dX3_level_84 : decode cX3_level 84 = .ok (.if_icmp .ge 57, 3) := by decide +kernel
theorem dX3_level_87 : decode cX3_level 87 = .ok (.iload 5, 2) := by decide +kernel
theorem dX3_level_89 : decode cX3_level 89 = .ok (.ifCond .ne 39, 3) := by decide +kernel
theorem dX3_level_92 : decode cX3_level 92 = .ok (.aload_n 0, 1) := by decide +kernel
theorem dX3_level_93 : decode cX3_level 93 = .ok (.getfield 16, 3) := by decide +kernel
theorem dX3_level_96 : decode cX3_level 96 = .ok (.bipush 16, 2) := by decide +kernel
theorem dX3_level_98 : decode cX3_level 98 = .ok (.iload_n 2, 1) := by decide +kernel
theorem dX3_level_99 : decode cX3_level 99 = .ok (.imul, 1) := by decide +kernel
theorem dX3_level_100 : decode cX3_level 100 = .ok (.iload 6, 2) := by decide +kernel
theorem dX3_level_102 : decode cX3_level 102 = .ok (.iadd, 1) := by decide +kernel
theorem dX3_level_103 : decode cX3_level 103 = .ok (.baload, 1) := by decide +kernel
theorem dX3_level_104 : decode cX3_level 104 = .ok (.ifCond .eq 28, 3) := by decide +kernel
theorem dX3_level_107 : decode cX3_level 107 = .ok (.aload_n 0, 1) := by decide +kernel
theorem dX3_level_108 : decode cX3_level 108 = .ok (.bipush 16, 2) := by decide +kernel
theorem dX3_level_110 : decode cX3_level 110 = .ok (.iload_n 1, 1) := by decide +kernel
theorem dX3_level_111 : decode cX3_level 111 = .ok (.imul, 1) := by decide +kernel
theorem dX3_level_112 : decode cX3_level 112 = .ok (.iload 4, 2) := by decide +kernel
theorem dX3_level_114 : decode cX3_level 114 = .ok (.iadd, 1) := by decide +kernel
theorem dX3_level_115 : decode cX3_level 115 = .ok (.bipush 16, 2) := by decide +kernel
theorem dX3_level_117 : decode cX3_level 117 = .ok (.iload_n 2, 1) := by decide +kernel
theorem dX3_level_118 : decode cX3_level 118 = .ok (.imul, 1) := by decide +kernel
theorem dX3_level_119 : decode cX3_level 119 = .ok (.iload 6, 2) := by decide +kernel
theorem dX3_level_121 : decode cX3_level 121 = .ok (.iadd, 1) := by decide +kernel
theorem dX3_level_122 : decode cX3_level 122 = .ok (.invokevirtual 104, 3) := by decide +kernel
theorem dX3_level_125 : decode cX3_level 125 = .ok (.ifCond .eq 7, 3) := by decide +kernel
theorem dX3_level_128 : decode cX3_level 128 = .ok (.iconst 1, 1) := by decide +kernel
theorem dX3_level_129 : decode cX3_level 129 = .ok (.goto 4, 3) := by decide +kernel
theorem dX3_level_132 : decode cX3_level 132 = .ok (.iconst 0, 1) := by decide +kernel
theorem dX3_level_133 : decode cX3_level 133 = .ok (.istore 5, 2) := by decide +kernel
theorem dX3_level_135 : decode cX3_level 135 = .ok (.iinc 6 1, 3) := by decide +kernel
theorem dX3_level_138 : decode cX3_level 138 = .ok (.goto (-62), 3) := by decide +kernel
theorem dX3_level_141 : decode cX3_level 141 = .ok (.iload 5, 2) := by decide +kernel
theorem dX3_level_143 : decode cX3_level 143 = .ok (.istore_n 3, 1) := by decide +kernel
theorem dX3_level_144 : decode cX3_level 144 = .ok (.iinc 4 1, 3) := by decide +kernel
theorem dX3_level_147 : decode cX3_level 147 = .ok (.goto (-107), 3) := by decide +kernel
theorem dX3_level_150 : decode cX3_level 150 = .ok (.iload_n 3, 1) := by decide +kernel
theorem dX3_level_151 : decode cX3_level 151 = .ok (.ireturn, 1) := by decide +kernel
abbrev cX3_alike : ByteArray := prog_9_method_30_code
def yX3_alike : MethodName := ⟨RX3, "alike", "(II)Z"⟩
theorem dX3_alike_0 : decode cX3_alike 0 = .ok (.iconst 1, 1) := by decide +kernel
theorem dX3_alike_1 : decode cX3_alike 1 = .ok (.istore_n 3, 1) := by decide +kernel
theorem dX3_alike_2 : decode cX3_alike 2 = .ok (.iconst 0, 1) := by decide +kernel
theorem dX3_alike_3 : decode cX3_alike 3 = .ok (.istore 4, 2) := by decide +kernel
theorem dX3_alike_5 : decode cX3_alike 5 = .ok (.iload 4, 2) := by decide +kernel
theorem dX3_alike_7 : decode cX3_alike 7 = .ok (.bipush 6, 2) := by decide +kernel
theorem dX3_alike_9 : decode cX3_alike 9 = .ok (.aload_n 0, 1) := by decide +kernel
theorem dX3_alike_10 : decode cX3_alike 10 = .ok (.getfield 7, 3) := by decide +kernel
theorem dX3_alike_13 : decode cX3_alike 13 = .ok (.bipush 12, 2) := by decide +kernel
theorem dX3_alike_15 : decode cX3_alike 15 = .ok (.iload_n 1, 1) := by decide +kernel
theorem dX3_alike_16 : decode cX3_alike 16 = .ok (.imul, 1) := by decide +kernel
theorem dX3_alike_17 : decode cX3_alike 17 = .ok (.iconst 5, 1) := by decide +kernel
theorem dX3_alike_18 : decode cX3_alike 18 = .ok (.iadd, 1) := by decide +kernel
theorem dX3_alike_19 : decode cX3_alike 19 = .ok (.iaload, 1) := by decide +kernel
theorem dX3_alike_20 : decode cX3_alike 20 = .ok (.iadd, 1) := by decide +kernel
theorem dX3_alike_21 : decode cX3_alike 21 = .ok (.if_icmp .ge 46, 3) := by decide +kernel
theorem dX3_alike_24 : decode cX3_alike 24 = .ok (.iload_n 3, 1) := by decide +kernel
theorem dX3_alike_25 : decode cX3_alike 25 = .ok (.ifCond .eq 42, 3) := by decide +kernel
theorem dX3_alike_28 : decode cX3_alike 28 = .ok (.aload_n 0, 1) := by decide +kernel
theorem dX3_alike_29 : decode cX3_alike 29 = .ok (.getfield 7, 3) := by decide +kernel
theorem dX3_alike_32 : decode cX3_alike 32 = .ok (.bipush 12, 2) := by decide +kernel
theorem dX3_alike_34 : decode cX3_alike 34 = .ok (.iload_n 1, 1) := by decide +kernel
theorem dX3_alike_35 : decode cX3_alike 35 = .ok (.imul, 1) := by decide +kernel
theorem dX3_alike_36 : decode cX3_alike 36 = .ok (.iload 4, 2) := by decide +kernel
theorem dX3_alike_38 : decode cX3_alike 38 = .ok (.iadd, 1) := by decide +kernel
theorem dX3_alike_39 : decode cX3_alike 39 = .ok (.iaload, 1) := by decide +kernel
theorem dX3_alike_40 : decode cX3_alike 40 = .ok (.aload_n 0, 1) := by decide +kernel
theorem dX3_alike_41 : decode cX3_alike 41 = .ok (.getfield 7, 3) := by decide +kernel
theorem dX3_alike_44 : decode cX3_alike 44 = .ok (.bipush 12, 2) := by decide +kernel
theorem dX3_alike_46 : decode cX3_alike 46 = .ok (.iload_n 2, 1) := by decide +kernel
theorem dX3_alike_47 : decode cX3_alike 47 = .ok (.imul, 1) := by decide +kernel
theorem dX3_alike_48 : decode cX3_alike 48 = .ok (.iload 4, 2) := by decide +kernel
theorem dX3_alike_50 : decode cX3_alike 50 = .ok (.iadd, 1) := by decide +kernel
theorem dX3_alike_51 : decode cX3_alike 51 = .ok (.iaload, 1) := by decide +kernel
theorem dX3_alike_52 : decode cX3_alike 52 = .ok (.if_icmp .ne 7, 3) := by decide +kernel
theorem dX3_alike_55 : decode cX3_alike 55 = .ok (.iconst 1, 1) := by decide +kernel
theorem dX3_alike_56 : decode cX3_alike 56 = .ok (.goto 4, 3) := by decide +kernel
theorem dX3_alike_59 : decode cX3_alike 59 = .ok (.iconst 0, 1) := by decide +kernel
theorem dX3_alike_60 : decode cX3_alike 60 = .ok (.istore_n 3, 1) := by decide +kernel
theorem dX3_alike_61 : decode cX3_alike 61 = .ok (.iinc 4 1, 3) := by decide +kernel
theorem dX3_alike_64 : decode cX3_alike 64 = .ok (.goto (-59), 3) := by decide +kernel
theorem dX3_alike_67 : decode cX3_alike 67 = .ok (.iload_n 3, 1) := by decide +kernel
theorem dX3_alike_68 : decode cX3_alike 68 = .ok (.ireturn, 1) := by decide +kernel
abbrev cX3_entry : ByteArray := prog_9_method_34_code
def yX3_entry : MethodName := ⟨RX3, "entry", "(IIII)I"⟩
theorem dX3_entry_0 : decode cX3_entry 0 = .ok (.iload_n 1, 1) := by decide +kernel
theorem dX3_entry_1 : decode cX3_entry 1 = .ok (.invokestatic 75, 3) := by decide +kernel
theorem dX3_entry_4 : decode cX3_entry 4 = .ok (.ifCond .eq 18, 3) := by decide +kernel
theorem dX3_entry_7 : decode cX3_entry 7 = .ok (.iload_n 3, 1) := by decide +kernel
theorem dX3_entry_8 : decode cX3_entry 8 = .ok (.ifCond .lt 14, 3) := by decide +kernel
theorem dX3_entry_11 : decode cX3_entry 11 = .ok (.iload_n 3, 1) := by decide +kernel
theorem dX3_entry_12 : decode cX3_entry 12 = .ok (.iconst 3, 1) := by decide +kernel
theorem dX3_entry_13 : decode cX3_entry 13 = .ok (.if_icmp .gt 9, 3) := by decide +kernel
theorem dX3_entry_16 : decode cX3_entry 16 = .ok (.iload 4, 2) := by decide +kernel
theorem dX3_entry_18 : decode cX3_entry 18 = .ok (.iconst (-1), 1) := by decide +kernel
theorem dX3_entry_19 : decode cX3_entry 19 = .ok (.if_icmp .ge 5, 3) := by decide +kernel
theorem dX3_entry_22 : decode cX3_entry 22 = .ok (.iconst (-1), 1) := by decide +kernel
theorem dX3_entry_23 : decode cX3_entry 23 = .ok (.ireturn, 1) := by decide +kernel
theorem dX3_entry_24 : decode cX3_entry 24 = .ok (.aload_n 0, 1) := by decide +kernel
theorem dX3_entry_25 : decode cX3_entry 25 = .ok (.iload_n 1, 1) := by decide +kernel
theorem dX3_entry_26 : decode cX3_entry 26 = .ok (.invokevirtual 78, 3) := by decide +kernel
theorem dX3_entry_29 : decode cX3_entry 29 = .ok (.iload_n 2, 1) := by decide +kernel
theorem dX3_entry_30 : decode cX3_entry 30 = .ok (.ifCond .eq 14, 3) := by decide +kernel
theorem dX3_entry_33 : decode cX3_entry 33 = .ok (.aload_n 0, 1) := by decide +kernel
theorem dX3_entry_34 : decode cX3_entry 34 = .ok (.iload_n 2, 1) := by decide +kernel
theorem dX3_entry_35 : decode cX3_entry 35 = .ok (.iconst 1, 1) := by decide +kernel
theorem dX3_entry_36 : decode cX3_entry 36 = .ok (.invokevirtual 110, 3) := by decide +kernel
theorem dX3_entry_39 : decode cX3_entry 39 = .ok (.ifCond .ne 5, 3) := by decide +kernel
theorem dX3_entry_42 : decode cX3_entry 42 = .ok (.iconst (-1), 1) := by decide +kernel
theorem dX3_entry_43 : decode cX3_entry 43 = .ok (.ireturn, 1) := by decide +kernel
theorem dX3_entry_44 : decode cX3_entry 44 = .ok (.aload_n 0, 1) := by decide +kernel
theorem dX3_entry_45 : decode cX3_entry 45 = .ok (.iload_n 2, 1) := by decide +kernel
theorem dX3_entry_46 : decode cX3_entry 46 = .ok (.iload_n 3, 1) := by decide +kernel
theorem dX3_entry_47 : decode cX3_entry 47 = .ok (.iload 4, 2) := by decide +kernel
theorem dX3_entry_49 : decode cX3_entry 49 = .ok (.invokevirtual 113, 3) := by decide +kernel
theorem dX3_entry_52 : decode cX3_entry 52 = .ok (.istore 5, 2) := by decide +kernel
theorem dX3_entry_54 : decode cX3_entry 54 = .ok (.iload 4, 2) := by decide +kernel
theorem dX3_entry_56 : decode cX3_entry 56 = .ok (.iconst (-1), 1) := by decide +kernel
theorem dX3_entry_57 : decode cX3_entry 57 = .ok (.if_icmp .ne 10, 3) := by decide +kernel
theorem dX3_entry_60 : decode cX3_entry 60 = .ok (.iconst (-1), 1) := by decide +kernel
theorem dX3_entry_61 : decode cX3_entry 61 = .ok (.iload 5, 2) := by decide +kernel
theorem dX3_entry_63 : decode cX3_entry 63 = .ok (.isub, 1) := by decide +kernel
theorem dX3_entry_64 : decode cX3_entry 64 = .ok (.goto 19, 3) := by decide +kernel
theorem dX3_entry_67 : decode cX3_entry 67 = .ok (.iload 5, 2) := by decide +kernel
theorem dX3_entry_69 : decode cX3_entry 69 = .ok (.ifCond .ge 7, 3) := by decide +kernel
theorem dX3_entry_72 : decode cX3_entry 72 = .ok (.iconst (-1), 1) := by decide +kernel
theorem dX3_entry_73 : decode cX3_entry 73 = .ok (.goto 10, 3) := by decide +kernel
theorem dX3_entry_76 : decode cX3_entry 76 = .ok (.aload_n 0, 1) := by decide +kernel
theorem dX3_entry_77 : decode cX3_entry 77 = .ok (.iload 5, 2) := by decide +kernel
theorem dX3_entry_79 : decode cX3_entry 79 = .ok (.iconst 0, 1) := by decide +kernel
theorem dX3_entry_80 : decode cX3_entry 80 = .ok (.invokevirtual 45, 3) := by decide +kernel
theorem dX3_entry_83 : decode cX3_entry 83 = .ok (.ireturn, 1) := by decide +kernel
abbrev cX3_isKind : ByteArray := prog_9_method_33_code
def yX3_isKind : MethodName := ⟨RX3, "isKind", "(II)Z"⟩
theorem dX3_isKind_0 : decode cX3_isKind 0 = .ok (.aload_n 0, 1) := by decide +kernel
theorem dX3_isKind_1 : decode cX3_isKind 1 = .ok (.iload_n 1, 1) := by decide +kernel
theorem dX3_isKind_2 : decode cX3_isKind 2 = .ok (.iconst 1, 1) := by decide +kernel
theorem dX3_isKind_3 : decode cX3_isKind 3 = .ok (.invokevirtual 53, 3) := by decide +kernel
theorem dX3_isKind_6 : decode cX3_isKind 6 = .ok (.istore_n 3, 1) := by decide +kernel
theorem dX3_isKind_7 : decode cX3_isKind 7 = .ok (.iload_n 3, 1) := by decide +kernel
theorem dX3_isKind_8 : decode cX3_isKind 8 = .ok (.ifCond .lt 17, 3) := by decide +kernel
theorem dX3_isKind_11 : decode cX3_isKind 11 = .ok (.aload_n 0, 1) := by decide +kernel
theorem dX3_isKind_12 : decode cX3_isKind 12 = .ok (.iload_n 3, 1) := by decide +kernel
theorem dX3_isKind_13 : decode cX3_isKind 13 = .ok (.iconst 1, 1) := by decide +kernel
theorem dX3_isKind_14 : decode cX3_isKind 14 = .ok (.invokevirtual 45, 3) := by decide +kernel
theorem dX3_isKind_17 : decode cX3_isKind 17 = .ok (.iload_n 2, 1) := by decide +kernel
theorem dX3_isKind_18 : decode cX3_isKind 18 = .ok (.if_icmp .ne 7, 3) := by decide +kernel
theorem dX3_isKind_21 : decode cX3_isKind 21 = .ok (.iconst 1, 1) := by decide +kernel
theorem dX3_isKind_22 : decode cX3_isKind 22 = .ok (.goto 4, 3) := by decide +kernel
theorem dX3_isKind_25 : decode cX3_isKind 25 = .ok (.iconst 0, 1) := by decide +kernel
theorem dX3_isKind_26 : decode cX3_isKind 26 = .ok (.ireturn, 1) := by decide +kernel
abbrev cX3_entryPlace : ByteArray := prog_9_method_32_code
def yX3_entryPlace : MethodName := ⟨RX3, "entryPlace", "(III)I"⟩
theorem dX3_entryPlace_0 : decode cX3_entryPlace 0 = .ok (.iconst 0, 1) := by decide +kernel
theorem dX3_entryPlace_1 : decode cX3_entryPlace 1 = .ok (.istore 4, 2) := by decide +kernel
theorem dX3_entryPlace_3 : decode cX3_entryPlace 3 = .ok (.iconst 4, 1) := by decide +kernel
theorem dX3_entryPlace_4 : decode cX3_entryPlace 4 = .ok (.istore 5, 2) := by decide +kernel
theorem dX3_entryPlace_6 : decode cX3_entryPlace 6 = .ok (.iload 5, 2) := by decide +kernel
theorem dX3_entryPlace_8 : decode cX3_entryPlace 8 = .ok (.sipush 162, 3) := by decide +kernel
theorem dX3_entryPlace_11 : decode cX3_entryPlace 11 = .ok (.if_icmp .gt 66, 3) := by decide +kernel
theorem dX3_entryPlace_14 : decode cX3_entryPlace 14 = .ok (.aload_n 0, 1) := by decide +kernel
theorem dX3_entryPlace_15 : decode cX3_entryPlace 15 = .ok (.iload 5, 2) := by decide +kernel
theorem dX3_entryPlace_17 : decode cX3_entryPlace 17 = .ok (.iconst 1, 1) := by decide +kernel
theorem dX3_entryPlace_18 : decode cX3_entryPlace 18 = .ok (.invokevirtual 53, 3) := by decide +kernel
theorem dX3_entryPlace_21 : decode cX3_entryPlace 21 = .ok (.istore 6, 2) := by decide +kernel
theorem dX3_entryPlace_23 : decode cX3_entryPlace 23 = .ok (.iload 6, 2) := by decide +kernel
theorem dX3_entryPlace_25 : decode cX3_entryPlace 25 = .ok (.ifCond .lt 46, 3) := by decide +kernel
theorem dX3_entryPlace_28 : decode cX3_entryPlace 28 = .ok (.aload_n 0, 1) := by decide +kernel
theorem dX3_entryPlace_29 : decode cX3_entryPlace 29 = .ok (.iload 6, 2) := by decide +kernel
theorem dX3_entryPlace_31 : decode cX3_entryPlace 31 = .ok (.iconst 2, 1) := by decide +kernel
theorem dX3_entryPlace_32 : decode cX3_entryPlace 32 = .ok (.invokevirtual 45, 3) := by decide +kernel
theorem dX3_entryPlace_35 : decode cX3_entryPlace 35 = .ok (.iload_n 1, 1) := by decide +kernel
theorem dX3_entryPlace_36 : decode cX3_entryPlace 36 = .ok (.if_icmp .ne 35, 3) := by decide +kernel
theorem dX3_entryPlace_39 : decode cX3_entryPlace 39 = .ok (.aload_n 0, 1) := by decide +kernel
theorem dX3_entryPlace_40 : decode cX3_entryPlace 40 = .ok (.iload 6, 2) := by decide +kernel
theorem dX3_entryPlace_42 : decode cX3_entryPlace 42 = .ok (.iconst 3, 1) := by decide +kernel
theorem dX3_entryPlace_43 : decode cX3_entryPlace 43 = .ok (.invokevirtual 45, 3) := by decide +kernel
theorem dX3_entryPlace_46 : decode cX3_entryPlace 46 = .ok (.iload_n 2, 1) := by decide +kernel
theorem dX3_entryPlace_47 : decode cX3_entryPlace 47 = .ok (.if_icmp .ne 24, 3) := by decide +kernel
theorem dX3_entryPlace_50 : decode cX3_entryPlace 50 = .ok (.aload_n 0, 1) := by decide +kernel
theorem dX3_entryPlace_51 : decode cX3_entryPlace 51 = .ok (.iload 6, 2) := by decide +kernel
theorem dX3_entryPlace_53 : decode cX3_entryPlace 53 = .ok (.invokevirtual 107, 3) := by decide +kernel
theorem dX3_entryPlace_56 : decode cX3_entryPlace 56 = .ok (.ifCond .eq 15, 3) := by decide +kernel
theorem dX3_entryPlace_59 : decode cX3_entryPlace 59 = .ok (.iload 4, 2) := by decide +kernel
theorem dX3_entryPlace_61 : decode cX3_entryPlace 61 = .ok (.iload_n 3, 1) := by decide +kernel
theorem dX3_entryPlace_62 : decode cX3_entryPlace 62 = .ok (.if_icmp .ne 6, 3) := by decide +kernel
theorem dX3_entryPlace_65 : decode cX3_entryPlace 65 = .ok (.iload 6, 2) := by decide +kernel
theorem dX3_entryPlace_67 : decode cX3_entryPlace 67 = .ok (.ireturn, 1) := by decide +kernel
theorem dX3_entryPlace_68 : decode cX3_entryPlace 68 = .ok (.iinc 4 1, 3) := by decide +kernel
theorem dX3_entryPlace_71 : decode cX3_entryPlace 71 = .ok (.iinc 5 1, 3) := by decide +kernel
theorem dX3_entryPlace_74 : decode cX3_entryPlace 74 = .ok (.goto (-68), 3) := by decide +kernel
theorem dX3_entryPlace_77 : decode cX3_entryPlace 77 = .ok (.iconst (-1), 1) := by decide +kernel
theorem dX3_entryPlace_78 : decode cX3_entryPlace 78 = .ok (.iload 4, 2) := by decide +kernel
theorem dX3_entryPlace_80 : decode cX3_entryPlace 80 = .ok (.isub, 1) := by decide +kernel
theorem dX3_entryPlace_81 : decode cX3_entryPlace 81 = .ok (.ireturn, 1) := by decide +kernel
abbrev cX3_isEntry : ByteArray := prog_9_method_31_code
def yX3_isEntry : MethodName := ⟨RX3, "isEntry", "(I)Z"⟩
theorem dX3_isEntry_0 : decode cX3_isEntry 0 = .ok (.aload_n 0, 1) := by decide +kernel
theorem dX3_isEntry_1 : decode cX3_isEntry 1 = .ok (.iload_n 1, 1) := by decide +kernel
theorem dX3_isEntry_2 : decode cX3_isEntry 2 = .ok (.invokevirtual 49, 3) := by decide +kernel
theorem dX3_isEntry_5 : decode cX3_isEntry 5 = .ok (.ifCond .eq 22, 3) := by decide +kernel
theorem dX3_isEntry_8 : decode cX3_isEntry 8 = .ok (.aload_n 0, 1) := by decide +kernel
theorem dX3_isEntry_9 : decode cX3_isEntry 9 = .ok (.getfield 29, 3) := by decide +kernel
theorem dX3_isEntry_12 : decode cX3_isEntry 12 = .ok (.iload_n 1, 1) := by decide +kernel
theorem dX3_isEntry_13 : decode cX3_isEntry 13 = .ok (.baload, 1) := by decide +kernel
theorem dX3_isEntry_14 : decode cX3_isEntry 14 = .ok (.ifCond .eq 13, 3) := by decide +kernel
theorem dX3_isEntry_17 : decode cX3_isEntry 17 = .ok (.aload_n 0, 1) := by decide +kernel
theorem dX3_isEntry_18 : decode cX3_isEntry 18 = .ok (.iload_n 1, 1) := by decide +kernel
theorem dX3_isEntry_19 : decode cX3_isEntry 19 = .ok (.iconst 1, 1) := by decide +kernel
theorem dX3_isEntry_20 : decode cX3_isEntry 20 = .ok (.invokevirtual 45, 3) := by decide +kernel
theorem dX3_isEntry_23 : decode cX3_isEntry 23 = .ok (.iconst 2, 1) := by decide +kernel
theorem dX3_isEntry_24 : decode cX3_isEntry 24 = .ok (.if_icmp .le 5, 3) := by decide +kernel
theorem dX3_isEntry_27 : decode cX3_isEntry 27 = .ok (.iconst 0, 1) := by decide +kernel
theorem dX3_isEntry_28 : decode cX3_isEntry 28 = .ok (.ireturn, 1) := by decide +kernel
theorem dX3_isEntry_29 : decode cX3_isEntry 29 = .ok (.iconst 1, 1) := by decide +kernel
theorem dX3_isEntry_30 : decode cX3_isEntry 30 = .ok (.istore_n 2, 1) := by decide +kernel
theorem dX3_isEntry_31 : decode cX3_isEntry 31 = .ok (.iconst 0, 1) := by decide +kernel
theorem dX3_isEntry_32 : decode cX3_isEntry 32 = .ok (.istore_n 3, 1) := by decide +kernel
theorem dX3_isEntry_33 : decode cX3_isEntry 33 = .ok (.iload_n 3, 1) := by decide +kernel
theorem dX3_isEntry_34 : decode cX3_isEntry 34 = .ok (.aload_n 0, 1) := by decide +kernel
theorem dX3_isEntry_35 : decode cX3_isEntry 35 = .ok (.getfield 13, 3) := by decide +kernel
theorem dX3_isEntry_38 : decode cX3_isEntry 38 = .ok (.aload_n 0, 1) := by decide +kernel
theorem dX3_isEntry_39 : decode cX3_isEntry 39 = .ok (.getfield 41, 3) := by decide +kernel
theorem dX3_isEntry_42 : decode cX3_isEntry 42 = .ok (.iaload, 1) := by decide +kernel
theorem dX3_isEntry_43 : decode cX3_isEntry 43 = .ok (.if_icmp .ge 112, 3) := by decide +kernel
theorem dX3_isEntry_46 : decode cX3_isEntry 46 = .ok (.aload_n 0, 1) := by decide +kernel
theorem dX3_isEntry_47 : decode cX3_isEntry 47 = .ok (.iload_n 3, 1) := by decide +kernel
theorem dX3_isEntry_48 : decode cX3_isEntry 48 = .ok (.iconst 1, 1) := by decide +kernel
theorem dX3_isEntry_49 : decode cX3_isEntry 49 = .ok (.invokevirtual 45, 3) := by decide +kernel
theorem dX3_isEntry_52 : decode cX3_isEntry 52 = .ok (.istore 4, 2) := by decide +kernel
theorem dX3_isEntry_54 : decode cX3_isEntry 54 = .ok (.aload_n 0, 1) := by decide +kernel
theorem dX3_isEntry_55 : decode cX3_isEntry 55 = .ok (.iload_n 3, 1) := by decide +kernel
theorem dX3_isEntry_56 : decode cX3_isEntry 56 = .ok (.invokevirtual 49, 3) := by decide +kernel
theorem dX3_isEntry_59 : decode cX3_isEntry 59 = .ok (.ifCond .eq 58, 3) := by decide +kernel
theorem dX3_isEntry_62 : decode cX3_isEntry 62 = .ok (.aload_n 0, 1) := by decide +kernel
theorem dX3_isEntry_63 : decode cX3_isEntry 63 = .ok (.getfield 29, 3) := by decide +kernel
theorem dX3_isEntry_66 : decode cX3_isEntry 66 = .ok (.iload_n 3, 1) := by decide +kernel
theorem dX3_isEntry_67 : decode cX3_isEntry 67 = .ok (.baload, 1) := by decide +kernel
theorem dX3_isEntry_68 : decode cX3_isEntry 68 = .ok (.ifCond .eq 49, 3) := by decide +kernel
theorem dX3_isEntry_71 : decode cX3_isEntry 71 = .ok (.iload 4, 2) := by decide +kernel
theorem dX3_isEntry_73 : decode cX3_isEntry 73 = .ok (.iconst 2, 1) := by decide +kernel
theorem dX3_isEntry_74 : decode cX3_isEntry 74 = .ok (.if_icmp .le 9, 3) := by decide +kernel
theorem dX3_isEntry_77 : decode cX3_isEntry 77 = .ok (.iload 4, 2) := by decide +kernel
theorem dX3_isEntry_79 : decode cX3_isEntry 79 = .ok (.iconst 5, 1) := by decide +kernel
theorem dX3_isEntry_80 : decode cX3_isEntry 80 = .ok (.if_icmp .ne 37, 3) := by decide +kernel
theorem dX3_isEntry_83 : decode cX3_isEntry 83 = .ok (.aload_n 0, 1) := by decide +kernel
theorem dX3_isEntry_84 : decode cX3_isEntry 84 = .ok (.iload_n 3, 1) := by decide +kernel
theorem dX3_isEntry_85 : decode cX3_isEntry 85 = .ok (.iconst 2, 1) := by decide +kernel
theorem dX3_isEntry_86 : decode cX3_isEntry 86 = .ok (.invokevirtual 45, 3) := by decide +kernel
theorem dX3_isEntry_89 : decode cX3_isEntry 89 = .ok (.aload_n 0, 1) := by decide +kernel
theorem dX3_isEntry_90 : decode cX3_isEntry 90 = .ok (.iload_n 1, 1) := by decide +kernel
theorem dX3_isEntry_91 : decode cX3_isEntry 91 = .ok (.iconst 2, 1) := by decide +kernel
theorem dX3_isEntry_92 : decode cX3_isEntry 92 = .ok (.invokevirtual 45, 3) := by decide +kernel
theorem dX3_isEntry_95 : decode cX3_isEntry 95 = .ok (.if_icmp .ne 22, 3) := by decide +kernel
theorem dX3_isEntry_98 : decode cX3_isEntry 98 = .ok (.aload_n 0, 1) := by decide +kernel
theorem dX3_isEntry_99 : decode cX3_isEntry 99 = .ok (.iload_n 3, 1) := by decide +kernel
theorem dX3_isEntry_100 : decode cX3_isEntry 100 = .ok (.iconst 3, 1) := by decide +kernel
theorem dX3_isEntry_101 : decode cX3_isEntry 101 = .ok (.invokevirtual 45, 3) := by decide +kernel
theorem dX3_isEntry_104 : decode cX3_isEntry 104 = .ok (.aload_n 0, 1) := by decide +kernel
theorem dX3_isEntry_105 : decode cX3_isEntry 105 = .ok (.iload_n 1, 1) := by decide +kernel
theorem dX3_isEntry_106 : decode cX3_isEntry 106 = .ok (.iconst 3, 1) := by decide +kernel
theorem dX3_isEntry_107 : decode cX3_isEntry 107 = .ok (.invokevirtual 45, 3) := by decide +kernel
theorem dX3_isEntry_110 : decode cX3_isEntry 110 = .ok (.if_icmp .ne 7, 3) := by decide +kernel
theorem dX3_isEntry_113 : decode cX3_isEntry 113 = .ok (.iconst 1, 1) := by decide +kernel
theorem dX3_isEntry_114 : decode cX3_isEntry 114 = .ok (.goto 4, 3) := by decide +kernel
theorem dX3_isEntry_117 : decode cX3_isEntry 117 = .ok (.iconst 0, 1) := by decide +kernel
theorem dX3_isEntry_118 : decode cX3_isEntry 118 = .ok (.istore 5, 2) := by decide +kernel
theorem dX3_isEntry_120 : decode cX3_isEntry 120 = .ok (.iload_n 2, 1) := by decide +kernel
theorem dX3_isEntry_121 : decode cX3_isEntry 121 = .ok (.ifCond .eq 26, 3) := by decide +kernel
theorem dX3_isEntry_124 : decode cX3_isEntry 124 = .ok (.iload 5, 2) := by decide +kernel
theorem dX3_isEntry_126 : decode cX3_isEntry 126 = .ok (.ifCond .eq 17, 3) := by decide +kernel
theorem dX3_isEntry_129 : decode cX3_isEntry 129 = .ok (.aload_n 0, 1) := by decide +kernel
theorem dX3_isEntry_130 : decode cX3_isEntry 130 = .ok (.getfield 32, 3) := by decide +kernel
theorem dX3_isEntry_133 : decode cX3_isEntry 133 = .ok (.iload_n 3, 1) := by decide +kernel
theorem dX3_isEntry_134 : decode cX3_isEntry 134 = .ok (.iaload, 1) := by decide +kernel
theorem dX3_isEntry_135 : decode cX3_isEntry 135 = .ok (.iload_n 1, 1) := by decide +kernel
theorem dX3_isEntry_136 : decode cX3_isEntry 136 = .ok (.ishr, 1) := by decide +kernel
theorem dX3_isEntry_137 : decode cX3_isEntry 137 = .ok (.iconst 1, 1) := by decide +kernel
theorem dX3_isEntry_138 : decode cX3_isEntry 138 = .ok (.iand, 1) := by decide +kernel
theorem dX3_isEntry_139 : decode cX3_isEntry 139 = .ok (.iconst 1, 1) := by decide +kernel
theorem dX3_isEntry_140 : decode cX3_isEntry 140 = .ok (.if_icmp .eq 7, 3) := by decide +kernel
theorem dX3_isEntry_143 : decode cX3_isEntry 143 = .ok (.iconst 1, 1) := by decide +kernel
theorem dX3_isEntry_144 : decode cX3_isEntry 144 = .ok (.goto 4, 3) := by decide +kernel
theorem dX3_isEntry_147 : decode cX3_isEntry 147 = .ok (.iconst 0, 1) := by decide +kernel
theorem dX3_isEntry_148 : decode cX3_isEntry 148 = .ok (.istore_n 2, 1) := by decide +kernel
theorem dX3_isEntry_149 : decode cX3_isEntry 149 = .ok (.iinc 3 1, 3) := by decide +kernel
theorem dX3_isEntry_152 : decode cX3_isEntry 152 = .ok (.goto (-119), 3) := by decide +kernel
theorem dX3_isEntry_155 : decode cX3_isEntry 155 = .ok (.iload_n 2, 1) := by decide +kernel
theorem dX3_isEntry_156 : decode cX3_isEntry 156 = .ok (.ireturn, 1) := by decide +kernel
abbrev cX3_element : ByteArray := prog_9_method_41_code
def yX3_element : MethodName := ⟨RX3, "element", "(III)I"⟩
theorem dX3_element_0 : decode cX3_element 0 = .ok (.iload_n 1, 1) := by decide +kernel
theorem dX3_element_1 : decode cX3_element 1 = .ok (.invokestatic 75, 3) := by decide +kernel
theorem dX3_element_4 : decode cX3_element 4 = .ok (.ifCond .eq 8, 3) := by decide +kernel
theorem dX3_element_7 : decode cX3_element 7 = .ok (.iload_n 3, 1) := by decide +kernel
theorem dX3_element_8 : decode cX3_element 8 = .ok (.iconst (-1), 1) := by decide +kernel
theorem dX3_element_9 : decode cX3_element 9 = .ok (.if_icmp .ge 5, 3) := by decide +kernel
theorem dX3_element_12 : decode cX3_element 12 = .ok (.iconst (-1), 1) := by decide +kernel
theorem dX3_element_13 : decode cX3_element 13 = .ok (.ireturn, 1) := by decide +kernel
theorem dX3_element_14 : decode cX3_element 14 = .ok (.aload_n 0, 1) := by decide +kernel
theorem dX3_element_15 : decode cX3_element 15 = .ok (.iload_n 1, 1) := by decide +kernel
theorem dX3_element_16 : decode cX3_element 16 = .ok (.invokevirtual 78, 3) := by decide +kernel
theorem dX3_element_19 : decode cX3_element 19 = .ok (.aload_n 0, 1) := by decide +kernel
theorem dX3_element_20 : decode cX3_element 20 = .ok (.iload_n 2, 1) := by decide +kernel
theorem dX3_element_21 : decode cX3_element 21 = .ok (.iconst 2, 1) := by decide +kernel
theorem dX3_element_22 : decode cX3_element 22 = .ok (.invokevirtual 110, 3) := by decide +kernel
theorem dX3_element_25 : decode cX3_element 25 = .ok (.ifCond .ne 5, 3) := by decide +kernel
theorem dX3_element_28 : decode cX3_element 28 = .ok (.iconst (-1), 1) := by decide +kernel
theorem dX3_element_29 : decode cX3_element 29 = .ok (.ireturn, 1) := by decide +kernel
theorem dX3_element_30 : decode cX3_element 30 = .ok (.aload_n 0, 1) := by decide +kernel
theorem dX3_element_31 : decode cX3_element 31 = .ok (.iload_n 2, 1) := by decide +kernel
theorem dX3_element_32 : decode cX3_element 32 = .ok (.iload_n 3, 1) := by decide +kernel
theorem dX3_element_33 : decode cX3_element 33 = .ok (.invokevirtual 133, 3) := by decide +kernel
theorem dX3_element_36 : decode cX3_element 36 = .ok (.istore 4, 2) := by decide +kernel
theorem dX3_element_38 : decode cX3_element 38 = .ok (.iload_n 3, 1) := by decide +kernel
theorem dX3_element_39 : decode cX3_element 39 = .ok (.iconst (-1), 1) := by decide +kernel
theorem dX3_element_40 : decode cX3_element 40 = .ok (.if_icmp .ne 10, 3) := by decide +kernel
theorem dX3_element_43 : decode cX3_element 43 = .ok (.iconst (-1), 1) := by decide +kernel
theorem dX3_element_44 : decode cX3_element 44 = .ok (.iload 4, 2) := by decide +kernel
theorem dX3_element_46 : decode cX3_element 46 = .ok (.isub, 1) := by decide +kernel
theorem dX3_element_47 : decode cX3_element 47 = .ok (.goto 19, 3) := by decide +kernel
theorem dX3_element_50 : decode cX3_element 50 = .ok (.iload 4, 2) := by decide +kernel
theorem dX3_element_52 : decode cX3_element 52 = .ok (.ifCond .ge 7, 3) := by decide +kernel
theorem dX3_element_55 : decode cX3_element 55 = .ok (.iconst (-1), 1) := by decide +kernel
theorem dX3_element_56 : decode cX3_element 56 = .ok (.goto 10, 3) := by decide +kernel
theorem dX3_element_59 : decode cX3_element 59 = .ok (.aload_n 0, 1) := by decide +kernel
theorem dX3_element_60 : decode cX3_element 60 = .ok (.iload 4, 2) := by decide +kernel
theorem dX3_element_62 : decode cX3_element 62 = .ok (.iconst 0, 1) := by decide +kernel
theorem dX3_element_63 : decode cX3_element 63 = .ok (.invokevirtual 45, 3) := by decide +kernel
theorem dX3_element_66 : decode cX3_element 66 = .ok (.ireturn, 1) := by decide +kernel
abbrev cX3_elementPlace : ByteArray := prog_9_method_40_code
def yX3_elementPlace : MethodName := ⟨RX3, "elementPlace", "(II)I"⟩
theorem dX3_elementPlace_0 : decode cX3_elementPlace 0 = .ok (.iconst 0, 1) := by decide +kernel
theorem dX3_elementPlace_1 : decode cX3_elementPlace 1 = .ok (.istore_n 3, 1) := by decide +kernel
theorem dX3_elementPlace_2 : decode cX3_elementPlace 2 = .ok (.iconst 0, 1) := by decide +kernel
theorem dX3_elementPlace_3 : decode cX3_elementPlace 3 = .ok (.istore 4, 2) := by decide +kernel
theorem dX3_elementPlace_5 : decode cX3_elementPlace 5 = .ok (.iload 4, 2) := by decide +kernel
theorem dX3_elementPlace_7 : decode cX3_elementPlace 7 = .ok (.aload_n 0, 1) := by decide +kernel
theorem dX3_elementPlace_8 : decode cX3_elementPlace 8 = .ok (.getfield 13, 3) := by decide +kernel
theorem dX3_elementPlace_11 : decode cX3_elementPlace 11 = .ok (.aload_n 0, 1) := by decide +kernel
theorem dX3_elementPlace_12 : decode cX3_elementPlace 12 = .ok (.getfield 41, 3) := by decide +kernel
theorem dX3_elementPlace_15 : decode cX3_elementPlace 15 = .ok (.iaload, 1) := by decide +kernel
theorem dX3_elementPlace_16 : decode cX3_elementPlace 16 = .ok (.if_icmp .ge 113, 3) := by decide +kernel
theorem dX3_elementPlace_19 : decode cX3_elementPlace 19 = .ok (.aload_n 0, 1) := by decide +kernel
theorem dX3_elementPlace_20 : decode cX3_elementPlace 20 = .ok (.iload 4, 2) := by decide +kernel
theorem dX3_elementPlace_22 : decode cX3_elementPlace 22 = .ok (.iload_n 1, 1) := by decide +kernel
theorem dX3_elementPlace_23 : decode cX3_elementPlace 23 = .ok (.invokevirtual 124, 3) := by decide +kernel
theorem dX3_elementPlace_26 : decode cX3_elementPlace 26 = .ok (.ifCond .eq 97, 3) := by decide +kernel
theorem dX3_elementPlace_29 : decode cX3_elementPlace 29 = .ok (.aload_n 0, 1) := by decide +kernel
theorem dX3_elementPlace_30 : decode cX3_elementPlace 30 = .ok (.iload 4, 2) := by decide +kernel
theorem dX3_elementPlace_32 : decode cX3_elementPlace 32 = .ok (.invokevirtual 127, 3) := by decide +kernel
theorem dX3_elementPlace_35 : decode cX3_elementPlace 35 = .ok (.ifCond .ne 88, 3) := by decide +kernel
theorem dX3_elementPlace_38 : decode cX3_elementPlace 38 = .ok (.iinc 3 1, 3) := by decide +kernel
theorem dX3_elementPlace_41 : decode cX3_elementPlace 41 = .ok (.iconst 0, 1) := by decide +kernel
theorem dX3_elementPlace_42 : decode cX3_elementPlace 42 = .ok (.istore 5, 2) := by decide +kernel
theorem dX3_elementPlace_44 : decode cX3_elementPlace 44 = .ok (.iconst 0, 1) := by decide +kernel
theorem dX3_elementPlace_45 : decode cX3_elementPlace 45 = .ok (.istore 6, 2) := by decide +kernel
theorem dX3_elementPlace_47 : decode cX3_elementPlace 47 = .ok (.iload 6, 2) := by decide +kernel
theorem dX3_elementPlace_49 : decode cX3_elementPlace 49 = .ok (.aload_n 0, 1) := by decide +kernel
theorem dX3_elementPlace_50 : decode cX3_elementPlace 50 = .ok (.getfield 13, 3) := by decide +kernel
theorem dX3_elementPlace_53 : decode cX3_elementPlace 53 = .ok (.aload_n 0, 1) := by decide +kernel
theorem dX3_elementPlace_54 : decode cX3_elementPlace 54 = .ok (.getfield 41, 3) := by decide +kernel
theorem dX3_elementPlace_57 : decode cX3_elementPlace 57 = .ok (.iaload, 1) := by decide +kernel
theorem dX3_elementPlace_58 : decode cX3_elementPlace 58 = .ok (.if_icmp .ge 56, 3) := by decide +kernel
theorem dX3_elementPlace_61 : decode cX3_elementPlace 61 = .ok (.iload 5, 2) := by decide +kernel
theorem dX3_elementPlace_63 : decode cX3_elementPlace 63 = .ok (.iload 6, 2) := by decide +kernel
theorem dX3_elementPlace_65 : decode cX3_elementPlace 65 = .ok (.iload 4, 2) := by decide +kernel
theorem dX3_elementPlace_67 : decode cX3_elementPlace 67 = .ok (.if_icmp .eq 37, 3) := by decide +kernel
theorem dX3_elementPlace_70 : decode cX3_elementPlace 70 = .ok (.aload_n 0, 1) := by decide +kernel
theorem dX3_elementPlace_71 : decode cX3_elementPlace 71 = .ok (.iload 6, 2) := by decide +kernel
theorem dX3_elementPlace_73 : decode cX3_elementPlace 73 = .ok (.iload_n 1, 1) := by decide +kernel
theorem dX3_elementPlace_74 : decode cX3_elementPlace 74 = .ok (.invokevirtual 124, 3) := by decide +kernel
theorem dX3_elementPlace_77 : decode cX3_elementPlace 77 = .ok (.ifCond .eq 27, 3) := by decide +kernel
theorem dX3_elementPlace_80 : decode cX3_elementPlace 80 = .ok (.aload_n 0, 1) := by decide +kernel
theorem dX3_elementPlace_81 : decode cX3_elementPlace 81 = .ok (.iload 6, 2) := by decide +kernel
theorem dX3_elementPlace_83 : decode cX3_elementPlace 83 = .ok (.invokevirtual 127, 3) := by decide +kernel
theorem dX3_elementPlace_86 : decode cX3_elementPlace 86 = .ok (.ifCond .ne 18, 3) := by decide +kernel
theorem dX3_elementPlace_89 : decode cX3_elementPlace 89 = .ok (.aload_n 0, 1) := by decide +kernel
theorem dX3_elementPlace_90 : decode cX3_elementPlace 90 = .ok (.iload 6, 2) := by decide +kernel
theorem dX3_elementPlace_92 : decode cX3_elementPlace 92 = .ok (.iload 4, 2) := by decide +kernel
theorem dX3_elementPlace_94 : decode cX3_elementPlace 94 = .ok (.invokevirtual 130, 3) := by decide +kernel
theorem dX3_elementPlace_97 : decode cX3_elementPlace 97 = .ok (.ifCond .eq 7, 3) := by decide +kernel
theorem dX3_elementPlace_100 : decode cX3_elementPlace 100 = .ok (.iconst 1, 1) := by decide +kernel
theorem dX3_elementPlace_101 : decode cX3_elementPlace 101 = .ok (.goto 4, 3) := by decide +kernel
theorem dX3_elementPlace_104 : decode cX3_elementPlace 104 = .ok (.iconst 0, 1) := by decide +kernel
theorem dX3_elementPlace_105 : decode cX3_elementPlace 105 = .ok (.iadd, 1) := by decide +kernel
theorem dX3_elementPlace_106 : decode cX3_elementPlace 106 = .ok (.istore 5, 2) := by decide +kernel
theorem dX3_elementPlace_108 : decode cX3_elementPlace 108 = .ok (.iinc 6 1, 3) := by decide +kernel
theorem dX3_elementPlace_111 : decode cX3_elementPlace 111 = .ok (.goto (-64), 3) := by decide +kernel
theorem dX3_elementPlace_114 : decode cX3_elementPlace 114 = .ok (.iload 5, 2) := by decide +kernel
theorem dX3_elementPlace_116 : decode cX3_elementPlace 116 = .ok (.iload_n 2, 1) := by decide +kernel
theorem dX3_elementPlace_117 : decode cX3_elementPlace 117 = .ok (.if_icmp .ne 6, 3) := by decide +kernel
theorem dX3_elementPlace_120 : decode cX3_elementPlace 120 = .ok (.iload 4, 2) := by decide +kernel
theorem dX3_elementPlace_122 : decode cX3_elementPlace 122 = .ok (.ireturn, 1) := by decide +kernel
theorem dX3_elementPlace_123 : decode cX3_elementPlace 123 = .ok (.iinc 4 1, 3) := by decide +kernel
theorem dX3_elementPlace_126 : decode cX3_elementPlace 126 = .ok (.goto (-121), 3) := by decide +kernel
theorem dX3_elementPlace_129 : decode cX3_elementPlace 129 = .ok (.iconst (-1), 1) := by decide +kernel
theorem dX3_elementPlace_130 : decode cX3_elementPlace 130 = .ok (.iload_n 3, 1) := by decide +kernel
theorem dX3_elementPlace_131 : decode cX3_elementPlace 131 = .ok (.isub, 1) := by decide +kernel
theorem dX3_elementPlace_132 : decode cX3_elementPlace 132 = .ok (.ireturn, 1) := by decide +kernel
abbrev cX3_isElement : ByteArray := prog_9_method_35_code
def yX3_isElement : MethodName := ⟨RX3, "isElement", "(II)Z"⟩
theorem dX3_isElement_0 : decode cX3_isElement 0 = .ok (.aload_n 0, 1) := by decide +kernel
theorem dX3_isElement_1 : decode cX3_isElement 1 = .ok (.iload_n 1, 1) := by decide +kernel
theorem dX3_isElement_2 : decode cX3_isElement 2 = .ok (.invokevirtual 49, 3) := by decide +kernel
theorem dX3_isElement_5 : decode cX3_isElement 5 = .ok (.ifCond .eq 36, 3) := by decide +kernel
theorem dX3_isElement_8 : decode cX3_isElement 8 = .ok (.aload_n 0, 1) := by decide +kernel
theorem dX3_isElement_9 : decode cX3_isElement 9 = .ok (.getfield 29, 3) := by decide +kernel
theorem dX3_isElement_12 : decode cX3_isElement 12 = .ok (.iload_n 1, 1) := by decide +kernel
theorem dX3_isElement_13 : decode cX3_isElement 13 = .ok (.baload, 1) := by decide +kernel
theorem dX3_isElement_14 : decode cX3_isElement 14 = .ok (.ifCond .eq 27, 3) := by decide +kernel
theorem dX3_isElement_17 : decode cX3_isElement 17 = .ok (.aload_n 0, 1) := by decide +kernel
theorem dX3_isElement_18 : decode cX3_isElement 18 = .ok (.iload_n 1, 1) := by decide +kernel
theorem dX3_isElement_19 : decode cX3_isElement 19 = .ok (.iconst 1, 1) := by decide +kernel
theorem dX3_isElement_20 : decode cX3_isElement 20 = .ok (.invokevirtual 45, 3) := by decide +kernel
theorem dX3_isElement_23 : decode cX3_isElement 23 = .ok (.iconst 3, 1) := by decide +kernel
theorem dX3_isElement_24 : decode cX3_isElement 24 = .ok (.if_icmp .ne 17, 3) := by decide +kernel
theorem dX3_isElement_27 : decode cX3_isElement 27 = .ok (.aload_n 0, 1) := by decide +kernel
theorem dX3_isElement_28 : decode cX3_isElement 28 = .ok (.iload_n 1, 1) := by decide +kernel
theorem dX3_isElement_29 : decode cX3_isElement 29 = .ok (.iconst 2, 1) := by decide +kernel
theorem dX3_isElement_30 : decode cX3_isElement 30 = .ok (.invokevirtual 45, 3) := by decide +kernel
theorem dX3_isElement_33 : decode cX3_isElement 33 = .ok (.iload_n 2, 1) := by decide +kernel
theorem dX3_isElement_34 : decode cX3_isElement 34 = .ok (.if_icmp .ne 7, 3) := by decide +kernel
theorem dX3_isElement_37 : decode cX3_isElement 37 = .ok (.iconst 1, 1) := by decide +kernel
theorem dX3_isElement_38 : decode cX3_isElement 38 = .ok (.goto 4, 3) := by decide +kernel
theorem dX3_isElement_41 : decode cX3_isElement 41 = .ok (.iconst 0, 1) := by decide +kernel
theorem dX3_isElement_42 : decode cX3_isElement 42 = .ok (.ireturn, 1) := by decide +kernel
abbrev cX3_gone : ByteArray := prog_9_method_36_code
def yX3_gone : MethodName := ⟨RX3, "gone", "(I)Z"⟩
theorem dX3_gone_0 : decode cX3_gone 0 = .ok (.iconst 0, 1) := by decide +kernel
theorem dX3_gone_1 : decode cX3_gone 1 = .ok (.istore_n 2, 1) := by decide +kernel
theorem dX3_gone_2 : decode cX3_gone 2 = .ok (.iconst 0, 1) := by decide +kernel
theorem dX3_gone_3 : decode cX3_gone 3 = .ok (.istore_n 3, 1) := by decide +kernel
theorem dX3_gone_4 : decode cX3_gone 4 = .ok (.iload_n 3, 1) := by decide +kernel
theorem dX3_gone_5 : decode cX3_gone 5 = .ok (.aload_n 0, 1) := by decide +kernel
theorem dX3_gone_6 : decode cX3_gone 6 = .ok (.getfield 13, 3) := by decide +kernel
theorem dX3_gone_9 : decode cX3_gone 9 = .ok (.aload_n 0, 1) := by decide +kernel
theorem dX3_gone_10 : decode cX3_gone 10 = .ok (.getfield 41, 3) := by decide +kernel
theorem dX3_gone_13 : decode cX3_gone 13 = .ok (.iaload, 1) := by decide +kernel
theorem dX3_gone_14 : decode cX3_gone 14 = .ok (.if_icmp .ge 61, 3) := by decide +kernel
theorem dX3_gone_17 : decode cX3_gone 17 = .ok (.iload_n 2, 1) := by decide +kernel
theorem dX3_gone_18 : decode cX3_gone 18 = .ok (.ifCond .ne 45, 3) := by decide +kernel
theorem dX3_gone_21 : decode cX3_gone 21 = .ok (.aload_n 0, 1) := by decide +kernel
theorem dX3_gone_22 : decode cX3_gone 22 = .ok (.iload_n 3, 1) := by decide +kernel
theorem dX3_gone_23 : decode cX3_gone 23 = .ok (.invokevirtual 49, 3) := by decide +kernel
theorem dX3_gone_26 : decode cX3_gone 26 = .ok (.ifCond .eq 41, 3) := by decide +kernel
theorem dX3_gone_29 : decode cX3_gone 29 = .ok (.aload_n 0, 1) := by decide +kernel
theorem dX3_gone_30 : decode cX3_gone 30 = .ok (.getfield 29, 3) := by decide +kernel
theorem dX3_gone_33 : decode cX3_gone 33 = .ok (.iload_n 3, 1) := by decide +kernel
theorem dX3_gone_34 : decode cX3_gone 34 = .ok (.baload, 1) := by decide +kernel
theorem dX3_gone_35 : decode cX3_gone 35 = .ok (.ifCond .eq 32, 3) := by decide +kernel
theorem dX3_gone_38 : decode cX3_gone 38 = .ok (.aload_n 0, 1) := by decide +kernel
theorem dX3_gone_39 : decode cX3_gone 39 = .ok (.iload_n 3, 1) := by decide +kernel
theorem dX3_gone_40 : decode cX3_gone 40 = .ok (.iconst 1, 1) := by decide +kernel
theorem dX3_gone_41 : decode cX3_gone 41 = .ok (.invokevirtual 45, 3) := by decide +kernel
theorem dX3_gone_44 : decode cX3_gone 44 = .ok (.iconst 4, 1) := by decide +kernel
theorem dX3_gone_45 : decode cX3_gone 45 = .ok (.if_icmp .ne 22, 3) := by decide +kernel
theorem dX3_gone_48 : decode cX3_gone 48 = .ok (.aload_n 0, 1) := by decide +kernel
theorem dX3_gone_49 : decode cX3_gone 49 = .ok (.iload_n 3, 1) := by decide +kernel
theorem dX3_gone_50 : decode cX3_gone 50 = .ok (.iconst 2, 1) := by decide +kernel
theorem dX3_gone_51 : decode cX3_gone 51 = .ok (.invokevirtual 45, 3) := by decide +kernel
theorem dX3_gone_54 : decode cX3_gone 54 = .ok (.aload_n 0, 1) := by decide +kernel
theorem dX3_gone_55 : decode cX3_gone 55 = .ok (.iload_n 1, 1) := by decide +kernel
theorem dX3_gone_56 : decode cX3_gone 56 = .ok (.iconst 0, 1) := by decide +kernel
theorem dX3_gone_57 : decode cX3_gone 57 = .ok (.invokevirtual 45, 3) := by decide +kernel
theorem dX3_gone_60 : decode cX3_gone 60 = .ok (.if_icmp .ne 7, 3) := by decide +kernel
theorem dX3_gone_63 : decode cX3_gone 63 = .ok (.iconst 1, 1) := by decide +kernel
theorem dX3_gone_64 : decode cX3_gone 64 = .ok (.goto 4, 3) := by decide +kernel
theorem dX3_gone_67 : decode cX3_gone 67 = .ok (.iconst 0, 1) := by decide +kernel
theorem dX3_gone_68 : decode cX3_gone 68 = .ok (.istore_n 2, 1) := by decide +kernel
theorem dX3_gone_69 : decode cX3_gone 69 = .ok (.iinc 3 1, 3) := by decide +kernel
theorem dX3_gone_72 : decode cX3_gone 72 = .ok (.goto (-68), 3) := by decide +kernel
theorem dX3_gone_75 : decode cX3_gone 75 = .ok (.iload_n 2, 1) := by decide +kernel
theorem dX3_gone_76 : decode cX3_gone 76 = .ok (.ireturn, 1) := by decide +kernel
abbrev cX3_ahead : ByteArray := prog_9_method_39_code
def yX3_ahead : MethodName := ⟨RX3, "ahead", "(II)Z"⟩
theorem dX3_ahead_0 : decode cX3_ahead 0 = .ok (.aload_n 0, 1) := by decide +kernel
theorem dX3_ahead_1 : decode cX3_ahead 1 = .ok (.iload_n 1, 1) := by decide +kernel
theorem dX3_ahead_2 : decode cX3_ahead 2 = .ok (.invokevirtual 117, 3) := by decide +kernel
theorem dX3_ahead_5 : decode cX3_ahead 5 = .ok (.istore_n 3, 1) := by decide +kernel
theorem dX3_ahead_6 : decode cX3_ahead 6 = .ok (.aload_n 0, 1) := by decide +kernel
theorem dX3_ahead_7 : decode cX3_ahead 7 = .ok (.iload_n 2, 1) := by decide +kernel
theorem dX3_ahead_8 : decode cX3_ahead 8 = .ok (.invokevirtual 117, 3) := by decide +kernel
theorem dX3_ahead_11 : decode cX3_ahead 11 = .ok (.istore 4, 2) := by decide +kernel
theorem dX3_ahead_13 : decode cX3_ahead 13 = .ok (.iload_n 3, 1) := by decide +kernel
theorem dX3_ahead_14 : decode cX3_ahead 14 = .ok (.iload 4, 2) := by decide +kernel
theorem dX3_ahead_16 : decode cX3_ahead 16 = .ok (.if_icmp .le 15, 3) := by decide +kernel
theorem dX3_ahead_19 : decode cX3_ahead 19 = .ok (.aload_n 0, 1) := by decide +kernel
theorem dX3_ahead_20 : decode cX3_ahead 20 = .ok (.iload_n 1, 1) := by decide +kernel
theorem dX3_ahead_21 : decode cX3_ahead 21 = .ok (.iload_n 3, 1) := by decide +kernel
theorem dX3_ahead_22 : decode cX3_ahead 22 = .ok (.iload 4, 2) := by decide +kernel
theorem dX3_ahead_24 : decode cX3_ahead 24 = .ok (.isub, 1) := by decide +kernel
theorem dX3_ahead_25 : decode cX3_ahead 25 = .ok (.invokevirtual 121, 3) := by decide +kernel
theorem dX3_ahead_28 : decode cX3_ahead 28 = .ok (.goto 4, 3) := by decide +kernel
theorem dX3_ahead_31 : decode cX3_ahead 31 = .ok (.iload_n 1, 1) := by decide +kernel
theorem dX3_ahead_32 : decode cX3_ahead 32 = .ok (.istore 5, 2) := by decide +kernel
theorem dX3_ahead_34 : decode cX3_ahead 34 = .ok (.iload 4, 2) := by decide +kernel
theorem dX3_ahead_36 : decode cX3_ahead 36 = .ok (.iload_n 3, 1) := by decide +kernel
theorem dX3_ahead_37 : decode cX3_ahead 37 = .ok (.if_icmp .le 15, 3) := by decide +kernel
theorem dX3_ahead_40 : decode cX3_ahead 40 = .ok (.aload_n 0, 1) := by decide +kernel
theorem dX3_ahead_41 : decode cX3_ahead 41 = .ok (.iload_n 2, 1) := by decide +kernel
theorem dX3_ahead_42 : decode cX3_ahead 42 = .ok (.iload 4, 2) := by decide +kernel
theorem dX3_ahead_44 : decode cX3_ahead 44 = .ok (.iload_n 3, 1) := by decide +kernel
theorem dX3_ahead_45 : decode cX3_ahead 45 = .ok (.isub, 1) := by decide +kernel
theorem dX3_ahead_46 : decode cX3_ahead 46 = .ok (.invokevirtual 121, 3) := by decide +kernel
theorem dX3_ahead_49 : decode cX3_ahead 49 = .ok (.goto 4, 3) := by decide +kernel
theorem dX3_ahead_52 : decode cX3_ahead 52 = .ok (.iload_n 2, 1) := by decide +kernel
theorem dX3_ahead_53 : decode cX3_ahead 53 = .ok (.istore 6, 2) := by decide +kernel
theorem dX3_ahead_55 : decode cX3_ahead 55 = .ok (.iload 5, 2) := by decide +kernel
theorem dX3_ahead_57 : decode cX3_ahead 57 = .ok (.iload 6, 2) := by decide +kernel
theorem dX3_ahead_59 : decode cX3_ahead 59 = .ok (.if_icmp .ne 15, 3) := by decide +kernel
theorem dX3_ahead_62 : decode cX3_ahead 62 = .ok (.iload_n 3, 1) := by decide +kernel
theorem dX3_ahead_63 : decode cX3_ahead 63 = .ok (.iload 4, 2) := by decide +kernel
theorem dX3_ahead_65 : decode cX3_ahead 65 = .ok (.if_icmp .ge 7, 3) := by decide +kernel
theorem dX3_ahead_68 : decode cX3_ahead 68 = .ok (.iconst 1, 1) := by decide +kernel
theorem dX3_ahead_69 : decode cX3_ahead 69 = .ok (.goto 4, 3) := by decide +kernel
theorem dX3_ahead_72 : decode cX3_ahead 72 = .ok (.iconst 0, 1) := by decide +kernel
theorem dX3_ahead_73 : decode cX3_ahead 73 = .ok (.ireturn, 1) := by decide +kernel
theorem dX3_ahead_74 : decode cX3_ahead 74 = .ok (.iconst 0, 1) := by decide +kernel
theorem dX3_ahead_75 : decode cX3_ahead 75 = .ok (.istore 7, 2) := by decide +kernel
theorem dX3_ahead_77 : decode cX3_ahead 77 = .ok (.iload 7, 2) := by decide +kernel
theorem dX3_ahead_79 : decode cX3_ahead 79 = .ok (.bipush 16, 2) := by decide +kernel
theorem dX3_ahead_81 : decode cX3_ahead 81 = .ok (.if_icmp .ge 44, 3) := by decide +kernel
theorem dX3_ahead_84 : decode cX3_ahead 84 = .ok (.aload_n 0, 1) := by decide +kernel
theorem dX3_ahead_85 : decode cX3_ahead 85 = .ok (.iload 5, 2) := by decide +kernel
theorem dX3_ahead_87 : decode cX3_ahead 87 = .ok (.iconst 3, 1) := by decide +kernel
theorem dX3_ahead_88 : decode cX3_ahead 88 = .ok (.invokevirtual 45, 3) := by decide +kernel
theorem dX3_ahead_91 : decode cX3_ahead 91 = .ok (.aload_n 0, 1) := by decide +kernel
theorem dX3_ahead_92 : decode cX3_ahead 92 = .ok (.iload 6, 2) := by decide +kernel
theorem dX3_ahead_94 : decode cX3_ahead 94 = .ok (.iconst 3, 1) := by decide +kernel
theorem dX3_ahead_95 : decode cX3_ahead 95 = .ok (.invokevirtual 45, 3) := by decide +kernel
theorem dX3_ahead_98 : decode cX3_ahead 98 = .ok (.if_icmp .eq 27, 3) := by decide +kernel
theorem dX3_ahead_101 : decode cX3_ahead 101 = .ok (.aload_n 0, 1) := by decide +kernel
theorem dX3_ahead_102 : decode cX3_ahead 102 = .ok (.iload 5, 2) := by decide +kernel
theorem dX3_ahead_104 : decode cX3_ahead 104 = .ok (.iconst 1, 1) := by decide +kernel
theorem dX3_ahead_105 : decode cX3_ahead 105 = .ok (.invokevirtual 121, 3) := by decide +kernel
theorem dX3_ahead_108 : decode cX3_ahead 108 = .ok (.istore 5, 2) := by decide +kernel
theorem dX3_ahead_110 : decode cX3_ahead 110 = .ok (.aload_n 0, 1) := by decide +kernel
theorem dX3_ahead_111 : decode cX3_ahead 111 = .ok (.iload 6, 2) := by decide +kernel
theorem dX3_ahead_113 : decode cX3_ahead 113 = .ok (.iconst 1, 1) := by decide +kernel
theorem dX3_ahead_114 : decode cX3_ahead 114 = .ok (.invokevirtual 121, 3) := by decide +kernel
theorem dX3_ahead_117 : decode cX3_ahead 117 = .ok (.istore 6, 2) := by decide +kernel
theorem dX3_ahead_119 : decode cX3_ahead 119 = .ok (.iinc 7 1, 3) := by decide +kernel
theorem dX3_ahead_122 : decode cX3_ahead 122 = .ok (.goto (-45), 3) := by decide +kernel
theorem dX3_ahead_125 : decode cX3_ahead 125 = .ok (.aload_n 0, 1) := by decide +kernel
theorem dX3_ahead_126 : decode cX3_ahead 126 = .ok (.iload 5, 2) := by decide +kernel
theorem dX3_ahead_128 : decode cX3_ahead 128 = .ok (.iconst 0, 1) := by decide +kernel
theorem dX3_ahead_129 : decode cX3_ahead 129 = .ok (.invokevirtual 45, 3) := by decide +kernel
theorem dX3_ahead_132 : decode cX3_ahead 132 = .ok (.aload_n 0, 1) := by decide +kernel
theorem dX3_ahead_133 : decode cX3_ahead 133 = .ok (.iload 6, 2) := by decide +kernel
theorem dX3_ahead_135 : decode cX3_ahead 135 = .ok (.iconst 0, 1) := by decide +kernel
theorem dX3_ahead_136 : decode cX3_ahead 136 = .ok (.invokevirtual 45, 3) := by decide +kernel
theorem dX3_ahead_139 : decode cX3_ahead 139 = .ok (.if_icmp .le 7, 3) := by decide +kernel
theorem dX3_ahead_142 : decode cX3_ahead 142 = .ok (.iconst 1, 1) := by decide +kernel
theorem dX3_ahead_143 : decode cX3_ahead 143 = .ok (.goto 4, 3) := by decide +kernel
theorem dX3_ahead_146 : decode cX3_ahead 146 = .ok (.iconst 0, 1) := by decide +kernel
theorem dX3_ahead_147 : decode cX3_ahead 147 = .ok (.ireturn, 1) := by decide +kernel
abbrev cX3_steps : ByteArray := prog_9_method_37_code
def yX3_steps : MethodName := ⟨RX3, "steps", "(I)I"⟩
theorem dX3_steps_0 : decode cX3_steps 0 = .ok (.iconst 0, 1) := by decide +kernel
theorem dX3_steps_1 : decode cX3_steps 1 = .ok (.istore_n 2, 1) := by decide +kernel
theorem dX3_steps_2 : decode cX3_steps 2 = .ok (.iload_n 1, 1) := by decide +kernel
theorem dX3_steps_3 : decode cX3_steps 3 = .ok (.istore_n 3, 1) := by decide +kernel
theorem dX3_steps_4 : decode cX3_steps 4 = .ok (.iconst 0, 1) := by decide +kernel
theorem dX3_steps_5 : decode cX3_steps 5 = .ok (.istore 4, 2) := by decide +kernel
theorem dX3_steps_7 : decode cX3_steps 7 = .ok (.iload 4, 2) := by decide +kernel
theorem dX3_steps_9 : decode cX3_steps 9 = .ok (.bipush 16, 2) := by decide +kernel
theorem dX3_steps_11 : decode cX3_steps 11 = .ok (.if_icmp .ge 33, 3) := by decide +kernel
theorem dX3_steps_14 : decode cX3_steps 14 = .ok (.aload_n 0, 1) := by decide +kernel
theorem dX3_steps_15 : decode cX3_steps 15 = .ok (.iload_n 3, 1) := by decide +kernel
theorem dX3_steps_16 : decode cX3_steps 16 = .ok (.iconst 3, 1) := by decide +kernel
theorem dX3_steps_17 : decode cX3_steps 17 = .ok (.invokevirtual 45, 3) := by decide +kernel
theorem dX3_steps_20 : decode cX3_steps 20 = .ok (.ifCond .eq 24, 3) := by decide +kernel
theorem dX3_steps_23 : decode cX3_steps 23 = .ok (.aload_n 0, 1) := by decide +kernel
theorem dX3_steps_24 : decode cX3_steps 24 = .ok (.aload_n 0, 1) := by decide +kernel
theorem dX3_steps_25 : decode cX3_steps 25 = .ok (.iload_n 3, 1) := by decide +kernel
theorem dX3_steps_26 : decode cX3_steps 26 = .ok (.iconst 3, 1) := by decide +kernel
theorem dX3_steps_27 : decode cX3_steps 27 = .ok (.invokevirtual 45, 3) := by decide +kernel
theorem dX3_steps_30 : decode cX3_steps 30 = .ok (.iconst 1, 1) := by decide +kernel
theorem dX3_steps_31 : decode cX3_steps 31 = .ok (.invokevirtual 53, 3) := by decide +kernel
theorem dX3_steps_34 : decode cX3_steps 34 = .ok (.istore_n 3, 1) := by decide +kernel
theorem dX3_steps_35 : decode cX3_steps 35 = .ok (.iinc 2 1, 3) := by decide +kernel
theorem dX3_steps_38 : decode cX3_steps 38 = .ok (.iinc 4 1, 3) := by decide +kernel
theorem dX3_steps_41 : decode cX3_steps 41 = .ok (.goto (-34), 3) := by decide +kernel
theorem dX3_steps_44 : decode cX3_steps 44 = .ok (.iload_n 2, 1) := by decide +kernel
theorem dX3_steps_45 : decode cX3_steps 45 = .ok (.ireturn, 1) := by decide +kernel
abbrev cX3_up : ByteArray := prog_9_method_38_code
def yX3_up : MethodName := ⟨RX3, "up", "(II)I"⟩
theorem dX3_up_0 : decode cX3_up 0 = .ok (.iload_n 1, 1) := by decide +kernel
theorem dX3_up_1 : decode cX3_up 1 = .ok (.istore_n 3, 1) := by decide +kernel
theorem dX3_up_2 : decode cX3_up 2 = .ok (.iconst 0, 1) := by decide +kernel
theorem dX3_up_3 : decode cX3_up 3 = .ok (.istore 4, 2) := by decide +kernel
theorem dX3_up_5 : decode cX3_up 5 = .ok (.iload 4, 2) := by decide +kernel
theorem dX3_up_7 : decode cX3_up 7 = .ok (.iload_n 2, 1) := by decide +kernel
theorem dX3_up_8 : decode cX3_up 8 = .ok (.if_icmp .ge 21, 3) := by decide +kernel
theorem dX3_up_11 : decode cX3_up 11 = .ok (.aload_n 0, 1) := by decide +kernel
theorem dX3_up_12 : decode cX3_up 12 = .ok (.aload_n 0, 1) := by decide +kernel
theorem dX3_up_13 : decode cX3_up 13 = .ok (.iload_n 3, 1) := by decide +kernel
theorem dX3_up_14 : decode cX3_up 14 = .ok (.iconst 3, 1) := by decide +kernel
theorem dX3_up_15 : decode cX3_up 15 = .ok (.invokevirtual 45, 3) := by decide +kernel
theorem dX3_up_18 : decode cX3_up 18 = .ok (.iconst 1, 1) := by decide +kernel
theorem dX3_up_19 : decode cX3_up 19 = .ok (.invokevirtual 53, 3) := by decide +kernel
theorem dX3_up_22 : decode cX3_up 22 = .ok (.istore_n 3, 1) := by decide +kernel
theorem dX3_up_23 : decode cX3_up 23 = .ok (.iinc 4 1, 3) := by decide +kernel
theorem dX3_up_26 : decode cX3_up 26 = .ok (.goto (-21), 3) := by decide +kernel
theorem dX3_up_29 : decode cX3_up 29 = .ok (.iload_n 3, 1) := by decide +kernel
theorem dX3_up_30 : decode cX3_up 30 = .ok (.ireturn, 1) := by decide +kernel
abbrev cX3_depth : ByteArray := prog_9_method_42_code
def yX3_depth : MethodName := ⟨RX3, "depth", "(II)I"⟩
theorem dX3_depth_0 : decode cX3_depth 0 = .ok (.iload_n 1, 1) := by decide +kernel
theorem dX3_depth_1 : decode cX3_depth 1 = .ok (.invokestatic 75, 3) := by decide +kernel
theorem dX3_depth_4 : decode cX3_depth 4 = .ok (.ifCond .ne 5, 3) := by decide +kernel
theorem dX3_depth_7 : decode cX3_depth 7 = .ok (.iconst (-1), 1) := by decide +kernel
theorem dX3_depth_8 : decode cX3_depth 8 = .ok (.ireturn, 1) := by decide +kernel
theorem dX3_depth_9 : decode cX3_depth 9 = .ok (.aload_n 0, 1) := by decide +kernel
theorem dX3_depth_10 : decode cX3_depth 10 = .ok (.iload_n 1, 1) := by decide +kernel
theorem dX3_depth_11 : decode cX3_depth 11 = .ok (.invokevirtual 78, 3) := by decide +kernel
theorem dX3_depth_14 : decode cX3_depth 14 = .ok (.iload_n 2, 1) := by decide +kernel
theorem dX3_depth_15 : decode cX3_depth 15 = .ok (.istore_n 3, 1) := by decide +kernel
theorem dX3_depth_16 : decode cX3_depth 16 = .ok (.iconst 0, 1) := by decide +kernel
theorem dX3_depth_17 : decode cX3_depth 17 = .ok (.istore 4, 2) := by decide +kernel
theorem dX3_depth_19 : decode cX3_depth 19 = .ok (.iload 4, 2) := by decide +kernel
theorem dX3_depth_21 : decode cX3_depth 21 = .ok (.bipush 17, 2) := by decide +kernel
theorem dX3_depth_23 : decode cX3_depth 23 = .ok (.if_icmp .gt 92, 3) := by decide +kernel
theorem dX3_depth_26 : decode cX3_depth 26 = .ok (.iload_n 3, 1) := by decide +kernel
theorem dX3_depth_27 : decode cX3_depth 27 = .ok (.ifCond .ne 6, 3) := by decide +kernel
theorem dX3_depth_30 : decode cX3_depth 30 = .ok (.iload 4, 2) := by decide +kernel
theorem dX3_depth_32 : decode cX3_depth 32 = .ok (.ireturn, 1) := by decide +kernel
theorem dX3_depth_33 : decode cX3_depth 33 = .ok (.aload_n 0, 1) := by decide +kernel
theorem dX3_depth_34 : decode cX3_depth 34 = .ok (.iload_n 3, 1) := by decide +kernel
theorem dX3_depth_35 : decode cX3_depth 35 = .ok (.iconst 1, 1) := by decide +kernel
theorem dX3_depth_36 : decode cX3_depth 36 = .ok (.invokevirtual 53, 3) := by decide +kernel
theorem dX3_depth_39 : decode cX3_depth 39 = .ok (.istore 5, 2) := by decide +kernel
theorem dX3_depth_41 : decode cX3_depth 41 = .ok (.iload 5, 2) := by decide +kernel
theorem dX3_depth_43 : decode cX3_depth 43 = .ok (.ifCond .ge 5, 3) := by decide +kernel
theorem dX3_depth_46 : decode cX3_depth 46 = .ok (.iconst (-1), 1) := by decide +kernel
theorem dX3_depth_47 : decode cX3_depth 47 = .ok (.ireturn, 1) := by decide +kernel
theorem dX3_depth_48 : decode cX3_depth 48 = .ok (.aload_n 0, 1) := by decide +kernel
theorem dX3_depth_49 : decode cX3_depth 49 = .ok (.iload 5, 2) := by decide +kernel
theorem dX3_depth_51 : decode cX3_depth 51 = .ok (.iconst 1, 1) := by decide +kernel
theorem dX3_depth_52 : decode cX3_depth 52 = .ok (.invokevirtual 45, 3) := by decide +kernel
theorem dX3_depth_55 : decode cX3_depth 55 = .ok (.iconst 3, 1) := by decide +kernel
theorem dX3_depth_56 : decode cX3_depth 56 = .ok (.if_icmp .ne 30, 3) := by decide +kernel
theorem dX3_depth_59 : decode cX3_depth 59 = .ok (.aload_n 0, 1) := by decide +kernel
theorem dX3_depth_60 : decode cX3_depth 60 = .ok (.getfield 29, 3) := by decide +kernel
theorem dX3_depth_63 : decode cX3_depth 63 = .ok (.iload 5, 2) := by decide +kernel
theorem dX3_depth_65 : decode cX3_depth 65 = .ok (.baload, 1) := by decide +kernel
theorem dX3_depth_66 : decode cX3_depth 66 = .ok (.ifCond .eq 16, 3) := by decide +kernel
theorem dX3_depth_69 : decode cX3_depth 69 = .ok (.aload_n 0, 1) := by decide +kernel
theorem dX3_depth_70 : decode cX3_depth 70 = .ok (.iload 5, 2) := by decide +kernel
theorem dX3_depth_72 : decode cX3_depth 72 = .ok (.invokevirtual 127, 3) := by decide +kernel
theorem dX3_depth_75 : decode cX3_depth 75 = .ok (.ifCond .ne 7, 3) := by decide +kernel
theorem dX3_depth_78 : decode cX3_depth 78 = .ok (.iconst 1, 1) := by decide +kernel
theorem dX3_depth_79 : decode cX3_depth 79 = .ok (.goto 13, 3) := by decide +kernel
theorem dX3_depth_82 : decode cX3_depth 82 = .ok (.iconst 0, 1) := by decide +kernel
theorem dX3_depth_83 : decode cX3_depth 83 = .ok (.goto 9, 3) := by decide +kernel
theorem dX3_depth_86 : decode cX3_depth 86 = .ok (.aload_n 0, 1) := by decide +kernel
theorem dX3_depth_87 : decode cX3_depth 87 = .ok (.iload 5, 2) := by decide +kernel
theorem dX3_depth_89 : decode cX3_depth 89 = .ok (.invokevirtual 107, 3) := by decide +kernel
theorem dX3_depth_92 : decode cX3_depth 92 = .ok (.istore 6, 2) := by decide +kernel
theorem dX3_depth_94 : decode cX3_depth 94 = .ok (.iload 6, 2) := by decide +kernel
theorem dX3_depth_96 : decode cX3_depth 96 = .ok (.ifCond .ne 5, 3) := by decide +kernel
theorem dX3_depth_99 : decode cX3_depth 99 = .ok (.iconst (-1), 1) := by decide +kernel
theorem dX3_depth_100 : decode cX3_depth 100 = .ok (.ireturn, 1) := by decide +kernel
theorem dX3_depth_101 : decode cX3_depth 101 = .ok (.aload_n 0, 1) := by decide +kernel
theorem dX3_depth_102 : decode cX3_depth 102 = .ok (.iload 5, 2) := by decide +kernel
theorem dX3_depth_104 : decode cX3_depth 104 = .ok (.iconst 2, 1) := by decide +kernel
theorem dX3_depth_105 : decode cX3_depth 105 = .ok (.invokevirtual 45, 3) := by decide +kernel
theorem dX3_depth_108 : decode cX3_depth 108 = .ok (.istore_n 3, 1) := by decide +kernel
theorem dX3_depth_109 : decode cX3_depth 109 = .ok (.iinc 4 1, 3) := by decide +kernel
theorem dX3_depth_112 : decode cX3_depth 112 = .ok (.goto (-93), 3) := by decide +kernel
theorem dX3_depth_115 : decode cX3_depth 115 = .ok (.iconst (-1), 1) := by decide +kernel
theorem dX3_depth_116 : decode cX3_depth 116 = .ok (.ireturn, 1) := by decide +kernel
abbrev cX3_sum : ByteArray := prog_9_method_45_code
def yX3_sum : MethodName := ⟨RX3, "sum", "(I)I"⟩
theorem dX3_sum_0 : decode cX3_sum 0 = .ok (.iload_n 1, 1) := by decide +kernel
theorem dX3_sum_1 : decode cX3_sum 1 = .ok (.invokestatic 75, 3) := by decide +kernel
theorem dX3_sum_4 : decode cX3_sum 4 = .ok (.ifCond .ne 5, 3) := by decide +kernel
theorem dX3_sum_7 : decode cX3_sum 7 = .ok (.iconst 0, 1) := by decide +kernel
theorem dX3_sum_8 : decode cX3_sum 8 = .ok (.ireturn, 1) := by decide +kernel
theorem dX3_sum_9 : decode cX3_sum 9 = .ok (.aload_n 0, 1) := by decide +kernel
theorem dX3_sum_10 : decode cX3_sum 10 = .ok (.iload_n 1, 1) := by decide +kernel
theorem dX3_sum_11 : decode cX3_sum 11 = .ok (.invokevirtual 78, 3) := by decide +kernel
theorem dX3_sum_14 : decode cX3_sum 14 = .ok (.sipush 162, 3) := by decide +kernel
theorem dX3_sum_17 : decode cX3_sum 17 = .ok (.istore_n 2, 1) := by decide +kernel
theorem dX3_sum_18 : decode cX3_sum 18 = .ok (.iload_n 2, 1) := by decide +kernel
theorem dX3_sum_19 : decode cX3_sum 19 = .ok (.iconst 4, 1) := by decide +kernel
theorem dX3_sum_20 : decode cX3_sum 20 = .ok (.if_icmp .lt 63, 3) := by decide +kernel
theorem dX3_sum_23 : decode cX3_sum 23 = .ok (.aload_n 0, 1) := by decide +kernel
theorem dX3_sum_24 : decode cX3_sum 24 = .ok (.iload_n 2, 1) := by decide +kernel
theorem dX3_sum_25 : decode cX3_sum 25 = .ok (.iconst 1, 1) := by decide +kernel
theorem dX3_sum_26 : decode cX3_sum 26 = .ok (.invokevirtual 53, 3) := by decide +kernel
theorem dX3_sum_29 : decode cX3_sum 29 = .ok (.istore_n 3, 1) := by decide +kernel
theorem dX3_sum_30 : decode cX3_sum 30 = .ok (.iload_n 3, 1) := by decide +kernel
theorem dX3_sum_31 : decode cX3_sum 31 = .ok (.ifCond .lt 46, 3) := by decide +kernel
theorem dX3_sum_34 : decode cX3_sum 34 = .ok (.aload_n 0, 1) := by decide +kernel
theorem dX3_sum_35 : decode cX3_sum 35 = .ok (.getfield 35, 3) := by decide +kernel
theorem dX3_sum_38 : decode cX3_sum 38 = .ok (.iload_n 3, 1) := by decide +kernel
theorem dX3_sum_39 : decode cX3_sum 39 = .ok (.aload_n 0, 1) := by decide +kernel
theorem dX3_sum_40 : decode cX3_sum 40 = .ok (.iload_n 3, 1) := by decide +kernel
theorem dX3_sum_41 : decode cX3_sum 41 = .ok (.iconst 1, 1) := by decide +kernel
theorem dX3_sum_42 : decode cX3_sum 42 = .ok (.invokevirtual 45, 3) := by decide +kernel
theorem dX3_sum_45 : decode cX3_sum 45 = .ok (.iconst 1, 1) := by decide +kernel
theorem dX3_sum_46 : decode cX3_sum 46 = .ok (.if_icmp .ne 11, 3) := by decide +kernel
theorem dX3_sum_49 : decode cX3_sum 49 = .ok (.aload_n 0, 1) := by decide +kernel
theorem dX3_sum_50 : decode cX3_sum 50 = .ok (.iload_n 2, 1) := by decide +kernel
theorem dX3_sum_51 : decode cX3_sum 51 = .ok (.invokevirtual 136, 3) := by decide +kernel
theorem dX3_sum_54 : decode cX3_sum 54 = .ok (.goto 22, 3) := by decide +kernel
theorem dX3_sum_57 : decode cX3_sum 57 = .ok (.aload_n 0, 1) := by decide +kernel
theorem dX3_sum_58 : decode cX3_sum 58 = .ok (.iload_n 3, 1) := by decide +kernel
theorem dX3_sum_59 : decode cX3_sum 59 = .ok (.iconst 1, 1) := by decide +kernel
theorem dX3_sum_60 : decode cX3_sum 60 = .ok (.invokevirtual 45, 3) := by decide +kernel
theorem dX3_sum_63 : decode cX3_sum 63 = .ok (.iconst 2, 1) := by decide +kernel
theorem dX3_sum_64 : decode cX3_sum 64 = .ok (.if_icmp .ne 11, 3) := by decide +kernel
theorem dX3_sum_67 : decode cX3_sum 67 = .ok (.aload_n 0, 1) := by decide +kernel
theorem dX3_sum_68 : decode cX3_sum 68 = .ok (.iload_n 2, 1) := by decide +kernel
theorem dX3_sum_69 : decode cX3_sum 69 = .ok (.invokevirtual 139, 3) := by decide +kernel
theorem dX3_sum_72 : decode cX3_sum 72 = .ok (.goto 4, 3) := by decide +kernel
theorem dX3_sum_75 : decode cX3_sum 75 = .ok (.iconst 0, 1) := by decide +kernel
theorem dX3_sum_76 : decode cX3_sum 76 = .ok (.iastore, 1) := by decide +kernel
theorem dX3_sum_77 : decode cX3_sum 77 = .ok (.iinc 2 (-1), 3) := by decide +kernel
theorem dX3_sum_80 : decode cX3_sum 80 = .ok (.goto (-62), 3) := by decide +kernel
theorem dX3_sum_83 : decode cX3_sum 83 = .ok (.aload_n 0, 1) := by decide +kernel
theorem dX3_sum_84 : decode cX3_sum 84 = .ok (.iconst 0, 1) := by decide +kernel
theorem dX3_sum_85 : decode cX3_sum 85 = .ok (.invokevirtual 136, 3) := by decide +kernel
theorem dX3_sum_88 : decode cX3_sum 88 = .ok (.ireturn, 1) := by decide +kernel
abbrev cX3_mapTotal : ByteArray := prog_9_method_43_code
def yX3_mapTotal : MethodName := ⟨RX3, "mapTotal", "(I)I"⟩
theorem dX3_mapTotal_0 : decode cX3_mapTotal 0 = .ok (.bipush 7, 2) := by decide +kernel
theorem dX3_mapTotal_2 : decode cX3_mapTotal 2 = .ok (.istore_n 2, 1) := by decide +kernel
theorem dX3_mapTotal_3 : decode cX3_mapTotal 3 = .ok (.iconst 0, 1) := by decide +kernel
theorem dX3_mapTotal_4 : decode cX3_mapTotal 4 = .ok (.istore_n 3, 1) := by decide +kernel
theorem dX3_mapTotal_5 : decode cX3_mapTotal 5 = .ok (.iload_n 3, 1) := by decide +kernel
theorem dX3_mapTotal_6 : decode cX3_mapTotal 6 = .ok (.iconst 4, 1) := by decide +kernel
theorem dX3_mapTotal_7 : decode cX3_mapTotal 7 = .ok (.if_icmp .ge 90, 3) := by decide +kernel
theorem dX3_mapTotal_10 : decode cX3_mapTotal 10 = .ok (.iconst 0, 1) := by decide +kernel
theorem dX3_mapTotal_11 : decode cX3_mapTotal 11 = .ok (.istore 4, 2) := by decide +kernel
theorem dX3_mapTotal_13 : decode cX3_mapTotal 13 = .ok (.iload 4, 2) := by decide +kernel
theorem dX3_mapTotal_15 : decode cX3_mapTotal 15 = .ok (.bipush 16, 2) := by decide +kernel
theorem dX3_mapTotal_17 : decode cX3_mapTotal 17 = .ok (.if_icmp .ge 74, 3) := by decide +kernel
theorem dX3_mapTotal_20 : decode cX3_mapTotal 20 = .ok (.aload_n 0, 1) := by decide +kernel
theorem dX3_mapTotal_21 : decode cX3_mapTotal 21 = .ok (.iload_n 1, 1) := by decide +kernel
theorem dX3_mapTotal_22 : decode cX3_mapTotal 22 = .ok (.iload_n 3, 1) := by decide +kernel
theorem dX3_mapTotal_23 : decode cX3_mapTotal 23 = .ok (.iload 4, 2) := by decide +kernel
theorem dX3_mapTotal_25 : decode cX3_mapTotal 25 = .ok (.invokevirtual 113, 3) := by decide +kernel
theorem dX3_mapTotal_28 : decode cX3_mapTotal 28 = .ok (.istore 5, 2) := by decide +kernel
theorem dX3_mapTotal_30 : decode cX3_mapTotal 30 = .ok (.iload 5, 2) := by decide +kernel
theorem dX3_mapTotal_32 : decode cX3_mapTotal 32 = .ok (.ifCond .lt 53, 3) := by decide +kernel
theorem dX3_mapTotal_35 : decode cX3_mapTotal 35 = .ok (.bipush 31, 2) := by decide +kernel
theorem dX3_mapTotal_37 : decode cX3_mapTotal 37 = .ok (.iload_n 2, 1) := by decide +kernel
theorem dX3_mapTotal_38 : decode cX3_mapTotal 38 = .ok (.imul, 1) := by decide +kernel
theorem dX3_mapTotal_39 : decode cX3_mapTotal 39 = .ok (.iconst 4, 1) := by decide +kernel
theorem dX3_mapTotal_40 : decode cX3_mapTotal 40 = .ok (.aload_n 0, 1) := by decide +kernel
theorem dX3_mapTotal_41 : decode cX3_mapTotal 41 = .ok (.iload 5, 2) := by decide +kernel
theorem dX3_mapTotal_43 : decode cX3_mapTotal 43 = .ok (.iconst 0, 1) := by decide +kernel
theorem dX3_mapTotal_44 : decode cX3_mapTotal 44 = .ok (.invokevirtual 45, 3) := by decide +kernel
theorem dX3_mapTotal_47 : decode cX3_mapTotal 47 = .ok (.imul, 1) := by decide +kernel
theorem dX3_mapTotal_48 : decode cX3_mapTotal 48 = .ok (.iadd, 1) := by decide +kernel
theorem dX3_mapTotal_49 : decode cX3_mapTotal 49 = .ok (.iload_n 3, 1) := by decide +kernel
theorem dX3_mapTotal_50 : decode cX3_mapTotal 50 = .ok (.iadd, 1) := by decide +kernel
theorem dX3_mapTotal_51 : decode cX3_mapTotal 51 = .ok (.istore_n 2, 1) := by decide +kernel
theorem dX3_mapTotal_52 : decode cX3_mapTotal 52 = .ok (.bipush 31, 2) := by decide +kernel
theorem dX3_mapTotal_54 : decode cX3_mapTotal 54 = .ok (.iload_n 2, 1) := by decide +kernel
theorem dX3_mapTotal_55 : decode cX3_mapTotal 55 = .ok (.imul, 1) := by decide +kernel
theorem dX3_mapTotal_56 : decode cX3_mapTotal 56 = .ok (.aload_n 0, 1) := by decide +kernel
theorem dX3_mapTotal_57 : decode cX3_mapTotal 57 = .ok (.iload 5, 2) := by decide +kernel
theorem dX3_mapTotal_59 : decode cX3_mapTotal 59 = .ok (.iconst 1, 1) := by decide +kernel
theorem dX3_mapTotal_60 : decode cX3_mapTotal 60 = .ok (.invokevirtual 45, 3) := by decide +kernel
theorem dX3_mapTotal_63 : decode cX3_mapTotal 63 = .ok (.ifCond .ne 13, 3) := by decide +kernel
theorem dX3_mapTotal_66 : decode cX3_mapTotal 66 = .ok (.aload_n 0, 1) := by decide +kernel
theorem dX3_mapTotal_67 : decode cX3_mapTotal 67 = .ok (.iload 5, 2) := by decide +kernel
theorem dX3_mapTotal_69 : decode cX3_mapTotal 69 = .ok (.iconst 4, 1) := by decide +kernel
theorem dX3_mapTotal_70 : decode cX3_mapTotal 70 = .ok (.invokevirtual 45, 3) := by decide +kernel
theorem dX3_mapTotal_73 : decode cX3_mapTotal 73 = .ok (.goto 10, 3) := by decide +kernel
theorem dX3_mapTotal_76 : decode cX3_mapTotal 76 = .ok (.aload_n 0, 1) := by decide +kernel
theorem dX3_mapTotal_77 : decode cX3_mapTotal 77 = .ok (.getfield 35, 3) := by decide +kernel
theorem dX3_mapTotal_80 : decode cX3_mapTotal 80 = .ok (.iload 5, 2) := by decide +kernel
theorem dX3_mapTotal_82 : decode cX3_mapTotal 82 = .ok (.iaload, 1) := by decide +kernel
theorem dX3_mapTotal_83 : decode cX3_mapTotal 83 = .ok (.iadd, 1) := by decide +kernel
theorem dX3_mapTotal_84 : decode cX3_mapTotal 84 = .ok (.istore_n 2, 1) := by decide +kernel
theorem dX3_mapTotal_85 : decode cX3_mapTotal 85 = .ok (.iinc 4 1, 3) := by decide +kernel
theorem dX3_mapTotal_88 : decode cX3_mapTotal 88 = .ok (.goto (-75), 3) := by decide +kernel
theorem dX3_mapTotal_91 : decode cX3_mapTotal 91 = .ok (.iinc 3 1, 3) := by decide +kernel
theorem dX3_mapTotal_94 : decode cX3_mapTotal 94 = .ok (.goto (-89), 3) := by decide +kernel
theorem dX3_mapTotal_97 : decode cX3_mapTotal 97 = .ok (.iload_n 2, 1) := by decide +kernel
theorem dX3_mapTotal_98 : decode cX3_mapTotal 98 = .ok (.ireturn, 1) := by decide +kernel
abbrev cX3_listTotal : ByteArray := prog_9_method_44_code
def yX3_listTotal : MethodName := ⟨RX3, "listTotal", "(I)I"⟩
theorem dX3_listTotal_0 : decode cX3_listTotal 0 = .ok (.bipush 11, 2) := by decide +kernel
theorem dX3_listTotal_2 : decode cX3_listTotal 2 = .ok (.istore_n 2, 1) := by decide +kernel
theorem dX3_listTotal_3 : decode cX3_listTotal 3 = .ok (.iconst 0, 1) := by decide +kernel
theorem dX3_listTotal_4 : decode cX3_listTotal 4 = .ok (.istore_n 3, 1) := by decide +kernel
theorem dX3_listTotal_5 : decode cX3_listTotal 5 = .ok (.iload_n 3, 1) := by decide +kernel
theorem dX3_listTotal_6 : decode cX3_listTotal 6 = .ok (.bipush 16, 2) := by decide +kernel
theorem dX3_listTotal_8 : decode cX3_listTotal 8 = .ok (.if_icmp .ge 47, 3) := by decide +kernel
theorem dX3_listTotal_11 : decode cX3_listTotal 11 = .ok (.aload_n 0, 1) := by decide +kernel
theorem dX3_listTotal_12 : decode cX3_listTotal 12 = .ok (.iload_n 1, 1) := by decide +kernel
theorem dX3_listTotal_13 : decode cX3_listTotal 13 = .ok (.iload_n 3, 1) := by decide +kernel
theorem dX3_listTotal_14 : decode cX3_listTotal 14 = .ok (.invokevirtual 133, 3) := by decide +kernel
theorem dX3_listTotal_17 : decode cX3_listTotal 17 = .ok (.istore 4, 2) := by decide +kernel
theorem dX3_listTotal_19 : decode cX3_listTotal 19 = .ok (.iload 4, 2) := by decide +kernel
theorem dX3_listTotal_21 : decode cX3_listTotal 21 = .ok (.ifCond .lt 28, 3) := by decide +kernel
theorem dX3_listTotal_24 : decode cX3_listTotal 24 = .ok (.bipush 31, 2) := by decide +kernel
theorem dX3_listTotal_26 : decode cX3_listTotal 26 = .ok (.iload_n 2, 1) := by decide +kernel
theorem dX3_listTotal_27 : decode cX3_listTotal 27 = .ok (.imul, 1) := by decide +kernel
theorem dX3_listTotal_28 : decode cX3_listTotal 28 = .ok (.sipush 128, 3) := by decide +kernel
theorem dX3_listTotal_31 : decode cX3_listTotal 31 = .ok (.aload_n 0, 1) := by decide +kernel
theorem dX3_listTotal_32 : decode cX3_listTotal 32 = .ok (.iload 4, 2) := by decide +kernel
theorem dX3_listTotal_34 : decode cX3_listTotal 34 = .ok (.iconst 0, 1) := by decide +kernel
theorem dX3_listTotal_35 : decode cX3_listTotal 35 = .ok (.invokevirtual 45, 3) := by decide +kernel
theorem dX3_listTotal_38 : decode cX3_listTotal 38 = .ok (.imul, 1) := by decide +kernel
theorem dX3_listTotal_39 : decode cX3_listTotal 39 = .ok (.iadd, 1) := by decide +kernel
theorem dX3_listTotal_40 : decode cX3_listTotal 40 = .ok (.aload_n 0, 1) := by decide +kernel
theorem dX3_listTotal_41 : decode cX3_listTotal 41 = .ok (.iload 4, 2) := by decide +kernel
theorem dX3_listTotal_43 : decode cX3_listTotal 43 = .ok (.iconst 4, 1) := by decide +kernel
theorem dX3_listTotal_44 : decode cX3_listTotal 44 = .ok (.invokevirtual 45, 3) := by decide +kernel
theorem dX3_listTotal_47 : decode cX3_listTotal 47 = .ok (.iadd, 1) := by decide +kernel
theorem dX3_listTotal_48 : decode cX3_listTotal 48 = .ok (.istore_n 2, 1) := by decide +kernel
theorem dX3_listTotal_49 : decode cX3_listTotal 49 = .ok (.iinc 3 1, 3) := by decide +kernel
theorem dX3_listTotal_52 : decode cX3_listTotal 52 = .ok (.goto (-47), 3) := by decide +kernel
theorem dX3_listTotal_55 : decode cX3_listTotal 55 = .ok (.iload_n 2, 1) := by decide +kernel
theorem dX3_listTotal_56 : decode cX3_listTotal 56 = .ok (.ireturn, 1) := by decide +kernel
theorem q46 : (Jvm.Cond.initialized "ReplicaDocumentModel") ∈ lw_all := lw_g (lw_at lw_m1 11 rfl) rfl
theorem q566 : (Jvm.Cond.selects "ReplicaDocumentModel" ({ cls := "java/lang/Object", name := "getClass", desc := "()Ljava/lang/Class;" } : Jvm.MethodName) ({ cls := "java/lang/Object", name := "getClass", desc := "()Ljava/lang/Class;" } : Jvm.MethodName)) ∈ lw_all := lw_g (lw_at lw_m3 51 rfl) rfl
theorem q816 : (Jvm.Cond.instantiable "ReplicaDocumentModel" (12 : Nat)) ∈ lw_all := lw_g (lw_at lw_m4 61 rfl) rfl
theorem q818 : (Jvm.Cond.instanceMethod ({ cls := "ReplicaDocumentModel", name := "<init>", desc := "()V" } : Jvm.MethodName)) ∈ lw_all := lw_g (lw_at lw_m4 63 rfl) rfl
theorem q819 : (Jvm.Cond.code ({ cls := "ReplicaDocumentModel", name := "<init>", desc := "()V" } : Jvm.MethodName) prog_9_method_1_code (1 : Nat) (Option.none : Option Jvm.ClassFile.FieldType)) ∈ lw_all := lw_g (lw_at lw_m4 64 rfl) rfl
theorem q820 : (Jvm.Cond.methodLink "ReplicaDocumentModel" (1 : Nat) ({ cls := "java/lang/Object", name := "<init>", desc := "()V" } : Jvm.MethodName)) ∈ lw_all := lw_g (lw_at lw_m4 65 rfl) rfl
theorem q821 : (Jvm.Cond.fieldLink "ReplicaDocumentModel" (7 : Nat) "ReplicaDocumentModel" "bytes" "[I") ∈ lw_all := lw_g (lw_at lw_m4 66 rfl) rfl
theorem q822 : (Jvm.Cond.fieldLink "ReplicaDocumentModel" (13 : Nat) "ReplicaDocumentModel" "holds" "[I") ∈ lw_all := lw_g (lw_at lw_m4 67 rfl) rfl
theorem q823 : (Jvm.Cond.fieldLink "ReplicaDocumentModel" (16 : Nat) "ReplicaDocumentModel" "applied" "[Z") ∈ lw_all := lw_g (lw_at lw_m4 68 rfl) rfl
theorem q824 : (Jvm.Cond.fieldLink "ReplicaDocumentModel" (20 : Nat) "ReplicaDocumentModel" "order" "[I") ∈ lw_all := lw_g (lw_at lw_m4 69 rfl) rfl
theorem q825 : (Jvm.Cond.fieldLink "ReplicaDocumentModel" (23 : Nat) "ReplicaDocumentModel" "logged" "[I") ∈ lw_all := lw_g (lw_at lw_m4 70 rfl) rfl
theorem q826 : (Jvm.Cond.fieldLink "ReplicaDocumentModel" (26 : Nat) "ReplicaDocumentModel" "line" "[I") ∈ lw_all := lw_g (lw_at lw_m4 71 rfl) rfl
theorem q827 : (Jvm.Cond.fieldLink "ReplicaDocumentModel" (88 : Nat) "ReplicaDocumentModel" "many" "I") ∈ lw_all := lw_g (lw_at lw_m4 72 rfl) rfl
theorem q828 : (Jvm.Cond.fieldLink "ReplicaDocumentModel" (41 : Nat) "ReplicaDocumentModel" "me" "I") ∈ lw_all := lw_g (lw_at lw_m4 73 rfl) rfl
theorem q829 : (Jvm.Cond.fieldLink "ReplicaDocumentModel" (29 : Nat) "ReplicaDocumentModel" "fit" "[Z") ∈ lw_all := lw_g (lw_at lw_m4 74 rfl) rfl
theorem q830 : (Jvm.Cond.fieldLink "ReplicaDocumentModel" (32 : Nat) "ReplicaDocumentModel" "pasts" "[I") ∈ lw_all := lw_g (lw_at lw_m4 75 rfl) rfl
theorem q831 : (Jvm.Cond.fieldLink "ReplicaDocumentModel" (35 : Nat) "ReplicaDocumentModel" "totals" "[I") ∈ lw_all := lw_g (lw_at lw_m4 76 rfl) rfl
theorem q832 : (Jvm.Cond.fieldLink "ReplicaDocumentModel" (38 : Nat) "ReplicaDocumentModel" "fresh" "[I") ∈ lw_all := lw_g (lw_at lw_m4 77 rfl) rfl
theorem q833 : (Jvm.Cond.lays "ReplicaDocumentModel" "ReplicaDocumentModel" "bytes" "[I") ∈ lw_all := lw_g (lw_at lw_m4 78 rfl) rfl
theorem q834 : (Jvm.Cond.soleField "ReplicaDocumentModel" "bytes") ∈ lw_all := lw_g (lw_at lw_m4 79 rfl) rfl
theorem q835 : (Jvm.Cond.lays "ReplicaDocumentModel" "ReplicaDocumentModel" "holds" "[I") ∈ lw_all := lw_g (lw_at lw_m4 80 rfl) rfl
theorem q836 : (Jvm.Cond.soleField "ReplicaDocumentModel" "holds") ∈ lw_all := lw_g (lw_at lw_m4 81 rfl) rfl
theorem q837 : (Jvm.Cond.lays "ReplicaDocumentModel" "ReplicaDocumentModel" "applied" "[Z") ∈ lw_all := lw_g (lw_at lw_m4 82 rfl) rfl
theorem q838 : (Jvm.Cond.soleField "ReplicaDocumentModel" "applied") ∈ lw_all := lw_g (lw_at lw_m4 83 rfl) rfl
theorem q839 : (Jvm.Cond.lays "ReplicaDocumentModel" "ReplicaDocumentModel" "order" "[I") ∈ lw_all := lw_g (lw_at lw_m4 84 rfl) rfl
theorem q840 : (Jvm.Cond.soleField "ReplicaDocumentModel" "order") ∈ lw_all := lw_g (lw_at lw_m4 85 rfl) rfl
theorem q841 : (Jvm.Cond.lays "ReplicaDocumentModel" "ReplicaDocumentModel" "logged" "[I") ∈ lw_all := lw_g (lw_at lw_m4 86 rfl) rfl
theorem q842 : (Jvm.Cond.soleField "ReplicaDocumentModel" "logged") ∈ lw_all := lw_g (lw_at lw_m4 87 rfl) rfl
theorem q843 : (Jvm.Cond.lays "ReplicaDocumentModel" "ReplicaDocumentModel" "line" "[I") ∈ lw_all := lw_g (lw_at lw_m4 88 rfl) rfl
theorem q844 : (Jvm.Cond.soleField "ReplicaDocumentModel" "line") ∈ lw_all := lw_g (lw_at lw_m4 89 rfl) rfl
theorem q845 : (Jvm.Cond.lays "ReplicaDocumentModel" "ReplicaDocumentModel" "many" "I") ∈ lw_all := lw_g (lw_at lw_m4 90 rfl) rfl
theorem q846 : (Jvm.Cond.soleField "ReplicaDocumentModel" "many") ∈ lw_all := lw_g (lw_at lw_m4 91 rfl) rfl
theorem q847 : (Jvm.Cond.lays "ReplicaDocumentModel" "ReplicaDocumentModel" "me" "I") ∈ lw_all := lw_g (lw_at lw_m4 92 rfl) rfl
theorem q848 : (Jvm.Cond.soleField "ReplicaDocumentModel" "me") ∈ lw_all := lw_g (lw_at lw_m4 93 rfl) rfl
theorem q849 : (Jvm.Cond.lays "ReplicaDocumentModel" "ReplicaDocumentModel" "fit" "[Z") ∈ lw_all := lw_g (lw_at lw_m4 94 rfl) rfl
theorem q850 : (Jvm.Cond.soleField "ReplicaDocumentModel" "fit") ∈ lw_all := lw_g (lw_at lw_m4 95 rfl) rfl
theorem q851 : (Jvm.Cond.lays "ReplicaDocumentModel" "ReplicaDocumentModel" "pasts" "[I") ∈ lw_all := lw_g (lw_at lw_m4 96 rfl) rfl
theorem q852 : (Jvm.Cond.soleField "ReplicaDocumentModel" "pasts") ∈ lw_all := lw_g (lw_at lw_m4 97 rfl) rfl
theorem q853 : (Jvm.Cond.lays "ReplicaDocumentModel" "ReplicaDocumentModel" "totals" "[I") ∈ lw_all := lw_g (lw_at lw_m4 98 rfl) rfl
theorem q854 : (Jvm.Cond.soleField "ReplicaDocumentModel" "totals") ∈ lw_all := lw_g (lw_at lw_m4 99 rfl) rfl
theorem q855 : (Jvm.Cond.lays "ReplicaDocumentModel" "ReplicaDocumentModel" "fresh" "[I") ∈ lw_all := lw_g (lw_at lw_m4 100 rfl) rfl
theorem q856 : (Jvm.Cond.soleField "ReplicaDocumentModel" "fresh") ∈ lw_all := lw_g (lw_at lw_m4 101 rfl) rfl
theorem q857 : (Jvm.Cond.superclass "ReplicaDocumentModel" "java/lang/Object") ∈ lw_all := lw_g (lw_at lw_m4 102 rfl) rfl
theorem q861 : (Jvm.Cond.instanceMethod ({ cls := "ReplicaDocumentModel", name := "edit", desc := "(IIIII)I" } : Jvm.MethodName)) ∈ lw_all := lw_g (lw_at lw_m4 106 rfl) rfl
theorem q862 : (Jvm.Cond.selects "ReplicaDocumentModel" ({ cls := "ReplicaDocumentModel", name := "edit", desc := "(IIIII)I" } : Jvm.MethodName) ({ cls := "ReplicaDocumentModel", name := "edit", desc := "(IIIII)I" } : Jvm.MethodName)) ∈ lw_all := lw_g (lw_at lw_m4 107 rfl) rfl
theorem q863 : (Jvm.Cond.code ({ cls := "ReplicaDocumentModel", name := "edit", desc := "(IIIII)I" } : Jvm.MethodName) prog_9_method_15_code (12 : Nat) (Option.some Jvm.ClassFile.FieldType.int)) ∈ lw_all := lw_g (lw_at lw_m4 108 rfl) rfl
theorem q864 : (Jvm.Cond.methodLink "ReplicaDocumentModel" (75 : Nat) ({ cls := "ReplicaDocumentModel", name := "isReplica", desc := "(I)Z" } : Jvm.MethodName)) ∈ lw_all := lw_g (lw_at lw_m4 109 rfl) rfl
theorem q865 : (Jvm.Cond.static ({ cls := "ReplicaDocumentModel", name := "isReplica", desc := "(I)Z" } : Jvm.MethodName)) ∈ lw_all := lw_g (lw_at lw_m4 110 rfl) rfl
theorem q866 : (Jvm.Cond.code ({ cls := "ReplicaDocumentModel", name := "isReplica", desc := "(I)Z" } : Jvm.MethodName) prog_9_method_2_code (1 : Nat) (Option.some Jvm.ClassFile.FieldType.boolean)) ∈ lw_all := lw_g (lw_at lw_m4 111 rfl) rfl
theorem q867 : (Jvm.Cond.methodLink "ReplicaDocumentModel" (78 : Nat) ({ cls := "ReplicaDocumentModel", name := "study", desc := "(I)V" } : Jvm.MethodName)) ∈ lw_all := lw_g (lw_at lw_m4 112 rfl) rfl
theorem q868 : (Jvm.Cond.privateMethod ({ cls := "ReplicaDocumentModel", name := "study", desc := "(I)V" } : Jvm.MethodName)) ∈ lw_tbl := lw_at lw_m4 113 rfl
theorem q869 : (Jvm.Cond.instanceMethod ({ cls := "ReplicaDocumentModel", name := "study", desc := "(I)V" } : Jvm.MethodName)) ∈ lw_all := lw_g (lw_at lw_m4 114 rfl) rfl
theorem q870 : (Jvm.Cond.code ({ cls := "ReplicaDocumentModel", name := "study", desc := "(I)V" } : Jvm.MethodName) prog_9_method_9_code (4 : Nat) (Option.none : Option Jvm.ClassFile.FieldType)) ∈ lw_all := lw_g (lw_at lw_m4 115 rfl) rfl
theorem q871 : (Jvm.Cond.methodLink "ReplicaDocumentModel" (49 : Nat) ({ cls := "ReplicaDocumentModel", name := "done", desc := "(I)Z" } : Jvm.MethodName)) ∈ lw_all := lw_g (lw_at lw_m4 116 rfl) rfl
theorem q872 : (Jvm.Cond.privateMethod ({ cls := "ReplicaDocumentModel", name := "done", desc := "(I)Z" } : Jvm.MethodName)) ∈ lw_tbl := lw_at lw_m4 117 rfl
theorem q873 : (Jvm.Cond.instanceMethod ({ cls := "ReplicaDocumentModel", name := "done", desc := "(I)Z" } : Jvm.MethodName)) ∈ lw_all := lw_g (lw_at lw_m4 118 rfl) rfl
theorem q874 : (Jvm.Cond.code ({ cls := "ReplicaDocumentModel", name := "done", desc := "(I)Z" } : Jvm.MethodName) prog_9_method_5_code (2 : Nat) (Option.some Jvm.ClassFile.FieldType.boolean)) ∈ lw_all := lw_g (lw_at lw_m4 119 rfl) rfl
theorem q875 : (Jvm.Cond.methodLink "ReplicaDocumentModel" (45 : Nat) ({ cls := "ReplicaDocumentModel", name := "part", desc := "(II)I" } : Jvm.MethodName)) ∈ lw_all := lw_g (lw_at lw_m4 120 rfl) rfl
theorem q876 : (Jvm.Cond.privateMethod ({ cls := "ReplicaDocumentModel", name := "part", desc := "(II)I" } : Jvm.MethodName)) ∈ lw_tbl := lw_at lw_m4 121 rfl
theorem q877 : (Jvm.Cond.instanceMethod ({ cls := "ReplicaDocumentModel", name := "part", desc := "(II)I" } : Jvm.MethodName)) ∈ lw_all := lw_g (lw_at lw_m4 122 rfl) rfl
theorem q878 : (Jvm.Cond.code ({ cls := "ReplicaDocumentModel", name := "part", desc := "(II)I" } : Jvm.MethodName) prog_9_method_4_code (3 : Nat) (Option.some Jvm.ClassFile.FieldType.int)) ∈ lw_all := lw_g (lw_at lw_m4 123 rfl) rfl
theorem q879 : (Jvm.Cond.methodLink "ReplicaDocumentModel" (57 : Nat) ({ cls := "ReplicaDocumentModel", name := "fits", desc := "(III)Z" } : Jvm.MethodName)) ∈ lw_all := lw_g (lw_at lw_m4 124 rfl) rfl
theorem q880 : (Jvm.Cond.privateMethod ({ cls := "ReplicaDocumentModel", name := "fits", desc := "(III)Z" } : Jvm.MethodName)) ∈ lw_tbl := lw_at lw_m4 125 rfl
theorem q881 : (Jvm.Cond.instanceMethod ({ cls := "ReplicaDocumentModel", name := "fits", desc := "(III)Z" } : Jvm.MethodName)) ∈ lw_all := lw_g (lw_at lw_m4 126 rfl) rfl
theorem q882 : (Jvm.Cond.code ({ cls := "ReplicaDocumentModel", name := "fits", desc := "(III)Z" } : Jvm.MethodName) prog_9_method_8_code (6 : Nat) (Option.some Jvm.ClassFile.FieldType.boolean)) ∈ lw_all := lw_g (lw_at lw_m4 127 rfl) rfl
theorem q883 : (Jvm.Cond.methodLink "ReplicaDocumentModel" (53 : Nat) ({ cls := "ReplicaDocumentModel", name := "find", desc := "(IZ)I" } : Jvm.MethodName)) ∈ lw_all := lw_g (lw_at lw_m4 128 rfl) rfl
theorem q884 : (Jvm.Cond.privateMethod ({ cls := "ReplicaDocumentModel", name := "find", desc := "(IZ)I" } : Jvm.MethodName)) ∈ lw_tbl := lw_at lw_m4 129 rfl
theorem q885 : (Jvm.Cond.instanceMethod ({ cls := "ReplicaDocumentModel", name := "find", desc := "(IZ)I" } : Jvm.MethodName)) ∈ lw_all := lw_g (lw_at lw_m4 130 rfl) rfl
theorem q886 : (Jvm.Cond.code ({ cls := "ReplicaDocumentModel", name := "find", desc := "(IZ)I" } : Jvm.MethodName) prog_9_method_6_code (5 : Nat) (Option.some Jvm.ClassFile.FieldType.int)) ∈ lw_all := lw_g (lw_at lw_m4 131 rfl) rfl
theorem q887 : (Jvm.Cond.methodLink "ReplicaDocumentModel" (61 : Nat) ({ cls := "ReplicaDocumentModel", name := "widen", desc := "(I)V" } : Jvm.MethodName)) ∈ lw_all := lw_g (lw_at lw_m4 132 rfl) rfl
theorem q888 : (Jvm.Cond.privateMethod ({ cls := "ReplicaDocumentModel", name := "widen", desc := "(I)V" } : Jvm.MethodName)) ∈ lw_tbl := lw_at lw_m4 133 rfl
theorem q889 : (Jvm.Cond.instanceMethod ({ cls := "ReplicaDocumentModel", name := "widen", desc := "(I)V" } : Jvm.MethodName)) ∈ lw_all := lw_g (lw_at lw_m4 134 rfl) rfl
theorem q890 : (Jvm.Cond.code ({ cls := "ReplicaDocumentModel", name := "widen", desc := "(I)V" } : Jvm.MethodName) prog_9_method_10_code (4 : Nat) (Option.none : Option Jvm.ClassFile.FieldType)) ∈ lw_all := lw_g (lw_at lw_m4 135 rfl) rfl
theorem q891 : (Jvm.Cond.methodLink "ReplicaDocumentModel" (65 : Nat) ({ cls := "ReplicaDocumentModel", name := "has", desc := "(II)Z" } : Jvm.MethodName)) ∈ lw_all := lw_g (lw_at lw_m4 136 rfl) rfl
theorem q892 : (Jvm.Cond.privateMethod ({ cls := "ReplicaDocumentModel", name := "has", desc := "(II)Z" } : Jvm.MethodName)) ∈ lw_tbl := lw_at lw_m4 137 rfl
theorem q893 : (Jvm.Cond.instanceMethod ({ cls := "ReplicaDocumentModel", name := "has", desc := "(II)Z" } : Jvm.MethodName)) ∈ lw_all := lw_g (lw_at lw_m4 138 rfl) rfl
theorem q894 : (Jvm.Cond.code ({ cls := "ReplicaDocumentModel", name := "has", desc := "(II)Z" } : Jvm.MethodName) prog_9_method_7_code (5 : Nat) (Option.some Jvm.ClassFile.FieldType.boolean)) ∈ lw_all := lw_g (lw_at lw_m4 139 rfl) rfl
theorem q895 : (Jvm.Cond.methodLink "ReplicaDocumentModel" (81 : Nat) ({ cls := "ReplicaDocumentModel", name := "isHead", desc := "(I)Z" } : Jvm.MethodName)) ∈ lw_all := lw_g (lw_at lw_m4 140 rfl) rfl
theorem q896 : (Jvm.Cond.privateMethod ({ cls := "ReplicaDocumentModel", name := "isHead", desc := "(I)Z" } : Jvm.MethodName)) ∈ lw_tbl := lw_at lw_m4 141 rfl
theorem q897 : (Jvm.Cond.instanceMethod ({ cls := "ReplicaDocumentModel", name := "isHead", desc := "(I)Z" } : Jvm.MethodName)) ∈ lw_all := lw_g (lw_at lw_m4 142 rfl) rfl
theorem q898 : (Jvm.Cond.code ({ cls := "ReplicaDocumentModel", name := "isHead", desc := "(I)Z" } : Jvm.MethodName) prog_9_method_11_code (5 : Nat) (Option.some Jvm.ClassFile.FieldType.boolean)) ∈ lw_all := lw_g (lw_at lw_m4 143 rfl) rfl
theorem q899 : (Jvm.Cond.methodLink "ReplicaDocumentModel" (72 : Nat) ({ cls := "ReplicaDocumentModel", name := "apply", desc := "(I)V" } : Jvm.MethodName)) ∈ lw_all := lw_g (lw_at lw_m4 144 rfl) rfl
theorem q900 : (Jvm.Cond.privateMethod ({ cls := "ReplicaDocumentModel", name := "apply", desc := "(I)V" } : Jvm.MethodName)) ∈ lw_tbl := lw_at lw_m4 145 rfl
theorem q901 : (Jvm.Cond.instanceMethod ({ cls := "ReplicaDocumentModel", name := "apply", desc := "(I)V" } : Jvm.MethodName)) ∈ lw_all := lw_g (lw_at lw_m4 146 rfl) rfl
theorem q902 : (Jvm.Cond.code ({ cls := "ReplicaDocumentModel", name := "apply", desc := "(I)V" } : Jvm.MethodName) prog_9_method_12_code (2 : Nat) (Option.none : Option Jvm.ClassFile.FieldType)) ∈ lw_all := lw_g (lw_at lw_m4 147 rfl) rfl
theorem q903 : (Jvm.Cond.methodLink "ReplicaDocumentModel" (84 : Nat) ({ cls := "ReplicaDocumentModel", name := "settle", desc := "()I" } : Jvm.MethodName)) ∈ lw_all := lw_g (lw_at lw_m4 148 rfl) rfl
theorem q904 : (Jvm.Cond.privateMethod ({ cls := "ReplicaDocumentModel", name := "settle", desc := "()I" } : Jvm.MethodName)) ∈ lw_tbl := lw_at lw_m4 149 rfl
theorem q905 : (Jvm.Cond.instanceMethod ({ cls := "ReplicaDocumentModel", name := "settle", desc := "()I" } : Jvm.MethodName)) ∈ lw_all := lw_g (lw_at lw_m4 150 rfl) rfl
theorem q906 : (Jvm.Cond.code ({ cls := "ReplicaDocumentModel", name := "settle", desc := "()I" } : Jvm.MethodName) prog_9_method_14_code (5 : Nat) (Option.some Jvm.ClassFile.FieldType.int)) ∈ lw_all := lw_g (lw_at lw_m4 151 rfl) rfl
theorem q907 : (Jvm.Cond.methodLink "ReplicaDocumentModel" (69 : Nat) ({ cls := "ReplicaDocumentModel", name := "ready", desc := "(I)Z" } : Jvm.MethodName)) ∈ lw_all := lw_g (lw_at lw_m4 152 rfl) rfl
theorem q908 : (Jvm.Cond.privateMethod ({ cls := "ReplicaDocumentModel", name := "ready", desc := "(I)Z" } : Jvm.MethodName)) ∈ lw_tbl := lw_at lw_m4 153 rfl
theorem q909 : (Jvm.Cond.instanceMethod ({ cls := "ReplicaDocumentModel", name := "ready", desc := "(I)Z" } : Jvm.MethodName)) ∈ lw_all := lw_g (lw_at lw_m4 154 rfl) rfl
theorem q910 : (Jvm.Cond.code ({ cls := "ReplicaDocumentModel", name := "ready", desc := "(I)Z" } : Jvm.MethodName) prog_9_method_13_code (5 : Nat) (Option.some Jvm.ClassFile.FieldType.boolean)) ∈ lw_all := lw_g (lw_at lw_m4 155 rfl) rfl
theorem q912 : (Jvm.Cond.instanceMethod ({ cls := "ReplicaDocumentModel", name := "emit", desc := "(II)I" } : Jvm.MethodName)) ∈ lw_all := lw_g (lw_at lw_m4 157 rfl) rfl
theorem q913 : (Jvm.Cond.selects "ReplicaDocumentModel" ({ cls := "ReplicaDocumentModel", name := "emit", desc := "(II)I" } : Jvm.MethodName) ({ cls := "ReplicaDocumentModel", name := "emit", desc := "(II)I" } : Jvm.MethodName)) ∈ lw_all := lw_g (lw_at lw_m4 158 rfl) rfl
theorem q914 : (Jvm.Cond.code ({ cls := "ReplicaDocumentModel", name := "emit", desc := "(II)I" } : Jvm.MethodName) prog_9_method_16_code (5 : Nat) (Option.some Jvm.ClassFile.FieldType.int)) ∈ lw_all := lw_g (lw_at lw_m4 159 rfl) rfl
theorem q916 : (Jvm.Cond.instanceMethod ({ cls := "ReplicaDocumentModel", name := "wire", desc := "(I)I" } : Jvm.MethodName)) ∈ lw_all := lw_g (lw_at lw_m4 161 rfl) rfl
theorem q917 : (Jvm.Cond.selects "ReplicaDocumentModel" ({ cls := "ReplicaDocumentModel", name := "wire", desc := "(I)I" } : Jvm.MethodName) ({ cls := "ReplicaDocumentModel", name := "wire", desc := "(I)I" } : Jvm.MethodName)) ∈ lw_all := lw_g (lw_at lw_m4 162 rfl) rfl
theorem q918 : (Jvm.Cond.code ({ cls := "ReplicaDocumentModel", name := "wire", desc := "(I)I" } : Jvm.MethodName) prog_9_method_17_code (2 : Nat) (Option.some Jvm.ClassFile.FieldType.int)) ∈ lw_all := lw_g (lw_at lw_m4 163 rfl) rfl
theorem q920 : (Jvm.Cond.instanceMethod ({ cls := "ReplicaDocumentModel", name := "alter", desc := "(II)Z" } : Jvm.MethodName)) ∈ lw_all := lw_g (lw_at lw_m4 165 rfl) rfl
theorem q921 : (Jvm.Cond.selects "ReplicaDocumentModel" ({ cls := "ReplicaDocumentModel", name := "alter", desc := "(II)Z" } : Jvm.MethodName) ({ cls := "ReplicaDocumentModel", name := "alter", desc := "(II)Z" } : Jvm.MethodName)) ∈ lw_all := lw_g (lw_at lw_m4 166 rfl) rfl
theorem q922 : (Jvm.Cond.code ({ cls := "ReplicaDocumentModel", name := "alter", desc := "(II)Z" } : Jvm.MethodName) prog_9_method_18_code (3 : Nat) (Option.some Jvm.ClassFile.FieldType.boolean)) ∈ lw_all := lw_g (lw_at lw_m4 167 rfl) rfl
theorem q924 : (Jvm.Cond.instanceMethod ({ cls := "ReplicaDocumentModel", name := "cut", desc := "(I)Z" } : Jvm.MethodName)) ∈ lw_all := lw_g (lw_at lw_m4 169 rfl) rfl
theorem q925 : (Jvm.Cond.selects "ReplicaDocumentModel" ({ cls := "ReplicaDocumentModel", name := "cut", desc := "(I)Z" } : Jvm.MethodName) ({ cls := "ReplicaDocumentModel", name := "cut", desc := "(I)Z" } : Jvm.MethodName)) ∈ lw_all := lw_g (lw_at lw_m4 170 rfl) rfl
theorem q926 : (Jvm.Cond.code ({ cls := "ReplicaDocumentModel", name := "cut", desc := "(I)Z" } : Jvm.MethodName) prog_9_method_19_code (2 : Nat) (Option.some Jvm.ClassFile.FieldType.boolean)) ∈ lw_all := lw_g (lw_at lw_m4 171 rfl) rfl
theorem q928 : (Jvm.Cond.instanceMethod ({ cls := "ReplicaDocumentModel", name := "receive", desc := "(I)I" } : Jvm.MethodName)) ∈ lw_all := lw_g (lw_at lw_m4 173 rfl) rfl
theorem q929 : (Jvm.Cond.selects "ReplicaDocumentModel" ({ cls := "ReplicaDocumentModel", name := "receive", desc := "(I)I" } : Jvm.MethodName) ({ cls := "ReplicaDocumentModel", name := "receive", desc := "(I)I" } : Jvm.MethodName)) ∈ lw_all := lw_g (lw_at lw_m4 174 rfl) rfl
theorem q930 : (Jvm.Cond.code ({ cls := "ReplicaDocumentModel", name := "receive", desc := "(I)I" } : Jvm.MethodName) prog_9_method_23_code (4 : Nat) (Option.some Jvm.ClassFile.FieldType.int)) ∈ lw_all := lw_g (lw_at lw_m4 175 rfl) rfl
theorem q931 : (Jvm.Cond.methodLink "ReplicaDocumentModel" (94 : Nat) ({ cls := "ReplicaDocumentModel", name := "wellFormed", desc := "()Z" } : Jvm.MethodName)) ∈ lw_all := lw_g (lw_at lw_m4 176 rfl) rfl
theorem q932 : (Jvm.Cond.privateMethod ({ cls := "ReplicaDocumentModel", name := "wellFormed", desc := "()Z" } : Jvm.MethodName)) ∈ lw_tbl := lw_at lw_m4 177 rfl
theorem q933 : (Jvm.Cond.instanceMethod ({ cls := "ReplicaDocumentModel", name := "wellFormed", desc := "()Z" } : Jvm.MethodName)) ∈ lw_all := lw_g (lw_at lw_m4 178 rfl) rfl
theorem q934 : (Jvm.Cond.code ({ cls := "ReplicaDocumentModel", name := "wellFormed", desc := "()Z" } : Jvm.MethodName) prog_9_method_20_code (3 : Nat) (Option.some Jvm.ClassFile.FieldType.boolean)) ∈ lw_all := lw_g (lw_at lw_m4 179 rfl) rfl
theorem q935 : (Jvm.Cond.methodLink "ReplicaDocumentModel" (91 : Nat) ({ cls := "ReplicaDocumentModel", name := "isId", desc := "(I)Z" } : Jvm.MethodName)) ∈ lw_all := lw_g (lw_at lw_m4 180 rfl) rfl
theorem q936 : (Jvm.Cond.static ({ cls := "ReplicaDocumentModel", name := "isId", desc := "(I)Z" } : Jvm.MethodName)) ∈ lw_all := lw_g (lw_at lw_m4 181 rfl) rfl
theorem q937 : (Jvm.Cond.code ({ cls := "ReplicaDocumentModel", name := "isId", desc := "(I)Z" } : Jvm.MethodName) prog_9_method_3_code (1 : Nat) (Option.some Jvm.ClassFile.FieldType.boolean)) ∈ lw_all := lw_g (lw_at lw_m4 182 rfl) rfl
theorem q938 : (Jvm.Cond.methodLink "ReplicaDocumentModel" (98 : Nat) ({ cls := "ReplicaDocumentModel", name := "sameAsLine", desc := "(I)Z" } : Jvm.MethodName)) ∈ lw_all := lw_g (lw_at lw_m4 183 rfl) rfl
theorem q939 : (Jvm.Cond.privateMethod ({ cls := "ReplicaDocumentModel", name := "sameAsLine", desc := "(I)Z" } : Jvm.MethodName)) ∈ lw_tbl := lw_at lw_m4 184 rfl
theorem q940 : (Jvm.Cond.instanceMethod ({ cls := "ReplicaDocumentModel", name := "sameAsLine", desc := "(I)Z" } : Jvm.MethodName)) ∈ lw_all := lw_g (lw_at lw_m4 185 rfl) rfl
theorem q941 : (Jvm.Cond.code ({ cls := "ReplicaDocumentModel", name := "sameAsLine", desc := "(I)Z" } : Jvm.MethodName) prog_9_method_22_code (4 : Nat) (Option.some Jvm.ClassFile.FieldType.boolean)) ∈ lw_all := lw_g (lw_at lw_m4 186 rfl) rfl
theorem q942 : (Jvm.Cond.methodLink "ReplicaDocumentModel" (101 : Nat) ({ cls := "ReplicaDocumentModel", name := "says", desc := "(I)Z" } : Jvm.MethodName)) ∈ lw_all := lw_g (lw_at lw_m4 187 rfl) rfl
theorem q943 : (Jvm.Cond.privateMethod ({ cls := "ReplicaDocumentModel", name := "says", desc := "(I)Z" } : Jvm.MethodName)) ∈ lw_tbl := lw_at lw_m4 188 rfl
theorem q944 : (Jvm.Cond.instanceMethod ({ cls := "ReplicaDocumentModel", name := "says", desc := "(I)Z" } : Jvm.MethodName)) ∈ lw_all := lw_g (lw_at lw_m4 189 rfl) rfl
theorem q945 : (Jvm.Cond.code ({ cls := "ReplicaDocumentModel", name := "says", desc := "(I)Z" } : Jvm.MethodName) prog_9_method_21_code (4 : Nat) (Option.some Jvm.ClassFile.FieldType.boolean)) ∈ lw_all := lw_g (lw_at lw_m4 190 rfl) rfl
theorem q947 : (Jvm.Cond.instanceMethod ({ cls := "ReplicaDocumentModel", name := "held", desc := "(I)I" } : Jvm.MethodName)) ∈ lw_all := lw_g (lw_at lw_m4 192 rfl) rfl
theorem q948 : (Jvm.Cond.selects "ReplicaDocumentModel" ({ cls := "ReplicaDocumentModel", name := "held", desc := "(I)I" } : Jvm.MethodName) ({ cls := "ReplicaDocumentModel", name := "held", desc := "(I)I" } : Jvm.MethodName)) ∈ lw_all := lw_g (lw_at lw_m4 193 rfl) rfl
theorem q949 : (Jvm.Cond.code ({ cls := "ReplicaDocumentModel", name := "held", desc := "(I)I" } : Jvm.MethodName) prog_9_method_24_code (2 : Nat) (Option.some Jvm.ClassFile.FieldType.int)) ∈ lw_all := lw_g (lw_at lw_m4 194 rfl) rfl
theorem q951 : (Jvm.Cond.instanceMethod ({ cls := "ReplicaDocumentModel", name := "log", desc := "(II)I" } : Jvm.MethodName)) ∈ lw_all := lw_g (lw_at lw_m4 196 rfl) rfl
theorem q952 : (Jvm.Cond.selects "ReplicaDocumentModel" ({ cls := "ReplicaDocumentModel", name := "log", desc := "(II)I" } : Jvm.MethodName) ({ cls := "ReplicaDocumentModel", name := "log", desc := "(II)I" } : Jvm.MethodName)) ∈ lw_all := lw_g (lw_at lw_m4 197 rfl) rfl
theorem q953 : (Jvm.Cond.code ({ cls := "ReplicaDocumentModel", name := "log", desc := "(II)I" } : Jvm.MethodName) prog_9_method_25_code (3 : Nat) (Option.some Jvm.ClassFile.FieldType.int)) ∈ lw_all := lw_g (lw_at lw_m4 198 rfl) rfl
theorem q955 : (Jvm.Cond.instanceMethod ({ cls := "ReplicaDocumentModel", name := "past", desc := "(III)Z" } : Jvm.MethodName)) ∈ lw_all := lw_g (lw_at lw_m4 200 rfl) rfl
theorem q956 : (Jvm.Cond.selects "ReplicaDocumentModel" ({ cls := "ReplicaDocumentModel", name := "past", desc := "(III)Z" } : Jvm.MethodName) ({ cls := "ReplicaDocumentModel", name := "past", desc := "(III)Z" } : Jvm.MethodName)) ∈ lw_all := lw_g (lw_at lw_m4 201 rfl) rfl
theorem q957 : (Jvm.Cond.code ({ cls := "ReplicaDocumentModel", name := "past", desc := "(III)Z" } : Jvm.MethodName) prog_9_method_26_code (6 : Nat) (Option.some Jvm.ClassFile.FieldType.boolean)) ∈ lw_all := lw_g (lw_at lw_m4 202 rfl) rfl
theorem q959 : (Jvm.Cond.instanceMethod ({ cls := "ReplicaDocumentModel", name := "heads", desc := "(I)I" } : Jvm.MethodName)) ∈ lw_all := lw_g (lw_at lw_m4 204 rfl) rfl
theorem q960 : (Jvm.Cond.selects "ReplicaDocumentModel" ({ cls := "ReplicaDocumentModel", name := "heads", desc := "(I)I" } : Jvm.MethodName) ({ cls := "ReplicaDocumentModel", name := "heads", desc := "(I)I" } : Jvm.MethodName)) ∈ lw_all := lw_g (lw_at lw_m4 205 rfl) rfl
theorem q961 : (Jvm.Cond.code ({ cls := "ReplicaDocumentModel", name := "heads", desc := "(I)I" } : Jvm.MethodName) prog_9_method_27_code (4 : Nat) (Option.some Jvm.ClassFile.FieldType.int)) ∈ lw_all := lw_g (lw_at lw_m4 206 rfl) rfl
theorem q963 : (Jvm.Cond.instanceMethod ({ cls := "ReplicaDocumentModel", name := "value", desc := "(II)I" } : Jvm.MethodName)) ∈ lw_all := lw_g (lw_at lw_m4 208 rfl) rfl
theorem q964 : (Jvm.Cond.selects "ReplicaDocumentModel" ({ cls := "ReplicaDocumentModel", name := "value", desc := "(II)I" } : Jvm.MethodName) ({ cls := "ReplicaDocumentModel", name := "value", desc := "(II)I" } : Jvm.MethodName)) ∈ lw_all := lw_g (lw_at lw_m4 209 rfl) rfl
theorem q965 : (Jvm.Cond.code ({ cls := "ReplicaDocumentModel", name := "value", desc := "(II)I" } : Jvm.MethodName) prog_9_method_28_code (4 : Nat) (Option.some Jvm.ClassFile.FieldType.int)) ∈ lw_all := lw_g (lw_at lw_m4 210 rfl) rfl
theorem q967 : (Jvm.Cond.instanceMethod ({ cls := "ReplicaDocumentModel", name := "level", desc := "(II)Z" } : Jvm.MethodName)) ∈ lw_all := lw_g (lw_at lw_m4 212 rfl) rfl
theorem q968 : (Jvm.Cond.selects "ReplicaDocumentModel" ({ cls := "ReplicaDocumentModel", name := "level", desc := "(II)Z" } : Jvm.MethodName) ({ cls := "ReplicaDocumentModel", name := "level", desc := "(II)Z" } : Jvm.MethodName)) ∈ lw_all := lw_g (lw_at lw_m4 213 rfl) rfl
theorem q969 : (Jvm.Cond.code ({ cls := "ReplicaDocumentModel", name := "level", desc := "(II)Z" } : Jvm.MethodName) prog_9_method_29_code (7 : Nat) (Option.some Jvm.ClassFile.FieldType.boolean)) ∈ lw_all := lw_g (lw_at lw_m4 214 rfl) rfl
theorem q970 : (Jvm.Cond.methodLink "ReplicaDocumentModel" (104 : Nat) ({ cls := "ReplicaDocumentModel", name := "alike", desc := "(II)Z" } : Jvm.MethodName)) ∈ lw_all := lw_g (lw_at lw_m4 215 rfl) rfl
theorem q971 : (Jvm.Cond.privateMethod ({ cls := "ReplicaDocumentModel", name := "alike", desc := "(II)Z" } : Jvm.MethodName)) ∈ lw_tbl := lw_at lw_m4 216 rfl
theorem q972 : (Jvm.Cond.instanceMethod ({ cls := "ReplicaDocumentModel", name := "alike", desc := "(II)Z" } : Jvm.MethodName)) ∈ lw_all := lw_g (lw_at lw_m4 217 rfl) rfl
theorem q973 : (Jvm.Cond.code ({ cls := "ReplicaDocumentModel", name := "alike", desc := "(II)Z" } : Jvm.MethodName) prog_9_method_30_code (5 : Nat) (Option.some Jvm.ClassFile.FieldType.boolean)) ∈ lw_all := lw_g (lw_at lw_m4 218 rfl) rfl
theorem q975 : (Jvm.Cond.instanceMethod ({ cls := "ReplicaDocumentModel", name := "entry", desc := "(IIII)I" } : Jvm.MethodName)) ∈ lw_all := lw_g (lw_at lw_m4 220 rfl) rfl
theorem q976 : (Jvm.Cond.selects "ReplicaDocumentModel" ({ cls := "ReplicaDocumentModel", name := "entry", desc := "(IIII)I" } : Jvm.MethodName) ({ cls := "ReplicaDocumentModel", name := "entry", desc := "(IIII)I" } : Jvm.MethodName)) ∈ lw_all := lw_g (lw_at lw_m4 221 rfl) rfl
theorem q977 : (Jvm.Cond.code ({ cls := "ReplicaDocumentModel", name := "entry", desc := "(IIII)I" } : Jvm.MethodName) prog_9_method_34_code (6 : Nat) (Option.some Jvm.ClassFile.FieldType.int)) ∈ lw_all := lw_g (lw_at lw_m4 222 rfl) rfl
theorem q978 : (Jvm.Cond.methodLink "ReplicaDocumentModel" (110 : Nat) ({ cls := "ReplicaDocumentModel", name := "isKind", desc := "(II)Z" } : Jvm.MethodName)) ∈ lw_all := lw_g (lw_at lw_m4 223 rfl) rfl
theorem q979 : (Jvm.Cond.privateMethod ({ cls := "ReplicaDocumentModel", name := "isKind", desc := "(II)Z" } : Jvm.MethodName)) ∈ lw_tbl := lw_at lw_m4 224 rfl
theorem q980 : (Jvm.Cond.instanceMethod ({ cls := "ReplicaDocumentModel", name := "isKind", desc := "(II)Z" } : Jvm.MethodName)) ∈ lw_all := lw_g (lw_at lw_m4 225 rfl) rfl
theorem q981 : (Jvm.Cond.code ({ cls := "ReplicaDocumentModel", name := "isKind", desc := "(II)Z" } : Jvm.MethodName) prog_9_method_33_code (4 : Nat) (Option.some Jvm.ClassFile.FieldType.boolean)) ∈ lw_all := lw_g (lw_at lw_m4 226 rfl) rfl
theorem q982 : (Jvm.Cond.methodLink "ReplicaDocumentModel" (113 : Nat) ({ cls := "ReplicaDocumentModel", name := "entryPlace", desc := "(III)I" } : Jvm.MethodName)) ∈ lw_all := lw_g (lw_at lw_m4 227 rfl) rfl
theorem q983 : (Jvm.Cond.privateMethod ({ cls := "ReplicaDocumentModel", name := "entryPlace", desc := "(III)I" } : Jvm.MethodName)) ∈ lw_tbl := lw_at lw_m4 228 rfl
theorem q984 : (Jvm.Cond.instanceMethod ({ cls := "ReplicaDocumentModel", name := "entryPlace", desc := "(III)I" } : Jvm.MethodName)) ∈ lw_all := lw_g (lw_at lw_m4 229 rfl) rfl
theorem q985 : (Jvm.Cond.code ({ cls := "ReplicaDocumentModel", name := "entryPlace", desc := "(III)I" } : Jvm.MethodName) prog_9_method_32_code (7 : Nat) (Option.some Jvm.ClassFile.FieldType.int)) ∈ lw_all := lw_g (lw_at lw_m4 230 rfl) rfl
theorem q986 : (Jvm.Cond.methodLink "ReplicaDocumentModel" (107 : Nat) ({ cls := "ReplicaDocumentModel", name := "isEntry", desc := "(I)Z" } : Jvm.MethodName)) ∈ lw_all := lw_g (lw_at lw_m4 231 rfl) rfl
theorem q987 : (Jvm.Cond.privateMethod ({ cls := "ReplicaDocumentModel", name := "isEntry", desc := "(I)Z" } : Jvm.MethodName)) ∈ lw_tbl := lw_at lw_m4 232 rfl
theorem q988 : (Jvm.Cond.instanceMethod ({ cls := "ReplicaDocumentModel", name := "isEntry", desc := "(I)Z" } : Jvm.MethodName)) ∈ lw_all := lw_g (lw_at lw_m4 233 rfl) rfl
theorem q989 : (Jvm.Cond.code ({ cls := "ReplicaDocumentModel", name := "isEntry", desc := "(I)Z" } : Jvm.MethodName) prog_9_method_31_code (6 : Nat) (Option.some Jvm.ClassFile.FieldType.boolean)) ∈ lw_all := lw_g (lw_at lw_m4 234 rfl) rfl
theorem q991 : (Jvm.Cond.instanceMethod ({ cls := "ReplicaDocumentModel", name := "element", desc := "(III)I" } : Jvm.MethodName)) ∈ lw_all := lw_g (lw_at lw_m4 236 rfl) rfl
theorem q992 : (Jvm.Cond.selects "ReplicaDocumentModel" ({ cls := "ReplicaDocumentModel", name := "element", desc := "(III)I" } : Jvm.MethodName) ({ cls := "ReplicaDocumentModel", name := "element", desc := "(III)I" } : Jvm.MethodName)) ∈ lw_all := lw_g (lw_at lw_m4 237 rfl) rfl
theorem q993 : (Jvm.Cond.code ({ cls := "ReplicaDocumentModel", name := "element", desc := "(III)I" } : Jvm.MethodName) prog_9_method_41_code (5 : Nat) (Option.some Jvm.ClassFile.FieldType.int)) ∈ lw_all := lw_g (lw_at lw_m4 238 rfl) rfl
theorem q994 : (Jvm.Cond.methodLink "ReplicaDocumentModel" (133 : Nat) ({ cls := "ReplicaDocumentModel", name := "elementPlace", desc := "(II)I" } : Jvm.MethodName)) ∈ lw_all := lw_g (lw_at lw_m4 239 rfl) rfl
theorem q995 : (Jvm.Cond.privateMethod ({ cls := "ReplicaDocumentModel", name := "elementPlace", desc := "(II)I" } : Jvm.MethodName)) ∈ lw_tbl := lw_at lw_m5 0 rfl
theorem q996 : (Jvm.Cond.instanceMethod ({ cls := "ReplicaDocumentModel", name := "elementPlace", desc := "(II)I" } : Jvm.MethodName)) ∈ lw_all := lw_g (lw_at lw_m5 1 rfl) rfl
theorem q997 : (Jvm.Cond.code ({ cls := "ReplicaDocumentModel", name := "elementPlace", desc := "(II)I" } : Jvm.MethodName) prog_9_method_40_code (7 : Nat) (Option.some Jvm.ClassFile.FieldType.int)) ∈ lw_all := lw_g (lw_at lw_m5 2 rfl) rfl
theorem q998 : (Jvm.Cond.methodLink "ReplicaDocumentModel" (124 : Nat) ({ cls := "ReplicaDocumentModel", name := "isElement", desc := "(II)Z" } : Jvm.MethodName)) ∈ lw_all := lw_g (lw_at lw_m5 3 rfl) rfl
theorem q999 : (Jvm.Cond.privateMethod ({ cls := "ReplicaDocumentModel", name := "isElement", desc := "(II)Z" } : Jvm.MethodName)) ∈ lw_tbl := lw_at lw_m5 4 rfl
theorem q1000 : (Jvm.Cond.instanceMethod ({ cls := "ReplicaDocumentModel", name := "isElement", desc := "(II)Z" } : Jvm.MethodName)) ∈ lw_all := lw_g (lw_at lw_m5 5 rfl) rfl
theorem q1001 : (Jvm.Cond.code ({ cls := "ReplicaDocumentModel", name := "isElement", desc := "(II)Z" } : Jvm.MethodName) prog_9_method_35_code (3 : Nat) (Option.some Jvm.ClassFile.FieldType.boolean)) ∈ lw_all := lw_g (lw_at lw_m5 6 rfl) rfl
theorem q1002 : (Jvm.Cond.methodLink "ReplicaDocumentModel" (127 : Nat) ({ cls := "ReplicaDocumentModel", name := "gone", desc := "(I)Z" } : Jvm.MethodName)) ∈ lw_all := lw_g (lw_at lw_m5 7 rfl) rfl
theorem q1003 : (Jvm.Cond.privateMethod ({ cls := "ReplicaDocumentModel", name := "gone", desc := "(I)Z" } : Jvm.MethodName)) ∈ lw_tbl := lw_at lw_m5 8 rfl
theorem q1004 : (Jvm.Cond.instanceMethod ({ cls := "ReplicaDocumentModel", name := "gone", desc := "(I)Z" } : Jvm.MethodName)) ∈ lw_all := lw_g (lw_at lw_m5 9 rfl) rfl
theorem q1005 : (Jvm.Cond.code ({ cls := "ReplicaDocumentModel", name := "gone", desc := "(I)Z" } : Jvm.MethodName) prog_9_method_36_code (4 : Nat) (Option.some Jvm.ClassFile.FieldType.boolean)) ∈ lw_all := lw_g (lw_at lw_m5 10 rfl) rfl
theorem q1006 : (Jvm.Cond.methodLink "ReplicaDocumentModel" (130 : Nat) ({ cls := "ReplicaDocumentModel", name := "ahead", desc := "(II)Z" } : Jvm.MethodName)) ∈ lw_all := lw_g (lw_at lw_m5 11 rfl) rfl
theorem q1007 : (Jvm.Cond.privateMethod ({ cls := "ReplicaDocumentModel", name := "ahead", desc := "(II)Z" } : Jvm.MethodName)) ∈ lw_tbl := lw_at lw_m5 12 rfl
theorem q1008 : (Jvm.Cond.instanceMethod ({ cls := "ReplicaDocumentModel", name := "ahead", desc := "(II)Z" } : Jvm.MethodName)) ∈ lw_all := lw_g (lw_at lw_m5 13 rfl) rfl
theorem q1009 : (Jvm.Cond.code ({ cls := "ReplicaDocumentModel", name := "ahead", desc := "(II)Z" } : Jvm.MethodName) prog_9_method_39_code (8 : Nat) (Option.some Jvm.ClassFile.FieldType.boolean)) ∈ lw_all := lw_g (lw_at lw_m5 14 rfl) rfl
theorem q1010 : (Jvm.Cond.methodLink "ReplicaDocumentModel" (117 : Nat) ({ cls := "ReplicaDocumentModel", name := "steps", desc := "(I)I" } : Jvm.MethodName)) ∈ lw_all := lw_g (lw_at lw_m5 15 rfl) rfl
theorem q1011 : (Jvm.Cond.privateMethod ({ cls := "ReplicaDocumentModel", name := "steps", desc := "(I)I" } : Jvm.MethodName)) ∈ lw_tbl := lw_at lw_m5 16 rfl
theorem q1012 : (Jvm.Cond.instanceMethod ({ cls := "ReplicaDocumentModel", name := "steps", desc := "(I)I" } : Jvm.MethodName)) ∈ lw_all := lw_g (lw_at lw_m5 17 rfl) rfl
theorem q1013 : (Jvm.Cond.code ({ cls := "ReplicaDocumentModel", name := "steps", desc := "(I)I" } : Jvm.MethodName) prog_9_method_37_code (5 : Nat) (Option.some Jvm.ClassFile.FieldType.int)) ∈ lw_all := lw_g (lw_at lw_m5 18 rfl) rfl
theorem q1014 : (Jvm.Cond.methodLink "ReplicaDocumentModel" (121 : Nat) ({ cls := "ReplicaDocumentModel", name := "up", desc := "(II)I" } : Jvm.MethodName)) ∈ lw_all := lw_g (lw_at lw_m5 19 rfl) rfl
theorem q1015 : (Jvm.Cond.privateMethod ({ cls := "ReplicaDocumentModel", name := "up", desc := "(II)I" } : Jvm.MethodName)) ∈ lw_tbl := lw_at lw_m5 20 rfl
theorem q1016 : (Jvm.Cond.instanceMethod ({ cls := "ReplicaDocumentModel", name := "up", desc := "(II)I" } : Jvm.MethodName)) ∈ lw_all := lw_g (lw_at lw_m5 21 rfl) rfl
theorem q1017 : (Jvm.Cond.code ({ cls := "ReplicaDocumentModel", name := "up", desc := "(II)I" } : Jvm.MethodName) prog_9_method_38_code (5 : Nat) (Option.some Jvm.ClassFile.FieldType.int)) ∈ lw_all := lw_g (lw_at lw_m5 22 rfl) rfl
theorem q1019 : (Jvm.Cond.instanceMethod ({ cls := "ReplicaDocumentModel", name := "depth", desc := "(II)I" } : Jvm.MethodName)) ∈ lw_all := lw_g (lw_at lw_m5 24 rfl) rfl
theorem q1020 : (Jvm.Cond.selects "ReplicaDocumentModel" ({ cls := "ReplicaDocumentModel", name := "depth", desc := "(II)I" } : Jvm.MethodName) ({ cls := "ReplicaDocumentModel", name := "depth", desc := "(II)I" } : Jvm.MethodName)) ∈ lw_all := lw_g (lw_at lw_m5 25 rfl) rfl
theorem q1021 : (Jvm.Cond.code ({ cls := "ReplicaDocumentModel", name := "depth", desc := "(II)I" } : Jvm.MethodName) prog_9_method_42_code (7 : Nat) (Option.some Jvm.ClassFile.FieldType.int)) ∈ lw_all := lw_g (lw_at lw_m5 26 rfl) rfl
theorem q1023 : (Jvm.Cond.instanceMethod ({ cls := "ReplicaDocumentModel", name := "sum", desc := "(I)I" } : Jvm.MethodName)) ∈ lw_all := lw_g (lw_at lw_m5 28 rfl) rfl
theorem q1024 : (Jvm.Cond.selects "ReplicaDocumentModel" ({ cls := "ReplicaDocumentModel", name := "sum", desc := "(I)I" } : Jvm.MethodName) ({ cls := "ReplicaDocumentModel", name := "sum", desc := "(I)I" } : Jvm.MethodName)) ∈ lw_all := lw_g (lw_at lw_m5 29 rfl) rfl
theorem q1025 : (Jvm.Cond.code ({ cls := "ReplicaDocumentModel", name := "sum", desc := "(I)I" } : Jvm.MethodName) prog_9_method_45_code (4 : Nat) (Option.some Jvm.ClassFile.FieldType.int)) ∈ lw_all := lw_g (lw_at lw_m5 30 rfl) rfl
theorem q1026 : (Jvm.Cond.methodLink "ReplicaDocumentModel" (136 : Nat) ({ cls := "ReplicaDocumentModel", name := "mapTotal", desc := "(I)I" } : Jvm.MethodName)) ∈ lw_all := lw_g (lw_at lw_m5 31 rfl) rfl
theorem q1027 : (Jvm.Cond.privateMethod ({ cls := "ReplicaDocumentModel", name := "mapTotal", desc := "(I)I" } : Jvm.MethodName)) ∈ lw_tbl := lw_at lw_m5 32 rfl
theorem q1028 : (Jvm.Cond.instanceMethod ({ cls := "ReplicaDocumentModel", name := "mapTotal", desc := "(I)I" } : Jvm.MethodName)) ∈ lw_all := lw_g (lw_at lw_m5 33 rfl) rfl
theorem q1029 : (Jvm.Cond.code ({ cls := "ReplicaDocumentModel", name := "mapTotal", desc := "(I)I" } : Jvm.MethodName) prog_9_method_43_code (6 : Nat) (Option.some Jvm.ClassFile.FieldType.int)) ∈ lw_all := lw_g (lw_at lw_m5 34 rfl) rfl
theorem q1030 : (Jvm.Cond.methodLink "ReplicaDocumentModel" (139 : Nat) ({ cls := "ReplicaDocumentModel", name := "listTotal", desc := "(I)I" } : Jvm.MethodName)) ∈ lw_all := lw_g (lw_at lw_m5 35 rfl) rfl
theorem q1031 : (Jvm.Cond.privateMethod ({ cls := "ReplicaDocumentModel", name := "listTotal", desc := "(I)I" } : Jvm.MethodName)) ∈ lw_tbl := lw_at lw_m5 36 rfl
theorem q1032 : (Jvm.Cond.instanceMethod ({ cls := "ReplicaDocumentModel", name := "listTotal", desc := "(I)I" } : Jvm.MethodName)) ∈ lw_all := lw_g (lw_at lw_m5 37 rfl) rfl
theorem q1033 : (Jvm.Cond.code ({ cls := "ReplicaDocumentModel", name := "listTotal", desc := "(I)I" } : Jvm.MethodName) prog_9_method_44_code (5 : Nat) (Option.some Jvm.ClassFile.FieldType.int)) ∈ lw_all := lw_g (lw_at lw_m5 38 rfl) rfl
theorem q1053 : (Jvm.Cond.castable "ReplicaDocumentModel" "java/lang/Object") ∈ lw_tbl := lw_at lw_m5 58 rfl
theorem in_X3 : ∀ w ∈ wsX30, w ∈ lw_all := lw_in wsX30 [833, 835, 837, 839, 841, 843, 845, 847, 849, 851, 853, 855] (by decide +kernel) (by decide +kernel)

