set_option maxRecDepth 100000
/-! ReplicaDocument -/
def RX0 : String := "ReplicaDocument"
def TX0 : u_T := fun k => match k with
  | 0 => ("ReplicaDocument", "replicas", "[LReplicaDocument$Replica;", true)
  | 1 => ("ReplicaDocument", "wire", "Ljava/lang/StringBuilder;", true)
  | _ => ("ReplicaDocument", "draft", "Ljava/lang/StringBuilder;", true)
def tyX0 : Nat → FieldType := fun k => match k with
  | 0 => .array (.object "ReplicaDocument$Replica")
  | 1 => .object "java/lang/StringBuilder"
  | _ => .object "java/lang/StringBuilder"
abbrev wsX00 : List Cond := u_ws RX0 TX0 3
theorem nmX0 : ∀ a, a < 3 → ∀ b, b < 3 → a ≠ b → (TX0 a).2.1 ≠ (TX0 b).2.1 := by decide +kernel
theorem tyX0_ok : ∀ k, k < 3 → parseFieldDescriptor (TX0 k).2.2.1 = some (tyX0 k) := by decide +kernel
abbrev cX0_init : ByteArray := prog_1_method_6_code
def yX0_init : MethodName := ⟨RX0, "<init>", "()V"⟩
theorem dX0_init_0 : decode cX0_init 0 = .ok (.aload_n 0, 1) := by decide +kernel
theorem dX0_init_1 : decode cX0_init 1 = .ok (.invokespecial 44, 3) := by decide +kernel
theorem dX0_init_4 : decode cX0_init 4 = .ok (.aload_n 0, 1) := by decide +kernel
theorem dX0_init_5 : decode cX0_init 5 = .ok (.iconst 3, 1) := by decide +kernel
theorem dX0_init_6 : decode cX0_init 6 = .ok (.anewarray 50, 3) := by decide +kernel
theorem dX0_init_9 : decode cX0_init 9 = .ok (.dup, 1) := by decide +kernel
theorem dX0_init_10 : decode cX0_init 10 = .ok (.iconst 0, 1) := by decide +kernel
theorem dX0_init_11 : decode cX0_init 11 = .ok (.new 50, 3) := by decide +kernel
theorem dX0_init_14 : decode cX0_init 14 = .ok (.dup, 1) := by decide +kernel
theorem dX0_init_15 : decode cX0_init 15 = .ok (.invokespecial 52, 3) := by decide +kernel
theorem dX0_init_18 : decode cX0_init 18 = .ok (.aastore, 1) := by decide +kernel
theorem dX0_init_19 : decode cX0_init 19 = .ok (.dup, 1) := by decide +kernel
theorem dX0_init_20 : decode cX0_init 20 = .ok (.iconst 1, 1) := by decide +kernel
theorem dX0_init_21 : decode cX0_init 21 = .ok (.new 50, 3) := by decide +kernel
theorem dX0_init_24 : decode cX0_init 24 = .ok (.dup, 1) := by decide +kernel
theorem dX0_init_25 : decode cX0_init 25 = .ok (.invokespecial 52, 3) := by decide +kernel
theorem dX0_init_28 : decode cX0_init 28 = .ok (.aastore, 1) := by decide +kernel
theorem dX0_init_29 : decode cX0_init 29 = .ok (.dup, 1) := by decide +kernel
theorem dX0_init_30 : decode cX0_init 30 = .ok (.iconst 2, 1) := by decide +kernel
theorem dX0_init_31 : decode cX0_init 31 = .ok (.new 50, 3) := by decide +kernel
theorem dX0_init_34 : decode cX0_init 34 = .ok (.dup, 1) := by decide +kernel
theorem dX0_init_35 : decode cX0_init 35 = .ok (.invokespecial 52, 3) := by decide +kernel
theorem dX0_init_38 : decode cX0_init 38 = .ok (.aastore, 1) := by decide +kernel
theorem dX0_init_39 : decode cX0_init 39 = .ok (.putfield 53, 3) := by decide +kernel
theorem dX0_init_42 : decode cX0_init 42 = .ok (.aload_n 0, 1) := by decide +kernel
theorem dX0_init_43 : decode cX0_init 43 = .ok (.new 4, 3) := by decide +kernel
theorem dX0_init_46 : decode cX0_init 46 = .ok (.dup, 1) := by decide +kernel
theorem dX0_init_47 : decode cX0_init 47 = .ok (.invokespecial 57, 3) := by decide +kernel
theorem dX0_init_50 : decode cX0_init 50 = .ok (.putfield 58, 3) := by decide +kernel
theorem dX0_init_53 : decode cX0_init 53 = .ok (.aload_n 0, 1) := by decide +kernel
theorem dX0_init_54 : decode cX0_init 54 = .ok (.new 4, 3) := by decide +kernel
theorem dX0_init_57 : decode cX0_init 57 = .ok (.dup, 1) := by decide +kernel
theorem dX0_init_58 : decode cX0_init 58 = .ok (.invokespecial 57, 3) := by decide +kernel
theorem dX0_init_61 : decode cX0_init 61 = .ok (.putfield 62, 3) := by decide +kernel
theorem dX0_init_64 : decode cX0_init 64 = .ok (.return_, 1) := by decide +kernel
abbrev cX0_edit : ByteArray := prog_1_method_8_code
def yX0_edit : MethodName := ⟨RX0, "edit", "(IIIII)I"⟩
theorem dX0_edit_0 : decode cX0_edit 0 = .ok (.aload_n 0, 1) := by decide +kernel
theorem dX0_edit_1 : decode cX0_edit 1 = .ok (.iload_n 1, 1) := by decide +kernel
theorem dX0_edit_2 : decode cX0_edit 2 = .ok (.invokevirtual 65, 3) := by decide +kernel
theorem dX0_edit_5 : decode cX0_edit 5 = .ok (.astore 6, 2) := by decide +kernel
theorem dX0_edit_7 : decode cX0_edit 7 = .ok (.aload 6, 2) := by decide +kernel
theorem dX0_edit_9 : decode cX0_edit 9 = .ok (.ifnull 27, 3) := by decide +kernel
theorem dX0_edit_12 : decode cX0_edit 12 = .ok (.iload_n 2, 1) := by decide +kernel
theorem dX0_edit_13 : decode cX0_edit 13 = .ok (.iload_n 3, 1) := by decide +kernel
theorem dX0_edit_14 : decode cX0_edit 14 = .ok (.iload 4, 2) := by decide +kernel
theorem dX0_edit_16 : decode cX0_edit 16 = .ok (.iload 5, 2) := by decide +kernel
theorem dX0_edit_18 : decode cX0_edit 18 = .ok (.invokestatic 17, 3) := by decide +kernel
theorem dX0_edit_21 : decode cX0_edit 21 = .ok (.ifCond .eq 15, 3) := by decide +kernel
theorem dX0_edit_24 : decode cX0_edit 24 = .ok (.aload 6, 2) := by decide +kernel
theorem dX0_edit_26 : decode cX0_edit 26 = .ok (.iload_n 2, 1) := by decide +kernel
theorem dX0_edit_27 : decode cX0_edit 27 = .ok (.iload_n 3, 1) := by decide +kernel
theorem dX0_edit_28 : decode cX0_edit 28 = .ok (.iload 4, 2) := by decide +kernel
theorem dX0_edit_30 : decode cX0_edit 30 = .ok (.invokevirtual 69, 3) := by decide +kernel
theorem dX0_edit_33 : decode cX0_edit 33 = .ok (.ifCond .ne 5, 3) := by decide +kernel
theorem dX0_edit_36 : decode cX0_edit 36 = .ok (.iconst (-1), 1) := by decide +kernel
theorem dX0_edit_37 : decode cX0_edit 37 = .ok (.ireturn, 1) := by decide +kernel
theorem dX0_edit_38 : decode cX0_edit 38 = .ok (.aload 6, 2) := by decide +kernel
theorem dX0_edit_40 : decode cX0_edit 40 = .ok (.invokevirtual 73, 3) := by decide +kernel
theorem dX0_edit_43 : decode cX0_edit 43 = .ok (.iconst 1, 1) := by decide +kernel
theorem dX0_edit_44 : decode cX0_edit 44 = .ok (.iadd, 1) := by decide +kernel
theorem dX0_edit_45 : decode cX0_edit 45 = .ok (.istore 7, 2) := by decide +kernel
theorem dX0_edit_47 : decode cX0_edit 47 = .ok (.aload 6, 2) := by decide +kernel
theorem dX0_edit_49 : decode cX0_edit 49 = .ok (.invokevirtual 76, 3) := by decide +kernel
theorem dX0_edit_52 : decode cX0_edit 52 = .ok (.bipush 16, 2) := by decide +kernel
theorem dX0_edit_54 : decode cX0_edit 54 = .ok (.if_icmp .ge 10, 3) := by decide +kernel
theorem dX0_edit_57 : decode cX0_edit 57 = .ok (.iload 7, 2) := by decide +kernel
theorem dX0_edit_59 : decode cX0_edit 59 = .ok (.bipush 40, 2) := by decide +kernel
theorem dX0_edit_61 : decode cX0_edit 61 = .ok (.if_icmp .le 6, 3) := by decide +kernel
theorem dX0_edit_64 : decode cX0_edit 64 = .ok (.bipush (-7), 2) := by decide +kernel
theorem dX0_edit_66 : decode cX0_edit 66 = .ok (.ireturn, 1) := by decide +kernel
theorem dX0_edit_67 : decode cX0_edit 67 = .ok (.aload_n 0, 1) := by decide +kernel
theorem dX0_edit_68 : decode cX0_edit 68 = .ok (.getfield 62, 3) := by decide +kernel
theorem dX0_edit_71 : decode cX0_edit 71 = .ok (.iconst 0, 1) := by decide +kernel
theorem dX0_edit_72 : decode cX0_edit 72 = .ok (.invokevirtual 79, 3) := by decide +kernel
theorem dX0_edit_75 : decode cX0_edit 75 = .ok (.aload_n 0, 1) := by decide +kernel
theorem dX0_edit_76 : decode cX0_edit 76 = .ok (.getfield 62, 3) := by decide +kernel
theorem dX0_edit_79 : decode cX0_edit 79 = .ok (.iconst 4, 1) := by decide +kernel
theorem dX0_edit_80 : decode cX0_edit 80 = .ok (.iload 7, 2) := by decide +kernel
theorem dX0_edit_82 : decode cX0_edit 82 = .ok (.imul, 1) := by decide +kernel
theorem dX0_edit_83 : decode cX0_edit 83 = .ok (.iload_n 1, 1) := by decide +kernel
theorem dX0_edit_84 : decode cX0_edit 84 = .ok (.iadd, 1) := by decide +kernel
theorem dX0_edit_85 : decode cX0_edit 85 = .ok (.i2c, 1) := by decide +kernel
theorem dX0_edit_86 : decode cX0_edit 86 = .ok (.invokevirtual 83, 3) := by decide +kernel
theorem dX0_edit_89 : decode cX0_edit 89 = .ok (.iload_n 2, 1) := by decide +kernel
theorem dX0_edit_90 : decode cX0_edit 90 = .ok (.i2c, 1) := by decide +kernel
theorem dX0_edit_91 : decode cX0_edit 91 = .ok (.invokevirtual 83, 3) := by decide +kernel
theorem dX0_edit_94 : decode cX0_edit 94 = .ok (.iload_n 3, 1) := by decide +kernel
theorem dX0_edit_95 : decode cX0_edit 95 = .ok (.i2c, 1) := by decide +kernel
theorem dX0_edit_96 : decode cX0_edit 96 = .ok (.invokevirtual 83, 3) := by decide +kernel
theorem dX0_edit_99 : decode cX0_edit 99 = .ok (.iload 4, 2) := by decide +kernel
theorem dX0_edit_101 : decode cX0_edit 101 = .ok (.i2c, 1) := by decide +kernel
theorem dX0_edit_102 : decode cX0_edit 102 = .ok (.invokevirtual 83, 3) := by decide +kernel
theorem dX0_edit_105 : decode cX0_edit 105 = .ok (.iload 5, 2) := by decide +kernel
theorem dX0_edit_107 : decode cX0_edit 107 = .ok (.i2c, 1) := by decide +kernel
theorem dX0_edit_108 : decode cX0_edit 108 = .ok (.invokevirtual 83, 3) := by decide +kernel
theorem dX0_edit_111 : decode cX0_edit 111 = .ok (.iconst 0, 1) := by decide +kernel
theorem dX0_edit_112 : decode cX0_edit 112 = .ok (.invokevirtual 83, 3) := by decide +kernel
theorem dX0_edit_115 : decode cX0_edit 115 = .ok (.pop, 1) := by decide +kernel
theorem dX0_edit_116 : decode cX0_edit 116 = .ok (.iconst 4, 1) := by decide +kernel
theorem dX0_edit_117 : decode cX0_edit 117 = .ok (.istore 8, 2) := by decide +kernel
theorem dX0_edit_119 : decode cX0_edit 119 = .ok (.iload 8, 2) := by decide +kernel
theorem dX0_edit_121 : decode cX0_edit 121 = .ok (.sipush 163, 3) := by decide +kernel
theorem dX0_edit_124 : decode cX0_edit 124 = .ok (.if_icmp .ge 72, 3) := by decide +kernel
theorem dX0_edit_127 : decode cX0_edit 127 = .ok (.aload 6, 2) := by decide +kernel
theorem dX0_edit_129 : decode cX0_edit 129 = .ok (.iload 8, 2) := by decide +kernel
theorem dX0_edit_131 : decode cX0_edit 131 = .ok (.invokevirtual 87, 3) := by decide +kernel
theorem dX0_edit_134 : decode cX0_edit 134 = .ok (.astore 9, 2) := by decide +kernel
theorem dX0_edit_136 : decode cX0_edit 136 = .ok (.iload 8, 2) := by decide +kernel
theorem dX0_edit_138 : decode cX0_edit 138 = .ok (.iload_n 3, 1) := by decide +kernel
theorem dX0_edit_139 : decode cX0_edit 139 = .ok (.if_icmp .eq 15, 3) := by decide +kernel
theorem dX0_edit_142 : decode cX0_edit 142 = .ok (.iload_n 2, 1) := by decide +kernel
theorem dX0_edit_143 : decode cX0_edit 143 = .ok (.iconst 3, 1) := by decide +kernel
theorem dX0_edit_144 : decode cX0_edit 144 = .ok (.if_icmp .ne 14, 3) := by decide +kernel
theorem dX0_edit_147 : decode cX0_edit 147 = .ok (.iload 8, 2) := by decide +kernel
theorem dX0_edit_149 : decode cX0_edit 149 = .ok (.iload 4, 2) := by decide +kernel
theorem dX0_edit_151 : decode cX0_edit 151 = .ok (.if_icmp .ne 7, 3) := by decide +kernel
theorem dX0_edit_154 : decode cX0_edit 154 = .ok (.iconst 1, 1) := by decide +kernel
theorem dX0_edit_155 : decode cX0_edit 155 = .ok (.goto 4, 3) := by decide +kernel
theorem dX0_edit_158 : decode cX0_edit 158 = .ok (.iconst 0, 1) := by decide +kernel
theorem dX0_edit_159 : decode cX0_edit 159 = .ok (.istore 10, 2) := by decide +kernel
theorem dX0_edit_161 : decode cX0_edit 161 = .ok (.aload 9, 2) := by decide +kernel
theorem dX0_edit_163 : decode cX0_edit 163 = .ok (.ifnull 27, 3) := by decide +kernel
theorem dX0_edit_166 : decode cX0_edit 166 = .ok (.aload 9, 2) := by decide +kernel
theorem dX0_edit_168 : decode cX0_edit 168 = .ok (.getfield 91, 3) := by decide +kernel
theorem dX0_edit_171 : decode cX0_edit 171 = .ok (.ifCond .eq 8, 3) := by decide +kernel
theorem dX0_edit_174 : decode cX0_edit 174 = .ok (.iload 10, 2) := by decide +kernel
theorem dX0_edit_176 : decode cX0_edit 176 = .ok (.ifCond .eq 14, 3) := by decide +kernel
theorem dX0_edit_179 : decode cX0_edit 179 = .ok (.aload_n 0, 1) := by decide +kernel
theorem dX0_edit_180 : decode cX0_edit 180 = .ok (.getfield 62, 3) := by decide +kernel
theorem dX0_edit_183 : decode cX0_edit 183 = .ok (.iload 8, 2) := by decide +kernel
theorem dX0_edit_185 : decode cX0_edit 185 = .ok (.i2c, 1) := by decide +kernel
theorem dX0_edit_186 : decode cX0_edit 186 = .ok (.invokevirtual 83, 3) := by decide +kernel
theorem dX0_edit_189 : decode cX0_edit 189 = .ok (.pop, 1) := by decide +kernel
theorem dX0_edit_190 : decode cX0_edit 190 = .ok (.iinc 8 1, 3) := by decide +kernel
theorem dX0_edit_193 : decode cX0_edit 193 = .ok (.goto (-74), 3) := by decide +kernel
theorem dX0_edit_196 : decode cX0_edit 196 = .ok (.aload_n 0, 1) := by decide +kernel
theorem dX0_edit_197 : decode cX0_edit 197 = .ok (.getfield 62, 3) := by decide +kernel
theorem dX0_edit_200 : decode cX0_edit 200 = .ok (.invokevirtual 3, 3) := by decide +kernel
theorem dX0_edit_203 : decode cX0_edit 203 = .ok (.bipush 12, 2) := by decide +kernel
theorem dX0_edit_205 : decode cX0_edit 205 = .ok (.if_icmp .le 6, 3) := by decide +kernel
theorem dX0_edit_208 : decode cX0_edit 208 = .ok (.bipush (-7), 2) := by decide +kernel
theorem dX0_edit_210 : decode cX0_edit 210 = .ok (.ireturn, 1) := by decide +kernel
theorem dX0_edit_211 : decode cX0_edit 211 = .ok (.aload_n 0, 1) := by decide +kernel
theorem dX0_edit_212 : decode cX0_edit 212 = .ok (.getfield 62, 3) := by decide +kernel
theorem dX0_edit_215 : decode cX0_edit 215 = .ok (.iconst 5, 1) := by decide +kernel
theorem dX0_edit_216 : decode cX0_edit 216 = .ok (.aload_n 0, 1) := by decide +kernel
theorem dX0_edit_217 : decode cX0_edit 217 = .ok (.getfield 62, 3) := by decide +kernel
theorem dX0_edit_220 : decode cX0_edit 220 = .ok (.invokevirtual 3, 3) := by decide +kernel
theorem dX0_edit_223 : decode cX0_edit 223 = .ok (.bipush 6, 2) := by decide +kernel
theorem dX0_edit_225 : decode cX0_edit 225 = .ok (.isub, 1) := by decide +kernel
theorem dX0_edit_226 : decode cX0_edit 226 = .ok (.i2c, 1) := by decide +kernel
theorem dX0_edit_227 : decode cX0_edit 227 = .ok (.invokevirtual 94, 3) := by decide +kernel
theorem dX0_edit_230 : decode cX0_edit 230 = .ok (.aload 6, 2) := by decide +kernel
theorem dX0_edit_232 : decode cX0_edit 232 = .ok (.new 98, 3) := by decide +kernel
theorem dX0_edit_235 : decode cX0_edit 235 = .ok (.dup, 1) := by decide +kernel
theorem dX0_edit_236 : decode cX0_edit 236 = .ok (.aload_n 0, 1) := by decide +kernel
theorem dX0_edit_237 : decode cX0_edit 237 = .ok (.getfield 62, 3) := by decide +kernel
theorem dX0_edit_240 : decode cX0_edit 240 = .ok (.invokevirtual 100, 3) := by decide +kernel
theorem dX0_edit_243 : decode cX0_edit 243 = .ok (.invokespecial 104, 3) := by decide +kernel
theorem dX0_edit_246 : decode cX0_edit 246 = .ok (.invokevirtual 107, 3) := by decide +kernel
theorem dX0_edit_249 : decode cX0_edit 249 = .ok (.aload 6, 2) := by decide +kernel
theorem dX0_edit_251 : decode cX0_edit 251 = .ok (.invokevirtual 111, 3) := by decide +kernel
theorem dX0_edit_254 : decode cX0_edit 254 = .ok (.pop, 1) := by decide +kernel
theorem dX0_edit_255 : decode cX0_edit 255 = .ok (.iconst 4, 1) := by decide +kernel
theorem dX0_edit_256 : decode cX0_edit 256 = .ok (.iload 7, 2) := by decide +kernel
theorem dX0_edit_258 : decode cX0_edit 258 = .ok (.imul, 1) := by decide +kernel
theorem dX0_edit_259 : decode cX0_edit 259 = .ok (.iload_n 1, 1) := by decide +kernel
theorem dX0_edit_260 : decode cX0_edit 260 = .ok (.iadd, 1) := by decide +kernel
theorem dX0_edit_261 : decode cX0_edit 261 = .ok (.ireturn, 1) := by decide +kernel
abbrev cX0_replica : ByteArray := prog_1_method_7_code
def yX0_replica : MethodName := ⟨RX0, "replica", "(I)LReplicaDocument$Replica;"⟩
theorem dX0_replica_0 : decode cX0_replica 0 = .ok (.iload_n 1, 1) := by decide +kernel
theorem dX0_replica_1 : decode cX0_replica 1 = .ok (.ifCond .lt 8, 3) := by decide +kernel
theorem dX0_replica_4 : decode cX0_replica 4 = .ok (.iload_n 1, 1) := by decide +kernel
theorem dX0_replica_5 : decode cX0_replica 5 = .ok (.iconst 2, 1) := by decide +kernel
theorem dX0_replica_6 : decode cX0_replica 6 = .ok (.if_icmp .le 7, 3) := by decide +kernel
theorem dX0_replica_9 : decode cX0_replica 9 = .ok (.aconst_null, 1) := by decide +kernel
theorem dX0_replica_10 : decode cX0_replica 10 = .ok (.goto 9, 3) := by decide +kernel
theorem dX0_replica_13 : decode cX0_replica 13 = .ok (.aload_n 0, 1) := by decide +kernel
theorem dX0_replica_14 : decode cX0_replica 14 = .ok (.getfield 53, 3) := by decide +kernel
theorem dX0_replica_17 : decode cX0_replica 17 = .ok (.iload_n 1, 1) := by decide +kernel
theorem dX0_replica_18 : decode cX0_replica 18 = .ok (.aaload, 1) := by decide +kernel
theorem dX0_replica_19 : decode cX0_replica 19 = .ok (.areturn, 1) := by decide +kernel
abbrev cX0_wellShaped : ByteArray := prog_1_method_4_code
def yX0_wellShaped : MethodName := ⟨RX0, "wellShaped", "(IIII)Z"⟩
theorem dX0_wellShaped_0 : decode cX0_wellShaped 0 = .ok (.iload_n 0, 1) := by decide +kernel
theorem dX0_wellShaped_1 : decode cX0_wellShaped 1 = .ok (.tableswitch 156 0 5 #[39, 73, 73, 101, 135, 73], 39) := by decide +kernel
theorem dX0_wellShaped_40 : decode cX0_wellShaped 40 = .ok (.iload_n 1, 1) := by decide +kernel
theorem dX0_wellShaped_41 : decode cX0_wellShaped 41 = .ok (.ifCond .eq 10, 3) := by decide +kernel
theorem dX0_wellShaped_44 : decode cX0_wellShaped 44 = .ok (.iload_n 1, 1) := by decide +kernel
theorem dX0_wellShaped_45 : decode cX0_wellShaped 45 = .ok (.invokestatic 13, 3) := by decide +kernel
theorem dX0_wellShaped_48 : decode cX0_wellShaped 48 = .ok (.ifCond .eq 24, 3) := by decide +kernel
theorem dX0_wellShaped_51 : decode cX0_wellShaped 51 = .ok (.iload_n 2, 1) := by decide +kernel
theorem dX0_wellShaped_52 : decode cX0_wellShaped 52 = .ok (.invokestatic 21, 3) := by decide +kernel
theorem dX0_wellShaped_55 : decode cX0_wellShaped 55 = .ok (.ifCond .eq 17, 3) := by decide +kernel
theorem dX0_wellShaped_58 : decode cX0_wellShaped 58 = .ok (.iload_n 3, 1) := by decide +kernel
theorem dX0_wellShaped_59 : decode cX0_wellShaped 59 = .ok (.ifCond .lt 13, 3) := by decide +kernel
theorem dX0_wellShaped_62 : decode cX0_wellShaped 62 = .ok (.iload_n 3, 1) := by decide +kernel
theorem dX0_wellShaped_63 : decode cX0_wellShaped 63 = .ok (.bipush 99, 2) := by decide +kernel
theorem dX0_wellShaped_65 : decode cX0_wellShaped 65 = .ok (.if_icmp .gt 7, 3) := by decide +kernel
theorem dX0_wellShaped_68 : decode cX0_wellShaped 68 = .ok (.iconst 1, 1) := by decide +kernel
theorem dX0_wellShaped_69 : decode cX0_wellShaped 69 = .ok (.goto 4, 3) := by decide +kernel
theorem dX0_wellShaped_72 : decode cX0_wellShaped 72 = .ok (.iconst 0, 1) := by decide +kernel
theorem dX0_wellShaped_73 : decode cX0_wellShaped 73 = .ok (.ireturn, 1) := by decide +kernel
theorem dX0_wellShaped_74 : decode cX0_wellShaped 74 = .ok (.iload_n 1, 1) := by decide +kernel
theorem dX0_wellShaped_75 : decode cX0_wellShaped 75 = .ok (.ifCond .eq 10, 3) := by decide +kernel
theorem dX0_wellShaped_78 : decode cX0_wellShaped 78 = .ok (.iload_n 1, 1) := by decide +kernel
theorem dX0_wellShaped_79 : decode cX0_wellShaped 79 = .ok (.invokestatic 13, 3) := by decide +kernel
theorem dX0_wellShaped_82 : decode cX0_wellShaped 82 = .ok (.ifCond .eq 18, 3) := by decide +kernel
theorem dX0_wellShaped_85 : decode cX0_wellShaped 85 = .ok (.iload_n 2, 1) := by decide +kernel
theorem dX0_wellShaped_86 : decode cX0_wellShaped 86 = .ok (.invokestatic 21, 3) := by decide +kernel
theorem dX0_wellShaped_89 : decode cX0_wellShaped 89 = .ok (.ifCond .eq 11, 3) := by decide +kernel
theorem dX0_wellShaped_92 : decode cX0_wellShaped 92 = .ok (.iload_n 3, 1) := by decide +kernel
theorem dX0_wellShaped_93 : decode cX0_wellShaped 93 = .ok (.ifCond .ne 7, 3) := by decide +kernel
theorem dX0_wellShaped_96 : decode cX0_wellShaped 96 = .ok (.iconst 1, 1) := by decide +kernel
theorem dX0_wellShaped_97 : decode cX0_wellShaped 97 = .ok (.goto 4, 3) := by decide +kernel
theorem dX0_wellShaped_100 : decode cX0_wellShaped 100 = .ok (.iconst 0, 1) := by decide +kernel
theorem dX0_wellShaped_101 : decode cX0_wellShaped 101 = .ok (.ireturn, 1) := by decide +kernel
theorem dX0_wellShaped_102 : decode cX0_wellShaped 102 = .ok (.iload_n 1, 1) := by decide +kernel
theorem dX0_wellShaped_103 : decode cX0_wellShaped 103 = .ok (.invokestatic 13, 3) := by decide +kernel
theorem dX0_wellShaped_106 : decode cX0_wellShaped 106 = .ok (.ifCond .eq 28, 3) := by decide +kernel
theorem dX0_wellShaped_109 : decode cX0_wellShaped 109 = .ok (.iload_n 2, 1) := by decide +kernel
theorem dX0_wellShaped_110 : decode cX0_wellShaped 110 = .ok (.ifCond .eq 10, 3) := by decide +kernel
theorem dX0_wellShaped_113 : decode cX0_wellShaped 113 = .ok (.iload_n 2, 1) := by decide +kernel
theorem dX0_wellShaped_114 : decode cX0_wellShaped 114 = .ok (.invokestatic 13, 3) := by decide +kernel
theorem dX0_wellShaped_117 : decode cX0_wellShaped 117 = .ok (.ifCond .eq 17, 3) := by decide +kernel
theorem dX0_wellShaped_120 : decode cX0_wellShaped 120 = .ok (.iload_n 3, 1) := by decide +kernel
theorem dX0_wellShaped_121 : decode cX0_wellShaped 121 = .ok (.ifCond .lt 13, 3) := by decide +kernel
theorem dX0_wellShaped_124 : decode cX0_wellShaped 124 = .ok (.iload_n 3, 1) := by decide +kernel
theorem dX0_wellShaped_125 : decode cX0_wellShaped 125 = .ok (.bipush 99, 2) := by decide +kernel
theorem dX0_wellShaped_127 : decode cX0_wellShaped 127 = .ok (.if_icmp .gt 7, 3) := by decide +kernel
theorem dX0_wellShaped_130 : decode cX0_wellShaped 130 = .ok (.iconst 1, 1) := by decide +kernel
theorem dX0_wellShaped_131 : decode cX0_wellShaped 131 = .ok (.goto 4, 3) := by decide +kernel
theorem dX0_wellShaped_134 : decode cX0_wellShaped 134 = .ok (.iconst 0, 1) := by decide +kernel
theorem dX0_wellShaped_135 : decode cX0_wellShaped 135 = .ok (.ireturn, 1) := by decide +kernel
theorem dX0_wellShaped_136 : decode cX0_wellShaped 136 = .ok (.iload_n 1, 1) := by decide +kernel
theorem dX0_wellShaped_137 : decode cX0_wellShaped 137 = .ok (.invokestatic 13, 3) := by decide +kernel
theorem dX0_wellShaped_140 : decode cX0_wellShaped 140 = .ok (.ifCond .eq 15, 3) := by decide +kernel
theorem dX0_wellShaped_143 : decode cX0_wellShaped 143 = .ok (.iload_n 2, 1) := by decide +kernel
theorem dX0_wellShaped_144 : decode cX0_wellShaped 144 = .ok (.ifCond .ne 11, 3) := by decide +kernel
theorem dX0_wellShaped_147 : decode cX0_wellShaped 147 = .ok (.iload_n 3, 1) := by decide +kernel
theorem dX0_wellShaped_148 : decode cX0_wellShaped 148 = .ok (.ifCond .ne 7, 3) := by decide +kernel
theorem dX0_wellShaped_151 : decode cX0_wellShaped 151 = .ok (.iconst 1, 1) := by decide +kernel
theorem dX0_wellShaped_152 : decode cX0_wellShaped 152 = .ok (.goto 4, 3) := by decide +kernel
theorem dX0_wellShaped_155 : decode cX0_wellShaped 155 = .ok (.iconst 0, 1) := by decide +kernel
theorem dX0_wellShaped_156 : decode cX0_wellShaped 156 = .ok (.ireturn, 1) := by decide +kernel
theorem dX0_wellShaped_157 : decode cX0_wellShaped 157 = .ok (.iconst 0, 1) := by decide +kernel
theorem dX0_wellShaped_158 : decode cX0_wellShaped 158 = .ok (.ireturn, 1) := by decide +kernel
abbrev cX0_isId : ByteArray := prog_1_method_1_code
def yX0_isId : MethodName := ⟨RX0, "isId", "(I)Z"⟩
theorem dX0_isId_0 : decode cX0_isId 0 = .ok (.iload_n 0, 1) := by decide +kernel
theorem dX0_isId_1 : decode cX0_isId 1 = .ok (.iconst 4, 1) := by decide +kernel
theorem dX0_isId_2 : decode cX0_isId 2 = .ok (.if_icmp .lt 21, 3) := by decide +kernel
theorem dX0_isId_5 : decode cX0_isId 5 = .ok (.iload_n 0, 1) := by decide +kernel
theorem dX0_isId_6 : decode cX0_isId 6 = .ok (.sipush 163, 3) := by decide +kernel
theorem dX0_isId_9 : decode cX0_isId 9 = .ok (.if_icmp .ge 14, 3) := by decide +kernel
theorem dX0_isId_12 : decode cX0_isId 12 = .ok (.iload_n 0, 1) := by decide +kernel
theorem dX0_isId_13 : decode cX0_isId 13 = .ok (.iconst 4, 1) := by decide +kernel
theorem dX0_isId_14 : decode cX0_isId 14 = .ok (.irem, 1) := by decide +kernel
theorem dX0_isId_15 : decode cX0_isId 15 = .ok (.iconst 3, 1) := by decide +kernel
theorem dX0_isId_16 : decode cX0_isId 16 = .ok (.if_icmp .eq 7, 3) := by decide +kernel
theorem dX0_isId_19 : decode cX0_isId 19 = .ok (.iconst 1, 1) := by decide +kernel
theorem dX0_isId_20 : decode cX0_isId 20 = .ok (.goto 4, 3) := by decide +kernel
theorem dX0_isId_23 : decode cX0_isId 23 = .ok (.iconst 0, 1) := by decide +kernel
theorem dX0_isId_24 : decode cX0_isId 24 = .ok (.ireturn, 1) := by decide +kernel
abbrev cX0_isKey : ByteArray := prog_1_method_2_code
def yX0_isKey : MethodName := ⟨RX0, "isKey", "(I)Z"⟩
theorem dX0_isKey_0 : decode cX0_isKey 0 = .ok (.iload_n 0, 1) := by decide +kernel
theorem dX0_isKey_1 : decode cX0_isKey 1 = .ok (.ifCond .lt 12, 3) := by decide +kernel
theorem dX0_isKey_4 : decode cX0_isKey 4 = .ok (.iload_n 0, 1) := by decide +kernel
theorem dX0_isKey_5 : decode cX0_isKey 5 = .ok (.iconst 3, 1) := by decide +kernel
theorem dX0_isKey_6 : decode cX0_isKey 6 = .ok (.if_icmp .gt 7, 3) := by decide +kernel
theorem dX0_isKey_9 : decode cX0_isKey 9 = .ok (.iconst 1, 1) := by decide +kernel
theorem dX0_isKey_10 : decode cX0_isKey 10 = .ok (.goto 4, 3) := by decide +kernel
theorem dX0_isKey_13 : decode cX0_isKey 13 = .ok (.iconst 0, 1) := by decide +kernel
theorem dX0_isKey_14 : decode cX0_isKey 14 = .ok (.ireturn, 1) := by decide +kernel
abbrev cX0_emit : ByteArray := prog_1_method_9_code
def yX0_emit : MethodName := ⟨RX0, "emit", "(II)I"⟩
theorem dX0_emit_0 : decode cX0_emit 0 = .ok (.aload_n 0, 1) := by decide +kernel
theorem dX0_emit_1 : decode cX0_emit 1 = .ok (.iload_n 1, 1) := by decide +kernel
theorem dX0_emit_2 : decode cX0_emit 2 = .ok (.invokevirtual 65, 3) := by decide +kernel
theorem dX0_emit_5 : decode cX0_emit 5 = .ok (.astore_n 3, 1) := by decide +kernel
theorem dX0_emit_6 : decode cX0_emit 6 = .ok (.aload_n 3, 1) := by decide +kernel
theorem dX0_emit_7 : decode cX0_emit 7 = .ok (.ifnonnull 7, 3) := by decide +kernel
theorem dX0_emit_10 : decode cX0_emit 10 = .ok (.aconst_null, 1) := by decide +kernel
theorem dX0_emit_11 : decode cX0_emit 11 = .ok (.goto 8, 3) := by decide +kernel
theorem dX0_emit_14 : decode cX0_emit 14 = .ok (.aload_n 3, 1) := by decide +kernel
theorem dX0_emit_15 : decode cX0_emit 15 = .ok (.iload_n 2, 1) := by decide +kernel
theorem dX0_emit_16 : decode cX0_emit 16 = .ok (.invokevirtual 114, 3) := by decide +kernel
theorem dX0_emit_19 : decode cX0_emit 19 = .ok (.astore 4, 2) := by decide +kernel
theorem dX0_emit_21 : decode cX0_emit 21 = .ok (.aload 4, 2) := by decide +kernel
theorem dX0_emit_23 : decode cX0_emit 23 = .ok (.ifnonnull 5, 3) := by decide +kernel
theorem dX0_emit_26 : decode cX0_emit 26 = .ok (.iconst (-1), 1) := by decide +kernel
theorem dX0_emit_27 : decode cX0_emit 27 = .ok (.ireturn, 1) := by decide +kernel
theorem dX0_emit_28 : decode cX0_emit 28 = .ok (.aload_n 0, 1) := by decide +kernel
theorem dX0_emit_29 : decode cX0_emit 29 = .ok (.getfield 58, 3) := by decide +kernel
theorem dX0_emit_32 : decode cX0_emit 32 = .ok (.iconst 0, 1) := by decide +kernel
theorem dX0_emit_33 : decode cX0_emit 33 = .ok (.invokevirtual 79, 3) := by decide +kernel
theorem dX0_emit_36 : decode cX0_emit 36 = .ok (.aload_n 0, 1) := by decide +kernel
theorem dX0_emit_37 : decode cX0_emit 37 = .ok (.getfield 58, 3) := by decide +kernel
theorem dX0_emit_40 : decode cX0_emit 40 = .ok (.aload 4, 2) := by decide +kernel
theorem dX0_emit_42 : decode cX0_emit 42 = .ok (.invokevirtual 118, 3) := by decide +kernel
theorem dX0_emit_45 : decode cX0_emit 45 = .ok (.invokevirtual 121, 3) := by decide +kernel
theorem dX0_emit_48 : decode cX0_emit 48 = .ok (.pop, 1) := by decide +kernel
theorem dX0_emit_49 : decode cX0_emit 49 = .ok (.aload_n 0, 1) := by decide +kernel
theorem dX0_emit_50 : decode cX0_emit 50 = .ok (.getfield 58, 3) := by decide +kernel
theorem dX0_emit_53 : decode cX0_emit 53 = .ok (.invokevirtual 3, 3) := by decide +kernel
theorem dX0_emit_56 : decode cX0_emit 56 = .ok (.ireturn, 1) := by decide +kernel
abbrev cX0_wire : ByteArray := prog_1_method_10_code
def yX0_wire : MethodName := ⟨RX0, "wire", "(I)I"⟩
theorem dX0_wire_0 : decode cX0_wire 0 = .ok (.iload_n 1, 1) := by decide +kernel
theorem dX0_wire_1 : decode cX0_wire 1 = .ok (.iconst (-1), 1) := by decide +kernel
theorem dX0_wire_2 : decode cX0_wire 2 = .ok (.if_icmp .ne 11, 3) := by decide +kernel
theorem dX0_wire_5 : decode cX0_wire 5 = .ok (.aload_n 0, 1) := by decide +kernel
theorem dX0_wire_6 : decode cX0_wire 6 = .ok (.getfield 58, 3) := by decide +kernel
theorem dX0_wire_9 : decode cX0_wire 9 = .ok (.invokevirtual 3, 3) := by decide +kernel
theorem dX0_wire_12 : decode cX0_wire 12 = .ok (.ireturn, 1) := by decide +kernel
theorem dX0_wire_13 : decode cX0_wire 13 = .ok (.iload_n 1, 1) := by decide +kernel
theorem dX0_wire_14 : decode cX0_wire 14 = .ok (.ifCond .lt 14, 3) := by decide +kernel
theorem dX0_wire_17 : decode cX0_wire 17 = .ok (.iload_n 1, 1) := by decide +kernel
theorem dX0_wire_18 : decode cX0_wire 18 = .ok (.aload_n 0, 1) := by decide +kernel
theorem dX0_wire_19 : decode cX0_wire 19 = .ok (.getfield 58, 3) := by decide +kernel
theorem dX0_wire_22 : decode cX0_wire 22 = .ok (.invokevirtual 3, 3) := by decide +kernel
theorem dX0_wire_25 : decode cX0_wire 25 = .ok (.if_icmp .lt 7, 3) := by decide +kernel
theorem dX0_wire_28 : decode cX0_wire 28 = .ok (.iconst (-1), 1) := by decide +kernel
theorem dX0_wire_29 : decode cX0_wire 29 = .ok (.goto 11, 3) := by decide +kernel
theorem dX0_wire_32 : decode cX0_wire 32 = .ok (.aload_n 0, 1) := by decide +kernel
theorem dX0_wire_33 : decode cX0_wire 33 = .ok (.getfield 58, 3) := by decide +kernel
theorem dX0_wire_36 : decode cX0_wire 36 = .ok (.iload_n 1, 1) := by decide +kernel
theorem dX0_wire_37 : decode cX0_wire 37 = .ok (.invokevirtual 9, 3) := by decide +kernel
theorem dX0_wire_40 : decode cX0_wire 40 = .ok (.ireturn, 1) := by decide +kernel
abbrev cX0_alter : ByteArray := prog_1_method_11_code
def yX0_alter : MethodName := ⟨RX0, "alter", "(II)Z"⟩
theorem dX0_alter_0 : decode cX0_alter 0 = .ok (.iload_n 1, 1) := by decide +kernel
theorem dX0_alter_1 : decode cX0_alter 1 = .ok (.ifCond .lt 31, 3) := by decide +kernel
theorem dX0_alter_4 : decode cX0_alter 4 = .ok (.iload_n 1, 1) := by decide +kernel
theorem dX0_alter_5 : decode cX0_alter 5 = .ok (.aload_n 0, 1) := by decide +kernel
theorem dX0_alter_6 : decode cX0_alter 6 = .ok (.getfield 58, 3) := by decide +kernel
theorem dX0_alter_9 : decode cX0_alter 9 = .ok (.invokevirtual 3, 3) := by decide +kernel
theorem dX0_alter_12 : decode cX0_alter 12 = .ok (.if_icmp .gt 20, 3) := by decide +kernel
theorem dX0_alter_15 : decode cX0_alter 15 = .ok (.iload_n 1, 1) := by decide +kernel
theorem dX0_alter_16 : decode cX0_alter 16 = .ok (.bipush 16, 2) := by decide +kernel
theorem dX0_alter_18 : decode cX0_alter 18 = .ok (.if_icmp .ge 14, 3) := by decide +kernel
theorem dX0_alter_21 : decode cX0_alter 21 = .ok (.iload_n 2, 1) := by decide +kernel
theorem dX0_alter_22 : decode cX0_alter 22 = .ok (.ifCond .lt 10, 3) := by decide +kernel
theorem dX0_alter_25 : decode cX0_alter 25 = .ok (.iload_n 2, 1) := by decide +kernel
theorem dX0_alter_26 : decode cX0_alter 26 = .ok (.sipush 255, 3) := by decide +kernel
theorem dX0_alter_29 : decode cX0_alter 29 = .ok (.if_icmp .le 5, 3) := by decide +kernel
theorem dX0_alter_32 : decode cX0_alter 32 = .ok (.iconst 0, 1) := by decide +kernel
theorem dX0_alter_33 : decode cX0_alter 33 = .ok (.ireturn, 1) := by decide +kernel
theorem dX0_alter_34 : decode cX0_alter 34 = .ok (.iload_n 1, 1) := by decide +kernel
theorem dX0_alter_35 : decode cX0_alter 35 = .ok (.aload_n 0, 1) := by decide +kernel
theorem dX0_alter_36 : decode cX0_alter 36 = .ok (.getfield 58, 3) := by decide +kernel
theorem dX0_alter_39 : decode cX0_alter 39 = .ok (.invokevirtual 3, 3) := by decide +kernel
theorem dX0_alter_42 : decode cX0_alter 42 = .ok (.if_icmp .ne 16, 3) := by decide +kernel
theorem dX0_alter_45 : decode cX0_alter 45 = .ok (.aload_n 0, 1) := by decide +kernel
theorem dX0_alter_46 : decode cX0_alter 46 = .ok (.getfield 58, 3) := by decide +kernel
theorem dX0_alter_49 : decode cX0_alter 49 = .ok (.iload_n 2, 1) := by decide +kernel
theorem dX0_alter_50 : decode cX0_alter 50 = .ok (.i2c, 1) := by decide +kernel
theorem dX0_alter_51 : decode cX0_alter 51 = .ok (.invokevirtual 83, 3) := by decide +kernel
theorem dX0_alter_54 : decode cX0_alter 54 = .ok (.pop, 1) := by decide +kernel
theorem dX0_alter_55 : decode cX0_alter 55 = .ok (.goto 13, 3) := by decide +kernel
theorem dX0_alter_58 : decode cX0_alter 58 = .ok (.aload_n 0, 1) := by decide +kernel
theorem dX0_alter_59 : decode cX0_alter 59 = .ok (.getfield 58, 3) := by decide +kernel
theorem dX0_alter_62 : decode cX0_alter 62 = .ok (.iload_n 1, 1) := by decide +kernel
theorem dX0_alter_63 : decode cX0_alter 63 = .ok (.iload_n 2, 1) := by decide +kernel
theorem dX0_alter_64 : decode cX0_alter 64 = .ok (.i2c, 1) := by decide +kernel
theorem dX0_alter_65 : decode cX0_alter 65 = .ok (.invokevirtual 94, 3) := by decide +kernel
theorem dX0_alter_68 : decode cX0_alter 68 = .ok (.iconst 1, 1) := by decide +kernel
theorem dX0_alter_69 : decode cX0_alter 69 = .ok (.ireturn, 1) := by decide +kernel
abbrev cX0_cut : ByteArray := prog_1_method_12_code
def yX0_cut : MethodName := ⟨RX0, "cut", "(I)Z"⟩
theorem dX0_cut_0 : decode cX0_cut 0 = .ok (.iload_n 1, 1) := by decide +kernel
theorem dX0_cut_1 : decode cX0_cut 1 = .ok (.ifCond .lt 14, 3) := by decide +kernel
theorem dX0_cut_4 : decode cX0_cut 4 = .ok (.iload_n 1, 1) := by decide +kernel
theorem dX0_cut_5 : decode cX0_cut 5 = .ok (.aload_n 0, 1) := by decide +kernel
theorem dX0_cut_6 : decode cX0_cut 6 = .ok (.getfield 58, 3) := by decide +kernel
theorem dX0_cut_9 : decode cX0_cut 9 = .ok (.invokevirtual 3, 3) := by decide +kernel
theorem dX0_cut_12 : decode cX0_cut 12 = .ok (.if_icmp .le 5, 3) := by decide +kernel
theorem dX0_cut_15 : decode cX0_cut 15 = .ok (.iconst 0, 1) := by decide +kernel
theorem dX0_cut_16 : decode cX0_cut 16 = .ok (.ireturn, 1) := by decide +kernel
theorem dX0_cut_17 : decode cX0_cut 17 = .ok (.aload_n 0, 1) := by decide +kernel
theorem dX0_cut_18 : decode cX0_cut 18 = .ok (.getfield 58, 3) := by decide +kernel
theorem dX0_cut_21 : decode cX0_cut 21 = .ok (.iload_n 1, 1) := by decide +kernel
theorem dX0_cut_22 : decode cX0_cut 22 = .ok (.invokevirtual 79, 3) := by decide +kernel
theorem dX0_cut_25 : decode cX0_cut 25 = .ok (.iconst 1, 1) := by decide +kernel
theorem dX0_cut_26 : decode cX0_cut 26 = .ok (.ireturn, 1) := by decide +kernel
abbrev cX0_receive : ByteArray := prog_1_method_14_code
def yX0_receive : MethodName := ⟨RX0, "receive", "(I)I"⟩
theorem dX0_receive_0 : decode cX0_receive 0 = .ok (.aload_n 0, 1) := by decide +kernel
theorem dX0_receive_1 : decode cX0_receive 1 = .ok (.iload_n 1, 1) := by decide +kernel
theorem dX0_receive_2 : decode cX0_receive 2 = .ok (.invokevirtual 65, 3) := by decide +kernel
theorem dX0_receive_5 : decode cX0_receive 5 = .ok (.astore_n 2, 1) := by decide +kernel
theorem dX0_receive_6 : decode cX0_receive 6 = .ok (.aload_n 2, 1) := by decide +kernel
theorem dX0_receive_7 : decode cX0_receive 7 = .ok (.ifnonnull 5, 3) := by decide +kernel
theorem dX0_receive_10 : decode cX0_receive 10 = .ok (.iconst (-1), 1) := by decide +kernel
theorem dX0_receive_11 : decode cX0_receive 11 = .ok (.ireturn, 1) := by decide +kernel
theorem dX0_receive_12 : decode cX0_receive 12 = .ok (.aload_n 0, 1) := by decide +kernel
theorem dX0_receive_13 : decode cX0_receive 13 = .ok (.getfield 58, 3) := by decide +kernel
theorem dX0_receive_16 : decode cX0_receive 16 = .ok (.invokestatic 124, 3) := by decide +kernel
theorem dX0_receive_19 : decode cX0_receive 19 = .ok (.ifCond .ne 6, 3) := by decide +kernel
theorem dX0_receive_22 : decode cX0_receive 22 = .ok (.bipush (-2), 2) := by decide +kernel
theorem dX0_receive_24 : decode cX0_receive 24 = .ok (.ireturn, 1) := by decide +kernel
theorem dX0_receive_25 : decode cX0_receive 25 = .ok (.aload_n 0, 1) := by decide +kernel
theorem dX0_receive_26 : decode cX0_receive 26 = .ok (.getfield 58, 3) := by decide +kernel
theorem dX0_receive_29 : decode cX0_receive 29 = .ok (.iconst 0, 1) := by decide +kernel
theorem dX0_receive_30 : decode cX0_receive 30 = .ok (.invokevirtual 9, 3) := by decide +kernel
theorem dX0_receive_33 : decode cX0_receive 33 = .ok (.istore_n 3, 1) := by decide +kernel
theorem dX0_receive_34 : decode cX0_receive 34 = .ok (.aload_n 2, 1) := by decide +kernel
theorem dX0_receive_35 : decode cX0_receive 35 = .ok (.iload_n 3, 1) := by decide +kernel
theorem dX0_receive_36 : decode cX0_receive 36 = .ok (.invokevirtual 114, 3) := by decide +kernel
theorem dX0_receive_39 : decode cX0_receive 39 = .ok (.astore 4, 2) := by decide +kernel
theorem dX0_receive_41 : decode cX0_receive 41 = .ok (.aload 4, 2) := by decide +kernel
theorem dX0_receive_43 : decode cX0_receive 43 = .ok (.ifnull 23, 3) := by decide +kernel
theorem dX0_receive_46 : decode cX0_receive 46 = .ok (.aload 4, 2) := by decide +kernel
theorem dX0_receive_48 : decode cX0_receive 48 = .ok (.aload_n 0, 1) := by decide +kernel
theorem dX0_receive_49 : decode cX0_receive 49 = .ok (.getfield 58, 3) := by decide +kernel
theorem dX0_receive_52 : decode cX0_receive 52 = .ok (.invokevirtual 128, 3) := by decide +kernel
theorem dX0_receive_55 : decode cX0_receive 55 = .ok (.ifCond .eq 8, 3) := by decide +kernel
theorem dX0_receive_58 : decode cX0_receive 58 = .ok (.bipush (-8), 2) := by decide +kernel
theorem dX0_receive_60 : decode cX0_receive 60 = .ok (.goto 5, 3) := by decide +kernel
theorem dX0_receive_63 : decode cX0_receive 63 = .ok (.bipush (-3), 2) := by decide +kernel
theorem dX0_receive_65 : decode cX0_receive 65 = .ok (.ireturn, 1) := by decide +kernel
theorem dX0_receive_66 : decode cX0_receive 66 = .ok (.iload_n 3, 1) := by decide +kernel
theorem dX0_receive_67 : decode cX0_receive 67 = .ok (.iconst 4, 1) := by decide +kernel
theorem dX0_receive_68 : decode cX0_receive 68 = .ok (.irem, 1) := by decide +kernel
theorem dX0_receive_69 : decode cX0_receive 69 = .ok (.iload_n 1, 1) := by decide +kernel
theorem dX0_receive_70 : decode cX0_receive 70 = .ok (.if_icmp .ne 6, 3) := by decide +kernel
theorem dX0_receive_73 : decode cX0_receive 73 = .ok (.bipush (-4), 2) := by decide +kernel
theorem dX0_receive_75 : decode cX0_receive 75 = .ok (.ireturn, 1) := by decide +kernel
theorem dX0_receive_76 : decode cX0_receive 76 = .ok (.aload_n 0, 1) := by decide +kernel
theorem dX0_receive_77 : decode cX0_receive 77 = .ok (.aload_n 0, 1) := by decide +kernel
theorem dX0_receive_78 : decode cX0_receive 78 = .ok (.getfield 58, 3) := by decide +kernel
theorem dX0_receive_81 : decode cX0_receive 81 = .ok (.iconst 2, 1) := by decide +kernel
theorem dX0_receive_82 : decode cX0_receive 82 = .ok (.invokevirtual 9, 3) := by decide +kernel
theorem dX0_receive_85 : decode cX0_receive 85 = .ok (.invokevirtual 131, 3) := by decide +kernel
theorem dX0_receive_88 : decode cX0_receive 88 = .ok (.ifCond .eq 30, 3) := by decide +kernel
theorem dX0_receive_91 : decode cX0_receive 91 = .ok (.aload_n 0, 1) := by decide +kernel
theorem dX0_receive_92 : decode cX0_receive 92 = .ok (.getfield 58, 3) := by decide +kernel
theorem dX0_receive_95 : decode cX0_receive 95 = .ok (.iconst 1, 1) := by decide +kernel
theorem dX0_receive_96 : decode cX0_receive 96 = .ok (.invokevirtual 9, 3) := by decide +kernel
theorem dX0_receive_99 : decode cX0_receive 99 = .ok (.iconst 3, 1) := by decide +kernel
theorem dX0_receive_100 : decode cX0_receive 100 = .ok (.if_icmp .ne 21, 3) := by decide +kernel
theorem dX0_receive_103 : decode cX0_receive 103 = .ok (.aload_n 0, 1) := by decide +kernel
theorem dX0_receive_104 : decode cX0_receive 104 = .ok (.aload_n 0, 1) := by decide +kernel
theorem dX0_receive_105 : decode cX0_receive 105 = .ok (.getfield 58, 3) := by decide +kernel
theorem dX0_receive_108 : decode cX0_receive 108 = .ok (.iconst 3, 1) := by decide +kernel
theorem dX0_receive_109 : decode cX0_receive 109 = .ok (.invokevirtual 9, 3) := by decide +kernel
theorem dX0_receive_112 : decode cX0_receive 112 = .ok (.invokevirtual 131, 3) := by decide +kernel
theorem dX0_receive_115 : decode cX0_receive 115 = .ok (.ifCond .ne 6, 3) := by decide +kernel
theorem dX0_receive_118 : decode cX0_receive 118 = .ok (.bipush (-5), 2) := by decide +kernel
theorem dX0_receive_120 : decode cX0_receive 120 = .ok (.ireturn, 1) := by decide +kernel
theorem dX0_receive_121 : decode cX0_receive 121 = .ok (.aload_n 0, 1) := by decide +kernel
theorem dX0_receive_122 : decode cX0_receive 122 = .ok (.getfield 58, 3) := by decide +kernel
theorem dX0_receive_125 : decode cX0_receive 125 = .ok (.invokevirtual 3, 3) := by decide +kernel
theorem dX0_receive_128 : decode cX0_receive 128 = .ok (.bipush 6, 2) := by decide +kernel
theorem dX0_receive_130 : decode cX0_receive 130 = .ok (.if_icmp .le 26, 3) := by decide +kernel
theorem dX0_receive_133 : decode cX0_receive 133 = .ok (.aload_n 0, 1) := by decide +kernel
theorem dX0_receive_134 : decode cX0_receive 134 = .ok (.getfield 58, 3) := by decide +kernel
theorem dX0_receive_137 : decode cX0_receive 137 = .ok (.aload_n 0, 1) := by decide +kernel
theorem dX0_receive_138 : decode cX0_receive 138 = .ok (.getfield 58, 3) := by decide +kernel
theorem dX0_receive_141 : decode cX0_receive 141 = .ok (.invokevirtual 3, 3) := by decide +kernel
theorem dX0_receive_144 : decode cX0_receive 144 = .ok (.iconst 1, 1) := by decide +kernel
theorem dX0_receive_145 : decode cX0_receive 145 = .ok (.isub, 1) := by decide +kernel
theorem dX0_receive_146 : decode cX0_receive 146 = .ok (.invokevirtual 9, 3) := by decide +kernel
theorem dX0_receive_149 : decode cX0_receive 149 = .ok (.iload_n 3, 1) := by decide +kernel
theorem dX0_receive_150 : decode cX0_receive 150 = .ok (.if_icmp .lt 6, 3) := by decide +kernel
theorem dX0_receive_153 : decode cX0_receive 153 = .ok (.bipush (-6), 2) := by decide +kernel
theorem dX0_receive_155 : decode cX0_receive 155 = .ok (.ireturn, 1) := by decide +kernel
theorem dX0_receive_156 : decode cX0_receive 156 = .ok (.aload_n 2, 1) := by decide +kernel
theorem dX0_receive_157 : decode cX0_receive 157 = .ok (.invokevirtual 76, 3) := by decide +kernel
theorem dX0_receive_160 : decode cX0_receive 160 = .ok (.bipush 16, 2) := by decide +kernel
theorem dX0_receive_162 : decode cX0_receive 162 = .ok (.if_icmp .lt 6, 3) := by decide +kernel
theorem dX0_receive_165 : decode cX0_receive 165 = .ok (.bipush (-7), 2) := by decide +kernel
theorem dX0_receive_167 : decode cX0_receive 167 = .ok (.ireturn, 1) := by decide +kernel
theorem dX0_receive_168 : decode cX0_receive 168 = .ok (.aload_n 2, 1) := by decide +kernel
theorem dX0_receive_169 : decode cX0_receive 169 = .ok (.getfield 134, 3) := by decide +kernel
theorem dX0_receive_172 : decode cX0_receive 172 = .ok (.new 98, 3) := by decide +kernel
theorem dX0_receive_175 : decode cX0_receive 175 = .ok (.dup, 1) := by decide +kernel
theorem dX0_receive_176 : decode cX0_receive 176 = .ok (.aload_n 0, 1) := by decide +kernel
theorem dX0_receive_177 : decode cX0_receive 177 = .ok (.getfield 58, 3) := by decide +kernel
theorem dX0_receive_180 : decode cX0_receive 180 = .ok (.invokevirtual 100, 3) := by decide +kernel
theorem dX0_receive_183 : decode cX0_receive 183 = .ok (.invokespecial 104, 3) := by decide +kernel
theorem dX0_receive_186 : decode cX0_receive 186 = .ok (.invokevirtual 138, 3) := by decide +kernel
theorem dX0_receive_189 : decode cX0_receive 189 = .ok (.pop, 1) := by decide +kernel
theorem dX0_receive_190 : decode cX0_receive 190 = .ok (.aload_n 2, 1) := by decide +kernel
theorem dX0_receive_191 : decode cX0_receive 191 = .ok (.invokevirtual 111, 3) := by decide +kernel
theorem dX0_receive_194 : decode cX0_receive 194 = .ok (.ireturn, 1) := by decide +kernel
abbrev cX0_wellFormed : ByteArray := prog_1_method_3_code
def yX0_wellFormed : MethodName := ⟨RX0, "wellFormed", "(Ljava/lang/StringBuilder;)Z"⟩
theorem dX0_wellFormed_0 : decode cX0_wellFormed 0 = .ok (.aload_n 0, 1) := by decide +kernel
theorem dX0_wellFormed_1 : decode cX0_wellFormed 1 = .ok (.invokevirtual 3, 3) := by decide +kernel
theorem dX0_wellFormed_4 : decode cX0_wellFormed 4 = .ok (.bipush 6, 2) := by decide +kernel
theorem dX0_wellFormed_6 : decode cX0_wellFormed 6 = .ok (.if_icmp .lt 28, 3) := by decide +kernel
theorem dX0_wellFormed_9 : decode cX0_wellFormed 9 = .ok (.aload_n 0, 1) := by decide +kernel
theorem dX0_wellFormed_10 : decode cX0_wellFormed 10 = .ok (.iconst 5, 1) := by decide +kernel
theorem dX0_wellFormed_11 : decode cX0_wellFormed 11 = .ok (.invokevirtual 9, 3) := by decide +kernel
theorem dX0_wellFormed_14 : decode cX0_wellFormed 14 = .ok (.bipush 6, 2) := by decide +kernel
theorem dX0_wellFormed_16 : decode cX0_wellFormed 16 = .ok (.if_icmp .gt 18, 3) := by decide +kernel
theorem dX0_wellFormed_19 : decode cX0_wellFormed 19 = .ok (.aload_n 0, 1) := by decide +kernel
theorem dX0_wellFormed_20 : decode cX0_wellFormed 20 = .ok (.invokevirtual 3, 3) := by decide +kernel
theorem dX0_wellFormed_23 : decode cX0_wellFormed 23 = .ok (.bipush 6, 2) := by decide +kernel
theorem dX0_wellFormed_25 : decode cX0_wellFormed 25 = .ok (.aload_n 0, 1) := by decide +kernel
theorem dX0_wellFormed_26 : decode cX0_wellFormed 26 = .ok (.iconst 5, 1) := by decide +kernel
theorem dX0_wellFormed_27 : decode cX0_wellFormed 27 = .ok (.invokevirtual 9, 3) := by decide +kernel
theorem dX0_wellFormed_30 : decode cX0_wellFormed 30 = .ok (.iadd, 1) := by decide +kernel
theorem dX0_wellFormed_31 : decode cX0_wellFormed 31 = .ok (.if_icmp .eq 5, 3) := by decide +kernel
theorem dX0_wellFormed_34 : decode cX0_wellFormed 34 = .ok (.iconst 0, 1) := by decide +kernel
theorem dX0_wellFormed_35 : decode cX0_wellFormed 35 = .ok (.ireturn, 1) := by decide +kernel
theorem dX0_wellFormed_36 : decode cX0_wellFormed 36 = .ok (.iconst 0, 1) := by decide +kernel
theorem dX0_wellFormed_37 : decode cX0_wellFormed 37 = .ok (.istore_n 1, 1) := by decide +kernel
theorem dX0_wellFormed_38 : decode cX0_wellFormed 38 = .ok (.bipush 6, 2) := by decide +kernel
theorem dX0_wellFormed_40 : decode cX0_wellFormed 40 = .ok (.istore_n 2, 1) := by decide +kernel
theorem dX0_wellFormed_41 : decode cX0_wellFormed 41 = .ok (.iload_n 2, 1) := by decide +kernel
theorem dX0_wellFormed_42 : decode cX0_wellFormed 42 = .ok (.aload_n 0, 1) := by decide +kernel
theorem dX0_wellFormed_43 : decode cX0_wellFormed 43 = .ok (.invokevirtual 3, 3) := by decide +kernel
theorem dX0_wellFormed_46 : decode cX0_wellFormed 46 = .ok (.if_icmp .ge 31, 3) := by decide +kernel
theorem dX0_wellFormed_49 : decode cX0_wellFormed 49 = .ok (.aload_n 0, 1) := by decide +kernel
theorem dX0_wellFormed_50 : decode cX0_wellFormed 50 = .ok (.iload_n 2, 1) := by decide +kernel
theorem dX0_wellFormed_51 : decode cX0_wellFormed 51 = .ok (.invokevirtual 9, 3) := by decide +kernel
theorem dX0_wellFormed_54 : decode cX0_wellFormed 54 = .ok (.istore_n 3, 1) := by decide +kernel
theorem dX0_wellFormed_55 : decode cX0_wellFormed 55 = .ok (.iload_n 3, 1) := by decide +kernel
theorem dX0_wellFormed_56 : decode cX0_wellFormed 56 = .ok (.invokestatic 13, 3) := by decide +kernel
theorem dX0_wellFormed_59 : decode cX0_wellFormed 59 = .ok (.ifCond .eq 8, 3) := by decide +kernel
theorem dX0_wellFormed_62 : decode cX0_wellFormed 62 = .ok (.iload_n 3, 1) := by decide +kernel
theorem dX0_wellFormed_63 : decode cX0_wellFormed 63 = .ok (.iload_n 1, 1) := by decide +kernel
theorem dX0_wellFormed_64 : decode cX0_wellFormed 64 = .ok (.if_icmp .gt 5, 3) := by decide +kernel
theorem dX0_wellFormed_67 : decode cX0_wellFormed 67 = .ok (.iconst 0, 1) := by decide +kernel
theorem dX0_wellFormed_68 : decode cX0_wellFormed 68 = .ok (.ireturn, 1) := by decide +kernel
theorem dX0_wellFormed_69 : decode cX0_wellFormed 69 = .ok (.iload_n 3, 1) := by decide +kernel
theorem dX0_wellFormed_70 : decode cX0_wellFormed 70 = .ok (.istore_n 1, 1) := by decide +kernel
theorem dX0_wellFormed_71 : decode cX0_wellFormed 71 = .ok (.iinc 2 1, 3) := by decide +kernel
theorem dX0_wellFormed_74 : decode cX0_wellFormed 74 = .ok (.goto (-33), 3) := by decide +kernel
theorem dX0_wellFormed_77 : decode cX0_wellFormed 77 = .ok (.aload_n 0, 1) := by decide +kernel
theorem dX0_wellFormed_78 : decode cX0_wellFormed 78 = .ok (.iconst 0, 1) := by decide +kernel
theorem dX0_wellFormed_79 : decode cX0_wellFormed 79 = .ok (.invokevirtual 9, 3) := by decide +kernel
theorem dX0_wellFormed_82 : decode cX0_wellFormed 82 = .ok (.invokestatic 13, 3) := by decide +kernel
theorem dX0_wellFormed_85 : decode cX0_wellFormed 85 = .ok (.ifCond .eq 33, 3) := by decide +kernel
theorem dX0_wellFormed_88 : decode cX0_wellFormed 88 = .ok (.aload_n 0, 1) := by decide +kernel
theorem dX0_wellFormed_89 : decode cX0_wellFormed 89 = .ok (.iconst 1, 1) := by decide +kernel
theorem dX0_wellFormed_90 : decode cX0_wellFormed 90 = .ok (.invokevirtual 9, 3) := by decide +kernel
theorem dX0_wellFormed_93 : decode cX0_wellFormed 93 = .ok (.aload_n 0, 1) := by decide +kernel
theorem dX0_wellFormed_94 : decode cX0_wellFormed 94 = .ok (.iconst 2, 1) := by decide +kernel
theorem dX0_wellFormed_95 : decode cX0_wellFormed 95 = .ok (.invokevirtual 9, 3) := by decide +kernel
theorem dX0_wellFormed_98 : decode cX0_wellFormed 98 = .ok (.aload_n 0, 1) := by decide +kernel
theorem dX0_wellFormed_99 : decode cX0_wellFormed 99 = .ok (.iconst 3, 1) := by decide +kernel
theorem dX0_wellFormed_100 : decode cX0_wellFormed 100 = .ok (.invokevirtual 9, 3) := by decide +kernel
theorem dX0_wellFormed_103 : decode cX0_wellFormed 103 = .ok (.aload_n 0, 1) := by decide +kernel
theorem dX0_wellFormed_104 : decode cX0_wellFormed 104 = .ok (.iconst 4, 1) := by decide +kernel
theorem dX0_wellFormed_105 : decode cX0_wellFormed 105 = .ok (.invokevirtual 9, 3) := by decide +kernel
theorem dX0_wellFormed_108 : decode cX0_wellFormed 108 = .ok (.invokestatic 17, 3) := by decide +kernel
theorem dX0_wellFormed_111 : decode cX0_wellFormed 111 = .ok (.ifCond .eq 7, 3) := by decide +kernel
theorem dX0_wellFormed_114 : decode cX0_wellFormed 114 = .ok (.iconst 1, 1) := by decide +kernel
theorem dX0_wellFormed_115 : decode cX0_wellFormed 115 = .ok (.goto 4, 3) := by decide +kernel
theorem dX0_wellFormed_118 : decode cX0_wellFormed 118 = .ok (.iconst 0, 1) := by decide +kernel
theorem dX0_wellFormed_119 : decode cX0_wellFormed 119 = .ok (.ireturn, 1) := by decide +kernel
abbrev cX0_says : ByteArray := prog_1_method_13_code
def yX0_says : MethodName := ⟨RX0, "says", "(I)Z"⟩
theorem dX0_says_0 : decode cX0_says 0 = .ok (.iload_n 1, 1) := by decide +kernel
theorem dX0_says_1 : decode cX0_says 1 = .ok (.ifCond .ne 7, 3) := by decide +kernel
theorem dX0_says_4 : decode cX0_says 4 = .ok (.iconst 1, 1) := by decide +kernel
theorem dX0_says_5 : decode cX0_says 5 = .ok (.goto 4, 3) := by decide +kernel
theorem dX0_says_8 : decode cX0_says 8 = .ok (.iconst 0, 1) := by decide +kernel
theorem dX0_says_9 : decode cX0_says 9 = .ok (.istore_n 2, 1) := by decide +kernel
theorem dX0_says_10 : decode cX0_says 10 = .ok (.bipush 6, 2) := by decide +kernel
theorem dX0_says_12 : decode cX0_says 12 = .ok (.istore_n 3, 1) := by decide +kernel
theorem dX0_says_13 : decode cX0_says 13 = .ok (.iload_n 3, 1) := by decide +kernel
theorem dX0_says_14 : decode cX0_says 14 = .ok (.aload_n 0, 1) := by decide +kernel
theorem dX0_says_15 : decode cX0_says 15 = .ok (.getfield 58, 3) := by decide +kernel
theorem dX0_says_18 : decode cX0_says 18 = .ok (.invokevirtual 3, 3) := by decide +kernel
theorem dX0_says_21 : decode cX0_says 21 = .ok (.if_icmp .ge 31, 3) := by decide +kernel
theorem dX0_says_24 : decode cX0_says 24 = .ok (.iload_n 2, 1) := by decide +kernel
theorem dX0_says_25 : decode cX0_says 25 = .ok (.ifCond .ne 15, 3) := by decide +kernel
theorem dX0_says_28 : decode cX0_says 28 = .ok (.aload_n 0, 1) := by decide +kernel
theorem dX0_says_29 : decode cX0_says 29 = .ok (.getfield 58, 3) := by decide +kernel
theorem dX0_says_32 : decode cX0_says 32 = .ok (.iload_n 3, 1) := by decide +kernel
theorem dX0_says_33 : decode cX0_says 33 = .ok (.invokevirtual 9, 3) := by decide +kernel
theorem dX0_says_36 : decode cX0_says 36 = .ok (.iload_n 1, 1) := by decide +kernel
theorem dX0_says_37 : decode cX0_says 37 = .ok (.if_icmp .ne 7, 3) := by decide +kernel
theorem dX0_says_40 : decode cX0_says 40 = .ok (.iconst 1, 1) := by decide +kernel
theorem dX0_says_41 : decode cX0_says 41 = .ok (.goto 4, 3) := by decide +kernel
theorem dX0_says_44 : decode cX0_says 44 = .ok (.iconst 0, 1) := by decide +kernel
theorem dX0_says_45 : decode cX0_says 45 = .ok (.istore_n 2, 1) := by decide +kernel
theorem dX0_says_46 : decode cX0_says 46 = .ok (.iinc 3 1, 3) := by decide +kernel
theorem dX0_says_49 : decode cX0_says 49 = .ok (.goto (-36), 3) := by decide +kernel
theorem dX0_says_52 : decode cX0_says 52 = .ok (.iload_n 2, 1) := by decide +kernel
theorem dX0_says_53 : decode cX0_says 53 = .ok (.ireturn, 1) := by decide +kernel
abbrev cX0_held : ByteArray := prog_1_method_15_code
def yX0_held : MethodName := ⟨RX0, "held", "(I)I"⟩
theorem dX0_held_0 : decode cX0_held 0 = .ok (.aload_n 0, 1) := by decide +kernel
theorem dX0_held_1 : decode cX0_held 1 = .ok (.iload_n 1, 1) := by decide +kernel
theorem dX0_held_2 : decode cX0_held 2 = .ok (.invokevirtual 65, 3) := by decide +kernel
theorem dX0_held_5 : decode cX0_held 5 = .ok (.astore_n 2, 1) := by decide +kernel
theorem dX0_held_6 : decode cX0_held 6 = .ok (.aload_n 2, 1) := by decide +kernel
theorem dX0_held_7 : decode cX0_held 7 = .ok (.ifnonnull 7, 3) := by decide +kernel
theorem dX0_held_10 : decode cX0_held 10 = .ok (.iconst (-1), 1) := by decide +kernel
theorem dX0_held_11 : decode cX0_held 11 = .ok (.goto 7, 3) := by decide +kernel
theorem dX0_held_14 : decode cX0_held 14 = .ok (.aload_n 2, 1) := by decide +kernel
theorem dX0_held_15 : decode cX0_held 15 = .ok (.invokevirtual 76, 3) := by decide +kernel
theorem dX0_held_18 : decode cX0_held 18 = .ok (.ireturn, 1) := by decide +kernel
abbrev cX0_log : ByteArray := prog_1_method_16_code
def yX0_log : MethodName := ⟨RX0, "log", "(II)I"⟩
theorem dX0_log_0 : decode cX0_log 0 = .ok (.aload_n 0, 1) := by decide +kernel
theorem dX0_log_1 : decode cX0_log 1 = .ok (.iload_n 1, 1) := by decide +kernel
theorem dX0_log_2 : decode cX0_log 2 = .ok (.invokevirtual 65, 3) := by decide +kernel
theorem dX0_log_5 : decode cX0_log 5 = .ok (.astore_n 3, 1) := by decide +kernel
theorem dX0_log_6 : decode cX0_log 6 = .ok (.aload_n 3, 1) := by decide +kernel
theorem dX0_log_7 : decode cX0_log 7 = .ok (.ifnonnull 5, 3) := by decide +kernel
theorem dX0_log_10 : decode cX0_log 10 = .ok (.iconst (-1), 1) := by decide +kernel
theorem dX0_log_11 : decode cX0_log 11 = .ok (.ireturn, 1) := by decide +kernel
theorem dX0_log_12 : decode cX0_log 12 = .ok (.iload_n 2, 1) := by decide +kernel
theorem dX0_log_13 : decode cX0_log 13 = .ok (.iconst (-1), 1) := by decide +kernel
theorem dX0_log_14 : decode cX0_log 14 = .ok (.if_icmp .ne 11, 3) := by decide +kernel
theorem dX0_log_17 : decode cX0_log 17 = .ok (.aload_n 3, 1) := by decide +kernel
theorem dX0_log_18 : decode cX0_log 18 = .ok (.getfield 144, 3) := by decide +kernel
theorem dX0_log_21 : decode cX0_log 21 = .ok (.invokevirtual 147, 3) := by decide +kernel
theorem dX0_log_24 : decode cX0_log 24 = .ok (.ireturn, 1) := by decide +kernel
theorem dX0_log_25 : decode cX0_log 25 = .ok (.iload_n 2, 1) := by decide +kernel
theorem dX0_log_26 : decode cX0_log 26 = .ok (.ifCond .lt 14, 3) := by decide +kernel
theorem dX0_log_29 : decode cX0_log 29 = .ok (.iload_n 2, 1) := by decide +kernel
theorem dX0_log_30 : decode cX0_log 30 = .ok (.aload_n 3, 1) := by decide +kernel
theorem dX0_log_31 : decode cX0_log 31 = .ok (.getfield 144, 3) := by decide +kernel
theorem dX0_log_34 : decode cX0_log 34 = .ok (.invokevirtual 147, 3) := by decide +kernel
theorem dX0_log_37 : decode cX0_log 37 = .ok (.if_icmp .lt 7, 3) := by decide +kernel
theorem dX0_log_40 : decode cX0_log 40 = .ok (.iconst (-1), 1) := by decide +kernel
theorem dX0_log_41 : decode cX0_log 41 = .ok (.goto 20, 3) := by decide +kernel
theorem dX0_log_44 : decode cX0_log 44 = .ok (.aload_n 3, 1) := by decide +kernel
theorem dX0_log_45 : decode cX0_log 45 = .ok (.getfield 144, 3) := by decide +kernel
theorem dX0_log_48 : decode cX0_log 48 = .ok (.iload_n 2, 1) := by decide +kernel
theorem dX0_log_49 : decode cX0_log 49 = .ok (.invokevirtual 148, 3) := by decide +kernel
theorem dX0_log_52 : decode cX0_log 52 = .ok (.checkcast 25, 3) := by decide +kernel
theorem dX0_log_55 : decode cX0_log 55 = .ok (.getfield 152, 3) := by decide +kernel
theorem dX0_log_58 : decode cX0_log 58 = .ok (.invokevirtual 156, 3) := by decide +kernel
theorem dX0_log_61 : decode cX0_log 61 = .ok (.ireturn, 1) := by decide +kernel
abbrev cX0_past : ByteArray := prog_1_method_17_code
def yX0_past : MethodName := ⟨RX0, "past", "(III)Z"⟩
theorem dX0_past_0 : decode cX0_past 0 = .ok (.aload_n 0, 1) := by decide +kernel
theorem dX0_past_1 : decode cX0_past 1 = .ok (.iload_n 1, 1) := by decide +kernel
theorem dX0_past_2 : decode cX0_past 2 = .ok (.invokevirtual 65, 3) := by decide +kernel
theorem dX0_past_5 : decode cX0_past 5 = .ok (.astore 4, 2) := by decide +kernel
theorem dX0_past_7 : decode cX0_past 7 = .ok (.aload 4, 2) := by decide +kernel
theorem dX0_past_9 : decode cX0_past 9 = .ok (.ifnonnull 5, 3) := by decide +kernel
theorem dX0_past_12 : decode cX0_past 12 = .ok (.iconst 0, 1) := by decide +kernel
theorem dX0_past_13 : decode cX0_past 13 = .ok (.ireturn, 1) := by decide +kernel
theorem dX0_past_14 : decode cX0_past 14 = .ok (.aload 4, 2) := by decide +kernel
theorem dX0_past_16 : decode cX0_past 16 = .ok (.iload_n 2, 1) := by decide +kernel
theorem dX0_past_17 : decode cX0_past 17 = .ok (.invokevirtual 159, 3) := by decide +kernel
theorem dX0_past_20 : decode cX0_past 20 = .ok (.istore 5, 2) := by decide +kernel
theorem dX0_past_22 : decode cX0_past 22 = .ok (.aload 4, 2) := by decide +kernel
theorem dX0_past_24 : decode cX0_past 24 = .ok (.iload_n 3, 1) := by decide +kernel
theorem dX0_past_25 : decode cX0_past 25 = .ok (.invokevirtual 87, 3) := by decide +kernel
theorem dX0_past_28 : decode cX0_past 28 = .ok (.astore 6, 2) := by decide +kernel
theorem dX0_past_30 : decode cX0_past 30 = .ok (.iload 5, 2) := by decide +kernel
theorem dX0_past_32 : decode cX0_past 32 = .ok (.ifCond .lt 26, 3) := by decide +kernel
theorem dX0_past_35 : decode cX0_past 35 = .ok (.aload 6, 2) := by decide +kernel
theorem dX0_past_37 : decode cX0_past 37 = .ok (.ifnull 21, 3) := by decide +kernel
theorem dX0_past_40 : decode cX0_past 40 = .ok (.aload 6, 2) := by decide +kernel
theorem dX0_past_42 : decode cX0_past 42 = .ok (.getfield 163, 3) := by decide +kernel
theorem dX0_past_45 : decode cX0_past 45 = .ok (.iload 5, 2) := by decide +kernel
theorem dX0_past_47 : decode cX0_past 47 = .ok (.ishr, 1) := by decide +kernel
theorem dX0_past_48 : decode cX0_past 48 = .ok (.iconst 1, 1) := by decide +kernel
theorem dX0_past_49 : decode cX0_past 49 = .ok (.iand, 1) := by decide +kernel
theorem dX0_past_50 : decode cX0_past 50 = .ok (.iconst 1, 1) := by decide +kernel
theorem dX0_past_51 : decode cX0_past 51 = .ok (.if_icmp .ne 7, 3) := by decide +kernel
theorem dX0_past_54 : decode cX0_past 54 = .ok (.iconst 1, 1) := by decide +kernel
theorem dX0_past_55 : decode cX0_past 55 = .ok (.goto 4, 3) := by decide +kernel
theorem dX0_past_58 : decode cX0_past 58 = .ok (.iconst 0, 1) := by decide +kernel
theorem dX0_past_59 : decode cX0_past 59 = .ok (.ireturn, 1) := by decide +kernel
abbrev cX0_heads : ByteArray := prog_1_method_18_code
def yX0_heads : MethodName := ⟨RX0, "heads", "(I)I"⟩
theorem dX0_heads_0 : decode cX0_heads 0 = .ok (.aload_n 0, 1) := by decide +kernel
theorem dX0_heads_1 : decode cX0_heads 1 = .ok (.iload_n 1, 1) := by decide +kernel
theorem dX0_heads_2 : decode cX0_heads 2 = .ok (.invokevirtual 65, 3) := by decide +kernel
theorem dX0_heads_5 : decode cX0_heads 5 = .ok (.astore_n 2, 1) := by decide +kernel
theorem dX0_heads_6 : decode cX0_heads 6 = .ok (.aload_n 2, 1) := by decide +kernel
theorem dX0_heads_7 : decode cX0_heads 7 = .ok (.ifnonnull 5, 3) := by decide +kernel
theorem dX0_heads_10 : decode cX0_heads 10 = .ok (.iconst (-1), 1) := by decide +kernel
theorem dX0_heads_11 : decode cX0_heads 11 = .ok (.ireturn, 1) := by decide +kernel
theorem dX0_heads_12 : decode cX0_heads 12 = .ok (.iconst 0, 1) := by decide +kernel
theorem dX0_heads_13 : decode cX0_heads 13 = .ok (.istore_n 3, 1) := by decide +kernel
theorem dX0_heads_14 : decode cX0_heads 14 = .ok (.iconst 0, 1) := by decide +kernel
theorem dX0_heads_15 : decode cX0_heads 15 = .ok (.istore 4, 2) := by decide +kernel
theorem dX0_heads_17 : decode cX0_heads 17 = .ok (.iload 4, 2) := by decide +kernel
theorem dX0_heads_19 : decode cX0_heads 19 = .ok (.aload_n 2, 1) := by decide +kernel
theorem dX0_heads_20 : decode cX0_heads 20 = .ok (.getfield 144, 3) := by decide +kernel
theorem dX0_heads_23 : decode cX0_heads 23 = .ok (.invokevirtual 147, 3) := by decide +kernel
theorem dX0_heads_26 : decode cX0_heads 26 = .ok (.if_icmp .ge 35, 3) := by decide +kernel
theorem dX0_heads_29 : decode cX0_heads 29 = .ok (.iload_n 3, 1) := by decide +kernel
theorem dX0_heads_30 : decode cX0_heads 30 = .ok (.aload_n 2, 1) := by decide +kernel
theorem dX0_heads_31 : decode cX0_heads 31 = .ok (.getfield 144, 3) := by decide +kernel
theorem dX0_heads_34 : decode cX0_heads 34 = .ok (.iload 4, 2) := by decide +kernel
theorem dX0_heads_36 : decode cX0_heads 36 = .ok (.invokevirtual 148, 3) := by decide +kernel
theorem dX0_heads_39 : decode cX0_heads 39 = .ok (.checkcast 25, 3) := by decide +kernel
theorem dX0_heads_42 : decode cX0_heads 42 = .ok (.getfield 91, 3) := by decide +kernel
theorem dX0_heads_45 : decode cX0_heads 45 = .ok (.ifCond .eq 7, 3) := by decide +kernel
theorem dX0_heads_48 : decode cX0_heads 48 = .ok (.iconst 0, 1) := by decide +kernel
theorem dX0_heads_49 : decode cX0_heads 49 = .ok (.goto 4, 3) := by decide +kernel
theorem dX0_heads_52 : decode cX0_heads 52 = .ok (.iconst 1, 1) := by decide +kernel
theorem dX0_heads_53 : decode cX0_heads 53 = .ok (.iadd, 1) := by decide +kernel
theorem dX0_heads_54 : decode cX0_heads 54 = .ok (.istore_n 3, 1) := by decide +kernel
theorem dX0_heads_55 : decode cX0_heads 55 = .ok (.iinc 4 1, 3) := by decide +kernel
theorem dX0_heads_58 : decode cX0_heads 58 = .ok (.goto (-41), 3) := by decide +kernel
theorem dX0_heads_61 : decode cX0_heads 61 = .ok (.iload_n 3, 1) := by decide +kernel
theorem dX0_heads_62 : decode cX0_heads 62 = .ok (.ireturn, 1) := by decide +kernel
abbrev cX0_entry : ByteArray := prog_1_method_19_code
def yX0_entry : MethodName := ⟨RX0, "entry", "(IIII)I"⟩
theorem dX0_entry_0 : decode cX0_entry 0 = .ok (.aload_n 0, 1) := by decide +kernel
theorem dX0_entry_1 : decode cX0_entry 1 = .ok (.iload_n 1, 1) := by decide +kernel
theorem dX0_entry_2 : decode cX0_entry 2 = .ok (.invokevirtual 65, 3) := by decide +kernel
theorem dX0_entry_5 : decode cX0_entry 5 = .ok (.astore 5, 2) := by decide +kernel
theorem dX0_entry_7 : decode cX0_entry 7 = .ok (.aload 5, 2) := by decide +kernel
theorem dX0_entry_9 : decode cX0_entry 9 = .ok (.ifnonnull 7, 3) := by decide +kernel
theorem dX0_entry_12 : decode cX0_entry 12 = .ok (.aconst_null, 1) := by decide +kernel
theorem dX0_entry_13 : decode cX0_entry 13 = .ok (.goto 9, 3) := by decide +kernel
theorem dX0_entry_16 : decode cX0_entry 16 = .ok (.aload 5, 2) := by decide +kernel
theorem dX0_entry_18 : decode cX0_entry 18 = .ok (.iload_n 2, 1) := by decide +kernel
theorem dX0_entry_19 : decode cX0_entry 19 = .ok (.invokevirtual 167, 3) := by decide +kernel
theorem dX0_entry_22 : decode cX0_entry 22 = .ok (.astore 6, 2) := by decide +kernel
theorem dX0_entry_24 : decode cX0_entry 24 = .ok (.aload 6, 2) := by decide +kernel
theorem dX0_entry_26 : decode cX0_entry 26 = .ok (.instanceof 171, 3) := by decide +kernel
theorem dX0_entry_29 : decode cX0_entry 29 = .ok (.ifCond .eq 10, 3) := by decide +kernel
theorem dX0_entry_32 : decode cX0_entry 32 = .ok (.iload_n 3, 1) := by decide +kernel
theorem dX0_entry_33 : decode cX0_entry 33 = .ok (.invokestatic 21, 3) := by decide +kernel
theorem dX0_entry_36 : decode cX0_entry 36 = .ok (.ifCond .ne 5, 3) := by decide +kernel
theorem dX0_entry_39 : decode cX0_entry 39 = .ok (.iconst (-1), 1) := by decide +kernel
theorem dX0_entry_40 : decode cX0_entry 40 = .ok (.ireturn, 1) := by decide +kernel
theorem dX0_entry_41 : decode cX0_entry 41 = .ok (.iconst 0, 1) := by decide +kernel
theorem dX0_entry_42 : decode cX0_entry 42 = .ok (.istore 7, 2) := by decide +kernel
theorem dX0_entry_44 : decode cX0_entry 44 = .ok (.aload 6, 2) := by decide +kernel
theorem dX0_entry_46 : decode cX0_entry 46 = .ok (.checkcast 171, 3) := by decide +kernel
theorem dX0_entry_49 : decode cX0_entry 49 = .ok (.getfield 173, 3) := by decide +kernel
theorem dX0_entry_52 : decode cX0_entry 52 = .ok (.iload_n 3, 1) := by decide +kernel
theorem dX0_entry_53 : decode cX0_entry 53 = .ok (.aaload, 1) := by decide +kernel
theorem dX0_entry_54 : decode cX0_entry 54 = .ok (.astore 8, 2) := by decide +kernel
theorem dX0_entry_56 : decode cX0_entry 56 = .ok (.aload 8, 2) := by decide +kernel
theorem dX0_entry_58 : decode cX0_entry 58 = .ok (.ifnull 32, 3) := by decide +kernel
theorem dX0_entry_61 : decode cX0_entry 61 = .ok (.iload 7, 2) := by decide +kernel
theorem dX0_entry_63 : decode cX0_entry 63 = .ok (.iload 4, 2) := by decide +kernel
theorem dX0_entry_65 : decode cX0_entry 65 = .ok (.if_icmp .ne 12, 3) := by decide +kernel
theorem dX0_entry_68 : decode cX0_entry 68 = .ok (.aload 8, 2) := by decide +kernel
theorem dX0_entry_70 : decode cX0_entry 70 = .ok (.getfield 152, 3) := by decide +kernel
theorem dX0_entry_73 : decode cX0_entry 73 = .ok (.invokevirtual 156, 3) := by decide +kernel
theorem dX0_entry_76 : decode cX0_entry 76 = .ok (.ireturn, 1) := by decide +kernel
theorem dX0_entry_77 : decode cX0_entry 77 = .ok (.iinc 7 1, 3) := by decide +kernel
theorem dX0_entry_80 : decode cX0_entry 80 = .ok (.aload 8, 2) := by decide +kernel
theorem dX0_entry_82 : decode cX0_entry 82 = .ok (.getfield 177, 3) := by decide +kernel
theorem dX0_entry_85 : decode cX0_entry 85 = .ok (.astore 8, 2) := by decide +kernel
theorem dX0_entry_87 : decode cX0_entry 87 = .ok (.goto (-31), 3) := by decide +kernel
theorem dX0_entry_90 : decode cX0_entry 90 = .ok (.iload 4, 2) := by decide +kernel
theorem dX0_entry_92 : decode cX0_entry 92 = .ok (.iconst (-1), 1) := by decide +kernel
theorem dX0_entry_93 : decode cX0_entry 93 = .ok (.if_icmp .ne 8, 3) := by decide +kernel
theorem dX0_entry_96 : decode cX0_entry 96 = .ok (.iload 7, 2) := by decide +kernel
theorem dX0_entry_98 : decode cX0_entry 98 = .ok (.goto 4, 3) := by decide +kernel
theorem dX0_entry_101 : decode cX0_entry 101 = .ok (.iconst (-1), 1) := by decide +kernel
theorem dX0_entry_102 : decode cX0_entry 102 = .ok (.ireturn, 1) := by decide +kernel
abbrev cX0_element : ByteArray := prog_1_method_20_code
def yX0_element : MethodName := ⟨RX0, "element", "(III)I"⟩
theorem dX0_element_0 : decode cX0_element 0 = .ok (.aload_n 0, 1) := by decide +kernel
theorem dX0_element_1 : decode cX0_element 1 = .ok (.iload_n 1, 1) := by decide +kernel
theorem dX0_element_2 : decode cX0_element 2 = .ok (.invokevirtual 65, 3) := by decide +kernel
theorem dX0_element_5 : decode cX0_element 5 = .ok (.astore 4, 2) := by decide +kernel
theorem dX0_element_7 : decode cX0_element 7 = .ok (.aload 4, 2) := by decide +kernel
theorem dX0_element_9 : decode cX0_element 9 = .ok (.ifnonnull 7, 3) := by decide +kernel
theorem dX0_element_12 : decode cX0_element 12 = .ok (.aconst_null, 1) := by decide +kernel
theorem dX0_element_13 : decode cX0_element 13 = .ok (.goto 9, 3) := by decide +kernel
theorem dX0_element_16 : decode cX0_element 16 = .ok (.aload 4, 2) := by decide +kernel
theorem dX0_element_18 : decode cX0_element 18 = .ok (.iload_n 2, 1) := by decide +kernel
theorem dX0_element_19 : decode cX0_element 19 = .ok (.invokevirtual 167, 3) := by decide +kernel
theorem dX0_element_22 : decode cX0_element 22 = .ok (.astore 5, 2) := by decide +kernel
theorem dX0_element_24 : decode cX0_element 24 = .ok (.aload 5, 2) := by decide +kernel
theorem dX0_element_26 : decode cX0_element 26 = .ok (.instanceof 181, 3) := by decide +kernel
theorem dX0_element_29 : decode cX0_element 29 = .ok (.ifCond .ne 5, 3) := by decide +kernel
theorem dX0_element_32 : decode cX0_element 32 = .ok (.iconst (-1), 1) := by decide +kernel
theorem dX0_element_33 : decode cX0_element 33 = .ok (.ireturn, 1) := by decide +kernel
theorem dX0_element_34 : decode cX0_element 34 = .ok (.iconst 0, 1) := by decide +kernel
theorem dX0_element_35 : decode cX0_element 35 = .ok (.istore 6, 2) := by decide +kernel
theorem dX0_element_37 : decode cX0_element 37 = .ok (.aload 5, 2) := by decide +kernel
theorem dX0_element_39 : decode cX0_element 39 = .ok (.checkcast 181, 3) := by decide +kernel
theorem dX0_element_42 : decode cX0_element 42 = .ok (.getfield 183, 3) := by decide +kernel
theorem dX0_element_45 : decode cX0_element 45 = .ok (.astore 7, 2) := by decide +kernel
theorem dX0_element_47 : decode cX0_element 47 = .ok (.aload 7, 2) := by decide +kernel
theorem dX0_element_49 : decode cX0_element 49 = .ok (.ifnull 47, 3) := by decide +kernel
theorem dX0_element_52 : decode cX0_element 52 = .ok (.aload 7, 2) := by decide +kernel
theorem dX0_element_54 : decode cX0_element 54 = .ok (.getfield 24, 3) := by decide +kernel
theorem dX0_element_57 : decode cX0_element 57 = .ok (.ifCond .eq 18, 3) := by decide +kernel
theorem dX0_element_60 : decode cX0_element 60 = .ok (.iload 6, 2) := by decide +kernel
theorem dX0_element_62 : decode cX0_element 62 = .ok (.iload_n 3, 1) := by decide +kernel
theorem dX0_element_63 : decode cX0_element 63 = .ok (.if_icmp .ne 12, 3) := by decide +kernel
theorem dX0_element_66 : decode cX0_element 66 = .ok (.aload 7, 2) := by decide +kernel
theorem dX0_element_68 : decode cX0_element 68 = .ok (.getfield 152, 3) := by decide +kernel
theorem dX0_element_71 : decode cX0_element 71 = .ok (.invokevirtual 156, 3) := by decide +kernel
theorem dX0_element_74 : decode cX0_element 74 = .ok (.ireturn, 1) := by decide +kernel
theorem dX0_element_75 : decode cX0_element 75 = .ok (.aload 7, 2) := by decide +kernel
theorem dX0_element_77 : decode cX0_element 77 = .ok (.getfield 24, 3) := by decide +kernel
theorem dX0_element_80 : decode cX0_element 80 = .ok (.ifCond .eq 6, 3) := by decide +kernel
theorem dX0_element_83 : decode cX0_element 83 = .ok (.iinc 6 1, 3) := by decide +kernel
theorem dX0_element_86 : decode cX0_element 86 = .ok (.aload 7, 2) := by decide +kernel
theorem dX0_element_88 : decode cX0_element 88 = .ok (.getfield 177, 3) := by decide +kernel
theorem dX0_element_91 : decode cX0_element 91 = .ok (.astore 7, 2) := by decide +kernel
theorem dX0_element_93 : decode cX0_element 93 = .ok (.goto (-46), 3) := by decide +kernel
theorem dX0_element_96 : decode cX0_element 96 = .ok (.iload_n 3, 1) := by decide +kernel
theorem dX0_element_97 : decode cX0_element 97 = .ok (.iconst (-1), 1) := by decide +kernel
theorem dX0_element_98 : decode cX0_element 98 = .ok (.if_icmp .ne 8, 3) := by decide +kernel
theorem dX0_element_101 : decode cX0_element 101 = .ok (.iload 6, 2) := by decide +kernel
theorem dX0_element_103 : decode cX0_element 103 = .ok (.goto 4, 3) := by decide +kernel
theorem dX0_element_106 : decode cX0_element 106 = .ok (.iconst (-1), 1) := by decide +kernel
theorem dX0_element_107 : decode cX0_element 107 = .ok (.ireturn, 1) := by decide +kernel
abbrev cX0_value : ByteArray := prog_1_method_21_code
def yX0_value : MethodName := ⟨RX0, "value", "(II)I"⟩
theorem dX0_value_0 : decode cX0_value 0 = .ok (.aload_n 0, 1) := by decide +kernel
theorem dX0_value_1 : decode cX0_value 1 = .ok (.iload_n 1, 1) := by decide +kernel
theorem dX0_value_2 : decode cX0_value 2 = .ok (.invokevirtual 65, 3) := by decide +kernel
theorem dX0_value_5 : decode cX0_value 5 = .ok (.astore_n 3, 1) := by decide +kernel
theorem dX0_value_6 : decode cX0_value 6 = .ok (.aload_n 3, 1) := by decide +kernel
theorem dX0_value_7 : decode cX0_value 7 = .ok (.ifnonnull 7, 3) := by decide +kernel
theorem dX0_value_10 : decode cX0_value 10 = .ok (.aconst_null, 1) := by decide +kernel
theorem dX0_value_11 : decode cX0_value 11 = .ok (.goto 8, 3) := by decide +kernel
theorem dX0_value_14 : decode cX0_value 14 = .ok (.aload_n 3, 1) := by decide +kernel
theorem dX0_value_15 : decode cX0_value 15 = .ok (.iload_n 2, 1) := by decide +kernel
theorem dX0_value_16 : decode cX0_value 16 = .ok (.invokevirtual 87, 3) := by decide +kernel
theorem dX0_value_19 : decode cX0_value 19 = .ok (.astore 4, 2) := by decide +kernel
theorem dX0_value_21 : decode cX0_value 21 = .ok (.aload 4, 2) := by decide +kernel
theorem dX0_value_23 : decode cX0_value 23 = .ok (.ifnonnull 7, 3) := by decide +kernel
theorem dX0_value_26 : decode cX0_value 26 = .ok (.iconst (-1), 1) := by decide +kernel
theorem dX0_value_27 : decode cX0_value 27 = .ok (.goto 11, 3) := by decide +kernel
theorem dX0_value_30 : decode cX0_value 30 = .ok (.aload 4, 2) := by decide +kernel
theorem dX0_value_32 : decode cX0_value 32 = .ok (.getfield 152, 3) := by decide +kernel
theorem dX0_value_35 : decode cX0_value 35 = .ok (.invokevirtual 186, 3) := by decide +kernel
theorem dX0_value_38 : decode cX0_value 38 = .ok (.ireturn, 1) := by decide +kernel
abbrev cX0_depth : ByteArray := prog_1_method_22_code
def yX0_depth : MethodName := ⟨RX0, "depth", "(II)I"⟩
theorem dX0_depth_0 : decode cX0_depth 0 = .ok (.aload_n 0, 1) := by decide +kernel
theorem dX0_depth_1 : decode cX0_depth 1 = .ok (.iload_n 1, 1) := by decide +kernel
theorem dX0_depth_2 : decode cX0_depth 2 = .ok (.invokevirtual 65, 3) := by decide +kernel
theorem dX0_depth_5 : decode cX0_depth 5 = .ok (.astore_n 3, 1) := by decide +kernel
theorem dX0_depth_6 : decode cX0_depth 6 = .ok (.aload_n 3, 1) := by decide +kernel
theorem dX0_depth_7 : decode cX0_depth 7 = .ok (.ifnonnull 5, 3) := by decide +kernel
theorem dX0_depth_10 : decode cX0_depth 10 = .ok (.iconst (-1), 1) := by decide +kernel
theorem dX0_depth_11 : decode cX0_depth 11 = .ok (.ireturn, 1) := by decide +kernel
theorem dX0_depth_12 : decode cX0_depth 12 = .ok (.iload_n 2, 1) := by decide +kernel
theorem dX0_depth_13 : decode cX0_depth 13 = .ok (.ifCond .ne 5, 3) := by decide +kernel
theorem dX0_depth_16 : decode cX0_depth 16 = .ok (.iconst 0, 1) := by decide +kernel
theorem dX0_depth_17 : decode cX0_depth 17 = .ok (.ireturn, 1) := by decide +kernel
theorem dX0_depth_18 : decode cX0_depth 18 = .ok (.aload_n 3, 1) := by decide +kernel
theorem dX0_depth_19 : decode cX0_depth 19 = .ok (.iload_n 2, 1) := by decide +kernel
theorem dX0_depth_20 : decode cX0_depth 20 = .ok (.invokevirtual 87, 3) := by decide +kernel
theorem dX0_depth_23 : decode cX0_depth 23 = .ok (.astore 4, 2) := by decide +kernel
theorem dX0_depth_25 : decode cX0_depth 25 = .ok (.aload 4, 2) := by decide +kernel
theorem dX0_depth_27 : decode cX0_depth 27 = .ok (.ifnonnull 7, 3) := by decide +kernel
theorem dX0_depth_30 : decode cX0_depth 30 = .ok (.iconst (-1), 1) := by decide +kernel
theorem dX0_depth_31 : decode cX0_depth 31 = .ok (.goto 9, 3) := by decide +kernel
theorem dX0_depth_34 : decode cX0_depth 34 = .ok (.aload 4, 2) := by decide +kernel
theorem dX0_depth_36 : decode cX0_depth 36 = .ok (.iconst 0, 1) := by decide +kernel
theorem dX0_depth_37 : decode cX0_depth 37 = .ok (.invokestatic 40, 3) := by decide +kernel
theorem dX0_depth_40 : decode cX0_depth 40 = .ok (.ireturn, 1) := by decide +kernel
abbrev cX0_stands : ByteArray := prog_1_method_5_code
def yX0_stands : MethodName := ⟨RX0, "stands", "(LReplicaDocument$Item;I)I"⟩
theorem dX0_stands_0 : decode cX0_stands 0 = .ok (.aload_n 0, 1) := by decide +kernel
theorem dX0_stands_1 : decode cX0_stands 1 = .ok (.ifnonnull 5, 3) := by decide +kernel
theorem dX0_stands_4 : decode cX0_stands 4 = .ok (.iconst 0, 1) := by decide +kernel
theorem dX0_stands_5 : decode cX0_stands 5 = .ok (.ireturn, 1) := by decide +kernel
theorem dX0_stands_6 : decode cX0_stands 6 = .ok (.aload_n 0, 1) := by decide +kernel
theorem dX0_stands_7 : decode cX0_stands 7 = .ok (.getfield 24, 3) := by decide +kernel
theorem dX0_stands_10 : decode cX0_stands 10 = .ok (.ifCond .eq 16, 3) := by decide +kernel
theorem dX0_stands_13 : decode cX0_stands 13 = .ok (.aload_n 0, 1) := by decide +kernel
theorem dX0_stands_14 : decode cX0_stands 14 = .ok (.getfield 30, 3) := by decide +kernel
theorem dX0_stands_17 : decode cX0_stands 17 = .ok (.ifnull 9, 3) := by decide +kernel
theorem dX0_stands_20 : decode cX0_stands 20 = .ok (.iload_n 1, 1) := by decide +kernel
theorem dX0_stands_21 : decode cX0_stands 21 = .ok (.bipush 40, 2) := by decide +kernel
theorem dX0_stands_23 : decode cX0_stands 23 = .ok (.if_icmp .le 5, 3) := by decide +kernel
theorem dX0_stands_26 : decode cX0_stands 26 = .ok (.iconst (-1), 1) := by decide +kernel
theorem dX0_stands_27 : decode cX0_stands 27 = .ok (.ireturn, 1) := by decide +kernel
theorem dX0_stands_28 : decode cX0_stands 28 = .ok (.aload_n 0, 1) := by decide +kernel
theorem dX0_stands_29 : decode cX0_stands 29 = .ok (.getfield 30, 3) := by decide +kernel
theorem dX0_stands_32 : decode cX0_stands 32 = .ok (.invokeinterface 34 1, 5) := by decide +kernel
theorem dX0_stands_37 : decode cX0_stands 37 = .ok (.iload_n 1, 1) := by decide +kernel
theorem dX0_stands_38 : decode cX0_stands 38 = .ok (.iconst 1, 1) := by decide +kernel
theorem dX0_stands_39 : decode cX0_stands 39 = .ok (.iadd, 1) := by decide +kernel
theorem dX0_stands_40 : decode cX0_stands 40 = .ok (.invokestatic 40, 3) := by decide +kernel
theorem dX0_stands_43 : decode cX0_stands 43 = .ok (.istore_n 2, 1) := by decide +kernel
theorem dX0_stands_44 : decode cX0_stands 44 = .ok (.iload_n 2, 1) := by decide +kernel
theorem dX0_stands_45 : decode cX0_stands 45 = .ok (.ifCond .ge 7, 3) := by decide +kernel
theorem dX0_stands_48 : decode cX0_stands 48 = .ok (.iconst (-1), 1) := by decide +kernel
theorem dX0_stands_49 : decode cX0_stands 49 = .ok (.goto 6, 3) := by decide +kernel
theorem dX0_stands_52 : decode cX0_stands 52 = .ok (.iload_n 2, 1) := by decide +kernel
theorem dX0_stands_53 : decode cX0_stands 53 = .ok (.iconst 1, 1) := by decide +kernel
theorem dX0_stands_54 : decode cX0_stands 54 = .ok (.iadd, 1) := by decide +kernel
theorem dX0_stands_55 : decode cX0_stands 55 = .ok (.ireturn, 1) := by decide +kernel
abbrev cX0_sum : ByteArray := prog_1_method_23_code
def yX0_sum : MethodName := ⟨RX0, "sum", "(I)I"⟩
theorem dX0_sum_0 : decode cX0_sum 0 = .ok (.aload_n 0, 1) := by decide +kernel
theorem dX0_sum_1 : decode cX0_sum 1 = .ok (.iload_n 1, 1) := by decide +kernel
theorem dX0_sum_2 : decode cX0_sum 2 = .ok (.invokevirtual 65, 3) := by decide +kernel
theorem dX0_sum_5 : decode cX0_sum 5 = .ok (.astore_n 2, 1) := by decide +kernel
theorem dX0_sum_6 : decode cX0_sum 6 = .ok (.aload_n 2, 1) := by decide +kernel
theorem dX0_sum_7 : decode cX0_sum 7 = .ok (.ifnonnull 7, 3) := by decide +kernel
theorem dX0_sum_10 : decode cX0_sum 10 = .ok (.iconst 0, 1) := by decide +kernel
theorem dX0_sum_11 : decode cX0_sum 11 = .ok (.goto 11, 3) := by decide +kernel
theorem dX0_sum_14 : decode cX0_sum 14 = .ok (.aload_n 2, 1) := by decide +kernel
theorem dX0_sum_15 : decode cX0_sum 15 = .ok (.getfield 189, 3) := by decide +kernel
theorem dX0_sum_18 : decode cX0_sum 18 = .ok (.iconst 0, 1) := by decide +kernel
theorem dX0_sum_19 : decode cX0_sum 19 = .ok (.invokevirtual 193, 3) := by decide +kernel
theorem dX0_sum_22 : decode cX0_sum 22 = .ok (.ireturn, 1) := by decide +kernel
abbrev cX0_level : ByteArray := prog_1_method_24_code
def yX0_level : MethodName := ⟨RX0, "level", "(II)Z"⟩
theorem dX0_level_0 : decode cX0_level 0 = .ok (.aload_n 0, 1) := by decide +kernel
theorem dX0_level_1 : decode cX0_level 1 = .ok (.iload_n 1, 1) := by decide +kernel
theorem dX0_level_2 : decode cX0_level 2 = .ok (.invokevirtual 65, 3) := by decide +kernel
theorem dX0_level_5 : decode cX0_level 5 = .ok (.astore_n 3, 1) := by decide +kernel
theorem dX0_level_6 : decode cX0_level 6 = .ok (.aload_n 0, 1) := by decide +kernel
theorem dX0_level_7 : decode cX0_level 7 = .ok (.iload_n 2, 1) := by decide +kernel
theorem dX0_level_8 : decode cX0_level 8 = .ok (.invokevirtual 65, 3) := by decide +kernel
theorem dX0_level_11 : decode cX0_level 11 = .ok (.astore 4, 2) := by decide +kernel
theorem dX0_level_13 : decode cX0_level 13 = .ok (.aload_n 3, 1) := by decide +kernel
theorem dX0_level_14 : decode cX0_level 14 = .ok (.ifnull 26, 3) := by decide +kernel
theorem dX0_level_17 : decode cX0_level 17 = .ok (.aload 4, 2) := by decide +kernel
theorem dX0_level_19 : decode cX0_level 19 = .ok (.ifnull 21, 3) := by decide +kernel
theorem dX0_level_22 : decode cX0_level 22 = .ok (.aload_n 3, 1) := by decide +kernel
theorem dX0_level_23 : decode cX0_level 23 = .ok (.getfield 144, 3) := by decide +kernel
theorem dX0_level_26 : decode cX0_level 26 = .ok (.invokevirtual 147, 3) := by decide +kernel
theorem dX0_level_29 : decode cX0_level 29 = .ok (.aload 4, 2) := by decide +kernel
theorem dX0_level_31 : decode cX0_level 31 = .ok (.getfield 144, 3) := by decide +kernel
theorem dX0_level_34 : decode cX0_level 34 = .ok (.invokevirtual 147, 3) := by decide +kernel
theorem dX0_level_37 : decode cX0_level 37 = .ok (.if_icmp .eq 5, 3) := by decide +kernel
theorem dX0_level_40 : decode cX0_level 40 = .ok (.iconst 0, 1) := by decide +kernel
theorem dX0_level_41 : decode cX0_level 41 = .ok (.ireturn, 1) := by decide +kernel
theorem dX0_level_42 : decode cX0_level 42 = .ok (.iconst 0, 1) := by decide +kernel
theorem dX0_level_43 : decode cX0_level 43 = .ok (.istore 5, 2) := by decide +kernel
theorem dX0_level_45 : decode cX0_level 45 = .ok (.iload 5, 2) := by decide +kernel
theorem dX0_level_47 : decode cX0_level 47 = .ok (.aload_n 3, 1) := by decide +kernel
theorem dX0_level_48 : decode cX0_level 48 = .ok (.getfield 144, 3) := by decide +kernel
theorem dX0_level_51 : decode cX0_level 51 = .ok (.invokevirtual 147, 3) := by decide +kernel
theorem dX0_level_54 : decode cX0_level 54 = .ok (.if_icmp .ge 64, 3) := by decide +kernel
theorem dX0_level_57 : decode cX0_level 57 = .ok (.aload_n 3, 1) := by decide +kernel
theorem dX0_level_58 : decode cX0_level 58 = .ok (.getfield 144, 3) := by decide +kernel
theorem dX0_level_61 : decode cX0_level 61 = .ok (.iload 5, 2) := by decide +kernel
theorem dX0_level_63 : decode cX0_level 63 = .ok (.invokevirtual 148, 3) := by decide +kernel
theorem dX0_level_66 : decode cX0_level 66 = .ok (.checkcast 25, 3) := by decide +kernel
theorem dX0_level_69 : decode cX0_level 69 = .ok (.getfield 152, 3) := by decide +kernel
theorem dX0_level_72 : decode cX0_level 72 = .ok (.astore 6, 2) := by decide +kernel
theorem dX0_level_74 : decode cX0_level 74 = .ok (.aload 4, 2) := by decide +kernel
theorem dX0_level_76 : decode cX0_level 76 = .ok (.aload 6, 2) := by decide +kernel
theorem dX0_level_78 : decode cX0_level 78 = .ok (.invokevirtual 156, 3) := by decide +kernel
theorem dX0_level_81 : decode cX0_level 81 = .ok (.invokevirtual 87, 3) := by decide +kernel
theorem dX0_level_84 : decode cX0_level 84 = .ok (.astore 7, 2) := by decide +kernel
theorem dX0_level_86 : decode cX0_level 86 = .ok (.aload 7, 2) := by decide +kernel
theorem dX0_level_88 : decode cX0_level 88 = .ok (.ifnull 22, 3) := by decide +kernel
theorem dX0_level_91 : decode cX0_level 91 = .ok (.aload 7, 2) := by decide +kernel
theorem dX0_level_93 : decode cX0_level 93 = .ok (.getfield 152, 3) := by decide +kernel
theorem dX0_level_96 : decode cX0_level 96 = .ok (.invokevirtual 118, 3) := by decide +kernel
theorem dX0_level_99 : decode cX0_level 99 = .ok (.aload 6, 2) := by decide +kernel
theorem dX0_level_101 : decode cX0_level 101 = .ok (.invokevirtual 118, 3) := by decide +kernel
theorem dX0_level_104 : decode cX0_level 104 = .ok (.invokevirtual 196, 3) := by decide +kernel
theorem dX0_level_107 : decode cX0_level 107 = .ok (.ifCond .ne 5, 3) := by decide +kernel
theorem dX0_level_110 : decode cX0_level 110 = .ok (.iconst 0, 1) := by decide +kernel
theorem dX0_level_111 : decode cX0_level 111 = .ok (.ireturn, 1) := by decide +kernel
theorem dX0_level_112 : decode cX0_level 112 = .ok (.iinc 5 1, 3) := by decide +kernel
theorem dX0_level_115 : decode cX0_level 115 = .ok (.goto (-70), 3) := by decide +kernel
theorem dX0_level_118 : decode cX0_level 118 = .ok (.iconst 1, 1) := by decide +kernel
theorem dX0_level_119 : decode cX0_level 119 = .ok (.ireturn, 1) := by decide +kernel
theorem q36 : (Jvm.Cond.initialized "ReplicaDocument") ∈ lw_all := lw_g (lw_at lw_m1 1 rfl) rfl
theorem q59 : (Jvm.Cond.instantiable "ReplicaDocument" (3 : Nat)) ∈ lw_all := lw_g (lw_at lw_m1 24 rfl) rfl
theorem q61 : (Jvm.Cond.instanceMethod ({ cls := "ReplicaDocument", name := "<init>", desc := "()V" } : Jvm.MethodName)) ∈ lw_all := lw_g (lw_at lw_m1 26 rfl) rfl
theorem q62 : (Jvm.Cond.code ({ cls := "ReplicaDocument", name := "<init>", desc := "()V" } : Jvm.MethodName) prog_1_method_6_code (1 : Nat) (Option.none : Option Jvm.ClassFile.FieldType)) ∈ lw_all := lw_g (lw_at lw_m1 27 rfl) rfl
theorem q63 : (Jvm.Cond.methodLink "ReplicaDocument" (44 : Nat) ({ cls := "java/lang/Object", name := "<init>", desc := "()V" } : Jvm.MethodName)) ∈ lw_all := lw_g (lw_at lw_m1 28 rfl) rfl
theorem q66 : (Jvm.Cond.classLink "ReplicaDocument" (50 : Nat) "ReplicaDocument$Replica") ∈ lw_all := lw_g (lw_at lw_m1 31 rfl) rfl
theorem q69 : (Jvm.Cond.methodLinkNest "ReplicaDocument" (52 : Nat) ({ cls := "ReplicaDocument$Replica", name := "<init>", desc := "()V" } : Jvm.MethodName) "ReplicaDocument") ∈ lw_tbl := lw_at lw_m1 34 rfl
theorem q83 : (Jvm.Cond.fieldLinkNest "ReplicaDocument" (173 : Nat) "ReplicaDocument$MapNode" "entries" "[LReplicaDocument$Item;" "ReplicaDocument") ∈ lw_tbl := lw_at lw_m1 48 rfl
theorem q116 : (Jvm.Cond.fieldLinkNest "ReplicaDocument" (189 : Nat) "ReplicaDocument$Replica" "root" "LReplicaDocument$MapNode;" "ReplicaDocument") ∈ lw_tbl := lw_at lw_m1 81 rfl
theorem q118 : (Jvm.Cond.fieldLinkNest "ReplicaDocument" (144 : Nat) "ReplicaDocument$Replica" "log" "Ljava/util/ArrayList;" "ReplicaDocument") ∈ lw_tbl := lw_at lw_m1 83 rfl
theorem q120 : (Jvm.Cond.fieldLinkNest "ReplicaDocument" (134 : Nat) "ReplicaDocument$Replica" "waiting" "Ljava/util/ArrayList;" "ReplicaDocument") ∈ lw_tbl := lw_at lw_m1 85 rfl
theorem q128 : (Jvm.Cond.classLink "ReplicaDocument" (4 : Nat) "java/lang/StringBuilder") ∈ lw_all := lw_g (lw_at lw_m1 93 rfl) rfl
theorem q130 : (Jvm.Cond.methodLink "ReplicaDocument" (57 : Nat) ({ cls := "java/lang/StringBuilder", name := "<init>", desc := "()V" } : Jvm.MethodName)) ∈ lw_all := lw_g (lw_at lw_m1 95 rfl) rfl
theorem q161 : (Jvm.Cond.fieldLink "ReplicaDocument" (53 : Nat) "ReplicaDocument" "replicas" "[LReplicaDocument$Replica;") ∈ lw_all := lw_g (lw_at lw_m1 126 rfl) rfl
theorem q162 : (Jvm.Cond.fieldLink "ReplicaDocument" (58 : Nat) "ReplicaDocument" "wire" "Ljava/lang/StringBuilder;") ∈ lw_all := lw_g (lw_at lw_m1 127 rfl) rfl
theorem q163 : (Jvm.Cond.fieldLink "ReplicaDocument" (62 : Nat) "ReplicaDocument" "draft" "Ljava/lang/StringBuilder;") ∈ lw_all := lw_g (lw_at lw_m1 128 rfl) rfl
theorem q164 : (Jvm.Cond.laysFinal "ReplicaDocument" "ReplicaDocument" "replicas" "[LReplicaDocument$Replica;") ∈ lw_all := lw_g (lw_at lw_m1 129 rfl) rfl
theorem q165 : (Jvm.Cond.soleField "ReplicaDocument" "replicas") ∈ lw_all := lw_g (lw_at lw_m1 130 rfl) rfl
theorem q166 : (Jvm.Cond.laysFinal "ReplicaDocument" "ReplicaDocument" "wire" "Ljava/lang/StringBuilder;") ∈ lw_all := lw_g (lw_at lw_m1 131 rfl) rfl
theorem q167 : (Jvm.Cond.soleField "ReplicaDocument" "wire") ∈ lw_all := lw_g (lw_at lw_m1 132 rfl) rfl
theorem q168 : (Jvm.Cond.laysFinal "ReplicaDocument" "ReplicaDocument" "draft" "Ljava/lang/StringBuilder;") ∈ lw_all := lw_g (lw_at lw_m1 133 rfl) rfl
theorem q169 : (Jvm.Cond.soleField "ReplicaDocument" "draft") ∈ lw_all := lw_g (lw_at lw_m1 134 rfl) rfl
theorem q170 : (Jvm.Cond.superclass "ReplicaDocument" "java/lang/Object") ∈ lw_all := lw_g (lw_at lw_m1 135 rfl) rfl
theorem q172 : (Jvm.Cond.instanceMethod ({ cls := "ReplicaDocument", name := "edit", desc := "(IIIII)I" } : Jvm.MethodName)) ∈ lw_all := lw_g (lw_at lw_m1 137 rfl) rfl
theorem q173 : (Jvm.Cond.selects "ReplicaDocument" ({ cls := "ReplicaDocument", name := "edit", desc := "(IIIII)I" } : Jvm.MethodName) ({ cls := "ReplicaDocument", name := "edit", desc := "(IIIII)I" } : Jvm.MethodName)) ∈ lw_all := lw_g (lw_at lw_m1 138 rfl) rfl
theorem q174 : (Jvm.Cond.code ({ cls := "ReplicaDocument", name := "edit", desc := "(IIIII)I" } : Jvm.MethodName) prog_1_method_8_code (11 : Nat) (Option.some Jvm.ClassFile.FieldType.int)) ∈ lw_all := lw_g (lw_at lw_m1 139 rfl) rfl
theorem q175 : (Jvm.Cond.methodLink "ReplicaDocument" (65 : Nat) ({ cls := "ReplicaDocument", name := "replica", desc := "(I)LReplicaDocument$Replica;" } : Jvm.MethodName)) ∈ lw_all := lw_g (lw_at lw_m1 140 rfl) rfl
theorem q176 : (Jvm.Cond.privateMethod ({ cls := "ReplicaDocument", name := "replica", desc := "(I)LReplicaDocument$Replica;" } : Jvm.MethodName)) ∈ lw_tbl := lw_at lw_m1 141 rfl
theorem q177 : (Jvm.Cond.instanceMethod ({ cls := "ReplicaDocument", name := "replica", desc := "(I)LReplicaDocument$Replica;" } : Jvm.MethodName)) ∈ lw_all := lw_g (lw_at lw_m1 142 rfl) rfl
theorem q178 : (Jvm.Cond.code ({ cls := "ReplicaDocument", name := "replica", desc := "(I)LReplicaDocument$Replica;" } : Jvm.MethodName) prog_1_method_7_code (2 : Nat) (Option.some (Jvm.ClassFile.FieldType.object "ReplicaDocument$Replica"))) ∈ lw_all := lw_g (lw_at lw_m1 143 rfl) rfl
theorem q179 : (Jvm.Cond.methodLink "ReplicaDocument" (17 : Nat) ({ cls := "ReplicaDocument", name := "wellShaped", desc := "(IIII)Z" } : Jvm.MethodName)) ∈ lw_all := lw_g (lw_at lw_m1 144 rfl) rfl
theorem q180 : (Jvm.Cond.static ({ cls := "ReplicaDocument", name := "wellShaped", desc := "(IIII)Z" } : Jvm.MethodName)) ∈ lw_all := lw_g (lw_at lw_m1 145 rfl) rfl
theorem q181 : (Jvm.Cond.code ({ cls := "ReplicaDocument", name := "wellShaped", desc := "(IIII)Z" } : Jvm.MethodName) prog_1_method_4_code (4 : Nat) (Option.some Jvm.ClassFile.FieldType.boolean)) ∈ lw_all := lw_g (lw_at lw_m1 146 rfl) rfl
theorem q182 : (Jvm.Cond.methodLink "ReplicaDocument" (13 : Nat) ({ cls := "ReplicaDocument", name := "isId", desc := "(I)Z" } : Jvm.MethodName)) ∈ lw_all := lw_g (lw_at lw_m1 147 rfl) rfl
theorem q183 : (Jvm.Cond.static ({ cls := "ReplicaDocument", name := "isId", desc := "(I)Z" } : Jvm.MethodName)) ∈ lw_all := lw_g (lw_at lw_m1 148 rfl) rfl
theorem q184 : (Jvm.Cond.code ({ cls := "ReplicaDocument", name := "isId", desc := "(I)Z" } : Jvm.MethodName) prog_1_method_1_code (1 : Nat) (Option.some Jvm.ClassFile.FieldType.boolean)) ∈ lw_all := lw_g (lw_at lw_m1 149 rfl) rfl
theorem q185 : (Jvm.Cond.methodLink "ReplicaDocument" (21 : Nat) ({ cls := "ReplicaDocument", name := "isKey", desc := "(I)Z" } : Jvm.MethodName)) ∈ lw_all := lw_g (lw_at lw_m1 150 rfl) rfl
theorem q186 : (Jvm.Cond.static ({ cls := "ReplicaDocument", name := "isKey", desc := "(I)Z" } : Jvm.MethodName)) ∈ lw_all := lw_g (lw_at lw_m1 151 rfl) rfl
theorem q187 : (Jvm.Cond.code ({ cls := "ReplicaDocument", name := "isKey", desc := "(I)Z" } : Jvm.MethodName) prog_1_method_2_code (1 : Nat) (Option.some Jvm.ClassFile.FieldType.boolean)) ∈ lw_all := lw_g (lw_at lw_m1 152 rfl) rfl
theorem q188 : (Jvm.Cond.methodLink "ReplicaDocument" (69 : Nat) ({ cls := "ReplicaDocument$Replica", name := "fits", desc := "(III)Z" } : Jvm.MethodName)) ∈ lw_all := lw_g (lw_at lw_m1 153 rfl) rfl
theorem q273 : (Jvm.Cond.methodLink "ReplicaDocument" (73 : Nat) ({ cls := "ReplicaDocument$Replica", name := "greatestCount", desc := "()I" } : Jvm.MethodName)) ∈ lw_all := lw_g (lw_at lw_m1 238 rfl) rfl
theorem q280 : (Jvm.Cond.methodLink "ReplicaDocument" (76 : Nat) ({ cls := "ReplicaDocument$Replica", name := "size", desc := "()I" } : Jvm.MethodName)) ∈ lw_all := lw_g (lw_at lw_m2 5 rfl) rfl
theorem q284 : (Jvm.Cond.methodLink "ReplicaDocument" (79 : Nat) ({ cls := "java/lang/StringBuilder", name := "setLength", desc := "(I)V" } : Jvm.MethodName)) ∈ lw_all := lw_g (lw_at lw_m2 9 rfl) rfl
theorem q342 : (Jvm.Cond.methodLink "ReplicaDocument" (83 : Nat) ({ cls := "java/lang/StringBuilder", name := "append", desc := "(C)Ljava/lang/StringBuilder;" } : Jvm.MethodName)) ∈ lw_all := lw_g (lw_at lw_m2 67 rfl) rfl
theorem q377 : (Jvm.Cond.methodLink "ReplicaDocument" (87 : Nat) ({ cls := "ReplicaDocument$Replica", name := "item", desc := "(I)LReplicaDocument$Item;" } : Jvm.MethodName)) ∈ lw_all := lw_g (lw_at lw_m2 102 rfl) rfl
theorem q378 : (Jvm.Cond.methodLink "ReplicaDocument" (3 : Nat) ({ cls := "java/lang/StringBuilder", name := "length", desc := "()I" } : Jvm.MethodName)) ∈ lw_all := lw_g (lw_at lw_m2 103 rfl) rfl
theorem q385 : (Jvm.Cond.methodLink "ReplicaDocument" (94 : Nat) ({ cls := "java/lang/StringBuilder", name := "setCharAt", desc := "(IC)V" } : Jvm.MethodName)) ∈ lw_all := lw_g (lw_at lw_m2 110 rfl) rfl
theorem q393 : (Jvm.Cond.classLink "ReplicaDocument" (98 : Nat) "ReplicaDocument$Op") ∈ lw_all := lw_g (lw_at lw_m2 118 rfl) rfl
theorem q395 : (Jvm.Cond.methodLink "ReplicaDocument" (100 : Nat) ({ cls := "java/lang/StringBuilder", name := "toString", desc := "()Ljava/lang/String;" } : Jvm.MethodName)) ∈ lw_all := lw_g (lw_at lw_m2 120 rfl) rfl
theorem q445 : (Jvm.Cond.methodLinkNest "ReplicaDocument" (104 : Nat) ({ cls := "ReplicaDocument$Op", name := "<init>", desc := "(Ljava/lang/String;)V" } : Jvm.MethodName) "ReplicaDocument") ∈ lw_tbl := lw_at lw_m2 170 rfl
theorem q456 : (Jvm.Cond.methodLink "ReplicaDocument" (107 : Nat) ({ cls := "ReplicaDocument$Replica", name := "apply", desc := "(LReplicaDocument$Op;)V" } : Jvm.MethodName)) ∈ lw_all := lw_g (lw_at lw_m2 181 rfl) rfl
theorem q477 : (Jvm.Cond.fieldLinkNest "ReplicaDocument" (152 : Nat) "ReplicaDocument$Item" "op" "LReplicaDocument$Op;" "ReplicaDocument") ∈ lw_tbl := lw_at lw_m2 202 rfl
theorem q480 : (Jvm.Cond.fieldLinkNest "ReplicaDocument" (163 : Nat) "ReplicaDocument$Item" "past" "I" "ReplicaDocument") ∈ lw_tbl := lw_at lw_m2 205 rfl
theorem q487 : (Jvm.Cond.fieldLinkNest "ReplicaDocument" (30 : Nat) "ReplicaDocument$Item" "home" "LReplicaDocument$Node;" "ReplicaDocument") ∈ lw_tbl := lw_at lw_m2 212 rfl
theorem q491 : (Jvm.Cond.fieldLinkNest "ReplicaDocument" (24 : Nat) "ReplicaDocument$Item" "shown" "Z" "ReplicaDocument") ∈ lw_tbl := lw_at lw_m2 216 rfl
theorem q493 : (Jvm.Cond.fieldLinkNest "ReplicaDocument" (91 : Nat) "ReplicaDocument$Item" "followed" "Z" "ReplicaDocument") ∈ lw_tbl := lw_at lw_m2 218 rfl
theorem q497 : (Jvm.Cond.fieldLinkNest "ReplicaDocument" (177 : Nat) "ReplicaDocument$Item" "next" "LReplicaDocument$Item;" "ReplicaDocument") ∈ lw_tbl := lw_at lw_m2 222 rfl
theorem q522 : (Jvm.Cond.fieldLinkNest "ReplicaDocument" (183 : Nat) "ReplicaDocument$ListNode" "first" "LReplicaDocument$Item;" "ReplicaDocument") ∈ lw_tbl := lw_at lw_m3 7 rfl
theorem q560 : (Jvm.Cond.selects "ReplicaDocument" ({ cls := "java/lang/Object", name := "getClass", desc := "()Ljava/lang/Class;" } : Jvm.MethodName) ({ cls := "java/lang/Object", name := "getClass", desc := "()Ljava/lang/Class;" } : Jvm.MethodName)) ∈ lw_all := lw_g (lw_at lw_m3 45 rfl) rfl
theorem q597 : (Jvm.Cond.methodLink "ReplicaDocument" (111 : Nat) ({ cls := "ReplicaDocument$Replica", name := "settle", desc := "()I" } : Jvm.MethodName)) ∈ lw_all := lw_g (lw_at lw_m3 82 rfl) rfl
theorem q621 : (Jvm.Cond.instanceMethod ({ cls := "ReplicaDocument", name := "emit", desc := "(II)I" } : Jvm.MethodName)) ∈ lw_all := lw_g (lw_at lw_m3 106 rfl) rfl
theorem q622 : (Jvm.Cond.selects "ReplicaDocument" ({ cls := "ReplicaDocument", name := "emit", desc := "(II)I" } : Jvm.MethodName) ({ cls := "ReplicaDocument", name := "emit", desc := "(II)I" } : Jvm.MethodName)) ∈ lw_all := lw_g (lw_at lw_m3 107 rfl) rfl
theorem q623 : (Jvm.Cond.code ({ cls := "ReplicaDocument", name := "emit", desc := "(II)I" } : Jvm.MethodName) prog_1_method_9_code (5 : Nat) (Option.some Jvm.ClassFile.FieldType.int)) ∈ lw_all := lw_g (lw_at lw_m3 108 rfl) rfl
theorem q624 : (Jvm.Cond.methodLink "ReplicaDocument" (114 : Nat) ({ cls := "ReplicaDocument$Replica", name := "held", desc := "(I)LReplicaDocument$Op;" } : Jvm.MethodName)) ∈ lw_all := lw_g (lw_at lw_m3 109 rfl) rfl
theorem q628 : (Jvm.Cond.methodLink "ReplicaDocument" (118 : Nat) ({ cls := "ReplicaDocument$Op", name := "bytes", desc := "()Ljava/lang/String;" } : Jvm.MethodName)) ∈ lw_all := lw_g (lw_at lw_m3 113 rfl) rfl
theorem q632 : (Jvm.Cond.methodLink "ReplicaDocument" (121 : Nat) ({ cls := "java/lang/StringBuilder", name := "append", desc := "(Ljava/lang/String;)Ljava/lang/StringBuilder;" } : Jvm.MethodName)) ∈ lw_all := lw_g (lw_at lw_m3 117 rfl) rfl
theorem q679 : (Jvm.Cond.instanceMethod ({ cls := "ReplicaDocument", name := "wire", desc := "(I)I" } : Jvm.MethodName)) ∈ lw_all := lw_g (lw_at lw_m3 164 rfl) rfl
theorem q680 : (Jvm.Cond.selects "ReplicaDocument" ({ cls := "ReplicaDocument", name := "wire", desc := "(I)I" } : Jvm.MethodName) ({ cls := "ReplicaDocument", name := "wire", desc := "(I)I" } : Jvm.MethodName)) ∈ lw_all := lw_g (lw_at lw_m3 165 rfl) rfl
theorem q681 : (Jvm.Cond.code ({ cls := "ReplicaDocument", name := "wire", desc := "(I)I" } : Jvm.MethodName) prog_1_method_10_code (2 : Nat) (Option.some Jvm.ClassFile.FieldType.int)) ∈ lw_all := lw_g (lw_at lw_m3 166 rfl) rfl
theorem q682 : (Jvm.Cond.methodLink "ReplicaDocument" (9 : Nat) ({ cls := "java/lang/StringBuilder", name := "charAt", desc := "(I)C" } : Jvm.MethodName)) ∈ lw_all := lw_g (lw_at lw_m3 167 rfl) rfl
theorem q692 : (Jvm.Cond.instanceMethod ({ cls := "ReplicaDocument", name := "alter", desc := "(II)Z" } : Jvm.MethodName)) ∈ lw_all := lw_g (lw_at lw_m3 177 rfl) rfl
theorem q693 : (Jvm.Cond.selects "ReplicaDocument" ({ cls := "ReplicaDocument", name := "alter", desc := "(II)Z" } : Jvm.MethodName) ({ cls := "ReplicaDocument", name := "alter", desc := "(II)Z" } : Jvm.MethodName)) ∈ lw_all := lw_g (lw_at lw_m3 178 rfl) rfl
theorem q694 : (Jvm.Cond.code ({ cls := "ReplicaDocument", name := "alter", desc := "(II)Z" } : Jvm.MethodName) prog_1_method_11_code (3 : Nat) (Option.some Jvm.ClassFile.FieldType.boolean)) ∈ lw_all := lw_g (lw_at lw_m3 179 rfl) rfl
theorem q696 : (Jvm.Cond.instanceMethod ({ cls := "ReplicaDocument", name := "cut", desc := "(I)Z" } : Jvm.MethodName)) ∈ lw_all := lw_g (lw_at lw_m3 181 rfl) rfl
theorem q697 : (Jvm.Cond.selects "ReplicaDocument" ({ cls := "ReplicaDocument", name := "cut", desc := "(I)Z" } : Jvm.MethodName) ({ cls := "ReplicaDocument", name := "cut", desc := "(I)Z" } : Jvm.MethodName)) ∈ lw_all := lw_g (lw_at lw_m3 182 rfl) rfl
theorem q698 : (Jvm.Cond.code ({ cls := "ReplicaDocument", name := "cut", desc := "(I)Z" } : Jvm.MethodName) prog_1_method_12_code (2 : Nat) (Option.some Jvm.ClassFile.FieldType.boolean)) ∈ lw_all := lw_g (lw_at lw_m3 183 rfl) rfl
theorem q700 : (Jvm.Cond.instanceMethod ({ cls := "ReplicaDocument", name := "receive", desc := "(I)I" } : Jvm.MethodName)) ∈ lw_all := lw_g (lw_at lw_m3 185 rfl) rfl
theorem q701 : (Jvm.Cond.selects "ReplicaDocument" ({ cls := "ReplicaDocument", name := "receive", desc := "(I)I" } : Jvm.MethodName) ({ cls := "ReplicaDocument", name := "receive", desc := "(I)I" } : Jvm.MethodName)) ∈ lw_all := lw_g (lw_at lw_m3 186 rfl) rfl
theorem q702 : (Jvm.Cond.code ({ cls := "ReplicaDocument", name := "receive", desc := "(I)I" } : Jvm.MethodName) prog_1_method_14_code (5 : Nat) (Option.some Jvm.ClassFile.FieldType.int)) ∈ lw_all := lw_g (lw_at lw_m3 187 rfl) rfl
theorem q703 : (Jvm.Cond.methodLink "ReplicaDocument" (124 : Nat) ({ cls := "ReplicaDocument", name := "wellFormed", desc := "(Ljava/lang/StringBuilder;)Z" } : Jvm.MethodName)) ∈ lw_all := lw_g (lw_at lw_m3 188 rfl) rfl
theorem q704 : (Jvm.Cond.static ({ cls := "ReplicaDocument", name := "wellFormed", desc := "(Ljava/lang/StringBuilder;)Z" } : Jvm.MethodName)) ∈ lw_all := lw_g (lw_at lw_m3 189 rfl) rfl
theorem q705 : (Jvm.Cond.code ({ cls := "ReplicaDocument", name := "wellFormed", desc := "(Ljava/lang/StringBuilder;)Z" } : Jvm.MethodName) prog_1_method_3_code (4 : Nat) (Option.some Jvm.ClassFile.FieldType.boolean)) ∈ lw_all := lw_g (lw_at lw_m3 190 rfl) rfl
theorem q706 : (Jvm.Cond.methodLink "ReplicaDocument" (128 : Nat) ({ cls := "ReplicaDocument$Op", name := "isOnWire", desc := "(Ljava/lang/StringBuilder;)Z" } : Jvm.MethodName)) ∈ lw_all := lw_g (lw_at lw_m3 191 rfl) rfl
theorem q713 : (Jvm.Cond.methodLink "ReplicaDocument" (131 : Nat) ({ cls := "ReplicaDocument", name := "says", desc := "(I)Z" } : Jvm.MethodName)) ∈ lw_all := lw_g (lw_at lw_m3 198 rfl) rfl
theorem q714 : (Jvm.Cond.privateMethod ({ cls := "ReplicaDocument", name := "says", desc := "(I)Z" } : Jvm.MethodName)) ∈ lw_tbl := lw_at lw_m3 199 rfl
theorem q715 : (Jvm.Cond.instanceMethod ({ cls := "ReplicaDocument", name := "says", desc := "(I)Z" } : Jvm.MethodName)) ∈ lw_all := lw_g (lw_at lw_m3 200 rfl) rfl
theorem q716 : (Jvm.Cond.code ({ cls := "ReplicaDocument", name := "says", desc := "(I)Z" } : Jvm.MethodName) prog_1_method_13_code (4 : Nat) (Option.some Jvm.ClassFile.FieldType.boolean)) ∈ lw_all := lw_g (lw_at lw_m3 201 rfl) rfl
theorem q717 : (Jvm.Cond.methodLink "ReplicaDocument" (138 : Nat) ({ cls := "java/util/ArrayList", name := "add", desc := "(Ljava/lang/Object;)Z" } : Jvm.MethodName)) ∈ lw_all := lw_g (lw_at lw_m3 202 rfl) rfl
theorem q719 : (Jvm.Cond.instanceMethod ({ cls := "ReplicaDocument", name := "held", desc := "(I)I" } : Jvm.MethodName)) ∈ lw_all := lw_g (lw_at lw_m3 204 rfl) rfl
theorem q720 : (Jvm.Cond.selects "ReplicaDocument" ({ cls := "ReplicaDocument", name := "held", desc := "(I)I" } : Jvm.MethodName) ({ cls := "ReplicaDocument", name := "held", desc := "(I)I" } : Jvm.MethodName)) ∈ lw_all := lw_g (lw_at lw_m3 205 rfl) rfl
theorem q721 : (Jvm.Cond.code ({ cls := "ReplicaDocument", name := "held", desc := "(I)I" } : Jvm.MethodName) prog_1_method_15_code (3 : Nat) (Option.some Jvm.ClassFile.FieldType.int)) ∈ lw_all := lw_g (lw_at lw_m3 206 rfl) rfl
theorem q723 : (Jvm.Cond.instanceMethod ({ cls := "ReplicaDocument", name := "log", desc := "(II)I" } : Jvm.MethodName)) ∈ lw_all := lw_g (lw_at lw_m3 208 rfl) rfl
theorem q724 : (Jvm.Cond.selects "ReplicaDocument" ({ cls := "ReplicaDocument", name := "log", desc := "(II)I" } : Jvm.MethodName) ({ cls := "ReplicaDocument", name := "log", desc := "(II)I" } : Jvm.MethodName)) ∈ lw_all := lw_g (lw_at lw_m3 209 rfl) rfl
theorem q725 : (Jvm.Cond.code ({ cls := "ReplicaDocument", name := "log", desc := "(II)I" } : Jvm.MethodName) prog_1_method_16_code (4 : Nat) (Option.some Jvm.ClassFile.FieldType.int)) ∈ lw_all := lw_g (lw_at lw_m3 210 rfl) rfl
theorem q726 : (Jvm.Cond.methodLink "ReplicaDocument" (147 : Nat) ({ cls := "java/util/ArrayList", name := "size", desc := "()I" } : Jvm.MethodName)) ∈ lw_all := lw_g (lw_at lw_m3 211 rfl) rfl
theorem q727 : (Jvm.Cond.methodLink "ReplicaDocument" (148 : Nat) ({ cls := "java/util/ArrayList", name := "get", desc := "(I)Ljava/lang/Object;" } : Jvm.MethodName)) ∈ lw_all := lw_g (lw_at lw_m3 212 rfl) rfl
theorem q728 : (Jvm.Cond.classLink "ReplicaDocument" (25 : Nat) "ReplicaDocument$Item") ∈ lw_all := lw_g (lw_at lw_m3 213 rfl) rfl
theorem q729 : (Jvm.Cond.methodLink "ReplicaDocument" (156 : Nat) ({ cls := "ReplicaDocument$Op", name := "id", desc := "()I" } : Jvm.MethodName)) ∈ lw_all := lw_g (lw_at lw_m3 214 rfl) rfl
theorem q731 : (Jvm.Cond.instanceMethod ({ cls := "ReplicaDocument", name := "past", desc := "(III)Z" } : Jvm.MethodName)) ∈ lw_all := lw_g (lw_at lw_m3 216 rfl) rfl
theorem q732 : (Jvm.Cond.selects "ReplicaDocument" ({ cls := "ReplicaDocument", name := "past", desc := "(III)Z" } : Jvm.MethodName) ({ cls := "ReplicaDocument", name := "past", desc := "(III)Z" } : Jvm.MethodName)) ∈ lw_all := lw_g (lw_at lw_m3 217 rfl) rfl
theorem q733 : (Jvm.Cond.code ({ cls := "ReplicaDocument", name := "past", desc := "(III)Z" } : Jvm.MethodName) prog_1_method_17_code (7 : Nat) (Option.some Jvm.ClassFile.FieldType.boolean)) ∈ lw_all := lw_g (lw_at lw_m3 218 rfl) rfl
theorem q734 : (Jvm.Cond.methodLink "ReplicaDocument" (159 : Nat) ({ cls := "ReplicaDocument$Replica", name := "place", desc := "(I)I" } : Jvm.MethodName)) ∈ lw_all := lw_g (lw_at lw_m3 219 rfl) rfl
theorem q736 : (Jvm.Cond.instanceMethod ({ cls := "ReplicaDocument", name := "heads", desc := "(I)I" } : Jvm.MethodName)) ∈ lw_all := lw_g (lw_at lw_m3 221 rfl) rfl
theorem q737 : (Jvm.Cond.selects "ReplicaDocument" ({ cls := "ReplicaDocument", name := "heads", desc := "(I)I" } : Jvm.MethodName) ({ cls := "ReplicaDocument", name := "heads", desc := "(I)I" } : Jvm.MethodName)) ∈ lw_all := lw_g (lw_at lw_m3 222 rfl) rfl
theorem q738 : (Jvm.Cond.code ({ cls := "ReplicaDocument", name := "heads", desc := "(I)I" } : Jvm.MethodName) prog_1_method_18_code (5 : Nat) (Option.some Jvm.ClassFile.FieldType.int)) ∈ lw_all := lw_g (lw_at lw_m3 223 rfl) rfl
theorem q740 : (Jvm.Cond.instanceMethod ({ cls := "ReplicaDocument", name := "entry", desc := "(IIII)I" } : Jvm.MethodName)) ∈ lw_all := lw_g (lw_at lw_m3 225 rfl) rfl
theorem q741 : (Jvm.Cond.selects "ReplicaDocument" ({ cls := "ReplicaDocument", name := "entry", desc := "(IIII)I" } : Jvm.MethodName) ({ cls := "ReplicaDocument", name := "entry", desc := "(IIII)I" } : Jvm.MethodName)) ∈ lw_all := lw_g (lw_at lw_m3 226 rfl) rfl
theorem q742 : (Jvm.Cond.code ({ cls := "ReplicaDocument", name := "entry", desc := "(IIII)I" } : Jvm.MethodName) prog_1_method_19_code (9 : Nat) (Option.some Jvm.ClassFile.FieldType.int)) ∈ lw_all := lw_g (lw_at lw_m3 227 rfl) rfl
theorem q743 : (Jvm.Cond.methodLink "ReplicaDocument" (167 : Nat) ({ cls := "ReplicaDocument$Replica", name := "node", desc := "(I)LReplicaDocument$Node;" } : Jvm.MethodName)) ∈ lw_all := lw_g (lw_at lw_m3 228 rfl) rfl
theorem q744 : (Jvm.Cond.classLink "ReplicaDocument" (171 : Nat) "ReplicaDocument$MapNode") ∈ lw_all := lw_g (lw_at lw_m3 229 rfl) rfl
theorem q746 : (Jvm.Cond.instanceMethod ({ cls := "ReplicaDocument", name := "element", desc := "(III)I" } : Jvm.MethodName)) ∈ lw_all := lw_g (lw_at lw_m3 231 rfl) rfl
theorem q747 : (Jvm.Cond.selects "ReplicaDocument" ({ cls := "ReplicaDocument", name := "element", desc := "(III)I" } : Jvm.MethodName) ({ cls := "ReplicaDocument", name := "element", desc := "(III)I" } : Jvm.MethodName)) ∈ lw_all := lw_g (lw_at lw_m3 232 rfl) rfl
theorem q748 : (Jvm.Cond.code ({ cls := "ReplicaDocument", name := "element", desc := "(III)I" } : Jvm.MethodName) prog_1_method_20_code (8 : Nat) (Option.some Jvm.ClassFile.FieldType.int)) ∈ lw_all := lw_g (lw_at lw_m3 233 rfl) rfl
theorem q749 : (Jvm.Cond.classLink "ReplicaDocument" (181 : Nat) "ReplicaDocument$ListNode") ∈ lw_all := lw_g (lw_at lw_m3 234 rfl) rfl
theorem q751 : (Jvm.Cond.instanceMethod ({ cls := "ReplicaDocument", name := "value", desc := "(II)I" } : Jvm.MethodName)) ∈ lw_all := lw_g (lw_at lw_m3 236 rfl) rfl
theorem q752 : (Jvm.Cond.selects "ReplicaDocument" ({ cls := "ReplicaDocument", name := "value", desc := "(II)I" } : Jvm.MethodName) ({ cls := "ReplicaDocument", name := "value", desc := "(II)I" } : Jvm.MethodName)) ∈ lw_all := lw_g (lw_at lw_m3 237 rfl) rfl
theorem q753 : (Jvm.Cond.code ({ cls := "ReplicaDocument", name := "value", desc := "(II)I" } : Jvm.MethodName) prog_1_method_21_code (5 : Nat) (Option.some Jvm.ClassFile.FieldType.int)) ∈ lw_all := lw_g (lw_at lw_m3 238 rfl) rfl
theorem q754 : (Jvm.Cond.methodLink "ReplicaDocument" (186 : Nat) ({ cls := "ReplicaDocument$Op", name := "value", desc := "()I" } : Jvm.MethodName)) ∈ lw_all := lw_g (lw_at lw_m3 239 rfl) rfl
theorem q759 : (Jvm.Cond.instanceMethod ({ cls := "ReplicaDocument", name := "depth", desc := "(II)I" } : Jvm.MethodName)) ∈ lw_all := lw_g (lw_at lw_m4 4 rfl) rfl
theorem q760 : (Jvm.Cond.selects "ReplicaDocument" ({ cls := "ReplicaDocument", name := "depth", desc := "(II)I" } : Jvm.MethodName) ({ cls := "ReplicaDocument", name := "depth", desc := "(II)I" } : Jvm.MethodName)) ∈ lw_all := lw_g (lw_at lw_m4 5 rfl) rfl
theorem q761 : (Jvm.Cond.code ({ cls := "ReplicaDocument", name := "depth", desc := "(II)I" } : Jvm.MethodName) prog_1_method_22_code (5 : Nat) (Option.some Jvm.ClassFile.FieldType.int)) ∈ lw_all := lw_g (lw_at lw_m4 6 rfl) rfl
theorem q762 : (Jvm.Cond.methodLink "ReplicaDocument" (40 : Nat) ({ cls := "ReplicaDocument", name := "stands", desc := "(LReplicaDocument$Item;I)I" } : Jvm.MethodName)) ∈ lw_all := lw_g (lw_at lw_m4 7 rfl) rfl
theorem q763 : (Jvm.Cond.static ({ cls := "ReplicaDocument", name := "stands", desc := "(LReplicaDocument$Item;I)I" } : Jvm.MethodName)) ∈ lw_all := lw_g (lw_at lw_m4 8 rfl) rfl
theorem q764 : (Jvm.Cond.code ({ cls := "ReplicaDocument", name := "stands", desc := "(LReplicaDocument$Item;I)I" } : Jvm.MethodName) prog_1_method_5_code (3 : Nat) (Option.some Jvm.ClassFile.FieldType.int)) ∈ lw_all := lw_g (lw_at lw_m4 9 rfl) rfl
theorem q765 : (Jvm.Cond.interfaceEntry "ReplicaDocument" (34 : Nat)) ∈ lw_tbl := lw_at lw_m4 10 rfl
theorem q766 : (Jvm.Cond.methodLink "ReplicaDocument" (34 : Nat) ({ cls := "ReplicaDocument$Node", name := "maker", desc := "()LReplicaDocument$Item;" } : Jvm.MethodName)) ∈ lw_all := lw_g (lw_at lw_m4 11 rfl) rfl
theorem q782 : (Jvm.Cond.instanceMethod ({ cls := "ReplicaDocument", name := "sum", desc := "(I)I" } : Jvm.MethodName)) ∈ lw_all := lw_g (lw_at lw_m4 27 rfl) rfl
theorem q783 : (Jvm.Cond.selects "ReplicaDocument" ({ cls := "ReplicaDocument", name := "sum", desc := "(I)I" } : Jvm.MethodName) ({ cls := "ReplicaDocument", name := "sum", desc := "(I)I" } : Jvm.MethodName)) ∈ lw_all := lw_g (lw_at lw_m4 28 rfl) rfl
theorem q784 : (Jvm.Cond.code ({ cls := "ReplicaDocument", name := "sum", desc := "(I)I" } : Jvm.MethodName) prog_1_method_23_code (3 : Nat) (Option.some Jvm.ClassFile.FieldType.int)) ∈ lw_all := lw_g (lw_at lw_m4 29 rfl) rfl
theorem q785 : (Jvm.Cond.methodLink "ReplicaDocument" (193 : Nat) ({ cls := "ReplicaDocument$MapNode", name := "sum", desc := "(I)I" } : Jvm.MethodName)) ∈ lw_all := lw_g (lw_at lw_m4 30 rfl) rfl
theorem q804 : (Jvm.Cond.instanceMethod ({ cls := "ReplicaDocument", name := "level", desc := "(II)Z" } : Jvm.MethodName)) ∈ lw_all := lw_g (lw_at lw_m4 49 rfl) rfl
theorem q805 : (Jvm.Cond.selects "ReplicaDocument" ({ cls := "ReplicaDocument", name := "level", desc := "(II)Z" } : Jvm.MethodName) ({ cls := "ReplicaDocument", name := "level", desc := "(II)Z" } : Jvm.MethodName)) ∈ lw_all := lw_g (lw_at lw_m4 50 rfl) rfl
theorem q806 : (Jvm.Cond.code ({ cls := "ReplicaDocument", name := "level", desc := "(II)Z" } : Jvm.MethodName) prog_1_method_24_code (8 : Nat) (Option.some Jvm.ClassFile.FieldType.boolean)) ∈ lw_all := lw_g (lw_at lw_m4 51 rfl) rfl
theorem q807 : (Jvm.Cond.methodLink "ReplicaDocument" (196 : Nat) ({ cls := "java/lang/String", name := "equals", desc := "(Ljava/lang/Object;)Z" } : Jvm.MethodName)) ∈ lw_all := lw_g (lw_at lw_m4 52 rfl) rfl
theorem q1049 : (Jvm.Cond.castable "ReplicaDocument" "java/lang/Object") ∈ lw_tbl := lw_at lw_m5 54 rfl
theorem in_X0 : ∀ w ∈ wsX00, w ∈ lw_all := lw_in wsX00 [164, 166, 168] (by decide +kernel) (by decide +kernel)

