theorem d_M_readParameter_175 : decode b_M_readParameter 175 = .ok (.iadd, 1) := by decide +kernel
theorem d_M_readParameter_176 : decode b_M_readParameter 176 = .ok (.aload_n 0, 1) := by decide +kernel
theorem d_M_readParameter_177 : decode b_M_readParameter 177 = .ok (.getfield 83, 3) := by decide +kernel
theorem d_M_readParameter_180 : decode b_M_readParameter 180 = .ok (.ifCond .le 7, 3) := by decide +kernel
theorem d_M_readParameter_183 : decode b_M_readParameter 183 = .ok (.iconst 0, 1) := by decide +kernel
theorem d_M_readParameter_184 : decode b_M_readParameter 184 = .ok (.goto 7, 3) := by decide +kernel
theorem d_M_readParameter_187 : decode b_M_readParameter 187 = .ok (.aload_n 0, 1) := by decide +kernel
theorem d_M_readParameter_188 : decode b_M_readParameter 188 = .ok (.invokevirtual 189, 3) := by decide +kernel
theorem d_M_readParameter_191 : decode b_M_readParameter 191 = .ok (.iastore, 1) := by decide +kernel
theorem d_M_readParameter_192 : decode b_M_readParameter 192 = .ok (.aload_n 0, 1) := by decide +kernel
theorem d_M_readParameter_193 : decode b_M_readParameter 193 = .ok (.getfield 24, 3) := by decide +kernel
theorem d_M_readParameter_196 : decode b_M_readParameter 196 = .ok (.iload_n 1, 1) := by decide +kernel
theorem d_M_readParameter_197 : decode b_M_readParameter 197 = .ok (.dup2, 1) := by decide +kernel
theorem d_M_readParameter_198 : decode b_M_readParameter 198 = .ok (.iaload, 1) := by decide +kernel
theorem d_M_readParameter_199 : decode b_M_readParameter 199 = .ok (.iconst 1, 1) := by decide +kernel
theorem d_M_readParameter_200 : decode b_M_readParameter 200 = .ok (.iadd, 1) := by decide +kernel
theorem d_M_readParameter_201 : decode b_M_readParameter 201 = .ok (.iastore, 1) := by decide +kernel
theorem d_M_readParameter_202 : decode b_M_readParameter 202 = .ok (.aload_n 0, 1) := by decide +kernel
theorem d_M_readParameter_203 : decode b_M_readParameter 203 = .ok (.getfield 83, 3) := by decide +kernel
theorem d_M_readParameter_206 : decode b_M_readParameter 206 = .ok (.ifCond .ne 25, 3) := by decide +kernel
theorem d_M_readParameter_209 : decode b_M_readParameter 209 = .ok (.aload_n 0, 1) := by decide +kernel
theorem d_M_readParameter_210 : decode b_M_readParameter 210 = .ok (.invokevirtual 232, 3) := by decide +kernel
theorem d_M_readParameter_213 : decode b_M_readParameter 213 = .ok (.aload_n 0, 1) := by decide +kernel
theorem d_M_readParameter_214 : decode b_M_readParameter 214 = .ok (.aload_n 0, 1) := by decide +kernel
theorem d_M_readParameter_215 : decode b_M_readParameter 215 = .ok (.getfield 99, 3) := by decide +kernel
theorem d_M_readParameter_218 : decode b_M_readParameter 218 = .ok (.iconst 1, 1) := by decide +kernel
theorem d_M_readParameter_219 : decode b_M_readParameter 219 = .ok (.if_icmp .ne 7, 3) := by decide +kernel
theorem d_M_readParameter_222 : decode b_M_readParameter 222 = .ok (.iconst 1, 1) := by decide +kernel
theorem d_M_readParameter_223 : decode b_M_readParameter 223 = .ok (.goto 4, 3) := by decide +kernel
theorem d_M_readParameter_226 : decode b_M_readParameter 226 = .ok (.iconst 0, 1) := by decide +kernel
theorem d_M_readParameter_227 : decode b_M_readParameter 227 = .ok (.invokevirtual 213, 3) := by decide +kernel
theorem d_M_readParameter_230 : decode b_M_readParameter 230 = .ok (.pop, 1) := by decide +kernel
theorem d_M_readParameter_231 : decode b_M_readParameter 231 = .ok (.return_, 1) := by decide +kernel
theorem d_M_expression_0 : decode b_M_expression 0 = .ok (.aload_n 0, 1) := by decide +kernel
theorem d_M_expression_1 : decode b_M_expression 1 = .ok (.iconst 0, 1) := by decide +kernel
theorem d_M_expression_2 : decode b_M_expression 2 = .ok (.putfield 204, 3) := by decide +kernel
theorem d_M_expression_5 : decode b_M_expression 5 = .ok (.aload_n 0, 1) := by decide +kernel
theorem d_M_expression_6 : decode b_M_expression 6 = .ok (.iload_n 1, 1) := by decide +kernel
theorem d_M_expression_7 : decode b_M_expression 7 = .ok (.ifCond .eq 7, 3) := by decide +kernel
theorem d_M_expression_10 : decode b_M_expression 10 = .ok (.iconst 1, 1) := by decide +kernel
theorem d_M_expression_11 : decode b_M_expression 11 = .ok (.goto 4, 3) := by decide +kernel
theorem d_M_expression_14 : decode b_M_expression 14 = .ok (.iconst 2, 1) := by decide +kernel
theorem d_M_expression_15 : decode b_M_expression 15 = .ok (.iconst (-1), 1) := by decide +kernel
theorem d_M_expression_16 : decode b_M_expression 16 = .ok (.invokevirtual 217, 3) := by decide +kernel
theorem d_M_expression_19 : decode b_M_expression 19 = .ok (.aload_n 0, 1) := by decide +kernel
theorem d_M_expression_20 : decode b_M_expression 20 = .ok (.getfield 204, 3) := by decide +kernel
theorem d_M_expression_23 : decode b_M_expression 23 = .ok (.ifCond .le 56, 3) := by decide +kernel
theorem d_M_expression_26 : decode b_M_expression 26 = .ok (.aload_n 0, 1) := by decide +kernel
theorem d_M_expression_27 : decode b_M_expression 27 = .ok (.getfield 83, 3) := by decide +kernel
theorem d_M_expression_30 : decode b_M_expression 30 = .ok (.ifCond .ne 49, 3) := by decide +kernel
theorem d_M_expression_33 : decode b_M_expression 33 = .ok (.aload_n 0, 1) := by decide +kernel
theorem d_M_expression_34 : decode b_M_expression 34 = .ok (.getfield 71, 3) := by decide +kernel
theorem d_M_expression_37 : decode b_M_expression 37 = .ok (.aload_n 0, 1) := by decide +kernel
theorem d_M_expression_38 : decode b_M_expression 38 = .ok (.getfield 204, 3) := by decide +kernel
theorem d_M_expression_41 : decode b_M_expression 41 = .ok (.iconst 1, 1) := by decide +kernel
theorem d_M_expression_42 : decode b_M_expression 42 = .ok (.isub, 1) := by decide +kernel
theorem d_M_expression_43 : decode b_M_expression 43 = .ok (.baload, 1) := by decide +kernel
theorem d_M_expression_44 : decode b_M_expression 44 = .ok (.bipush 10, 2) := by decide +kernel
theorem d_M_expression_46 : decode b_M_expression 46 = .ok (.if_icmp .ne 26, 3) := by decide +kernel
theorem d_M_expression_49 : decode b_M_expression 49 = .ok (.aload_n 0, 1) := by decide +kernel
theorem d_M_expression_50 : decode b_M_expression 50 = .ok (.dup, 1) := by decide +kernel
theorem d_M_expression_51 : decode b_M_expression 51 = .ok (.getfield 204, 3) := by decide +kernel
theorem d_M_expression_54 : decode b_M_expression 54 = .ok (.iconst 1, 1) := by decide +kernel
theorem d_M_expression_55 : decode b_M_expression 55 = .ok (.isub, 1) := by decide +kernel
theorem d_M_expression_56 : decode b_M_expression 56 = .ok (.putfield 204, 3) := by decide +kernel
theorem d_M_expression_59 : decode b_M_expression 59 = .ok (.aload_n 0, 1) := by decide +kernel
theorem d_M_expression_60 : decode b_M_expression 60 = .ok (.dup, 1) := by decide +kernel
theorem d_M_expression_61 : decode b_M_expression 61 = .ok (.getfield 210, 3) := by decide +kernel
theorem d_M_expression_64 : decode b_M_expression 64 = .ok (.iconst 1, 1) := by decide +kernel
theorem d_M_expression_65 : decode b_M_expression 65 = .ok (.iadd, 1) := by decide +kernel
theorem d_M_expression_66 : decode b_M_expression 66 = .ok (.putfield 210, 3) := by decide +kernel
theorem d_M_expression_69 : decode b_M_expression 69 = .ok (.goto (-50), 3) := by decide +kernel
theorem d_M_expression_72 : decode b_M_expression 72 = .ok (.aload_n 0, 1) := by decide +kernel
theorem d_M_expression_73 : decode b_M_expression 73 = .ok (.invokevirtual 248, 3) := by decide +kernel
theorem d_M_expression_76 : decode b_M_expression 76 = .ok (.goto (-57), 3) := by decide +kernel
theorem d_M_expression_79 : decode b_M_expression 79 = .ok (.return_, 1) := by decide +kernel
theorem d_M_push_0 : decode b_M_push 0 = .ok (.aload_n 0, 1) := by decide +kernel
theorem d_M_push_1 : decode b_M_push 1 = .ok (.getfield 71, 3) := by decide +kernel
theorem d_M_push_4 : decode b_M_push 4 = .ok (.aload_n 0, 1) := by decide +kernel
theorem d_M_push_5 : decode b_M_push 5 = .ok (.getfield 204, 3) := by decide +kernel
theorem d_M_push_8 : decode b_M_push 8 = .ok (.iload_n 1, 1) := by decide +kernel
theorem d_M_push_9 : decode b_M_push 9 = .ok (.i2b, 1) := by decide +kernel
theorem d_M_push_10 : decode b_M_push 10 = .ok (.bastore, 1) := by decide +kernel
theorem d_M_push_11 : decode b_M_push 11 = .ok (.aload_n 0, 1) := by decide +kernel
theorem d_M_push_12 : decode b_M_push 12 = .ok (.getfield 74, 3) := by decide +kernel
theorem d_M_push_15 : decode b_M_push 15 = .ok (.aload_n 0, 1) := by decide +kernel
theorem d_M_push_16 : decode b_M_push 16 = .ok (.getfield 204, 3) := by decide +kernel
theorem d_M_push_19 : decode b_M_push 19 = .ok (.iload_n 2, 1) := by decide +kernel
theorem d_M_push_20 : decode b_M_push 20 = .ok (.iastore, 1) := by decide +kernel
theorem d_M_push_21 : decode b_M_push 21 = .ok (.aload_n 0, 1) := by decide +kernel
theorem d_M_push_22 : decode b_M_push 22 = .ok (.dup, 1) := by decide +kernel
theorem d_M_push_23 : decode b_M_push 23 = .ok (.getfield 204, 3) := by decide +kernel
theorem d_M_push_26 : decode b_M_push 26 = .ok (.iconst 1, 1) := by decide +kernel
theorem d_M_push_27 : decode b_M_push 27 = .ok (.iadd, 1) := by decide +kernel
theorem d_M_push_28 : decode b_M_push 28 = .ok (.putfield 204, 3) := by decide +kernel
theorem d_M_push_31 : decode b_M_push 31 = .ok (.return_, 1) := by decide +kernel
theorem d_M_step_0 : decode b_M_step 0 = .ok (.aload_n 0, 1) := by decide +kernel
theorem d_M_step_1 : decode b_M_step 1 = .ok (.dup, 1) := by decide +kernel
theorem d_M_step_2 : decode b_M_step 2 = .ok (.getfield 204, 3) := by decide +kernel
theorem d_M_step_5 : decode b_M_step 5 = .ok (.iconst 1, 1) := by decide +kernel
theorem d_M_step_6 : decode b_M_step 6 = .ok (.isub, 1) := by decide +kernel
theorem d_M_step_7 : decode b_M_step 7 = .ok (.putfield 204, 3) := by decide +kernel
theorem d_M_step_10 : decode b_M_step 10 = .ok (.aload_n 0, 1) := by decide +kernel
theorem d_M_step_11 : decode b_M_step 11 = .ok (.getfield 71, 3) := by decide +kernel
theorem d_M_step_14 : decode b_M_step 14 = .ok (.aload_n 0, 1) := by decide +kernel
theorem d_M_step_15 : decode b_M_step 15 = .ok (.getfield 204, 3) := by decide +kernel
theorem d_M_step_18 : decode b_M_step 18 = .ok (.baload, 1) := by decide +kernel
theorem d_M_step_19 : decode b_M_step 19 = .ok (.istore_n 1, 1) := by decide +kernel
theorem d_M_step_20 : decode b_M_step 20 = .ok (.aload_n 0, 1) := by decide +kernel
theorem d_M_step_21 : decode b_M_step 21 = .ok (.getfield 74, 3) := by decide +kernel
theorem d_M_step_24 : decode b_M_step 24 = .ok (.aload_n 0, 1) := by decide +kernel
theorem d_M_step_25 : decode b_M_step 25 = .ok (.getfield 204, 3) := by decide +kernel
theorem d_M_step_28 : decode b_M_step 28 = .ok (.iaload, 1) := by decide +kernel
theorem d_M_step_29 : decode b_M_step 29 = .ok (.istore_n 2, 1) := by decide +kernel
theorem d_M_step_30 : decode b_M_step 30 = .ok (.iload_n 1, 1) := by decide +kernel
theorem d_M_step_31 : decode b_M_step 31 = .ok (.bipush 8, 2) := by decide +kernel
theorem d_M_step_33 : decode b_M_step 33 = .ok (.if_icmp .ne 40, 3) := by decide +kernel
theorem d_M_step_36 : decode b_M_step 36 = .ok (.aload_n 0, 1) := by decide +kernel
theorem d_M_step_37 : decode b_M_step 37 = .ok (.dup, 1) := by decide +kernel
theorem d_M_step_38 : decode b_M_step 38 = .ok (.getfield 210, 3) := by decide +kernel
theorem d_M_step_41 : decode b_M_step 41 = .ok (.aload_n 0, 1) := by decide +kernel
theorem d_M_step_42 : decode b_M_step 42 = .ok (.getfield 43, 3) := by decide +kernel
theorem d_M_step_45 : decode b_M_step 45 = .ok (.iload_n 2, 1) := by decide +kernel
theorem d_M_step_46 : decode b_M_step 46 = .ok (.iaload, 1) := by decide +kernel
theorem d_M_step_47 : decode b_M_step 47 = .ok (.bipush 12, 2) := by decide +kernel
theorem d_M_step_49 : decode b_M_step 49 = .ok (.if_icmp .eq 14, 3) := by decide +kernel
theorem d_M_step_52 : decode b_M_step 52 = .ok (.aload_n 0, 1) := by decide +kernel
theorem d_M_step_53 : decode b_M_step 53 = .ok (.getfield 43, 3) := by decide +kernel
theorem d_M_step_56 : decode b_M_step 56 = .ok (.iload_n 2, 1) := by decide +kernel
theorem d_M_step_57 : decode b_M_step 57 = .ok (.iaload, 1) := by decide +kernel
theorem d_M_step_58 : decode b_M_step 58 = .ok (.bipush 22, 2) := by decide +kernel
theorem d_M_step_60 : decode b_M_step 60 = .ok (.if_icmp .ne 7, 3) := by decide +kernel
theorem d_M_step_63 : decode b_M_step 63 = .ok (.iconst 2, 1) := by decide +kernel
theorem d_M_step_64 : decode b_M_step 64 = .ok (.goto 4, 3) := by decide +kernel
theorem d_M_step_67 : decode b_M_step 67 = .ok (.iconst 1, 1) := by decide +kernel
theorem d_M_step_68 : decode b_M_step 68 = .ok (.isub, 1) := by decide +kernel
theorem d_M_step_69 : decode b_M_step 69 = .ok (.putfield 210, 3) := by decide +kernel
theorem d_M_step_72 : decode b_M_step 72 = .ok (.return_, 1) := by decide +kernel
theorem d_M_step_73 : decode b_M_step 73 = .ok (.aload_n 0, 1) := by decide +kernel
theorem d_M_step_74 : decode b_M_step 74 = .ok (.invokevirtual 232, 3) := by decide +kernel
theorem d_M_step_77 : decode b_M_step 77 = .ok (.aload_n 0, 1) := by decide +kernel
theorem d_M_step_78 : decode b_M_step 78 = .ok (.getfield 83, 3) := by decide +kernel
theorem d_M_step_81 : decode b_M_step 81 = .ok (.ifCond .le 4, 3) := by decide +kernel
theorem d_M_step_84 : decode b_M_step 84 = .ok (.return_, 1) := by decide +kernel
theorem d_M_step_85 : decode b_M_step 85 = .ok (.iload_n 1, 1) := by decide +kernel
theorem d_M_step_86 : decode b_M_step 86 = .ok (.tableswitch 251 1 7 #[42, 42, 60, 81, 101, 154, 214], 42) := by decide +kernel
theorem d_M_step_128 : decode b_M_step 128 = .ok (.aload_n 0, 1) := by decide +kernel
theorem d_M_step_129 : decode b_M_step 129 = .ok (.iload_n 1, 1) := by decide +kernel
theorem d_M_step_130 : decode b_M_step 130 = .ok (.iconst 1, 1) := by decide +kernel
theorem d_M_step_131 : decode b_M_step 131 = .ok (.if_icmp .ne 7, 3) := by decide +kernel
theorem d_M_step_134 : decode b_M_step 134 = .ok (.iconst 1, 1) := by decide +kernel
theorem d_M_step_135 : decode b_M_step 135 = .ok (.goto 4, 3) := by decide +kernel
theorem d_M_step_138 : decode b_M_step 138 = .ok (.iconst 0, 1) := by decide +kernel
theorem d_M_step_139 : decode b_M_step 139 = .ok (.iload_n 2, 1) := by decide +kernel
theorem d_M_step_140 : decode b_M_step 140 = .ok (.invokevirtual 238, 3) := by decide +kernel
theorem d_M_step_143 : decode b_M_step 143 = .ok (.goto 210, 3) := by decide +kernel
theorem d_M_step_146 : decode b_M_step 146 = .ok (.aload_n 0, 1) := by decide +kernel
theorem d_M_step_147 : decode b_M_step 147 = .ok (.aload_n 0, 1) := by decide +kernel
theorem d_M_step_148 : decode b_M_step 148 = .ok (.getfield 99, 3) := by decide +kernel
theorem d_M_step_151 : decode b_M_step 151 = .ok (.iconst 1, 1) := by decide +kernel
theorem d_M_step_152 : decode b_M_step 152 = .ok (.if_icmp .ne 7, 3) := by decide +kernel
theorem d_M_step_155 : decode b_M_step 155 = .ok (.iconst 1, 1) := by decide +kernel
theorem d_M_step_156 : decode b_M_step 156 = .ok (.goto 4, 3) := by decide +kernel
theorem d_M_step_159 : decode b_M_step 159 = .ok (.iconst 0, 1) := by decide +kernel
theorem d_M_step_160 : decode b_M_step 160 = .ok (.invokevirtual 213, 3) := by decide +kernel
theorem d_M_step_163 : decode b_M_step 163 = .ok (.pop, 1) := by decide +kernel
theorem d_M_step_164 : decode b_M_step 164 = .ok (.goto 189, 3) := by decide +kernel
theorem d_M_step_167 : decode b_M_step 167 = .ok (.aload_n 0, 1) := by decide +kernel
theorem d_M_step_168 : decode b_M_step 168 = .ok (.aload_n 0, 1) := by decide +kernel
theorem d_M_step_169 : decode b_M_step 169 = .ok (.getfield 99, 3) := by decide +kernel
theorem d_M_step_172 : decode b_M_step 172 = .ok (.ifCond .ne 7, 3) := by decide +kernel
theorem d_M_step_175 : decode b_M_step 175 = .ok (.iconst 1, 1) := by decide +kernel
theorem d_M_step_176 : decode b_M_step 176 = .ok (.goto 4, 3) := by decide +kernel
theorem d_M_step_179 : decode b_M_step 179 = .ok (.iconst 0, 1) := by decide +kernel
theorem d_M_step_180 : decode b_M_step 180 = .ok (.invokevirtual 213, 3) := by decide +kernel
theorem d_M_step_183 : decode b_M_step 183 = .ok (.pop, 1) := by decide +kernel
theorem d_M_step_184 : decode b_M_step 184 = .ok (.goto 169, 3) := by decide +kernel
theorem d_M_step_187 : decode b_M_step 187 = .ok (.aload_n 0, 1) := by decide +kernel
theorem d_M_step_188 : decode b_M_step 188 = .ok (.aload_n 0, 1) := by decide +kernel
theorem d_M_step_189 : decode b_M_step 189 = .ok (.invokevirtual 224, 3) := by decide +kernel
theorem d_M_step_192 : decode b_M_step 192 = .ok (.invokevirtual 213, 3) := by decide +kernel
theorem d_M_step_195 : decode b_M_step 195 = .ok (.ifCond .eq 158, 3) := by decide +kernel
theorem d_M_step_198 : decode b_M_step 198 = .ok (.aload_n 0, 1) := by decide +kernel
theorem d_M_step_199 : decode b_M_step 199 = .ok (.iload_n 2, 1) := by decide +kernel
theorem d_M_step_200 : decode b_M_step 200 = .ok (.invokevirtual 228, 3) := by decide +kernel
theorem d_M_step_203 : decode b_M_step 203 = .ok (.aload_n 0, 1) := by decide +kernel
theorem d_M_step_204 : decode b_M_step 204 = .ok (.getfield 43, 3) := by decide +kernel
theorem d_M_step_207 : decode b_M_step 207 = .ok (.iload_n 2, 1) := by decide +kernel
theorem d_M_step_208 : decode b_M_step 208 = .ok (.iaload, 1) := by decide +kernel
theorem d_M_step_209 : decode b_M_step 209 = .ok (.bipush 11, 2) := by decide +kernel
theorem d_M_step_211 : decode b_M_step 211 = .ok (.if_icmp .eq 14, 3) := by decide +kernel
theorem d_M_step_214 : decode b_M_step 214 = .ok (.aload_n 0, 1) := by decide +kernel
theorem d_M_step_215 : decode b_M_step 215 = .ok (.getfield 43, 3) := by decide +kernel
theorem d_M_step_218 : decode b_M_step 218 = .ok (.iload_n 2, 1) := by decide +kernel
theorem d_M_step_219 : decode b_M_step 219 = .ok (.iaload, 1) := by decide +kernel
theorem d_M_step_220 : decode b_M_step 220 = .ok (.bipush 21, 2) := by decide +kernel
theorem d_M_step_222 : decode b_M_step 222 = .ok (.if_icmp .ne 11, 3) := by decide +kernel
theorem d_M_step_225 : decode b_M_step 225 = .ok (.aload_n 0, 1) := by decide +kernel
theorem d_M_step_226 : decode b_M_step 226 = .ok (.iload_n 2, 1) := by decide +kernel
theorem d_M_step_227 : decode b_M_step 227 = .ok (.invokevirtual 242, 3) := by decide +kernel
theorem d_M_step_230 : decode b_M_step 230 = .ok (.goto 123, 3) := by decide +kernel
theorem d_M_step_233 : decode b_M_step 233 = .ok (.aload_n 0, 1) := by decide +kernel
theorem d_M_step_234 : decode b_M_step 234 = .ok (.invokevirtual 245, 3) := by decide +kernel
theorem d_M_step_237 : decode b_M_step 237 = .ok (.goto 116, 3) := by decide +kernel
theorem d_M_step_240 : decode b_M_step 240 = .ok (.aload_n 0, 1) := by decide +kernel
theorem d_M_step_241 : decode b_M_step 241 = .ok (.aload_n 0, 1) := by decide +kernel
theorem d_M_step_242 : decode b_M_step 242 = .ok (.invokevirtual 224, 3) := by decide +kernel
theorem d_M_step_245 : decode b_M_step 245 = .ok (.ifCond .eq 21, 3) := by decide +kernel
theorem d_M_step_248 : decode b_M_step 248 = .ok (.aload_n 0, 1) := by decide +kernel
theorem d_M_step_249 : decode b_M_step 249 = .ok (.getfield 115, 3) := by decide +kernel
theorem d_M_step_252 : decode b_M_step 252 = .ok (.aload_n 0, 1) := by decide +kernel
theorem d_M_step_253 : decode b_M_step 253 = .ok (.getfield 64, 3) := by decide +kernel
theorem d_M_step_256 : decode b_M_step 256 = .ok (.iload_n 2, 1) := by decide +kernel
theorem d_M_step_257 : decode b_M_step 257 = .ok (.laload, 1) := by decide +kernel
theorem d_M_step_258 : decode b_M_step 258 = .ok (.lcmp, 1) := by decide +kernel
theorem d_M_step_259 : decode b_M_step 259 = .ok (.ifCond .eq 7, 3) := by decide +kernel
theorem d_M_step_262 : decode b_M_step 262 = .ok (.iconst 1, 1) := by decide +kernel
theorem d_M_step_263 : decode b_M_step 263 = .ok (.goto 4, 3) := by decide +kernel
theorem d_M_step_266 : decode b_M_step 266 = .ok (.iconst 0, 1) := by decide +kernel
theorem d_M_step_267 : decode b_M_step 267 = .ok (.invokevirtual 213, 3) := by decide +kernel
theorem d_M_step_270 : decode b_M_step 270 = .ok (.ifCond .eq 83, 3) := by decide +kernel
theorem d_M_step_273 : decode b_M_step 273 = .ok (.aload_n 0, 1) := by decide +kernel
theorem d_M_step_274 : decode b_M_step 274 = .ok (.getfield 67, 3) := by decide +kernel
theorem d_M_step_277 : decode b_M_step 277 = .ok (.iload_n 2, 1) := by decide +kernel
theorem d_M_step_278 : decode b_M_step 278 = .ok (.aload_n 0, 1) := by decide +kernel
theorem d_M_step_279 : decode b_M_step 279 = .ok (.getfield 115, 3) := by decide +kernel
theorem d_M_step_282 : decode b_M_step 282 = .ok (.lastore, 1) := by decide +kernel
theorem d_M_step_283 : decode b_M_step 283 = .ok (.aload_n 0, 1) := by decide +kernel
theorem d_M_step_284 : decode b_M_step 284 = .ok (.getfield 55, 3) := by decide +kernel
theorem d_M_step_287 : decode b_M_step 287 = .ok (.iload_n 2, 1) := by decide +kernel
theorem d_M_step_288 : decode b_M_step 288 = .ok (.aload_n 0, 1) := by decide +kernel
theorem d_M_step_289 : decode b_M_step 289 = .ok (.getfield 96, 3) := by decide +kernel
theorem d_M_step_292 : decode b_M_step 292 = .ok (.iastore, 1) := by decide +kernel
theorem d_M_step_293 : decode b_M_step 293 = .ok (.aload_n 0, 1) := by decide +kernel
theorem d_M_step_294 : decode b_M_step 294 = .ok (.invokevirtual 245, 3) := by decide +kernel
theorem d_M_step_297 : decode b_M_step 297 = .ok (.goto 56, 3) := by decide +kernel
theorem d_M_step_300 : decode b_M_step 300 = .ok (.aload_n 0, 1) := by decide +kernel
theorem d_M_step_301 : decode b_M_step 301 = .ok (.getfield 99, 3) := by decide +kernel
theorem d_M_step_304 : decode b_M_step 304 = .ok (.iconst 1, 1) := by decide +kernel
theorem d_M_step_305 : decode b_M_step 305 = .ok (.if_icmp .eq 19, 3) := by decide +kernel
theorem d_M_step_308 : decode b_M_step 308 = .ok (.aload_n 0, 1) := by decide +kernel
theorem d_M_step_309 : decode b_M_step 309 = .ok (.bipush 7, 2) := by decide +kernel
theorem d_M_step_311 : decode b_M_step 311 = .ok (.iload_n 2, 1) := by decide +kernel
theorem d_M_step_312 : decode b_M_step 312 = .ok (.invokevirtual 217, 3) := by decide +kernel
theorem d_M_step_315 : decode b_M_step 315 = .ok (.aload_n 0, 1) := by decide +kernel
theorem d_M_step_316 : decode b_M_step 316 = .ok (.iconst 1, 1) := by decide +kernel
theorem d_M_step_317 : decode b_M_step 317 = .ok (.iload_n 2, 1) := by decide +kernel
theorem d_M_step_318 : decode b_M_step 318 = .ok (.invokevirtual 238, 3) := by decide +kernel
theorem d_M_step_321 : decode b_M_step 321 = .ok (.goto 32, 3) := by decide +kernel
theorem d_M_step_324 : decode b_M_step 324 = .ok (.aload_n 0, 1) := by decide +kernel
theorem d_M_step_325 : decode b_M_step 325 = .ok (.dup, 1) := by decide +kernel
theorem d_M_step_326 : decode b_M_step 326 = .ok (.getfield 204, 3) := by decide +kernel
theorem d_M_step_329 : decode b_M_step 329 = .ok (.iconst 1, 1) := by decide +kernel
theorem d_M_step_330 : decode b_M_step 330 = .ok (.isub, 1) := by decide +kernel
theorem d_M_step_331 : decode b_M_step 331 = .ok (.putfield 204, 3) := by decide +kernel
theorem d_M_step_334 : decode b_M_step 334 = .ok (.goto 19, 3) := by decide +kernel
theorem d_M_step_337 : decode b_M_step 337 = .ok (.aload_n 0, 1) := by decide +kernel
theorem d_M_step_338 : decode b_M_step 338 = .ok (.aload_n 0, 1) := by decide +kernel
theorem d_M_step_339 : decode b_M_step 339 = .ok (.invokevirtual 224, 3) := by decide +kernel
theorem d_M_step_342 : decode b_M_step 342 = .ok (.invokevirtual 213, 3) := by decide +kernel
theorem d_M_step_345 : decode b_M_step 345 = .ok (.ifCond .eq 8, 3) := by decide +kernel
theorem d_M_step_348 : decode b_M_step 348 = .ok (.aload_n 0, 1) := by decide +kernel
theorem d_M_step_349 : decode b_M_step 349 = .ok (.iload_n 2, 1) := by decide +kernel
theorem d_M_step_350 : decode b_M_step 350 = .ok (.invokevirtual 228, 3) := by decide +kernel
theorem d_M_step_353 : decode b_M_step 353 = .ok (.return_, 1) := by decide +kernel
theorem d_M_begin_0 : decode b_M_begin 0 = .ok (.aload_n 0, 1) := by decide +kernel
theorem d_M_begin_1 : decode b_M_begin 1 = .ok (.getfield 99, 3) := by decide +kernel
theorem d_M_begin_4 : decode b_M_begin 4 = .ok (.iconst 3, 1) := by decide +kernel
theorem d_M_begin_5 : decode b_M_begin 5 = .ok (.if_icmp .ne 27, 3) := by decide +kernel
theorem d_M_begin_8 : decode b_M_begin 8 = .ok (.iload_n 1, 1) := by decide +kernel
theorem d_M_begin_9 : decode b_M_begin 9 = .ok (.ifCond .eq 23, 3) := by decide +kernel
theorem d_M_begin_12 : decode b_M_begin 12 = .ok (.aload_n 0, 1) := by decide +kernel
theorem d_M_begin_13 : decode b_M_begin 13 = .ok (.iconst 0, 1) := by decide +kernel
theorem d_M_begin_14 : decode b_M_begin 14 = .ok (.iload_n 2, 1) := by decide +kernel
theorem d_M_begin_15 : decode b_M_begin 15 = .ok (.invokevirtual 220, 3) := by decide +kernel
theorem d_M_begin_18 : decode b_M_begin 18 = .ok (.istore_n 3, 1) := by decide +kernel
theorem d_M_begin_19 : decode b_M_begin 19 = .ok (.aload_n 0, 1) := by decide +kernel
theorem d_M_begin_20 : decode b_M_begin 20 = .ok (.getfield 61, 3) := by decide +kernel
theorem d_M_begin_23 : decode b_M_begin 23 = .ok (.iload_n 3, 1) := by decide +kernel
theorem d_M_begin_24 : decode b_M_begin 24 = .ok (.aload_n 0, 1) := by decide +kernel
theorem d_M_begin_25 : decode b_M_begin 25 = .ok (.getfield 129, 3) := by decide +kernel
theorem d_M_begin_28 : decode b_M_begin 28 = .ok (.iastore, 1) := by decide +kernel
theorem d_M_begin_29 : decode b_M_begin 29 = .ok (.goto 140, 3) := by decide +kernel
theorem d_M_begin_32 : decode b_M_begin 32 = .ok (.iload_n 1, 1) := by decide +kernel
theorem d_M_begin_33 : decode b_M_begin 33 = .ok (.ifCond .eq 25, 3) := by decide +kernel
theorem d_M_begin_36 : decode b_M_begin 36 = .ok (.aload_n 0, 1) := by decide +kernel
theorem d_M_begin_37 : decode b_M_begin 37 = .ok (.invokevirtual 224, 3) := by decide +kernel
theorem d_M_begin_40 : decode b_M_begin 40 = .ok (.ifCond .eq 18, 3) := by decide +kernel
theorem d_M_begin_43 : decode b_M_begin 43 = .ok (.aload_n 0, 1) := by decide +kernel
theorem d_M_begin_44 : decode b_M_begin 44 = .ok (.iconst 1, 1) := by decide +kernel
theorem d_M_begin_45 : decode b_M_begin 45 = .ok (.iload_n 2, 1) := by decide +kernel
theorem d_M_begin_46 : decode b_M_begin 46 = .ok (.invokevirtual 220, 3) := by decide +kernel
theorem d_M_begin_49 : decode b_M_begin 49 = .ok (.istore_n 3, 1) := by decide +kernel
theorem d_M_begin_50 : decode b_M_begin 50 = .ok (.aload_n 0, 1) := by decide +kernel
theorem d_M_begin_51 : decode b_M_begin 51 = .ok (.iload_n 3, 1) := by decide +kernel
theorem d_M_begin_52 : decode b_M_begin 52 = .ok (.invokevirtual 228, 3) := by decide +kernel
theorem d_M_begin_55 : decode b_M_begin 55 = .ok (.goto 114, 3) := by decide +kernel
theorem d_M_begin_58 : decode b_M_begin 58 = .ok (.iload_n 1, 1) := by decide +kernel
theorem d_M_begin_59 : decode b_M_begin 59 = .ok (.ifCond .eq 22, 3) := by decide +kernel
theorem d_M_begin_62 : decode b_M_begin 62 = .ok (.aload_n 0, 1) := by decide +kernel
theorem d_M_begin_63 : decode b_M_begin 63 = .ok (.ldc 202, 2) := by decide +kernel
theorem d_M_begin_65 : decode b_M_begin 65 = .ok (.invokevirtual 144, 3) := by decide +kernel
theorem d_M_begin_68 : decode b_M_begin 68 = .ok (.ifCond .eq 13, 3) := by decide +kernel
theorem d_M_begin_71 : decode b_M_begin 71 = .ok (.aload_n 0, 1) := by decide +kernel
theorem d_M_begin_72 : decode b_M_begin 72 = .ok (.iconst 2, 1) := by decide +kernel
theorem d_M_begin_73 : decode b_M_begin 73 = .ok (.iload_n 2, 1) := by decide +kernel
theorem d_M_begin_74 : decode b_M_begin 74 = .ok (.invokevirtual 220, 3) := by decide +kernel
theorem d_M_begin_77 : decode b_M_begin 77 = .ok (.istore_n 3, 1) := by decide +kernel
theorem d_M_begin_78 : decode b_M_begin 78 = .ok (.goto 91, 3) := by decide +kernel
theorem d_M_begin_81 : decode b_M_begin 81 = .ok (.aload_n 0, 1) := by decide +kernel
theorem d_M_begin_82 : decode b_M_begin 82 = .ok (.aload_n 0, 1) := by decide +kernel
theorem d_M_begin_83 : decode b_M_begin 83 = .ok (.getfield 99, 3) := by decide +kernel
theorem d_M_begin_86 : decode b_M_begin 86 = .ok (.ifCond .ne 7, 3) := by decide +kernel
theorem d_M_begin_89 : decode b_M_begin 89 = .ok (.iconst 1, 1) := by decide +kernel
theorem d_M_begin_90 : decode b_M_begin 90 = .ok (.goto 4, 3) := by decide +kernel
theorem d_M_begin_93 : decode b_M_begin 93 = .ok (.iconst 0, 1) := by decide +kernel
theorem d_M_begin_94 : decode b_M_begin 94 = .ok (.invokevirtual 213, 3) := by decide +kernel
theorem d_M_begin_97 : decode b_M_begin 97 = .ok (.ifCond .eq 72, 3) := by decide +kernel
theorem d_M_begin_100 : decode b_M_begin 100 = .ok (.aload_n 0, 1) := by decide +kernel
theorem d_M_begin_101 : decode b_M_begin 101 = .ok (.iconst 0, 1) := by decide +kernel
theorem d_M_begin_102 : decode b_M_begin 102 = .ok (.iload_n 2, 1) := by decide +kernel
theorem d_M_begin_103 : decode b_M_begin 103 = .ok (.invokevirtual 220, 3) := by decide +kernel
theorem d_M_begin_106 : decode b_M_begin 106 = .ok (.istore_n 3, 1) := by decide +kernel
theorem d_M_begin_107 : decode b_M_begin 107 = .ok (.aload_n 0, 1) := by decide +kernel
theorem d_M_begin_108 : decode b_M_begin 108 = .ok (.invokevirtual 232, 3) := by decide +kernel
theorem d_M_begin_111 : decode b_M_begin 111 = .ok (.aload_n 0, 1) := by decide +kernel
theorem d_M_begin_112 : decode b_M_begin 112 = .ok (.getfield 83, 3) := by decide +kernel
theorem d_M_begin_115 : decode b_M_begin 115 = .ok (.ifCond .le 7, 3) := by decide +kernel
theorem d_M_begin_118 : decode b_M_begin 118 = .ok (.iconst (-1), 1) := by decide +kernel
theorem d_M_begin_119 : decode b_M_begin 119 = .ok (.goto 18, 3) := by decide +kernel
theorem d_M_begin_122 : decode b_M_begin 122 = .ok (.iload_n 1, 1) := by decide +kernel
theorem d_M_begin_123 : decode b_M_begin 123 = .ok (.ifCond .eq 10, 3) := by decide +kernel
theorem d_M_begin_126 : decode b_M_begin 126 = .ok (.aload_n 0, 1) := by decide +kernel
theorem d_M_begin_127 : decode b_M_begin 127 = .ok (.invokevirtual 192, 3) := by decide +kernel
theorem d_M_begin_130 : decode b_M_begin 130 = .ok (.goto 7, 3) := by decide +kernel
theorem d_M_begin_133 : decode b_M_begin 133 = .ok (.aload_n 0, 1) := by decide +kernel
theorem d_M_begin_134 : decode b_M_begin 134 = .ok (.invokevirtual 195, 3) := by decide +kernel
theorem d_M_begin_137 : decode b_M_begin 137 = .ok (.istore 4, 2) := by decide +kernel
theorem d_M_begin_139 : decode b_M_begin 139 = .ok (.aload_n 0, 1) := by decide +kernel
theorem d_M_begin_140 : decode b_M_begin 140 = .ok (.iload 4, 2) := by decide +kernel
theorem d_M_begin_142 : decode b_M_begin 142 = .ok (.ifCond .lt 7, 3) := by decide +kernel
theorem d_M_begin_145 : decode b_M_begin 145 = .ok (.iconst 1, 1) := by decide +kernel
theorem d_M_begin_146 : decode b_M_begin 146 = .ok (.goto 4, 3) := by decide +kernel
theorem d_M_begin_149 : decode b_M_begin 149 = .ok (.iconst 0, 1) := by decide +kernel
theorem d_M_begin_150 : decode b_M_begin 150 = .ok (.invokevirtual 213, 3) := by decide +kernel
theorem d_M_begin_153 : decode b_M_begin 153 = .ok (.ifCond .eq 16, 3) := by decide +kernel
theorem d_M_begin_156 : decode b_M_begin 156 = .ok (.aload_n 0, 1) := by decide +kernel
theorem d_M_begin_157 : decode b_M_begin 157 = .ok (.getfield 43, 3) := by decide +kernel
theorem d_M_begin_160 : decode b_M_begin 160 = .ok (.iload_n 3, 1) := by decide +kernel
theorem d_M_begin_161 : decode b_M_begin 161 = .ok (.iload 4, 2) := by decide +kernel
theorem d_M_begin_163 : decode b_M_begin 163 = .ok (.iastore, 1) := by decide +kernel
theorem d_M_begin_164 : decode b_M_begin 164 = .ok (.aload_n 0, 1) := by decide +kernel
theorem d_M_begin_165 : decode b_M_begin 165 = .ok (.iload_n 3, 1) := by decide +kernel
theorem d_M_begin_166 : decode b_M_begin 166 = .ok (.invokevirtual 235, 3) := by decide +kernel
theorem d_M_begin_169 : decode b_M_begin 169 = .ok (.return_, 1) := by decide +kernel
theorem d_M_make_0 : decode b_M_make 0 = .ok (.aload_n 0, 1) := by decide +kernel
theorem d_M_make_1 : decode b_M_make 1 = .ok (.getfield 207, 3) := by decide +kernel
theorem d_M_make_4 : decode b_M_make 4 = .ok (.istore_n 3, 1) := by decide +kernel
theorem d_M_make_5 : decode b_M_make 5 = .ok (.aload_n 0, 1) := by decide +kernel
theorem d_M_make_6 : decode b_M_make 6 = .ok (.dup, 1) := by decide +kernel
theorem d_M_make_7 : decode b_M_make 7 = .ok (.getfield 207, 3) := by decide +kernel
theorem d_M_make_10 : decode b_M_make 10 = .ok (.iconst 1, 1) := by decide +kernel
theorem d_M_make_11 : decode b_M_make 11 = .ok (.iadd, 1) := by decide +kernel
theorem d_M_make_12 : decode b_M_make 12 = .ok (.putfield 207, 3) := by decide +kernel
theorem d_M_make_15 : decode b_M_make 15 = .ok (.aload_n 0, 1) := by decide +kernel
theorem d_M_make_16 : decode b_M_make 16 = .ok (.getfield 43, 3) := by decide +kernel
theorem d_M_make_19 : decode b_M_make 19 = .ok (.iload_n 3, 1) := by decide +kernel
theorem d_M_make_20 : decode b_M_make 20 = .ok (.iload_n 1, 1) := by decide +kernel
theorem d_M_make_21 : decode b_M_make 21 = .ok (.iastore, 1) := by decide +kernel
theorem d_M_make_22 : decode b_M_make 22 = .ok (.aload_n 0, 1) := by decide +kernel
theorem d_M_make_23 : decode b_M_make 23 = .ok (.getfield 46, 3) := by decide +kernel
theorem d_M_make_26 : decode b_M_make 26 = .ok (.iload_n 3, 1) := by decide +kernel
theorem d_M_make_27 : decode b_M_make 27 = .ok (.iload_n 2, 1) := by decide +kernel
theorem d_M_make_28 : decode b_M_make 28 = .ok (.iastore, 1) := by decide +kernel
theorem d_M_make_29 : decode b_M_make 29 = .ok (.aload_n 0, 1) := by decide +kernel
theorem d_M_make_30 : decode b_M_make 30 = .ok (.getfield 49, 3) := by decide +kernel
theorem d_M_make_33 : decode b_M_make 33 = .ok (.iload_n 3, 1) := by decide +kernel
theorem d_M_make_34 : decode b_M_make 34 = .ok (.aload_n 0, 1) := by decide +kernel
theorem d_M_make_35 : decode b_M_make 35 = .ok (.getfield 96, 3) := by decide +kernel
theorem d_M_make_38 : decode b_M_make 38 = .ok (.iastore, 1) := by decide +kernel
theorem d_M_make_39 : decode b_M_make 39 = .ok (.aload_n 0, 1) := by decide +kernel
theorem d_M_make_40 : decode b_M_make 40 = .ok (.getfield 52, 3) := by decide +kernel
theorem d_M_make_43 : decode b_M_make 43 = .ok (.iload_n 3, 1) := by decide +kernel
theorem d_M_make_44 : decode b_M_make 44 = .ok (.iconst (-1), 1) := by decide +kernel
theorem d_M_make_45 : decode b_M_make 45 = .ok (.iastore, 1) := by decide +kernel
theorem d_M_make_46 : decode b_M_make 46 = .ok (.aload_n 0, 1) := by decide +kernel
theorem d_M_make_47 : decode b_M_make 47 = .ok (.getfield 55, 3) := by decide +kernel
theorem d_M_make_50 : decode b_M_make 50 = .ok (.iload_n 3, 1) := by decide +kernel
theorem d_M_make_51 : decode b_M_make 51 = .ok (.iconst (-1), 1) := by decide +kernel
theorem d_M_make_52 : decode b_M_make 52 = .ok (.iastore, 1) := by decide +kernel
theorem d_M_make_53 : decode b_M_make 53 = .ok (.aload_n 0, 1) := by decide +kernel
theorem d_M_make_54 : decode b_M_make 54 = .ok (.getfield 64, 3) := by decide +kernel
theorem d_M_make_57 : decode b_M_make 57 = .ok (.iload_n 3, 1) := by decide +kernel
theorem d_M_make_58 : decode b_M_make 58 = .ok (.lconst 0, 1) := by decide +kernel
theorem d_M_make_59 : decode b_M_make 59 = .ok (.lastore, 1) := by decide +kernel
theorem d_M_make_60 : decode b_M_make 60 = .ok (.aload_n 0, 1) := by decide +kernel
theorem d_M_make_61 : decode b_M_make 61 = .ok (.getfield 67, 3) := by decide +kernel
theorem d_M_make_64 : decode b_M_make 64 = .ok (.iload_n 3, 1) := by decide +kernel
theorem d_M_make_65 : decode b_M_make 65 = .ok (.lconst 0, 1) := by decide +kernel
theorem d_M_make_66 : decode b_M_make 66 = .ok (.lastore, 1) := by decide +kernel
theorem d_M_make_67 : decode b_M_make 67 = .ok (.aload_n 0, 1) := by decide +kernel
theorem d_M_make_68 : decode b_M_make 68 = .ok (.getfield 61, 3) := by decide +kernel
theorem d_M_make_71 : decode b_M_make 71 = .ok (.iload_n 3, 1) := by decide +kernel
theorem d_M_make_72 : decode b_M_make 72 = .ok (.iconst 0, 1) := by decide +kernel
theorem d_M_make_73 : decode b_M_make 73 = .ok (.iastore, 1) := by decide +kernel
theorem d_M_make_74 : decode b_M_make 74 = .ok (.aload_n 0, 1) := by decide +kernel
theorem d_M_make_75 : decode b_M_make 75 = .ok (.getfield 58, 3) := by decide +kernel
theorem d_M_make_78 : decode b_M_make 78 = .ok (.iload_n 3, 1) := by decide +kernel
theorem d_M_make_79 : decode b_M_make 79 = .ok (.aload_n 0, 1) := by decide +kernel
theorem d_M_make_80 : decode b_M_make 80 = .ok (.getfield 210, 3) := by decide +kernel
theorem d_M_make_83 : decode b_M_make 83 = .ok (.iastore, 1) := by decide +kernel
theorem d_M_make_84 : decode b_M_make 84 = .ok (.iload_n 3, 1) := by decide +kernel
theorem d_M_make_85 : decode b_M_make 85 = .ok (.ireturn, 1) := by decide +kernel
theorem d_M_setName_0 : decode b_M_setName 0 = .ok (.aload_n 0, 1) := by decide +kernel
theorem d_M_setName_1 : decode b_M_setName 1 = .ok (.getfield 64, 3) := by decide +kernel
theorem d_M_setName_4 : decode b_M_setName 4 = .ok (.iload_n 1, 1) := by decide +kernel
theorem d_M_setName_5 : decode b_M_setName 5 = .ok (.aload_n 0, 1) := by decide +kernel
theorem d_M_setName_6 : decode b_M_setName 6 = .ok (.getfield 115, 3) := by decide +kernel
theorem d_M_setName_9 : decode b_M_setName 9 = .ok (.lastore, 1) := by decide +kernel
theorem d_M_setName_10 : decode b_M_setName 10 = .ok (.aload_n 0, 1) := by decide +kernel
theorem d_M_setName_11 : decode b_M_setName 11 = .ok (.getfield 52, 3) := by decide +kernel
theorem d_M_setName_14 : decode b_M_setName 14 = .ok (.iload_n 1, 1) := by decide +kernel
theorem d_M_setName_15 : decode b_M_setName 15 = .ok (.aload_n 0, 1) := by decide +kernel
theorem d_M_setName_16 : decode b_M_setName 16 = .ok (.getfield 96, 3) := by decide +kernel
theorem d_M_setName_19 : decode b_M_setName 19 = .ok (.iastore, 1) := by decide +kernel
theorem d_M_setName_20 : decode b_M_setName 20 = .ok (.return_, 1) := by decide +kernel
theorem d_M_expect_0 : decode b_M_expect 0 = .ok (.aload_n 0, 1) := by decide +kernel
theorem d_M_expect_1 : decode b_M_expect 1 = .ok (.getfield 43, 3) := by decide +kernel
theorem d_M_expect_4 : decode b_M_expect 4 = .ok (.iload_n 1, 1) := by decide +kernel
theorem d_M_expect_5 : decode b_M_expect 5 = .ok (.iaload, 1) := by decide +kernel
theorem d_M_expect_6 : decode b_M_expect 6 = .ok (.istore_n 2, 1) := by decide +kernel
theorem d_M_expect_7 : decode b_M_expect 7 = .ok (.iload_n 2, 1) := by decide +kernel
theorem d_M_expect_8 : decode b_M_expect 8 = .ok (.bipush 18, 2) := by decide +kernel
theorem d_M_expect_10 : decode b_M_expect 10 = .ok (.if_icmp .ge 7, 3) := by decide +kernel
theorem d_M_expect_13 : decode b_M_expect 13 = .ok (.iconst 1, 1) := by decide +kernel
theorem d_M_expect_14 : decode b_M_expect 14 = .ok (.goto 4, 3) := by decide +kernel
theorem d_M_expect_17 : decode b_M_expect 17 = .ok (.iconst 2, 1) := by decide +kernel
theorem d_M_expect_18 : decode b_M_expect 18 = .ok (.istore_n 3, 1) := by decide +kernel
theorem d_M_expect_19 : decode b_M_expect 19 = .ok (.aload_n 0, 1) := by decide +kernel
theorem d_M_expect_20 : decode b_M_expect 20 = .ok (.iconst 3, 1) := by decide +kernel
theorem d_M_expect_21 : decode b_M_expect 21 = .ok (.iload_n 1, 1) := by decide +kernel
theorem d_M_expect_22 : decode b_M_expect 22 = .ok (.invokevirtual 217, 3) := by decide +kernel
theorem d_M_expect_25 : decode b_M_expect 25 = .ok (.iload_n 2, 1) := by decide +kernel
theorem d_M_expect_26 : decode b_M_expect 26 = .ok (.tableswitch 229 10 23 #[70, 91, 113, 229, 166, 166, 183, 183, 192, 220, 70, 91, 113, 166], 70) := by decide +kernel
theorem d_M_expect_96 : decode b_M_expect 96 = .ok (.aload_n 0, 1) := by decide +kernel
theorem d_M_expect_97 : decode b_M_expect 97 = .ok (.iload_n 3, 1) := by decide +kernel
theorem d_M_expect_98 : decode b_M_expect 98 = .ok (.iload_n 1, 1) := by decide +kernel
theorem d_M_expect_99 : decode b_M_expect 99 = .ok (.invokevirtual 217, 3) := by decide +kernel
theorem d_M_expect_102 : decode b_M_expect 102 = .ok (.aload_n 0, 1) := by decide +kernel
theorem d_M_expect_103 : decode b_M_expect 103 = .ok (.iload_n 3, 1) := by decide +kernel
theorem d_M_expect_104 : decode b_M_expect 104 = .ok (.iload_n 1, 1) := by decide +kernel
theorem d_M_expect_105 : decode b_M_expect 105 = .ok (.invokevirtual 217, 3) := by decide +kernel
theorem d_M_expect_108 : decode b_M_expect 108 = .ok (.aload_n 0, 1) := by decide +kernel
theorem d_M_expect_109 : decode b_M_expect 109 = .ok (.iconst 1, 1) := by decide +kernel
theorem d_M_expect_110 : decode b_M_expect 110 = .ok (.iload_n 1, 1) := by decide +kernel
theorem d_M_expect_111 : decode b_M_expect 111 = .ok (.invokevirtual 217, 3) := by decide +kernel
theorem d_M_expect_114 : decode b_M_expect 114 = .ok (.goto 153, 3) := by decide +kernel
theorem d_M_expect_117 : decode b_M_expect 117 = .ok (.aload_n 0, 1) := by decide +kernel
theorem d_M_expect_118 : decode b_M_expect 118 = .ok (.bipush 8, 2) := by decide +kernel
theorem d_M_expect_120 : decode b_M_expect 120 = .ok (.iload_n 1, 1) := by decide +kernel
theorem d_M_expect_121 : decode b_M_expect 121 = .ok (.invokevirtual 217, 3) := by decide +kernel
theorem d_M_expect_124 : decode b_M_expect 124 = .ok (.aload_n 0, 1) := by decide +kernel
theorem d_M_expect_125 : decode b_M_expect 125 = .ok (.iload_n 3, 1) := by decide +kernel
theorem d_M_expect_126 : decode b_M_expect 126 = .ok (.iload_n 1, 1) := by decide +kernel
theorem d_M_expect_127 : decode b_M_expect 127 = .ok (.invokevirtual 217, 3) := by decide +kernel
theorem d_M_expect_130 : decode b_M_expect 130 = .ok (.aload_n 0, 1) := by decide +kernel
theorem d_M_expect_131 : decode b_M_expect 131 = .ok (.iconst 5, 1) := by decide +kernel
theorem d_M_expect_132 : decode b_M_expect 132 = .ok (.iload_n 1, 1) := by decide +kernel
theorem d_M_expect_133 : decode b_M_expect 133 = .ok (.invokevirtual 217, 3) := by decide +kernel
theorem d_M_expect_136 : decode b_M_expect 136 = .ok (.goto 131, 3) := by decide +kernel
theorem d_M_expect_139 : decode b_M_expect 139 = .ok (.aload_n 0, 1) := by decide +kernel
theorem d_M_expect_140 : decode b_M_expect 140 = .ok (.iconst 3, 1) := by decide +kernel
theorem d_M_expect_141 : decode b_M_expect 141 = .ok (.iload_n 1, 1) := by decide +kernel
theorem d_M_expect_142 : decode b_M_expect 142 = .ok (.invokevirtual 217, 3) := by decide +kernel
theorem d_M_expect_145 : decode b_M_expect 145 = .ok (.aload_n 0, 1) := by decide +kernel
theorem d_M_expect_146 : decode b_M_expect 146 = .ok (.bipush 8, 2) := by decide +kernel
theorem d_M_expect_148 : decode b_M_expect 148 = .ok (.iload_n 1, 1) := by decide +kernel
theorem d_M_expect_149 : decode b_M_expect 149 = .ok (.invokevirtual 217, 3) := by decide +kernel
theorem d_M_expect_152 : decode b_M_expect 152 = .ok (.aload_n 0, 1) := by decide +kernel
theorem d_M_expect_153 : decode b_M_expect 153 = .ok (.iload_n 3, 1) := by decide +kernel
theorem d_M_expect_154 : decode b_M_expect 154 = .ok (.iload_n 1, 1) := by decide +kernel
theorem d_M_expect_155 : decode b_M_expect 155 = .ok (.invokevirtual 217, 3) := by decide +kernel
theorem d_M_expect_158 : decode b_M_expect 158 = .ok (.aload_n 0, 1) := by decide +kernel
theorem d_M_expect_159 : decode b_M_expect 159 = .ok (.bipush 6, 2) := by decide +kernel
theorem d_M_expect_161 : decode b_M_expect 161 = .ok (.iload_n 1, 1) := by decide +kernel
theorem d_M_expect_162 : decode b_M_expect 162 = .ok (.invokevirtual 217, 3) := by decide +kernel
theorem d_M_expect_165 : decode b_M_expect 165 = .ok (.aload_n 0, 1) := by decide +kernel
theorem d_M_expect_166 : decode b_M_expect 166 = .ok (.iconst 5, 1) := by decide +kernel
theorem d_M_expect_167 : decode b_M_expect 167 = .ok (.iload_n 1, 1) := by decide +kernel
theorem d_M_expect_168 : decode b_M_expect 168 = .ok (.invokevirtual 217, 3) := by decide +kernel
theorem d_M_expect_171 : decode b_M_expect 171 = .ok (.aload_n 0, 1) := by decide +kernel
theorem d_M_expect_172 : decode b_M_expect 172 = .ok (.iconst 4, 1) := by decide +kernel
theorem d_M_expect_173 : decode b_M_expect 173 = .ok (.iload_n 1, 1) := by decide +kernel
theorem d_M_expect_174 : decode b_M_expect 174 = .ok (.invokevirtual 217, 3) := by decide +kernel
theorem d_M_expect_177 : decode b_M_expect 177 = .ok (.aload_n 0, 1) := by decide +kernel
theorem d_M_expect_178 : decode b_M_expect 178 = .ok (.iload_n 3, 1) := by decide +kernel
theorem d_M_expect_179 : decode b_M_expect 179 = .ok (.iload_n 1, 1) := by decide +kernel
theorem d_M_expect_180 : decode b_M_expect 180 = .ok (.invokevirtual 217, 3) := by decide +kernel
theorem d_M_expect_183 : decode b_M_expect 183 = .ok (.aload_n 0, 1) := by decide +kernel
theorem d_M_expect_184 : decode b_M_expect 184 = .ok (.iconst 1, 1) := by decide +kernel
theorem d_M_expect_185 : decode b_M_expect 185 = .ok (.iload_n 1, 1) := by decide +kernel
theorem d_M_expect_186 : decode b_M_expect 186 = .ok (.invokevirtual 217, 3) := by decide +kernel
theorem d_M_expect_189 : decode b_M_expect 189 = .ok (.goto 78, 3) := by decide +kernel
theorem d_M_expect_192 : decode b_M_expect 192 = .ok (.aload_n 0, 1) := by decide +kernel
theorem d_M_expect_193 : decode b_M_expect 193 = .ok (.bipush 7, 2) := by decide +kernel
theorem d_M_expect_195 : decode b_M_expect 195 = .ok (.iload_n 1, 1) := by decide +kernel
theorem d_M_expect_196 : decode b_M_expect 196 = .ok (.invokevirtual 217, 3) := by decide +kernel
theorem d_M_expect_199 : decode b_M_expect 199 = .ok (.aload_n 0, 1) := by decide +kernel
theorem d_M_expect_200 : decode b_M_expect 200 = .ok (.bipush 9, 2) := by decide +kernel
theorem d_M_expect_202 : decode b_M_expect 202 = .ok (.iload_n 1, 1) := by decide +kernel
theorem d_M_expect_203 : decode b_M_expect 203 = .ok (.invokevirtual 217, 3) := by decide +kernel
theorem d_M_expect_206 : decode b_M_expect 206 = .ok (.goto 61, 3) := by decide +kernel
theorem d_M_expect_209 : decode b_M_expect 209 = .ok (.aload_n 0, 1) := by decide +kernel
theorem d_M_expect_210 : decode b_M_expect 210 = .ok (.iconst 2, 1) := by decide +kernel
theorem d_M_expect_211 : decode b_M_expect 211 = .ok (.iload_n 1, 1) := by decide +kernel
theorem d_M_expect_212 : decode b_M_expect 212 = .ok (.invokevirtual 217, 3) := by decide +kernel
theorem d_M_expect_215 : decode b_M_expect 215 = .ok (.goto 52, 3) := by decide +kernel
theorem d_M_expect_218 : decode b_M_expect 218 = .ok (.aload_n 0, 1) := by decide +kernel
theorem d_M_expect_219 : decode b_M_expect 219 = .ok (.bipush 8, 2) := by decide +kernel
theorem d_M_expect_221 : decode b_M_expect 221 = .ok (.iload_n 1, 1) := by decide +kernel
theorem d_M_expect_222 : decode b_M_expect 222 = .ok (.invokevirtual 217, 3) := by decide +kernel
theorem d_M_expect_225 : decode b_M_expect 225 = .ok (.aload_n 0, 1) := by decide +kernel
theorem d_M_expect_226 : decode b_M_expect 226 = .ok (.iconst 2, 1) := by decide +kernel
theorem d_M_expect_227 : decode b_M_expect 227 = .ok (.iload_n 1, 1) := by decide +kernel
theorem d_M_expect_228 : decode b_M_expect 228 = .ok (.invokevirtual 217, 3) := by decide +kernel
theorem d_M_expect_231 : decode b_M_expect 231 = .ok (.aload_n 0, 1) := by decide +kernel
theorem d_M_expect_232 : decode b_M_expect 232 = .ok (.iconst 5, 1) := by decide +kernel
theorem d_M_expect_233 : decode b_M_expect 233 = .ok (.iload_n 1, 1) := by decide +kernel
theorem d_M_expect_234 : decode b_M_expect 234 = .ok (.invokevirtual 217, 3) := by decide +kernel
theorem d_M_expect_237 : decode b_M_expect 237 = .ok (.aload_n 0, 1) := by decide +kernel
theorem d_M_expect_238 : decode b_M_expect 238 = .ok (.iconst 1, 1) := by decide +kernel
theorem d_M_expect_239 : decode b_M_expect 239 = .ok (.iload_n 1, 1) := by decide +kernel
theorem d_M_expect_240 : decode b_M_expect 240 = .ok (.invokevirtual 217, 3) := by decide +kernel
theorem d_M_expect_243 : decode b_M_expect 243 = .ok (.goto 24, 3) := by decide +kernel
theorem d_M_expect_246 : decode b_M_expect 246 = .ok (.aload_n 0, 1) := by decide +kernel
theorem d_M_expect_247 : decode b_M_expect 247 = .ok (.iconst 1, 1) := by decide +kernel
theorem d_M_expect_248 : decode b_M_expect 248 = .ok (.iload_n 1, 1) := by decide +kernel
theorem d_M_expect_249 : decode b_M_expect 249 = .ok (.invokevirtual 217, 3) := by decide +kernel
theorem d_M_expect_252 : decode b_M_expect 252 = .ok (.goto 15, 3) := by decide +kernel
theorem d_M_expect_255 : decode b_M_expect 255 = .ok (.aload_n 0, 1) := by decide +kernel
theorem d_M_expect_256 : decode b_M_expect 256 = .ok (.iconst 1, 1) := by decide +kernel
theorem d_M_expect_257 : decode b_M_expect 257 = .ok (.iload_n 1, 1) := by decide +kernel
theorem d_M_expect_258 : decode b_M_expect 258 = .ok (.invokevirtual 217, 3) := by decide +kernel
theorem d_M_expect_261 : decode b_M_expect 261 = .ok (.aload_n 0, 1) := by decide +kernel
theorem d_M_expect_262 : decode b_M_expect 262 = .ok (.iconst 1, 1) := by decide +kernel
theorem d_M_expect_263 : decode b_M_expect 263 = .ok (.iload_n 1, 1) := by decide +kernel
theorem d_M_expect_264 : decode b_M_expect 264 = .ok (.invokevirtual 217, 3) := by decide +kernel
theorem d_M_expect_267 : decode b_M_expect 267 = .ok (.return_, 1) := by decide +kernel
theorem d_M_letBinds_0 : decode b_M_letBinds 0 = .ok (.aload_n 0, 1) := by decide +kernel
theorem d_M_letBinds_1 : decode b_M_letBinds 1 = .ok (.aload_n 0, 1) := by decide +kernel
theorem d_M_letBinds_2 : decode b_M_letBinds 2 = .ok (.getfield 210, 3) := by decide +kernel
theorem d_M_letBinds_5 : decode b_M_letBinds 5 = .ok (.bipush 24, 2) := by decide +kernel
theorem d_M_letBinds_7 : decode b_M_letBinds 7 = .ok (.if_icmp .ge 7, 3) := by decide +kernel
theorem d_M_letBinds_10 : decode b_M_letBinds 10 = .ok (.iconst 1, 1) := by decide +kernel
theorem d_M_letBinds_11 : decode b_M_letBinds 11 = .ok (.goto 4, 3) := by decide +kernel
theorem d_M_letBinds_14 : decode b_M_letBinds 14 = .ok (.iconst 0, 1) := by decide +kernel
theorem d_M_letBinds_15 : decode b_M_letBinds 15 = .ok (.invokevirtual 213, 3) := by decide +kernel
theorem d_M_letBinds_18 : decode b_M_letBinds 18 = .ok (.ifCond .eq 16, 3) := by decide +kernel
theorem d_M_letBinds_21 : decode b_M_letBinds 21 = .ok (.aload_n 0, 1) := by decide +kernel
theorem d_M_letBinds_22 : decode b_M_letBinds 22 = .ok (.bipush 10, 2) := by decide +kernel
theorem d_M_letBinds_24 : decode b_M_letBinds 24 = .ok (.iload_n 1, 1) := by decide +kernel
theorem d_M_letBinds_25 : decode b_M_letBinds 25 = .ok (.invokevirtual 217, 3) := by decide +kernel
theorem d_M_letBinds_28 : decode b_M_letBinds 28 = .ok (.aload_n 0, 1) := by decide +kernel
theorem d_M_letBinds_29 : decode b_M_letBinds 29 = .ok (.iconst 1, 1) := by decide +kernel
theorem d_M_letBinds_30 : decode b_M_letBinds 30 = .ok (.iload_n 1, 1) := by decide +kernel
theorem d_M_letBinds_31 : decode b_M_letBinds 31 = .ok (.invokevirtual 217, 3) := by decide +kernel
theorem d_M_letBinds_34 : decode b_M_letBinds 34 = .ok (.return_, 1) := by decide +kernel
theorem d_M_bind_0 : decode b_M_bind 0 = .ok (.aload_n 0, 1) := by decide +kernel
theorem d_M_bind_1 : decode b_M_bind 1 = .ok (.aload_n 0, 1) := by decide +kernel
theorem d_M_bind_2 : decode b_M_bind 2 = .ok (.getfield 210, 3) := by decide +kernel
theorem d_M_bind_5 : decode b_M_bind 5 = .ok (.bipush 24, 2) := by decide +kernel
theorem d_M_bind_7 : decode b_M_bind 7 = .ok (.if_icmp .ge 7, 3) := by decide +kernel
theorem d_M_bind_10 : decode b_M_bind 10 = .ok (.iconst 1, 1) := by decide +kernel
theorem d_M_bind_11 : decode b_M_bind 11 = .ok (.goto 4, 3) := by decide +kernel
theorem d_M_bind_14 : decode b_M_bind 14 = .ok (.iconst 0, 1) := by decide +kernel
theorem d_M_bind_15 : decode b_M_bind 15 = .ok (.invokevirtual 213, 3) := by decide +kernel
theorem d_M_bind_18 : decode b_M_bind 18 = .ok (.ifCond .eq 13, 3) := by decide +kernel
theorem d_M_bind_21 : decode b_M_bind 21 = .ok (.aload_n 0, 1) := by decide +kernel
theorem d_M_bind_22 : decode b_M_bind 22 = .ok (.dup, 1) := by decide +kernel
theorem d_M_bind_23 : decode b_M_bind 23 = .ok (.getfield 210, 3) := by decide +kernel
theorem d_M_bind_26 : decode b_M_bind 26 = .ok (.iconst 1, 1) := by decide +kernel
theorem d_M_bind_27 : decode b_M_bind 27 = .ok (.iadd, 1) := by decide +kernel
theorem d_M_bind_28 : decode b_M_bind 28 = .ok (.putfield 210, 3) := by decide +kernel
theorem d_M_bind_31 : decode b_M_bind 31 = .ok (.return_, 1) := by decide +kernel
theorem d_M_definition_0 : decode b_M_definition 0 = .ok (.aload_n 0, 1) := by decide +kernel
theorem d_M_definition_1 : decode b_M_definition 1 = .ok (.iconst 0, 1) := by decide +kernel
theorem d_M_definition_2 : decode b_M_definition 2 = .ok (.putfield 77, 3) := by decide +kernel
theorem d_M_definition_5 : decode b_M_definition 5 = .ok (.aload_n 0, 1) := by decide +kernel
theorem d_M_definition_6 : decode b_M_definition 6 = .ok (.iload_n 1, 1) := by decide +kernel
theorem d_M_definition_7 : decode b_M_definition 7 = .ok (.invokevirtual 264, 3) := by decide +kernel
theorem d_M_definition_10 : decode b_M_definition 10 = .ok (.ifCond .ne 5, 3) := by decide +kernel
theorem d_M_definition_13 : decode b_M_definition 13 = .ok (.iconst (-1), 1) := by decide +kernel
theorem d_M_definition_14 : decode b_M_definition 14 = .ok (.ireturn, 1) := by decide +kernel
theorem d_M_definition_15 : decode b_M_definition 15 = .ok (.iload_n 2, 1) := by decide +kernel
theorem d_M_definition_16 : decode b_M_definition 16 = .ok (.ifCond .ne 12, 3) := by decide +kernel
theorem d_M_definition_19 : decode b_M_definition 19 = .ok (.aload_n 0, 1) := by decide +kernel
theorem d_M_definition_20 : decode b_M_definition 20 = .ok (.getfield 17, 3) := by decide +kernel
theorem d_M_definition_23 : decode b_M_definition 23 = .ok (.iload_n 1, 1) := by decide +kernel
theorem d_M_definition_24 : decode b_M_definition 24 = .ok (.iaload, 1) := by decide +kernel
theorem d_M_definition_25 : decode b_M_definition 25 = .ok (.goto 60, 3) := by decide +kernel
theorem d_M_definition_28 : decode b_M_definition 28 = .ok (.iload_n 2, 1) := by decide +kernel
theorem d_M_definition_29 : decode b_M_definition 29 = .ok (.iconst 1, 1) := by decide +kernel
theorem d_M_definition_30 : decode b_M_definition 30 = .ok (.if_icmp .ne 12, 3) := by decide +kernel
theorem d_M_definition_33 : decode b_M_definition 33 = .ok (.aload_n 0, 1) := by decide +kernel
theorem d_M_definition_34 : decode b_M_definition 34 = .ok (.getfield 21, 3) := by decide +kernel
theorem d_M_definition_37 : decode b_M_definition 37 = .ok (.iload_n 1, 1) := by decide +kernel
theorem d_M_definition_38 : decode b_M_definition 38 = .ok (.iaload, 1) := by decide +kernel
theorem d_M_definition_39 : decode b_M_definition 39 = .ok (.goto 46, 3) := by decide +kernel
theorem d_M_definition_42 : decode b_M_definition 42 = .ok (.iload_n 2, 1) := by decide +kernel
theorem d_M_definition_43 : decode b_M_definition 43 = .ok (.iconst 2, 1) := by decide +kernel
theorem d_M_definition_44 : decode b_M_definition 44 = .ok (.if_icmp .ne 12, 3) := by decide +kernel
theorem d_M_definition_47 : decode b_M_definition 47 = .ok (.aload_n 0, 1) := by decide +kernel
theorem d_M_definition_48 : decode b_M_definition 48 = .ok (.getfield 24, 3) := by decide +kernel
theorem d_M_definition_51 : decode b_M_definition 51 = .ok (.iload_n 1, 1) := by decide +kernel
theorem d_M_definition_52 : decode b_M_definition 52 = .ok (.iaload, 1) := by decide +kernel
theorem d_M_definition_53 : decode b_M_definition 53 = .ok (.goto 32, 3) := by decide +kernel
theorem d_M_definition_56 : decode b_M_definition 56 = .ok (.iload_n 2, 1) := by decide +kernel
theorem d_M_definition_57 : decode b_M_definition 57 = .ok (.iconst 3, 1) := by decide +kernel
theorem d_M_definition_58 : decode b_M_definition 58 = .ok (.if_icmp .ne 12, 3) := by decide +kernel
theorem d_M_definition_61 : decode b_M_definition 61 = .ok (.aload_n 0, 1) := by decide +kernel
theorem d_M_definition_62 : decode b_M_definition 62 = .ok (.getfield 27, 3) := by decide +kernel
theorem d_M_definition_65 : decode b_M_definition 65 = .ok (.iload_n 1, 1) := by decide +kernel
theorem d_M_definition_66 : decode b_M_definition 66 = .ok (.iaload, 1) := by decide +kernel
theorem d_M_definition_67 : decode b_M_definition 67 = .ok (.goto 18, 3) := by decide +kernel
theorem d_M_definition_70 : decode b_M_definition 70 = .ok (.iload_n 2, 1) := by decide +kernel
theorem d_M_definition_71 : decode b_M_definition 71 = .ok (.iconst 4, 1) := by decide +kernel
theorem d_M_definition_72 : decode b_M_definition 72 = .ok (.if_icmp .ne 12, 3) := by decide +kernel
theorem d_M_definition_75 : decode b_M_definition 75 = .ok (.aload_n 0, 1) := by decide +kernel
theorem d_M_definition_76 : decode b_M_definition 76 = .ok (.getfield 30, 3) := by decide +kernel
theorem d_M_definition_79 : decode b_M_definition 79 = .ok (.iload_n 1, 1) := by decide +kernel
theorem d_M_definition_80 : decode b_M_definition 80 = .ok (.iaload, 1) := by decide +kernel
theorem d_M_definition_81 : decode b_M_definition 81 = .ok (.goto 4, 3) := by decide +kernel
theorem d_M_definition_84 : decode b_M_definition 84 = .ok (.iconst (-1), 1) := by decide +kernel
theorem d_M_definition_85 : decode b_M_definition 85 = .ok (.ireturn, 1) := by decide +kernel
theorem d_M_isDefinition_0 : decode b_M_isDefinition 0 = .ok (.iload_n 1, 1) := by decide +kernel
theorem d_M_isDefinition_1 : decode b_M_isDefinition 1 = .ok (.ifCond .lt 15, 3) := by decide +kernel
theorem d_M_isDefinition_4 : decode b_M_isDefinition 4 = .ok (.iload_n 1, 1) := by decide +kernel
theorem d_M_isDefinition_5 : decode b_M_isDefinition 5 = .ok (.aload_n 0, 1) := by decide +kernel
theorem d_M_isDefinition_6 : decode b_M_isDefinition 6 = .ok (.getfield 251, 3) := by decide +kernel
theorem d_M_isDefinition_9 : decode b_M_isDefinition 9 = .ok (.if_icmp .ge 7, 3) := by decide +kernel
theorem d_M_isDefinition_12 : decode b_M_isDefinition 12 = .ok (.iconst 1, 1) := by decide +kernel
theorem d_M_isDefinition_13 : decode b_M_isDefinition 13 = .ok (.goto 4, 3) := by decide +kernel
theorem d_M_isDefinition_16 : decode b_M_isDefinition 16 = .ok (.iconst 0, 1) := by decide +kernel
theorem d_M_isDefinition_17 : decode b_M_isDefinition 17 = .ok (.ireturn, 1) := by decide +kernel
theorem d_M_title_0 : decode b_M_title 0 = .ok (.aload_n 0, 1) := by decide +kernel
theorem d_M_title_1 : decode b_M_title 1 = .ok (.iconst 0, 1) := by decide +kernel
theorem d_M_title_2 : decode b_M_title 2 = .ok (.putfield 77, 3) := by decide +kernel
theorem d_M_title_5 : decode b_M_title 5 = .ok (.aload_n 0, 1) := by decide +kernel
theorem d_M_title_6 : decode b_M_title 6 = .ok (.iload_n 1, 1) := by decide +kernel
theorem d_M_title_7 : decode b_M_title 7 = .ok (.invokevirtual 264, 3) := by decide +kernel
theorem d_M_title_10 : decode b_M_title 10 = .ok (.ifCond .eq 30, 3) := by decide +kernel
theorem d_M_title_13 : decode b_M_title 13 = .ok (.iload_n 2, 1) := by decide +kernel
theorem d_M_title_14 : decode b_M_title 14 = .ok (.iconst (-1), 1) := by decide +kernel
theorem d_M_title_15 : decode b_M_title 15 = .ok (.if_icmp .lt 25, 3) := by decide +kernel
theorem d_M_title_18 : decode b_M_title 18 = .ok (.iload_n 2, 1) := by decide +kernel
theorem d_M_title_19 : decode b_M_title 19 = .ok (.aload_n 0, 1) := by decide +kernel
theorem d_M_title_20 : decode b_M_title 20 = .ok (.getfield 24, 3) := by decide +kernel
theorem d_M_title_23 : decode b_M_title 23 = .ok (.aload_n 0, 1) := by decide +kernel
theorem d_M_title_24 : decode b_M_title 24 = .ok (.iload_n 1, 1) := by decide +kernel
theorem d_M_title_25 : decode b_M_title 25 = .ok (.invokevirtual 264, 3) := by decide +kernel
theorem d_M_title_28 : decode b_M_title 28 = .ok (.ifCond .eq 7, 3) := by decide +kernel
theorem d_M_title_31 : decode b_M_title 31 = .ok (.iload_n 1, 1) := by decide +kernel
theorem d_M_title_32 : decode b_M_title 32 = .ok (.goto 4, 3) := by decide +kernel
theorem d_M_title_35 : decode b_M_title 35 = .ok (.iconst 0, 1) := by decide +kernel
theorem d_M_title_36 : decode b_M_title 36 = .ok (.iaload, 1) := by decide +kernel
theorem d_M_title_37 : decode b_M_title 37 = .ok (.if_icmp .lt 5, 3) := by decide +kernel
theorem d_M_title_40 : decode b_M_title 40 = .ok (.lconst 0, 1) := by decide +kernel
theorem d_M_title_41 : decode b_M_title 41 = .ok (.lreturn, 1) := by decide +kernel
theorem d_M_title_42 : decode b_M_title 42 = .ok (.iload_n 2, 1) := by decide +kernel
theorem d_M_title_43 : decode b_M_title 43 = .ok (.ifCond .ge 12, 3) := by decide +kernel
theorem d_M_title_46 : decode b_M_title 46 = .ok (.aload_n 0, 1) := by decide +kernel
theorem d_M_title_47 : decode b_M_title 47 = .ok (.getfield 33, 3) := by decide +kernel
theorem d_M_title_50 : decode b_M_title 50 = .ok (.iload_n 1, 1) := by decide +kernel
theorem d_M_title_51 : decode b_M_title 51 = .ok (.laload, 1) := by decide +kernel
theorem d_M_title_52 : decode b_M_title 52 = .ok (.goto 14, 3) := by decide +kernel
theorem d_M_title_55 : decode b_M_title 55 = .ok (.aload_n 0, 1) := by decide +kernel
theorem d_M_title_56 : decode b_M_title 56 = .ok (.getfield 37, 3) := by decide +kernel
theorem d_M_title_59 : decode b_M_title 59 = .ok (.bipush 8, 2) := by decide +kernel
theorem d_M_title_61 : decode b_M_title 61 = .ok (.iload_n 1, 1) := by decide +kernel
theorem d_M_title_62 : decode b_M_title 62 = .ok (.imul, 1) := by decide +kernel
theorem d_M_title_63 : decode b_M_title 63 = .ok (.iload_n 2, 1) := by decide +kernel
theorem d_M_title_64 : decode b_M_title 64 = .ok (.iadd, 1) := by decide +kernel
theorem d_M_title_65 : decode b_M_title 65 = .ok (.laload, 1) := by decide +kernel
theorem d_M_title_66 : decode b_M_title 66 = .ok (.lreturn, 1) := by decide +kernel
theorem d_M_parameter_0 : decode b_M_parameter 0 = .ok (.aload_n 0, 1) := by decide +kernel
theorem d_M_parameter_1 : decode b_M_parameter 1 = .ok (.iconst 0, 1) := by decide +kernel
theorem d_M_parameter_2 : decode b_M_parameter 2 = .ok (.putfield 77, 3) := by decide +kernel
theorem d_M_parameter_5 : decode b_M_parameter 5 = .ok (.aload_n 0, 1) := by decide +kernel
theorem d_M_parameter_6 : decode b_M_parameter 6 = .ok (.iload_n 1, 1) := by decide +kernel
theorem d_M_parameter_7 : decode b_M_parameter 7 = .ok (.invokevirtual 264, 3) := by decide +kernel
theorem d_M_parameter_10 : decode b_M_parameter 10 = .ok (.ifCond .eq 43, 3) := by decide +kernel
theorem d_M_parameter_13 : decode b_M_parameter 13 = .ok (.iload_n 2, 1) := by decide +kernel
theorem d_M_parameter_14 : decode b_M_parameter 14 = .ok (.ifCond .lt 39, 3) := by decide +kernel
theorem d_M_parameter_17 : decode b_M_parameter 17 = .ok (.iload_n 2, 1) := by decide +kernel
theorem d_M_parameter_18 : decode b_M_parameter 18 = .ok (.aload_n 0, 1) := by decide +kernel
theorem d_M_parameter_19 : decode b_M_parameter 19 = .ok (.getfield 24, 3) := by decide +kernel
theorem d_M_parameter_22 : decode b_M_parameter 22 = .ok (.aload_n 0, 1) := by decide +kernel
theorem d_M_parameter_23 : decode b_M_parameter 23 = .ok (.iload_n 1, 1) := by decide +kernel
theorem d_M_parameter_24 : decode b_M_parameter 24 = .ok (.invokevirtual 264, 3) := by decide +kernel
theorem d_M_parameter_27 : decode b_M_parameter 27 = .ok (.ifCond .eq 7, 3) := by decide +kernel
