theorem d_M_readNumber_14 : decode b_M_readNumber 14 = .ok (.bipush 45, 2) := by decide +kernel
theorem d_M_readNumber_16 : decode b_M_readNumber 16 = .ok (.if_icmp .ne 12, 3) := by decide +kernel
theorem d_M_readNumber_19 : decode b_M_readNumber 19 = .ok (.aload_n 0, 1) := by decide +kernel
theorem d_M_readNumber_20 : decode b_M_readNumber 20 = .ok (.getfield 96, 3) := by decide +kernel
theorem d_M_readNumber_23 : decode b_M_readNumber 23 = .ok (.iconst 1, 1) := by decide +kernel
theorem d_M_readNumber_24 : decode b_M_readNumber 24 = .ok (.iadd, 1) := by decide +kernel
theorem d_M_readNumber_25 : decode b_M_readNumber 25 = .ok (.goto 7, 3) := by decide +kernel
theorem d_M_readNumber_28 : decode b_M_readNumber 28 = .ok (.aload_n 0, 1) := by decide +kernel
theorem d_M_readNumber_29 : decode b_M_readNumber 29 = .ok (.getfield 96, 3) := by decide +kernel
theorem d_M_readNumber_32 : decode b_M_readNumber 32 = .ok (.istore_n 1, 1) := by decide +kernel
theorem d_M_readNumber_33 : decode b_M_readNumber 33 = .ok (.iload_n 1, 1) := by decide +kernel
theorem d_M_readNumber_34 : decode b_M_readNumber 34 = .ok (.aload_n 0, 1) := by decide +kernel
theorem d_M_readNumber_35 : decode b_M_readNumber 35 = .ok (.getfield 93, 3) := by decide +kernel
theorem d_M_readNumber_38 : decode b_M_readNumber 38 = .ok (.if_icmp .ge 7, 3) := by decide +kernel
theorem d_M_readNumber_41 : decode b_M_readNumber 41 = .ok (.iconst 1, 1) := by decide +kernel
theorem d_M_readNumber_42 : decode b_M_readNumber 42 = .ok (.goto 4, 3) := by decide +kernel
theorem d_M_readNumber_45 : decode b_M_readNumber 45 = .ok (.iconst 0, 1) := by decide +kernel
theorem d_M_readNumber_46 : decode b_M_readNumber 46 = .ok (.istore_n 2, 1) := by decide +kernel
theorem d_M_readNumber_47 : decode b_M_readNumber 47 = .ok (.lconst 0, 1) := by decide +kernel
theorem d_M_readNumber_48 : decode b_M_readNumber 48 = .ok (.lstore_n 3, 1) := by decide +kernel
theorem d_M_readNumber_49 : decode b_M_readNumber 49 = .ok (.iload_n 1, 1) := by decide +kernel
theorem d_M_readNumber_50 : decode b_M_readNumber 50 = .ok (.istore 5, 2) := by decide +kernel
theorem d_M_readNumber_52 : decode b_M_readNumber 52 = .ok (.iload 5, 2) := by decide +kernel
theorem d_M_readNumber_54 : decode b_M_readNumber 54 = .ok (.aload_n 0, 1) := by decide +kernel
theorem d_M_readNumber_55 : decode b_M_readNumber 55 = .ok (.getfield 93, 3) := by decide +kernel
theorem d_M_readNumber_58 : decode b_M_readNumber 58 = .ok (.if_icmp .ge 62, 3) := by decide +kernel
theorem d_M_readNumber_61 : decode b_M_readNumber 61 = .ok (.iload_n 2, 1) := by decide +kernel
theorem d_M_readNumber_62 : decode b_M_readNumber 62 = .ok (.ifCond .eq 20, 3) := by decide +kernel
theorem d_M_readNumber_65 : decode b_M_readNumber 65 = .ok (.aload_n 0, 1) := by decide +kernel
theorem d_M_readNumber_66 : decode b_M_readNumber 66 = .ok (.getfield 7, 3) := by decide +kernel
theorem d_M_readNumber_69 : decode b_M_readNumber 69 = .ok (.iload 5, 2) := by decide +kernel
theorem d_M_readNumber_71 : decode b_M_readNumber 71 = .ok (.baload, 1) := by decide +kernel
theorem d_M_readNumber_72 : decode b_M_readNumber 72 = .ok (.invokestatic 90, 3) := by decide +kernel
theorem d_M_readNumber_75 : decode b_M_readNumber 75 = .ok (.ifCond .eq 7, 3) := by decide +kernel
theorem d_M_readNumber_78 : decode b_M_readNumber 78 = .ok (.iconst 1, 1) := by decide +kernel
theorem d_M_readNumber_79 : decode b_M_readNumber 79 = .ok (.goto 4, 3) := by decide +kernel
theorem d_M_readNumber_82 : decode b_M_readNumber 82 = .ok (.iconst 0, 1) := by decide +kernel
theorem d_M_readNumber_83 : decode b_M_readNumber 83 = .ok (.istore_n 2, 1) := by decide +kernel
theorem d_M_readNumber_84 : decode b_M_readNumber 84 = .ok (.lload_n 3, 1) := by decide +kernel
theorem d_M_readNumber_85 : decode b_M_readNumber 85 = .ok (.ldc2_w 121, 3) := by decide +kernel
theorem d_M_readNumber_88 : decode b_M_readNumber 88 = .ok (.lcmp, 1) := by decide +kernel
theorem d_M_readNumber_89 : decode b_M_readNumber 89 = .ok (.ifCond .le 7, 3) := by decide +kernel
theorem d_M_readNumber_92 : decode b_M_readNumber 92 = .ok (.lload_n 3, 1) := by decide +kernel
theorem d_M_readNumber_93 : decode b_M_readNumber 93 = .ok (.goto 20, 3) := by decide +kernel
theorem d_M_readNumber_96 : decode b_M_readNumber 96 = .ok (.ldc2_w 123, 3) := by decide +kernel
theorem d_M_readNumber_99 : decode b_M_readNumber 99 = .ok (.lload_n 3, 1) := by decide +kernel
theorem d_M_readNumber_100 : decode b_M_readNumber 100 = .ok (.lmul, 1) := by decide +kernel
theorem d_M_readNumber_101 : decode b_M_readNumber 101 = .ok (.aload_n 0, 1) := by decide +kernel
theorem d_M_readNumber_102 : decode b_M_readNumber 102 = .ok (.getfield 7, 3) := by decide +kernel
theorem d_M_readNumber_105 : decode b_M_readNumber 105 = .ok (.iload 5, 2) := by decide +kernel
theorem d_M_readNumber_107 : decode b_M_readNumber 107 = .ok (.baload, 1) := by decide +kernel
theorem d_M_readNumber_108 : decode b_M_readNumber 108 = .ok (.bipush 48, 2) := by decide +kernel
theorem d_M_readNumber_110 : decode b_M_readNumber 110 = .ok (.isub, 1) := by decide +kernel
theorem d_M_readNumber_111 : decode b_M_readNumber 111 = .ok (.i2l, 1) := by decide +kernel
theorem d_M_readNumber_112 : decode b_M_readNumber 112 = .ok (.ladd, 1) := by decide +kernel
theorem d_M_readNumber_113 : decode b_M_readNumber 113 = .ok (.lstore_n 3, 1) := by decide +kernel
theorem d_M_readNumber_114 : decode b_M_readNumber 114 = .ok (.iinc 5 1, 3) := by decide +kernel
theorem d_M_readNumber_117 : decode b_M_readNumber 117 = .ok (.goto (-65), 3) := by decide +kernel
theorem d_M_readNumber_120 : decode b_M_readNumber 120 = .ok (.iload_n 1, 1) := by decide +kernel
theorem d_M_readNumber_121 : decode b_M_readNumber 121 = .ok (.aload_n 0, 1) := by decide +kernel
theorem d_M_readNumber_122 : decode b_M_readNumber 122 = .ok (.getfield 96, 3) := by decide +kernel
theorem d_M_readNumber_125 : decode b_M_readNumber 125 = .ok (.if_icmp .le 8, 3) := by decide +kernel
theorem d_M_readNumber_128 : decode b_M_readNumber 128 = .ok (.lload_n 3, 1) := by decide +kernel
theorem d_M_readNumber_129 : decode b_M_readNumber 129 = .ok (.lneg, 1) := by decide +kernel
theorem d_M_readNumber_130 : decode b_M_readNumber 130 = .ok (.goto 4, 3) := by decide +kernel
theorem d_M_readNumber_133 : decode b_M_readNumber 133 = .ok (.lload_n 3, 1) := by decide +kernel
theorem d_M_readNumber_134 : decode b_M_readNumber 134 = .ok (.lstore_n 3, 1) := by decide +kernel
theorem d_M_readNumber_135 : decode b_M_readNumber 135 = .ok (.iload_n 2, 1) := by decide +kernel
theorem d_M_readNumber_136 : decode b_M_readNumber 136 = .ok (.ifCond .eq 19, 3) := by decide +kernel
theorem d_M_readNumber_139 : decode b_M_readNumber 139 = .ok (.lload_n 3, 1) := by decide +kernel
theorem d_M_readNumber_140 : decode b_M_readNumber 140 = .ok (.ldc2_w 125, 3) := by decide +kernel
theorem d_M_readNumber_143 : decode b_M_readNumber 143 = .ok (.lcmp, 1) := by decide +kernel
theorem d_M_readNumber_144 : decode b_M_readNumber 144 = .ok (.ifCond .lt 11, 3) := by decide +kernel
theorem d_M_readNumber_147 : decode b_M_readNumber 147 = .ok (.lload_n 3, 1) := by decide +kernel
theorem d_M_readNumber_148 : decode b_M_readNumber 148 = .ok (.ldc2_w 127, 3) := by decide +kernel
theorem d_M_readNumber_151 : decode b_M_readNumber 151 = .ok (.lcmp, 1) := by decide +kernel
theorem d_M_readNumber_152 : decode b_M_readNumber 152 = .ok (.ifCond .le 12, 3) := by decide +kernel
theorem d_M_readNumber_155 : decode b_M_readNumber 155 = .ok (.aload_n 0, 1) := by decide +kernel
theorem d_M_readNumber_156 : decode b_M_readNumber 156 = .ok (.iconst 1, 1) := by decide +kernel
theorem d_M_readNumber_157 : decode b_M_readNumber 157 = .ok (.aload_n 0, 1) := by decide +kernel
theorem d_M_readNumber_158 : decode b_M_readNumber 158 = .ok (.getfield 96, 3) := by decide +kernel
theorem d_M_readNumber_161 : decode b_M_readNumber 161 = .ok (.invokevirtual 105, 3) := by decide +kernel
theorem d_M_readNumber_164 : decode b_M_readNumber 164 = .ok (.aload_n 0, 1) := by decide +kernel
theorem d_M_readNumber_165 : decode b_M_readNumber 165 = .ok (.lload_n 3, 1) := by decide +kernel
theorem d_M_readNumber_166 : decode b_M_readNumber 166 = .ok (.l2i, 1) := by decide +kernel
theorem d_M_readNumber_167 : decode b_M_readNumber 167 = .ok (.putfield 129, 3) := by decide +kernel
theorem d_M_readNumber_170 : decode b_M_readNumber 170 = .ok (.return_, 1) := by decide +kernel
theorem d_M_readDefinition_0 : decode b_M_readDefinition 0 = .ok (.aload_n 0, 1) := by decide +kernel
theorem d_M_readDefinition_1 : decode b_M_readDefinition 1 = .ok (.aload_n 0, 1) := by decide +kernel
theorem d_M_readDefinition_2 : decode b_M_readDefinition 2 = .ok (.getfield 99, 3) := by decide +kernel
theorem d_M_readDefinition_5 : decode b_M_readDefinition 5 = .ok (.ifCond .ne 16, 3) := by decide +kernel
theorem d_M_readDefinition_8 : decode b_M_readDefinition 8 = .ok (.aload_n 0, 1) := by decide +kernel
theorem d_M_readDefinition_9 : decode b_M_readDefinition 9 = .ok (.getfield 251, 3) := by decide +kernel
theorem d_M_readDefinition_12 : decode b_M_readDefinition 12 = .ok (.bipush 64, 2) := by decide +kernel
theorem d_M_readDefinition_14 : decode b_M_readDefinition 14 = .ok (.if_icmp .ge 7, 3) := by decide +kernel
theorem d_M_readDefinition_17 : decode b_M_readDefinition 17 = .ok (.iconst 1, 1) := by decide +kernel
theorem d_M_readDefinition_18 : decode b_M_readDefinition 18 = .ok (.goto 4, 3) := by decide +kernel
theorem d_M_readDefinition_21 : decode b_M_readDefinition 21 = .ok (.iconst 0, 1) := by decide +kernel
theorem d_M_readDefinition_22 : decode b_M_readDefinition 22 = .ok (.invokevirtual 213, 3) := by decide +kernel
theorem d_M_readDefinition_25 : decode b_M_readDefinition 25 = .ok (.pop, 1) := by decide +kernel
theorem d_M_readDefinition_26 : decode b_M_readDefinition 26 = .ok (.aload_n 0, 1) := by decide +kernel
theorem d_M_readDefinition_27 : decode b_M_readDefinition 27 = .ok (.getfield 83, 3) := by decide +kernel
theorem d_M_readDefinition_30 : decode b_M_readDefinition 30 = .ok (.ifCond .le 4, 3) := by decide +kernel
theorem d_M_readDefinition_33 : decode b_M_readDefinition 33 = .ok (.return_, 1) := by decide +kernel
theorem d_M_readDefinition_34 : decode b_M_readDefinition 34 = .ok (.aload_n 0, 1) := by decide +kernel
theorem d_M_readDefinition_35 : decode b_M_readDefinition 35 = .ok (.getfield 251, 3) := by decide +kernel
theorem d_M_readDefinition_38 : decode b_M_readDefinition 38 = .ok (.istore_n 1, 1) := by decide +kernel
theorem d_M_readDefinition_39 : decode b_M_readDefinition 39 = .ok (.aload_n 0, 1) := by decide +kernel
theorem d_M_readDefinition_40 : decode b_M_readDefinition 40 = .ok (.invokevirtual 232, 3) := by decide +kernel
theorem d_M_readDefinition_43 : decode b_M_readDefinition 43 = .ok (.aload_n 0, 1) := by decide +kernel
theorem d_M_readDefinition_44 : decode b_M_readDefinition 44 = .ok (.aload_n 0, 1) := by decide +kernel
theorem d_M_readDefinition_45 : decode b_M_readDefinition 45 = .ok (.getfield 83, 3) := by decide +kernel
theorem d_M_readDefinition_48 : decode b_M_readDefinition 48 = .ok (.ifCond .gt 21, 3) := by decide +kernel
theorem d_M_readDefinition_51 : decode b_M_readDefinition 51 = .ok (.aload_n 0, 1) := by decide +kernel
theorem d_M_readDefinition_52 : decode b_M_readDefinition 52 = .ok (.ldc 198, 2) := by decide +kernel
theorem d_M_readDefinition_54 : decode b_M_readDefinition 54 = .ok (.invokevirtual 144, 3) := by decide +kernel
theorem d_M_readDefinition_57 : decode b_M_readDefinition 57 = .ok (.ifCond .ne 12, 3) := by decide +kernel
theorem d_M_readDefinition_60 : decode b_M_readDefinition 60 = .ok (.aload_n 0, 1) := by decide +kernel
theorem d_M_readDefinition_61 : decode b_M_readDefinition 61 = .ok (.ldc 200, 2) := by decide +kernel
theorem d_M_readDefinition_63 : decode b_M_readDefinition 63 = .ok (.invokevirtual 144, 3) := by decide +kernel
theorem d_M_readDefinition_66 : decode b_M_readDefinition 66 = .ok (.ifCond .eq 7, 3) := by decide +kernel
theorem d_M_readDefinition_69 : decode b_M_readDefinition 69 = .ok (.iconst 1, 1) := by decide +kernel
theorem d_M_readDefinition_70 : decode b_M_readDefinition 70 = .ok (.goto 4, 3) := by decide +kernel
theorem d_M_readDefinition_73 : decode b_M_readDefinition 73 = .ok (.iconst 0, 1) := by decide +kernel
theorem d_M_readDefinition_74 : decode b_M_readDefinition 74 = .ok (.invokevirtual 213, 3) := by decide +kernel
theorem d_M_readDefinition_77 : decode b_M_readDefinition 77 = .ok (.pop, 1) := by decide +kernel
theorem d_M_readDefinition_78 : decode b_M_readDefinition 78 = .ok (.aload_n 0, 1) := by decide +kernel
theorem d_M_readDefinition_79 : decode b_M_readDefinition 79 = .ok (.getfield 17, 3) := by decide +kernel
theorem d_M_readDefinition_82 : decode b_M_readDefinition 82 = .ok (.iload_n 1, 1) := by decide +kernel
theorem d_M_readDefinition_83 : decode b_M_readDefinition 83 = .ok (.aload_n 0, 1) := by decide +kernel
theorem d_M_readDefinition_84 : decode b_M_readDefinition 84 = .ok (.getfield 83, 3) := by decide +kernel
theorem d_M_readDefinition_87 : decode b_M_readDefinition 87 = .ok (.ifCond .ne 16, 3) := by decide +kernel
theorem d_M_readDefinition_90 : decode b_M_readDefinition 90 = .ok (.aload_n 0, 1) := by decide +kernel
theorem d_M_readDefinition_91 : decode b_M_readDefinition 91 = .ok (.ldc 200, 2) := by decide +kernel
theorem d_M_readDefinition_93 : decode b_M_readDefinition 93 = .ok (.invokevirtual 144, 3) := by decide +kernel
theorem d_M_readDefinition_96 : decode b_M_readDefinition 96 = .ok (.ifCond .eq 7, 3) := by decide +kernel
theorem d_M_readDefinition_99 : decode b_M_readDefinition 99 = .ok (.iconst 1, 1) := by decide +kernel
theorem d_M_readDefinition_100 : decode b_M_readDefinition 100 = .ok (.goto 4, 3) := by decide +kernel
theorem d_M_readDefinition_103 : decode b_M_readDefinition 103 = .ok (.iconst 0, 1) := by decide +kernel
theorem d_M_readDefinition_104 : decode b_M_readDefinition 104 = .ok (.iastore, 1) := by decide +kernel
theorem d_M_readDefinition_105 : decode b_M_readDefinition 105 = .ok (.aload_n 0, 1) := by decide +kernel
theorem d_M_readDefinition_106 : decode b_M_readDefinition 106 = .ok (.getfield 83, 3) := by decide +kernel
theorem d_M_readDefinition_109 : decode b_M_readDefinition 109 = .ok (.ifCond .ne 7, 3) := by decide +kernel
theorem d_M_readDefinition_112 : decode b_M_readDefinition 112 = .ok (.aload_n 0, 1) := by decide +kernel
theorem d_M_readDefinition_113 : decode b_M_readDefinition 113 = .ok (.invokevirtual 232, 3) := by decide +kernel
theorem d_M_readDefinition_116 : decode b_M_readDefinition 116 = .ok (.iconst 0, 1) := by decide +kernel
theorem d_M_readDefinition_117 : decode b_M_readDefinition 117 = .ok (.istore_n 2, 1) := by decide +kernel
theorem d_M_readDefinition_118 : decode b_M_readDefinition 118 = .ok (.iconst 0, 1) := by decide +kernel
theorem d_M_readDefinition_119 : decode b_M_readDefinition 119 = .ok (.istore_n 3, 1) := by decide +kernel
theorem d_M_readDefinition_120 : decode b_M_readDefinition 120 = .ok (.iload_n 3, 1) := by decide +kernel
theorem d_M_readDefinition_121 : decode b_M_readDefinition 121 = .ok (.iload_n 1, 1) := by decide +kernel
theorem d_M_readDefinition_122 : decode b_M_readDefinition 122 = .ok (.if_icmp .ge 33, 3) := by decide +kernel
theorem d_M_readDefinition_125 : decode b_M_readDefinition 125 = .ok (.iload_n 2, 1) := by decide +kernel
theorem d_M_readDefinition_126 : decode b_M_readDefinition 126 = .ok (.ifCond .ne 17, 3) := by decide +kernel
theorem d_M_readDefinition_129 : decode b_M_readDefinition 129 = .ok (.aload_n 0, 1) := by decide +kernel
theorem d_M_readDefinition_130 : decode b_M_readDefinition 130 = .ok (.getfield 33, 3) := by decide +kernel
theorem d_M_readDefinition_133 : decode b_M_readDefinition 133 = .ok (.iload_n 3, 1) := by decide +kernel
theorem d_M_readDefinition_134 : decode b_M_readDefinition 134 = .ok (.laload, 1) := by decide +kernel
theorem d_M_readDefinition_135 : decode b_M_readDefinition 135 = .ok (.aload_n 0, 1) := by decide +kernel
theorem d_M_readDefinition_136 : decode b_M_readDefinition 136 = .ok (.getfield 115, 3) := by decide +kernel
theorem d_M_readDefinition_139 : decode b_M_readDefinition 139 = .ok (.lcmp, 1) := by decide +kernel
theorem d_M_readDefinition_140 : decode b_M_readDefinition 140 = .ok (.ifCond .ne 7, 3) := by decide +kernel
theorem d_M_readDefinition_143 : decode b_M_readDefinition 143 = .ok (.iconst 1, 1) := by decide +kernel
theorem d_M_readDefinition_144 : decode b_M_readDefinition 144 = .ok (.goto 4, 3) := by decide +kernel
theorem d_M_readDefinition_147 : decode b_M_readDefinition 147 = .ok (.iconst 0, 1) := by decide +kernel
theorem d_M_readDefinition_148 : decode b_M_readDefinition 148 = .ok (.istore_n 2, 1) := by decide +kernel
theorem d_M_readDefinition_149 : decode b_M_readDefinition 149 = .ok (.iinc 3 1, 3) := by decide +kernel
theorem d_M_readDefinition_152 : decode b_M_readDefinition 152 = .ok (.goto (-32), 3) := by decide +kernel
theorem d_M_readDefinition_155 : decode b_M_readDefinition 155 = .ok (.aload_n 0, 1) := by decide +kernel
theorem d_M_readDefinition_156 : decode b_M_readDefinition 156 = .ok (.aload_n 0, 1) := by decide +kernel
theorem d_M_readDefinition_157 : decode b_M_readDefinition 157 = .ok (.getfield 83, 3) := by decide +kernel
theorem d_M_readDefinition_160 : decode b_M_readDefinition 160 = .ok (.ifCond .gt 14, 3) := by decide +kernel
theorem d_M_readDefinition_163 : decode b_M_readDefinition 163 = .ok (.aload_n 0, 1) := by decide +kernel
theorem d_M_readDefinition_164 : decode b_M_readDefinition 164 = .ok (.invokevirtual 224, 3) := by decide +kernel
theorem d_M_readDefinition_167 : decode b_M_readDefinition 167 = .ok (.ifCond .eq 11, 3) := by decide +kernel
theorem d_M_readDefinition_170 : decode b_M_readDefinition 170 = .ok (.iload_n 2, 1) := by decide +kernel
theorem d_M_readDefinition_171 : decode b_M_readDefinition 171 = .ok (.ifCond .ne 7, 3) := by decide +kernel
theorem d_M_readDefinition_174 : decode b_M_readDefinition 174 = .ok (.iconst 1, 1) := by decide +kernel
theorem d_M_readDefinition_175 : decode b_M_readDefinition 175 = .ok (.goto 4, 3) := by decide +kernel
theorem d_M_readDefinition_178 : decode b_M_readDefinition 178 = .ok (.iconst 0, 1) := by decide +kernel
theorem d_M_readDefinition_179 : decode b_M_readDefinition 179 = .ok (.invokevirtual 213, 3) := by decide +kernel
theorem d_M_readDefinition_182 : decode b_M_readDefinition 182 = .ok (.pop, 1) := by decide +kernel
theorem d_M_readDefinition_183 : decode b_M_readDefinition 183 = .ok (.aload_n 0, 1) := by decide +kernel
theorem d_M_readDefinition_184 : decode b_M_readDefinition 184 = .ok (.getfield 33, 3) := by decide +kernel
theorem d_M_readDefinition_187 : decode b_M_readDefinition 187 = .ok (.iload_n 1, 1) := by decide +kernel
theorem d_M_readDefinition_188 : decode b_M_readDefinition 188 = .ok (.aload_n 0, 1) := by decide +kernel
theorem d_M_readDefinition_189 : decode b_M_readDefinition 189 = .ok (.getfield 115, 3) := by decide +kernel
theorem d_M_readDefinition_192 : decode b_M_readDefinition 192 = .ok (.lastore, 1) := by decide +kernel
theorem d_M_readDefinition_193 : decode b_M_readDefinition 193 = .ok (.aload_n 0, 1) := by decide +kernel
theorem d_M_readDefinition_194 : decode b_M_readDefinition 194 = .ok (.getfield 30, 3) := by decide +kernel
theorem d_M_readDefinition_197 : decode b_M_readDefinition 197 = .ok (.iload_n 1, 1) := by decide +kernel
theorem d_M_readDefinition_198 : decode b_M_readDefinition 198 = .ok (.aload_n 0, 1) := by decide +kernel
theorem d_M_readDefinition_199 : decode b_M_readDefinition 199 = .ok (.getfield 96, 3) := by decide +kernel
theorem d_M_readDefinition_202 : decode b_M_readDefinition 202 = .ok (.iastore, 1) := by decide +kernel
theorem d_M_readDefinition_203 : decode b_M_readDefinition 203 = .ok (.aload_n 0, 1) := by decide +kernel
theorem d_M_readDefinition_204 : decode b_M_readDefinition 204 = .ok (.getfield 24, 3) := by decide +kernel
theorem d_M_readDefinition_207 : decode b_M_readDefinition 207 = .ok (.iload_n 1, 1) := by decide +kernel
theorem d_M_readDefinition_208 : decode b_M_readDefinition 208 = .ok (.iconst 0, 1) := by decide +kernel
theorem d_M_readDefinition_209 : decode b_M_readDefinition 209 = .ok (.iastore, 1) := by decide +kernel
theorem d_M_readDefinition_210 : decode b_M_readDefinition 210 = .ok (.aload_n 0, 1) := by decide +kernel
theorem d_M_readDefinition_211 : decode b_M_readDefinition 211 = .ok (.getfield 83, 3) := by decide +kernel
theorem d_M_readDefinition_214 : decode b_M_readDefinition 214 = .ok (.ifCond .ne 24, 3) := by decide +kernel
theorem d_M_readDefinition_217 : decode b_M_readDefinition 217 = .ok (.aload_n 0, 1) := by decide +kernel
theorem d_M_readDefinition_218 : decode b_M_readDefinition 218 = .ok (.invokevirtual 232, 3) := by decide +kernel
theorem d_M_readDefinition_221 : decode b_M_readDefinition 221 = .ok (.aload_n 0, 1) := by decide +kernel
theorem d_M_readDefinition_222 : decode b_M_readDefinition 222 = .ok (.aload_n 0, 1) := by decide +kernel
theorem d_M_readDefinition_223 : decode b_M_readDefinition 223 = .ok (.getfield 99, 3) := by decide +kernel
theorem d_M_readDefinition_226 : decode b_M_readDefinition 226 = .ok (.ifCond .ne 7, 3) := by decide +kernel
theorem d_M_readDefinition_229 : decode b_M_readDefinition 229 = .ok (.iconst 1, 1) := by decide +kernel
theorem d_M_readDefinition_230 : decode b_M_readDefinition 230 = .ok (.goto 4, 3) := by decide +kernel
theorem d_M_readDefinition_233 : decode b_M_readDefinition 233 = .ok (.iconst 0, 1) := by decide +kernel
theorem d_M_readDefinition_234 : decode b_M_readDefinition 234 = .ok (.invokevirtual 213, 3) := by decide +kernel
theorem d_M_readDefinition_237 : decode b_M_readDefinition 237 = .ok (.pop, 1) := by decide +kernel
theorem d_M_readDefinition_238 : decode b_M_readDefinition 238 = .ok (.iconst 1, 1) := by decide +kernel
theorem d_M_readDefinition_239 : decode b_M_readDefinition 239 = .ok (.istore_n 3, 1) := by decide +kernel
theorem d_M_readDefinition_240 : decode b_M_readDefinition 240 = .ok (.iload_n 3, 1) := by decide +kernel
theorem d_M_readDefinition_241 : decode b_M_readDefinition 241 = .ok (.ifCond .eq 71, 3) := by decide +kernel
theorem d_M_readDefinition_244 : decode b_M_readDefinition 244 = .ok (.aload_n 0, 1) := by decide +kernel
theorem d_M_readDefinition_245 : decode b_M_readDefinition 245 = .ok (.getfield 83, 3) := by decide +kernel
theorem d_M_readDefinition_248 : decode b_M_readDefinition 248 = .ok (.ifCond .ne 64, 3) := by decide +kernel
theorem d_M_readDefinition_251 : decode b_M_readDefinition 251 = .ok (.aload_n 0, 1) := by decide +kernel
theorem d_M_readDefinition_252 : decode b_M_readDefinition 252 = .ok (.invokevirtual 232, 3) := by decide +kernel
theorem d_M_readDefinition_255 : decode b_M_readDefinition 255 = .ok (.aload_n 0, 1) := by decide +kernel
theorem d_M_readDefinition_256 : decode b_M_readDefinition 256 = .ok (.aload_n 0, 1) := by decide +kernel
theorem d_M_readDefinition_257 : decode b_M_readDefinition 257 = .ok (.getfield 99, 3) := by decide +kernel
theorem d_M_readDefinition_260 : decode b_M_readDefinition 260 = .ok (.ifCond .eq 11, 3) := by decide +kernel
theorem d_M_readDefinition_263 : decode b_M_readDefinition 263 = .ok (.aload_n 0, 1) := by decide +kernel
theorem d_M_readDefinition_264 : decode b_M_readDefinition 264 = .ok (.getfield 99, 3) := by decide +kernel
theorem d_M_readDefinition_267 : decode b_M_readDefinition 267 = .ok (.iconst 1, 1) := by decide +kernel
theorem d_M_readDefinition_268 : decode b_M_readDefinition 268 = .ok (.if_icmp .ne 7, 3) := by decide +kernel
theorem d_M_readDefinition_271 : decode b_M_readDefinition 271 = .ok (.iconst 1, 1) := by decide +kernel
theorem d_M_readDefinition_272 : decode b_M_readDefinition 272 = .ok (.goto 4, 3) := by decide +kernel
theorem d_M_readDefinition_275 : decode b_M_readDefinition 275 = .ok (.iconst 0, 1) := by decide +kernel
theorem d_M_readDefinition_276 : decode b_M_readDefinition 276 = .ok (.invokevirtual 213, 3) := by decide +kernel
theorem d_M_readDefinition_279 : decode b_M_readDefinition 279 = .ok (.pop, 1) := by decide +kernel
theorem d_M_readDefinition_280 : decode b_M_readDefinition 280 = .ok (.aload_n 0, 1) := by decide +kernel
theorem d_M_readDefinition_281 : decode b_M_readDefinition 281 = .ok (.getfield 99, 3) := by decide +kernel
theorem d_M_readDefinition_284 : decode b_M_readDefinition 284 = .ok (.ifCond .ne 7, 3) := by decide +kernel
theorem d_M_readDefinition_287 : decode b_M_readDefinition 287 = .ok (.iconst 1, 1) := by decide +kernel
theorem d_M_readDefinition_288 : decode b_M_readDefinition 288 = .ok (.goto 4, 3) := by decide +kernel
theorem d_M_readDefinition_291 : decode b_M_readDefinition 291 = .ok (.iconst 0, 1) := by decide +kernel
theorem d_M_readDefinition_292 : decode b_M_readDefinition 292 = .ok (.istore_n 3, 1) := by decide +kernel
theorem d_M_readDefinition_293 : decode b_M_readDefinition 293 = .ok (.iload_n 3, 1) := by decide +kernel
theorem d_M_readDefinition_294 : decode b_M_readDefinition 294 = .ok (.ifCond .eq (-54), 3) := by decide +kernel
theorem d_M_readDefinition_297 : decode b_M_readDefinition 297 = .ok (.aload_n 0, 1) := by decide +kernel
theorem d_M_readDefinition_298 : decode b_M_readDefinition 298 = .ok (.getfield 83, 3) := by decide +kernel
theorem d_M_readDefinition_301 : decode b_M_readDefinition 301 = .ok (.ifCond .ne (-61), 3) := by decide +kernel
theorem d_M_readDefinition_304 : decode b_M_readDefinition 304 = .ok (.aload_n 0, 1) := by decide +kernel
theorem d_M_readDefinition_305 : decode b_M_readDefinition 305 = .ok (.iload_n 1, 1) := by decide +kernel
theorem d_M_readDefinition_306 : decode b_M_readDefinition 306 = .ok (.invokevirtual 254, 3) := by decide +kernel
theorem d_M_readDefinition_309 : decode b_M_readDefinition 309 = .ok (.goto (-69), 3) := by decide +kernel
theorem d_M_readDefinition_312 : decode b_M_readDefinition 312 = .ok (.aload_n 0, 1) := by decide +kernel
theorem d_M_readDefinition_313 : decode b_M_readDefinition 313 = .ok (.getfield 83, 3) := by decide +kernel
theorem d_M_readDefinition_316 : decode b_M_readDefinition 316 = .ok (.ifCond .ne 69, 3) := by decide +kernel
theorem d_M_readDefinition_319 : decode b_M_readDefinition 319 = .ok (.aload_n 0, 1) := by decide +kernel
theorem d_M_readDefinition_320 : decode b_M_readDefinition 320 = .ok (.invokevirtual 232, 3) := by decide +kernel
theorem d_M_readDefinition_323 : decode b_M_readDefinition 323 = .ok (.aload_n 0, 1) := by decide +kernel
theorem d_M_readDefinition_324 : decode b_M_readDefinition 324 = .ok (.aload_n 0, 1) := by decide +kernel
theorem d_M_readDefinition_325 : decode b_M_readDefinition 325 = .ok (.getfield 83, 3) := by decide +kernel
theorem d_M_readDefinition_328 : decode b_M_readDefinition 328 = .ok (.ifCond .gt 27, 3) := by decide +kernel
theorem d_M_readDefinition_331 : decode b_M_readDefinition 331 = .ok (.aload_n 0, 1) := by decide +kernel
theorem d_M_readDefinition_332 : decode b_M_readDefinition 332 = .ok (.invokevirtual 189, 3) := by decide +kernel
theorem d_M_readDefinition_335 : decode b_M_readDefinition 335 = .ok (.ifCond .lt 24, 3) := by decide +kernel
theorem d_M_readDefinition_338 : decode b_M_readDefinition 338 = .ok (.aload_n 0, 1) := by decide +kernel
theorem d_M_readDefinition_339 : decode b_M_readDefinition 339 = .ok (.getfield 17, 3) := by decide +kernel
theorem d_M_readDefinition_342 : decode b_M_readDefinition 342 = .ok (.iload_n 1, 1) := by decide +kernel
theorem d_M_readDefinition_343 : decode b_M_readDefinition 343 = .ok (.iaload, 1) := by decide +kernel
theorem d_M_readDefinition_344 : decode b_M_readDefinition 344 = .ok (.ifCond .eq 11, 3) := by decide +kernel
theorem d_M_readDefinition_347 : decode b_M_readDefinition 347 = .ok (.aload_n 0, 1) := by decide +kernel
theorem d_M_readDefinition_348 : decode b_M_readDefinition 348 = .ok (.invokevirtual 189, 3) := by decide +kernel
theorem d_M_readDefinition_351 : decode b_M_readDefinition 351 = .ok (.iconst 2, 1) := by decide +kernel
theorem d_M_readDefinition_352 : decode b_M_readDefinition 352 = .ok (.if_icmp .ge 7, 3) := by decide +kernel
theorem d_M_readDefinition_355 : decode b_M_readDefinition 355 = .ok (.iconst 1, 1) := by decide +kernel
theorem d_M_readDefinition_356 : decode b_M_readDefinition 356 = .ok (.goto 4, 3) := by decide +kernel
theorem d_M_readDefinition_359 : decode b_M_readDefinition 359 = .ok (.iconst 0, 1) := by decide +kernel
theorem d_M_readDefinition_360 : decode b_M_readDefinition 360 = .ok (.invokevirtual 213, 3) := by decide +kernel
theorem d_M_readDefinition_363 : decode b_M_readDefinition 363 = .ok (.pop, 1) := by decide +kernel
theorem d_M_readDefinition_364 : decode b_M_readDefinition 364 = .ok (.aload_n 0, 1) := by decide +kernel
theorem d_M_readDefinition_365 : decode b_M_readDefinition 365 = .ok (.getfield 21, 3) := by decide +kernel
theorem d_M_readDefinition_368 : decode b_M_readDefinition 368 = .ok (.iload_n 1, 1) := by decide +kernel
theorem d_M_readDefinition_369 : decode b_M_readDefinition 369 = .ok (.aload_n 0, 1) := by decide +kernel
theorem d_M_readDefinition_370 : decode b_M_readDefinition 370 = .ok (.getfield 83, 3) := by decide +kernel
theorem d_M_readDefinition_373 : decode b_M_readDefinition 373 = .ok (.ifCond .le 7, 3) := by decide +kernel
theorem d_M_readDefinition_376 : decode b_M_readDefinition 376 = .ok (.iconst 0, 1) := by decide +kernel
theorem d_M_readDefinition_377 : decode b_M_readDefinition 377 = .ok (.goto 7, 3) := by decide +kernel
theorem d_M_readDefinition_380 : decode b_M_readDefinition 380 = .ok (.aload_n 0, 1) := by decide +kernel
theorem d_M_readDefinition_381 : decode b_M_readDefinition 381 = .ok (.invokevirtual 189, 3) := by decide +kernel
theorem d_M_readDefinition_384 : decode b_M_readDefinition 384 = .ok (.iastore, 1) := by decide +kernel
theorem d_M_readDefinition_385 : decode b_M_readDefinition 385 = .ok (.aload_n 0, 1) := by decide +kernel
theorem d_M_readDefinition_386 : decode b_M_readDefinition 386 = .ok (.getfield 27, 3) := by decide +kernel
theorem d_M_readDefinition_389 : decode b_M_readDefinition 389 = .ok (.iload_n 1, 1) := by decide +kernel
theorem d_M_readDefinition_390 : decode b_M_readDefinition 390 = .ok (.aload_n 0, 1) := by decide +kernel
theorem d_M_readDefinition_391 : decode b_M_readDefinition 391 = .ok (.getfield 207, 3) := by decide +kernel
theorem d_M_readDefinition_394 : decode b_M_readDefinition 394 = .ok (.iastore, 1) := by decide +kernel
theorem d_M_readDefinition_395 : decode b_M_readDefinition 395 = .ok (.aload_n 0, 1) := by decide +kernel
theorem d_M_readDefinition_396 : decode b_M_readDefinition 396 = .ok (.aload_n 0, 1) := by decide +kernel
theorem d_M_readDefinition_397 : decode b_M_readDefinition 397 = .ok (.getfield 24, 3) := by decide +kernel
theorem d_M_readDefinition_400 : decode b_M_readDefinition 400 = .ok (.iload_n 1, 1) := by decide +kernel
theorem d_M_readDefinition_401 : decode b_M_readDefinition 401 = .ok (.iaload, 1) := by decide +kernel
theorem d_M_readDefinition_402 : decode b_M_readDefinition 402 = .ok (.putfield 210, 3) := by decide +kernel
theorem d_M_readDefinition_405 : decode b_M_readDefinition 405 = .ok (.aload_n 0, 1) := by decide +kernel
theorem d_M_readDefinition_406 : decode b_M_readDefinition 406 = .ok (.getfield 83, 3) := by decide +kernel
theorem d_M_readDefinition_409 : decode b_M_readDefinition 409 = .ok (.ifCond .ne 21, 3) := by decide +kernel
theorem d_M_readDefinition_412 : decode b_M_readDefinition 412 = .ok (.aload_n 0, 1) := by decide +kernel
theorem d_M_readDefinition_413 : decode b_M_readDefinition 413 = .ok (.aload_n 0, 1) := by decide +kernel
theorem d_M_readDefinition_414 : decode b_M_readDefinition 414 = .ok (.getfield 17, 3) := by decide +kernel
theorem d_M_readDefinition_417 : decode b_M_readDefinition 417 = .ok (.iload_n 1, 1) := by decide +kernel
theorem d_M_readDefinition_418 : decode b_M_readDefinition 418 = .ok (.iaload, 1) := by decide +kernel
theorem d_M_readDefinition_419 : decode b_M_readDefinition 419 = .ok (.ifCond .ne 7, 3) := by decide +kernel
theorem d_M_readDefinition_422 : decode b_M_readDefinition 422 = .ok (.iconst 1, 1) := by decide +kernel
theorem d_M_readDefinition_423 : decode b_M_readDefinition 423 = .ok (.goto 4, 3) := by decide +kernel
theorem d_M_readDefinition_426 : decode b_M_readDefinition 426 = .ok (.iconst 0, 1) := by decide +kernel
theorem d_M_readDefinition_427 : decode b_M_readDefinition 427 = .ok (.invokevirtual 257, 3) := by decide +kernel
theorem d_M_readDefinition_430 : decode b_M_readDefinition 430 = .ok (.aload_n 0, 1) := by decide +kernel
theorem d_M_readDefinition_431 : decode b_M_readDefinition 431 = .ok (.getfield 83, 3) := by decide +kernel
theorem d_M_readDefinition_434 : decode b_M_readDefinition 434 = .ok (.ifCond .ne 25, 3) := by decide +kernel
theorem d_M_readDefinition_437 : decode b_M_readDefinition 437 = .ok (.aload_n 0, 1) := by decide +kernel
theorem d_M_readDefinition_438 : decode b_M_readDefinition 438 = .ok (.invokevirtual 232, 3) := by decide +kernel
theorem d_M_readDefinition_441 : decode b_M_readDefinition 441 = .ok (.aload_n 0, 1) := by decide +kernel
theorem d_M_readDefinition_442 : decode b_M_readDefinition 442 = .ok (.aload_n 0, 1) := by decide +kernel
theorem d_M_readDefinition_443 : decode b_M_readDefinition 443 = .ok (.getfield 99, 3) := by decide +kernel
theorem d_M_readDefinition_446 : decode b_M_readDefinition 446 = .ok (.iconst 1, 1) := by decide +kernel
theorem d_M_readDefinition_447 : decode b_M_readDefinition 447 = .ok (.if_icmp .ne 7, 3) := by decide +kernel
theorem d_M_readDefinition_450 : decode b_M_readDefinition 450 = .ok (.iconst 1, 1) := by decide +kernel
theorem d_M_readDefinition_451 : decode b_M_readDefinition 451 = .ok (.goto 4, 3) := by decide +kernel
theorem d_M_readDefinition_454 : decode b_M_readDefinition 454 = .ok (.iconst 0, 1) := by decide +kernel
theorem d_M_readDefinition_455 : decode b_M_readDefinition 455 = .ok (.invokevirtual 213, 3) := by decide +kernel
theorem d_M_readDefinition_458 : decode b_M_readDefinition 458 = .ok (.pop, 1) := by decide +kernel
theorem d_M_readDefinition_459 : decode b_M_readDefinition 459 = .ok (.aload_n 0, 1) := by decide +kernel
theorem d_M_readDefinition_460 : decode b_M_readDefinition 460 = .ok (.dup, 1) := by decide +kernel
theorem d_M_readDefinition_461 : decode b_M_readDefinition 461 = .ok (.getfield 251, 3) := by decide +kernel
theorem d_M_readDefinition_464 : decode b_M_readDefinition 464 = .ok (.iconst 1, 1) := by decide +kernel
theorem d_M_readDefinition_465 : decode b_M_readDefinition 465 = .ok (.iadd, 1) := by decide +kernel
theorem d_M_readDefinition_466 : decode b_M_readDefinition 466 = .ok (.putfield 251, 3) := by decide +kernel
theorem d_M_readDefinition_469 : decode b_M_readDefinition 469 = .ok (.return_, 1) := by decide +kernel
theorem d_M_must_0 : decode b_M_must 0 = .ok (.aload_n 0, 1) := by decide +kernel
theorem d_M_must_1 : decode b_M_must 1 = .ok (.getfield 83, 3) := by decide +kernel
theorem d_M_must_4 : decode b_M_must 4 = .ok (.ifCond .ne 20, 3) := by decide +kernel
theorem d_M_must_7 : decode b_M_must 7 = .ok (.aload_n 0, 1) := by decide +kernel
theorem d_M_must_8 : decode b_M_must 8 = .ok (.getfield 99, 3) := by decide +kernel
theorem d_M_must_11 : decode b_M_must 11 = .ok (.iconst 4, 1) := by decide +kernel
theorem d_M_must_12 : decode b_M_must 12 = .ok (.if_icmp .ne 12, 3) := by decide +kernel
theorem d_M_must_15 : decode b_M_must 15 = .ok (.aload_n 0, 1) := by decide +kernel
theorem d_M_must_16 : decode b_M_must 16 = .ok (.iconst 3, 1) := by decide +kernel
theorem d_M_must_17 : decode b_M_must 17 = .ok (.aload_n 0, 1) := by decide +kernel
theorem d_M_must_18 : decode b_M_must 18 = .ok (.getfield 80, 3) := by decide +kernel
theorem d_M_must_21 : decode b_M_must 21 = .ok (.invokevirtual 105, 3) := by decide +kernel
theorem d_M_must_24 : decode b_M_must 24 = .ok (.aload_n 0, 1) := by decide +kernel
theorem d_M_must_25 : decode b_M_must 25 = .ok (.getfield 83, 3) := by decide +kernel
theorem d_M_must_28 : decode b_M_must 28 = .ok (.ifCond .ne 16, 3) := by decide +kernel
theorem d_M_must_31 : decode b_M_must 31 = .ok (.iload_n 1, 1) := by decide +kernel
theorem d_M_must_32 : decode b_M_must 32 = .ok (.ifCond .ne 12, 3) := by decide +kernel
theorem d_M_must_35 : decode b_M_must 35 = .ok (.aload_n 0, 1) := by decide +kernel
theorem d_M_must_36 : decode b_M_must 36 = .ok (.iconst 2, 1) := by decide +kernel
theorem d_M_must_37 : decode b_M_must 37 = .ok (.aload_n 0, 1) := by decide +kernel
theorem d_M_must_38 : decode b_M_must 38 = .ok (.getfield 96, 3) := by decide +kernel
theorem d_M_must_41 : decode b_M_must 41 = .ok (.invokevirtual 105, 3) := by decide +kernel
theorem d_M_must_44 : decode b_M_must 44 = .ok (.aload_n 0, 1) := by decide +kernel
theorem d_M_must_45 : decode b_M_must 45 = .ok (.getfield 83, 3) := by decide +kernel
theorem d_M_must_48 : decode b_M_must 48 = .ok (.ifCond .ne 7, 3) := by decide +kernel
theorem d_M_must_51 : decode b_M_must 51 = .ok (.iconst 1, 1) := by decide +kernel
theorem d_M_must_52 : decode b_M_must 52 = .ok (.goto 4, 3) := by decide +kernel
theorem d_M_must_55 : decode b_M_must 55 = .ok (.iconst 0, 1) := by decide +kernel
theorem d_M_must_56 : decode b_M_must 56 = .ok (.ireturn, 1) := by decide +kernel
theorem d_M_is_0 : decode b_M_is 0 = .ok (.aload_n 0, 1) := by decide +kernel
theorem d_M_is_1 : decode b_M_is 1 = .ok (.getfield 99, 3) := by decide +kernel
theorem d_M_is_4 : decode b_M_is 4 = .ok (.iconst 2, 1) := by decide +kernel
theorem d_M_is_5 : decode b_M_is 5 = .ok (.if_icmp .ne 19, 3) := by decide +kernel
theorem d_M_is_8 : decode b_M_is 8 = .ok (.aload_n 0, 1) := by decide +kernel
theorem d_M_is_9 : decode b_M_is 9 = .ok (.getfield 93, 3) := by decide +kernel
theorem d_M_is_12 : decode b_M_is 12 = .ok (.aload_n 0, 1) := by decide +kernel
theorem d_M_is_13 : decode b_M_is 13 = .ok (.getfield 96, 3) := by decide +kernel
theorem d_M_is_16 : decode b_M_is 16 = .ok (.isub, 1) := by decide +kernel
theorem d_M_is_17 : decode b_M_is 17 = .ok (.aload_n 1, 1) := by decide +kernel
theorem d_M_is_18 : decode b_M_is 18 = .ok (.invokevirtual 132, 3) := by decide +kernel
theorem d_M_is_21 : decode b_M_is 21 = .ok (.if_icmp .eq 5, 3) := by decide +kernel
theorem d_M_is_24 : decode b_M_is 24 = .ok (.iconst 0, 1) := by decide +kernel
theorem d_M_is_25 : decode b_M_is 25 = .ok (.ireturn, 1) := by decide +kernel
theorem d_M_is_26 : decode b_M_is 26 = .ok (.iconst 1, 1) := by decide +kernel
theorem d_M_is_27 : decode b_M_is 27 = .ok (.istore_n 2, 1) := by decide +kernel
theorem d_M_is_28 : decode b_M_is 28 = .ok (.iconst 0, 1) := by decide +kernel
theorem d_M_is_29 : decode b_M_is 29 = .ok (.istore_n 3, 1) := by decide +kernel
theorem d_M_is_30 : decode b_M_is 30 = .ok (.iload_n 3, 1) := by decide +kernel
theorem d_M_is_31 : decode b_M_is 31 = .ok (.aload_n 1, 1) := by decide +kernel
theorem d_M_is_32 : decode b_M_is 32 = .ok (.invokevirtual 132, 3) := by decide +kernel
theorem d_M_is_35 : decode b_M_is 35 = .ok (.if_icmp .ge 38, 3) := by decide +kernel
theorem d_M_is_38 : decode b_M_is 38 = .ok (.iload_n 2, 1) := by decide +kernel
theorem d_M_is_39 : decode b_M_is 39 = .ok (.ifCond .eq 26, 3) := by decide +kernel
theorem d_M_is_42 : decode b_M_is 42 = .ok (.aload_n 0, 1) := by decide +kernel
theorem d_M_is_43 : decode b_M_is 43 = .ok (.getfield 7, 3) := by decide +kernel
theorem d_M_is_46 : decode b_M_is 46 = .ok (.aload_n 0, 1) := by decide +kernel
theorem d_M_is_47 : decode b_M_is 47 = .ok (.getfield 96, 3) := by decide +kernel
theorem d_M_is_50 : decode b_M_is 50 = .ok (.iload_n 3, 1) := by decide +kernel
theorem d_M_is_51 : decode b_M_is 51 = .ok (.iadd, 1) := by decide +kernel
theorem d_M_is_52 : decode b_M_is 52 = .ok (.baload, 1) := by decide +kernel
theorem d_M_is_53 : decode b_M_is 53 = .ok (.aload_n 1, 1) := by decide +kernel
theorem d_M_is_54 : decode b_M_is 54 = .ok (.iload_n 3, 1) := by decide +kernel
theorem d_M_is_55 : decode b_M_is 55 = .ok (.invokevirtual 138, 3) := by decide +kernel
theorem d_M_is_58 : decode b_M_is 58 = .ok (.if_icmp .ne 7, 3) := by decide +kernel
theorem d_M_is_61 : decode b_M_is 61 = .ok (.iconst 1, 1) := by decide +kernel
theorem d_M_is_62 : decode b_M_is 62 = .ok (.goto 4, 3) := by decide +kernel
theorem d_M_is_65 : decode b_M_is 65 = .ok (.iconst 0, 1) := by decide +kernel
theorem d_M_is_66 : decode b_M_is 66 = .ok (.istore_n 2, 1) := by decide +kernel
theorem d_M_is_67 : decode b_M_is 67 = .ok (.iinc 3 1, 3) := by decide +kernel
theorem d_M_is_70 : decode b_M_is 70 = .ok (.goto (-40), 3) := by decide +kernel
theorem d_M_is_73 : decode b_M_is 73 = .ok (.iload_n 2, 1) := by decide +kernel
theorem d_M_is_74 : decode b_M_is 74 = .ok (.ireturn, 1) := by decide +kernel
theorem d_M_isOwn_0 : decode b_M_isOwn 0 = .ok (.aload_n 0, 1) := by decide +kernel
theorem d_M_isOwn_1 : decode b_M_isOwn 1 = .ok (.getfield 99, 3) := by decide +kernel
theorem d_M_isOwn_4 : decode b_M_isOwn 4 = .ok (.iconst 2, 1) := by decide +kernel
theorem d_M_isOwn_5 : decode b_M_isOwn 5 = .ok (.if_icmp .ne 55, 3) := by decide +kernel
theorem d_M_isOwn_8 : decode b_M_isOwn 8 = .ok (.aload_n 0, 1) := by decide +kernel
theorem d_M_isOwn_9 : decode b_M_isOwn 9 = .ok (.invokevirtual 189, 3) := by decide +kernel
theorem d_M_isOwn_12 : decode b_M_isOwn 12 = .ok (.ifCond .ge 48, 3) := by decide +kernel
theorem d_M_isOwn_15 : decode b_M_isOwn 15 = .ok (.aload_n 0, 1) := by decide +kernel
theorem d_M_isOwn_16 : decode b_M_isOwn 16 = .ok (.invokevirtual 192, 3) := by decide +kernel
theorem d_M_isOwn_19 : decode b_M_isOwn 19 = .ok (.ifCond .ge 41, 3) := by decide +kernel
theorem d_M_isOwn_22 : decode b_M_isOwn 22 = .ok (.aload_n 0, 1) := by decide +kernel
theorem d_M_isOwn_23 : decode b_M_isOwn 23 = .ok (.invokevirtual 195, 3) := by decide +kernel
theorem d_M_isOwn_26 : decode b_M_isOwn 26 = .ok (.ifCond .ge 34, 3) := by decide +kernel
theorem d_M_isOwn_29 : decode b_M_isOwn 29 = .ok (.aload_n 0, 1) := by decide +kernel
theorem d_M_isOwn_30 : decode b_M_isOwn 30 = .ok (.ldc 198, 2) := by decide +kernel
theorem d_M_isOwn_32 : decode b_M_isOwn 32 = .ok (.invokevirtual 144, 3) := by decide +kernel
theorem d_M_isOwn_35 : decode b_M_isOwn 35 = .ok (.ifCond .ne 25, 3) := by decide +kernel
theorem d_M_isOwn_38 : decode b_M_isOwn 38 = .ok (.aload_n 0, 1) := by decide +kernel
theorem d_M_isOwn_39 : decode b_M_isOwn 39 = .ok (.ldc 200, 2) := by decide +kernel
theorem d_M_isOwn_41 : decode b_M_isOwn 41 = .ok (.invokevirtual 144, 3) := by decide +kernel
theorem d_M_isOwn_44 : decode b_M_isOwn 44 = .ok (.ifCond .ne 16, 3) := by decide +kernel
theorem d_M_isOwn_47 : decode b_M_isOwn 47 = .ok (.aload_n 0, 1) := by decide +kernel
theorem d_M_isOwn_48 : decode b_M_isOwn 48 = .ok (.ldc 202, 2) := by decide +kernel
theorem d_M_isOwn_50 : decode b_M_isOwn 50 = .ok (.invokevirtual 144, 3) := by decide +kernel
theorem d_M_isOwn_53 : decode b_M_isOwn 53 = .ok (.ifCond .ne 7, 3) := by decide +kernel
theorem d_M_isOwn_56 : decode b_M_isOwn 56 = .ok (.iconst 1, 1) := by decide +kernel
theorem d_M_isOwn_57 : decode b_M_isOwn 57 = .ok (.goto 4, 3) := by decide +kernel
theorem d_M_isOwn_60 : decode b_M_isOwn 60 = .ok (.iconst 0, 1) := by decide +kernel
theorem d_M_isOwn_61 : decode b_M_isOwn 61 = .ok (.ireturn, 1) := by decide +kernel
theorem d_M_type_0 : decode b_M_type 0 = .ok (.aload_n 0, 1) := by decide +kernel
theorem d_M_type_1 : decode b_M_type 1 = .ok (.ldc 142, 2) := by decide +kernel
theorem d_M_type_3 : decode b_M_type 3 = .ok (.invokevirtual 144, 3) := by decide +kernel
theorem d_M_type_6 : decode b_M_type 6 = .ok (.ifCond .eq 7, 3) := by decide +kernel
theorem d_M_type_9 : decode b_M_type 9 = .ok (.iconst 0, 1) := by decide +kernel
theorem d_M_type_10 : decode b_M_type 10 = .ok (.goto 43, 3) := by decide +kernel
theorem d_M_type_13 : decode b_M_type 13 = .ok (.aload_n 0, 1) := by decide +kernel
theorem d_M_type_14 : decode b_M_type 14 = .ok (.ldc 148, 2) := by decide +kernel
theorem d_M_type_16 : decode b_M_type 16 = .ok (.invokevirtual 144, 3) := by decide +kernel
theorem d_M_type_19 : decode b_M_type 19 = .ok (.ifCond .eq 7, 3) := by decide +kernel
theorem d_M_type_22 : decode b_M_type 22 = .ok (.iconst 1, 1) := by decide +kernel
theorem d_M_type_23 : decode b_M_type 23 = .ok (.goto 30, 3) := by decide +kernel
theorem d_M_type_26 : decode b_M_type 26 = .ok (.aload_n 0, 1) := by decide +kernel
theorem d_M_type_27 : decode b_M_type 27 = .ok (.ldc 150, 2) := by decide +kernel
theorem d_M_type_29 : decode b_M_type 29 = .ok (.invokevirtual 144, 3) := by decide +kernel
theorem d_M_type_32 : decode b_M_type 32 = .ok (.ifCond .eq 7, 3) := by decide +kernel
theorem d_M_type_35 : decode b_M_type 35 = .ok (.iconst 2, 1) := by decide +kernel
theorem d_M_type_36 : decode b_M_type 36 = .ok (.goto 17, 3) := by decide +kernel
theorem d_M_type_39 : decode b_M_type 39 = .ok (.aload_n 0, 1) := by decide +kernel
theorem d_M_type_40 : decode b_M_type 40 = .ok (.ldc 152, 2) := by decide +kernel
theorem d_M_type_42 : decode b_M_type 42 = .ok (.invokevirtual 144, 3) := by decide +kernel
theorem d_M_type_45 : decode b_M_type 45 = .ok (.ifCond .eq 7, 3) := by decide +kernel
theorem d_M_type_48 : decode b_M_type 48 = .ok (.iconst 3, 1) := by decide +kernel
theorem d_M_type_49 : decode b_M_type 49 = .ok (.goto 4, 3) := by decide +kernel
theorem d_M_type_52 : decode b_M_type 52 = .ok (.iconst (-1), 1) := by decide +kernel
theorem d_M_type_53 : decode b_M_type 53 = .ok (.ireturn, 1) := by decide +kernel
theorem d_M_stableKind_0 : decode b_M_stableKind 0 = .ok (.aload_n 0, 1) := by decide +kernel
theorem d_M_stableKind_1 : decode b_M_stableKind 1 = .ok (.invokevirtual 168, 3) := by decide +kernel
theorem d_M_stableKind_4 : decode b_M_stableKind 4 = .ok (.ifCond .lt 8, 3) := by decide +kernel
theorem d_M_stableKind_7 : decode b_M_stableKind 7 = .ok (.aload_n 0, 1) := by decide +kernel
theorem d_M_stableKind_8 : decode b_M_stableKind 8 = .ok (.invokevirtual 168, 3) := by decide +kernel
theorem d_M_stableKind_11 : decode b_M_stableKind 11 = .ok (.ireturn, 1) := by decide +kernel
theorem d_M_stableKind_12 : decode b_M_stableKind 12 = .ok (.aload_n 0, 1) := by decide +kernel
theorem d_M_stableKind_13 : decode b_M_stableKind 13 = .ok (.ldc 171, 2) := by decide +kernel
theorem d_M_stableKind_15 : decode b_M_stableKind 15 = .ok (.invokevirtual 144, 3) := by decide +kernel
theorem d_M_stableKind_18 : decode b_M_stableKind 18 = .ok (.ifCond .eq 8, 3) := by decide +kernel
theorem d_M_stableKind_21 : decode b_M_stableKind 21 = .ok (.bipush 10, 2) := by decide +kernel
theorem d_M_stableKind_23 : decode b_M_stableKind 23 = .ok (.goto 102, 3) := by decide +kernel
theorem d_M_stableKind_26 : decode b_M_stableKind 26 = .ok (.aload_n 0, 1) := by decide +kernel
theorem d_M_stableKind_27 : decode b_M_stableKind 27 = .ok (.ldc 173, 2) := by decide +kernel
theorem d_M_stableKind_29 : decode b_M_stableKind 29 = .ok (.invokevirtual 144, 3) := by decide +kernel
theorem d_M_stableKind_32 : decode b_M_stableKind 32 = .ok (.ifCond .eq 8, 3) := by decide +kernel
theorem d_M_stableKind_35 : decode b_M_stableKind 35 = .ok (.bipush 11, 2) := by decide +kernel
theorem d_M_stableKind_37 : decode b_M_stableKind 37 = .ok (.goto 88, 3) := by decide +kernel
theorem d_M_stableKind_40 : decode b_M_stableKind 40 = .ok (.aload_n 0, 1) := by decide +kernel
theorem d_M_stableKind_41 : decode b_M_stableKind 41 = .ok (.ldc 175, 2) := by decide +kernel
theorem d_M_stableKind_43 : decode b_M_stableKind 43 = .ok (.invokevirtual 144, 3) := by decide +kernel
theorem d_M_stableKind_46 : decode b_M_stableKind 46 = .ok (.ifCond .eq 8, 3) := by decide +kernel
theorem d_M_stableKind_49 : decode b_M_stableKind 49 = .ok (.bipush 12, 2) := by decide +kernel
theorem d_M_stableKind_51 : decode b_M_stableKind 51 = .ok (.goto 74, 3) := by decide +kernel
theorem d_M_stableKind_54 : decode b_M_stableKind 54 = .ok (.aload_n 0, 1) := by decide +kernel
theorem d_M_stableKind_55 : decode b_M_stableKind 55 = .ok (.ldc 177, 2) := by decide +kernel
theorem d_M_stableKind_57 : decode b_M_stableKind 57 = .ok (.invokevirtual 144, 3) := by decide +kernel
theorem d_M_stableKind_60 : decode b_M_stableKind 60 = .ok (.ifCond .eq 8, 3) := by decide +kernel
theorem d_M_stableKind_63 : decode b_M_stableKind 63 = .ok (.bipush 13, 2) := by decide +kernel
theorem d_M_stableKind_65 : decode b_M_stableKind 65 = .ok (.goto 60, 3) := by decide +kernel
theorem d_M_stableKind_68 : decode b_M_stableKind 68 = .ok (.aload_n 0, 1) := by decide +kernel
theorem d_M_stableKind_69 : decode b_M_stableKind 69 = .ok (.ldc 179, 2) := by decide +kernel
theorem d_M_stableKind_71 : decode b_M_stableKind 71 = .ok (.invokevirtual 144, 3) := by decide +kernel
theorem d_M_stableKind_74 : decode b_M_stableKind 74 = .ok (.ifCond .eq 8, 3) := by decide +kernel
theorem d_M_stableKind_77 : decode b_M_stableKind 77 = .ok (.bipush 14, 2) := by decide +kernel
theorem d_M_stableKind_79 : decode b_M_stableKind 79 = .ok (.goto 46, 3) := by decide +kernel
theorem d_M_stableKind_82 : decode b_M_stableKind 82 = .ok (.aload_n 0, 1) := by decide +kernel
theorem d_M_stableKind_83 : decode b_M_stableKind 83 = .ok (.ldc 181, 2) := by decide +kernel
theorem d_M_stableKind_85 : decode b_M_stableKind 85 = .ok (.invokevirtual 144, 3) := by decide +kernel
theorem d_M_stableKind_88 : decode b_M_stableKind 88 = .ok (.ifCond .eq 8, 3) := by decide +kernel
theorem d_M_stableKind_91 : decode b_M_stableKind 91 = .ok (.bipush 15, 2) := by decide +kernel
theorem d_M_stableKind_93 : decode b_M_stableKind 93 = .ok (.goto 32, 3) := by decide +kernel
theorem d_M_stableKind_96 : decode b_M_stableKind 96 = .ok (.aload_n 0, 1) := by decide +kernel
theorem d_M_stableKind_97 : decode b_M_stableKind 97 = .ok (.ldc 150, 2) := by decide +kernel
theorem d_M_stableKind_99 : decode b_M_stableKind 99 = .ok (.invokevirtual 144, 3) := by decide +kernel
theorem d_M_stableKind_102 : decode b_M_stableKind 102 = .ok (.ifCond .eq 8, 3) := by decide +kernel
theorem d_M_stableKind_105 : decode b_M_stableKind 105 = .ok (.bipush 16, 2) := by decide +kernel
theorem d_M_stableKind_107 : decode b_M_stableKind 107 = .ok (.goto 18, 3) := by decide +kernel
theorem d_M_stableKind_110 : decode b_M_stableKind 110 = .ok (.aload_n 0, 1) := by decide +kernel
theorem d_M_stableKind_111 : decode b_M_stableKind 111 = .ok (.ldc 152, 2) := by decide +kernel
theorem d_M_stableKind_113 : decode b_M_stableKind 113 = .ok (.invokevirtual 144, 3) := by decide +kernel
theorem d_M_stableKind_116 : decode b_M_stableKind 116 = .ok (.ifCond .eq 8, 3) := by decide +kernel
theorem d_M_stableKind_119 : decode b_M_stableKind 119 = .ok (.bipush 17, 2) := by decide +kernel
theorem d_M_stableKind_121 : decode b_M_stableKind 121 = .ok (.goto 4, 3) := by decide +kernel
theorem d_M_stableKind_124 : decode b_M_stableKind 124 = .ok (.iconst (-1), 1) := by decide +kernel
theorem d_M_stableKind_125 : decode b_M_stableKind 125 = .ok (.ireturn, 1) := by decide +kernel
theorem d_M_operation_0 : decode b_M_operation 0 = .ok (.aload_n 0, 1) := by decide +kernel
theorem d_M_operation_1 : decode b_M_operation 1 = .ok (.ldc 154, 2) := by decide +kernel
theorem d_M_operation_3 : decode b_M_operation 3 = .ok (.invokevirtual 144, 3) := by decide +kernel
theorem d_M_operation_6 : decode b_M_operation 6 = .ok (.ifCond .eq 7, 3) := by decide +kernel
theorem d_M_operation_9 : decode b_M_operation 9 = .ok (.iconst 3, 1) := by decide +kernel
theorem d_M_operation_10 : decode b_M_operation 10 = .ok (.goto 86, 3) := by decide +kernel
theorem d_M_operation_13 : decode b_M_operation 13 = .ok (.aload_n 0, 1) := by decide +kernel
theorem d_M_operation_14 : decode b_M_operation 14 = .ok (.ldc 156, 2) := by decide +kernel
theorem d_M_operation_16 : decode b_M_operation 16 = .ok (.invokevirtual 144, 3) := by decide +kernel
theorem d_M_operation_19 : decode b_M_operation 19 = .ok (.ifCond .eq 7, 3) := by decide +kernel
theorem d_M_operation_22 : decode b_M_operation 22 = .ok (.iconst 4, 1) := by decide +kernel
theorem d_M_operation_23 : decode b_M_operation 23 = .ok (.goto 73, 3) := by decide +kernel
theorem d_M_operation_26 : decode b_M_operation 26 = .ok (.aload_n 0, 1) := by decide +kernel
theorem d_M_operation_27 : decode b_M_operation 27 = .ok (.ldc 158, 2) := by decide +kernel
theorem d_M_operation_29 : decode b_M_operation 29 = .ok (.invokevirtual 144, 3) := by decide +kernel
theorem d_M_operation_32 : decode b_M_operation 32 = .ok (.ifCond .eq 7, 3) := by decide +kernel
theorem d_M_operation_35 : decode b_M_operation 35 = .ok (.iconst 5, 1) := by decide +kernel
theorem d_M_operation_36 : decode b_M_operation 36 = .ok (.goto 60, 3) := by decide +kernel
theorem d_M_operation_39 : decode b_M_operation 39 = .ok (.aload_n 0, 1) := by decide +kernel
theorem d_M_operation_40 : decode b_M_operation 40 = .ok (.ldc 160, 2) := by decide +kernel
theorem d_M_operation_42 : decode b_M_operation 42 = .ok (.invokevirtual 144, 3) := by decide +kernel
theorem d_M_operation_45 : decode b_M_operation 45 = .ok (.ifCond .eq 8, 3) := by decide +kernel
theorem d_M_operation_48 : decode b_M_operation 48 = .ok (.bipush 6, 2) := by decide +kernel
theorem d_M_operation_50 : decode b_M_operation 50 = .ok (.goto 46, 3) := by decide +kernel
theorem d_M_operation_53 : decode b_M_operation 53 = .ok (.aload_n 0, 1) := by decide +kernel
theorem d_M_operation_54 : decode b_M_operation 54 = .ok (.ldc 162, 2) := by decide +kernel
theorem d_M_operation_56 : decode b_M_operation 56 = .ok (.invokevirtual 144, 3) := by decide +kernel
theorem d_M_operation_59 : decode b_M_operation 59 = .ok (.ifCond .eq 8, 3) := by decide +kernel
theorem d_M_operation_62 : decode b_M_operation 62 = .ok (.bipush 7, 2) := by decide +kernel
theorem d_M_operation_64 : decode b_M_operation 64 = .ok (.goto 32, 3) := by decide +kernel
theorem d_M_operation_67 : decode b_M_operation 67 = .ok (.aload_n 0, 1) := by decide +kernel
theorem d_M_operation_68 : decode b_M_operation 68 = .ok (.ldc 164, 2) := by decide +kernel
theorem d_M_operation_70 : decode b_M_operation 70 = .ok (.invokevirtual 144, 3) := by decide +kernel
theorem d_M_operation_73 : decode b_M_operation 73 = .ok (.ifCond .eq 8, 3) := by decide +kernel
theorem d_M_operation_76 : decode b_M_operation 76 = .ok (.bipush 8, 2) := by decide +kernel
theorem d_M_operation_78 : decode b_M_operation 78 = .ok (.goto 18, 3) := by decide +kernel
theorem d_M_operation_81 : decode b_M_operation 81 = .ok (.aload_n 0, 1) := by decide +kernel
theorem d_M_operation_82 : decode b_M_operation 82 = .ok (.ldc 166, 2) := by decide +kernel
theorem d_M_operation_84 : decode b_M_operation 84 = .ok (.invokevirtual 144, 3) := by decide +kernel
theorem d_M_operation_87 : decode b_M_operation 87 = .ok (.ifCond .eq 8, 3) := by decide +kernel
theorem d_M_operation_90 : decode b_M_operation 90 = .ok (.bipush 9, 2) := by decide +kernel
theorem d_M_operation_92 : decode b_M_operation 92 = .ok (.goto 4, 3) := by decide +kernel
theorem d_M_operation_95 : decode b_M_operation 95 = .ok (.iconst (-1), 1) := by decide +kernel
theorem d_M_operation_96 : decode b_M_operation 96 = .ok (.ireturn, 1) := by decide +kernel
theorem d_M_changeableKind_0 : decode b_M_changeableKind 0 = .ok (.aload_n 0, 1) := by decide +kernel
theorem d_M_changeableKind_1 : decode b_M_changeableKind 1 = .ok (.ldc 183, 2) := by decide +kernel
theorem d_M_changeableKind_3 : decode b_M_changeableKind 3 = .ok (.invokevirtual 144, 3) := by decide +kernel
theorem d_M_changeableKind_6 : decode b_M_changeableKind 6 = .ok (.ifCond .eq 8, 3) := by decide +kernel
theorem d_M_changeableKind_9 : decode b_M_changeableKind 9 = .ok (.bipush 18, 2) := by decide +kernel
theorem d_M_changeableKind_11 : decode b_M_changeableKind 11 = .ok (.goto 74, 3) := by decide +kernel
theorem d_M_changeableKind_14 : decode b_M_changeableKind 14 = .ok (.aload_n 0, 1) := by decide +kernel
theorem d_M_changeableKind_15 : decode b_M_changeableKind 15 = .ok (.ldc 185, 2) := by decide +kernel
theorem d_M_changeableKind_17 : decode b_M_changeableKind 17 = .ok (.invokevirtual 144, 3) := by decide +kernel
theorem d_M_changeableKind_20 : decode b_M_changeableKind 20 = .ok (.ifCond .eq 8, 3) := by decide +kernel
theorem d_M_changeableKind_23 : decode b_M_changeableKind 23 = .ok (.bipush 19, 2) := by decide +kernel
theorem d_M_changeableKind_25 : decode b_M_changeableKind 25 = .ok (.goto 60, 3) := by decide +kernel
theorem d_M_changeableKind_28 : decode b_M_changeableKind 28 = .ok (.aload_n 0, 1) := by decide +kernel
theorem d_M_changeableKind_29 : decode b_M_changeableKind 29 = .ok (.ldc 171, 2) := by decide +kernel
theorem d_M_changeableKind_31 : decode b_M_changeableKind 31 = .ok (.invokevirtual 144, 3) := by decide +kernel
theorem d_M_changeableKind_34 : decode b_M_changeableKind 34 = .ok (.ifCond .eq 8, 3) := by decide +kernel
theorem d_M_changeableKind_37 : decode b_M_changeableKind 37 = .ok (.bipush 20, 2) := by decide +kernel
theorem d_M_changeableKind_39 : decode b_M_changeableKind 39 = .ok (.goto 46, 3) := by decide +kernel
theorem d_M_changeableKind_42 : decode b_M_changeableKind 42 = .ok (.aload_n 0, 1) := by decide +kernel
theorem d_M_changeableKind_43 : decode b_M_changeableKind 43 = .ok (.ldc 173, 2) := by decide +kernel
theorem d_M_changeableKind_45 : decode b_M_changeableKind 45 = .ok (.invokevirtual 144, 3) := by decide +kernel
theorem d_M_changeableKind_48 : decode b_M_changeableKind 48 = .ok (.ifCond .eq 8, 3) := by decide +kernel
theorem d_M_changeableKind_51 : decode b_M_changeableKind 51 = .ok (.bipush 21, 2) := by decide +kernel
theorem d_M_changeableKind_53 : decode b_M_changeableKind 53 = .ok (.goto 32, 3) := by decide +kernel
theorem d_M_changeableKind_56 : decode b_M_changeableKind 56 = .ok (.aload_n 0, 1) := by decide +kernel
theorem d_M_changeableKind_57 : decode b_M_changeableKind 57 = .ok (.ldc 175, 2) := by decide +kernel
theorem d_M_changeableKind_59 : decode b_M_changeableKind 59 = .ok (.invokevirtual 144, 3) := by decide +kernel
theorem d_M_changeableKind_62 : decode b_M_changeableKind 62 = .ok (.ifCond .eq 8, 3) := by decide +kernel
theorem d_M_changeableKind_65 : decode b_M_changeableKind 65 = .ok (.bipush 22, 2) := by decide +kernel
theorem d_M_changeableKind_67 : decode b_M_changeableKind 67 = .ok (.goto 18, 3) := by decide +kernel
theorem d_M_changeableKind_70 : decode b_M_changeableKind 70 = .ok (.aload_n 0, 1) := by decide +kernel
theorem d_M_changeableKind_71 : decode b_M_changeableKind 71 = .ok (.ldc 187, 2) := by decide +kernel
theorem d_M_changeableKind_73 : decode b_M_changeableKind 73 = .ok (.invokevirtual 144, 3) := by decide +kernel
theorem d_M_changeableKind_76 : decode b_M_changeableKind 76 = .ok (.ifCond .eq 8, 3) := by decide +kernel
theorem d_M_changeableKind_79 : decode b_M_changeableKind 79 = .ok (.bipush 23, 2) := by decide +kernel
theorem d_M_changeableKind_81 : decode b_M_changeableKind 81 = .ok (.goto 4, 3) := by decide +kernel
theorem d_M_changeableKind_84 : decode b_M_changeableKind 84 = .ok (.iconst (-1), 1) := by decide +kernel
theorem d_M_changeableKind_85 : decode b_M_changeableKind 85 = .ok (.ireturn, 1) := by decide +kernel
theorem d_M_readParameter_0 : decode b_M_readParameter 0 = .ok (.aload_n 0, 1) := by decide +kernel
theorem d_M_readParameter_1 : decode b_M_readParameter 1 = .ok (.aload_n 0, 1) := by decide +kernel
theorem d_M_readParameter_2 : decode b_M_readParameter 2 = .ok (.getfield 24, 3) := by decide +kernel
theorem d_M_readParameter_5 : decode b_M_readParameter 5 = .ok (.iload_n 1, 1) := by decide +kernel
theorem d_M_readParameter_6 : decode b_M_readParameter 6 = .ok (.iaload, 1) := by decide +kernel
theorem d_M_readParameter_7 : decode b_M_readParameter 7 = .ok (.bipush 8, 2) := by decide +kernel
theorem d_M_readParameter_9 : decode b_M_readParameter 9 = .ok (.if_icmp .ge 7, 3) := by decide +kernel
theorem d_M_readParameter_12 : decode b_M_readParameter 12 = .ok (.iconst 1, 1) := by decide +kernel
theorem d_M_readParameter_13 : decode b_M_readParameter 13 = .ok (.goto 4, 3) := by decide +kernel
theorem d_M_readParameter_16 : decode b_M_readParameter 16 = .ok (.iconst 0, 1) := by decide +kernel
theorem d_M_readParameter_17 : decode b_M_readParameter 17 = .ok (.invokevirtual 213, 3) := by decide +kernel
theorem d_M_readParameter_20 : decode b_M_readParameter 20 = .ok (.pop, 1) := by decide +kernel
theorem d_M_readParameter_21 : decode b_M_readParameter 21 = .ok (.aload_n 0, 1) := by decide +kernel
theorem d_M_readParameter_22 : decode b_M_readParameter 22 = .ok (.invokevirtual 232, 3) := by decide +kernel
theorem d_M_readParameter_25 : decode b_M_readParameter 25 = .ok (.iconst 0, 1) := by decide +kernel
theorem d_M_readParameter_26 : decode b_M_readParameter 26 = .ok (.istore_n 2, 1) := by decide +kernel
theorem d_M_readParameter_27 : decode b_M_readParameter 27 = .ok (.iconst 0, 1) := by decide +kernel
theorem d_M_readParameter_28 : decode b_M_readParameter 28 = .ok (.istore_n 3, 1) := by decide +kernel
theorem d_M_readParameter_29 : decode b_M_readParameter 29 = .ok (.iload_n 3, 1) := by decide +kernel
theorem d_M_readParameter_30 : decode b_M_readParameter 30 = .ok (.aload_n 0, 1) := by decide +kernel
theorem d_M_readParameter_31 : decode b_M_readParameter 31 = .ok (.getfield 24, 3) := by decide +kernel
theorem d_M_readParameter_34 : decode b_M_readParameter 34 = .ok (.iload_n 1, 1) := by decide +kernel
theorem d_M_readParameter_35 : decode b_M_readParameter 35 = .ok (.iaload, 1) := by decide +kernel
theorem d_M_readParameter_36 : decode b_M_readParameter 36 = .ok (.if_icmp .ge 38, 3) := by decide +kernel
theorem d_M_readParameter_39 : decode b_M_readParameter 39 = .ok (.iload_n 2, 1) := by decide +kernel
theorem d_M_readParameter_40 : decode b_M_readParameter 40 = .ok (.ifCond .ne 22, 3) := by decide +kernel
theorem d_M_readParameter_43 : decode b_M_readParameter 43 = .ok (.aload_n 0, 1) := by decide +kernel
theorem d_M_readParameter_44 : decode b_M_readParameter 44 = .ok (.getfield 37, 3) := by decide +kernel
theorem d_M_readParameter_47 : decode b_M_readParameter 47 = .ok (.bipush 8, 2) := by decide +kernel
theorem d_M_readParameter_49 : decode b_M_readParameter 49 = .ok (.iload_n 1, 1) := by decide +kernel
theorem d_M_readParameter_50 : decode b_M_readParameter 50 = .ok (.imul, 1) := by decide +kernel
theorem d_M_readParameter_51 : decode b_M_readParameter 51 = .ok (.iload_n 3, 1) := by decide +kernel
theorem d_M_readParameter_52 : decode b_M_readParameter 52 = .ok (.iadd, 1) := by decide +kernel
theorem d_M_readParameter_53 : decode b_M_readParameter 53 = .ok (.laload, 1) := by decide +kernel
theorem d_M_readParameter_54 : decode b_M_readParameter 54 = .ok (.aload_n 0, 1) := by decide +kernel
theorem d_M_readParameter_55 : decode b_M_readParameter 55 = .ok (.getfield 115, 3) := by decide +kernel
theorem d_M_readParameter_58 : decode b_M_readParameter 58 = .ok (.lcmp, 1) := by decide +kernel
theorem d_M_readParameter_59 : decode b_M_readParameter 59 = .ok (.ifCond .ne 7, 3) := by decide +kernel
theorem d_M_readParameter_62 : decode b_M_readParameter 62 = .ok (.iconst 1, 1) := by decide +kernel
theorem d_M_readParameter_63 : decode b_M_readParameter 63 = .ok (.goto 4, 3) := by decide +kernel
theorem d_M_readParameter_66 : decode b_M_readParameter 66 = .ok (.iconst 0, 1) := by decide +kernel
theorem d_M_readParameter_67 : decode b_M_readParameter 67 = .ok (.istore_n 2, 1) := by decide +kernel
theorem d_M_readParameter_68 : decode b_M_readParameter 68 = .ok (.iinc 3 1, 3) := by decide +kernel
theorem d_M_readParameter_71 : decode b_M_readParameter 71 = .ok (.goto (-42), 3) := by decide +kernel
theorem d_M_readParameter_74 : decode b_M_readParameter 74 = .ok (.aload_n 0, 1) := by decide +kernel
theorem d_M_readParameter_75 : decode b_M_readParameter 75 = .ok (.aload_n 0, 1) := by decide +kernel
theorem d_M_readParameter_76 : decode b_M_readParameter 76 = .ok (.getfield 83, 3) := by decide +kernel
theorem d_M_readParameter_79 : decode b_M_readParameter 79 = .ok (.ifCond .gt 14, 3) := by decide +kernel
theorem d_M_readParameter_82 : decode b_M_readParameter 82 = .ok (.aload_n 0, 1) := by decide +kernel
theorem d_M_readParameter_83 : decode b_M_readParameter 83 = .ok (.invokevirtual 224, 3) := by decide +kernel
theorem d_M_readParameter_86 : decode b_M_readParameter 86 = .ok (.ifCond .eq 11, 3) := by decide +kernel
theorem d_M_readParameter_89 : decode b_M_readParameter 89 = .ok (.iload_n 2, 1) := by decide +kernel
theorem d_M_readParameter_90 : decode b_M_readParameter 90 = .ok (.ifCond .ne 7, 3) := by decide +kernel
theorem d_M_readParameter_93 : decode b_M_readParameter 93 = .ok (.iconst 1, 1) := by decide +kernel
theorem d_M_readParameter_94 : decode b_M_readParameter 94 = .ok (.goto 4, 3) := by decide +kernel
theorem d_M_readParameter_97 : decode b_M_readParameter 97 = .ok (.iconst 0, 1) := by decide +kernel
theorem d_M_readParameter_98 : decode b_M_readParameter 98 = .ok (.invokevirtual 213, 3) := by decide +kernel
theorem d_M_readParameter_101 : decode b_M_readParameter 101 = .ok (.pop, 1) := by decide +kernel
theorem d_M_readParameter_102 : decode b_M_readParameter 102 = .ok (.aload_n 0, 1) := by decide +kernel
theorem d_M_readParameter_103 : decode b_M_readParameter 103 = .ok (.getfield 83, 3) := by decide +kernel
theorem d_M_readParameter_106 : decode b_M_readParameter 106 = .ok (.ifCond .le 4, 3) := by decide +kernel
theorem d_M_readParameter_109 : decode b_M_readParameter 109 = .ok (.return_, 1) := by decide +kernel
theorem d_M_readParameter_110 : decode b_M_readParameter 110 = .ok (.aload_n 0, 1) := by decide +kernel
theorem d_M_readParameter_111 : decode b_M_readParameter 111 = .ok (.getfield 37, 3) := by decide +kernel
theorem d_M_readParameter_114 : decode b_M_readParameter 114 = .ok (.bipush 8, 2) := by decide +kernel
theorem d_M_readParameter_116 : decode b_M_readParameter 116 = .ok (.iload_n 1, 1) := by decide +kernel
theorem d_M_readParameter_117 : decode b_M_readParameter 117 = .ok (.imul, 1) := by decide +kernel
theorem d_M_readParameter_118 : decode b_M_readParameter 118 = .ok (.aload_n 0, 1) := by decide +kernel
theorem d_M_readParameter_119 : decode b_M_readParameter 119 = .ok (.getfield 24, 3) := by decide +kernel
theorem d_M_readParameter_122 : decode b_M_readParameter 122 = .ok (.iload_n 1, 1) := by decide +kernel
theorem d_M_readParameter_123 : decode b_M_readParameter 123 = .ok (.iaload, 1) := by decide +kernel
theorem d_M_readParameter_124 : decode b_M_readParameter 124 = .ok (.iadd, 1) := by decide +kernel
theorem d_M_readParameter_125 : decode b_M_readParameter 125 = .ok (.aload_n 0, 1) := by decide +kernel
theorem d_M_readParameter_126 : decode b_M_readParameter 126 = .ok (.getfield 115, 3) := by decide +kernel
theorem d_M_readParameter_129 : decode b_M_readParameter 129 = .ok (.lastore, 1) := by decide +kernel
theorem d_M_readParameter_130 : decode b_M_readParameter 130 = .ok (.aload_n 0, 1) := by decide +kernel
theorem d_M_readParameter_131 : decode b_M_readParameter 131 = .ok (.invokevirtual 232, 3) := by decide +kernel
theorem d_M_readParameter_134 : decode b_M_readParameter 134 = .ok (.aload_n 0, 1) := by decide +kernel
theorem d_M_readParameter_135 : decode b_M_readParameter 135 = .ok (.aload_n 0, 1) := by decide +kernel
theorem d_M_readParameter_136 : decode b_M_readParameter 136 = .ok (.getfield 83, 3) := by decide +kernel
theorem d_M_readParameter_139 : decode b_M_readParameter 139 = .ok (.ifCond .gt 10, 3) := by decide +kernel
theorem d_M_readParameter_142 : decode b_M_readParameter 142 = .ok (.aload_n 0, 1) := by decide +kernel
theorem d_M_readParameter_143 : decode b_M_readParameter 143 = .ok (.invokevirtual 189, 3) := by decide +kernel
theorem d_M_readParameter_146 : decode b_M_readParameter 146 = .ok (.ifCond .lt 7, 3) := by decide +kernel
theorem d_M_readParameter_149 : decode b_M_readParameter 149 = .ok (.iconst 1, 1) := by decide +kernel
theorem d_M_readParameter_150 : decode b_M_readParameter 150 = .ok (.goto 4, 3) := by decide +kernel
theorem d_M_readParameter_153 : decode b_M_readParameter 153 = .ok (.iconst 0, 1) := by decide +kernel
theorem d_M_readParameter_154 : decode b_M_readParameter 154 = .ok (.invokevirtual 213, 3) := by decide +kernel
theorem d_M_readParameter_157 : decode b_M_readParameter 157 = .ok (.pop, 1) := by decide +kernel
theorem d_M_readParameter_158 : decode b_M_readParameter 158 = .ok (.aload_n 0, 1) := by decide +kernel
theorem d_M_readParameter_159 : decode b_M_readParameter 159 = .ok (.getfield 40, 3) := by decide +kernel
theorem d_M_readParameter_162 : decode b_M_readParameter 162 = .ok (.bipush 8, 2) := by decide +kernel
theorem d_M_readParameter_164 : decode b_M_readParameter 164 = .ok (.iload_n 1, 1) := by decide +kernel
theorem d_M_readParameter_165 : decode b_M_readParameter 165 = .ok (.imul, 1) := by decide +kernel
theorem d_M_readParameter_166 : decode b_M_readParameter 166 = .ok (.aload_n 0, 1) := by decide +kernel
theorem d_M_readParameter_167 : decode b_M_readParameter 167 = .ok (.getfield 24, 3) := by decide +kernel
theorem d_M_readParameter_170 : decode b_M_readParameter 170 = .ok (.iload_n 1, 1) := by decide +kernel
theorem d_M_readParameter_171 : decode b_M_readParameter 171 = .ok (.iaload, 1) := by decide +kernel
theorem d_M_readParameter_172 : decode b_M_readParameter 172 = .ok (.bipush 7, 2) := by decide +kernel
theorem d_M_readParameter_174 : decode b_M_readParameter 174 = .ok (.iand, 1) := by decide +kernel
