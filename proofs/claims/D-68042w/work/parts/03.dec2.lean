theorem d_P_isName_27 : decode b_P_isName 27 = .ok (.goto 4, 3) := by decide +kernel
theorem d_P_isName_30 : decode b_P_isName 30 = .ok (.iconst 0, 1) := by decide +kernel
theorem d_P_isName_31 : decode b_P_isName 31 = .ok (.ireturn, 1) := by decide +kernel
theorem d_P_isFree_0 : decode b_P_isFree 0 = .ok (.lload_n 0, 1) := by decide +kernel
theorem d_P_isFree_1 : decode b_P_isFree 1 = .ok (.ldc 89, 2) := by decide +kernel
theorem d_P_isFree_3 : decode b_P_isFree 3 = .ok (.invokestatic 77, 3) := by decide +kernel
theorem d_P_isFree_6 : decode b_P_isFree 6 = .ok (.lcmp, 1) := by decide +kernel
theorem d_P_isFree_7 : decode b_P_isFree 7 = .ok (.ifCond .eq 30, 3) := by decide +kernel
theorem d_P_isFree_10 : decode b_P_isFree 10 = .ok (.lload_n 0, 1) := by decide +kernel
theorem d_P_isFree_11 : decode b_P_isFree 11 = .ok (.ldc 91, 2) := by decide +kernel
theorem d_P_isFree_13 : decode b_P_isFree 13 = .ok (.invokestatic 77, 3) := by decide +kernel
theorem d_P_isFree_16 : decode b_P_isFree 16 = .ok (.lcmp, 1) := by decide +kernel
theorem d_P_isFree_17 : decode b_P_isFree 17 = .ok (.ifCond .eq 20, 3) := by decide +kernel
theorem d_P_isFree_20 : decode b_P_isFree 20 = .ok (.lload_n 0, 1) := by decide +kernel
theorem d_P_isFree_21 : decode b_P_isFree 21 = .ok (.ldc 93, 2) := by decide +kernel
theorem d_P_isFree_23 : decode b_P_isFree 23 = .ok (.invokestatic 77, 3) := by decide +kernel
theorem d_P_isFree_26 : decode b_P_isFree 26 = .ok (.lcmp, 1) := by decide +kernel
theorem d_P_isFree_27 : decode b_P_isFree 27 = .ok (.ifCond .eq 10, 3) := by decide +kernel
theorem d_P_isFree_30 : decode b_P_isFree 30 = .ok (.lload_n 0, 1) := by decide +kernel
theorem d_P_isFree_31 : decode b_P_isFree 31 = .ok (.invokestatic 95, 3) := by decide +kernel
theorem d_P_isFree_34 : decode b_P_isFree 34 = .ok (.ifCond .lt 7, 3) := by decide +kernel
theorem d_P_isFree_37 : decode b_P_isFree 37 = .ok (.iconst 1, 1) := by decide +kernel
theorem d_P_isFree_38 : decode b_P_isFree 38 = .ok (.goto 4, 3) := by decide +kernel
theorem d_P_isFree_41 : decode b_P_isFree 41 = .ok (.iconst 0, 1) := by decide +kernel
theorem d_P_isFree_42 : decode b_P_isFree 42 = .ok (.istore_n 2, 1) := by decide +kernel
theorem d_P_isFree_43 : decode b_P_isFree 43 = .ok (.iload_n 2, 1) := by decide +kernel
theorem d_P_isFree_44 : decode b_P_isFree 44 = .ok (.ifCond .ne 23, 3) := by decide +kernel
theorem d_P_isFree_47 : decode b_P_isFree 47 = .ok (.lload_n 0, 1) := by decide +kernel
theorem d_P_isFree_48 : decode b_P_isFree 48 = .ok (.iconst 1, 1) := by decide +kernel
theorem d_P_isFree_49 : decode b_P_isFree 49 = .ok (.invokestatic 99, 3) := by decide +kernel
theorem d_P_isFree_52 : decode b_P_isFree 52 = .ok (.ifCond .ge 15, 3) := by decide +kernel
theorem d_P_isFree_55 : decode b_P_isFree 55 = .ok (.lload_n 0, 1) := by decide +kernel
theorem d_P_isFree_56 : decode b_P_isFree 56 = .ok (.iconst 0, 1) := by decide +kernel
theorem d_P_isFree_57 : decode b_P_isFree 57 = .ok (.invokestatic 99, 3) := by decide +kernel
theorem d_P_isFree_60 : decode b_P_isFree 60 = .ok (.ifCond .ge 7, 3) := by decide +kernel
theorem d_P_isFree_63 : decode b_P_isFree 63 = .ok (.iconst 1, 1) := by decide +kernel
theorem d_P_isFree_64 : decode b_P_isFree 64 = .ok (.goto 4, 3) := by decide +kernel
theorem d_P_isFree_67 : decode b_P_isFree 67 = .ok (.iconst 0, 1) := by decide +kernel
theorem d_P_isFree_68 : decode b_P_isFree 68 = .ok (.ireturn, 1) := by decide +kernel
theorem d_P_typeOf_0 : decode b_P_typeOf 0 = .ok (.lload_n 0, 1) := by decide +kernel
theorem d_P_typeOf_1 : decode b_P_typeOf 1 = .ok (.ldc 75, 2) := by decide +kernel
theorem d_P_typeOf_3 : decode b_P_typeOf 3 = .ok (.invokestatic 77, 3) := by decide +kernel
theorem d_P_typeOf_6 : decode b_P_typeOf 6 = .ok (.lcmp, 1) := by decide +kernel
theorem d_P_typeOf_7 : decode b_P_typeOf 7 = .ok (.ifCond .ne 7, 3) := by decide +kernel
theorem d_P_typeOf_10 : decode b_P_typeOf 10 = .ok (.iconst 0, 1) := by decide +kernel
theorem d_P_typeOf_11 : decode b_P_typeOf 11 = .ok (.goto 46, 3) := by decide +kernel
theorem d_P_typeOf_14 : decode b_P_typeOf 14 = .ok (.lload_n 0, 1) := by decide +kernel
theorem d_P_typeOf_15 : decode b_P_typeOf 15 = .ok (.ldc 83, 2) := by decide +kernel
theorem d_P_typeOf_17 : decode b_P_typeOf 17 = .ok (.invokestatic 77, 3) := by decide +kernel
theorem d_P_typeOf_20 : decode b_P_typeOf 20 = .ok (.lcmp, 1) := by decide +kernel
theorem d_P_typeOf_21 : decode b_P_typeOf 21 = .ok (.ifCond .ne 7, 3) := by decide +kernel
theorem d_P_typeOf_24 : decode b_P_typeOf 24 = .ok (.iconst 1, 1) := by decide +kernel
theorem d_P_typeOf_25 : decode b_P_typeOf 25 = .ok (.goto 32, 3) := by decide +kernel
theorem d_P_typeOf_28 : decode b_P_typeOf 28 = .ok (.lload_n 0, 1) := by decide +kernel
theorem d_P_typeOf_29 : decode b_P_typeOf 29 = .ok (.ldc 41, 2) := by decide +kernel
theorem d_P_typeOf_31 : decode b_P_typeOf 31 = .ok (.invokestatic 77, 3) := by decide +kernel
theorem d_P_typeOf_34 : decode b_P_typeOf 34 = .ok (.lcmp, 1) := by decide +kernel
theorem d_P_typeOf_35 : decode b_P_typeOf 35 = .ok (.ifCond .ne 7, 3) := by decide +kernel
theorem d_P_typeOf_38 : decode b_P_typeOf 38 = .ok (.iconst 2, 1) := by decide +kernel
theorem d_P_typeOf_39 : decode b_P_typeOf 39 = .ok (.goto 18, 3) := by decide +kernel
theorem d_P_typeOf_42 : decode b_P_typeOf 42 = .ok (.lload_n 0, 1) := by decide +kernel
theorem d_P_typeOf_43 : decode b_P_typeOf 43 = .ok (.ldc 43, 2) := by decide +kernel
theorem d_P_typeOf_45 : decode b_P_typeOf 45 = .ok (.invokestatic 77, 3) := by decide +kernel
theorem d_P_typeOf_48 : decode b_P_typeOf 48 = .ok (.lcmp, 1) := by decide +kernel
theorem d_P_typeOf_49 : decode b_P_typeOf 49 = .ok (.ifCond .ne 7, 3) := by decide +kernel
theorem d_P_typeOf_52 : decode b_P_typeOf 52 = .ok (.iconst 3, 1) := by decide +kernel
theorem d_P_typeOf_53 : decode b_P_typeOf 53 = .ok (.goto 4, 3) := by decide +kernel
theorem d_P_typeOf_56 : decode b_P_typeOf 56 = .ok (.iconst (-1), 1) := by decide +kernel
theorem d_P_typeOf_57 : decode b_P_typeOf 57 = .ok (.ireturn, 1) := by decide +kernel
theorem d_P_kindOf_0 : decode b_P_kindOf 0 = .ok (.iconst (-1), 1) := by decide +kernel
theorem d_P_kindOf_1 : decode b_P_kindOf 1 = .ok (.istore_n 3, 1) := by decide +kernel
theorem d_P_kindOf_2 : decode b_P_kindOf 2 = .ok (.iload_n 2, 1) := by decide +kernel
theorem d_P_kindOf_3 : decode b_P_kindOf 3 = .ok (.ifCond .eq 7, 3) := by decide +kernel
theorem d_P_kindOf_6 : decode b_P_kindOf 6 = .ok (.iconst 3, 1) := by decide +kernel
theorem d_P_kindOf_7 : decode b_P_kindOf 7 = .ok (.goto 5, 3) := by decide +kernel
theorem d_P_kindOf_10 : decode b_P_kindOf 10 = .ok (.bipush 18, 2) := by decide +kernel
theorem d_P_kindOf_12 : decode b_P_kindOf 12 = .ok (.istore 4, 2) := by decide +kernel
theorem d_P_kindOf_14 : decode b_P_kindOf 14 = .ok (.iload 4, 2) := by decide +kernel
theorem d_P_kindOf_16 : decode b_P_kindOf 16 = .ok (.iload_n 2, 1) := by decide +kernel
theorem d_P_kindOf_17 : decode b_P_kindOf 17 = .ok (.ifCond .eq 8, 3) := by decide +kernel
theorem d_P_kindOf_20 : decode b_P_kindOf 20 = .ok (.bipush 18, 2) := by decide +kernel
theorem d_P_kindOf_22 : decode b_P_kindOf 22 = .ok (.goto 5, 3) := by decide +kernel
theorem d_P_kindOf_25 : decode b_P_kindOf 25 = .ok (.bipush 24, 2) := by decide +kernel
theorem d_P_kindOf_27 : decode b_P_kindOf 27 = .ok (.if_icmp .ge 29, 3) := by decide +kernel
theorem d_P_kindOf_30 : decode b_P_kindOf 30 = .ok (.iload 4, 2) := by decide +kernel
theorem d_P_kindOf_32 : decode b_P_kindOf 32 = .ok (.invokestatic 85, 3) := by decide +kernel
theorem d_P_kindOf_35 : decode b_P_kindOf 35 = .ok (.invokestatic 77, 3) := by decide +kernel
theorem d_P_kindOf_38 : decode b_P_kindOf 38 = .ok (.lload_n 0, 1) := by decide +kernel
theorem d_P_kindOf_39 : decode b_P_kindOf 39 = .ok (.lcmp, 1) := by decide +kernel
theorem d_P_kindOf_40 : decode b_P_kindOf 40 = .ok (.ifCond .ne 8, 3) := by decide +kernel
theorem d_P_kindOf_43 : decode b_P_kindOf 43 = .ok (.iload 4, 2) := by decide +kernel
theorem d_P_kindOf_45 : decode b_P_kindOf 45 = .ok (.goto 4, 3) := by decide +kernel
theorem d_P_kindOf_48 : decode b_P_kindOf 48 = .ok (.iload_n 3, 1) := by decide +kernel
theorem d_P_kindOf_49 : decode b_P_kindOf 49 = .ok (.istore_n 3, 1) := by decide +kernel
theorem d_P_kindOf_50 : decode b_P_kindOf 50 = .ok (.iinc 4 1, 3) := by decide +kernel
theorem d_P_kindOf_53 : decode b_P_kindOf 53 = .ok (.goto (-39), 3) := by decide +kernel
theorem d_P_kindOf_56 : decode b_P_kindOf 56 = .ok (.iload_n 3, 1) := by decide +kernel
theorem d_P_kindOf_57 : decode b_P_kindOf 57 = .ok (.ireturn, 1) := by decide +kernel
theorem d_P_wordOf_0 : decode b_P_wordOf 0 = .ok (.iload_n 0, 1) := by decide +kernel
theorem d_P_wordOf_1 : decode b_P_wordOf 1 = .ok (.tableswitch 153 3 23 #[99, 102, 105, 108, 111, 114, 117, 120, 123, 126, 129, 132, 135, 138, 141, 144, 147, 120, 123, 126, 150], 99) := by decide +kernel
theorem d_P_wordOf_100 : decode b_P_wordOf 100 = .ok (.ldc 15, 2) := by decide +kernel
theorem d_P_wordOf_102 : decode b_P_wordOf 102 = .ok (.areturn, 1) := by decide +kernel
theorem d_P_wordOf_103 : decode b_P_wordOf 103 = .ok (.ldc 17, 2) := by decide +kernel
theorem d_P_wordOf_105 : decode b_P_wordOf 105 = .ok (.areturn, 1) := by decide +kernel
theorem d_P_wordOf_106 : decode b_P_wordOf 106 = .ok (.ldc 19, 2) := by decide +kernel
theorem d_P_wordOf_108 : decode b_P_wordOf 108 = .ok (.areturn, 1) := by decide +kernel
theorem d_P_wordOf_109 : decode b_P_wordOf 109 = .ok (.ldc 21, 2) := by decide +kernel
theorem d_P_wordOf_111 : decode b_P_wordOf 111 = .ok (.areturn, 1) := by decide +kernel
theorem d_P_wordOf_112 : decode b_P_wordOf 112 = .ok (.ldc 23, 2) := by decide +kernel
theorem d_P_wordOf_114 : decode b_P_wordOf 114 = .ok (.areturn, 1) := by decide +kernel
theorem d_P_wordOf_115 : decode b_P_wordOf 115 = .ok (.ldc 25, 2) := by decide +kernel
theorem d_P_wordOf_117 : decode b_P_wordOf 117 = .ok (.areturn, 1) := by decide +kernel
theorem d_P_wordOf_118 : decode b_P_wordOf 118 = .ok (.ldc 27, 2) := by decide +kernel
theorem d_P_wordOf_120 : decode b_P_wordOf 120 = .ok (.areturn, 1) := by decide +kernel
theorem d_P_wordOf_121 : decode b_P_wordOf 121 = .ok (.ldc 29, 2) := by decide +kernel
theorem d_P_wordOf_123 : decode b_P_wordOf 123 = .ok (.areturn, 1) := by decide +kernel
theorem d_P_wordOf_124 : decode b_P_wordOf 124 = .ok (.ldc 31, 2) := by decide +kernel
theorem d_P_wordOf_126 : decode b_P_wordOf 126 = .ok (.areturn, 1) := by decide +kernel
theorem d_P_wordOf_127 : decode b_P_wordOf 127 = .ok (.ldc 33, 2) := by decide +kernel
theorem d_P_wordOf_129 : decode b_P_wordOf 129 = .ok (.areturn, 1) := by decide +kernel
theorem d_P_wordOf_130 : decode b_P_wordOf 130 = .ok (.ldc 35, 2) := by decide +kernel
theorem d_P_wordOf_132 : decode b_P_wordOf 132 = .ok (.areturn, 1) := by decide +kernel
theorem d_P_wordOf_133 : decode b_P_wordOf 133 = .ok (.ldc 37, 2) := by decide +kernel
theorem d_P_wordOf_135 : decode b_P_wordOf 135 = .ok (.areturn, 1) := by decide +kernel
theorem d_P_wordOf_136 : decode b_P_wordOf 136 = .ok (.ldc 39, 2) := by decide +kernel
theorem d_P_wordOf_138 : decode b_P_wordOf 138 = .ok (.areturn, 1) := by decide +kernel
theorem d_P_wordOf_139 : decode b_P_wordOf 139 = .ok (.ldc 41, 2) := by decide +kernel
theorem d_P_wordOf_141 : decode b_P_wordOf 141 = .ok (.areturn, 1) := by decide +kernel
theorem d_P_wordOf_142 : decode b_P_wordOf 142 = .ok (.ldc 43, 2) := by decide +kernel
theorem d_P_wordOf_144 : decode b_P_wordOf 144 = .ok (.areturn, 1) := by decide +kernel
theorem d_P_wordOf_145 : decode b_P_wordOf 145 = .ok (.ldc 45, 2) := by decide +kernel
theorem d_P_wordOf_147 : decode b_P_wordOf 147 = .ok (.areturn, 1) := by decide +kernel
theorem d_P_wordOf_148 : decode b_P_wordOf 148 = .ok (.ldc 47, 2) := by decide +kernel
theorem d_P_wordOf_150 : decode b_P_wordOf 150 = .ok (.areturn, 1) := by decide +kernel
theorem d_P_wordOf_151 : decode b_P_wordOf 151 = .ok (.ldc 49, 2) := by decide +kernel
theorem d_P_wordOf_153 : decode b_P_wordOf 153 = .ok (.areturn, 1) := by decide +kernel
theorem d_P_wordOf_154 : decode b_P_wordOf 154 = .ok (.ldc 51, 2) := by decide +kernel
theorem d_P_wordOf_156 : decode b_P_wordOf 156 = .ok (.areturn, 1) := by decide +kernel
theorem d_P_isDefined_0 : decode b_P_isDefined 0 = .ok (.iconst 0, 1) := by decide +kernel
theorem d_P_isDefined_1 : decode b_P_isDefined 1 = .ok (.istore_n 3, 1) := by decide +kernel
theorem d_P_isDefined_2 : decode b_P_isDefined 2 = .ok (.iconst 0, 1) := by decide +kernel
theorem d_P_isDefined_3 : decode b_P_isDefined 3 = .ok (.istore 4, 2) := by decide +kernel
theorem d_P_isDefined_5 : decode b_P_isDefined 5 = .ok (.iload 4, 2) := by decide +kernel
theorem d_P_isDefined_7 : decode b_P_isDefined 7 = .ok (.aload_n 0, 1) := by decide +kernel
theorem d_P_isDefined_8 : decode b_P_isDefined 8 = .ok (.getfield 182, 3) := by decide +kernel
theorem d_P_isDefined_11 : decode b_P_isDefined 11 = .ok (.if_icmp .ge 34, 3) := by decide +kernel
theorem d_P_isDefined_14 : decode b_P_isDefined 14 = .ok (.iload_n 3, 1) := by decide +kernel
theorem d_P_isDefined_15 : decode b_P_isDefined 15 = .ok (.ifCond .ne 18, 3) := by decide +kernel
theorem d_P_isDefined_18 : decode b_P_isDefined 18 = .ok (.aload_n 0, 1) := by decide +kernel
theorem d_P_isDefined_19 : decode b_P_isDefined 19 = .ok (.getfield 124, 3) := by decide +kernel
theorem d_P_isDefined_22 : decode b_P_isDefined 22 = .ok (.iload 4, 2) := by decide +kernel
theorem d_P_isDefined_24 : decode b_P_isDefined 24 = .ok (.aaload, 1) := by decide +kernel
theorem d_P_isDefined_25 : decode b_P_isDefined 25 = .ok (.getfield 194, 3) := by decide +kernel
theorem d_P_isDefined_28 : decode b_P_isDefined 28 = .ok (.lload_n 1, 1) := by decide +kernel
theorem d_P_isDefined_29 : decode b_P_isDefined 29 = .ok (.lcmp, 1) := by decide +kernel
theorem d_P_isDefined_30 : decode b_P_isDefined 30 = .ok (.ifCond .ne 7, 3) := by decide +kernel
theorem d_P_isDefined_33 : decode b_P_isDefined 33 = .ok (.iconst 1, 1) := by decide +kernel
theorem d_P_isDefined_34 : decode b_P_isDefined 34 = .ok (.goto 4, 3) := by decide +kernel
theorem d_P_isDefined_37 : decode b_P_isDefined 37 = .ok (.iconst 0, 1) := by decide +kernel
theorem d_P_isDefined_38 : decode b_P_isDefined 38 = .ok (.istore_n 3, 1) := by decide +kernel
theorem d_P_isDefined_39 : decode b_P_isDefined 39 = .ok (.iinc 4 1, 3) := by decide +kernel
theorem d_P_isDefined_42 : decode b_P_isDefined 42 = .ok (.goto (-37), 3) := by decide +kernel
theorem d_P_isDefined_45 : decode b_P_isDefined 45 = .ok (.iload_n 3, 1) := by decide +kernel
theorem d_P_isDefined_46 : decode b_P_isDefined 46 = .ok (.ireturn, 1) := by decide +kernel
theorem d_P_readParameter_0 : decode b_P_readParameter 0 = .ok (.aload_n 0, 1) := by decide +kernel
theorem d_P_readParameter_1 : decode b_P_readParameter 1 = .ok (.getfield 112, 3) := by decide +kernel
theorem d_P_readParameter_4 : decode b_P_readParameter 4 = .ok (.getfield 149, 3) := by decide +kernel
theorem d_P_readParameter_7 : decode b_P_readParameter 7 = .ok (.getstatic 188, 3) := by decide +kernel
theorem d_P_readParameter_10 : decode b_P_readParameter 10 = .ok (.if_acmp .ne 17, 3) := by decide +kernel
theorem d_P_readParameter_13 : decode b_P_readParameter 13 = .ok (.aload_n 1, 1) := by decide +kernel
theorem d_P_readParameter_14 : decode b_P_readParameter 14 = .ok (.getfield 217, 3) := by decide +kernel
theorem d_P_readParameter_17 : decode b_P_readParameter 17 = .ok (.bipush 8, 2) := by decide +kernel
theorem d_P_readParameter_19 : decode b_P_readParameter 19 = .ok (.if_icmp .ne 8, 3) := by decide +kernel
theorem d_P_readParameter_22 : decode b_P_readParameter 22 = .ok (.aload_n 0, 1) := by decide +kernel
theorem d_P_readParameter_23 : decode b_P_readParameter 23 = .ok (.invokevirtual 169, 3) := by decide +kernel
theorem d_P_readParameter_26 : decode b_P_readParameter 26 = .ok (.return_, 1) := by decide +kernel
theorem d_P_readParameter_27 : decode b_P_readParameter 27 = .ok (.aload_n 0, 1) := by decide +kernel
theorem d_P_readParameter_28 : decode b_P_readParameter 28 = .ok (.getstatic 188, 3) := by decide +kernel
theorem d_P_readParameter_31 : decode b_P_readParameter 31 = .ok (.invokevirtual 205, 3) := by decide +kernel
theorem d_P_readParameter_34 : decode b_P_readParameter 34 = .ok (.iconst 0, 1) := by decide +kernel
theorem d_P_readParameter_35 : decode b_P_readParameter 35 = .ok (.istore_n 2, 1) := by decide +kernel
theorem d_P_readParameter_36 : decode b_P_readParameter 36 = .ok (.iconst 0, 1) := by decide +kernel
theorem d_P_readParameter_37 : decode b_P_readParameter 37 = .ok (.istore_n 3, 1) := by decide +kernel
theorem d_P_readParameter_38 : decode b_P_readParameter 38 = .ok (.iload_n 3, 1) := by decide +kernel
theorem d_P_readParameter_39 : decode b_P_readParameter 39 = .ok (.aload_n 1, 1) := by decide +kernel
theorem d_P_readParameter_40 : decode b_P_readParameter 40 = .ok (.getfield 217, 3) := by decide +kernel
theorem d_P_readParameter_43 : decode b_P_readParameter 43 = .ok (.if_icmp .ge 49, 3) := by decide +kernel
theorem d_P_readParameter_46 : decode b_P_readParameter 46 = .ok (.iload_n 2, 1) := by decide +kernel
theorem d_P_readParameter_47 : decode b_P_readParameter 47 = .ok (.ifCond .ne 33, 3) := by decide +kernel
theorem d_P_readParameter_50 : decode b_P_readParameter 50 = .ok (.aload_n 0, 1) := by decide +kernel
theorem d_P_readParameter_51 : decode b_P_readParameter 51 = .ok (.getfield 112, 3) := by decide +kernel
theorem d_P_readParameter_54 : decode b_P_readParameter 54 = .ok (.getfield 149, 3) := by decide +kernel
theorem d_P_readParameter_57 : decode b_P_readParameter 57 = .ok (.getstatic 162, 3) := by decide +kernel
theorem d_P_readParameter_60 : decode b_P_readParameter 60 = .ok (.if_acmp .ne 24, 3) := by decide +kernel
theorem d_P_readParameter_63 : decode b_P_readParameter 63 = .ok (.aload_n 1, 1) := by decide +kernel
theorem d_P_readParameter_64 : decode b_P_readParameter 64 = .ok (.getfield 237, 3) := by decide +kernel
theorem d_P_readParameter_67 : decode b_P_readParameter 67 = .ok (.iload_n 3, 1) := by decide +kernel
theorem d_P_readParameter_68 : decode b_P_readParameter 68 = .ok (.laload, 1) := by decide +kernel
theorem d_P_readParameter_69 : decode b_P_readParameter 69 = .ok (.aload_n 0, 1) := by decide +kernel
theorem d_P_readParameter_70 : decode b_P_readParameter 70 = .ok (.getfield 112, 3) := by decide +kernel
theorem d_P_readParameter_73 : decode b_P_readParameter 73 = .ok (.getfield 165, 3) := by decide +kernel
theorem d_P_readParameter_76 : decode b_P_readParameter 76 = .ok (.lcmp, 1) := by decide +kernel
theorem d_P_readParameter_77 : decode b_P_readParameter 77 = .ok (.ifCond .ne 7, 3) := by decide +kernel
theorem d_P_readParameter_80 : decode b_P_readParameter 80 = .ok (.iconst 1, 1) := by decide +kernel
theorem d_P_readParameter_81 : decode b_P_readParameter 81 = .ok (.goto 4, 3) := by decide +kernel
theorem d_P_readParameter_84 : decode b_P_readParameter 84 = .ok (.iconst 0, 1) := by decide +kernel
theorem d_P_readParameter_85 : decode b_P_readParameter 85 = .ok (.istore_n 2, 1) := by decide +kernel
theorem d_P_readParameter_86 : decode b_P_readParameter 86 = .ok (.iinc 3 1, 3) := by decide +kernel
theorem d_P_readParameter_89 : decode b_P_readParameter 89 = .ok (.goto (-51), 3) := by decide +kernel
theorem d_P_readParameter_92 : decode b_P_readParameter 92 = .ok (.aload_n 0, 1) := by decide +kernel
theorem d_P_readParameter_93 : decode b_P_readParameter 93 = .ok (.getfield 146, 3) := by decide +kernel
theorem d_P_readParameter_96 : decode b_P_readParameter 96 = .ok (.ifCond .ne 18, 3) := by decide +kernel
theorem d_P_readParameter_99 : decode b_P_readParameter 99 = .ok (.aload_n 0, 1) := by decide +kernel
theorem d_P_readParameter_100 : decode b_P_readParameter 100 = .ok (.invokevirtual 209, 3) := by decide +kernel
theorem d_P_readParameter_103 : decode b_P_readParameter 103 = .ok (.ifCond .eq 7, 3) := by decide +kernel
theorem d_P_readParameter_106 : decode b_P_readParameter 106 = .ok (.iload_n 2, 1) := by decide +kernel
theorem d_P_readParameter_107 : decode b_P_readParameter 107 = .ok (.ifCond .eq 7, 3) := by decide +kernel
theorem d_P_readParameter_110 : decode b_P_readParameter 110 = .ok (.aload_n 0, 1) := by decide +kernel
theorem d_P_readParameter_111 : decode b_P_readParameter 111 = .ok (.invokevirtual 169, 3) := by decide +kernel
theorem d_P_readParameter_114 : decode b_P_readParameter 114 = .ok (.aload_n 0, 1) := by decide +kernel
theorem d_P_readParameter_115 : decode b_P_readParameter 115 = .ok (.getfield 146, 3) := by decide +kernel
theorem d_P_readParameter_118 : decode b_P_readParameter 118 = .ok (.ifCond .le 4, 3) := by decide +kernel
theorem d_P_readParameter_121 : decode b_P_readParameter 121 = .ok (.return_, 1) := by decide +kernel
theorem d_P_readParameter_122 : decode b_P_readParameter 122 = .ok (.aload_n 1, 1) := by decide +kernel
theorem d_P_readParameter_123 : decode b_P_readParameter 123 = .ok (.getfield 237, 3) := by decide +kernel
theorem d_P_readParameter_126 : decode b_P_readParameter 126 = .ok (.aload_n 1, 1) := by decide +kernel
theorem d_P_readParameter_127 : decode b_P_readParameter 127 = .ok (.getfield 217, 3) := by decide +kernel
theorem d_P_readParameter_130 : decode b_P_readParameter 130 = .ok (.aload_n 0, 1) := by decide +kernel
theorem d_P_readParameter_131 : decode b_P_readParameter 131 = .ok (.getfield 112, 3) := by decide +kernel
theorem d_P_readParameter_134 : decode b_P_readParameter 134 = .ok (.getfield 165, 3) := by decide +kernel
theorem d_P_readParameter_137 : decode b_P_readParameter 137 = .ok (.lastore, 1) := by decide +kernel
theorem d_P_readParameter_138 : decode b_P_readParameter 138 = .ok (.aload_n 0, 1) := by decide +kernel
theorem d_P_readParameter_139 : decode b_P_readParameter 139 = .ok (.getstatic 162, 3) := by decide +kernel
theorem d_P_readParameter_142 : decode b_P_readParameter 142 = .ok (.invokevirtual 205, 3) := by decide +kernel
theorem d_P_readParameter_145 : decode b_P_readParameter 145 = .ok (.aload_n 1, 1) := by decide +kernel
theorem d_P_readParameter_146 : decode b_P_readParameter 146 = .ok (.getfield 241, 3) := by decide +kernel
theorem d_P_readParameter_149 : decode b_P_readParameter 149 = .ok (.aload_n 1, 1) := by decide +kernel
theorem d_P_readParameter_150 : decode b_P_readParameter 150 = .ok (.getfield 217, 3) := by decide +kernel
theorem d_P_readParameter_153 : decode b_P_readParameter 153 = .ok (.aload_n 0, 1) := by decide +kernel
theorem d_P_readParameter_154 : decode b_P_readParameter 154 = .ok (.getfield 146, 3) := by decide +kernel
theorem d_P_readParameter_157 : decode b_P_readParameter 157 = .ok (.ifCond .ne 11, 3) := by decide +kernel
theorem d_P_readParameter_160 : decode b_P_readParameter 160 = .ok (.aload_n 0, 1) := by decide +kernel
theorem d_P_readParameter_161 : decode b_P_readParameter 161 = .ok (.iconst 0, 1) := by decide +kernel
theorem d_P_readParameter_162 : decode b_P_readParameter 162 = .ok (.invokevirtual 225, 3) := by decide +kernel
theorem d_P_readParameter_165 : decode b_P_readParameter 165 = .ok (.goto 4, 3) := by decide +kernel
theorem d_P_readParameter_168 : decode b_P_readParameter 168 = .ok (.iconst 0, 1) := by decide +kernel
theorem d_P_readParameter_169 : decode b_P_readParameter 169 = .ok (.iastore, 1) := by decide +kernel
theorem d_P_readParameter_170 : decode b_P_readParameter 170 = .ok (.aload_n 0, 1) := by decide +kernel
theorem d_P_readParameter_171 : decode b_P_readParameter 171 = .ok (.getstatic 218, 3) := by decide +kernel
theorem d_P_readParameter_174 : decode b_P_readParameter 174 = .ok (.invokevirtual 205, 3) := by decide +kernel
theorem d_P_readParameter_177 : decode b_P_readParameter 177 = .ok (.aload_n 1, 1) := by decide +kernel
theorem d_P_readParameter_178 : decode b_P_readParameter 178 = .ok (.dup, 1) := by decide +kernel
theorem d_P_readParameter_179 : decode b_P_readParameter 179 = .ok (.getfield 217, 3) := by decide +kernel
theorem d_P_readParameter_182 : decode b_P_readParameter 182 = .ok (.iconst 1, 1) := by decide +kernel
theorem d_P_readParameter_183 : decode b_P_readParameter 183 = .ok (.iadd, 1) := by decide +kernel
theorem d_P_readParameter_184 : decode b_P_readParameter 184 = .ok (.putfield 217, 3) := by decide +kernel
theorem d_P_readParameter_187 : decode b_P_readParameter 187 = .ok (.return_, 1) := by decide +kernel
theorem d_P_type_0 : decode b_P_type 0 = .ok (.aload_n 0, 1) := by decide +kernel
theorem d_P_type_1 : decode b_P_type 1 = .ok (.getfield 112, 3) := by decide +kernel
theorem d_P_type_4 : decode b_P_type 4 = .ok (.getfield 149, 3) := by decide +kernel
theorem d_P_type_7 : decode b_P_type 7 = .ok (.getstatic 162, 3) := by decide +kernel
theorem d_P_type_10 : decode b_P_type 10 = .ok (.if_acmp .ne 16, 3) := by decide +kernel
theorem d_P_type_13 : decode b_P_type 13 = .ok (.aload_n 0, 1) := by decide +kernel
theorem d_P_type_14 : decode b_P_type 14 = .ok (.getfield 112, 3) := by decide +kernel
theorem d_P_type_17 : decode b_P_type 17 = .ok (.getfield 165, 3) := by decide +kernel
theorem d_P_type_20 : decode b_P_type 20 = .ok (.invokestatic 95, 3) := by decide +kernel
theorem d_P_type_23 : decode b_P_type 23 = .ok (.goto 4, 3) := by decide +kernel
theorem d_P_type_26 : decode b_P_type 26 = .ok (.iconst (-1), 1) := by decide +kernel
theorem d_P_type_27 : decode b_P_type 27 = .ok (.istore_n 2, 1) := by decide +kernel
theorem d_P_type_28 : decode b_P_type 28 = .ok (.iload_n 2, 1) := by decide +kernel
theorem d_P_type_29 : decode b_P_type 29 = .ok (.ifCond .lt 12, 3) := by decide +kernel
theorem d_P_type_32 : decode b_P_type 32 = .ok (.iload_n 1, 1) := by decide +kernel
theorem d_P_type_33 : decode b_P_type 33 = .ok (.ifCond .eq 15, 3) := by decide +kernel
theorem d_P_type_36 : decode b_P_type 36 = .ok (.iload_n 2, 1) := by decide +kernel
theorem d_P_type_37 : decode b_P_type 37 = .ok (.iconst 1, 1) := by decide +kernel
theorem d_P_type_38 : decode b_P_type 38 = .ok (.if_icmp .le 10, 3) := by decide +kernel
theorem d_P_type_41 : decode b_P_type 41 = .ok (.aload_n 0, 1) := by decide +kernel
theorem d_P_type_42 : decode b_P_type 42 = .ok (.invokevirtual 169, 3) := by decide +kernel
theorem d_P_type_45 : decode b_P_type 45 = .ok (.goto 17, 3) := by decide +kernel
theorem d_P_type_48 : decode b_P_type 48 = .ok (.aload_n 0, 1) := by decide +kernel
theorem d_P_type_49 : decode b_P_type 49 = .ok (.getfield 146, 3) := by decide +kernel
theorem d_P_type_52 : decode b_P_type 52 = .ok (.ifCond .ne 10, 3) := by decide +kernel
theorem d_P_type_55 : decode b_P_type 55 = .ok (.aload_n 0, 1) := by decide +kernel
theorem d_P_type_56 : decode b_P_type 56 = .ok (.getfield 112, 3) := by decide +kernel
theorem d_P_type_59 : decode b_P_type 59 = .ok (.invokevirtual 172, 3) := by decide +kernel
theorem d_P_type_62 : decode b_P_type 62 = .ok (.iload_n 2, 1) := by decide +kernel
theorem d_P_type_63 : decode b_P_type 63 = .ok (.ireturn, 1) := by decide +kernel
theorem d_P_body_0 : decode b_P_body 0 = .ok (.aload_n 0, 1) := by decide +kernel
theorem d_P_body_1 : decode b_P_body 1 = .ok (.iconst 0, 1) := by decide +kernel
theorem d_P_body_2 : decode b_P_body 2 = .ok (.putfield 259, 3) := by decide +kernel
theorem d_P_body_5 : decode b_P_body 5 = .ok (.aload_n 0, 1) := by decide +kernel
theorem d_P_body_6 : decode b_P_body 6 = .ok (.aload_n 1, 1) := by decide +kernel
theorem d_P_body_7 : decode b_P_body 7 = .ok (.getfield 201, 3) := by decide +kernel
theorem d_P_body_10 : decode b_P_body 10 = .ok (.ifCond .ne 7, 3) := by decide +kernel
theorem d_P_body_13 : decode b_P_body 13 = .ok (.iconst 1, 1) := by decide +kernel
theorem d_P_body_14 : decode b_P_body 14 = .ok (.goto 4, 3) := by decide +kernel
theorem d_P_body_17 : decode b_P_body 17 = .ok (.iconst 0, 1) := by decide +kernel
theorem d_P_body_18 : decode b_P_body 18 = .ok (.aload_n 1, 1) := by decide +kernel
theorem d_P_body_19 : decode b_P_body 19 = .ok (.getfield 217, 3) := by decide +kernel
theorem d_P_body_22 : decode b_P_body 22 = .ok (.invokevirtual 300, 3) := by decide +kernel
theorem d_P_body_25 : decode b_P_body 25 = .ok (.aload_n 0, 1) := by decide +kernel
theorem d_P_body_26 : decode b_P_body 26 = .ok (.getfield 146, 3) := by decide +kernel
theorem d_P_body_29 : decode b_P_body 29 = .ok (.ifCond .ne 28, 3) := by decide +kernel
theorem d_P_body_32 : decode b_P_body 32 = .ok (.aload_n 0, 1) := by decide +kernel
theorem d_P_body_33 : decode b_P_body 33 = .ok (.getfield 259, 3) := by decide +kernel
theorem d_P_body_36 : decode b_P_body 36 = .ok (.ifCond .le 21, 3) := by decide +kernel
theorem d_P_body_39 : decode b_P_body 39 = .ok (.aload_n 0, 1) := by decide +kernel
theorem d_P_body_40 : decode b_P_body 40 = .ok (.aload_n 0, 1) := by decide +kernel
theorem d_P_body_41 : decode b_P_body 41 = .ok (.getfield 130, 3) := by decide +kernel
theorem d_P_body_44 : decode b_P_body 44 = .ok (.aload_n 0, 1) := by decide +kernel
theorem d_P_body_45 : decode b_P_body 45 = .ok (.getfield 259, 3) := by decide +kernel
theorem d_P_body_48 : decode b_P_body 48 = .ok (.iconst 1, 1) := by decide +kernel
theorem d_P_body_49 : decode b_P_body 49 = .ok (.isub, 1) := by decide +kernel
theorem d_P_body_50 : decode b_P_body 50 = .ok (.aaload, 1) := by decide +kernel
theorem d_P_body_51 : decode b_P_body 51 = .ok (.invokevirtual 304, 3) := by decide +kernel
theorem d_P_body_54 : decode b_P_body 54 = .ok (.goto (-29), 3) := by decide +kernel
theorem d_P_body_57 : decode b_P_body 57 = .ok (.return_, 1) := by decide +kernel
theorem d_P_expression_0 : decode b_P_expression 0 = .ok (.aload_n 0, 1) := by decide +kernel
theorem d_P_expression_1 : decode b_P_expression 1 = .ok (.getfield 112, 3) := by decide +kernel
theorem d_P_expression_4 : decode b_P_expression 4 = .ok (.getfield 161, 3) := by decide +kernel
theorem d_P_expression_7 : decode b_P_expression 7 = .ok (.istore_n 3, 1) := by decide +kernel
theorem d_P_expression_8 : decode b_P_expression 8 = .ok (.aload_n 0, 1) := by decide +kernel
theorem d_P_expression_9 : decode b_P_expression 9 = .ok (.getfield 112, 3) := by decide +kernel
theorem d_P_expression_12 : decode b_P_expression 12 = .ok (.getfield 149, 3) := by decide +kernel
theorem d_P_expression_15 : decode b_P_expression 15 = .ok (.getstatic 188, 3) := by decide +kernel
theorem d_P_expression_18 : decode b_P_expression 18 = .ok (.if_acmp .ne 150, 3) := by decide +kernel
theorem d_P_expression_21 : decode b_P_expression 21 = .ok (.aload_n 0, 1) := by decide +kernel
theorem d_P_expression_22 : decode b_P_expression 22 = .ok (.getfield 112, 3) := by decide +kernel
theorem d_P_expression_25 : decode b_P_expression 25 = .ok (.invokevirtual 172, 3) := by decide +kernel
theorem d_P_expression_28 : decode b_P_expression 28 = .ok (.aload_n 0, 1) := by decide +kernel
theorem d_P_expression_29 : decode b_P_expression 29 = .ok (.getfield 112, 3) := by decide +kernel
theorem d_P_expression_32 : decode b_P_expression 32 = .ok (.getfield 149, 3) := by decide +kernel
theorem d_P_expression_35 : decode b_P_expression 35 = .ok (.getstatic 162, 3) := by decide +kernel
theorem d_P_expression_38 : decode b_P_expression 38 = .ok (.if_acmp .ne 17, 3) := by decide +kernel
theorem d_P_expression_41 : decode b_P_expression 41 = .ok (.aload_n 0, 1) := by decide +kernel
theorem d_P_expression_42 : decode b_P_expression 42 = .ok (.getfield 112, 3) := by decide +kernel
theorem d_P_expression_45 : decode b_P_expression 45 = .ok (.getfield 165, 3) := by decide +kernel
theorem d_P_expression_48 : decode b_P_expression 48 = .ok (.iload_n 1, 1) := by decide +kernel
theorem d_P_expression_49 : decode b_P_expression 49 = .ok (.invokestatic 99, 3) := by decide +kernel
theorem d_P_expression_52 : decode b_P_expression 52 = .ok (.goto 4, 3) := by decide +kernel
theorem d_P_expression_55 : decode b_P_expression 55 = .ok (.iconst (-1), 1) := by decide +kernel
theorem d_P_expression_56 : decode b_P_expression 56 = .ok (.istore 4, 2) := by decide +kernel
theorem d_P_expression_58 : decode b_P_expression 58 = .ok (.iload 4, 2) := by decide +kernel
theorem d_P_expression_60 : decode b_P_expression 60 = .ok (.ifCond .ge 8, 3) := by decide +kernel
theorem d_P_expression_63 : decode b_P_expression 63 = .ok (.aload_n 0, 1) := by decide +kernel
theorem d_P_expression_64 : decode b_P_expression 64 = .ok (.invokevirtual 169, 3) := by decide +kernel
theorem d_P_expression_67 : decode b_P_expression 67 = .ok (.return_, 1) := by decide +kernel
theorem d_P_expression_68 : decode b_P_expression 68 = .ok (.aload_n 0, 1) := by decide +kernel
theorem d_P_expression_69 : decode b_P_expression 69 = .ok (.getfield 112, 3) := by decide +kernel
theorem d_P_expression_72 : decode b_P_expression 72 = .ok (.invokevirtual 172, 3) := by decide +kernel
theorem d_P_expression_75 : decode b_P_expression 75 = .ok (.aload_n 0, 1) := by decide +kernel
theorem d_P_expression_76 : decode b_P_expression 76 = .ok (.iload 4, 2) := by decide +kernel
theorem d_P_expression_78 : decode b_P_expression 78 = .ok (.iload_n 3, 1) := by decide +kernel
theorem d_P_expression_79 : decode b_P_expression 79 = .ok (.iload_n 2, 1) := by decide +kernel
theorem d_P_expression_80 : decode b_P_expression 80 = .ok (.invokevirtual 281, 3) := by decide +kernel
theorem d_P_expression_83 : decode b_P_expression 83 = .ok (.astore 5, 2) := by decide +kernel
theorem d_P_expression_85 : decode b_P_expression 85 = .ok (.aload_n 0, 1) := by decide +kernel
theorem d_P_expression_86 : decode b_P_expression 86 = .ok (.getfield 130, 3) := by decide +kernel
theorem d_P_expression_89 : decode b_P_expression 89 = .ok (.aload_n 0, 1) := by decide +kernel
theorem d_P_expression_90 : decode b_P_expression 90 = .ok (.getfield 259, 3) := by decide +kernel
theorem d_P_expression_93 : decode b_P_expression 93 = .ok (.aaload, 1) := by decide +kernel
theorem d_P_expression_94 : decode b_P_expression 94 = .ok (.ifnonnull 19, 3) := by decide +kernel
theorem d_P_expression_97 : decode b_P_expression 97 = .ok (.aload_n 0, 1) := by decide +kernel
theorem d_P_expression_98 : decode b_P_expression 98 = .ok (.getfield 130, 3) := by decide +kernel
theorem d_P_expression_101 : decode b_P_expression 101 = .ok (.aload_n 0, 1) := by decide +kernel
theorem d_P_expression_102 : decode b_P_expression 102 = .ok (.getfield 259, 3) := by decide +kernel
theorem d_P_expression_105 : decode b_P_expression 105 = .ok (.new 128, 3) := by decide +kernel
theorem d_P_expression_108 : decode b_P_expression 108 = .ok (.dup, 1) := by decide +kernel
theorem d_P_expression_109 : decode b_P_expression 109 = .ok (.invokespecial 284, 3) := by decide +kernel
theorem d_P_expression_112 : decode b_P_expression 112 = .ok (.aastore, 1) := by decide +kernel
theorem d_P_expression_113 : decode b_P_expression 113 = .ok (.aload_n 0, 1) := by decide +kernel
theorem d_P_expression_114 : decode b_P_expression 114 = .ok (.getfield 130, 3) := by decide +kernel
theorem d_P_expression_117 : decode b_P_expression 117 = .ok (.aload_n 0, 1) := by decide +kernel
theorem d_P_expression_118 : decode b_P_expression 118 = .ok (.getfield 259, 3) := by decide +kernel
theorem d_P_expression_121 : decode b_P_expression 121 = .ok (.aaload, 1) := by decide +kernel
theorem d_P_expression_122 : decode b_P_expression 122 = .ok (.astore 6, 2) := by decide +kernel
theorem d_P_expression_124 : decode b_P_expression 124 = .ok (.aload 6, 2) := by decide +kernel
theorem d_P_expression_126 : decode b_P_expression 126 = .ok (.aload_n 0, 1) := by decide +kernel
theorem d_P_expression_127 : decode b_P_expression 127 = .ok (.getfield 179, 3) := by decide +kernel
theorem d_P_expression_130 : decode b_P_expression 130 = .ok (.iconst 1, 1) := by decide +kernel
theorem d_P_expression_131 : decode b_P_expression 131 = .ok (.isub, 1) := by decide +kernel
theorem d_P_expression_132 : decode b_P_expression 132 = .ok (.putfield 262, 3) := by decide +kernel
theorem d_P_expression_135 : decode b_P_expression 135 = .ok (.aload 6, 2) := by decide +kernel
theorem d_P_expression_137 : decode b_P_expression 137 = .ok (.iload 4, 2) := by decide +kernel
theorem d_P_expression_139 : decode b_P_expression 139 = .ok (.invokestatic 285, 3) := by decide +kernel
theorem d_P_expression_142 : decode b_P_expression 142 = .ok (.putfield 288, 3) := by decide +kernel
theorem d_P_expression_145 : decode b_P_expression 145 = .ok (.aload 6, 2) := by decide +kernel
theorem d_P_expression_147 : decode b_P_expression 147 = .ok (.iconst 0, 1) := by decide +kernel
theorem d_P_expression_148 : decode b_P_expression 148 = .ok (.putfield 292, 3) := by decide +kernel
theorem d_P_expression_151 : decode b_P_expression 151 = .ok (.aload 6, 2) := by decide +kernel
theorem d_P_expression_153 : decode b_P_expression 153 = .ok (.iload_n 2, 1) := by decide +kernel
theorem d_P_expression_154 : decode b_P_expression 154 = .ok (.putfield 295, 3) := by decide +kernel
theorem d_P_expression_157 : decode b_P_expression 157 = .ok (.aload_n 0, 1) := by decide +kernel
theorem d_P_expression_158 : decode b_P_expression 158 = .ok (.dup, 1) := by decide +kernel
theorem d_P_expression_159 : decode b_P_expression 159 = .ok (.getfield 259, 3) := by decide +kernel
theorem d_P_expression_162 : decode b_P_expression 162 = .ok (.iconst 1, 1) := by decide +kernel
theorem d_P_expression_163 : decode b_P_expression 163 = .ok (.iadd, 1) := by decide +kernel
theorem d_P_expression_164 : decode b_P_expression 164 = .ok (.putfield 259, 3) := by decide +kernel
theorem d_P_expression_167 : decode b_P_expression 167 = .ok (.return_, 1) := by decide +kernel
theorem d_P_expression_168 : decode b_P_expression 168 = .ok (.iload_n 1, 1) := by decide +kernel
theorem d_P_expression_169 : decode b_P_expression 169 = .ok (.ifCond .eq 32, 3) := by decide +kernel
theorem d_P_expression_172 : decode b_P_expression 172 = .ok (.aload_n 0, 1) := by decide +kernel
theorem d_P_expression_173 : decode b_P_expression 173 = .ok (.getfield 112, 3) := by decide +kernel
theorem d_P_expression_176 : decode b_P_expression 176 = .ok (.getfield 149, 3) := by decide +kernel
theorem d_P_expression_179 : decode b_P_expression 179 = .ok (.getstatic 296, 3) := by decide +kernel
theorem d_P_expression_182 : decode b_P_expression 182 = .ok (.if_acmp .eq 24, 3) := by decide +kernel
theorem d_P_expression_185 : decode b_P_expression 185 = .ok (.aload_n 0, 1) := by decide +kernel
theorem d_P_expression_186 : decode b_P_expression 186 = .ok (.ldc 93, 2) := by decide +kernel
theorem d_P_expression_188 : decode b_P_expression 188 = .ok (.invokevirtual 197, 3) := by decide +kernel
theorem d_P_expression_191 : decode b_P_expression 191 = .ok (.ifCond .ne 15, 3) := by decide +kernel
theorem d_P_expression_194 : decode b_P_expression 194 = .ok (.aload_n 0, 1) := by decide +kernel
theorem d_P_expression_195 : decode b_P_expression 195 = .ok (.invokevirtual 209, 3) := by decide +kernel
theorem d_P_expression_198 : decode b_P_expression 198 = .ok (.ifCond .ne 8, 3) := by decide +kernel
theorem d_P_expression_201 : decode b_P_expression 201 = .ok (.aload_n 0, 1) := by decide +kernel
theorem d_P_expression_202 : decode b_P_expression 202 = .ok (.invokevirtual 169, 3) := by decide +kernel
theorem d_P_expression_205 : decode b_P_expression 205 = .ok (.return_, 1) := by decide +kernel
theorem d_P_expression_206 : decode b_P_expression 206 = .ok (.aload_n 0, 1) := by decide +kernel
theorem d_P_expression_207 : decode b_P_expression 207 = .ok (.aload_n 0, 1) := by decide +kernel
theorem d_P_expression_208 : decode b_P_expression 208 = .ok (.getfield 112, 3) := by decide +kernel
theorem d_P_expression_211 : decode b_P_expression 211 = .ok (.getfield 149, 3) := by decide +kernel
theorem d_P_expression_214 : decode b_P_expression 214 = .ok (.getstatic 296, 3) := by decide +kernel
theorem d_P_expression_217 : decode b_P_expression 217 = .ok (.if_acmp .ne 7, 3) := by decide +kernel
theorem d_P_expression_220 : decode b_P_expression 220 = .ok (.iconst 0, 1) := by decide +kernel
theorem d_P_expression_221 : decode b_P_expression 221 = .ok (.goto 17, 3) := by decide +kernel
theorem d_P_expression_224 : decode b_P_expression 224 = .ok (.aload_n 0, 1) := by decide +kernel
theorem d_P_expression_225 : decode b_P_expression 225 = .ok (.ldc 93, 2) := by decide +kernel
theorem d_P_expression_227 : decode b_P_expression 227 = .ok (.invokevirtual 197, 3) := by decide +kernel
theorem d_P_expression_230 : decode b_P_expression 230 = .ok (.ifCond .eq 7, 3) := by decide +kernel
theorem d_P_expression_233 : decode b_P_expression 233 = .ok (.iconst 2, 1) := by decide +kernel
theorem d_P_expression_234 : decode b_P_expression 234 = .ok (.goto 4, 3) := by decide +kernel
theorem d_P_expression_237 : decode b_P_expression 237 = .ok (.iconst 1, 1) := by decide +kernel
theorem d_P_expression_238 : decode b_P_expression 238 = .ok (.iload_n 3, 1) := by decide +kernel
theorem d_P_expression_239 : decode b_P_expression 239 = .ok (.iload_n 2, 1) := by decide +kernel
theorem d_P_expression_240 : decode b_P_expression 240 = .ok (.invokevirtual 281, 3) := by decide +kernel
theorem d_P_expression_243 : decode b_P_expression 243 = .ok (.astore 4, 2) := by decide +kernel
theorem d_P_expression_245 : decode b_P_expression 245 = .ok (.aload 4, 2) := by decide +kernel
theorem d_P_expression_247 : decode b_P_expression 247 = .ok (.aload 4, 2) := by decide +kernel
theorem d_P_expression_249 : decode b_P_expression 249 = .ok (.getfield 246, 3) := by decide +kernel
theorem d_P_expression_252 : decode b_P_expression 252 = .ok (.ifCond .ne 13, 3) := by decide +kernel
theorem d_P_expression_255 : decode b_P_expression 255 = .ok (.aload_n 0, 1) := by decide +kernel
theorem d_P_expression_256 : decode b_P_expression 256 = .ok (.getfield 112, 3) := by decide +kernel
theorem d_P_expression_259 : decode b_P_expression 259 = .ok (.getfield 299, 3) := by decide +kernel
theorem d_P_expression_262 : decode b_P_expression 262 = .ok (.goto 4, 3) := by decide +kernel
theorem d_P_expression_265 : decode b_P_expression 265 = .ok (.iconst 0, 1) := by decide +kernel
theorem d_P_expression_266 : decode b_P_expression 266 = .ok (.putfield 278, 3) := by decide +kernel
theorem d_P_expression_269 : decode b_P_expression 269 = .ok (.aload 4, 2) := by decide +kernel
theorem d_P_expression_271 : decode b_P_expression 271 = .ok (.aload 4, 2) := by decide +kernel
theorem d_P_expression_273 : decode b_P_expression 273 = .ok (.getfield 246, 3) := by decide +kernel
theorem d_P_expression_276 : decode b_P_expression 276 = .ok (.iconst 1, 1) := by decide +kernel
theorem d_P_expression_277 : decode b_P_expression 277 = .ok (.if_icmp .ne 13, 3) := by decide +kernel
theorem d_P_expression_280 : decode b_P_expression 280 = .ok (.aload_n 0, 1) := by decide +kernel
theorem d_P_expression_281 : decode b_P_expression 281 = .ok (.getfield 112, 3) := by decide +kernel
theorem d_P_expression_284 : decode b_P_expression 284 = .ok (.getfield 165, 3) := by decide +kernel
theorem d_P_expression_287 : decode b_P_expression 287 = .ok (.goto 4, 3) := by decide +kernel
theorem d_P_expression_290 : decode b_P_expression 290 = .ok (.lconst 0, 1) := by decide +kernel
theorem d_P_expression_291 : decode b_P_expression 291 = .ok (.putfield 266, 3) := by decide +kernel
theorem d_P_expression_294 : decode b_P_expression 294 = .ok (.aload 4, 2) := by decide +kernel
theorem d_P_expression_296 : decode b_P_expression 296 = .ok (.aload 4, 2) := by decide +kernel
theorem d_P_expression_298 : decode b_P_expression 298 = .ok (.getfield 246, 3) := by decide +kernel
theorem d_P_expression_301 : decode b_P_expression 301 = .ok (.iconst 1, 1) := by decide +kernel
theorem d_P_expression_302 : decode b_P_expression 302 = .ok (.if_icmp .ne 7, 3) := by decide +kernel
theorem d_P_expression_305 : decode b_P_expression 305 = .ok (.iload_n 3, 1) := by decide +kernel
theorem d_P_expression_306 : decode b_P_expression 306 = .ok (.goto 4, 3) := by decide +kernel
theorem d_P_expression_309 : decode b_P_expression 309 = .ok (.iconst (-1), 1) := by decide +kernel
theorem d_P_expression_310 : decode b_P_expression 310 = .ok (.putfield 272, 3) := by decide +kernel
theorem d_P_expression_313 : decode b_P_expression 313 = .ok (.aload_n 0, 1) := by decide +kernel
theorem d_P_expression_314 : decode b_P_expression 314 = .ok (.getfield 112, 3) := by decide +kernel
theorem d_P_expression_317 : decode b_P_expression 317 = .ok (.invokevirtual 172, 3) := by decide +kernel
theorem d_P_expression_320 : decode b_P_expression 320 = .ok (.return_, 1) := by decide +kernel
theorem d_P_begin_0 : decode b_P_begin 0 = .ok (.aload_n 0, 1) := by decide +kernel
theorem d_P_begin_1 : decode b_P_begin 1 = .ok (.getfield 118, 3) := by decide +kernel
theorem d_P_begin_4 : decode b_P_begin 4 = .ok (.aload_n 0, 1) := by decide +kernel
theorem d_P_begin_5 : decode b_P_begin 5 = .ok (.getfield 179, 3) := by decide +kernel
theorem d_P_begin_8 : decode b_P_begin 8 = .ok (.aaload, 1) := by decide +kernel
theorem d_P_begin_9 : decode b_P_begin 9 = .ok (.ifnonnull 19, 3) := by decide +kernel
theorem d_P_begin_12 : decode b_P_begin 12 = .ok (.aload_n 0, 1) := by decide +kernel
theorem d_P_begin_13 : decode b_P_begin 13 = .ok (.getfield 118, 3) := by decide +kernel
theorem d_P_begin_16 : decode b_P_begin 16 = .ok (.aload_n 0, 1) := by decide +kernel
theorem d_P_begin_17 : decode b_P_begin 17 = .ok (.getfield 179, 3) := by decide +kernel
theorem d_P_begin_20 : decode b_P_begin 20 = .ok (.new 116, 3) := by decide +kernel
theorem d_P_begin_23 : decode b_P_begin 23 = .ok (.dup, 1) := by decide +kernel
theorem d_P_begin_24 : decode b_P_begin 24 = .ok (.invokespecial 245, 3) := by decide +kernel
theorem d_P_begin_27 : decode b_P_begin 27 = .ok (.aastore, 1) := by decide +kernel
theorem d_P_begin_28 : decode b_P_begin 28 = .ok (.aload_n 0, 1) := by decide +kernel
theorem d_P_begin_29 : decode b_P_begin 29 = .ok (.getfield 118, 3) := by decide +kernel
theorem d_P_begin_32 : decode b_P_begin 32 = .ok (.aload_n 0, 1) := by decide +kernel
theorem d_P_begin_33 : decode b_P_begin 33 = .ok (.getfield 179, 3) := by decide +kernel
theorem d_P_begin_36 : decode b_P_begin 36 = .ok (.aaload, 1) := by decide +kernel
theorem d_P_begin_37 : decode b_P_begin 37 = .ok (.astore 4, 2) := by decide +kernel
theorem d_P_begin_39 : decode b_P_begin 39 = .ok (.aload 4, 2) := by decide +kernel
theorem d_P_begin_41 : decode b_P_begin 41 = .ok (.iload_n 1, 1) := by decide +kernel
theorem d_P_begin_42 : decode b_P_begin 42 = .ok (.putfield 246, 3) := by decide +kernel
theorem d_P_begin_45 : decode b_P_begin 45 = .ok (.aload 4, 2) := by decide +kernel
theorem d_P_begin_47 : decode b_P_begin 47 = .ok (.iconst 0, 1) := by decide +kernel
theorem d_P_begin_48 : decode b_P_begin 48 = .ok (.putfield 249, 3) := by decide +kernel
theorem d_P_begin_51 : decode b_P_begin 51 = .ok (.aload 4, 2) := by decide +kernel
theorem d_P_begin_53 : decode b_P_begin 53 = .ok (.iconst 1, 1) := by decide +kernel
theorem d_P_begin_54 : decode b_P_begin 54 = .ok (.putfield 252, 3) := by decide +kernel
theorem d_P_begin_57 : decode b_P_begin 57 = .ok (.aload 4, 2) := by decide +kernel
theorem d_P_begin_59 : decode b_P_begin 59 = .ok (.iload_n 2, 1) := by decide +kernel
theorem d_P_begin_60 : decode b_P_begin 60 = .ok (.putfield 255, 3) := by decide +kernel
theorem d_P_begin_63 : decode b_P_begin 63 = .ok (.aload 4, 2) := by decide +kernel
theorem d_P_begin_65 : decode b_P_begin 65 = .ok (.iload_n 3, 1) := by decide +kernel
theorem d_P_begin_66 : decode b_P_begin 66 = .ok (.putfield 256, 3) := by decide +kernel
theorem d_P_begin_69 : decode b_P_begin 69 = .ok (.aload 4, 2) := by decide +kernel
theorem d_P_begin_71 : decode b_P_begin 71 = .ok (.aload_n 0, 1) := by decide +kernel
theorem d_P_begin_72 : decode b_P_begin 72 = .ok (.getfield 259, 3) := by decide +kernel
theorem d_P_begin_75 : decode b_P_begin 75 = .ok (.ifCond .ne 7, 3) := by decide +kernel
theorem d_P_begin_78 : decode b_P_begin 78 = .ok (.iconst (-1), 1) := by decide +kernel
theorem d_P_begin_79 : decode b_P_begin 79 = .ok (.goto 17, 3) := by decide +kernel
theorem d_P_begin_82 : decode b_P_begin 82 = .ok (.aload_n 0, 1) := by decide +kernel
theorem d_P_begin_83 : decode b_P_begin 83 = .ok (.getfield 130, 3) := by decide +kernel
theorem d_P_begin_86 : decode b_P_begin 86 = .ok (.aload_n 0, 1) := by decide +kernel
theorem d_P_begin_87 : decode b_P_begin 87 = .ok (.getfield 259, 3) := by decide +kernel
theorem d_P_begin_90 : decode b_P_begin 90 = .ok (.iconst 1, 1) := by decide +kernel
theorem d_P_begin_91 : decode b_P_begin 91 = .ok (.isub, 1) := by decide +kernel
theorem d_P_begin_92 : decode b_P_begin 92 = .ok (.aaload, 1) := by decide +kernel
theorem d_P_begin_93 : decode b_P_begin 93 = .ok (.getfield 262, 3) := by decide +kernel
theorem d_P_begin_96 : decode b_P_begin 96 = .ok (.putfield 263, 3) := by decide +kernel
theorem d_P_begin_99 : decode b_P_begin 99 = .ok (.aload 4, 2) := by decide +kernel
theorem d_P_begin_101 : decode b_P_begin 101 = .ok (.lconst 0, 1) := by decide +kernel
theorem d_P_begin_102 : decode b_P_begin 102 = .ok (.putfield 266, 3) := by decide +kernel
theorem d_P_begin_105 : decode b_P_begin 105 = .ok (.aload 4, 2) := by decide +kernel
theorem d_P_begin_107 : decode b_P_begin 107 = .ok (.lconst 0, 1) := by decide +kernel
theorem d_P_begin_108 : decode b_P_begin 108 = .ok (.putfield 269, 3) := by decide +kernel
theorem d_P_begin_111 : decode b_P_begin 111 = .ok (.aload 4, 2) := by decide +kernel
theorem d_P_begin_113 : decode b_P_begin 113 = .ok (.iconst (-1), 1) := by decide +kernel
theorem d_P_begin_114 : decode b_P_begin 114 = .ok (.putfield 272, 3) := by decide +kernel
theorem d_P_begin_117 : decode b_P_begin 117 = .ok (.aload 4, 2) := by decide +kernel
theorem d_P_begin_119 : decode b_P_begin 119 = .ok (.iconst (-1), 1) := by decide +kernel
theorem d_P_begin_120 : decode b_P_begin 120 = .ok (.putfield 275, 3) := by decide +kernel
theorem d_P_begin_123 : decode b_P_begin 123 = .ok (.aload 4, 2) := by decide +kernel
theorem d_P_begin_125 : decode b_P_begin 125 = .ok (.iconst 0, 1) := by decide +kernel
theorem d_P_begin_126 : decode b_P_begin 126 = .ok (.putfield 278, 3) := by decide +kernel
theorem d_P_begin_129 : decode b_P_begin 129 = .ok (.aload_n 0, 1) := by decide +kernel
theorem d_P_begin_130 : decode b_P_begin 130 = .ok (.getfield 259, 3) := by decide +kernel
theorem d_P_begin_133 : decode b_P_begin 133 = .ok (.ifCond .le 22, 3) := by decide +kernel
theorem d_P_begin_136 : decode b_P_begin 136 = .ok (.aload_n 0, 1) := by decide +kernel
theorem d_P_begin_137 : decode b_P_begin 137 = .ok (.getfield 118, 3) := by decide +kernel
theorem d_P_begin_140 : decode b_P_begin 140 = .ok (.aload 4, 2) := by decide +kernel
theorem d_P_begin_142 : decode b_P_begin 142 = .ok (.getfield 263, 3) := by decide +kernel
theorem d_P_begin_145 : decode b_P_begin 145 = .ok (.aaload, 1) := by decide +kernel
theorem d_P_begin_146 : decode b_P_begin 146 = .ok (.dup, 1) := by decide +kernel
theorem d_P_begin_147 : decode b_P_begin 147 = .ok (.getfield 249, 3) := by decide +kernel
theorem d_P_begin_150 : decode b_P_begin 150 = .ok (.iconst 1, 1) := by decide +kernel
theorem d_P_begin_151 : decode b_P_begin 151 = .ok (.iadd, 1) := by decide +kernel
theorem d_P_begin_152 : decode b_P_begin 152 = .ok (.putfield 249, 3) := by decide +kernel
theorem d_P_begin_155 : decode b_P_begin 155 = .ok (.aload_n 0, 1) := by decide +kernel
theorem d_P_begin_156 : decode b_P_begin 156 = .ok (.dup, 1) := by decide +kernel
theorem d_P_begin_157 : decode b_P_begin 157 = .ok (.getfield 179, 3) := by decide +kernel
theorem d_P_begin_160 : decode b_P_begin 160 = .ok (.iconst 1, 1) := by decide +kernel
theorem d_P_begin_161 : decode b_P_begin 161 = .ok (.iadd, 1) := by decide +kernel
theorem d_P_begin_162 : decode b_P_begin 162 = .ok (.putfield 179, 3) := by decide +kernel
theorem d_P_begin_165 : decode b_P_begin 165 = .ok (.aload 4, 2) := by decide +kernel
theorem d_P_begin_167 : decode b_P_begin 167 = .ok (.areturn, 1) := by decide +kernel
theorem d_N_init_0 : decode b_N_init 0 = .ok (.aload_n 0, 1) := by decide +kernel
theorem d_N_init_1 : decode b_N_init 1 = .ok (.invokespecial 1, 3) := by decide +kernel
theorem d_N_init_4 : decode b_N_init 4 = .ok (.return_, 1) := by decide +kernel
theorem d_O_init_0 : decode b_O_init 0 = .ok (.aload_n 0, 1) := by decide +kernel
theorem d_O_init_1 : decode b_O_init 1 = .ok (.invokespecial 1, 3) := by decide +kernel
theorem d_O_init_4 : decode b_O_init 4 = .ok (.return_, 1) := by decide +kernel
theorem d_P_formOf_0 : decode b_P_formOf 0 = .ok (.iload_n 0, 1) := by decide +kernel
theorem d_P_formOf_1 : decode b_P_formOf 1 = .ok (.tableswitch 101 10 23 #[71, 74, 77, 101, 80, 80, 83, 83, 86, 89, 92, 95, 98, 80], 71) := by decide +kernel
theorem d_P_formOf_72 : decode b_P_formOf 72 = .ok (.ldc 53, 2) := by decide +kernel
theorem d_P_formOf_74 : decode b_P_formOf 74 = .ok (.areturn, 1) := by decide +kernel
theorem d_P_formOf_75 : decode b_P_formOf 75 = .ok (.ldc 55, 2) := by decide +kernel
theorem d_P_formOf_77 : decode b_P_formOf 77 = .ok (.areturn, 1) := by decide +kernel
theorem d_P_formOf_78 : decode b_P_formOf 78 = .ok (.ldc 57, 2) := by decide +kernel
theorem d_P_formOf_80 : decode b_P_formOf 80 = .ok (.areturn, 1) := by decide +kernel
theorem d_P_formOf_81 : decode b_P_formOf 81 = .ok (.ldc 59, 2) := by decide +kernel
theorem d_P_formOf_83 : decode b_P_formOf 83 = .ok (.areturn, 1) := by decide +kernel
theorem d_P_formOf_84 : decode b_P_formOf 84 = .ok (.ldc 61, 2) := by decide +kernel
theorem d_P_formOf_86 : decode b_P_formOf 86 = .ok (.areturn, 1) := by decide +kernel
theorem d_P_formOf_87 : decode b_P_formOf 87 = .ok (.ldc 63, 2) := by decide +kernel
theorem d_P_formOf_89 : decode b_P_formOf 89 = .ok (.areturn, 1) := by decide +kernel
theorem d_P_formOf_90 : decode b_P_formOf 90 = .ok (.ldc 65, 2) := by decide +kernel
theorem d_P_formOf_92 : decode b_P_formOf 92 = .ok (.areturn, 1) := by decide +kernel
theorem d_P_formOf_93 : decode b_P_formOf 93 = .ok (.ldc 67, 2) := by decide +kernel
theorem d_P_formOf_95 : decode b_P_formOf 95 = .ok (.areturn, 1) := by decide +kernel
theorem d_P_formOf_96 : decode b_P_formOf 96 = .ok (.ldc 69, 2) := by decide +kernel
theorem d_P_formOf_98 : decode b_P_formOf 98 = .ok (.areturn, 1) := by decide +kernel
theorem d_P_formOf_99 : decode b_P_formOf 99 = .ok (.ldc 71, 2) := by decide +kernel
theorem d_P_formOf_101 : decode b_P_formOf 101 = .ok (.areturn, 1) := by decide +kernel
theorem d_P_formOf_102 : decode b_P_formOf 102 = .ok (.ldc 73, 2) := by decide +kernel
theorem d_P_formOf_104 : decode b_P_formOf 104 = .ok (.areturn, 1) := by decide +kernel
theorem d_P_step_0 : decode b_P_step 0 = .ok (.aload_n 1, 1) := by decide +kernel
theorem d_P_step_1 : decode b_P_step 1 = .ok (.getfield 288, 3) := by decide +kernel
theorem d_P_step_4 : decode b_P_step 4 = .ok (.aload_n 1, 1) := by decide +kernel
theorem d_P_step_5 : decode b_P_step 5 = .ok (.getfield 292, 3) := by decide +kernel
theorem d_P_step_8 : decode b_P_step 8 = .ok (.invokevirtual 9, 3) := by decide +kernel
theorem d_P_step_11 : decode b_P_step 11 = .ok (.istore_n 2, 1) := by decide +kernel
theorem d_P_step_12 : decode b_P_step 12 = .ok (.iload_n 2, 1) := by decide +kernel
theorem d_P_step_13 : decode b_P_step 13 = .ok (.bipush 42, 2) := by decide +kernel
theorem d_P_step_15 : decode b_P_step 15 = .ok (.if_icmp .ne 26, 3) := by decide +kernel
theorem d_P_step_18 : decode b_P_step 18 = .ok (.aload_n 0, 1) := by decide +kernel
theorem d_P_step_19 : decode b_P_step 19 = .ok (.getfield 112, 3) := by decide +kernel
theorem d_P_step_22 : decode b_P_step 22 = .ok (.getfield 149, 3) := by decide +kernel
theorem d_P_step_25 : decode b_P_step 25 = .ok (.getstatic 218, 3) := by decide +kernel
theorem d_P_step_28 : decode b_P_step 28 = .ok (.if_acmp .eq 13, 3) := by decide +kernel
theorem d_P_step_31 : decode b_P_step 31 = .ok (.aload_n 0, 1) := by decide +kernel
theorem d_P_step_32 : decode b_P_step 32 = .ok (.iconst 1, 1) := by decide +kernel
theorem d_P_step_33 : decode b_P_step 33 = .ok (.aload_n 1, 1) := by decide +kernel
theorem d_P_step_34 : decode b_P_step 34 = .ok (.getfield 295, 3) := by decide +kernel
theorem d_P_step_37 : decode b_P_step 37 = .ok (.invokevirtual 300, 3) := by decide +kernel
theorem d_P_step_40 : decode b_P_step 40 = .ok (.return_, 1) := by decide +kernel
theorem d_P_step_41 : decode b_P_step 41 = .ok (.aload_n 1, 1) := by decide +kernel
theorem d_P_step_42 : decode b_P_step 42 = .ok (.dup, 1) := by decide +kernel
theorem d_P_step_43 : decode b_P_step 43 = .ok (.getfield 292, 3) := by decide +kernel
theorem d_P_step_46 : decode b_P_step 46 = .ok (.iconst 1, 1) := by decide +kernel
theorem d_P_step_47 : decode b_P_step 47 = .ok (.iadd, 1) := by decide +kernel
theorem d_P_step_48 : decode b_P_step 48 = .ok (.putfield 292, 3) := by decide +kernel
theorem d_P_step_51 : decode b_P_step 51 = .ok (.iload_n 2, 1) := by decide +kernel
theorem d_P_step_52 : decode b_P_step 52 = .ok (.lookupswitch 165 #[(40, 147), (41, 157), (99, 68), (101, 68), (102, 131), (120, 112), (121, 112)], 68) := by decide +kernel
theorem d_P_step_120 : decode b_P_step 120 = .ok (.aload_n 0, 1) := by decide +kernel
theorem d_P_step_121 : decode b_P_step 121 = .ok (.iload_n 2, 1) := by decide +kernel
theorem d_P_step_122 : decode b_P_step 122 = .ok (.bipush 101, 2) := by decide +kernel
theorem d_P_step_124 : decode b_P_step 124 = .ok (.if_icmp .ne 7, 3) := by decide +kernel
theorem d_P_step_127 : decode b_P_step 127 = .ok (.iconst 1, 1) := by decide +kernel
theorem d_P_step_128 : decode b_P_step 128 = .ok (.goto 4, 3) := by decide +kernel
theorem d_P_step_131 : decode b_P_step 131 = .ok (.iconst 0, 1) := by decide +kernel
theorem d_P_step_132 : decode b_P_step 132 = .ok (.aload_n 1, 1) := by decide +kernel
theorem d_P_step_133 : decode b_P_step 133 = .ok (.invokestatic 307, 3) := by decide +kernel
theorem d_P_step_136 : decode b_P_step 136 = .ok (.ifCond .eq 10, 3) := by decide +kernel
theorem d_P_step_139 : decode b_P_step 139 = .ok (.aload_n 1, 1) := by decide +kernel
theorem d_P_step_140 : decode b_P_step 140 = .ok (.getfield 295, 3) := by decide +kernel
theorem d_P_step_143 : decode b_P_step 143 = .ok (.goto 15, 3) := by decide +kernel
theorem d_P_step_146 : decode b_P_step 146 = .ok (.aload_n 0, 1) := by decide +kernel
theorem d_P_step_147 : decode b_P_step 147 = .ok (.getfield 118, 3) := by decide +kernel
theorem d_P_step_150 : decode b_P_step 150 = .ok (.aload_n 1, 1) := by decide +kernel
theorem d_P_step_151 : decode b_P_step 151 = .ok (.getfield 262, 3) := by decide +kernel
theorem d_P_step_154 : decode b_P_step 154 = .ok (.aaload, 1) := by decide +kernel
theorem d_P_step_155 : decode b_P_step 155 = .ok (.getfield 256, 3) := by decide +kernel
theorem d_P_step_158 : decode b_P_step 158 = .ok (.invokevirtual 300, 3) := by decide +kernel
theorem d_P_step_161 : decode b_P_step 161 = .ok (.goto 56, 3) := by decide +kernel
theorem d_P_step_164 : decode b_P_step 164 = .ok (.aload_n 0, 1) := by decide +kernel
theorem d_P_step_165 : decode b_P_step 165 = .ok (.aload_n 1, 1) := by decide +kernel
theorem d_P_step_166 : decode b_P_step 166 = .ok (.iload_n 2, 1) := by decide +kernel
theorem d_P_step_167 : decode b_P_step 167 = .ok (.bipush 121, 2) := by decide +kernel
theorem d_P_step_169 : decode b_P_step 169 = .ok (.if_icmp .ne 7, 3) := by decide +kernel
theorem d_P_step_172 : decode b_P_step 172 = .ok (.iconst 1, 1) := by decide +kernel
theorem d_P_step_173 : decode b_P_step 173 = .ok (.goto 4, 3) := by decide +kernel
theorem d_P_step_176 : decode b_P_step 176 = .ok (.iconst 0, 1) := by decide +kernel
theorem d_P_step_177 : decode b_P_step 177 = .ok (.invokevirtual 311, 3) := by decide +kernel
theorem d_P_step_180 : decode b_P_step 180 = .ok (.goto 37, 3) := by decide +kernel
theorem d_P_step_183 : decode b_P_step 183 = .ok (.aload_n 0, 1) := by decide +kernel
theorem d_P_step_184 : decode b_P_step 184 = .ok (.aload_n 0, 1) := by decide +kernel
theorem d_P_step_185 : decode b_P_step 185 = .ok (.getfield 118, 3) := by decide +kernel
theorem d_P_step_188 : decode b_P_step 188 = .ok (.aload_n 1, 1) := by decide +kernel
theorem d_P_step_189 : decode b_P_step 189 = .ok (.getfield 262, 3) := by decide +kernel
theorem d_P_step_192 : decode b_P_step 192 = .ok (.aaload, 1) := by decide +kernel
theorem d_P_step_193 : decode b_P_step 193 = .ok (.invokevirtual 315, 3) := by decide +kernel
theorem d_P_step_196 : decode b_P_step 196 = .ok (.goto 21, 3) := by decide +kernel
theorem d_P_step_199 : decode b_P_step 199 = .ok (.aload_n 0, 1) := by decide +kernel
theorem d_P_step_200 : decode b_P_step 200 = .ok (.getstatic 188, 3) := by decide +kernel
theorem d_P_step_203 : decode b_P_step 203 = .ok (.invokevirtual 205, 3) := by decide +kernel
theorem d_P_step_206 : decode b_P_step 206 = .ok (.goto 11, 3) := by decide +kernel
theorem d_P_step_209 : decode b_P_step 209 = .ok (.aload_n 0, 1) := by decide +kernel
theorem d_P_step_210 : decode b_P_step 210 = .ok (.aload_n 1, 1) := by decide +kernel
theorem d_P_step_211 : decode b_P_step 211 = .ok (.invokevirtual 319, 3) := by decide +kernel
theorem d_P_step_214 : decode b_P_step 214 = .ok (.goto 3, 3) := by decide +kernel
theorem d_P_step_217 : decode b_P_step 217 = .ok (.return_, 1) := by decide +kernel
theorem d_P_isInner_0 : decode b_P_isInner 0 = .ok (.aload_n 0, 1) := by decide +kernel
theorem d_P_isInner_1 : decode b_P_isInner 1 = .ok (.getfield 288, 3) := by decide +kernel
theorem d_P_isInner_4 : decode b_P_isInner 4 = .ok (.aload_n 0, 1) := by decide +kernel
theorem d_P_isInner_5 : decode b_P_isInner 5 = .ok (.getfield 292, 3) := by decide +kernel
theorem d_P_isInner_8 : decode b_P_isInner 8 = .ok (.invokevirtual 9, 3) := by decide +kernel
theorem d_P_isInner_11 : decode b_P_isInner 11 = .ok (.bipush 41, 2) := by decide +kernel
theorem d_P_isInner_13 : decode b_P_isInner 13 = .ok (.if_icmp .ne 7, 3) := by decide +kernel
theorem d_P_isInner_16 : decode b_P_isInner 16 = .ok (.iconst 1, 1) := by decide +kernel
theorem d_P_isInner_17 : decode b_P_isInner 17 = .ok (.goto 4, 3) := by decide +kernel
theorem d_P_isInner_20 : decode b_P_isInner 20 = .ok (.iconst 0, 1) := by decide +kernel
theorem d_P_isInner_21 : decode b_P_isInner 21 = .ok (.ireturn, 1) := by decide +kernel
theorem d_P_variable_0 : decode b_P_variable 0 = .ok (.aload_n 0, 1) := by decide +kernel
theorem d_P_variable_1 : decode b_P_variable 1 = .ok (.getfield 118, 3) := by decide +kernel
theorem d_P_variable_4 : decode b_P_variable 4 = .ok (.aload_n 1, 1) := by decide +kernel
theorem d_P_variable_5 : decode b_P_variable 5 = .ok (.getfield 262, 3) := by decide +kernel
theorem d_P_variable_8 : decode b_P_variable 8 = .ok (.aaload, 1) := by decide +kernel
theorem d_P_variable_9 : decode b_P_variable 9 = .ok (.astore_n 3, 1) := by decide +kernel
theorem d_P_variable_10 : decode b_P_variable 10 = .ok (.aload_n 0, 1) := by decide +kernel
theorem d_P_variable_11 : decode b_P_variable 11 = .ok (.invokevirtual 209, 3) := by decide +kernel
theorem d_P_variable_14 : decode b_P_variable 14 = .ok (.ifCond .eq 31, 3) := by decide +kernel
theorem d_P_variable_17 : decode b_P_variable 17 = .ok (.iload_n 2, 1) := by decide +kernel
theorem d_P_variable_18 : decode b_P_variable 18 = .ok (.ifCond .eq 18, 3) := by decide +kernel
theorem d_P_variable_21 : decode b_P_variable 21 = .ok (.aload_n 0, 1) := by decide +kernel
theorem d_P_variable_22 : decode b_P_variable 22 = .ok (.getfield 112, 3) := by decide +kernel
theorem d_P_variable_25 : decode b_P_variable 25 = .ok (.getfield 165, 3) := by decide +kernel
theorem d_P_variable_28 : decode b_P_variable 28 = .ok (.aload_n 3, 1) := by decide +kernel
theorem d_P_variable_29 : decode b_P_variable 29 = .ok (.getfield 266, 3) := by decide +kernel
theorem d_P_variable_32 : decode b_P_variable 32 = .ok (.lcmp, 1) := by decide +kernel
theorem d_P_variable_33 : decode b_P_variable 33 = .ok (.ifCond .eq 12, 3) := by decide +kernel
theorem d_P_variable_36 : decode b_P_variable 36 = .ok (.aload_n 1, 1) := by decide +kernel
theorem d_P_variable_37 : decode b_P_variable 37 = .ok (.getfield 295, 3) := by decide +kernel
theorem d_P_variable_40 : decode b_P_variable 40 = .ok (.bipush 24, 2) := by decide +kernel
theorem d_P_variable_42 : decode b_P_variable 42 = .ok (.if_icmp .ne 8, 3) := by decide +kernel
theorem d_P_variable_45 : decode b_P_variable 45 = .ok (.aload_n 0, 1) := by decide +kernel
theorem d_P_variable_46 : decode b_P_variable 46 = .ok (.invokevirtual 169, 3) := by decide +kernel
theorem d_P_variable_49 : decode b_P_variable 49 = .ok (.return_, 1) := by decide +kernel
theorem d_P_variable_50 : decode b_P_variable 50 = .ok (.iload_n 2, 1) := by decide +kernel
theorem d_P_variable_51 : decode b_P_variable 51 = .ok (.ifCond .eq 28, 3) := by decide +kernel
theorem d_P_variable_54 : decode b_P_variable 54 = .ok (.aload_n 3, 1) := by decide +kernel
