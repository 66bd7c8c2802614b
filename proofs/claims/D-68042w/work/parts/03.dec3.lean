theorem d_P_variable_55 : decode b_P_variable 55 = .ok (.aload_n 0, 1) := by decide +kernel
theorem d_P_variable_56 : decode b_P_variable 56 = .ok (.getfield 112, 3) := by decide +kernel
theorem d_P_variable_59 : decode b_P_variable 59 = .ok (.getfield 165, 3) := by decide +kernel
theorem d_P_variable_62 : decode b_P_variable 62 = .ok (.putfield 269, 3) := by decide +kernel
theorem d_P_variable_65 : decode b_P_variable 65 = .ok (.aload_n 3, 1) := by decide +kernel
theorem d_P_variable_66 : decode b_P_variable 66 = .ok (.aload_n 0, 1) := by decide +kernel
theorem d_P_variable_67 : decode b_P_variable 67 = .ok (.getfield 112, 3) := by decide +kernel
theorem d_P_variable_70 : decode b_P_variable 70 = .ok (.getfield 161, 3) := by decide +kernel
theorem d_P_variable_73 : decode b_P_variable 73 = .ok (.putfield 275, 3) := by decide +kernel
theorem d_P_variable_76 : decode b_P_variable 76 = .ok (.goto 25, 3) := by decide +kernel
theorem d_P_variable_79 : decode b_P_variable 79 = .ok (.aload_n 3, 1) := by decide +kernel
theorem d_P_variable_80 : decode b_P_variable 80 = .ok (.aload_n 0, 1) := by decide +kernel
theorem d_P_variable_81 : decode b_P_variable 81 = .ok (.getfield 112, 3) := by decide +kernel
theorem d_P_variable_84 : decode b_P_variable 84 = .ok (.getfield 165, 3) := by decide +kernel
theorem d_P_variable_87 : decode b_P_variable 87 = .ok (.putfield 266, 3) := by decide +kernel
theorem d_P_variable_90 : decode b_P_variable 90 = .ok (.aload_n 3, 1) := by decide +kernel
theorem d_P_variable_91 : decode b_P_variable 91 = .ok (.aload_n 0, 1) := by decide +kernel
theorem d_P_variable_92 : decode b_P_variable 92 = .ok (.getfield 112, 3) := by decide +kernel
theorem d_P_variable_95 : decode b_P_variable 95 = .ok (.getfield 161, 3) := by decide +kernel
theorem d_P_variable_98 : decode b_P_variable 98 = .ok (.putfield 272, 3) := by decide +kernel
theorem d_P_variable_101 : decode b_P_variable 101 = .ok (.aload_n 1, 1) := by decide +kernel
theorem d_P_variable_102 : decode b_P_variable 102 = .ok (.dup, 1) := by decide +kernel
theorem d_P_variable_103 : decode b_P_variable 103 = .ok (.getfield 295, 3) := by decide +kernel
theorem d_P_variable_106 : decode b_P_variable 106 = .ok (.iconst 1, 1) := by decide +kernel
theorem d_P_variable_107 : decode b_P_variable 107 = .ok (.iadd, 1) := by decide +kernel
theorem d_P_variable_108 : decode b_P_variable 108 = .ok (.putfield 295, 3) := by decide +kernel
theorem d_P_variable_111 : decode b_P_variable 111 = .ok (.aload_n 0, 1) := by decide +kernel
theorem d_P_variable_112 : decode b_P_variable 112 = .ok (.getfield 112, 3) := by decide +kernel
theorem d_P_variable_115 : decode b_P_variable 115 = .ok (.invokevirtual 172, 3) := by decide +kernel
theorem d_P_variable_118 : decode b_P_variable 118 = .ok (.return_, 1) := by decide +kernel
theorem d_P_function_0 : decode b_P_function 0 = .ok (.aload_n 0, 1) := by decide +kernel
theorem d_P_function_1 : decode b_P_function 1 = .ok (.invokevirtual 209, 3) := by decide +kernel
theorem d_P_function_4 : decode b_P_function 4 = .ok (.ifCond .ne 8, 3) := by decide +kernel
theorem d_P_function_7 : decode b_P_function 7 = .ok (.aload_n 0, 1) := by decide +kernel
theorem d_P_function_8 : decode b_P_function 8 = .ok (.invokevirtual 169, 3) := by decide +kernel
theorem d_P_function_11 : decode b_P_function 11 = .ok (.return_, 1) := by decide +kernel
theorem d_P_function_12 : decode b_P_function 12 = .ok (.aload_n 1, 1) := by decide +kernel
theorem d_P_function_13 : decode b_P_function 13 = .ok (.aload_n 0, 1) := by decide +kernel
theorem d_P_function_14 : decode b_P_function 14 = .ok (.getfield 112, 3) := by decide +kernel
theorem d_P_function_17 : decode b_P_function 17 = .ok (.getfield 165, 3) := by decide +kernel
theorem d_P_function_20 : decode b_P_function 20 = .ok (.putfield 266, 3) := by decide +kernel
theorem d_P_function_23 : decode b_P_function 23 = .ok (.aload_n 1, 1) := by decide +kernel
theorem d_P_function_24 : decode b_P_function 24 = .ok (.aload_n 0, 1) := by decide +kernel
theorem d_P_function_25 : decode b_P_function 25 = .ok (.getfield 112, 3) := by decide +kernel
theorem d_P_function_28 : decode b_P_function 28 = .ok (.getfield 161, 3) := by decide +kernel
theorem d_P_function_31 : decode b_P_function 31 = .ok (.putfield 272, 3) := by decide +kernel
theorem d_P_function_34 : decode b_P_function 34 = .ok (.aload_n 0, 1) := by decide +kernel
theorem d_P_function_35 : decode b_P_function 35 = .ok (.getfield 112, 3) := by decide +kernel
theorem d_P_function_38 : decode b_P_function 38 = .ok (.invokevirtual 172, 3) := by decide +kernel
theorem d_P_function_41 : decode b_P_function 41 = .ok (.return_, 1) := by decide +kernel
theorem d_P_close_0 : decode b_P_close 0 = .ok (.aload_n 0, 1) := by decide +kernel
theorem d_P_close_1 : decode b_P_close 1 = .ok (.getstatic 218, 3) := by decide +kernel
theorem d_P_close_4 : decode b_P_close 4 = .ok (.invokevirtual 205, 3) := by decide +kernel
theorem d_P_close_7 : decode b_P_close 7 = .ok (.aload_n 0, 1) := by decide +kernel
theorem d_P_close_8 : decode b_P_close 8 = .ok (.getfield 146, 3) := by decide +kernel
theorem d_P_close_11 : decode b_P_close 11 = .ok (.ifCond .ne 48, 3) := by decide +kernel
theorem d_P_close_14 : decode b_P_close 14 = .ok (.aload_n 1, 1) := by decide +kernel
theorem d_P_close_15 : decode b_P_close 15 = .ok (.getfield 292, 3) := by decide +kernel
theorem d_P_close_18 : decode b_P_close 18 = .ok (.aload_n 1, 1) := by decide +kernel
theorem d_P_close_19 : decode b_P_close 19 = .ok (.getfield 288, 3) := by decide +kernel
theorem d_P_close_22 : decode b_P_close 22 = .ok (.invokevirtual 1, 3) := by decide +kernel
theorem d_P_close_25 : decode b_P_close 25 = .ok (.if_icmp .ne 34, 3) := by decide +kernel
theorem d_P_close_28 : decode b_P_close 28 = .ok (.aload_n 0, 1) := by decide +kernel
theorem d_P_close_29 : decode b_P_close 29 = .ok (.getfield 118, 3) := by decide +kernel
theorem d_P_close_32 : decode b_P_close 32 = .ok (.aload_n 1, 1) := by decide +kernel
theorem d_P_close_33 : decode b_P_close 33 = .ok (.getfield 262, 3) := by decide +kernel
theorem d_P_close_36 : decode b_P_close 36 = .ok (.aaload, 1) := by decide +kernel
theorem d_P_close_37 : decode b_P_close 37 = .ok (.aload_n 0, 1) := by decide +kernel
theorem d_P_close_38 : decode b_P_close 38 = .ok (.getfield 179, 3) := by decide +kernel
theorem d_P_close_41 : decode b_P_close 41 = .ok (.aload_n 1, 1) := by decide +kernel
theorem d_P_close_42 : decode b_P_close 42 = .ok (.getfield 262, 3) := by decide +kernel
theorem d_P_close_45 : decode b_P_close 45 = .ok (.isub, 1) := by decide +kernel
theorem d_P_close_46 : decode b_P_close 46 = .ok (.putfield 252, 3) := by decide +kernel
theorem d_P_close_49 : decode b_P_close 49 = .ok (.aload_n 0, 1) := by decide +kernel
theorem d_P_close_50 : decode b_P_close 50 = .ok (.dup, 1) := by decide +kernel
theorem d_P_close_51 : decode b_P_close 51 = .ok (.getfield 259, 3) := by decide +kernel
theorem d_P_close_54 : decode b_P_close 54 = .ok (.iconst 1, 1) := by decide +kernel
theorem d_P_close_55 : decode b_P_close 55 = .ok (.isub, 1) := by decide +kernel
theorem d_P_close_56 : decode b_P_close 56 = .ok (.putfield 259, 3) := by decide +kernel
theorem d_P_close_59 : decode b_P_close 59 = .ok (.return_, 1) := by decide +kernel
theorem d_P_definition_0 : decode b_P_definition 0 = .ok (.iload_n 1, 1) := by decide +kernel
theorem d_P_definition_1 : decode b_P_definition 1 = .ok (.ifCond .lt 11, 3) := by decide +kernel
theorem d_P_definition_4 : decode b_P_definition 4 = .ok (.iload_n 1, 1) := by decide +kernel
theorem d_P_definition_5 : decode b_P_definition 5 = .ok (.aload_n 0, 1) := by decide +kernel
theorem d_P_definition_6 : decode b_P_definition 6 = .ok (.getfield 182, 3) := by decide +kernel
theorem d_P_definition_9 : decode b_P_definition 9 = .ok (.if_icmp .lt 5, 3) := by decide +kernel
theorem d_P_definition_12 : decode b_P_definition 12 = .ok (.iconst (-1), 1) := by decide +kernel
theorem d_P_definition_13 : decode b_P_definition 13 = .ok (.ireturn, 1) := by decide +kernel
theorem d_P_definition_14 : decode b_P_definition 14 = .ok (.aload_n 0, 1) := by decide +kernel
theorem d_P_definition_15 : decode b_P_definition 15 = .ok (.getfield 124, 3) := by decide +kernel
theorem d_P_definition_18 : decode b_P_definition 18 = .ok (.iload_n 1, 1) := by decide +kernel
theorem d_P_definition_19 : decode b_P_definition 19 = .ok (.aaload, 1) := by decide +kernel
theorem d_P_definition_20 : decode b_P_definition 20 = .ok (.astore_n 3, 1) := by decide +kernel
theorem d_P_definition_21 : decode b_P_definition 21 = .ok (.iload_n 2, 1) := by decide +kernel
theorem d_P_definition_22 : decode b_P_definition 22 = .ok (.tableswitch 67 0 4 #[34, 47, 52, 57, 62], 34) := by decide +kernel
theorem d_P_definition_56 : decode b_P_definition 56 = .ok (.aload_n 3, 1) := by decide +kernel
theorem d_P_definition_57 : decode b_P_definition 57 = .ok (.getfield 201, 3) := by decide +kernel
theorem d_P_definition_60 : decode b_P_definition 60 = .ok (.ifCond .eq 7, 3) := by decide +kernel
theorem d_P_definition_63 : decode b_P_definition 63 = .ok (.iconst 1, 1) := by decide +kernel
theorem d_P_definition_64 : decode b_P_definition 64 = .ok (.goto 4, 3) := by decide +kernel
theorem d_P_definition_67 : decode b_P_definition 67 = .ok (.iconst 0, 1) := by decide +kernel
theorem d_P_definition_68 : decode b_P_definition 68 = .ok (.ireturn, 1) := by decide +kernel
theorem d_P_definition_69 : decode b_P_definition 69 = .ok (.aload_n 3, 1) := by decide +kernel
theorem d_P_definition_70 : decode b_P_definition 70 = .ok (.getfield 229, 3) := by decide +kernel
theorem d_P_definition_73 : decode b_P_definition 73 = .ok (.ireturn, 1) := by decide +kernel
theorem d_P_definition_74 : decode b_P_definition 74 = .ok (.aload_n 3, 1) := by decide +kernel
theorem d_P_definition_75 : decode b_P_definition 75 = .ok (.getfield 217, 3) := by decide +kernel
theorem d_P_definition_78 : decode b_P_definition 78 = .ok (.ireturn, 1) := by decide +kernel
theorem d_P_definition_79 : decode b_P_definition 79 = .ok (.aload_n 3, 1) := by decide +kernel
theorem d_P_definition_80 : decode b_P_definition 80 = .ok (.getfield 231, 3) := by decide +kernel
theorem d_P_definition_83 : decode b_P_definition 83 = .ok (.ireturn, 1) := by decide +kernel
theorem d_P_definition_84 : decode b_P_definition 84 = .ok (.aload_n 3, 1) := by decide +kernel
theorem d_P_definition_85 : decode b_P_definition 85 = .ok (.getfield 216, 3) := by decide +kernel
theorem d_P_definition_88 : decode b_P_definition 88 = .ok (.ireturn, 1) := by decide +kernel
theorem d_P_definition_89 : decode b_P_definition 89 = .ok (.iconst (-1), 1) := by decide +kernel
theorem d_P_definition_90 : decode b_P_definition 90 = .ok (.ireturn, 1) := by decide +kernel
theorem d_P_title_0 : decode b_P_title 0 = .ok (.iload_n 1, 1) := by decide +kernel
theorem d_P_title_1 : decode b_P_title 1 = .ok (.ifCond .lt 29, 3) := by decide +kernel
theorem d_P_title_4 : decode b_P_title 4 = .ok (.iload_n 1, 1) := by decide +kernel
theorem d_P_title_5 : decode b_P_title 5 = .ok (.aload_n 0, 1) := by decide +kernel
theorem d_P_title_6 : decode b_P_title 6 = .ok (.getfield 182, 3) := by decide +kernel
theorem d_P_title_9 : decode b_P_title 9 = .ok (.if_icmp .ge 21, 3) := by decide +kernel
theorem d_P_title_12 : decode b_P_title 12 = .ok (.iload_n 2, 1) := by decide +kernel
theorem d_P_title_13 : decode b_P_title 13 = .ok (.iconst (-1), 1) := by decide +kernel
theorem d_P_title_14 : decode b_P_title 14 = .ok (.if_icmp .lt 16, 3) := by decide +kernel
theorem d_P_title_17 : decode b_P_title 17 = .ok (.iload_n 2, 1) := by decide +kernel
theorem d_P_title_18 : decode b_P_title 18 = .ok (.aload_n 0, 1) := by decide +kernel
theorem d_P_title_19 : decode b_P_title 19 = .ok (.getfield 124, 3) := by decide +kernel
theorem d_P_title_22 : decode b_P_title 22 = .ok (.iload_n 1, 1) := by decide +kernel
theorem d_P_title_23 : decode b_P_title 23 = .ok (.aaload, 1) := by decide +kernel
theorem d_P_title_24 : decode b_P_title 24 = .ok (.getfield 217, 3) := by decide +kernel
theorem d_P_title_27 : decode b_P_title 27 = .ok (.if_icmp .lt 5, 3) := by decide +kernel
theorem d_P_title_30 : decode b_P_title 30 = .ok (.lconst 0, 1) := by decide +kernel
theorem d_P_title_31 : decode b_P_title 31 = .ok (.lreturn, 1) := by decide +kernel
theorem d_P_title_32 : decode b_P_title 32 = .ok (.iload_n 2, 1) := by decide +kernel
theorem d_P_title_33 : decode b_P_title 33 = .ok (.ifCond .ge 15, 3) := by decide +kernel
theorem d_P_title_36 : decode b_P_title 36 = .ok (.aload_n 0, 1) := by decide +kernel
theorem d_P_title_37 : decode b_P_title 37 = .ok (.getfield 124, 3) := by decide +kernel
theorem d_P_title_40 : decode b_P_title 40 = .ok (.iload_n 1, 1) := by decide +kernel
theorem d_P_title_41 : decode b_P_title 41 = .ok (.aaload, 1) := by decide +kernel
theorem d_P_title_42 : decode b_P_title 42 = .ok (.getfield 194, 3) := by decide +kernel
theorem d_P_title_45 : decode b_P_title 45 = .ok (.goto 14, 3) := by decide +kernel
theorem d_P_title_48 : decode b_P_title 48 = .ok (.aload_n 0, 1) := by decide +kernel
theorem d_P_title_49 : decode b_P_title 49 = .ok (.getfield 124, 3) := by decide +kernel
theorem d_P_title_52 : decode b_P_title 52 = .ok (.iload_n 1, 1) := by decide +kernel
theorem d_P_title_53 : decode b_P_title 53 = .ok (.aaload, 1) := by decide +kernel
theorem d_P_title_54 : decode b_P_title 54 = .ok (.getfield 237, 3) := by decide +kernel
theorem d_P_title_57 : decode b_P_title 57 = .ok (.iload_n 2, 1) := by decide +kernel
theorem d_P_title_58 : decode b_P_title 58 = .ok (.laload, 1) := by decide +kernel
theorem d_P_title_59 : decode b_P_title 59 = .ok (.lreturn, 1) := by decide +kernel
theorem d_P_parameter_0 : decode b_P_parameter 0 = .ok (.iload_n 1, 1) := by decide +kernel
theorem d_P_parameter_1 : decode b_P_parameter 1 = .ok (.ifCond .lt 28, 3) := by decide +kernel
theorem d_P_parameter_4 : decode b_P_parameter 4 = .ok (.iload_n 1, 1) := by decide +kernel
theorem d_P_parameter_5 : decode b_P_parameter 5 = .ok (.aload_n 0, 1) := by decide +kernel
theorem d_P_parameter_6 : decode b_P_parameter 6 = .ok (.getfield 182, 3) := by decide +kernel
theorem d_P_parameter_9 : decode b_P_parameter 9 = .ok (.if_icmp .ge 20, 3) := by decide +kernel
theorem d_P_parameter_12 : decode b_P_parameter 12 = .ok (.iload_n 2, 1) := by decide +kernel
theorem d_P_parameter_13 : decode b_P_parameter 13 = .ok (.ifCond .lt 16, 3) := by decide +kernel
theorem d_P_parameter_16 : decode b_P_parameter 16 = .ok (.iload_n 2, 1) := by decide +kernel
theorem d_P_parameter_17 : decode b_P_parameter 17 = .ok (.aload_n 0, 1) := by decide +kernel
theorem d_P_parameter_18 : decode b_P_parameter 18 = .ok (.getfield 124, 3) := by decide +kernel
theorem d_P_parameter_21 : decode b_P_parameter 21 = .ok (.iload_n 1, 1) := by decide +kernel
theorem d_P_parameter_22 : decode b_P_parameter 22 = .ok (.aaload, 1) := by decide +kernel
theorem d_P_parameter_23 : decode b_P_parameter 23 = .ok (.getfield 217, 3) := by decide +kernel
theorem d_P_parameter_26 : decode b_P_parameter 26 = .ok (.if_icmp .lt 7, 3) := by decide +kernel
theorem d_P_parameter_29 : decode b_P_parameter 29 = .ok (.iconst (-1), 1) := by decide +kernel
theorem d_P_parameter_30 : decode b_P_parameter 30 = .ok (.goto 14, 3) := by decide +kernel
theorem d_P_parameter_33 : decode b_P_parameter 33 = .ok (.aload_n 0, 1) := by decide +kernel
theorem d_P_parameter_34 : decode b_P_parameter 34 = .ok (.getfield 124, 3) := by decide +kernel
theorem d_P_parameter_37 : decode b_P_parameter 37 = .ok (.iload_n 1, 1) := by decide +kernel
theorem d_P_parameter_38 : decode b_P_parameter 38 = .ok (.aaload, 1) := by decide +kernel
theorem d_P_parameter_39 : decode b_P_parameter 39 = .ok (.getfield 241, 3) := by decide +kernel
theorem d_P_parameter_42 : decode b_P_parameter 42 = .ok (.iload_n 2, 1) := by decide +kernel
theorem d_P_parameter_43 : decode b_P_parameter 43 = .ok (.iaload, 1) := by decide +kernel
theorem d_P_parameter_44 : decode b_P_parameter 44 = .ok (.ireturn, 1) := by decide +kernel
theorem d_P_node_0 : decode b_P_node 0 = .ok (.aload_n 0, 1) := by decide +kernel
theorem d_P_node_1 : decode b_P_node 1 = .ok (.iload_n 1, 1) := by decide +kernel
theorem d_P_node_2 : decode b_P_node 2 = .ok (.invokevirtual 322, 3) := by decide +kernel
theorem d_P_node_5 : decode b_P_node 5 = .ok (.ifCond .ne 5, 3) := by decide +kernel
theorem d_P_node_8 : decode b_P_node 8 = .ok (.iconst (-1), 1) := by decide +kernel
theorem d_P_node_9 : decode b_P_node 9 = .ok (.ireturn, 1) := by decide +kernel
theorem d_P_node_10 : decode b_P_node 10 = .ok (.aload_n 0, 1) := by decide +kernel
theorem d_P_node_11 : decode b_P_node 11 = .ok (.getfield 118, 3) := by decide +kernel
theorem d_P_node_14 : decode b_P_node 14 = .ok (.iload_n 1, 1) := by decide +kernel
theorem d_P_node_15 : decode b_P_node 15 = .ok (.aaload, 1) := by decide +kernel
theorem d_P_node_16 : decode b_P_node 16 = .ok (.astore_n 3, 1) := by decide +kernel
theorem d_P_node_17 : decode b_P_node 17 = .ok (.iload_n 2, 1) := by decide +kernel
theorem d_P_node_18 : decode b_P_node 18 = .ok (.tableswitch 86 0 7 #[46, 51, 56, 61, 66, 71, 76, 81], 46) := by decide +kernel
theorem d_P_node_64 : decode b_P_node 64 = .ok (.aload_n 3, 1) := by decide +kernel
theorem d_P_node_65 : decode b_P_node 65 = .ok (.getfield 246, 3) := by decide +kernel
theorem d_P_node_68 : decode b_P_node 68 = .ok (.ireturn, 1) := by decide +kernel
theorem d_P_node_69 : decode b_P_node 69 = .ok (.aload_n 3, 1) := by decide +kernel
theorem d_P_node_70 : decode b_P_node 70 = .ok (.getfield 249, 3) := by decide +kernel
theorem d_P_node_73 : decode b_P_node 73 = .ok (.ireturn, 1) := by decide +kernel
theorem d_P_node_74 : decode b_P_node 74 = .ok (.aload_n 3, 1) := by decide +kernel
theorem d_P_node_75 : decode b_P_node 75 = .ok (.getfield 252, 3) := by decide +kernel
theorem d_P_node_78 : decode b_P_node 78 = .ok (.ireturn, 1) := by decide +kernel
theorem d_P_node_79 : decode b_P_node 79 = .ok (.aload_n 3, 1) := by decide +kernel
theorem d_P_node_80 : decode b_P_node 80 = .ok (.getfield 255, 3) := by decide +kernel
theorem d_P_node_83 : decode b_P_node 83 = .ok (.ireturn, 1) := by decide +kernel
theorem d_P_node_84 : decode b_P_node 84 = .ok (.aload_n 3, 1) := by decide +kernel
theorem d_P_node_85 : decode b_P_node 85 = .ok (.getfield 263, 3) := by decide +kernel
theorem d_P_node_88 : decode b_P_node 88 = .ok (.ireturn, 1) := by decide +kernel
theorem d_P_node_89 : decode b_P_node 89 = .ok (.aload_n 3, 1) := by decide +kernel
theorem d_P_node_90 : decode b_P_node 90 = .ok (.getfield 272, 3) := by decide +kernel
theorem d_P_node_93 : decode b_P_node 93 = .ok (.ireturn, 1) := by decide +kernel
theorem d_P_node_94 : decode b_P_node 94 = .ok (.aload_n 3, 1) := by decide +kernel
theorem d_P_node_95 : decode b_P_node 95 = .ok (.getfield 275, 3) := by decide +kernel
theorem d_P_node_98 : decode b_P_node 98 = .ok (.ireturn, 1) := by decide +kernel
theorem d_P_node_99 : decode b_P_node 99 = .ok (.aload_n 3, 1) := by decide +kernel
theorem d_P_node_100 : decode b_P_node 100 = .ok (.getfield 256, 3) := by decide +kernel
theorem d_P_node_103 : decode b_P_node 103 = .ok (.ireturn, 1) := by decide +kernel
theorem d_P_node_104 : decode b_P_node 104 = .ok (.iconst (-1), 1) := by decide +kernel
theorem d_P_node_105 : decode b_P_node 105 = .ok (.ireturn, 1) := by decide +kernel
theorem d_P_isNode_0 : decode b_P_isNode 0 = .ok (.iload_n 1, 1) := by decide +kernel
theorem d_P_isNode_1 : decode b_P_isNode 1 = .ok (.ifCond .lt 15, 3) := by decide +kernel
theorem d_P_isNode_4 : decode b_P_isNode 4 = .ok (.iload_n 1, 1) := by decide +kernel
theorem d_P_isNode_5 : decode b_P_isNode 5 = .ok (.aload_n 0, 1) := by decide +kernel
theorem d_P_isNode_6 : decode b_P_isNode 6 = .ok (.getfield 179, 3) := by decide +kernel
theorem d_P_isNode_9 : decode b_P_isNode 9 = .ok (.if_icmp .ge 7, 3) := by decide +kernel
theorem d_P_isNode_12 : decode b_P_isNode 12 = .ok (.iconst 1, 1) := by decide +kernel
theorem d_P_isNode_13 : decode b_P_isNode 13 = .ok (.goto 4, 3) := by decide +kernel
theorem d_P_isNode_16 : decode b_P_isNode 16 = .ok (.iconst 0, 1) := by decide +kernel
theorem d_P_isNode_17 : decode b_P_isNode 17 = .ok (.ireturn, 1) := by decide +kernel
theorem d_P_name_0 : decode b_P_name 0 = .ok (.aload_n 0, 1) := by decide +kernel
theorem d_P_name_1 : decode b_P_name 1 = .ok (.iload_n 1, 1) := by decide +kernel
theorem d_P_name_2 : decode b_P_name 2 = .ok (.invokevirtual 322, 3) := by decide +kernel
theorem d_P_name_5 : decode b_P_name 5 = .ok (.ifCond .ne 7, 3) := by decide +kernel
theorem d_P_name_8 : decode b_P_name 8 = .ok (.lconst 0, 1) := by decide +kernel
theorem d_P_name_9 : decode b_P_name 9 = .ok (.goto 37, 3) := by decide +kernel
theorem d_P_name_12 : decode b_P_name 12 = .ok (.iload_n 2, 1) := by decide +kernel
theorem d_P_name_13 : decode b_P_name 13 = .ok (.ifCond .ne 15, 3) := by decide +kernel
theorem d_P_name_16 : decode b_P_name 16 = .ok (.aload_n 0, 1) := by decide +kernel
theorem d_P_name_17 : decode b_P_name 17 = .ok (.getfield 118, 3) := by decide +kernel
theorem d_P_name_20 : decode b_P_name 20 = .ok (.iload_n 1, 1) := by decide +kernel
theorem d_P_name_21 : decode b_P_name 21 = .ok (.aaload, 1) := by decide +kernel
theorem d_P_name_22 : decode b_P_name 22 = .ok (.getfield 266, 3) := by decide +kernel
theorem d_P_name_25 : decode b_P_name 25 = .ok (.goto 21, 3) := by decide +kernel
theorem d_P_name_28 : decode b_P_name 28 = .ok (.iload_n 2, 1) := by decide +kernel
theorem d_P_name_29 : decode b_P_name 29 = .ok (.iconst 1, 1) := by decide +kernel
theorem d_P_name_30 : decode b_P_name 30 = .ok (.if_icmp .ne 15, 3) := by decide +kernel
theorem d_P_name_33 : decode b_P_name 33 = .ok (.aload_n 0, 1) := by decide +kernel
theorem d_P_name_34 : decode b_P_name 34 = .ok (.getfield 118, 3) := by decide +kernel
theorem d_P_name_37 : decode b_P_name 37 = .ok (.iload_n 1, 1) := by decide +kernel
theorem d_P_name_38 : decode b_P_name 38 = .ok (.aaload, 1) := by decide +kernel
theorem d_P_name_39 : decode b_P_name 39 = .ok (.getfield 269, 3) := by decide +kernel
theorem d_P_name_42 : decode b_P_name 42 = .ok (.goto 4, 3) := by decide +kernel
theorem d_P_name_45 : decode b_P_name 45 = .ok (.lconst 0, 1) := by decide +kernel
theorem d_P_name_46 : decode b_P_name 46 = .ok (.lreturn, 1) := by decide +kernel
theorem d_P_number_0 : decode b_P_number 0 = .ok (.aload_n 0, 1) := by decide +kernel
theorem d_P_number_1 : decode b_P_number 1 = .ok (.iload_n 1, 1) := by decide +kernel
theorem d_P_number_2 : decode b_P_number 2 = .ok (.invokevirtual 322, 3) := by decide +kernel
theorem d_P_number_5 : decode b_P_number 5 = .ok (.ifCond .eq 15, 3) := by decide +kernel
theorem d_P_number_8 : decode b_P_number 8 = .ok (.aload_n 0, 1) := by decide +kernel
theorem d_P_number_9 : decode b_P_number 9 = .ok (.getfield 118, 3) := by decide +kernel
theorem d_P_number_12 : decode b_P_number 12 = .ok (.iload_n 1, 1) := by decide +kernel
theorem d_P_number_13 : decode b_P_number 13 = .ok (.aaload, 1) := by decide +kernel
theorem d_P_number_14 : decode b_P_number 14 = .ok (.getfield 278, 3) := by decide +kernel
theorem d_P_number_17 : decode b_P_number 17 = .ok (.goto 4, 3) := by decide +kernel
theorem d_P_number_20 : decode b_P_number 20 = .ok (.iconst 0, 1) := by decide +kernel
theorem d_P_number_21 : decode b_P_number 21 = .ok (.ireturn, 1) := by decide +kernel
theorem d_P_look_0 : decode b_P_look 0 = .ok (.iload_n 1, 1) := by decide +kernel
theorem d_P_look_1 : decode b_P_look 1 = .ok (.tableswitch 63 0 4 #[35, 43, 48, 53, 58], 35) := by decide +kernel
theorem d_P_look_36 : decode b_P_look 36 = .ok (.aload_n 0, 1) := by decide +kernel
theorem d_P_look_37 : decode b_P_look 37 = .ok (.getfield 112, 3) := by decide +kernel
theorem d_P_look_40 : decode b_P_look 40 = .ok (.getfield 139, 3) := by decide +kernel
theorem d_P_look_43 : decode b_P_look 43 = .ok (.ireturn, 1) := by decide +kernel
theorem d_P_look_44 : decode b_P_look 44 = .ok (.aload_n 0, 1) := by decide +kernel
theorem d_P_look_45 : decode b_P_look 45 = .ok (.getfield 146, 3) := by decide +kernel
theorem d_P_look_48 : decode b_P_look 48 = .ok (.ireturn, 1) := by decide +kernel
theorem d_P_look_49 : decode b_P_look 49 = .ok (.aload_n 0, 1) := by decide +kernel
theorem d_P_look_50 : decode b_P_look 50 = .ok (.getfield 134, 3) := by decide +kernel
theorem d_P_look_53 : decode b_P_look 53 = .ok (.ireturn, 1) := by decide +kernel
theorem d_P_look_54 : decode b_P_look 54 = .ok (.aload_n 0, 1) := by decide +kernel
theorem d_P_look_55 : decode b_P_look 55 = .ok (.getfield 182, 3) := by decide +kernel
theorem d_P_look_58 : decode b_P_look 58 = .ok (.ireturn, 1) := by decide +kernel
theorem d_P_look_59 : decode b_P_look 59 = .ok (.aload_n 0, 1) := by decide +kernel
theorem d_P_look_60 : decode b_P_look 60 = .ok (.getfield 179, 3) := by decide +kernel
theorem d_P_look_63 : decode b_P_look 63 = .ok (.ireturn, 1) := by decide +kernel
theorem d_P_look_64 : decode b_P_look 64 = .ok (.iconst (-1), 1) := by decide +kernel
theorem d_P_look_65 : decode b_P_look 65 = .ok (.ireturn, 1) := by decide +kernel
theorem d_M_init_0 : decode b_M_init 0 = .ok (.aload_n 0, 1) := by decide +kernel
theorem d_M_init_1 : decode b_M_init 1 = .ok (.invokespecial 1, 3) := by decide +kernel
theorem d_M_init_4 : decode b_M_init 4 = .ok (.aload_n 0, 1) := by decide +kernel
theorem d_M_init_5 : decode b_M_init 5 = .ok (.sipush 8192, 3) := by decide +kernel
theorem d_M_init_8 : decode b_M_init 8 = .ok (.newarray .byte, 2) := by decide +kernel
theorem d_M_init_10 : decode b_M_init 10 = .ok (.putfield 7, 3) := by decide +kernel
theorem d_M_init_13 : decode b_M_init 13 = .ok (.aload_n 0, 1) := by decide +kernel
theorem d_M_init_14 : decode b_M_init 14 = .ok (.iconst (-1), 1) := by decide +kernel
theorem d_M_init_15 : decode b_M_init 15 = .ok (.putfield 13, 3) := by decide +kernel
theorem d_M_init_18 : decode b_M_init 18 = .ok (.aload_n 0, 1) := by decide +kernel
theorem d_M_init_19 : decode b_M_init 19 = .ok (.bipush 64, 2) := by decide +kernel
theorem d_M_init_21 : decode b_M_init 21 = .ok (.newarray .int, 2) := by decide +kernel
theorem d_M_init_23 : decode b_M_init 23 = .ok (.putfield 17, 3) := by decide +kernel
theorem d_M_init_26 : decode b_M_init 26 = .ok (.aload_n 0, 1) := by decide +kernel
theorem d_M_init_27 : decode b_M_init 27 = .ok (.bipush 64, 2) := by decide +kernel
theorem d_M_init_29 : decode b_M_init 29 = .ok (.newarray .int, 2) := by decide +kernel
theorem d_M_init_31 : decode b_M_init 31 = .ok (.putfield 21, 3) := by decide +kernel
theorem d_M_init_34 : decode b_M_init 34 = .ok (.aload_n 0, 1) := by decide +kernel
theorem d_M_init_35 : decode b_M_init 35 = .ok (.bipush 64, 2) := by decide +kernel
theorem d_M_init_37 : decode b_M_init 37 = .ok (.newarray .int, 2) := by decide +kernel
theorem d_M_init_39 : decode b_M_init 39 = .ok (.putfield 24, 3) := by decide +kernel
theorem d_M_init_42 : decode b_M_init 42 = .ok (.aload_n 0, 1) := by decide +kernel
theorem d_M_init_43 : decode b_M_init 43 = .ok (.bipush 64, 2) := by decide +kernel
theorem d_M_init_45 : decode b_M_init 45 = .ok (.newarray .int, 2) := by decide +kernel
theorem d_M_init_47 : decode b_M_init 47 = .ok (.putfield 27, 3) := by decide +kernel
theorem d_M_init_50 : decode b_M_init 50 = .ok (.aload_n 0, 1) := by decide +kernel
theorem d_M_init_51 : decode b_M_init 51 = .ok (.bipush 64, 2) := by decide +kernel
theorem d_M_init_53 : decode b_M_init 53 = .ok (.newarray .int, 2) := by decide +kernel
theorem d_M_init_55 : decode b_M_init 55 = .ok (.putfield 30, 3) := by decide +kernel
theorem d_M_init_58 : decode b_M_init 58 = .ok (.aload_n 0, 1) := by decide +kernel
theorem d_M_init_59 : decode b_M_init 59 = .ok (.bipush 64, 2) := by decide +kernel
theorem d_M_init_61 : decode b_M_init 61 = .ok (.newarray .long, 2) := by decide +kernel
theorem d_M_init_63 : decode b_M_init 63 = .ok (.putfield 33, 3) := by decide +kernel
theorem d_M_init_66 : decode b_M_init 66 = .ok (.aload_n 0, 1) := by decide +kernel
theorem d_M_init_67 : decode b_M_init 67 = .ok (.sipush 512, 3) := by decide +kernel
theorem d_M_init_70 : decode b_M_init 70 = .ok (.newarray .long, 2) := by decide +kernel
theorem d_M_init_72 : decode b_M_init 72 = .ok (.putfield 37, 3) := by decide +kernel
theorem d_M_init_75 : decode b_M_init 75 = .ok (.aload_n 0, 1) := by decide +kernel
theorem d_M_init_76 : decode b_M_init 76 = .ok (.sipush 512, 3) := by decide +kernel
theorem d_M_init_79 : decode b_M_init 79 = .ok (.newarray .int, 2) := by decide +kernel
theorem d_M_init_81 : decode b_M_init 81 = .ok (.putfield 40, 3) := by decide +kernel
theorem d_M_init_84 : decode b_M_init 84 = .ok (.aload_n 0, 1) := by decide +kernel
theorem d_M_init_85 : decode b_M_init 85 = .ok (.sipush 8192, 3) := by decide +kernel
theorem d_M_init_88 : decode b_M_init 88 = .ok (.newarray .int, 2) := by decide +kernel
theorem d_M_init_90 : decode b_M_init 90 = .ok (.putfield 43, 3) := by decide +kernel
theorem d_M_init_93 : decode b_M_init 93 = .ok (.aload_n 0, 1) := by decide +kernel
theorem d_M_init_94 : decode b_M_init 94 = .ok (.sipush 8192, 3) := by decide +kernel
theorem d_M_init_97 : decode b_M_init 97 = .ok (.newarray .int, 2) := by decide +kernel
theorem d_M_init_99 : decode b_M_init 99 = .ok (.putfield 46, 3) := by decide +kernel
theorem d_M_init_102 : decode b_M_init 102 = .ok (.aload_n 0, 1) := by decide +kernel
theorem d_M_init_103 : decode b_M_init 103 = .ok (.sipush 8192, 3) := by decide +kernel
theorem d_M_init_106 : decode b_M_init 106 = .ok (.newarray .int, 2) := by decide +kernel
theorem d_M_init_108 : decode b_M_init 108 = .ok (.putfield 49, 3) := by decide +kernel
theorem d_M_init_111 : decode b_M_init 111 = .ok (.aload_n 0, 1) := by decide +kernel
theorem d_M_init_112 : decode b_M_init 112 = .ok (.sipush 8192, 3) := by decide +kernel
theorem d_M_init_115 : decode b_M_init 115 = .ok (.newarray .int, 2) := by decide +kernel
theorem d_M_init_117 : decode b_M_init 117 = .ok (.putfield 52, 3) := by decide +kernel
theorem d_M_init_120 : decode b_M_init 120 = .ok (.aload_n 0, 1) := by decide +kernel
theorem d_M_init_121 : decode b_M_init 121 = .ok (.sipush 8192, 3) := by decide +kernel
theorem d_M_init_124 : decode b_M_init 124 = .ok (.newarray .int, 2) := by decide +kernel
theorem d_M_init_126 : decode b_M_init 126 = .ok (.putfield 55, 3) := by decide +kernel
theorem d_M_init_129 : decode b_M_init 129 = .ok (.aload_n 0, 1) := by decide +kernel
theorem d_M_init_130 : decode b_M_init 130 = .ok (.sipush 8192, 3) := by decide +kernel
theorem d_M_init_133 : decode b_M_init 133 = .ok (.newarray .int, 2) := by decide +kernel
theorem d_M_init_135 : decode b_M_init 135 = .ok (.putfield 58, 3) := by decide +kernel
theorem d_M_init_138 : decode b_M_init 138 = .ok (.aload_n 0, 1) := by decide +kernel
theorem d_M_init_139 : decode b_M_init 139 = .ok (.sipush 8192, 3) := by decide +kernel
theorem d_M_init_142 : decode b_M_init 142 = .ok (.newarray .int, 2) := by decide +kernel
theorem d_M_init_144 : decode b_M_init 144 = .ok (.putfield 61, 3) := by decide +kernel
theorem d_M_init_147 : decode b_M_init 147 = .ok (.aload_n 0, 1) := by decide +kernel
theorem d_M_init_148 : decode b_M_init 148 = .ok (.sipush 8192, 3) := by decide +kernel
theorem d_M_init_151 : decode b_M_init 151 = .ok (.newarray .long, 2) := by decide +kernel
theorem d_M_init_153 : decode b_M_init 153 = .ok (.putfield 64, 3) := by decide +kernel
theorem d_M_init_156 : decode b_M_init 156 = .ok (.aload_n 0, 1) := by decide +kernel
theorem d_M_init_157 : decode b_M_init 157 = .ok (.sipush 8192, 3) := by decide +kernel
theorem d_M_init_160 : decode b_M_init 160 = .ok (.newarray .long, 2) := by decide +kernel
theorem d_M_init_162 : decode b_M_init 162 = .ok (.putfield 67, 3) := by decide +kernel
theorem d_M_init_165 : decode b_M_init 165 = .ok (.aload_n 0, 1) := by decide +kernel
theorem d_M_init_166 : decode b_M_init 166 = .ok (.ldc 70, 2) := by decide +kernel
theorem d_M_init_168 : decode b_M_init 168 = .ok (.newarray .byte, 2) := by decide +kernel
theorem d_M_init_170 : decode b_M_init 170 = .ok (.putfield 71, 3) := by decide +kernel
theorem d_M_init_173 : decode b_M_init 173 = .ok (.aload_n 0, 1) := by decide +kernel
theorem d_M_init_174 : decode b_M_init 174 = .ok (.ldc 70, 2) := by decide +kernel
theorem d_M_init_176 : decode b_M_init 176 = .ok (.newarray .int, 2) := by decide +kernel
theorem d_M_init_178 : decode b_M_init 178 = .ok (.putfield 74, 3) := by decide +kernel
theorem d_M_init_181 : decode b_M_init 181 = .ok (.return_, 1) := by decide +kernel
theorem d_M_give_0 : decode b_M_give 0 = .ok (.aload_n 0, 1) := by decide +kernel
theorem d_M_give_1 : decode b_M_give 1 = .ok (.iconst 0, 1) := by decide +kernel
theorem d_M_give_2 : decode b_M_give 2 = .ok (.putfield 77, 3) := by decide +kernel
theorem d_M_give_5 : decode b_M_give 5 = .ok (.iload_n 3, 1) := by decide +kernel
theorem d_M_give_6 : decode b_M_give 6 = .ok (.iconst 1, 1) := by decide +kernel
theorem d_M_give_7 : decode b_M_give 7 = .ok (.if_icmp .lt 21, 3) := by decide +kernel
theorem d_M_give_10 : decode b_M_give 10 = .ok (.iload_n 3, 1) := by decide +kernel
theorem d_M_give_11 : decode b_M_give 11 = .ok (.bipush 8, 2) := by decide +kernel
theorem d_M_give_13 : decode b_M_give 13 = .ok (.if_icmp .gt 15, 3) := by decide +kernel
theorem d_M_give_16 : decode b_M_give 16 = .ok (.aload_n 0, 1) := by decide +kernel
theorem d_M_give_17 : decode b_M_give 17 = .ok (.getfield 80, 3) := by decide +kernel
theorem d_M_give_20 : decode b_M_give 20 = .ok (.iload_n 3, 1) := by decide +kernel
theorem d_M_give_21 : decode b_M_give 21 = .ok (.iadd, 1) := by decide +kernel
theorem d_M_give_22 : decode b_M_give 22 = .ok (.sipush 8192, 3) := by decide +kernel
theorem d_M_give_25 : decode b_M_give 25 = .ok (.if_icmp .le 5, 3) := by decide +kernel
theorem d_M_give_28 : decode b_M_give 28 = .ok (.iconst 0, 1) := by decide +kernel
theorem d_M_give_29 : decode b_M_give 29 = .ok (.ireturn, 1) := by decide +kernel
theorem d_M_give_30 : decode b_M_give 30 = .ok (.iload_n 3, 1) := by decide +kernel
theorem d_M_give_31 : decode b_M_give 31 = .ok (.iconst 1, 1) := by decide +kernel
theorem d_M_give_32 : decode b_M_give 32 = .ok (.isub, 1) := by decide +kernel
theorem d_M_give_33 : decode b_M_give 33 = .ok (.istore 4, 2) := by decide +kernel
theorem d_M_give_35 : decode b_M_give 35 = .ok (.iload 4, 2) := by decide +kernel
theorem d_M_give_37 : decode b_M_give 37 = .ok (.ifCond .lt 37, 3) := by decide +kernel
theorem d_M_give_40 : decode b_M_give 40 = .ok (.aload_n 0, 1) := by decide +kernel
theorem d_M_give_41 : decode b_M_give 41 = .ok (.getfield 7, 3) := by decide +kernel
theorem d_M_give_44 : decode b_M_give 44 = .ok (.aload_n 0, 1) := by decide +kernel
theorem d_M_give_45 : decode b_M_give 45 = .ok (.getfield 80, 3) := by decide +kernel
theorem d_M_give_48 : decode b_M_give 48 = .ok (.lload_n 1, 1) := by decide +kernel
theorem d_M_give_49 : decode b_M_give 49 = .ok (.bipush 8, 2) := by decide +kernel
theorem d_M_give_51 : decode b_M_give 51 = .ok (.iload 4, 2) := by decide +kernel
theorem d_M_give_53 : decode b_M_give 53 = .ok (.imul, 1) := by decide +kernel
theorem d_M_give_54 : decode b_M_give 54 = .ok (.lshr, 1) := by decide +kernel
theorem d_M_give_55 : decode b_M_give 55 = .ok (.l2i, 1) := by decide +kernel
theorem d_M_give_56 : decode b_M_give 56 = .ok (.i2b, 1) := by decide +kernel
theorem d_M_give_57 : decode b_M_give 57 = .ok (.bastore, 1) := by decide +kernel
theorem d_M_give_58 : decode b_M_give 58 = .ok (.aload_n 0, 1) := by decide +kernel
theorem d_M_give_59 : decode b_M_give 59 = .ok (.dup, 1) := by decide +kernel
theorem d_M_give_60 : decode b_M_give 60 = .ok (.getfield 80, 3) := by decide +kernel
theorem d_M_give_63 : decode b_M_give 63 = .ok (.iconst 1, 1) := by decide +kernel
theorem d_M_give_64 : decode b_M_give 64 = .ok (.iadd, 1) := by decide +kernel
theorem d_M_give_65 : decode b_M_give 65 = .ok (.putfield 80, 3) := by decide +kernel
theorem d_M_give_68 : decode b_M_give 68 = .ok (.iinc 4 (-1), 3) := by decide +kernel
theorem d_M_give_71 : decode b_M_give 71 = .ok (.goto (-36), 3) := by decide +kernel
theorem d_M_give_74 : decode b_M_give 74 = .ok (.iconst 1, 1) := by decide +kernel
theorem d_M_give_75 : decode b_M_give 75 = .ok (.ireturn, 1) := by decide +kernel
theorem d_M_wipe_0 : decode b_M_wipe 0 = .ok (.aload_n 0, 1) := by decide +kernel
theorem d_M_wipe_1 : decode b_M_wipe 1 = .ok (.iconst 0, 1) := by decide +kernel
theorem d_M_wipe_2 : decode b_M_wipe 2 = .ok (.putfield 77, 3) := by decide +kernel
theorem d_M_wipe_5 : decode b_M_wipe 5 = .ok (.aload_n 0, 1) := by decide +kernel
theorem d_M_wipe_6 : decode b_M_wipe 6 = .ok (.iconst 0, 1) := by decide +kernel
theorem d_M_wipe_7 : decode b_M_wipe 7 = .ok (.putfield 80, 3) := by decide +kernel
theorem d_M_wipe_10 : decode b_M_wipe 10 = .ok (.return_, 1) := by decide +kernel
theorem d_M_read_0 : decode b_M_read 0 = .ok (.aload_n 0, 1) := by decide +kernel
theorem d_M_read_1 : decode b_M_read 1 = .ok (.iconst 0, 1) := by decide +kernel
theorem d_M_read_2 : decode b_M_read 2 = .ok (.putfield 77, 3) := by decide +kernel
theorem d_M_read_5 : decode b_M_read 5 = .ok (.aload_n 0, 1) := by decide +kernel
theorem d_M_read_6 : decode b_M_read 6 = .ok (.iconst 0, 1) := by decide +kernel
theorem d_M_read_7 : decode b_M_read 7 = .ok (.putfield 83, 3) := by decide +kernel
theorem d_M_read_10 : decode b_M_read 10 = .ok (.aload_n 0, 1) := by decide +kernel
theorem d_M_read_11 : decode b_M_read 11 = .ok (.iconst (-1), 1) := by decide +kernel
theorem d_M_read_12 : decode b_M_read 12 = .ok (.putfield 13, 3) := by decide +kernel
theorem d_M_read_15 : decode b_M_read 15 = .ok (.aload_n 0, 1) := by decide +kernel
theorem d_M_read_16 : decode b_M_read 16 = .ok (.iconst 0, 1) := by decide +kernel
theorem d_M_read_17 : decode b_M_read 17 = .ok (.putfield 251, 3) := by decide +kernel
theorem d_M_read_20 : decode b_M_read 20 = .ok (.aload_n 0, 1) := by decide +kernel
theorem d_M_read_21 : decode b_M_read 21 = .ok (.iconst 0, 1) := by decide +kernel
theorem d_M_read_22 : decode b_M_read 22 = .ok (.putfield 207, 3) := by decide +kernel
theorem d_M_read_25 : decode b_M_read 25 = .ok (.aload_n 0, 1) := by decide +kernel
theorem d_M_read_26 : decode b_M_read 26 = .ok (.iconst 0, 1) := by decide +kernel
theorem d_M_read_27 : decode b_M_read 27 = .ok (.putfield 93, 3) := by decide +kernel
theorem d_M_read_30 : decode b_M_read 30 = .ok (.aload_n 0, 1) := by decide +kernel
theorem d_M_read_31 : decode b_M_read 31 = .ok (.invokevirtual 232, 3) := by decide +kernel
theorem d_M_read_34 : decode b_M_read 34 = .ok (.aload_n 0, 1) := by decide +kernel
theorem d_M_read_35 : decode b_M_read 35 = .ok (.getfield 83, 3) := by decide +kernel
theorem d_M_read_38 : decode b_M_read 38 = .ok (.ifCond .ne 29, 3) := by decide +kernel
theorem d_M_read_41 : decode b_M_read 41 = .ok (.aload_n 0, 1) := by decide +kernel
theorem d_M_read_42 : decode b_M_read 42 = .ok (.getfield 99, 3) := by decide +kernel
theorem d_M_read_45 : decode b_M_read 45 = .ok (.iconst 4, 1) := by decide +kernel
theorem d_M_read_46 : decode b_M_read 46 = .ok (.if_icmp .eq 21, 3) := by decide +kernel
theorem d_M_read_49 : decode b_M_read 49 = .ok (.aload_n 0, 1) := by decide +kernel
theorem d_M_read_50 : decode b_M_read 50 = .ok (.invokevirtual 261, 3) := by decide +kernel
theorem d_M_read_53 : decode b_M_read 53 = .ok (.aload_n 0, 1) := by decide +kernel
theorem d_M_read_54 : decode b_M_read 54 = .ok (.getfield 83, 3) := by decide +kernel
theorem d_M_read_57 : decode b_M_read 57 = .ok (.ifCond .ne (-23), 3) := by decide +kernel
theorem d_M_read_60 : decode b_M_read 60 = .ok (.aload_n 0, 1) := by decide +kernel
theorem d_M_read_61 : decode b_M_read 61 = .ok (.invokevirtual 232, 3) := by decide +kernel
theorem d_M_read_64 : decode b_M_read 64 = .ok (.goto (-30), 3) := by decide +kernel
theorem d_M_read_67 : decode b_M_read 67 = .ok (.aload_n 0, 1) := by decide +kernel
theorem d_M_read_68 : decode b_M_read 68 = .ok (.getfield 83, 3) := by decide +kernel
theorem d_M_read_71 : decode b_M_read 71 = .ok (.ifCond .le 13, 3) := by decide +kernel
theorem d_M_read_74 : decode b_M_read 74 = .ok (.aload_n 0, 1) := by decide +kernel
theorem d_M_read_75 : decode b_M_read 75 = .ok (.iconst 0, 1) := by decide +kernel
theorem d_M_read_76 : decode b_M_read 76 = .ok (.putfield 251, 3) := by decide +kernel
theorem d_M_read_79 : decode b_M_read 79 = .ok (.aload_n 0, 1) := by decide +kernel
theorem d_M_read_80 : decode b_M_read 80 = .ok (.iconst 0, 1) := by decide +kernel
theorem d_M_read_81 : decode b_M_read 81 = .ok (.putfield 207, 3) := by decide +kernel
theorem d_M_read_84 : decode b_M_read 84 = .ok (.aload_n 0, 1) := by decide +kernel
theorem d_M_read_85 : decode b_M_read 85 = .ok (.getfield 83, 3) := by decide +kernel
theorem d_M_read_88 : decode b_M_read 88 = .ok (.ireturn, 1) := by decide +kernel
theorem d_M_next_0 : decode b_M_next 0 = .ok (.aload_n 0, 1) := by decide +kernel
theorem d_M_next_1 : decode b_M_next 1 = .ok (.getfield 93, 3) := by decide +kernel
theorem d_M_next_4 : decode b_M_next 4 = .ok (.aload_n 0, 1) := by decide +kernel
theorem d_M_next_5 : decode b_M_next 5 = .ok (.getfield 80, 3) := by decide +kernel
theorem d_M_next_8 : decode b_M_next 8 = .ok (.if_icmp .ge 44, 3) := by decide +kernel
theorem d_M_next_11 : decode b_M_next 11 = .ok (.aload_n 0, 1) := by decide +kernel
theorem d_M_next_12 : decode b_M_next 12 = .ok (.getfield 7, 3) := by decide +kernel
theorem d_M_next_15 : decode b_M_next 15 = .ok (.aload_n 0, 1) := by decide +kernel
theorem d_M_next_16 : decode b_M_next 16 = .ok (.getfield 93, 3) := by decide +kernel
theorem d_M_next_19 : decode b_M_next 19 = .ok (.baload, 1) := by decide +kernel
theorem d_M_next_20 : decode b_M_next 20 = .ok (.bipush 32, 2) := by decide +kernel
theorem d_M_next_22 : decode b_M_next 22 = .ok (.if_icmp .eq 17, 3) := by decide +kernel
theorem d_M_next_25 : decode b_M_next 25 = .ok (.aload_n 0, 1) := by decide +kernel
theorem d_M_next_26 : decode b_M_next 26 = .ok (.getfield 7, 3) := by decide +kernel
theorem d_M_next_29 : decode b_M_next 29 = .ok (.aload_n 0, 1) := by decide +kernel
theorem d_M_next_30 : decode b_M_next 30 = .ok (.getfield 93, 3) := by decide +kernel
theorem d_M_next_33 : decode b_M_next 33 = .ok (.baload, 1) := by decide +kernel
theorem d_M_next_34 : decode b_M_next 34 = .ok (.bipush 10, 2) := by decide +kernel
theorem d_M_next_36 : decode b_M_next 36 = .ok (.if_icmp .ne 16, 3) := by decide +kernel
theorem d_M_next_39 : decode b_M_next 39 = .ok (.aload_n 0, 1) := by decide +kernel
theorem d_M_next_40 : decode b_M_next 40 = .ok (.dup, 1) := by decide +kernel
theorem d_M_next_41 : decode b_M_next 41 = .ok (.getfield 93, 3) := by decide +kernel
theorem d_M_next_44 : decode b_M_next 44 = .ok (.iconst 1, 1) := by decide +kernel
theorem d_M_next_45 : decode b_M_next 45 = .ok (.iadd, 1) := by decide +kernel
theorem d_M_next_46 : decode b_M_next 46 = .ok (.putfield 93, 3) := by decide +kernel
theorem d_M_next_49 : decode b_M_next 49 = .ok (.goto (-49), 3) := by decide +kernel
theorem d_M_next_52 : decode b_M_next 52 = .ok (.aload_n 0, 1) := by decide +kernel
theorem d_M_next_53 : decode b_M_next 53 = .ok (.aload_n 0, 1) := by decide +kernel
theorem d_M_next_54 : decode b_M_next 54 = .ok (.getfield 93, 3) := by decide +kernel
theorem d_M_next_57 : decode b_M_next 57 = .ok (.putfield 96, 3) := by decide +kernel
theorem d_M_next_60 : decode b_M_next 60 = .ok (.aload_n 0, 1) := by decide +kernel
theorem d_M_next_61 : decode b_M_next 61 = .ok (.getfield 93, 3) := by decide +kernel
theorem d_M_next_64 : decode b_M_next 64 = .ok (.aload_n 0, 1) := by decide +kernel
theorem d_M_next_65 : decode b_M_next 65 = .ok (.getfield 80, 3) := by decide +kernel
theorem d_M_next_68 : decode b_M_next 68 = .ok (.if_icmp .ne 9, 3) := by decide +kernel
theorem d_M_next_71 : decode b_M_next 71 = .ok (.aload_n 0, 1) := by decide +kernel
theorem d_M_next_72 : decode b_M_next 72 = .ok (.iconst 4, 1) := by decide +kernel
theorem d_M_next_73 : decode b_M_next 73 = .ok (.putfield 99, 3) := by decide +kernel
theorem d_M_next_76 : decode b_M_next 76 = .ok (.return_, 1) := by decide +kernel
theorem d_M_next_77 : decode b_M_next 77 = .ok (.aload_n 0, 1) := by decide +kernel
theorem d_M_next_78 : decode b_M_next 78 = .ok (.getfield 7, 3) := by decide +kernel
theorem d_M_next_81 : decode b_M_next 81 = .ok (.aload_n 0, 1) := by decide +kernel
theorem d_M_next_82 : decode b_M_next 82 = .ok (.getfield 93, 3) := by decide +kernel
theorem d_M_next_85 : decode b_M_next 85 = .ok (.baload, 1) := by decide +kernel
theorem d_M_next_86 : decode b_M_next 86 = .ok (.bipush 40, 2) := by decide +kernel
theorem d_M_next_88 : decode b_M_next 88 = .ok (.if_icmp .eq 17, 3) := by decide +kernel
theorem d_M_next_91 : decode b_M_next 91 = .ok (.aload_n 0, 1) := by decide +kernel
theorem d_M_next_92 : decode b_M_next 92 = .ok (.getfield 7, 3) := by decide +kernel
theorem d_M_next_95 : decode b_M_next 95 = .ok (.aload_n 0, 1) := by decide +kernel
theorem d_M_next_96 : decode b_M_next 96 = .ok (.getfield 93, 3) := by decide +kernel
theorem d_M_next_99 : decode b_M_next 99 = .ok (.baload, 1) := by decide +kernel
theorem d_M_next_100 : decode b_M_next 100 = .ok (.bipush 41, 2) := by decide +kernel
theorem d_M_next_102 : decode b_M_next 102 = .ok (.if_icmp .ne 37, 3) := by decide +kernel
theorem d_M_next_105 : decode b_M_next 105 = .ok (.aload_n 0, 1) := by decide +kernel
theorem d_M_next_106 : decode b_M_next 106 = .ok (.aload_n 0, 1) := by decide +kernel
theorem d_M_next_107 : decode b_M_next 107 = .ok (.getfield 7, 3) := by decide +kernel
theorem d_M_next_110 : decode b_M_next 110 = .ok (.aload_n 0, 1) := by decide +kernel
theorem d_M_next_111 : decode b_M_next 111 = .ok (.getfield 93, 3) := by decide +kernel
theorem d_M_next_114 : decode b_M_next 114 = .ok (.baload, 1) := by decide +kernel
theorem d_M_next_115 : decode b_M_next 115 = .ok (.bipush 40, 2) := by decide +kernel
theorem d_M_next_117 : decode b_M_next 117 = .ok (.if_icmp .ne 7, 3) := by decide +kernel
theorem d_M_next_120 : decode b_M_next 120 = .ok (.iconst 0, 1) := by decide +kernel
theorem d_M_next_121 : decode b_M_next 121 = .ok (.goto 4, 3) := by decide +kernel
theorem d_M_next_124 : decode b_M_next 124 = .ok (.iconst 1, 1) := by decide +kernel
theorem d_M_next_125 : decode b_M_next 125 = .ok (.putfield 99, 3) := by decide +kernel
theorem d_M_next_128 : decode b_M_next 128 = .ok (.aload_n 0, 1) := by decide +kernel
theorem d_M_next_129 : decode b_M_next 129 = .ok (.dup, 1) := by decide +kernel
theorem d_M_next_130 : decode b_M_next 130 = .ok (.getfield 93, 3) := by decide +kernel
theorem d_M_next_133 : decode b_M_next 133 = .ok (.iconst 1, 1) := by decide +kernel
theorem d_M_next_134 : decode b_M_next 134 = .ok (.iadd, 1) := by decide +kernel
theorem d_M_next_135 : decode b_M_next 135 = .ok (.putfield 93, 3) := by decide +kernel
theorem d_M_next_138 : decode b_M_next 138 = .ok (.return_, 1) := by decide +kernel
theorem d_M_next_139 : decode b_M_next 139 = .ok (.aload_n 0, 1) := by decide +kernel
theorem d_M_next_140 : decode b_M_next 140 = .ok (.aload_n 0, 1) := by decide +kernel
theorem d_M_next_141 : decode b_M_next 141 = .ok (.getfield 93, 3) := by decide +kernel
theorem d_M_next_144 : decode b_M_next 144 = .ok (.invokevirtual 102, 3) := by decide +kernel
theorem d_M_next_147 : decode b_M_next 147 = .ok (.ifCond .eq 16, 3) := by decide +kernel
theorem d_M_next_150 : decode b_M_next 150 = .ok (.aload_n 0, 1) := by decide +kernel
theorem d_M_next_151 : decode b_M_next 151 = .ok (.dup, 1) := by decide +kernel
theorem d_M_next_152 : decode b_M_next 152 = .ok (.getfield 93, 3) := by decide +kernel
theorem d_M_next_155 : decode b_M_next 155 = .ok (.iconst 1, 1) := by decide +kernel
theorem d_M_next_156 : decode b_M_next 156 = .ok (.iadd, 1) := by decide +kernel
theorem d_M_next_157 : decode b_M_next 157 = .ok (.putfield 93, 3) := by decide +kernel
theorem d_M_next_160 : decode b_M_next 160 = .ok (.goto (-21), 3) := by decide +kernel
theorem d_M_next_163 : decode b_M_next 163 = .ok (.aload_n 0, 1) := by decide +kernel
theorem d_M_next_164 : decode b_M_next 164 = .ok (.getfield 93, 3) := by decide +kernel
theorem d_M_next_167 : decode b_M_next 167 = .ok (.aload_n 0, 1) := by decide +kernel
theorem d_M_next_168 : decode b_M_next 168 = .ok (.getfield 96, 3) := by decide +kernel
theorem d_M_next_171 : decode b_M_next 171 = .ok (.if_icmp .ne 13, 3) := by decide +kernel
theorem d_M_next_174 : decode b_M_next 174 = .ok (.aload_n 0, 1) := by decide +kernel
theorem d_M_next_175 : decode b_M_next 175 = .ok (.iconst 1, 1) := by decide +kernel
theorem d_M_next_176 : decode b_M_next 176 = .ok (.aload_n 0, 1) := by decide +kernel
theorem d_M_next_177 : decode b_M_next 177 = .ok (.getfield 96, 3) := by decide +kernel
theorem d_M_next_180 : decode b_M_next 180 = .ok (.invokevirtual 105, 3) := by decide +kernel
theorem d_M_next_183 : decode b_M_next 183 = .ok (.return_, 1) := by decide +kernel
theorem d_M_next_184 : decode b_M_next 184 = .ok (.aload_n 0, 1) := by decide +kernel
theorem d_M_next_185 : decode b_M_next 185 = .ok (.getfield 7, 3) := by decide +kernel
theorem d_M_next_188 : decode b_M_next 188 = .ok (.aload_n 0, 1) := by decide +kernel
theorem d_M_next_189 : decode b_M_next 189 = .ok (.getfield 96, 3) := by decide +kernel
theorem d_M_next_192 : decode b_M_next 192 = .ok (.baload, 1) := by decide +kernel
theorem d_M_next_193 : decode b_M_next 193 = .ok (.invokestatic 86, 3) := by decide +kernel
theorem d_M_next_196 : decode b_M_next 196 = .ok (.ifCond .eq 10, 3) := by decide +kernel
theorem d_M_next_199 : decode b_M_next 199 = .ok (.aload_n 0, 1) := by decide +kernel
theorem d_M_next_200 : decode b_M_next 200 = .ok (.invokevirtual 109, 3) := by decide +kernel
theorem d_M_next_203 : decode b_M_next 203 = .ok (.goto 7, 3) := by decide +kernel
theorem d_M_next_206 : decode b_M_next 206 = .ok (.aload_n 0, 1) := by decide +kernel
theorem d_M_next_207 : decode b_M_next 207 = .ok (.invokevirtual 112, 3) := by decide +kernel
theorem d_M_next_210 : decode b_M_next 210 = .ok (.return_, 1) := by decide +kernel
theorem d_M_isRun_0 : decode b_M_isRun 0 = .ok (.iload_n 1, 1) := by decide +kernel
theorem d_M_isRun_1 : decode b_M_isRun 1 = .ok (.aload_n 0, 1) := by decide +kernel
theorem d_M_isRun_2 : decode b_M_isRun 2 = .ok (.getfield 80, 3) := by decide +kernel
theorem d_M_isRun_5 : decode b_M_isRun 5 = .ok (.if_icmp .ge 42, 3) := by decide +kernel
theorem d_M_isRun_8 : decode b_M_isRun 8 = .ok (.aload_n 0, 1) := by decide +kernel
theorem d_M_isRun_9 : decode b_M_isRun 9 = .ok (.getfield 7, 3) := by decide +kernel
theorem d_M_isRun_12 : decode b_M_isRun 12 = .ok (.iload_n 1, 1) := by decide +kernel
theorem d_M_isRun_13 : decode b_M_isRun 13 = .ok (.baload, 1) := by decide +kernel
theorem d_M_isRun_14 : decode b_M_isRun 14 = .ok (.invokestatic 86, 3) := by decide +kernel
theorem d_M_isRun_17 : decode b_M_isRun 17 = .ok (.ifCond .ne 26, 3) := by decide +kernel
theorem d_M_isRun_20 : decode b_M_isRun 20 = .ok (.aload_n 0, 1) := by decide +kernel
theorem d_M_isRun_21 : decode b_M_isRun 21 = .ok (.getfield 7, 3) := by decide +kernel
theorem d_M_isRun_24 : decode b_M_isRun 24 = .ok (.iload_n 1, 1) := by decide +kernel
theorem d_M_isRun_25 : decode b_M_isRun 25 = .ok (.baload, 1) := by decide +kernel
theorem d_M_isRun_26 : decode b_M_isRun 26 = .ok (.invokestatic 90, 3) := by decide +kernel
theorem d_M_isRun_29 : decode b_M_isRun 29 = .ok (.ifCond .ne 14, 3) := by decide +kernel
theorem d_M_isRun_32 : decode b_M_isRun 32 = .ok (.aload_n 0, 1) := by decide +kernel
theorem d_M_isRun_33 : decode b_M_isRun 33 = .ok (.getfield 7, 3) := by decide +kernel
theorem d_M_isRun_36 : decode b_M_isRun 36 = .ok (.iload_n 1, 1) := by decide +kernel
theorem d_M_isRun_37 : decode b_M_isRun 37 = .ok (.baload, 1) := by decide +kernel
theorem d_M_isRun_38 : decode b_M_isRun 38 = .ok (.bipush 45, 2) := by decide +kernel
theorem d_M_isRun_40 : decode b_M_isRun 40 = .ok (.if_icmp .ne 7, 3) := by decide +kernel
theorem d_M_isRun_43 : decode b_M_isRun 43 = .ok (.iconst 1, 1) := by decide +kernel
theorem d_M_isRun_44 : decode b_M_isRun 44 = .ok (.goto 4, 3) := by decide +kernel
theorem d_M_isRun_47 : decode b_M_isRun 47 = .ok (.iconst 0, 1) := by decide +kernel
theorem d_M_isRun_48 : decode b_M_isRun 48 = .ok (.ireturn, 1) := by decide +kernel
theorem d_M_isLetter_0 : decode b_M_isLetter 0 = .ok (.iload_n 0, 1) := by decide +kernel
theorem d_M_isLetter_1 : decode b_M_isLetter 1 = .ok (.bipush 97, 2) := by decide +kernel
theorem d_M_isLetter_3 : decode b_M_isLetter 3 = .ok (.if_icmp .lt 13, 3) := by decide +kernel
theorem d_M_isLetter_6 : decode b_M_isLetter 6 = .ok (.iload_n 0, 1) := by decide +kernel
theorem d_M_isLetter_7 : decode b_M_isLetter 7 = .ok (.bipush 122, 2) := by decide +kernel
theorem d_M_isLetter_9 : decode b_M_isLetter 9 = .ok (.if_icmp .gt 7, 3) := by decide +kernel
theorem d_M_isLetter_12 : decode b_M_isLetter 12 = .ok (.iconst 1, 1) := by decide +kernel
theorem d_M_isLetter_13 : decode b_M_isLetter 13 = .ok (.goto 4, 3) := by decide +kernel
theorem d_M_isLetter_16 : decode b_M_isLetter 16 = .ok (.iconst 0, 1) := by decide +kernel
theorem d_M_isLetter_17 : decode b_M_isLetter 17 = .ok (.ireturn, 1) := by decide +kernel
theorem d_M_isDigit_0 : decode b_M_isDigit 0 = .ok (.iload_n 0, 1) := by decide +kernel
theorem d_M_isDigit_1 : decode b_M_isDigit 1 = .ok (.bipush 48, 2) := by decide +kernel
theorem d_M_isDigit_3 : decode b_M_isDigit 3 = .ok (.if_icmp .lt 13, 3) := by decide +kernel
theorem d_M_isDigit_6 : decode b_M_isDigit 6 = .ok (.iload_n 0, 1) := by decide +kernel
theorem d_M_isDigit_7 : decode b_M_isDigit 7 = .ok (.bipush 57, 2) := by decide +kernel
theorem d_M_isDigit_9 : decode b_M_isDigit 9 = .ok (.if_icmp .gt 7, 3) := by decide +kernel
theorem d_M_isDigit_12 : decode b_M_isDigit 12 = .ok (.iconst 1, 1) := by decide +kernel
theorem d_M_isDigit_13 : decode b_M_isDigit 13 = .ok (.goto 4, 3) := by decide +kernel
theorem d_M_isDigit_16 : decode b_M_isDigit 16 = .ok (.iconst 0, 1) := by decide +kernel
theorem d_M_isDigit_17 : decode b_M_isDigit 17 = .ok (.ireturn, 1) := by decide +kernel
theorem d_M_wrong_0 : decode b_M_wrong 0 = .ok (.aload_n 0, 1) := by decide +kernel
theorem d_M_wrong_1 : decode b_M_wrong 1 = .ok (.getfield 83, 3) := by decide +kernel
theorem d_M_wrong_4 : decode b_M_wrong 4 = .ok (.ifCond .ne 13, 3) := by decide +kernel
theorem d_M_wrong_7 : decode b_M_wrong 7 = .ok (.aload_n 0, 1) := by decide +kernel
theorem d_M_wrong_8 : decode b_M_wrong 8 = .ok (.iload_n 1, 1) := by decide +kernel
theorem d_M_wrong_9 : decode b_M_wrong 9 = .ok (.putfield 83, 3) := by decide +kernel
theorem d_M_wrong_12 : decode b_M_wrong 12 = .ok (.aload_n 0, 1) := by decide +kernel
theorem d_M_wrong_13 : decode b_M_wrong 13 = .ok (.iload_n 2, 1) := by decide +kernel
theorem d_M_wrong_14 : decode b_M_wrong 14 = .ok (.putfield 13, 3) := by decide +kernel
theorem d_M_wrong_17 : decode b_M_wrong 17 = .ok (.return_, 1) := by decide +kernel
theorem d_M_readName_0 : decode b_M_readName 0 = .ok (.aload_n 0, 1) := by decide +kernel
theorem d_M_readName_1 : decode b_M_readName 1 = .ok (.iconst 2, 1) := by decide +kernel
theorem d_M_readName_2 : decode b_M_readName 2 = .ok (.putfield 99, 3) := by decide +kernel
theorem d_M_readName_5 : decode b_M_readName 5 = .ok (.aload_n 0, 1) := by decide +kernel
theorem d_M_readName_6 : decode b_M_readName 6 = .ok (.lconst 0, 1) := by decide +kernel
theorem d_M_readName_7 : decode b_M_readName 7 = .ok (.putfield 115, 3) := by decide +kernel
theorem d_M_readName_10 : decode b_M_readName 10 = .ok (.aload_n 0, 1) := by decide +kernel
theorem d_M_readName_11 : decode b_M_readName 11 = .ok (.getfield 93, 3) := by decide +kernel
theorem d_M_readName_14 : decode b_M_readName 14 = .ok (.aload_n 0, 1) := by decide +kernel
theorem d_M_readName_15 : decode b_M_readName 15 = .ok (.getfield 96, 3) := by decide +kernel
theorem d_M_readName_18 : decode b_M_readName 18 = .ok (.isub, 1) := by decide +kernel
theorem d_M_readName_19 : decode b_M_readName 19 = .ok (.bipush 12, 2) := by decide +kernel
theorem d_M_readName_21 : decode b_M_readName 21 = .ok (.if_icmp .gt 7, 3) := by decide +kernel
theorem d_M_readName_24 : decode b_M_readName 24 = .ok (.iconst 1, 1) := by decide +kernel
theorem d_M_readName_25 : decode b_M_readName 25 = .ok (.goto 4, 3) := by decide +kernel
theorem d_M_readName_28 : decode b_M_readName 28 = .ok (.iconst 0, 1) := by decide +kernel
theorem d_M_readName_29 : decode b_M_readName 29 = .ok (.istore_n 1, 1) := by decide +kernel
theorem d_M_readName_30 : decode b_M_readName 30 = .ok (.aload_n 0, 1) := by decide +kernel
theorem d_M_readName_31 : decode b_M_readName 31 = .ok (.getfield 96, 3) := by decide +kernel
theorem d_M_readName_34 : decode b_M_readName 34 = .ok (.istore_n 2, 1) := by decide +kernel
theorem d_M_readName_35 : decode b_M_readName 35 = .ok (.iload_n 2, 1) := by decide +kernel
theorem d_M_readName_36 : decode b_M_readName 36 = .ok (.aload_n 0, 1) := by decide +kernel
theorem d_M_readName_37 : decode b_M_readName 37 = .ok (.getfield 93, 3) := by decide +kernel
theorem d_M_readName_40 : decode b_M_readName 40 = .ok (.if_icmp .ge 56, 3) := by decide +kernel
theorem d_M_readName_43 : decode b_M_readName 43 = .ok (.iload_n 1, 1) := by decide +kernel
theorem d_M_readName_44 : decode b_M_readName 44 = .ok (.ifCond .eq 19, 3) := by decide +kernel
theorem d_M_readName_47 : decode b_M_readName 47 = .ok (.aload_n 0, 1) := by decide +kernel
theorem d_M_readName_48 : decode b_M_readName 48 = .ok (.getfield 7, 3) := by decide +kernel
theorem d_M_readName_51 : decode b_M_readName 51 = .ok (.iload_n 2, 1) := by decide +kernel
theorem d_M_readName_52 : decode b_M_readName 52 = .ok (.baload, 1) := by decide +kernel
theorem d_M_readName_53 : decode b_M_readName 53 = .ok (.invokestatic 86, 3) := by decide +kernel
theorem d_M_readName_56 : decode b_M_readName 56 = .ok (.ifCond .eq 7, 3) := by decide +kernel
theorem d_M_readName_59 : decode b_M_readName 59 = .ok (.iconst 1, 1) := by decide +kernel
theorem d_M_readName_60 : decode b_M_readName 60 = .ok (.goto 4, 3) := by decide +kernel
theorem d_M_readName_63 : decode b_M_readName 63 = .ok (.iconst 0, 1) := by decide +kernel
theorem d_M_readName_64 : decode b_M_readName 64 = .ok (.istore_n 1, 1) := by decide +kernel
theorem d_M_readName_65 : decode b_M_readName 65 = .ok (.aload_n 0, 1) := by decide +kernel
theorem d_M_readName_66 : decode b_M_readName 66 = .ok (.ldc2_w 119, 3) := by decide +kernel
theorem d_M_readName_69 : decode b_M_readName 69 = .ok (.aload_n 0, 1) := by decide +kernel
theorem d_M_readName_70 : decode b_M_readName 70 = .ok (.getfield 115, 3) := by decide +kernel
theorem d_M_readName_73 : decode b_M_readName 73 = .ok (.lmul, 1) := by decide +kernel
theorem d_M_readName_74 : decode b_M_readName 74 = .ok (.aload_n 0, 1) := by decide +kernel
theorem d_M_readName_75 : decode b_M_readName 75 = .ok (.getfield 7, 3) := by decide +kernel
theorem d_M_readName_78 : decode b_M_readName 78 = .ok (.iload_n 2, 1) := by decide +kernel
theorem d_M_readName_79 : decode b_M_readName 79 = .ok (.baload, 1) := by decide +kernel
theorem d_M_readName_80 : decode b_M_readName 80 = .ok (.bipush 97, 2) := by decide +kernel
theorem d_M_readName_82 : decode b_M_readName 82 = .ok (.isub, 1) := by decide +kernel
theorem d_M_readName_83 : decode b_M_readName 83 = .ok (.iconst 1, 1) := by decide +kernel
theorem d_M_readName_84 : decode b_M_readName 84 = .ok (.iadd, 1) := by decide +kernel
theorem d_M_readName_85 : decode b_M_readName 85 = .ok (.i2l, 1) := by decide +kernel
theorem d_M_readName_86 : decode b_M_readName 86 = .ok (.ladd, 1) := by decide +kernel
theorem d_M_readName_87 : decode b_M_readName 87 = .ok (.putfield 115, 3) := by decide +kernel
theorem d_M_readName_90 : decode b_M_readName 90 = .ok (.iinc 2 1, 3) := by decide +kernel
theorem d_M_readName_93 : decode b_M_readName 93 = .ok (.goto (-58), 3) := by decide +kernel
theorem d_M_readName_96 : decode b_M_readName 96 = .ok (.iload_n 1, 1) := by decide +kernel
theorem d_M_readName_97 : decode b_M_readName 97 = .ok (.ifCond .ne 12, 3) := by decide +kernel
theorem d_M_readName_100 : decode b_M_readName 100 = .ok (.aload_n 0, 1) := by decide +kernel
theorem d_M_readName_101 : decode b_M_readName 101 = .ok (.iconst 1, 1) := by decide +kernel
theorem d_M_readName_102 : decode b_M_readName 102 = .ok (.aload_n 0, 1) := by decide +kernel
theorem d_M_readName_103 : decode b_M_readName 103 = .ok (.getfield 96, 3) := by decide +kernel
theorem d_M_readName_106 : decode b_M_readName 106 = .ok (.invokevirtual 105, 3) := by decide +kernel
theorem d_M_readName_109 : decode b_M_readName 109 = .ok (.return_, 1) := by decide +kernel
theorem d_M_readNumber_0 : decode b_M_readNumber 0 = .ok (.aload_n 0, 1) := by decide +kernel
theorem d_M_readNumber_1 : decode b_M_readNumber 1 = .ok (.iconst 3, 1) := by decide +kernel
theorem d_M_readNumber_2 : decode b_M_readNumber 2 = .ok (.putfield 99, 3) := by decide +kernel
theorem d_M_readNumber_5 : decode b_M_readNumber 5 = .ok (.aload_n 0, 1) := by decide +kernel
theorem d_M_readNumber_6 : decode b_M_readNumber 6 = .ok (.getfield 7, 3) := by decide +kernel
theorem d_M_readNumber_9 : decode b_M_readNumber 9 = .ok (.aload_n 0, 1) := by decide +kernel
theorem d_M_readNumber_10 : decode b_M_readNumber 10 = .ok (.getfield 96, 3) := by decide +kernel
theorem d_M_readNumber_13 : decode b_M_readNumber 13 = .ok (.baload, 1) := by decide +kernel
