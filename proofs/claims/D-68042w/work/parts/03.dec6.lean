theorem d_M_parameter_30 : decode b_M_parameter 30 = .ok (.iload_n 1, 1) := by decide +kernel
theorem d_M_parameter_31 : decode b_M_parameter 31 = .ok (.goto 4, 3) := by decide +kernel
theorem d_M_parameter_34 : decode b_M_parameter 34 = .ok (.iconst 0, 1) := by decide +kernel
theorem d_M_parameter_35 : decode b_M_parameter 35 = .ok (.iaload, 1) := by decide +kernel
theorem d_M_parameter_36 : decode b_M_parameter 36 = .ok (.if_icmp .ge 17, 3) := by decide +kernel
theorem d_M_parameter_39 : decode b_M_parameter 39 = .ok (.aload_n 0, 1) := by decide +kernel
theorem d_M_parameter_40 : decode b_M_parameter 40 = .ok (.getfield 40, 3) := by decide +kernel
theorem d_M_parameter_43 : decode b_M_parameter 43 = .ok (.bipush 8, 2) := by decide +kernel
theorem d_M_parameter_45 : decode b_M_parameter 45 = .ok (.iload_n 1, 1) := by decide +kernel
theorem d_M_parameter_46 : decode b_M_parameter 46 = .ok (.imul, 1) := by decide +kernel
theorem d_M_parameter_47 : decode b_M_parameter 47 = .ok (.iload_n 2, 1) := by decide +kernel
theorem d_M_parameter_48 : decode b_M_parameter 48 = .ok (.iadd, 1) := by decide +kernel
theorem d_M_parameter_49 : decode b_M_parameter 49 = .ok (.iaload, 1) := by decide +kernel
theorem d_M_parameter_50 : decode b_M_parameter 50 = .ok (.goto 4, 3) := by decide +kernel
theorem d_M_parameter_53 : decode b_M_parameter 53 = .ok (.iconst (-1), 1) := by decide +kernel
theorem d_M_parameter_54 : decode b_M_parameter 54 = .ok (.ireturn, 1) := by decide +kernel
theorem d_M_node_0 : decode b_M_node 0 = .ok (.aload_n 0, 1) := by decide +kernel
theorem d_M_node_1 : decode b_M_node 1 = .ok (.iconst 0, 1) := by decide +kernel
theorem d_M_node_2 : decode b_M_node 2 = .ok (.putfield 77, 3) := by decide +kernel
theorem d_M_node_5 : decode b_M_node 5 = .ok (.iload_n 1, 1) := by decide +kernel
theorem d_M_node_6 : decode b_M_node 6 = .ok (.ifCond .lt 11, 3) := by decide +kernel
theorem d_M_node_9 : decode b_M_node 9 = .ok (.iload_n 1, 1) := by decide +kernel
theorem d_M_node_10 : decode b_M_node 10 = .ok (.aload_n 0, 1) := by decide +kernel
theorem d_M_node_11 : decode b_M_node 11 = .ok (.getfield 207, 3) := by decide +kernel
theorem d_M_node_14 : decode b_M_node 14 = .ok (.if_icmp .lt 5, 3) := by decide +kernel
theorem d_M_node_17 : decode b_M_node 17 = .ok (.iconst (-1), 1) := by decide +kernel
theorem d_M_node_18 : decode b_M_node 18 = .ok (.ireturn, 1) := by decide +kernel
theorem d_M_node_19 : decode b_M_node 19 = .ok (.iload_n 2, 1) := by decide +kernel
theorem d_M_node_20 : decode b_M_node 20 = .ok (.tableswitch 106 0 7 #[48, 55, 62, 71, 78, 85, 92, 99], 48) := by decide +kernel
theorem d_M_node_68 : decode b_M_node 68 = .ok (.aload_n 0, 1) := by decide +kernel
theorem d_M_node_69 : decode b_M_node 69 = .ok (.getfield 43, 3) := by decide +kernel
theorem d_M_node_72 : decode b_M_node 72 = .ok (.iload_n 1, 1) := by decide +kernel
theorem d_M_node_73 : decode b_M_node 73 = .ok (.iaload, 1) := by decide +kernel
theorem d_M_node_74 : decode b_M_node 74 = .ok (.ireturn, 1) := by decide +kernel
theorem d_M_node_75 : decode b_M_node 75 = .ok (.aload_n 0, 1) := by decide +kernel
theorem d_M_node_76 : decode b_M_node 76 = .ok (.iload_n 1, 1) := by decide +kernel
theorem d_M_node_77 : decode b_M_node 77 = .ok (.iconst 1, 1) := by decide +kernel
theorem d_M_node_78 : decode b_M_node 78 = .ok (.invokevirtual 267, 3) := by decide +kernel
theorem d_M_node_81 : decode b_M_node 81 = .ok (.ireturn, 1) := by decide +kernel
theorem d_M_node_82 : decode b_M_node 82 = .ok (.iconst 1, 1) := by decide +kernel
theorem d_M_node_83 : decode b_M_node 83 = .ok (.aload_n 0, 1) := by decide +kernel
theorem d_M_node_84 : decode b_M_node 84 = .ok (.iload_n 1, 1) := by decide +kernel
theorem d_M_node_85 : decode b_M_node 85 = .ok (.iconst 0, 1) := by decide +kernel
theorem d_M_node_86 : decode b_M_node 86 = .ok (.invokevirtual 267, 3) := by decide +kernel
theorem d_M_node_89 : decode b_M_node 89 = .ok (.iadd, 1) := by decide +kernel
theorem d_M_node_90 : decode b_M_node 90 = .ok (.ireturn, 1) := by decide +kernel
theorem d_M_node_91 : decode b_M_node 91 = .ok (.aload_n 0, 1) := by decide +kernel
theorem d_M_node_92 : decode b_M_node 92 = .ok (.getfield 49, 3) := by decide +kernel
theorem d_M_node_95 : decode b_M_node 95 = .ok (.iload_n 1, 1) := by decide +kernel
theorem d_M_node_96 : decode b_M_node 96 = .ok (.iaload, 1) := by decide +kernel
theorem d_M_node_97 : decode b_M_node 97 = .ok (.ireturn, 1) := by decide +kernel
theorem d_M_node_98 : decode b_M_node 98 = .ok (.aload_n 0, 1) := by decide +kernel
theorem d_M_node_99 : decode b_M_node 99 = .ok (.getfield 46, 3) := by decide +kernel
theorem d_M_node_102 : decode b_M_node 102 = .ok (.iload_n 1, 1) := by decide +kernel
theorem d_M_node_103 : decode b_M_node 103 = .ok (.iaload, 1) := by decide +kernel
theorem d_M_node_104 : decode b_M_node 104 = .ok (.ireturn, 1) := by decide +kernel
theorem d_M_node_105 : decode b_M_node 105 = .ok (.aload_n 0, 1) := by decide +kernel
theorem d_M_node_106 : decode b_M_node 106 = .ok (.getfield 52, 3) := by decide +kernel
theorem d_M_node_109 : decode b_M_node 109 = .ok (.iload_n 1, 1) := by decide +kernel
theorem d_M_node_110 : decode b_M_node 110 = .ok (.iaload, 1) := by decide +kernel
theorem d_M_node_111 : decode b_M_node 111 = .ok (.ireturn, 1) := by decide +kernel
theorem d_M_node_112 : decode b_M_node 112 = .ok (.aload_n 0, 1) := by decide +kernel
theorem d_M_node_113 : decode b_M_node 113 = .ok (.getfield 55, 3) := by decide +kernel
theorem d_M_node_116 : decode b_M_node 116 = .ok (.iload_n 1, 1) := by decide +kernel
theorem d_M_node_117 : decode b_M_node 117 = .ok (.iaload, 1) := by decide +kernel
theorem d_M_node_118 : decode b_M_node 118 = .ok (.ireturn, 1) := by decide +kernel
theorem d_M_node_119 : decode b_M_node 119 = .ok (.aload_n 0, 1) := by decide +kernel
theorem d_M_node_120 : decode b_M_node 120 = .ok (.getfield 58, 3) := by decide +kernel
theorem d_M_node_123 : decode b_M_node 123 = .ok (.iload_n 1, 1) := by decide +kernel
theorem d_M_node_124 : decode b_M_node 124 = .ok (.iaload, 1) := by decide +kernel
theorem d_M_node_125 : decode b_M_node 125 = .ok (.ireturn, 1) := by decide +kernel
theorem d_M_node_126 : decode b_M_node 126 = .ok (.iconst (-1), 1) := by decide +kernel
theorem d_M_node_127 : decode b_M_node 127 = .ok (.ireturn, 1) := by decide +kernel
theorem d_M_within_0 : decode b_M_within 0 = .ok (.iconst 0, 1) := by decide +kernel
theorem d_M_within_1 : decode b_M_within 1 = .ok (.istore_n 3, 1) := by decide +kernel
theorem d_M_within_2 : decode b_M_within 2 = .ok (.iload_n 1, 1) := by decide +kernel
theorem d_M_within_3 : decode b_M_within 3 = .ok (.iconst 1, 1) := by decide +kernel
theorem d_M_within_4 : decode b_M_within 4 = .ok (.iadd, 1) := by decide +kernel
theorem d_M_within_5 : decode b_M_within 5 = .ok (.istore 4, 2) := by decide +kernel
theorem d_M_within_7 : decode b_M_within 7 = .ok (.iload 4, 2) := by decide +kernel
theorem d_M_within_9 : decode b_M_within 9 = .ok (.aload_n 0, 1) := by decide +kernel
theorem d_M_within_10 : decode b_M_within 10 = .ok (.getfield 207, 3) := by decide +kernel
theorem d_M_within_13 : decode b_M_within 13 = .ok (.if_icmp .ge 43, 3) := by decide +kernel
theorem d_M_within_16 : decode b_M_within 16 = .ok (.aload_n 0, 1) := by decide +kernel
theorem d_M_within_17 : decode b_M_within 17 = .ok (.getfield 46, 3) := by decide +kernel
theorem d_M_within_20 : decode b_M_within 20 = .ok (.iload 4, 2) := by decide +kernel
theorem d_M_within_22 : decode b_M_within 22 = .ok (.iaload, 1) := by decide +kernel
theorem d_M_within_23 : decode b_M_within 23 = .ok (.iload_n 1, 1) := by decide +kernel
theorem d_M_within_24 : decode b_M_within 24 = .ok (.if_icmp .lt 32, 3) := by decide +kernel
theorem d_M_within_27 : decode b_M_within 27 = .ok (.iload_n 3, 1) := by decide +kernel
theorem d_M_within_28 : decode b_M_within 28 = .ok (.iload_n 2, 1) := by decide +kernel
theorem d_M_within_29 : decode b_M_within 29 = .ok (.ifCond .eq 14, 3) := by decide +kernel
theorem d_M_within_32 : decode b_M_within 32 = .ok (.aload_n 0, 1) := by decide +kernel
theorem d_M_within_33 : decode b_M_within 33 = .ok (.getfield 46, 3) := by decide +kernel
theorem d_M_within_36 : decode b_M_within 36 = .ok (.iload 4, 2) := by decide +kernel
theorem d_M_within_38 : decode b_M_within 38 = .ok (.iaload, 1) := by decide +kernel
theorem d_M_within_39 : decode b_M_within 39 = .ok (.iload_n 1, 1) := by decide +kernel
theorem d_M_within_40 : decode b_M_within 40 = .ok (.if_icmp .ne 7, 3) := by decide +kernel
theorem d_M_within_43 : decode b_M_within 43 = .ok (.iconst 1, 1) := by decide +kernel
theorem d_M_within_44 : decode b_M_within 44 = .ok (.goto 4, 3) := by decide +kernel
theorem d_M_within_47 : decode b_M_within 47 = .ok (.iconst 0, 1) := by decide +kernel
theorem d_M_within_48 : decode b_M_within 48 = .ok (.iadd, 1) := by decide +kernel
theorem d_M_within_49 : decode b_M_within 49 = .ok (.istore_n 3, 1) := by decide +kernel
theorem d_M_within_50 : decode b_M_within 50 = .ok (.iinc 4 1, 3) := by decide +kernel
theorem d_M_within_53 : decode b_M_within 53 = .ok (.goto (-46), 3) := by decide +kernel
theorem d_M_within_56 : decode b_M_within 56 = .ok (.iload_n 3, 1) := by decide +kernel
theorem d_M_within_57 : decode b_M_within 57 = .ok (.ireturn, 1) := by decide +kernel
theorem d_M_name_0 : decode b_M_name 0 = .ok (.aload_n 0, 1) := by decide +kernel
theorem d_M_name_1 : decode b_M_name 1 = .ok (.iconst 0, 1) := by decide +kernel
theorem d_M_name_2 : decode b_M_name 2 = .ok (.putfield 77, 3) := by decide +kernel
theorem d_M_name_5 : decode b_M_name 5 = .ok (.iload_n 1, 1) := by decide +kernel
theorem d_M_name_6 : decode b_M_name 6 = .ok (.ifCond .lt 20, 3) := by decide +kernel
theorem d_M_name_9 : decode b_M_name 9 = .ok (.iload_n 1, 1) := by decide +kernel
theorem d_M_name_10 : decode b_M_name 10 = .ok (.aload_n 0, 1) := by decide +kernel
theorem d_M_name_11 : decode b_M_name 11 = .ok (.getfield 207, 3) := by decide +kernel
theorem d_M_name_14 : decode b_M_name 14 = .ok (.if_icmp .ge 12, 3) := by decide +kernel
theorem d_M_name_17 : decode b_M_name 17 = .ok (.iload_n 2, 1) := by decide +kernel
theorem d_M_name_18 : decode b_M_name 18 = .ok (.ifCond .lt 8, 3) := by decide +kernel
theorem d_M_name_21 : decode b_M_name 21 = .ok (.iload_n 2, 1) := by decide +kernel
theorem d_M_name_22 : decode b_M_name 22 = .ok (.iconst 1, 1) := by decide +kernel
theorem d_M_name_23 : decode b_M_name 23 = .ok (.if_icmp .le 7, 3) := by decide +kernel
theorem d_M_name_26 : decode b_M_name 26 = .ok (.lconst 0, 1) := by decide +kernel
theorem d_M_name_27 : decode b_M_name 27 = .ok (.goto 22, 3) := by decide +kernel
theorem d_M_name_30 : decode b_M_name 30 = .ok (.iload_n 2, 1) := by decide +kernel
theorem d_M_name_31 : decode b_M_name 31 = .ok (.ifCond .ne 12, 3) := by decide +kernel
theorem d_M_name_34 : decode b_M_name 34 = .ok (.aload_n 0, 1) := by decide +kernel
theorem d_M_name_35 : decode b_M_name 35 = .ok (.getfield 64, 3) := by decide +kernel
theorem d_M_name_38 : decode b_M_name 38 = .ok (.iload_n 1, 1) := by decide +kernel
theorem d_M_name_39 : decode b_M_name 39 = .ok (.laload, 1) := by decide +kernel
theorem d_M_name_40 : decode b_M_name 40 = .ok (.goto 9, 3) := by decide +kernel
theorem d_M_name_43 : decode b_M_name 43 = .ok (.aload_n 0, 1) := by decide +kernel
theorem d_M_name_44 : decode b_M_name 44 = .ok (.getfield 67, 3) := by decide +kernel
theorem d_M_name_47 : decode b_M_name 47 = .ok (.iload_n 1, 1) := by decide +kernel
theorem d_M_name_48 : decode b_M_name 48 = .ok (.laload, 1) := by decide +kernel
theorem d_M_name_49 : decode b_M_name 49 = .ok (.lreturn, 1) := by decide +kernel
theorem d_M_number_0 : decode b_M_number 0 = .ok (.aload_n 0, 1) := by decide +kernel
theorem d_M_number_1 : decode b_M_number 1 = .ok (.iconst 0, 1) := by decide +kernel
theorem d_M_number_2 : decode b_M_number 2 = .ok (.putfield 77, 3) := by decide +kernel
theorem d_M_number_5 : decode b_M_number 5 = .ok (.iload_n 1, 1) := by decide +kernel
theorem d_M_number_6 : decode b_M_number 6 = .ok (.ifCond .lt 11, 3) := by decide +kernel
theorem d_M_number_9 : decode b_M_number 9 = .ok (.iload_n 1, 1) := by decide +kernel
theorem d_M_number_10 : decode b_M_number 10 = .ok (.aload_n 0, 1) := by decide +kernel
theorem d_M_number_11 : decode b_M_number 11 = .ok (.getfield 207, 3) := by decide +kernel
theorem d_M_number_14 : decode b_M_number 14 = .ok (.if_icmp .lt 7, 3) := by decide +kernel
theorem d_M_number_17 : decode b_M_number 17 = .ok (.iconst 0, 1) := by decide +kernel
theorem d_M_number_18 : decode b_M_number 18 = .ok (.goto 9, 3) := by decide +kernel
theorem d_M_number_21 : decode b_M_number 21 = .ok (.aload_n 0, 1) := by decide +kernel
theorem d_M_number_22 : decode b_M_number 22 = .ok (.getfield 61, 3) := by decide +kernel
theorem d_M_number_25 : decode b_M_number 25 = .ok (.iload_n 1, 1) := by decide +kernel
theorem d_M_number_26 : decode b_M_number 26 = .ok (.iaload, 1) := by decide +kernel
theorem d_M_number_27 : decode b_M_number 27 = .ok (.ireturn, 1) := by decide +kernel
theorem d_M_look_0 : decode b_M_look 0 = .ok (.aload_n 0, 1) := by decide +kernel
theorem d_M_look_1 : decode b_M_look 1 = .ok (.iconst 0, 1) := by decide +kernel
theorem d_M_look_2 : decode b_M_look 2 = .ok (.putfield 77, 3) := by decide +kernel
theorem d_M_look_5 : decode b_M_look 5 = .ok (.iload_n 1, 1) := by decide +kernel
theorem d_M_look_6 : decode b_M_look 6 = .ok (.ifCond .ne 10, 3) := by decide +kernel
theorem d_M_look_9 : decode b_M_look 9 = .ok (.aload_n 0, 1) := by decide +kernel
theorem d_M_look_10 : decode b_M_look 10 = .ok (.getfield 80, 3) := by decide +kernel
theorem d_M_look_13 : decode b_M_look 13 = .ok (.goto 52, 3) := by decide +kernel
theorem d_M_look_16 : decode b_M_look 16 = .ok (.iload_n 1, 1) := by decide +kernel
theorem d_M_look_17 : decode b_M_look 17 = .ok (.iconst 1, 1) := by decide +kernel
theorem d_M_look_18 : decode b_M_look 18 = .ok (.if_icmp .ne 10, 3) := by decide +kernel
theorem d_M_look_21 : decode b_M_look 21 = .ok (.aload_n 0, 1) := by decide +kernel
theorem d_M_look_22 : decode b_M_look 22 = .ok (.getfield 83, 3) := by decide +kernel
theorem d_M_look_25 : decode b_M_look 25 = .ok (.goto 40, 3) := by decide +kernel
theorem d_M_look_28 : decode b_M_look 28 = .ok (.iload_n 1, 1) := by decide +kernel
theorem d_M_look_29 : decode b_M_look 29 = .ok (.iconst 2, 1) := by decide +kernel
theorem d_M_look_30 : decode b_M_look 30 = .ok (.if_icmp .ne 10, 3) := by decide +kernel
theorem d_M_look_33 : decode b_M_look 33 = .ok (.aload_n 0, 1) := by decide +kernel
theorem d_M_look_34 : decode b_M_look 34 = .ok (.getfield 13, 3) := by decide +kernel
theorem d_M_look_37 : decode b_M_look 37 = .ok (.goto 28, 3) := by decide +kernel
theorem d_M_look_40 : decode b_M_look 40 = .ok (.iload_n 1, 1) := by decide +kernel
theorem d_M_look_41 : decode b_M_look 41 = .ok (.iconst 3, 1) := by decide +kernel
theorem d_M_look_42 : decode b_M_look 42 = .ok (.if_icmp .ne 10, 3) := by decide +kernel
theorem d_M_look_45 : decode b_M_look 45 = .ok (.aload_n 0, 1) := by decide +kernel
theorem d_M_look_46 : decode b_M_look 46 = .ok (.getfield 251, 3) := by decide +kernel
theorem d_M_look_49 : decode b_M_look 49 = .ok (.goto 16, 3) := by decide +kernel
theorem d_M_look_52 : decode b_M_look 52 = .ok (.iload_n 1, 1) := by decide +kernel
theorem d_M_look_53 : decode b_M_look 53 = .ok (.iconst 4, 1) := by decide +kernel
theorem d_M_look_54 : decode b_M_look 54 = .ok (.if_icmp .ne 10, 3) := by decide +kernel
theorem d_M_look_57 : decode b_M_look 57 = .ok (.aload_n 0, 1) := by decide +kernel
theorem d_M_look_58 : decode b_M_look 58 = .ok (.getfield 207, 3) := by decide +kernel
theorem d_M_look_61 : decode b_M_look 61 = .ok (.goto 4, 3) := by decide +kernel
theorem d_M_look_64 : decode b_M_look 64 = .ok (.iconst (-1), 1) := by decide +kernel
theorem d_M_look_65 : decode b_M_look 65 = .ok (.ireturn, 1) := by decide +kernel
theorem d_law_0 : decode code 0 = .ok (.new 7, 3) := by decide +kernel
theorem d_law_3 : decode code 3 = .ok (.dup, 1) := by decide +kernel
theorem d_law_4 : decode code 4 = .ok (.invokespecial 9, 3) := by decide +kernel
theorem d_law_7 : decode code 7 = .ok (.astore_n 1, 1) := by decide +kernel
theorem d_law_8 : decode code 8 = .ok (.new 10, 3) := by decide +kernel
theorem d_law_11 : decode code 11 = .ok (.dup, 1) := by decide +kernel
theorem d_law_12 : decode code 12 = .ok (.invokespecial 12, 3) := by decide +kernel
theorem d_law_15 : decode code 15 = .ok (.astore_n 2, 1) := by decide +kernel
theorem d_law_16 : decode code 16 = .ok (.iconst 0, 1) := by decide +kernel
theorem d_law_17 : decode code 17 = .ok (.istore_n 3, 1) := by decide +kernel
theorem d_law_18 : decode code 18 = .ok (.iload_n 3, 1) := by decide +kernel
theorem d_law_19 : decode code 19 = .ok (.aload_n 0, 1) := by decide +kernel
theorem d_law_20 : decode code 20 = .ok (.arraylength, 1) := by decide +kernel
theorem d_law_21 : decode code 21 = .ok (.iconst 4, 1) := by decide +kernel
theorem d_law_22 : decode code 22 = .ok (.isub, 1) := by decide +kernel
theorem d_law_23 : decode code 23 = .ok (.if_icmp .gt 371, 3) := by decide +kernel
theorem d_law_26 : decode code 26 = .ok (.aload_n 0, 1) := by decide +kernel
theorem d_law_27 : decode code 27 = .ok (.iload_n 3, 1) := by decide +kernel
theorem d_law_28 : decode code 28 = .ok (.iaload, 1) := by decide +kernel
theorem d_law_29 : decode code 29 = .ok (.bipush 15, 2) := by decide +kernel
theorem d_law_31 : decode code 31 = .ok (.iand, 1) := by decide +kernel
theorem d_law_32 : decode code 32 = .ok (.tableswitch 356 0 9 #[56, 119, 130, 143, 176, 210, 243, 276, 310, 333], 56) := by decide +kernel
theorem d_law_88 : decode code 88 = .ok (.aload_n 1, 1) := by decide +kernel
theorem d_law_89 : decode code 89 = .ok (.aload_n 0, 1) := by decide +kernel
theorem d_law_90 : decode code 90 = .ok (.iload_n 3, 1) := by decide +kernel
theorem d_law_91 : decode code 91 = .ok (.iconst 1, 1) := by decide +kernel
theorem d_law_92 : decode code 92 = .ok (.iadd, 1) := by decide +kernel
theorem d_law_93 : decode code 93 = .ok (.iaload, 1) := by decide +kernel
theorem d_law_94 : decode code 94 = .ok (.i2l, 1) := by decide +kernel
theorem d_law_95 : decode code 95 = .ok (.bipush 32, 2) := by decide +kernel
theorem d_law_97 : decode code 97 = .ok (.lshl, 1) := by decide +kernel
theorem d_law_98 : decode code 98 = .ok (.aload_n 0, 1) := by decide +kernel
theorem d_law_99 : decode code 99 = .ok (.iload_n 3, 1) := by decide +kernel
theorem d_law_100 : decode code 100 = .ok (.iconst 2, 1) := by decide +kernel
theorem d_law_101 : decode code 101 = .ok (.iadd, 1) := by decide +kernel
theorem d_law_102 : decode code 102 = .ok (.iaload, 1) := by decide +kernel
theorem d_law_103 : decode code 103 = .ok (.i2l, 1) := by decide +kernel
theorem d_law_104 : decode code 104 = .ok (.ldc2_w 13, 3) := by decide +kernel
theorem d_law_107 : decode code 107 = .ok (.land, 1) := by decide +kernel
theorem d_law_108 : decode code 108 = .ok (.lor, 1) := by decide +kernel
theorem d_law_109 : decode code 109 = .ok (.aload_n 0, 1) := by decide +kernel
theorem d_law_110 : decode code 110 = .ok (.iload_n 3, 1) := by decide +kernel
theorem d_law_111 : decode code 111 = .ok (.iconst 3, 1) := by decide +kernel
theorem d_law_112 : decode code 112 = .ok (.iadd, 1) := by decide +kernel
theorem d_law_113 : decode code 113 = .ok (.iaload, 1) := by decide +kernel
theorem d_law_114 : decode code 114 = .ok (.invokevirtual 15, 3) := by decide +kernel
theorem d_law_117 : decode code 117 = .ok (.aload_n 2, 1) := by decide +kernel
theorem d_law_118 : decode code 118 = .ok (.aload_n 0, 1) := by decide +kernel
theorem d_law_119 : decode code 119 = .ok (.iload_n 3, 1) := by decide +kernel
theorem d_law_120 : decode code 120 = .ok (.iconst 1, 1) := by decide +kernel
theorem d_law_121 : decode code 121 = .ok (.iadd, 1) := by decide +kernel
theorem d_law_122 : decode code 122 = .ok (.iaload, 1) := by decide +kernel
theorem d_law_123 : decode code 123 = .ok (.i2l, 1) := by decide +kernel
theorem d_law_124 : decode code 124 = .ok (.bipush 32, 2) := by decide +kernel
theorem d_law_126 : decode code 126 = .ok (.lshl, 1) := by decide +kernel
theorem d_law_127 : decode code 127 = .ok (.aload_n 0, 1) := by decide +kernel
theorem d_law_128 : decode code 128 = .ok (.iload_n 3, 1) := by decide +kernel
theorem d_law_129 : decode code 129 = .ok (.iconst 2, 1) := by decide +kernel
theorem d_law_130 : decode code 130 = .ok (.iadd, 1) := by decide +kernel
theorem d_law_131 : decode code 131 = .ok (.iaload, 1) := by decide +kernel
theorem d_law_132 : decode code 132 = .ok (.i2l, 1) := by decide +kernel
theorem d_law_133 : decode code 133 = .ok (.ldc2_w 13, 3) := by decide +kernel
theorem d_law_136 : decode code 136 = .ok (.land, 1) := by decide +kernel
theorem d_law_137 : decode code 137 = .ok (.lor, 1) := by decide +kernel
theorem d_law_138 : decode code 138 = .ok (.aload_n 0, 1) := by decide +kernel
theorem d_law_139 : decode code 139 = .ok (.iload_n 3, 1) := by decide +kernel
theorem d_law_140 : decode code 140 = .ok (.iconst 3, 1) := by decide +kernel
theorem d_law_141 : decode code 141 = .ok (.iadd, 1) := by decide +kernel
theorem d_law_142 : decode code 142 = .ok (.iaload, 1) := by decide +kernel
theorem d_law_143 : decode code 143 = .ok (.invokevirtual 19, 3) := by decide +kernel
theorem d_law_146 : decode code 146 = .ok (.if_icmp .eq 242, 3) := by decide +kernel
theorem d_law_149 : decode code 149 = .ok (.iconst 0, 1) := by decide +kernel
theorem d_law_150 : decode code 150 = .ok (.ireturn, 1) := by decide +kernel
theorem d_law_151 : decode code 151 = .ok (.aload_n 1, 1) := by decide +kernel
theorem d_law_152 : decode code 152 = .ok (.invokevirtual 20, 3) := by decide +kernel
theorem d_law_155 : decode code 155 = .ok (.aload_n 2, 1) := by decide +kernel
theorem d_law_156 : decode code 156 = .ok (.invokevirtual 23, 3) := by decide +kernel
theorem d_law_159 : decode code 159 = .ok (.goto 229, 3) := by decide +kernel
theorem d_law_162 : decode code 162 = .ok (.aload_n 1, 1) := by decide +kernel
theorem d_law_163 : decode code 163 = .ok (.invokevirtual 24, 3) := by decide +kernel
theorem d_law_166 : decode code 166 = .ok (.aload_n 2, 1) := by decide +kernel
theorem d_law_167 : decode code 167 = .ok (.invokevirtual 28, 3) := by decide +kernel
theorem d_law_170 : decode code 170 = .ok (.if_icmp .eq 218, 3) := by decide +kernel
theorem d_law_173 : decode code 173 = .ok (.iconst 0, 1) := by decide +kernel
theorem d_law_174 : decode code 174 = .ok (.ireturn, 1) := by decide +kernel
theorem d_law_175 : decode code 175 = .ok (.aload_n 1, 1) := by decide +kernel
theorem d_law_176 : decode code 176 = .ok (.aload_n 0, 1) := by decide +kernel
theorem d_law_177 : decode code 177 = .ok (.iload_n 3, 1) := by decide +kernel
theorem d_law_178 : decode code 178 = .ok (.iconst 1, 1) := by decide +kernel
theorem d_law_179 : decode code 179 = .ok (.iadd, 1) := by decide +kernel
theorem d_law_180 : decode code 180 = .ok (.iaload, 1) := by decide +kernel
theorem d_law_181 : decode code 181 = .ok (.aload_n 0, 1) := by decide +kernel
theorem d_law_182 : decode code 182 = .ok (.iload_n 3, 1) := by decide +kernel
theorem d_law_183 : decode code 183 = .ok (.iconst 2, 1) := by decide +kernel
theorem d_law_184 : decode code 184 = .ok (.iadd, 1) := by decide +kernel
theorem d_law_185 : decode code 185 = .ok (.iaload, 1) := by decide +kernel
theorem d_law_186 : decode code 186 = .ok (.invokevirtual 29, 3) := by decide +kernel
theorem d_law_189 : decode code 189 = .ok (.aload_n 2, 1) := by decide +kernel
theorem d_law_190 : decode code 190 = .ok (.aload_n 0, 1) := by decide +kernel
theorem d_law_191 : decode code 191 = .ok (.iload_n 3, 1) := by decide +kernel
theorem d_law_192 : decode code 192 = .ok (.iconst 1, 1) := by decide +kernel
theorem d_law_193 : decode code 193 = .ok (.iadd, 1) := by decide +kernel
theorem d_law_194 : decode code 194 = .ok (.iaload, 1) := by decide +kernel
theorem d_law_195 : decode code 195 = .ok (.aload_n 0, 1) := by decide +kernel
theorem d_law_196 : decode code 196 = .ok (.iload_n 3, 1) := by decide +kernel
theorem d_law_197 : decode code 197 = .ok (.iconst 2, 1) := by decide +kernel
theorem d_law_198 : decode code 198 = .ok (.iadd, 1) := by decide +kernel
theorem d_law_199 : decode code 199 = .ok (.iaload, 1) := by decide +kernel
theorem d_law_200 : decode code 200 = .ok (.invokevirtual 33, 3) := by decide +kernel
theorem d_law_203 : decode code 203 = .ok (.if_icmp .eq 185, 3) := by decide +kernel
theorem d_law_206 : decode code 206 = .ok (.iconst 0, 1) := by decide +kernel
theorem d_law_207 : decode code 207 = .ok (.ireturn, 1) := by decide +kernel
theorem d_law_208 : decode code 208 = .ok (.aload_n 1, 1) := by decide +kernel
theorem d_law_209 : decode code 209 = .ok (.aload_n 0, 1) := by decide +kernel
theorem d_law_210 : decode code 210 = .ok (.iload_n 3, 1) := by decide +kernel
theorem d_law_211 : decode code 211 = .ok (.iconst 1, 1) := by decide +kernel
theorem d_law_212 : decode code 212 = .ok (.iadd, 1) := by decide +kernel
theorem d_law_213 : decode code 213 = .ok (.iaload, 1) := by decide +kernel
theorem d_law_214 : decode code 214 = .ok (.aload_n 0, 1) := by decide +kernel
theorem d_law_215 : decode code 215 = .ok (.iload_n 3, 1) := by decide +kernel
theorem d_law_216 : decode code 216 = .ok (.iconst 2, 1) := by decide +kernel
theorem d_law_217 : decode code 217 = .ok (.iadd, 1) := by decide +kernel
theorem d_law_218 : decode code 218 = .ok (.iaload, 1) := by decide +kernel
theorem d_law_219 : decode code 219 = .ok (.invokevirtual 34, 3) := by decide +kernel
theorem d_law_222 : decode code 222 = .ok (.aload_n 2, 1) := by decide +kernel
theorem d_law_223 : decode code 223 = .ok (.aload_n 0, 1) := by decide +kernel
theorem d_law_224 : decode code 224 = .ok (.iload_n 3, 1) := by decide +kernel
theorem d_law_225 : decode code 225 = .ok (.iconst 1, 1) := by decide +kernel
theorem d_law_226 : decode code 226 = .ok (.iadd, 1) := by decide +kernel
theorem d_law_227 : decode code 227 = .ok (.iaload, 1) := by decide +kernel
theorem d_law_228 : decode code 228 = .ok (.aload_n 0, 1) := by decide +kernel
theorem d_law_229 : decode code 229 = .ok (.iload_n 3, 1) := by decide +kernel
theorem d_law_230 : decode code 230 = .ok (.iconst 2, 1) := by decide +kernel
theorem d_law_231 : decode code 231 = .ok (.iadd, 1) := by decide +kernel
theorem d_law_232 : decode code 232 = .ok (.iaload, 1) := by decide +kernel
theorem d_law_233 : decode code 233 = .ok (.invokevirtual 38, 3) := by decide +kernel
theorem d_law_236 : decode code 236 = .ok (.lcmp, 1) := by decide +kernel
theorem d_law_237 : decode code 237 = .ok (.ifCond .eq 151, 3) := by decide +kernel
theorem d_law_240 : decode code 240 = .ok (.iconst 0, 1) := by decide +kernel
theorem d_law_241 : decode code 241 = .ok (.ireturn, 1) := by decide +kernel
theorem d_law_242 : decode code 242 = .ok (.aload_n 1, 1) := by decide +kernel
theorem d_law_243 : decode code 243 = .ok (.aload_n 0, 1) := by decide +kernel
theorem d_law_244 : decode code 244 = .ok (.iload_n 3, 1) := by decide +kernel
theorem d_law_245 : decode code 245 = .ok (.iconst 1, 1) := by decide +kernel
theorem d_law_246 : decode code 246 = .ok (.iadd, 1) := by decide +kernel
theorem d_law_247 : decode code 247 = .ok (.iaload, 1) := by decide +kernel
theorem d_law_248 : decode code 248 = .ok (.aload_n 0, 1) := by decide +kernel
theorem d_law_249 : decode code 249 = .ok (.iload_n 3, 1) := by decide +kernel
theorem d_law_250 : decode code 250 = .ok (.iconst 2, 1) := by decide +kernel
theorem d_law_251 : decode code 251 = .ok (.iadd, 1) := by decide +kernel
theorem d_law_252 : decode code 252 = .ok (.iaload, 1) := by decide +kernel
theorem d_law_253 : decode code 253 = .ok (.invokevirtual 39, 3) := by decide +kernel
theorem d_law_256 : decode code 256 = .ok (.aload_n 2, 1) := by decide +kernel
theorem d_law_257 : decode code 257 = .ok (.aload_n 0, 1) := by decide +kernel
theorem d_law_258 : decode code 258 = .ok (.iload_n 3, 1) := by decide +kernel
theorem d_law_259 : decode code 259 = .ok (.iconst 1, 1) := by decide +kernel
theorem d_law_260 : decode code 260 = .ok (.iadd, 1) := by decide +kernel
theorem d_law_261 : decode code 261 = .ok (.iaload, 1) := by decide +kernel
theorem d_law_262 : decode code 262 = .ok (.aload_n 0, 1) := by decide +kernel
theorem d_law_263 : decode code 263 = .ok (.iload_n 3, 1) := by decide +kernel
theorem d_law_264 : decode code 264 = .ok (.iconst 2, 1) := by decide +kernel
theorem d_law_265 : decode code 265 = .ok (.iadd, 1) := by decide +kernel
theorem d_law_266 : decode code 266 = .ok (.iaload, 1) := by decide +kernel
theorem d_law_267 : decode code 267 = .ok (.invokevirtual 42, 3) := by decide +kernel
theorem d_law_270 : decode code 270 = .ok (.if_icmp .eq 118, 3) := by decide +kernel
theorem d_law_273 : decode code 273 = .ok (.iconst 0, 1) := by decide +kernel
theorem d_law_274 : decode code 274 = .ok (.ireturn, 1) := by decide +kernel
theorem d_law_275 : decode code 275 = .ok (.aload_n 1, 1) := by decide +kernel
theorem d_law_276 : decode code 276 = .ok (.aload_n 0, 1) := by decide +kernel
theorem d_law_277 : decode code 277 = .ok (.iload_n 3, 1) := by decide +kernel
theorem d_law_278 : decode code 278 = .ok (.iconst 1, 1) := by decide +kernel
theorem d_law_279 : decode code 279 = .ok (.iadd, 1) := by decide +kernel
theorem d_law_280 : decode code 280 = .ok (.iaload, 1) := by decide +kernel
theorem d_law_281 : decode code 281 = .ok (.aload_n 0, 1) := by decide +kernel
theorem d_law_282 : decode code 282 = .ok (.iload_n 3, 1) := by decide +kernel
theorem d_law_283 : decode code 283 = .ok (.iconst 2, 1) := by decide +kernel
theorem d_law_284 : decode code 284 = .ok (.iadd, 1) := by decide +kernel
theorem d_law_285 : decode code 285 = .ok (.iaload, 1) := by decide +kernel
theorem d_law_286 : decode code 286 = .ok (.invokevirtual 43, 3) := by decide +kernel
theorem d_law_289 : decode code 289 = .ok (.aload_n 2, 1) := by decide +kernel
theorem d_law_290 : decode code 290 = .ok (.aload_n 0, 1) := by decide +kernel
theorem d_law_291 : decode code 291 = .ok (.iload_n 3, 1) := by decide +kernel
theorem d_law_292 : decode code 292 = .ok (.iconst 1, 1) := by decide +kernel
theorem d_law_293 : decode code 293 = .ok (.iadd, 1) := by decide +kernel
theorem d_law_294 : decode code 294 = .ok (.iaload, 1) := by decide +kernel
theorem d_law_295 : decode code 295 = .ok (.aload_n 0, 1) := by decide +kernel
theorem d_law_296 : decode code 296 = .ok (.iload_n 3, 1) := by decide +kernel
theorem d_law_297 : decode code 297 = .ok (.iconst 2, 1) := by decide +kernel
theorem d_law_298 : decode code 298 = .ok (.iadd, 1) := by decide +kernel
theorem d_law_299 : decode code 299 = .ok (.iaload, 1) := by decide +kernel
theorem d_law_300 : decode code 300 = .ok (.invokevirtual 46, 3) := by decide +kernel
theorem d_law_303 : decode code 303 = .ok (.if_icmp .eq 85, 3) := by decide +kernel
theorem d_law_306 : decode code 306 = .ok (.iconst 0, 1) := by decide +kernel
theorem d_law_307 : decode code 307 = .ok (.ireturn, 1) := by decide +kernel
theorem d_law_308 : decode code 308 = .ok (.aload_n 1, 1) := by decide +kernel
theorem d_law_309 : decode code 309 = .ok (.aload_n 0, 1) := by decide +kernel
theorem d_law_310 : decode code 310 = .ok (.iload_n 3, 1) := by decide +kernel
theorem d_law_311 : decode code 311 = .ok (.iconst 1, 1) := by decide +kernel
theorem d_law_312 : decode code 312 = .ok (.iadd, 1) := by decide +kernel
theorem d_law_313 : decode code 313 = .ok (.iaload, 1) := by decide +kernel
theorem d_law_314 : decode code 314 = .ok (.aload_n 0, 1) := by decide +kernel
theorem d_law_315 : decode code 315 = .ok (.iload_n 3, 1) := by decide +kernel
theorem d_law_316 : decode code 316 = .ok (.iconst 2, 1) := by decide +kernel
theorem d_law_317 : decode code 317 = .ok (.iadd, 1) := by decide +kernel
theorem d_law_318 : decode code 318 = .ok (.iaload, 1) := by decide +kernel
theorem d_law_319 : decode code 319 = .ok (.invokevirtual 47, 3) := by decide +kernel
theorem d_law_322 : decode code 322 = .ok (.aload_n 2, 1) := by decide +kernel
theorem d_law_323 : decode code 323 = .ok (.aload_n 0, 1) := by decide +kernel
theorem d_law_324 : decode code 324 = .ok (.iload_n 3, 1) := by decide +kernel
theorem d_law_325 : decode code 325 = .ok (.iconst 1, 1) := by decide +kernel
theorem d_law_326 : decode code 326 = .ok (.iadd, 1) := by decide +kernel
theorem d_law_327 : decode code 327 = .ok (.iaload, 1) := by decide +kernel
theorem d_law_328 : decode code 328 = .ok (.aload_n 0, 1) := by decide +kernel
theorem d_law_329 : decode code 329 = .ok (.iload_n 3, 1) := by decide +kernel
theorem d_law_330 : decode code 330 = .ok (.iconst 2, 1) := by decide +kernel
theorem d_law_331 : decode code 331 = .ok (.iadd, 1) := by decide +kernel
theorem d_law_332 : decode code 332 = .ok (.iaload, 1) := by decide +kernel
theorem d_law_333 : decode code 333 = .ok (.invokevirtual 50, 3) := by decide +kernel
theorem d_law_336 : decode code 336 = .ok (.lcmp, 1) := by decide +kernel
theorem d_law_337 : decode code 337 = .ok (.ifCond .eq 51, 3) := by decide +kernel
theorem d_law_340 : decode code 340 = .ok (.iconst 0, 1) := by decide +kernel
theorem d_law_341 : decode code 341 = .ok (.ireturn, 1) := by decide +kernel
theorem d_law_342 : decode code 342 = .ok (.aload_n 1, 1) := by decide +kernel
theorem d_law_343 : decode code 343 = .ok (.aload_n 0, 1) := by decide +kernel
theorem d_law_344 : decode code 344 = .ok (.iload_n 3, 1) := by decide +kernel
theorem d_law_345 : decode code 345 = .ok (.iconst 1, 1) := by decide +kernel
theorem d_law_346 : decode code 346 = .ok (.iadd, 1) := by decide +kernel
theorem d_law_347 : decode code 347 = .ok (.iaload, 1) := by decide +kernel
theorem d_law_348 : decode code 348 = .ok (.invokevirtual 51, 3) := by decide +kernel
theorem d_law_351 : decode code 351 = .ok (.aload_n 2, 1) := by decide +kernel
theorem d_law_352 : decode code 352 = .ok (.aload_n 0, 1) := by decide +kernel
theorem d_law_353 : decode code 353 = .ok (.iload_n 3, 1) := by decide +kernel
theorem d_law_354 : decode code 354 = .ok (.iconst 1, 1) := by decide +kernel
theorem d_law_355 : decode code 355 = .ok (.iadd, 1) := by decide +kernel
theorem d_law_356 : decode code 356 = .ok (.iaload, 1) := by decide +kernel
theorem d_law_357 : decode code 357 = .ok (.invokevirtual 55, 3) := by decide +kernel
theorem d_law_360 : decode code 360 = .ok (.if_icmp .eq 28, 3) := by decide +kernel
theorem d_law_363 : decode code 363 = .ok (.iconst 0, 1) := by decide +kernel
theorem d_law_364 : decode code 364 = .ok (.ireturn, 1) := by decide +kernel
theorem d_law_365 : decode code 365 = .ok (.aload_n 1, 1) := by decide +kernel
theorem d_law_366 : decode code 366 = .ok (.aload_n 0, 1) := by decide +kernel
theorem d_law_367 : decode code 367 = .ok (.iload_n 3, 1) := by decide +kernel
theorem d_law_368 : decode code 368 = .ok (.iconst 1, 1) := by decide +kernel
theorem d_law_369 : decode code 369 = .ok (.iadd, 1) := by decide +kernel
theorem d_law_370 : decode code 370 = .ok (.iaload, 1) := by decide +kernel
theorem d_law_371 : decode code 371 = .ok (.invokevirtual 56, 3) := by decide +kernel
theorem d_law_374 : decode code 374 = .ok (.aload_n 2, 1) := by decide +kernel
theorem d_law_375 : decode code 375 = .ok (.aload_n 0, 1) := by decide +kernel
theorem d_law_376 : decode code 376 = .ok (.iload_n 3, 1) := by decide +kernel
theorem d_law_377 : decode code 377 = .ok (.iconst 1, 1) := by decide +kernel
theorem d_law_378 : decode code 378 = .ok (.iadd, 1) := by decide +kernel
theorem d_law_379 : decode code 379 = .ok (.iaload, 1) := by decide +kernel
theorem d_law_380 : decode code 380 = .ok (.invokevirtual 59, 3) := by decide +kernel
theorem d_law_383 : decode code 383 = .ok (.if_icmp .eq 5, 3) := by decide +kernel
theorem d_law_386 : decode code 386 = .ok (.iconst 0, 1) := by decide +kernel
theorem d_law_387 : decode code 387 = .ok (.ireturn, 1) := by decide +kernel
theorem d_law_388 : decode code 388 = .ok (.iinc 3 4, 3) := by decide +kernel
theorem d_law_391 : decode code 391 = .ok (.goto (-373), 3) := by decide +kernel
theorem d_law_394 : decode code 394 = .ok (.iconst 1, 1) := by decide +kernel
theorem d_law_395 : decode code 395 = .ok (.ireturn, 1) := by decide +kernel
