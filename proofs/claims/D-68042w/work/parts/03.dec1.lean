theorem d_P_init_0 : decode b_P_init 0 = .ok (.aload_n 0, 1) := by decide +kernel
theorem d_P_init_1 : decode b_P_init 1 = .ok (.invokespecial 103, 3) := by decide +kernel
theorem d_P_init_4 : decode b_P_init 4 = .ok (.aload_n 0, 1) := by decide +kernel
theorem d_P_init_5 : decode b_P_init 5 = .ok (.new 109, 3) := by decide +kernel
theorem d_P_init_8 : decode b_P_init 8 = .ok (.dup, 1) := by decide +kernel
theorem d_P_init_9 : decode b_P_init 9 = .ok (.invokespecial 111, 3) := by decide +kernel
theorem d_P_init_12 : decode b_P_init 12 = .ok (.putfield 112, 3) := by decide +kernel
theorem d_P_init_15 : decode b_P_init 15 = .ok (.aload_n 0, 1) := by decide +kernel
theorem d_P_init_16 : decode b_P_init 16 = .ok (.sipush 4200, 3) := by decide +kernel
theorem d_P_init_19 : decode b_P_init 19 = .ok (.anewarray 116, 3) := by decide +kernel
theorem d_P_init_22 : decode b_P_init 22 = .ok (.putfield 118, 3) := by decide +kernel
theorem d_P_init_25 : decode b_P_init 25 = .ok (.aload_n 0, 1) := by decide +kernel
theorem d_P_init_26 : decode b_P_init 26 = .ok (.bipush 64, 2) := by decide +kernel
theorem d_P_init_28 : decode b_P_init 28 = .ok (.anewarray 122, 3) := by decide +kernel
theorem d_P_init_31 : decode b_P_init 31 = .ok (.putfield 124, 3) := by decide +kernel
theorem d_P_init_34 : decode b_P_init 34 = .ok (.aload_n 0, 1) := by decide +kernel
theorem d_P_init_35 : decode b_P_init 35 = .ok (.sipush 4200, 3) := by decide +kernel
theorem d_P_init_38 : decode b_P_init 38 = .ok (.anewarray 128, 3) := by decide +kernel
theorem d_P_init_41 : decode b_P_init 41 = .ok (.putfield 130, 3) := by decide +kernel
theorem d_P_init_44 : decode b_P_init 44 = .ok (.aload_n 0, 1) := by decide +kernel
theorem d_P_init_45 : decode b_P_init 45 = .ok (.iconst (-1), 1) := by decide +kernel
theorem d_P_init_46 : decode b_P_init 46 = .ok (.putfield 134, 3) := by decide +kernel
theorem d_P_init_49 : decode b_P_init 49 = .ok (.iconst 0, 1) := by decide +kernel
theorem d_P_init_50 : decode b_P_init 50 = .ok (.istore_n 1, 1) := by decide +kernel
theorem d_P_init_51 : decode b_P_init 51 = .ok (.iload_n 1, 1) := by decide +kernel
theorem d_P_init_52 : decode b_P_init 52 = .ok (.bipush 64, 2) := by decide +kernel
theorem d_P_init_54 : decode b_P_init 54 = .ok (.if_icmp .ge 22, 3) := by decide +kernel
theorem d_P_init_57 : decode b_P_init 57 = .ok (.aload_n 0, 1) := by decide +kernel
theorem d_P_init_58 : decode b_P_init 58 = .ok (.getfield 124, 3) := by decide +kernel
theorem d_P_init_61 : decode b_P_init 61 = .ok (.iload_n 1, 1) := by decide +kernel
theorem d_P_init_62 : decode b_P_init 62 = .ok (.new 122, 3) := by decide +kernel
theorem d_P_init_65 : decode b_P_init 65 = .ok (.dup, 1) := by decide +kernel
theorem d_P_init_66 : decode b_P_init 66 = .ok (.invokespecial 138, 3) := by decide +kernel
theorem d_P_init_69 : decode b_P_init 69 = .ok (.aastore, 1) := by decide +kernel
theorem d_P_init_70 : decode b_P_init 70 = .ok (.iinc 1 1, 3) := by decide +kernel
theorem d_P_init_73 : decode b_P_init 73 = .ok (.goto (-22), 3) := by decide +kernel
theorem d_P_init_76 : decode b_P_init 76 = .ok (.return_, 1) := by decide +kernel
theorem d_X_init_0 : decode b_X_init 0 = .ok (.aload_n 0, 1) := by decide +kernel
theorem d_X_init_1 : decode b_X_init 1 = .ok (.invokespecial 3, 3) := by decide +kernel
theorem d_X_init_4 : decode b_X_init 4 = .ok (.aload_n 0, 1) := by decide +kernel
theorem d_X_init_5 : decode b_X_init 5 = .ok (.sipush 8192, 3) := by decide +kernel
theorem d_X_init_8 : decode b_X_init 8 = .ok (.newarray .byte, 2) := by decide +kernel
theorem d_X_init_10 : decode b_X_init 10 = .ok (.putfield 9, 3) := by decide +kernel
theorem d_X_init_13 : decode b_X_init 13 = .ok (.return_, 1) := by decide +kernel
theorem d_D_init_0 : decode b_D_init 0 = .ok (.aload_n 0, 1) := by decide +kernel
theorem d_D_init_1 : decode b_D_init 1 = .ok (.invokespecial 3, 3) := by decide +kernel
theorem d_D_init_4 : decode b_D_init 4 = .ok (.aload_n 0, 1) := by decide +kernel
theorem d_D_init_5 : decode b_D_init 5 = .ok (.bipush 8, 2) := by decide +kernel
theorem d_D_init_7 : decode b_D_init 7 = .ok (.newarray .long, 2) := by decide +kernel
theorem d_D_init_9 : decode b_D_init 9 = .ok (.putfield 9, 3) := by decide +kernel
theorem d_D_init_12 : decode b_D_init 12 = .ok (.aload_n 0, 1) := by decide +kernel
theorem d_D_init_13 : decode b_D_init 13 = .ok (.bipush 8, 2) := by decide +kernel
theorem d_D_init_15 : decode b_D_init 15 = .ok (.newarray .int, 2) := by decide +kernel
theorem d_D_init_17 : decode b_D_init 17 = .ok (.putfield 15, 3) := by decide +kernel
theorem d_D_init_20 : decode b_D_init 20 = .ok (.return_, 1) := by decide +kernel
theorem d_P_give_0 : decode b_P_give 0 = .ok (.iload_n 3, 1) := by decide +kernel
theorem d_P_give_1 : decode b_P_give 1 = .ok (.iconst 1, 1) := by decide +kernel
theorem d_P_give_2 : decode b_P_give 2 = .ok (.if_icmp .lt 24, 3) := by decide +kernel
theorem d_P_give_5 : decode b_P_give 5 = .ok (.iload_n 3, 1) := by decide +kernel
theorem d_P_give_6 : decode b_P_give 6 = .ok (.bipush 8, 2) := by decide +kernel
theorem d_P_give_8 : decode b_P_give 8 = .ok (.if_icmp .gt 18, 3) := by decide +kernel
theorem d_P_give_11 : decode b_P_give 11 = .ok (.aload_n 0, 1) := by decide +kernel
theorem d_P_give_12 : decode b_P_give 12 = .ok (.getfield 112, 3) := by decide +kernel
theorem d_P_give_15 : decode b_P_give 15 = .ok (.getfield 139, 3) := by decide +kernel
theorem d_P_give_18 : decode b_P_give 18 = .ok (.iload_n 3, 1) := by decide +kernel
theorem d_P_give_19 : decode b_P_give 19 = .ok (.iadd, 1) := by decide +kernel
theorem d_P_give_20 : decode b_P_give 20 = .ok (.sipush 8192, 3) := by decide +kernel
theorem d_P_give_23 : decode b_P_give 23 = .ok (.if_icmp .le 5, 3) := by decide +kernel
theorem d_P_give_26 : decode b_P_give 26 = .ok (.iconst 0, 1) := by decide +kernel
theorem d_P_give_27 : decode b_P_give 27 = .ok (.ireturn, 1) := by decide +kernel
theorem d_P_give_28 : decode b_P_give 28 = .ok (.iload_n 3, 1) := by decide +kernel
theorem d_P_give_29 : decode b_P_give 29 = .ok (.iconst 1, 1) := by decide +kernel
theorem d_P_give_30 : decode b_P_give 30 = .ok (.isub, 1) := by decide +kernel
theorem d_P_give_31 : decode b_P_give 31 = .ok (.istore 4, 2) := by decide +kernel
theorem d_P_give_33 : decode b_P_give 33 = .ok (.iload 4, 2) := by decide +kernel
theorem d_P_give_35 : decode b_P_give 35 = .ok (.ifCond .lt 46, 3) := by decide +kernel
theorem d_P_give_38 : decode b_P_give 38 = .ok (.aload_n 0, 1) := by decide +kernel
theorem d_P_give_39 : decode b_P_give 39 = .ok (.getfield 112, 3) := by decide +kernel
theorem d_P_give_42 : decode b_P_give 42 = .ok (.getfield 142, 3) := by decide +kernel
theorem d_P_give_45 : decode b_P_give 45 = .ok (.aload_n 0, 1) := by decide +kernel
theorem d_P_give_46 : decode b_P_give 46 = .ok (.getfield 112, 3) := by decide +kernel
theorem d_P_give_49 : decode b_P_give 49 = .ok (.getfield 139, 3) := by decide +kernel
theorem d_P_give_52 : decode b_P_give 52 = .ok (.lload_n 1, 1) := by decide +kernel
theorem d_P_give_53 : decode b_P_give 53 = .ok (.bipush 8, 2) := by decide +kernel
theorem d_P_give_55 : decode b_P_give 55 = .ok (.iload 4, 2) := by decide +kernel
theorem d_P_give_57 : decode b_P_give 57 = .ok (.imul, 1) := by decide +kernel
theorem d_P_give_58 : decode b_P_give 58 = .ok (.lshr, 1) := by decide +kernel
theorem d_P_give_59 : decode b_P_give 59 = .ok (.l2i, 1) := by decide +kernel
theorem d_P_give_60 : decode b_P_give 60 = .ok (.i2b, 1) := by decide +kernel
theorem d_P_give_61 : decode b_P_give 61 = .ok (.bastore, 1) := by decide +kernel
theorem d_P_give_62 : decode b_P_give 62 = .ok (.aload_n 0, 1) := by decide +kernel
theorem d_P_give_63 : decode b_P_give 63 = .ok (.getfield 112, 3) := by decide +kernel
theorem d_P_give_66 : decode b_P_give 66 = .ok (.dup, 1) := by decide +kernel
theorem d_P_give_67 : decode b_P_give 67 = .ok (.getfield 139, 3) := by decide +kernel
theorem d_P_give_70 : decode b_P_give 70 = .ok (.iconst 1, 1) := by decide +kernel
theorem d_P_give_71 : decode b_P_give 71 = .ok (.iadd, 1) := by decide +kernel
theorem d_P_give_72 : decode b_P_give 72 = .ok (.putfield 139, 3) := by decide +kernel
theorem d_P_give_75 : decode b_P_give 75 = .ok (.iinc 4 (-1), 3) := by decide +kernel
theorem d_P_give_78 : decode b_P_give 78 = .ok (.goto (-45), 3) := by decide +kernel
theorem d_P_give_81 : decode b_P_give 81 = .ok (.iconst 1, 1) := by decide +kernel
theorem d_P_give_82 : decode b_P_give 82 = .ok (.ireturn, 1) := by decide +kernel
theorem d_P_wipe_0 : decode b_P_wipe 0 = .ok (.aload_n 0, 1) := by decide +kernel
theorem d_P_wipe_1 : decode b_P_wipe 1 = .ok (.getfield 112, 3) := by decide +kernel
theorem d_P_wipe_4 : decode b_P_wipe 4 = .ok (.iconst 0, 1) := by decide +kernel
theorem d_P_wipe_5 : decode b_P_wipe 5 = .ok (.putfield 139, 3) := by decide +kernel
theorem d_P_wipe_8 : decode b_P_wipe 8 = .ok (.return_, 1) := by decide +kernel
theorem d_P_read_0 : decode b_P_read 0 = .ok (.aload_n 0, 1) := by decide +kernel
theorem d_P_read_1 : decode b_P_read 1 = .ok (.iconst 0, 1) := by decide +kernel
theorem d_P_read_2 : decode b_P_read 2 = .ok (.putfield 146, 3) := by decide +kernel
theorem d_P_read_5 : decode b_P_read 5 = .ok (.aload_n 0, 1) := by decide +kernel
theorem d_P_read_6 : decode b_P_read 6 = .ok (.iconst (-1), 1) := by decide +kernel
theorem d_P_read_7 : decode b_P_read 7 = .ok (.putfield 134, 3) := by decide +kernel
theorem d_P_read_10 : decode b_P_read 10 = .ok (.aload_n 0, 1) := by decide +kernel
theorem d_P_read_11 : decode b_P_read 11 = .ok (.iconst 0, 1) := by decide +kernel
theorem d_P_read_12 : decode b_P_read 12 = .ok (.putfield 179, 3) := by decide +kernel
theorem d_P_read_15 : decode b_P_read 15 = .ok (.aload_n 0, 1) := by decide +kernel
theorem d_P_read_16 : decode b_P_read 16 = .ok (.iconst 0, 1) := by decide +kernel
theorem d_P_read_17 : decode b_P_read 17 = .ok (.putfield 182, 3) := by decide +kernel
theorem d_P_read_20 : decode b_P_read 20 = .ok (.aload_n 0, 1) := by decide +kernel
theorem d_P_read_21 : decode b_P_read 21 = .ok (.getfield 112, 3) := by decide +kernel
theorem d_P_read_24 : decode b_P_read 24 = .ok (.invokevirtual 185, 3) := by decide +kernel
theorem d_P_read_27 : decode b_P_read 27 = .ok (.aload_n 0, 1) := by decide +kernel
theorem d_P_read_28 : decode b_P_read 28 = .ok (.getfield 146, 3) := by decide +kernel
theorem d_P_read_31 : decode b_P_read 31 = .ok (.ifCond .ne 52, 3) := by decide +kernel
theorem d_P_read_34 : decode b_P_read 34 = .ok (.aload_n 0, 1) := by decide +kernel
theorem d_P_read_35 : decode b_P_read 35 = .ok (.getfield 112, 3) := by decide +kernel
theorem d_P_read_38 : decode b_P_read 38 = .ok (.getfield 149, 3) := by decide +kernel
theorem d_P_read_41 : decode b_P_read 41 = .ok (.getstatic 158, 3) := by decide +kernel
theorem d_P_read_44 : decode b_P_read 44 = .ok (.if_acmp .eq 39, 3) := by decide +kernel
theorem d_P_read_47 : decode b_P_read 47 = .ok (.aload_n 0, 1) := by decide +kernel
theorem d_P_read_48 : decode b_P_read 48 = .ok (.getfield 112, 3) := by decide +kernel
theorem d_P_read_51 : decode b_P_read 51 = .ok (.getfield 149, 3) := by decide +kernel
theorem d_P_read_54 : decode b_P_read 54 = .ok (.getstatic 188, 3) := by decide +kernel
theorem d_P_read_57 : decode b_P_read 57 = .ok (.if_acmp .ne 12, 3) := by decide +kernel
theorem d_P_read_60 : decode b_P_read 60 = .ok (.aload_n 0, 1) := by decide +kernel
theorem d_P_read_61 : decode b_P_read 61 = .ok (.getfield 182, 3) := by decide +kernel
theorem d_P_read_64 : decode b_P_read 64 = .ok (.bipush 64, 2) := by decide +kernel
theorem d_P_read_66 : decode b_P_read 66 = .ok (.if_icmp .ne 10, 3) := by decide +kernel
theorem d_P_read_69 : decode b_P_read 69 = .ok (.aload_n 0, 1) := by decide +kernel
theorem d_P_read_70 : decode b_P_read 70 = .ok (.invokevirtual 169, 3) := by decide +kernel
theorem d_P_read_73 : decode b_P_read 73 = .ok (.goto (-46), 3) := by decide +kernel
theorem d_P_read_76 : decode b_P_read 76 = .ok (.aload_n 0, 1) := by decide +kernel
theorem d_P_read_77 : decode b_P_read 77 = .ok (.invokevirtual 191, 3) := by decide +kernel
theorem d_P_read_80 : decode b_P_read 80 = .ok (.goto (-53), 3) := by decide +kernel
theorem d_P_read_83 : decode b_P_read 83 = .ok (.aload_n 0, 1) := by decide +kernel
theorem d_P_read_84 : decode b_P_read 84 = .ok (.getfield 146, 3) := by decide +kernel
theorem d_P_read_87 : decode b_P_read 87 = .ok (.ifCond .le 13, 3) := by decide +kernel
theorem d_P_read_90 : decode b_P_read 90 = .ok (.aload_n 0, 1) := by decide +kernel
theorem d_P_read_91 : decode b_P_read 91 = .ok (.iconst 0, 1) := by decide +kernel
theorem d_P_read_92 : decode b_P_read 92 = .ok (.putfield 179, 3) := by decide +kernel
theorem d_P_read_95 : decode b_P_read 95 = .ok (.aload_n 0, 1) := by decide +kernel
theorem d_P_read_96 : decode b_P_read 96 = .ok (.iconst 0, 1) := by decide +kernel
theorem d_P_read_97 : decode b_P_read 97 = .ok (.putfield 182, 3) := by decide +kernel
theorem d_P_read_100 : decode b_P_read 100 = .ok (.aload_n 0, 1) := by decide +kernel
theorem d_P_read_101 : decode b_P_read 101 = .ok (.getfield 146, 3) := by decide +kernel
theorem d_P_read_104 : decode b_P_read 104 = .ok (.ireturn, 1) := by decide +kernel
theorem d_X_begin_0 : decode b_X_begin 0 = .ok (.aload_n 0, 1) := by decide +kernel
theorem d_X_begin_1 : decode b_X_begin 1 = .ok (.iconst 0, 1) := by decide +kernel
theorem d_X_begin_2 : decode b_X_begin 2 = .ok (.putfield 15, 3) := by decide +kernel
theorem d_X_begin_5 : decode b_X_begin 5 = .ok (.aload_n 0, 1) := by decide +kernel
theorem d_X_begin_6 : decode b_X_begin 6 = .ok (.invokevirtual 19, 3) := by decide +kernel
theorem d_X_begin_9 : decode b_X_begin 9 = .ok (.return_, 1) := by decide +kernel
theorem d_X_next_0 : decode b_X_next 0 = .ok (.aload_n 0, 1) := by decide +kernel
theorem d_X_next_1 : decode b_X_next 1 = .ok (.getfield 15, 3) := by decide +kernel
theorem d_X_next_4 : decode b_X_next 4 = .ok (.aload_n 0, 1) := by decide +kernel
theorem d_X_next_5 : decode b_X_next 5 = .ok (.getfield 22, 3) := by decide +kernel
theorem d_X_next_8 : decode b_X_next 8 = .ok (.if_icmp .ge 44, 3) := by decide +kernel
theorem d_X_next_11 : decode b_X_next 11 = .ok (.aload_n 0, 1) := by decide +kernel
theorem d_X_next_12 : decode b_X_next 12 = .ok (.getfield 9, 3) := by decide +kernel
theorem d_X_next_15 : decode b_X_next 15 = .ok (.aload_n 0, 1) := by decide +kernel
theorem d_X_next_16 : decode b_X_next 16 = .ok (.getfield 15, 3) := by decide +kernel
theorem d_X_next_19 : decode b_X_next 19 = .ok (.baload, 1) := by decide +kernel
theorem d_X_next_20 : decode b_X_next 20 = .ok (.bipush 32, 2) := by decide +kernel
theorem d_X_next_22 : decode b_X_next 22 = .ok (.if_icmp .eq 17, 3) := by decide +kernel
theorem d_X_next_25 : decode b_X_next 25 = .ok (.aload_n 0, 1) := by decide +kernel
theorem d_X_next_26 : decode b_X_next 26 = .ok (.getfield 9, 3) := by decide +kernel
theorem d_X_next_29 : decode b_X_next 29 = .ok (.aload_n 0, 1) := by decide +kernel
theorem d_X_next_30 : decode b_X_next 30 = .ok (.getfield 15, 3) := by decide +kernel
theorem d_X_next_33 : decode b_X_next 33 = .ok (.baload, 1) := by decide +kernel
theorem d_X_next_34 : decode b_X_next 34 = .ok (.bipush 10, 2) := by decide +kernel
theorem d_X_next_36 : decode b_X_next 36 = .ok (.if_icmp .ne 16, 3) := by decide +kernel
theorem d_X_next_39 : decode b_X_next 39 = .ok (.aload_n 0, 1) := by decide +kernel
theorem d_X_next_40 : decode b_X_next 40 = .ok (.dup, 1) := by decide +kernel
theorem d_X_next_41 : decode b_X_next 41 = .ok (.getfield 15, 3) := by decide +kernel
theorem d_X_next_44 : decode b_X_next 44 = .ok (.iconst 1, 1) := by decide +kernel
theorem d_X_next_45 : decode b_X_next 45 = .ok (.iadd, 1) := by decide +kernel
theorem d_X_next_46 : decode b_X_next 46 = .ok (.putfield 15, 3) := by decide +kernel
theorem d_X_next_49 : decode b_X_next 49 = .ok (.goto (-49), 3) := by decide +kernel
theorem d_X_next_52 : decode b_X_next 52 = .ok (.aload_n 0, 1) := by decide +kernel
theorem d_X_next_53 : decode b_X_next 53 = .ok (.aload_n 0, 1) := by decide +kernel
theorem d_X_next_54 : decode b_X_next 54 = .ok (.getfield 15, 3) := by decide +kernel
theorem d_X_next_57 : decode b_X_next 57 = .ok (.putfield 25, 3) := by decide +kernel
theorem d_X_next_60 : decode b_X_next 60 = .ok (.aload_n 0, 1) := by decide +kernel
theorem d_X_next_61 : decode b_X_next 61 = .ok (.getfield 15, 3) := by decide +kernel
theorem d_X_next_64 : decode b_X_next 64 = .ok (.aload_n 0, 1) := by decide +kernel
theorem d_X_next_65 : decode b_X_next 65 = .ok (.getfield 22, 3) := by decide +kernel
theorem d_X_next_68 : decode b_X_next 68 = .ok (.if_icmp .ne 11, 3) := by decide +kernel
theorem d_X_next_71 : decode b_X_next 71 = .ok (.aload_n 0, 1) := by decide +kernel
theorem d_X_next_72 : decode b_X_next 72 = .ok (.getstatic 28, 3) := by decide +kernel
theorem d_X_next_75 : decode b_X_next 75 = .ok (.putfield 34, 3) := by decide +kernel
theorem d_X_next_78 : decode b_X_next 78 = .ok (.return_, 1) := by decide +kernel
theorem d_X_next_79 : decode b_X_next 79 = .ok (.aload_n 0, 1) := by decide +kernel
theorem d_X_next_80 : decode b_X_next 80 = .ok (.getfield 9, 3) := by decide +kernel
theorem d_X_next_83 : decode b_X_next 83 = .ok (.aload_n 0, 1) := by decide +kernel
theorem d_X_next_84 : decode b_X_next 84 = .ok (.getfield 15, 3) := by decide +kernel
theorem d_X_next_87 : decode b_X_next 87 = .ok (.baload, 1) := by decide +kernel
theorem d_X_next_88 : decode b_X_next 88 = .ok (.istore_n 1, 1) := by decide +kernel
theorem d_X_next_89 : decode b_X_next 89 = .ok (.iload_n 1, 1) := by decide +kernel
theorem d_X_next_90 : decode b_X_next 90 = .ok (.bipush 40, 2) := by decide +kernel
theorem d_X_next_92 : decode b_X_next 92 = .ok (.if_icmp .eq 9, 3) := by decide +kernel
theorem d_X_next_95 : decode b_X_next 95 = .ok (.iload_n 1, 1) := by decide +kernel
theorem d_X_next_96 : decode b_X_next 96 = .ok (.bipush 41, 2) := by decide +kernel
theorem d_X_next_98 : decode b_X_next 98 = .ok (.if_icmp .ne 33, 3) := by decide +kernel
theorem d_X_next_101 : decode b_X_next 101 = .ok (.aload_n 0, 1) := by decide +kernel
theorem d_X_next_102 : decode b_X_next 102 = .ok (.iload_n 1, 1) := by decide +kernel
theorem d_X_next_103 : decode b_X_next 103 = .ok (.bipush 40, 2) := by decide +kernel
theorem d_X_next_105 : decode b_X_next 105 = .ok (.if_icmp .ne 9, 3) := by decide +kernel
theorem d_X_next_108 : decode b_X_next 108 = .ok (.getstatic 37, 3) := by decide +kernel
theorem d_X_next_111 : decode b_X_next 111 = .ok (.goto 6, 3) := by decide +kernel
theorem d_X_next_114 : decode b_X_next 114 = .ok (.getstatic 40, 3) := by decide +kernel
theorem d_X_next_117 : decode b_X_next 117 = .ok (.putfield 34, 3) := by decide +kernel
theorem d_X_next_120 : decode b_X_next 120 = .ok (.aload_n 0, 1) := by decide +kernel
theorem d_X_next_121 : decode b_X_next 121 = .ok (.dup, 1) := by decide +kernel
theorem d_X_next_122 : decode b_X_next 122 = .ok (.getfield 15, 3) := by decide +kernel
theorem d_X_next_125 : decode b_X_next 125 = .ok (.iconst 1, 1) := by decide +kernel
theorem d_X_next_126 : decode b_X_next 126 = .ok (.iadd, 1) := by decide +kernel
theorem d_X_next_127 : decode b_X_next 127 = .ok (.putfield 15, 3) := by decide +kernel
theorem d_X_next_130 : decode b_X_next 130 = .ok (.return_, 1) := by decide +kernel
theorem d_X_next_131 : decode b_X_next 131 = .ok (.aload_n 0, 1) := by decide +kernel
theorem d_X_next_132 : decode b_X_next 132 = .ok (.getfield 15, 3) := by decide +kernel
theorem d_X_next_135 : decode b_X_next 135 = .ok (.aload_n 0, 1) := by decide +kernel
theorem d_X_next_136 : decode b_X_next 136 = .ok (.getfield 22, 3) := by decide +kernel
theorem d_X_next_139 : decode b_X_next 139 = .ok (.if_icmp .ge 31, 3) := by decide +kernel
theorem d_X_next_142 : decode b_X_next 142 = .ok (.aload_n 0, 1) := by decide +kernel
theorem d_X_next_143 : decode b_X_next 143 = .ok (.getfield 9, 3) := by decide +kernel
theorem d_X_next_146 : decode b_X_next 146 = .ok (.aload_n 0, 1) := by decide +kernel
theorem d_X_next_147 : decode b_X_next 147 = .ok (.getfield 15, 3) := by decide +kernel
theorem d_X_next_150 : decode b_X_next 150 = .ok (.baload, 1) := by decide +kernel
theorem d_X_next_151 : decode b_X_next 151 = .ok (.invokestatic 43, 3) := by decide +kernel
theorem d_X_next_154 : decode b_X_next 154 = .ok (.ifCond .eq 16, 3) := by decide +kernel
theorem d_X_next_157 : decode b_X_next 157 = .ok (.aload_n 0, 1) := by decide +kernel
theorem d_X_next_158 : decode b_X_next 158 = .ok (.dup, 1) := by decide +kernel
theorem d_X_next_159 : decode b_X_next 159 = .ok (.getfield 15, 3) := by decide +kernel
theorem d_X_next_162 : decode b_X_next 162 = .ok (.iconst 1, 1) := by decide +kernel
theorem d_X_next_163 : decode b_X_next 163 = .ok (.iadd, 1) := by decide +kernel
theorem d_X_next_164 : decode b_X_next 164 = .ok (.putfield 15, 3) := by decide +kernel
theorem d_X_next_167 : decode b_X_next 167 = .ok (.goto (-36), 3) := by decide +kernel
theorem d_X_next_170 : decode b_X_next 170 = .ok (.aload_n 0, 1) := by decide +kernel
theorem d_X_next_171 : decode b_X_next 171 = .ok (.aload_n 0, 1) := by decide +kernel
theorem d_X_next_172 : decode b_X_next 172 = .ok (.getfield 15, 3) := by decide +kernel
theorem d_X_next_175 : decode b_X_next 175 = .ok (.aload_n 0, 1) := by decide +kernel
theorem d_X_next_176 : decode b_X_next 176 = .ok (.getfield 25, 3) := by decide +kernel
theorem d_X_next_179 : decode b_X_next 179 = .ok (.if_icmp .ne 9, 3) := by decide +kernel
theorem d_X_next_182 : decode b_X_next 182 = .ok (.getstatic 47, 3) := by decide +kernel
theorem d_X_next_185 : decode b_X_next 185 = .ok (.goto 20, 3) := by decide +kernel
theorem d_X_next_188 : decode b_X_next 188 = .ok (.iload_n 1, 1) := by decide +kernel
theorem d_X_next_189 : decode b_X_next 189 = .ok (.bipush 97, 2) := by decide +kernel
theorem d_X_next_191 : decode b_X_next 191 = .ok (.if_icmp .lt 10, 3) := by decide +kernel
theorem d_X_next_194 : decode b_X_next 194 = .ok (.aload_n 0, 1) := by decide +kernel
theorem d_X_next_195 : decode b_X_next 195 = .ok (.invokevirtual 50, 3) := by decide +kernel
theorem d_X_next_198 : decode b_X_next 198 = .ok (.goto 7, 3) := by decide +kernel
theorem d_X_next_201 : decode b_X_next 201 = .ok (.aload_n 0, 1) := by decide +kernel
theorem d_X_next_202 : decode b_X_next 202 = .ok (.invokevirtual 54, 3) := by decide +kernel
theorem d_X_next_205 : decode b_X_next 205 = .ok (.putfield 34, 3) := by decide +kernel
theorem d_X_next_208 : decode b_X_next 208 = .ok (.return_, 1) := by decide +kernel
theorem d_X_isOf_0 : decode b_X_isOf 0 = .ok (.iload_n 0, 1) := by decide +kernel
theorem d_X_isOf_1 : decode b_X_isOf 1 = .ok (.bipush 97, 2) := by decide +kernel
theorem d_X_isOf_3 : decode b_X_isOf 3 = .ok (.if_icmp .lt 9, 3) := by decide +kernel
theorem d_X_isOf_6 : decode b_X_isOf 6 = .ok (.iload_n 0, 1) := by decide +kernel
theorem d_X_isOf_7 : decode b_X_isOf 7 = .ok (.bipush 122, 2) := by decide +kernel
theorem d_X_isOf_9 : decode b_X_isOf 9 = .ok (.if_icmp .le 21, 3) := by decide +kernel
theorem d_X_isOf_12 : decode b_X_isOf 12 = .ok (.iload_n 0, 1) := by decide +kernel
theorem d_X_isOf_13 : decode b_X_isOf 13 = .ok (.bipush 48, 2) := by decide +kernel
theorem d_X_isOf_15 : decode b_X_isOf 15 = .ok (.if_icmp .lt 9, 3) := by decide +kernel
theorem d_X_isOf_18 : decode b_X_isOf 18 = .ok (.iload_n 0, 1) := by decide +kernel
theorem d_X_isOf_19 : decode b_X_isOf 19 = .ok (.bipush 57, 2) := by decide +kernel
theorem d_X_isOf_21 : decode b_X_isOf 21 = .ok (.if_icmp .le 9, 3) := by decide +kernel
theorem d_X_isOf_24 : decode b_X_isOf 24 = .ok (.iload_n 0, 1) := by decide +kernel
theorem d_X_isOf_25 : decode b_X_isOf 25 = .ok (.bipush 45, 2) := by decide +kernel
theorem d_X_isOf_27 : decode b_X_isOf 27 = .ok (.if_icmp .ne 7, 3) := by decide +kernel
theorem d_X_isOf_30 : decode b_X_isOf 30 = .ok (.iconst 1, 1) := by decide +kernel
theorem d_X_isOf_31 : decode b_X_isOf 31 = .ok (.goto 4, 3) := by decide +kernel
theorem d_X_isOf_34 : decode b_X_isOf 34 = .ok (.iconst 0, 1) := by decide +kernel
theorem d_X_isOf_35 : decode b_X_isOf 35 = .ok (.ireturn, 1) := by decide +kernel
theorem d_X_spell_0 : decode b_X_spell 0 = .ok (.aload_n 0, 1) := by decide +kernel
theorem d_X_spell_1 : decode b_X_spell 1 = .ok (.lconst 0, 1) := by decide +kernel
theorem d_X_spell_2 : decode b_X_spell 2 = .ok (.putfield 57, 3) := by decide +kernel
theorem d_X_spell_5 : decode b_X_spell 5 = .ok (.aload_n 0, 1) := by decide +kernel
theorem d_X_spell_6 : decode b_X_spell 6 = .ok (.getfield 15, 3) := by decide +kernel
theorem d_X_spell_9 : decode b_X_spell 9 = .ok (.aload_n 0, 1) := by decide +kernel
theorem d_X_spell_10 : decode b_X_spell 10 = .ok (.getfield 25, 3) := by decide +kernel
theorem d_X_spell_13 : decode b_X_spell 13 = .ok (.isub, 1) := by decide +kernel
theorem d_X_spell_14 : decode b_X_spell 14 = .ok (.bipush 12, 2) := by decide +kernel
theorem d_X_spell_16 : decode b_X_spell 16 = .ok (.if_icmp .gt 7, 3) := by decide +kernel
theorem d_X_spell_19 : decode b_X_spell 19 = .ok (.iconst 1, 1) := by decide +kernel
theorem d_X_spell_20 : decode b_X_spell 20 = .ok (.goto 4, 3) := by decide +kernel
theorem d_X_spell_23 : decode b_X_spell 23 = .ok (.iconst 0, 1) := by decide +kernel
theorem d_X_spell_24 : decode b_X_spell 24 = .ok (.istore_n 1, 1) := by decide +kernel
theorem d_X_spell_25 : decode b_X_spell 25 = .ok (.aload_n 0, 1) := by decide +kernel
theorem d_X_spell_26 : decode b_X_spell 26 = .ok (.getfield 25, 3) := by decide +kernel
theorem d_X_spell_29 : decode b_X_spell 29 = .ok (.istore_n 2, 1) := by decide +kernel
theorem d_X_spell_30 : decode b_X_spell 30 = .ok (.iload_n 2, 1) := by decide +kernel
theorem d_X_spell_31 : decode b_X_spell 31 = .ok (.aload_n 0, 1) := by decide +kernel
theorem d_X_spell_32 : decode b_X_spell 32 = .ok (.getfield 15, 3) := by decide +kernel
theorem d_X_spell_35 : decode b_X_spell 35 = .ok (.if_icmp .ge 54, 3) := by decide +kernel
theorem d_X_spell_38 : decode b_X_spell 38 = .ok (.iload_n 1, 1) := by decide +kernel
theorem d_X_spell_39 : decode b_X_spell 39 = .ok (.ifCond .eq 50, 3) := by decide +kernel
theorem d_X_spell_42 : decode b_X_spell 42 = .ok (.aload_n 0, 1) := by decide +kernel
theorem d_X_spell_43 : decode b_X_spell 43 = .ok (.getfield 9, 3) := by decide +kernel
theorem d_X_spell_46 : decode b_X_spell 46 = .ok (.iload_n 2, 1) := by decide +kernel
theorem d_X_spell_47 : decode b_X_spell 47 = .ok (.baload, 1) := by decide +kernel
theorem d_X_spell_48 : decode b_X_spell 48 = .ok (.bipush 97, 2) := by decide +kernel
theorem d_X_spell_50 : decode b_X_spell 50 = .ok (.if_icmp .lt 7, 3) := by decide +kernel
theorem d_X_spell_53 : decode b_X_spell 53 = .ok (.iconst 1, 1) := by decide +kernel
theorem d_X_spell_54 : decode b_X_spell 54 = .ok (.goto 4, 3) := by decide +kernel
theorem d_X_spell_57 : decode b_X_spell 57 = .ok (.iconst 0, 1) := by decide +kernel
theorem d_X_spell_58 : decode b_X_spell 58 = .ok (.istore_n 1, 1) := by decide +kernel
theorem d_X_spell_59 : decode b_X_spell 59 = .ok (.aload_n 0, 1) := by decide +kernel
theorem d_X_spell_60 : decode b_X_spell 60 = .ok (.ldc2_w 61, 3) := by decide +kernel
theorem d_X_spell_63 : decode b_X_spell 63 = .ok (.aload_n 0, 1) := by decide +kernel
theorem d_X_spell_64 : decode b_X_spell 64 = .ok (.getfield 57, 3) := by decide +kernel
theorem d_X_spell_67 : decode b_X_spell 67 = .ok (.lmul, 1) := by decide +kernel
theorem d_X_spell_68 : decode b_X_spell 68 = .ok (.aload_n 0, 1) := by decide +kernel
theorem d_X_spell_69 : decode b_X_spell 69 = .ok (.getfield 9, 3) := by decide +kernel
theorem d_X_spell_72 : decode b_X_spell 72 = .ok (.iload_n 2, 1) := by decide +kernel
theorem d_X_spell_73 : decode b_X_spell 73 = .ok (.baload, 1) := by decide +kernel
theorem d_X_spell_74 : decode b_X_spell 74 = .ok (.i2l, 1) := by decide +kernel
theorem d_X_spell_75 : decode b_X_spell 75 = .ok (.ladd, 1) := by decide +kernel
theorem d_X_spell_76 : decode b_X_spell 76 = .ok (.ldc2_w 63, 3) := by decide +kernel
theorem d_X_spell_79 : decode b_X_spell 79 = .ok (.lsub, 1) := by decide +kernel
theorem d_X_spell_80 : decode b_X_spell 80 = .ok (.putfield 57, 3) := by decide +kernel
theorem d_X_spell_83 : decode b_X_spell 83 = .ok (.iinc 2 1, 3) := by decide +kernel
theorem d_X_spell_86 : decode b_X_spell 86 = .ok (.goto (-56), 3) := by decide +kernel
theorem d_X_spell_89 : decode b_X_spell 89 = .ok (.iload_n 1, 1) := by decide +kernel
theorem d_X_spell_90 : decode b_X_spell 90 = .ok (.ifCond .eq 9, 3) := by decide +kernel
theorem d_X_spell_93 : decode b_X_spell 93 = .ok (.getstatic 65, 3) := by decide +kernel
theorem d_X_spell_96 : decode b_X_spell 96 = .ok (.goto 6, 3) := by decide +kernel
theorem d_X_spell_99 : decode b_X_spell 99 = .ok (.getstatic 47, 3) := by decide +kernel
theorem d_X_spell_102 : decode b_X_spell 102 = .ok (.areturn, 1) := by decide +kernel
theorem d_X_count_0 : decode b_X_count 0 = .ok (.aload_n 0, 1) := by decide +kernel
theorem d_X_count_1 : decode b_X_count 1 = .ok (.getfield 9, 3) := by decide +kernel
theorem d_X_count_4 : decode b_X_count 4 = .ok (.aload_n 0, 1) := by decide +kernel
theorem d_X_count_5 : decode b_X_count 5 = .ok (.getfield 25, 3) := by decide +kernel
theorem d_X_count_8 : decode b_X_count 8 = .ok (.baload, 1) := by decide +kernel
theorem d_X_count_9 : decode b_X_count 9 = .ok (.bipush 45, 2) := by decide +kernel
theorem d_X_count_11 : decode b_X_count 11 = .ok (.if_icmp .ne 7, 3) := by decide +kernel
theorem d_X_count_14 : decode b_X_count 14 = .ok (.iconst 1, 1) := by decide +kernel
theorem d_X_count_15 : decode b_X_count 15 = .ok (.goto 4, 3) := by decide +kernel
theorem d_X_count_18 : decode b_X_count 18 = .ok (.iconst 0, 1) := by decide +kernel
theorem d_X_count_19 : decode b_X_count 19 = .ok (.istore_n 1, 1) := by decide +kernel
theorem d_X_count_20 : decode b_X_count 20 = .ok (.lconst 0, 1) := by decide +kernel
theorem d_X_count_21 : decode b_X_count 21 = .ok (.lstore_n 2, 1) := by decide +kernel
theorem d_X_count_22 : decode b_X_count 22 = .ok (.iload_n 1, 1) := by decide +kernel
theorem d_X_count_23 : decode b_X_count 23 = .ok (.ifCond .eq 12, 3) := by decide +kernel
theorem d_X_count_26 : decode b_X_count 26 = .ok (.aload_n 0, 1) := by decide +kernel
theorem d_X_count_27 : decode b_X_count 27 = .ok (.getfield 25, 3) := by decide +kernel
theorem d_X_count_30 : decode b_X_count 30 = .ok (.iconst 1, 1) := by decide +kernel
theorem d_X_count_31 : decode b_X_count 31 = .ok (.iadd, 1) := by decide +kernel
theorem d_X_count_32 : decode b_X_count 32 = .ok (.goto 7, 3) := by decide +kernel
theorem d_X_count_35 : decode b_X_count 35 = .ok (.aload_n 0, 1) := by decide +kernel
theorem d_X_count_36 : decode b_X_count 36 = .ok (.getfield 25, 3) := by decide +kernel
theorem d_X_count_39 : decode b_X_count 39 = .ok (.istore 4, 2) := by decide +kernel
theorem d_X_count_41 : decode b_X_count 41 = .ok (.iload 4, 2) := by decide +kernel
theorem d_X_count_43 : decode b_X_count 43 = .ok (.aload_n 0, 1) := by decide +kernel
theorem d_X_count_44 : decode b_X_count 44 = .ok (.getfield 15, 3) := by decide +kernel
theorem d_X_count_47 : decode b_X_count 47 = .ok (.if_icmp .ge 7, 3) := by decide +kernel
theorem d_X_count_50 : decode b_X_count 50 = .ok (.iconst 1, 1) := by decide +kernel
theorem d_X_count_51 : decode b_X_count 51 = .ok (.goto 4, 3) := by decide +kernel
theorem d_X_count_54 : decode b_X_count 54 = .ok (.iconst 0, 1) := by decide +kernel
theorem d_X_count_55 : decode b_X_count 55 = .ok (.istore 5, 2) := by decide +kernel
theorem d_X_count_57 : decode b_X_count 57 = .ok (.iload 4, 2) := by decide +kernel
theorem d_X_count_59 : decode b_X_count 59 = .ok (.istore 6, 2) := by decide +kernel
theorem d_X_count_61 : decode b_X_count 61 = .ok (.iload 6, 2) := by decide +kernel
theorem d_X_count_63 : decode b_X_count 63 = .ok (.aload_n 0, 1) := by decide +kernel
theorem d_X_count_64 : decode b_X_count 64 = .ok (.getfield 15, 3) := by decide +kernel
theorem d_X_count_67 : decode b_X_count 67 = .ok (.if_icmp .ge 84, 3) := by decide +kernel
theorem d_X_count_70 : decode b_X_count 70 = .ok (.iload 5, 2) := by decide +kernel
theorem d_X_count_72 : decode b_X_count 72 = .ok (.ifCond .eq 79, 3) := by decide +kernel
theorem d_X_count_75 : decode b_X_count 75 = .ok (.aload_n 0, 1) := by decide +kernel
theorem d_X_count_76 : decode b_X_count 76 = .ok (.getfield 9, 3) := by decide +kernel
theorem d_X_count_79 : decode b_X_count 79 = .ok (.iload 6, 2) := by decide +kernel
theorem d_X_count_81 : decode b_X_count 81 = .ok (.baload, 1) := by decide +kernel
theorem d_X_count_82 : decode b_X_count 82 = .ok (.bipush 48, 2) := by decide +kernel
theorem d_X_count_84 : decode b_X_count 84 = .ok (.if_icmp .lt 19, 3) := by decide +kernel
theorem d_X_count_87 : decode b_X_count 87 = .ok (.aload_n 0, 1) := by decide +kernel
theorem d_X_count_88 : decode b_X_count 88 = .ok (.getfield 9, 3) := by decide +kernel
theorem d_X_count_91 : decode b_X_count 91 = .ok (.iload 6, 2) := by decide +kernel
theorem d_X_count_93 : decode b_X_count 93 = .ok (.baload, 1) := by decide +kernel
theorem d_X_count_94 : decode b_X_count 94 = .ok (.bipush 57, 2) := by decide +kernel
theorem d_X_count_96 : decode b_X_count 96 = .ok (.if_icmp .gt 7, 3) := by decide +kernel
theorem d_X_count_99 : decode b_X_count 99 = .ok (.iconst 1, 1) := by decide +kernel
theorem d_X_count_100 : decode b_X_count 100 = .ok (.goto 4, 3) := by decide +kernel
theorem d_X_count_103 : decode b_X_count 103 = .ok (.iconst 0, 1) := by decide +kernel
theorem d_X_count_104 : decode b_X_count 104 = .ok (.istore 5, 2) := by decide +kernel
theorem d_X_count_106 : decode b_X_count 106 = .ok (.ldc2_w 68, 3) := by decide +kernel
theorem d_X_count_109 : decode b_X_count 109 = .ok (.lload_n 2, 1) := by decide +kernel
theorem d_X_count_110 : decode b_X_count 110 = .ok (.lmul, 1) := by decide +kernel
theorem d_X_count_111 : decode b_X_count 111 = .ok (.aload_n 0, 1) := by decide +kernel
theorem d_X_count_112 : decode b_X_count 112 = .ok (.getfield 9, 3) := by decide +kernel
theorem d_X_count_115 : decode b_X_count 115 = .ok (.iload 6, 2) := by decide +kernel
theorem d_X_count_117 : decode b_X_count 117 = .ok (.baload, 1) := by decide +kernel
theorem d_X_count_118 : decode b_X_count 118 = .ok (.i2l, 1) := by decide +kernel
theorem d_X_count_119 : decode b_X_count 119 = .ok (.ladd, 1) := by decide +kernel
theorem d_X_count_120 : decode b_X_count 120 = .ok (.ldc2_w 70, 3) := by decide +kernel
theorem d_X_count_123 : decode b_X_count 123 = .ok (.lsub, 1) := by decide +kernel
theorem d_X_count_124 : decode b_X_count 124 = .ok (.lstore_n 2, 1) := by decide +kernel
theorem d_X_count_125 : decode b_X_count 125 = .ok (.iload 5, 2) := by decide +kernel
theorem d_X_count_127 : decode b_X_count 127 = .ok (.ifCond .eq 15, 3) := by decide +kernel
theorem d_X_count_130 : decode b_X_count 130 = .ok (.lload_n 2, 1) := by decide +kernel
theorem d_X_count_131 : decode b_X_count 131 = .ok (.ldc2_w 72, 3) := by decide +kernel
theorem d_X_count_134 : decode b_X_count 134 = .ok (.lcmp, 1) := by decide +kernel
theorem d_X_count_135 : decode b_X_count 135 = .ok (.ifCond .gt 7, 3) := by decide +kernel
theorem d_X_count_138 : decode b_X_count 138 = .ok (.iconst 1, 1) := by decide +kernel
theorem d_X_count_139 : decode b_X_count 139 = .ok (.goto 4, 3) := by decide +kernel
theorem d_X_count_142 : decode b_X_count 142 = .ok (.iconst 0, 1) := by decide +kernel
theorem d_X_count_143 : decode b_X_count 143 = .ok (.istore 5, 2) := by decide +kernel
theorem d_X_count_145 : decode b_X_count 145 = .ok (.iinc 6 1, 3) := by decide +kernel
theorem d_X_count_148 : decode b_X_count 148 = .ok (.goto (-87), 3) := by decide +kernel
theorem d_X_count_151 : decode b_X_count 151 = .ok (.iload_n 1, 1) := by decide +kernel
theorem d_X_count_152 : decode b_X_count 152 = .ok (.ifCond .eq 8, 3) := by decide +kernel
theorem d_X_count_155 : decode b_X_count 155 = .ok (.lload_n 2, 1) := by decide +kernel
theorem d_X_count_156 : decode b_X_count 156 = .ok (.lneg, 1) := by decide +kernel
theorem d_X_count_157 : decode b_X_count 157 = .ok (.goto 4, 3) := by decide +kernel
theorem d_X_count_160 : decode b_X_count 160 = .ok (.lload_n 2, 1) := by decide +kernel
theorem d_X_count_161 : decode b_X_count 161 = .ok (.lstore_n 2, 1) := by decide +kernel
theorem d_X_count_162 : decode b_X_count 162 = .ok (.aload_n 0, 1) := by decide +kernel
theorem d_X_count_163 : decode b_X_count 163 = .ok (.lload_n 2, 1) := by decide +kernel
theorem d_X_count_164 : decode b_X_count 164 = .ok (.l2i, 1) := by decide +kernel
theorem d_X_count_165 : decode b_X_count 165 = .ok (.putfield 74, 3) := by decide +kernel
theorem d_X_count_168 : decode b_X_count 168 = .ok (.iload 5, 2) := by decide +kernel
theorem d_X_count_170 : decode b_X_count 170 = .ok (.ifCond .eq 17, 3) := by decide +kernel
theorem d_X_count_173 : decode b_X_count 173 = .ok (.lload_n 2, 1) := by decide +kernel
theorem d_X_count_174 : decode b_X_count 174 = .ok (.ldc2_w 77, 3) := by decide +kernel
theorem d_X_count_177 : decode b_X_count 177 = .ok (.lcmp, 1) := by decide +kernel
theorem d_X_count_178 : decode b_X_count 178 = .ok (.ifCond .gt 9, 3) := by decide +kernel
theorem d_X_count_181 : decode b_X_count 181 = .ok (.getstatic 79, 3) := by decide +kernel
theorem d_X_count_184 : decode b_X_count 184 = .ok (.goto 6, 3) := by decide +kernel
theorem d_X_count_187 : decode b_X_count 187 = .ok (.getstatic 47, 3) := by decide +kernel
theorem d_X_count_190 : decode b_X_count 190 = .ok (.areturn, 1) := by decide +kernel
theorem d_P_refuse_0 : decode b_P_refuse 0 = .ok (.aload_n 0, 1) := by decide +kernel
theorem d_P_refuse_1 : decode b_P_refuse 1 = .ok (.getfield 146, 3) := by decide +kernel
theorem d_P_refuse_4 : decode b_P_refuse 4 = .ok (.ifCond .ne 53, 3) := by decide +kernel
theorem d_P_refuse_7 : decode b_P_refuse 7 = .ok (.aload_n 0, 1) := by decide +kernel
theorem d_P_refuse_8 : decode b_P_refuse 8 = .ok (.aload_n 0, 1) := by decide +kernel
theorem d_P_refuse_9 : decode b_P_refuse 9 = .ok (.getfield 112, 3) := by decide +kernel
theorem d_P_refuse_12 : decode b_P_refuse 12 = .ok (.getfield 149, 3) := by decide +kernel
theorem d_P_refuse_15 : decode b_P_refuse 15 = .ok (.getstatic 153, 3) := by decide +kernel
theorem d_P_refuse_18 : decode b_P_refuse 18 = .ok (.if_acmp .ne 7, 3) := by decide +kernel
theorem d_P_refuse_21 : decode b_P_refuse 21 = .ok (.iconst 1, 1) := by decide +kernel
theorem d_P_refuse_22 : decode b_P_refuse 22 = .ok (.goto 21, 3) := by decide +kernel
theorem d_P_refuse_25 : decode b_P_refuse 25 = .ok (.aload_n 0, 1) := by decide +kernel
theorem d_P_refuse_26 : decode b_P_refuse 26 = .ok (.getfield 112, 3) := by decide +kernel
theorem d_P_refuse_29 : decode b_P_refuse 29 = .ok (.getfield 149, 3) := by decide +kernel
theorem d_P_refuse_32 : decode b_P_refuse 32 = .ok (.getstatic 158, 3) := by decide +kernel
theorem d_P_refuse_35 : decode b_P_refuse 35 = .ok (.if_acmp .ne 7, 3) := by decide +kernel
theorem d_P_refuse_38 : decode b_P_refuse 38 = .ok (.iconst 3, 1) := by decide +kernel
theorem d_P_refuse_39 : decode b_P_refuse 39 = .ok (.goto 4, 3) := by decide +kernel
theorem d_P_refuse_42 : decode b_P_refuse 42 = .ok (.iconst 2, 1) := by decide +kernel
theorem d_P_refuse_43 : decode b_P_refuse 43 = .ok (.putfield 146, 3) := by decide +kernel
theorem d_P_refuse_46 : decode b_P_refuse 46 = .ok (.aload_n 0, 1) := by decide +kernel
theorem d_P_refuse_47 : decode b_P_refuse 47 = .ok (.aload_n 0, 1) := by decide +kernel
theorem d_P_refuse_48 : decode b_P_refuse 48 = .ok (.getfield 112, 3) := by decide +kernel
theorem d_P_refuse_51 : decode b_P_refuse 51 = .ok (.getfield 161, 3) := by decide +kernel
theorem d_P_refuse_54 : decode b_P_refuse 54 = .ok (.putfield 134, 3) := by decide +kernel
theorem d_P_refuse_57 : decode b_P_refuse 57 = .ok (.return_, 1) := by decide +kernel
theorem d_P_readDefinition_0 : decode b_P_readDefinition 0 = .ok (.aload_n 0, 1) := by decide +kernel
theorem d_P_readDefinition_1 : decode b_P_readDefinition 1 = .ok (.getfield 112, 3) := by decide +kernel
theorem d_P_readDefinition_4 : decode b_P_readDefinition 4 = .ok (.invokevirtual 172, 3) := by decide +kernel
theorem d_P_readDefinition_7 : decode b_P_readDefinition 7 = .ok (.aload_n 0, 1) := by decide +kernel
theorem d_P_readDefinition_8 : decode b_P_readDefinition 8 = .ok (.getfield 124, 3) := by decide +kernel
theorem d_P_readDefinition_11 : decode b_P_readDefinition 11 = .ok (.aload_n 0, 1) := by decide +kernel
theorem d_P_readDefinition_12 : decode b_P_readDefinition 12 = .ok (.getfield 182, 3) := by decide +kernel
theorem d_P_readDefinition_15 : decode b_P_readDefinition 15 = .ok (.aaload, 1) := by decide +kernel
theorem d_P_readDefinition_16 : decode b_P_readDefinition 16 = .ok (.astore_n 1, 1) := by decide +kernel
theorem d_P_readDefinition_17 : decode b_P_readDefinition 17 = .ok (.aload_n 1, 1) := by decide +kernel
theorem d_P_readDefinition_18 : decode b_P_readDefinition 18 = .ok (.aload_n 0, 1) := by decide +kernel
theorem d_P_readDefinition_19 : decode b_P_readDefinition 19 = .ok (.ldc 91, 2) := by decide +kernel
theorem d_P_readDefinition_21 : decode b_P_readDefinition 21 = .ok (.invokevirtual 197, 3) := by decide +kernel
theorem d_P_readDefinition_24 : decode b_P_readDefinition 24 = .ok (.putfield 201, 3) := by decide +kernel
theorem d_P_readDefinition_27 : decode b_P_readDefinition 27 = .ok (.aload_n 1, 1) := by decide +kernel
theorem d_P_readDefinition_28 : decode b_P_readDefinition 28 = .ok (.getfield 201, 3) := by decide +kernel
theorem d_P_readDefinition_31 : decode b_P_readDefinition 31 = .ok (.ifCond .ne 16, 3) := by decide +kernel
theorem d_P_readDefinition_34 : decode b_P_readDefinition 34 = .ok (.aload_n 0, 1) := by decide +kernel
theorem d_P_readDefinition_35 : decode b_P_readDefinition 35 = .ok (.ldc 89, 2) := by decide +kernel
theorem d_P_readDefinition_37 : decode b_P_readDefinition 37 = .ok (.invokevirtual 197, 3) := by decide +kernel
theorem d_P_readDefinition_40 : decode b_P_readDefinition 40 = .ok (.ifCond .ne 7, 3) := by decide +kernel
theorem d_P_readDefinition_43 : decode b_P_readDefinition 43 = .ok (.aload_n 0, 1) := by decide +kernel
theorem d_P_readDefinition_44 : decode b_P_readDefinition 44 = .ok (.invokevirtual 169, 3) := by decide +kernel
theorem d_P_readDefinition_47 : decode b_P_readDefinition 47 = .ok (.aload_n 0, 1) := by decide +kernel
theorem d_P_readDefinition_48 : decode b_P_readDefinition 48 = .ok (.getstatic 162, 3) := by decide +kernel
theorem d_P_readDefinition_51 : decode b_P_readDefinition 51 = .ok (.invokevirtual 205, 3) := by decide +kernel
theorem d_P_readDefinition_54 : decode b_P_readDefinition 54 = .ok (.aload_n 0, 1) := by decide +kernel
theorem d_P_readDefinition_55 : decode b_P_readDefinition 55 = .ok (.getfield 146, 3) := by decide +kernel
theorem d_P_readDefinition_58 : decode b_P_readDefinition 58 = .ok (.ifCond .ne 28, 3) := by decide +kernel
theorem d_P_readDefinition_61 : decode b_P_readDefinition 61 = .ok (.aload_n 0, 1) := by decide +kernel
theorem d_P_readDefinition_62 : decode b_P_readDefinition 62 = .ok (.invokevirtual 209, 3) := by decide +kernel
theorem d_P_readDefinition_65 : decode b_P_readDefinition 65 = .ok (.ifCond .eq 17, 3) := by decide +kernel
theorem d_P_readDefinition_68 : decode b_P_readDefinition 68 = .ok (.aload_n 0, 1) := by decide +kernel
theorem d_P_readDefinition_69 : decode b_P_readDefinition 69 = .ok (.aload_n 0, 1) := by decide +kernel
theorem d_P_readDefinition_70 : decode b_P_readDefinition 70 = .ok (.getfield 112, 3) := by decide +kernel
theorem d_P_readDefinition_73 : decode b_P_readDefinition 73 = .ok (.getfield 165, 3) := by decide +kernel
theorem d_P_readDefinition_76 : decode b_P_readDefinition 76 = .ok (.invokevirtual 213, 3) := by decide +kernel
theorem d_P_readDefinition_79 : decode b_P_readDefinition 79 = .ok (.ifCond .eq 7, 3) := by decide +kernel
theorem d_P_readDefinition_82 : decode b_P_readDefinition 82 = .ok (.aload_n 0, 1) := by decide +kernel
theorem d_P_readDefinition_83 : decode b_P_readDefinition 83 = .ok (.invokevirtual 169, 3) := by decide +kernel
theorem d_P_readDefinition_86 : decode b_P_readDefinition 86 = .ok (.aload_n 1, 1) := by decide +kernel
theorem d_P_readDefinition_87 : decode b_P_readDefinition 87 = .ok (.aload_n 0, 1) := by decide +kernel
theorem d_P_readDefinition_88 : decode b_P_readDefinition 88 = .ok (.getfield 112, 3) := by decide +kernel
theorem d_P_readDefinition_91 : decode b_P_readDefinition 91 = .ok (.getfield 165, 3) := by decide +kernel
theorem d_P_readDefinition_94 : decode b_P_readDefinition 94 = .ok (.putfield 194, 3) := by decide +kernel
theorem d_P_readDefinition_97 : decode b_P_readDefinition 97 = .ok (.aload_n 1, 1) := by decide +kernel
theorem d_P_readDefinition_98 : decode b_P_readDefinition 98 = .ok (.aload_n 0, 1) := by decide +kernel
theorem d_P_readDefinition_99 : decode b_P_readDefinition 99 = .ok (.getfield 112, 3) := by decide +kernel
theorem d_P_readDefinition_102 : decode b_P_readDefinition 102 = .ok (.getfield 161, 3) := by decide +kernel
theorem d_P_readDefinition_105 : decode b_P_readDefinition 105 = .ok (.putfield 216, 3) := by decide +kernel
theorem d_P_readDefinition_108 : decode b_P_readDefinition 108 = .ok (.aload_n 0, 1) := by decide +kernel
theorem d_P_readDefinition_109 : decode b_P_readDefinition 109 = .ok (.getstatic 162, 3) := by decide +kernel
theorem d_P_readDefinition_112 : decode b_P_readDefinition 112 = .ok (.invokevirtual 205, 3) := by decide +kernel
theorem d_P_readDefinition_115 : decode b_P_readDefinition 115 = .ok (.aload_n 0, 1) := by decide +kernel
theorem d_P_readDefinition_116 : decode b_P_readDefinition 116 = .ok (.getstatic 188, 3) := by decide +kernel
theorem d_P_readDefinition_119 : decode b_P_readDefinition 119 = .ok (.invokevirtual 205, 3) := by decide +kernel
theorem d_P_readDefinition_122 : decode b_P_readDefinition 122 = .ok (.aload_n 1, 1) := by decide +kernel
theorem d_P_readDefinition_123 : decode b_P_readDefinition 123 = .ok (.iconst 0, 1) := by decide +kernel
theorem d_P_readDefinition_124 : decode b_P_readDefinition 124 = .ok (.putfield 217, 3) := by decide +kernel
theorem d_P_readDefinition_127 : decode b_P_readDefinition 127 = .ok (.aload_n 0, 1) := by decide +kernel
theorem d_P_readDefinition_128 : decode b_P_readDefinition 128 = .ok (.getfield 146, 3) := by decide +kernel
theorem d_P_readDefinition_131 : decode b_P_readDefinition 131 = .ok (.ifCond .ne 24, 3) := by decide +kernel
theorem d_P_readDefinition_134 : decode b_P_readDefinition 134 = .ok (.aload_n 0, 1) := by decide +kernel
theorem d_P_readDefinition_135 : decode b_P_readDefinition 135 = .ok (.getfield 112, 3) := by decide +kernel
theorem d_P_readDefinition_138 : decode b_P_readDefinition 138 = .ok (.getfield 149, 3) := by decide +kernel
theorem d_P_readDefinition_141 : decode b_P_readDefinition 141 = .ok (.getstatic 218, 3) := by decide +kernel
theorem d_P_readDefinition_144 : decode b_P_readDefinition 144 = .ok (.if_acmp .eq 11, 3) := by decide +kernel
theorem d_P_readDefinition_147 : decode b_P_readDefinition 147 = .ok (.aload_n 0, 1) := by decide +kernel
theorem d_P_readDefinition_148 : decode b_P_readDefinition 148 = .ok (.aload_n 1, 1) := by decide +kernel
theorem d_P_readDefinition_149 : decode b_P_readDefinition 149 = .ok (.invokevirtual 221, 3) := by decide +kernel
theorem d_P_readDefinition_152 : decode b_P_readDefinition 152 = .ok (.goto (-25), 3) := by decide +kernel
theorem d_P_readDefinition_155 : decode b_P_readDefinition 155 = .ok (.aload_n 0, 1) := by decide +kernel
theorem d_P_readDefinition_156 : decode b_P_readDefinition 156 = .ok (.getstatic 218, 3) := by decide +kernel
theorem d_P_readDefinition_159 : decode b_P_readDefinition 159 = .ok (.invokevirtual 205, 3) := by decide +kernel
theorem d_P_readDefinition_162 : decode b_P_readDefinition 162 = .ok (.aload_n 1, 1) := by decide +kernel
theorem d_P_readDefinition_163 : decode b_P_readDefinition 163 = .ok (.aload_n 0, 1) := by decide +kernel
theorem d_P_readDefinition_164 : decode b_P_readDefinition 164 = .ok (.getfield 146, 3) := by decide +kernel
theorem d_P_readDefinition_167 : decode b_P_readDefinition 167 = .ok (.ifCond .ne 14, 3) := by decide +kernel
theorem d_P_readDefinition_170 : decode b_P_readDefinition 170 = .ok (.aload_n 0, 1) := by decide +kernel
theorem d_P_readDefinition_171 : decode b_P_readDefinition 171 = .ok (.aload_n 1, 1) := by decide +kernel
theorem d_P_readDefinition_172 : decode b_P_readDefinition 172 = .ok (.getfield 201, 3) := by decide +kernel
theorem d_P_readDefinition_175 : decode b_P_readDefinition 175 = .ok (.invokevirtual 225, 3) := by decide +kernel
theorem d_P_readDefinition_178 : decode b_P_readDefinition 178 = .ok (.goto 4, 3) := by decide +kernel
theorem d_P_readDefinition_181 : decode b_P_readDefinition 181 = .ok (.iconst 0, 1) := by decide +kernel
theorem d_P_readDefinition_182 : decode b_P_readDefinition 182 = .ok (.putfield 229, 3) := by decide +kernel
theorem d_P_readDefinition_185 : decode b_P_readDefinition 185 = .ok (.aload_n 1, 1) := by decide +kernel
theorem d_P_readDefinition_186 : decode b_P_readDefinition 186 = .ok (.aload_n 0, 1) := by decide +kernel
theorem d_P_readDefinition_187 : decode b_P_readDefinition 187 = .ok (.getfield 179, 3) := by decide +kernel
theorem d_P_readDefinition_190 : decode b_P_readDefinition 190 = .ok (.putfield 231, 3) := by decide +kernel
theorem d_P_readDefinition_193 : decode b_P_readDefinition 193 = .ok (.aload_n 0, 1) := by decide +kernel
theorem d_P_readDefinition_194 : decode b_P_readDefinition 194 = .ok (.getfield 146, 3) := by decide +kernel
theorem d_P_readDefinition_197 : decode b_P_readDefinition 197 = .ok (.ifCond .ne 8, 3) := by decide +kernel
theorem d_P_readDefinition_200 : decode b_P_readDefinition 200 = .ok (.aload_n 0, 1) := by decide +kernel
theorem d_P_readDefinition_201 : decode b_P_readDefinition 201 = .ok (.aload_n 1, 1) := by decide +kernel
theorem d_P_readDefinition_202 : decode b_P_readDefinition 202 = .ok (.invokevirtual 234, 3) := by decide +kernel
theorem d_P_readDefinition_205 : decode b_P_readDefinition 205 = .ok (.aload_n 0, 1) := by decide +kernel
theorem d_P_readDefinition_206 : decode b_P_readDefinition 206 = .ok (.getstatic 218, 3) := by decide +kernel
theorem d_P_readDefinition_209 : decode b_P_readDefinition 209 = .ok (.invokevirtual 205, 3) := by decide +kernel
theorem d_P_readDefinition_212 : decode b_P_readDefinition 212 = .ok (.aload_n 0, 1) := by decide +kernel
theorem d_P_readDefinition_213 : decode b_P_readDefinition 213 = .ok (.dup, 1) := by decide +kernel
theorem d_P_readDefinition_214 : decode b_P_readDefinition 214 = .ok (.getfield 182, 3) := by decide +kernel
theorem d_P_readDefinition_217 : decode b_P_readDefinition 217 = .ok (.iconst 1, 1) := by decide +kernel
theorem d_P_readDefinition_218 : decode b_P_readDefinition 218 = .ok (.iadd, 1) := by decide +kernel
theorem d_P_readDefinition_219 : decode b_P_readDefinition 219 = .ok (.putfield 182, 3) := by decide +kernel
theorem d_P_readDefinition_222 : decode b_P_readDefinition 222 = .ok (.return_, 1) := by decide +kernel
theorem d_P_isWord_0 : decode b_P_isWord 0 = .ok (.aload_n 0, 1) := by decide +kernel
theorem d_P_isWord_1 : decode b_P_isWord 1 = .ok (.getfield 112, 3) := by decide +kernel
theorem d_P_isWord_4 : decode b_P_isWord 4 = .ok (.getfield 149, 3) := by decide +kernel
theorem d_P_isWord_7 : decode b_P_isWord 7 = .ok (.getstatic 162, 3) := by decide +kernel
theorem d_P_isWord_10 : decode b_P_isWord 10 = .ok (.if_acmp .ne 22, 3) := by decide +kernel
theorem d_P_isWord_13 : decode b_P_isWord 13 = .ok (.aload_n 0, 1) := by decide +kernel
theorem d_P_isWord_14 : decode b_P_isWord 14 = .ok (.getfield 112, 3) := by decide +kernel
theorem d_P_isWord_17 : decode b_P_isWord 17 = .ok (.getfield 165, 3) := by decide +kernel
theorem d_P_isWord_20 : decode b_P_isWord 20 = .ok (.aload_n 1, 1) := by decide +kernel
theorem d_P_isWord_21 : decode b_P_isWord 21 = .ok (.invokestatic 77, 3) := by decide +kernel
theorem d_P_isWord_24 : decode b_P_isWord 24 = .ok (.lcmp, 1) := by decide +kernel
theorem d_P_isWord_25 : decode b_P_isWord 25 = .ok (.ifCond .ne 7, 3) := by decide +kernel
theorem d_P_isWord_28 : decode b_P_isWord 28 = .ok (.iconst 1, 1) := by decide +kernel
theorem d_P_isWord_29 : decode b_P_isWord 29 = .ok (.goto 4, 3) := by decide +kernel
theorem d_P_isWord_32 : decode b_P_isWord 32 = .ok (.iconst 0, 1) := by decide +kernel
theorem d_P_isWord_33 : decode b_P_isWord 33 = .ok (.ireturn, 1) := by decide +kernel
theorem d_P_spelled_0 : decode b_P_spelled 0 = .ok (.lconst 0, 1) := by decide +kernel
theorem d_P_spelled_1 : decode b_P_spelled 1 = .ok (.lstore_n 1, 1) := by decide +kernel
theorem d_P_spelled_2 : decode b_P_spelled 2 = .ok (.iconst 0, 1) := by decide +kernel
theorem d_P_spelled_3 : decode b_P_spelled 3 = .ok (.istore_n 3, 1) := by decide +kernel
theorem d_P_spelled_4 : decode b_P_spelled 4 = .ok (.iload_n 3, 1) := by decide +kernel
theorem d_P_spelled_5 : decode b_P_spelled 5 = .ok (.aload_n 0, 1) := by decide +kernel
theorem d_P_spelled_6 : decode b_P_spelled 6 = .ok (.invokevirtual 1, 3) := by decide +kernel
theorem d_P_spelled_9 : decode b_P_spelled 9 = .ok (.if_icmp .ge 26, 3) := by decide +kernel
theorem d_P_spelled_12 : decode b_P_spelled 12 = .ok (.ldc2_w 7, 3) := by decide +kernel
theorem d_P_spelled_15 : decode b_P_spelled 15 = .ok (.lload_n 1, 1) := by decide +kernel
theorem d_P_spelled_16 : decode b_P_spelled 16 = .ok (.lmul, 1) := by decide +kernel
theorem d_P_spelled_17 : decode b_P_spelled 17 = .ok (.aload_n 0, 1) := by decide +kernel
theorem d_P_spelled_18 : decode b_P_spelled 18 = .ok (.iload_n 3, 1) := by decide +kernel
theorem d_P_spelled_19 : decode b_P_spelled 19 = .ok (.invokevirtual 9, 3) := by decide +kernel
theorem d_P_spelled_22 : decode b_P_spelled 22 = .ok (.i2l, 1) := by decide +kernel
theorem d_P_spelled_23 : decode b_P_spelled 23 = .ok (.ladd, 1) := by decide +kernel
theorem d_P_spelled_24 : decode b_P_spelled 24 = .ok (.ldc2_w 13, 3) := by decide +kernel
theorem d_P_spelled_27 : decode b_P_spelled 27 = .ok (.lsub, 1) := by decide +kernel
theorem d_P_spelled_28 : decode b_P_spelled 28 = .ok (.lstore_n 1, 1) := by decide +kernel
theorem d_P_spelled_29 : decode b_P_spelled 29 = .ok (.iinc 3 1, 3) := by decide +kernel
theorem d_P_spelled_32 : decode b_P_spelled 32 = .ok (.goto (-28), 3) := by decide +kernel
theorem d_P_spelled_35 : decode b_P_spelled 35 = .ok (.lload_n 1, 1) := by decide +kernel
theorem d_P_spelled_36 : decode b_P_spelled 36 = .ok (.lreturn, 1) := by decide +kernel
theorem d_Js_length_0 : decode b_Js_length 0 = .ok (.aload_n 0, 1) := by decide +kernel
theorem d_Js_length_1 : decode b_Js_length 1 = .ok (.getfield 9, 3) := by decide +kernel
theorem d_Js_length_4 : decode b_Js_length 4 = .ok (.arraylength, 1) := by decide +kernel
theorem d_Js_length_5 : decode b_Js_length 5 = .ok (.aload_n 0, 1) := by decide +kernel
theorem d_Js_length_6 : decode b_Js_length 6 = .ok (.invokevirtual 335, 3) := by decide +kernel
theorem d_Js_length_9 : decode b_Js_length 9 = .ok (.ishr, 1) := by decide +kernel
theorem d_Js_length_10 : decode b_Js_length 10 = .ok (.ireturn, 1) := by decide +kernel
theorem d_Js_coder_0 : decode b_Js_coder 0 = .ok (.getstatic 38, 3) := by decide +kernel
theorem d_Js_coder_3 : decode b_Js_coder 3 = .ok (.ifCond .eq 10, 3) := by decide +kernel
theorem d_Js_coder_6 : decode b_Js_coder 6 = .ok (.aload_n 0, 1) := by decide +kernel
theorem d_Js_coder_7 : decode b_Js_coder 7 = .ok (.getfield 15, 3) := by decide +kernel
theorem d_Js_coder_10 : decode b_Js_coder 10 = .ok (.goto 4, 3) := by decide +kernel
theorem d_Js_coder_13 : decode b_Js_coder 13 = .ok (.iconst 1, 1) := by decide +kernel
theorem d_Js_coder_14 : decode b_Js_coder 14 = .ok (.ireturn, 1) := by decide +kernel
theorem d_Js_charAt_0 : decode b_Js_charAt 0 = .ok (.aload_n 0, 1) := by decide +kernel
theorem d_Js_charAt_1 : decode b_Js_charAt 1 = .ok (.invokevirtual 492, 3) := by decide +kernel
theorem d_Js_charAt_4 : decode b_Js_charAt 4 = .ok (.ifCond .eq 12, 3) := by decide +kernel
theorem d_Js_charAt_7 : decode b_Js_charAt 7 = .ok (.aload_n 0, 1) := by decide +kernel
theorem d_Js_charAt_8 : decode b_Js_charAt 8 = .ok (.getfield 9, 3) := by decide +kernel
theorem d_Js_charAt_11 : decode b_Js_charAt 11 = .ok (.iload_n 1, 1) := by decide +kernel
theorem d_Js_charAt_12 : decode b_Js_charAt 12 = .ok (.invokestatic 495, 3) := by decide +kernel
theorem d_Js_charAt_15 : decode b_Js_charAt 15 = .ok (.ireturn, 1) := by decide +kernel
theorem d_Js_charAt_16 : decode b_Js_charAt 16 = .ok (.aload_n 0, 1) := by decide +kernel
theorem d_Js_charAt_17 : decode b_Js_charAt 17 = .ok (.getfield 9, 3) := by decide +kernel
theorem d_Js_charAt_20 : decode b_Js_charAt 20 = .ok (.iload_n 1, 1) := by decide +kernel
theorem d_Js_charAt_21 : decode b_Js_charAt 21 = .ok (.invokestatic 498, 3) := by decide +kernel
theorem d_Js_charAt_24 : decode b_Js_charAt 24 = .ok (.ireturn, 1) := by decide +kernel
theorem d_Js_isLatin1_0 : decode b_Js_isLatin1 0 = .ok (.getstatic 38, 3) := by decide +kernel
theorem d_Js_isLatin1_3 : decode b_Js_isLatin1 3 = .ok (.ifCond .eq 14, 3) := by decide +kernel
theorem d_Js_isLatin1_6 : decode b_Js_isLatin1 6 = .ok (.aload_n 0, 1) := by decide +kernel
theorem d_Js_isLatin1_7 : decode b_Js_isLatin1 7 = .ok (.getfield 15, 3) := by decide +kernel
theorem d_Js_isLatin1_10 : decode b_Js_isLatin1 10 = .ok (.ifCond .ne 7, 3) := by decide +kernel
theorem d_Js_isLatin1_13 : decode b_Js_isLatin1 13 = .ok (.iconst 1, 1) := by decide +kernel
theorem d_Js_isLatin1_14 : decode b_Js_isLatin1 14 = .ok (.goto 4, 3) := by decide +kernel
theorem d_Js_isLatin1_17 : decode b_Js_isLatin1 17 = .ok (.iconst 0, 1) := by decide +kernel
theorem d_Js_isLatin1_18 : decode b_Js_isLatin1 18 = .ok (.ireturn, 1) := by decide +kernel
theorem d_Jl_charAt_0 : decode b_Jl_charAt 0 = .ok (.iload_n 1, 1) := by decide +kernel
theorem d_Jl_charAt_1 : decode b_Jl_charAt 1 = .ok (.aload_n 0, 1) := by decide +kernel
theorem d_Jl_charAt_2 : decode b_Jl_charAt 2 = .ok (.arraylength, 1) := by decide +kernel
theorem d_Jl_charAt_3 : decode b_Jl_charAt 3 = .ok (.invokestatic 9, 3) := by decide +kernel
theorem d_Jl_charAt_6 : decode b_Jl_charAt 6 = .ok (.aload_n 0, 1) := by decide +kernel
theorem d_Jl_charAt_7 : decode b_Jl_charAt 7 = .ok (.iload_n 1, 1) := by decide +kernel
theorem d_Jl_charAt_8 : decode b_Jl_charAt 8 = .ok (.baload, 1) := by decide +kernel
theorem d_Jl_charAt_9 : decode b_Jl_charAt 9 = .ok (.sipush 255, 3) := by decide +kernel
theorem d_Jl_charAt_12 : decode b_Jl_charAt 12 = .ok (.iand, 1) := by decide +kernel
theorem d_Jl_charAt_13 : decode b_Jl_charAt 13 = .ok (.i2c, 1) := by decide +kernel
theorem d_Jl_charAt_14 : decode b_Jl_charAt 14 = .ok (.ireturn, 1) := by decide +kernel
theorem d_Js_checkIndex_0 : decode b_Js_checkIndex 0 = .ok (.iload_n 0, 1) := by decide +kernel
theorem d_Js_checkIndex_1 : decode b_Js_checkIndex 1 = .ok (.iload_n 1, 1) := by decide +kernel
theorem d_Js_checkIndex_2 : decode b_Js_checkIndex 2 = .ok (.getstatic 1053, 3) := by decide +kernel
theorem d_Js_checkIndex_5 : decode b_Js_checkIndex 5 = .ok (.invokestatic 1059, 3) := by decide +kernel
theorem d_Js_checkIndex_8 : decode b_Js_checkIndex 8 = .ok (.pop, 1) := by decide +kernel
theorem d_Js_checkIndex_9 : decode b_Js_checkIndex 9 = .ok (.return_, 1) := by decide +kernel
theorem d_Jp_checkIndex_0 : decode b_Jp_checkIndex 0 = .ok (.iload_n 0, 1) := by decide +kernel
theorem d_Jp_checkIndex_1 : decode b_Jp_checkIndex 1 = .ok (.ifCond .lt 8, 3) := by decide +kernel
theorem d_Jp_checkIndex_4 : decode b_Jp_checkIndex 4 = .ok (.iload_n 0, 1) := by decide +kernel
theorem d_Jp_checkIndex_5 : decode b_Jp_checkIndex 5 = .ok (.iload_n 1, 1) := by decide +kernel
theorem d_Jp_checkIndex_6 : decode b_Jp_checkIndex 6 = .ok (.if_icmp .lt 10, 3) := by decide +kernel
theorem d_Jp_checkIndex_9 : decode b_Jp_checkIndex 9 = .ok (.aload_n 2, 1) := by decide +kernel
theorem d_Jp_checkIndex_10 : decode b_Jp_checkIndex 10 = .ok (.iload_n 0, 1) := by decide +kernel
theorem d_Jp_checkIndex_11 : decode b_Jp_checkIndex 11 = .ok (.iload_n 1, 1) := by decide +kernel
theorem d_Jp_checkIndex_12 : decode b_Jp_checkIndex 12 = .ok (.invokestatic 95, 3) := by decide +kernel
theorem d_Jp_checkIndex_15 : decode b_Jp_checkIndex 15 = .ok (.athrow, 1) := by decide +kernel
theorem d_Jp_checkIndex_16 : decode b_Jp_checkIndex 16 = .ok (.iload_n 0, 1) := by decide +kernel
theorem d_Jp_checkIndex_17 : decode b_Jp_checkIndex 17 = .ok (.ireturn, 1) := by decide +kernel
theorem d_P_pass_0 : decode b_P_pass 0 = .ok (.aload_n 0, 1) := by decide +kernel
theorem d_P_pass_1 : decode b_P_pass 1 = .ok (.getfield 112, 3) := by decide +kernel
theorem d_P_pass_4 : decode b_P_pass 4 = .ok (.getfield 149, 3) := by decide +kernel
theorem d_P_pass_7 : decode b_P_pass 7 = .ok (.aload_n 1, 1) := by decide +kernel
theorem d_P_pass_8 : decode b_P_pass 8 = .ok (.if_acmp .eq 10, 3) := by decide +kernel
theorem d_P_pass_11 : decode b_P_pass 11 = .ok (.aload_n 0, 1) := by decide +kernel
theorem d_P_pass_12 : decode b_P_pass 12 = .ok (.invokevirtual 169, 3) := by decide +kernel
theorem d_P_pass_15 : decode b_P_pass 15 = .ok (.goto 17, 3) := by decide +kernel
theorem d_P_pass_18 : decode b_P_pass 18 = .ok (.aload_n 0, 1) := by decide +kernel
theorem d_P_pass_19 : decode b_P_pass 19 = .ok (.getfield 146, 3) := by decide +kernel
theorem d_P_pass_22 : decode b_P_pass 22 = .ok (.ifCond .ne 10, 3) := by decide +kernel
theorem d_P_pass_25 : decode b_P_pass 25 = .ok (.aload_n 0, 1) := by decide +kernel
theorem d_P_pass_26 : decode b_P_pass 26 = .ok (.getfield 112, 3) := by decide +kernel
theorem d_P_pass_29 : decode b_P_pass 29 = .ok (.invokevirtual 172, 3) := by decide +kernel
theorem d_P_pass_32 : decode b_P_pass 32 = .ok (.return_, 1) := by decide +kernel
theorem d_P_isName_0 : decode b_P_isName 0 = .ok (.aload_n 0, 1) := by decide +kernel
theorem d_P_isName_1 : decode b_P_isName 1 = .ok (.getfield 112, 3) := by decide +kernel
theorem d_P_isName_4 : decode b_P_isName 4 = .ok (.getfield 149, 3) := by decide +kernel
theorem d_P_isName_7 : decode b_P_isName 7 = .ok (.getstatic 162, 3) := by decide +kernel
theorem d_P_isName_10 : decode b_P_isName 10 = .ok (.if_acmp .ne 20, 3) := by decide +kernel
theorem d_P_isName_13 : decode b_P_isName 13 = .ok (.aload_n 0, 1) := by decide +kernel
theorem d_P_isName_14 : decode b_P_isName 14 = .ok (.getfield 112, 3) := by decide +kernel
theorem d_P_isName_17 : decode b_P_isName 17 = .ok (.getfield 165, 3) := by decide +kernel
theorem d_P_isName_20 : decode b_P_isName 20 = .ok (.invokestatic 175, 3) := by decide +kernel
theorem d_P_isName_23 : decode b_P_isName 23 = .ok (.ifCond .eq 7, 3) := by decide +kernel
theorem d_P_isName_26 : decode b_P_isName 26 = .ok (.iconst 1, 1) := by decide +kernel
