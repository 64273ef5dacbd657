theorem d_X_init_0 : decode b_X_init 0 = .ok (.aload_n 0, 1) := by decide +kernel
theorem d_X_init_1 : decode b_X_init 1 = .ok (.invokespecial 1, 3) := by decide +kernel
theorem d_X_init_4 : decode b_X_init 4 = .ok (.aload_n 0, 1) := by decide +kernel
theorem d_X_init_5 : decode b_X_init 5 = .ok (.iconst 1, 1) := by decide +kernel
theorem d_X_init_6 : decode b_X_init 6 = .ok (.putfield 7, 3) := by decide +kernel
theorem d_X_init_9 : decode b_X_init 9 = .ok (.aload_n 0, 1) := by decide +kernel
theorem d_X_init_10 : decode b_X_init 10 = .ok (.bipush 40, 2) := by decide +kernel
theorem d_X_init_12 : decode b_X_init 12 = .ok (.anewarray 13, 3) := by decide +kernel
theorem d_X_init_15 : decode b_X_init 15 = .ok (.putfield 15, 3) := by decide +kernel
theorem d_X_init_18 : decode b_X_init 18 = .ok (.aload_n 0, 1) := by decide +kernel
theorem d_X_init_19 : decode b_X_init 19 = .ok (.bipush 64, 2) := by decide +kernel
theorem d_X_init_21 : decode b_X_init 21 = .ok (.newarray .boolean, 2) := by decide +kernel
theorem d_X_init_23 : decode b_X_init 23 = .ok (.putfield 19, 3) := by decide +kernel
theorem d_X_init_26 : decode b_X_init 26 = .ok (.aload_n 0, 1) := by decide +kernel
theorem d_X_init_27 : decode b_X_init 27 = .ok (.bipush 96, 2) := by decide +kernel
theorem d_X_init_29 : decode b_X_init 29 = .ok (.newarray .int, 2) := by decide +kernel
theorem d_X_init_31 : decode b_X_init 31 = .ok (.putfield 23, 3) := by decide +kernel
theorem d_X_init_34 : decode b_X_init 34 = .ok (.aload_n 0, 1) := by decide +kernel
theorem d_X_init_35 : decode b_X_init 35 = .ok (.bipush 64, 2) := by decide +kernel
theorem d_X_init_37 : decode b_X_init 37 = .ok (.newarray .long, 2) := by decide +kernel
theorem d_X_init_39 : decode b_X_init 39 = .ok (.putfield 27, 3) := by decide +kernel
theorem d_X_init_42 : decode b_X_init 42 = .ok (.aload_n 0, 1) := by decide +kernel
theorem d_X_init_43 : decode b_X_init 43 = .ok (.bipush 64, 2) := by decide +kernel
theorem d_X_init_45 : decode b_X_init 45 = .ok (.newarray .int, 2) := by decide +kernel
theorem d_X_init_47 : decode b_X_init 47 = .ok (.putfield 31, 3) := by decide +kernel
theorem d_X_init_50 : decode b_X_init 50 = .ok (.aload_n 0, 1) := by decide +kernel
theorem d_X_init_51 : decode b_X_init 51 = .ok (.bipush 64, 2) := by decide +kernel
theorem d_X_init_53 : decode b_X_init 53 = .ok (.newarray .int, 2) := by decide +kernel
theorem d_X_init_55 : decode b_X_init 55 = .ok (.putfield 34, 3) := by decide +kernel
theorem d_X_init_58 : decode b_X_init 58 = .ok (.aload_n 0, 1) := by decide +kernel
theorem d_X_init_59 : decode b_X_init 59 = .ok (.bipush 64, 2) := by decide +kernel
theorem d_X_init_61 : decode b_X_init 61 = .ok (.newarray .int, 2) := by decide +kernel
theorem d_X_init_63 : decode b_X_init 63 = .ok (.putfield 37, 3) := by decide +kernel
theorem d_X_init_66 : decode b_X_init 66 = .ok (.aload_n 0, 1) := by decide +kernel
theorem d_X_init_67 : decode b_X_init 67 = .ok (.bipush 64, 2) := by decide +kernel
theorem d_X_init_69 : decode b_X_init 69 = .ok (.newarray .int, 2) := by decide +kernel
theorem d_X_init_71 : decode b_X_init 71 = .ok (.putfield 40, 3) := by decide +kernel
theorem d_X_init_74 : decode b_X_init 74 = .ok (.aload_n 0, 1) := by decide +kernel
theorem d_X_init_75 : decode b_X_init 75 = .ok (.bipush 64, 2) := by decide +kernel
theorem d_X_init_77 : decode b_X_init 77 = .ok (.newarray .int, 2) := by decide +kernel
theorem d_X_init_79 : decode b_X_init 79 = .ok (.putfield 43, 3) := by decide +kernel
theorem d_X_init_82 : decode b_X_init 82 = .ok (.aload_n 0, 1) := by decide +kernel
theorem d_X_init_83 : decode b_X_init 83 = .ok (.sipush 256, 3) := by decide +kernel
theorem d_X_init_86 : decode b_X_init 86 = .ok (.newarray .int, 2) := by decide +kernel
theorem d_X_init_88 : decode b_X_init 88 = .ok (.putfield 46, 3) := by decide +kernel
theorem d_X_init_91 : decode b_X_init 91 = .ok (.aload_n 0, 1) := by decide +kernel
theorem d_X_init_92 : decode b_X_init 92 = .ok (.iconst (-1), 1) := by decide +kernel
theorem d_X_init_93 : decode b_X_init 93 = .ok (.putfield 49, 3) := by decide +kernel
theorem d_X_init_96 : decode b_X_init 96 = .ok (.aload_n 0, 1) := by decide +kernel
theorem d_X_init_97 : decode b_X_init 97 = .ok (.new 52, 3) := by decide +kernel
theorem d_X_init_100 : decode b_X_init 100 = .ok (.dup, 1) := by decide +kernel
theorem d_X_init_101 : decode b_X_init 101 = .ok (.invokespecial 54, 3) := by decide +kernel
theorem d_X_init_104 : decode b_X_init 104 = .ok (.putfield 55, 3) := by decide +kernel
theorem d_X_init_107 : decode b_X_init 107 = .ok (.aload_n 0, 1) := by decide +kernel
theorem d_X_init_108 : decode b_X_init 108 = .ok (.new 52, 3) := by decide +kernel
theorem d_X_init_111 : decode b_X_init 111 = .ok (.dup, 1) := by decide +kernel
theorem d_X_init_112 : decode b_X_init 112 = .ok (.invokespecial 54, 3) := by decide +kernel
theorem d_X_init_115 : decode b_X_init 115 = .ok (.putfield 59, 3) := by decide +kernel
theorem d_X_init_118 : decode b_X_init 118 = .ok (.aload_n 0, 1) := by decide +kernel
theorem d_X_init_119 : decode b_X_init 119 = .ok (.new 52, 3) := by decide +kernel
theorem d_X_init_122 : decode b_X_init 122 = .ok (.dup, 1) := by decide +kernel
theorem d_X_init_123 : decode b_X_init 123 = .ok (.invokespecial 54, 3) := by decide +kernel
theorem d_X_init_126 : decode b_X_init 126 = .ok (.putfield 62, 3) := by decide +kernel
theorem d_X_init_129 : decode b_X_init 129 = .ok (.aload_n 0, 1) := by decide +kernel
theorem d_X_init_130 : decode b_X_init 130 = .ok (.iconst 4, 1) := by decide +kernel
theorem d_X_init_131 : decode b_X_init 131 = .ok (.newarray .int, 2) := by decide +kernel
theorem d_X_init_133 : decode b_X_init 133 = .ok (.putfield 65, 3) := by decide +kernel
theorem d_X_init_136 : decode b_X_init 136 = .ok (.aload_n 0, 1) := by decide +kernel
theorem d_X_init_137 : decode b_X_init 137 = .ok (.iconst 1, 1) := by decide +kernel
theorem d_X_init_138 : decode b_X_init 138 = .ok (.iload_n 1, 1) := by decide +kernel
theorem d_X_init_139 : decode b_X_init 139 = .ok (.iconst 1, 1) := by decide +kernel
theorem d_X_init_140 : decode b_X_init 140 = .ok (.isub, 1) := by decide +kernel
theorem d_X_init_141 : decode b_X_init 141 = .ok (.iconst 4, 1) := by decide +kernel
theorem d_X_init_142 : decode b_X_init 142 = .ok (.invokestatic 68, 3) := by decide +kernel
theorem d_X_init_145 : decode b_X_init 145 = .ok (.iadd, 1) := by decide +kernel
theorem d_X_init_146 : decode b_X_init 146 = .ok (.putfield 74, 3) := by decide +kernel
theorem d_X_init_149 : decode b_X_init 149 = .ok (.aload_n 0, 1) := by decide +kernel
theorem d_X_init_150 : decode b_X_init 150 = .ok (.iconst 1, 1) := by decide +kernel
theorem d_X_init_151 : decode b_X_init 151 = .ok (.iload_n 2, 1) := by decide +kernel
theorem d_X_init_152 : decode b_X_init 152 = .ok (.iconst 1, 1) := by decide +kernel
theorem d_X_init_153 : decode b_X_init 153 = .ok (.isub, 1) := by decide +kernel
theorem d_X_init_154 : decode b_X_init 154 = .ok (.sipush 8192, 3) := by decide +kernel
theorem d_X_init_157 : decode b_X_init 157 = .ok (.invokestatic 68, 3) := by decide +kernel
theorem d_X_init_160 : decode b_X_init 160 = .ok (.iadd, 1) := by decide +kernel
theorem d_X_init_161 : decode b_X_init 161 = .ok (.putfield 77, 3) := by decide +kernel
theorem d_X_init_164 : decode b_X_init 164 = .ok (.aload_n 0, 1) := by decide +kernel
theorem d_X_init_165 : decode b_X_init 165 = .ok (.iconst 0, 1) := by decide +kernel
theorem d_X_init_166 : decode b_X_init 166 = .ok (.iconst 0, 1) := by decide +kernel
theorem d_X_init_167 : decode b_X_init 167 = .ok (.invokevirtual 80, 3) := by decide +kernel
theorem d_X_init_170 : decode b_X_init 170 = .ok (.aload_n 0, 1) := by decide +kernel
theorem d_X_init_171 : decode b_X_init 171 = .ok (.invokevirtual 84, 3) := by decide +kernel
theorem d_X_init_174 : decode b_X_init 174 = .ok (.return_, 1) := by decide +kernel
theorem d_X_number_0 : decode b_X_number 0 = .ok (.iload_n 1, 1) := by decide +kernel
theorem d_X_number_1 : decode b_X_number 1 = .ok (.aload_n 0, 1) := by decide +kernel
theorem d_X_number_2 : decode b_X_number 2 = .ok (.getfield 74, 3) := by decide +kernel
theorem d_X_number_5 : decode b_X_number 5 = .ok (.if_icmp .ne 58, 3) := by decide +kernel
theorem d_X_number_8 : decode b_X_number 8 = .ok (.iconst 0, 1) := by decide +kernel
theorem d_X_number_9 : decode b_X_number 9 = .ok (.istore_n 3, 1) := by decide +kernel
theorem d_X_number_10 : decode b_X_number 10 = .ok (.iload_n 3, 1) := by decide +kernel
theorem d_X_number_11 : decode b_X_number 11 = .ok (.iconst 4, 1) := by decide +kernel
theorem d_X_number_12 : decode b_X_number 12 = .ok (.if_icmp .ge 40, 3) := by decide +kernel
theorem d_X_number_15 : decode b_X_number 15 = .ok (.aload_n 0, 1) := by decide +kernel
theorem d_X_number_16 : decode b_X_number 16 = .ok (.getfield 23, 3) := by decide +kernel
theorem d_X_number_19 : decode b_X_number 19 = .ok (.iconst 4, 1) := by decide +kernel
theorem d_X_number_20 : decode b_X_number 20 = .ok (.aload_n 0, 1) := by decide +kernel
theorem d_X_number_21 : decode b_X_number 21 = .ok (.getfield 87, 3) := by decide +kernel
theorem d_X_number_24 : decode b_X_number 24 = .ok (.imul, 1) := by decide +kernel
theorem d_X_number_25 : decode b_X_number 25 = .ok (.iload_n 3, 1) := by decide +kernel
theorem d_X_number_26 : decode b_X_number 26 = .ok (.iadd, 1) := by decide +kernel
theorem d_X_number_27 : decode b_X_number 27 = .ok (.iload_n 3, 1) := by decide +kernel
theorem d_X_number_28 : decode b_X_number 28 = .ok (.aload_n 0, 1) := by decide +kernel
theorem d_X_number_29 : decode b_X_number 29 = .ok (.getfield 74, 3) := by decide +kernel
theorem d_X_number_32 : decode b_X_number 32 = .ok (.if_icmp .ge 12, 3) := by decide +kernel
theorem d_X_number_35 : decode b_X_number 35 = .ok (.aload_n 0, 1) := by decide +kernel
theorem d_X_number_36 : decode b_X_number 36 = .ok (.getfield 65, 3) := by decide +kernel
theorem d_X_number_39 : decode b_X_number 39 = .ok (.iload_n 3, 1) := by decide +kernel
theorem d_X_number_40 : decode b_X_number 40 = .ok (.iaload, 1) := by decide +kernel
theorem d_X_number_41 : decode b_X_number 41 = .ok (.goto 4, 3) := by decide +kernel
theorem d_X_number_44 : decode b_X_number 44 = .ok (.iload_n 3, 1) := by decide +kernel
theorem d_X_number_45 : decode b_X_number 45 = .ok (.iastore, 1) := by decide +kernel
theorem d_X_number_46 : decode b_X_number 46 = .ok (.iinc 3 1, 3) := by decide +kernel
theorem d_X_number_49 : decode b_X_number 49 = .ok (.goto (-39), 3) := by decide +kernel
theorem d_X_number_52 : decode b_X_number 52 = .ok (.aload_n 0, 1) := by decide +kernel
theorem d_X_number_53 : decode b_X_number 53 = .ok (.dup, 1) := by decide +kernel
theorem d_X_number_54 : decode b_X_number 54 = .ok (.getfield 87, 3) := by decide +kernel
theorem d_X_number_57 : decode b_X_number 57 = .ok (.iconst 1, 1) := by decide +kernel
theorem d_X_number_58 : decode b_X_number 58 = .ok (.iadd, 1) := by decide +kernel
theorem d_X_number_59 : decode b_X_number 59 = .ok (.putfield 87, 3) := by decide +kernel
theorem d_X_number_62 : decode b_X_number 62 = .ok (.return_, 1) := by decide +kernel
theorem d_X_number_63 : decode b_X_number 63 = .ok (.iconst 0, 1) := by decide +kernel
theorem d_X_number_64 : decode b_X_number 64 = .ok (.istore_n 3, 1) := by decide +kernel
theorem d_X_number_65 : decode b_X_number 65 = .ok (.iload_n 3, 1) := by decide +kernel
theorem d_X_number_66 : decode b_X_number 66 = .ok (.aload_n 0, 1) := by decide +kernel
theorem d_X_number_67 : decode b_X_number 67 = .ok (.getfield 74, 3) := by decide +kernel
theorem d_X_number_70 : decode b_X_number 70 = .ok (.if_icmp .ge 36, 3) := by decide +kernel
theorem d_X_number_73 : decode b_X_number 73 = .ok (.iload_n 2, 1) := by decide +kernel
theorem d_X_number_74 : decode b_X_number 74 = .ok (.iload_n 3, 1) := by decide +kernel
theorem d_X_number_75 : decode b_X_number 75 = .ok (.ishr, 1) := by decide +kernel
theorem d_X_number_76 : decode b_X_number 76 = .ok (.iconst 1, 1) := by decide +kernel
theorem d_X_number_77 : decode b_X_number 77 = .ok (.iand, 1) := by decide +kernel
theorem d_X_number_78 : decode b_X_number 78 = .ok (.ifCond .ne 22, 3) := by decide +kernel
theorem d_X_number_81 : decode b_X_number 81 = .ok (.aload_n 0, 1) := by decide +kernel
theorem d_X_number_82 : decode b_X_number 82 = .ok (.getfield 65, 3) := by decide +kernel
theorem d_X_number_85 : decode b_X_number 85 = .ok (.iload_n 1, 1) := by decide +kernel
theorem d_X_number_86 : decode b_X_number 86 = .ok (.iload_n 3, 1) := by decide +kernel
theorem d_X_number_87 : decode b_X_number 87 = .ok (.iastore, 1) := by decide +kernel
theorem d_X_number_88 : decode b_X_number 88 = .ok (.aload_n 0, 1) := by decide +kernel
theorem d_X_number_89 : decode b_X_number 89 = .ok (.iload_n 1, 1) := by decide +kernel
theorem d_X_number_90 : decode b_X_number 90 = .ok (.iconst 1, 1) := by decide +kernel
theorem d_X_number_91 : decode b_X_number 91 = .ok (.iadd, 1) := by decide +kernel
theorem d_X_number_92 : decode b_X_number 92 = .ok (.iload_n 2, 1) := by decide +kernel
theorem d_X_number_93 : decode b_X_number 93 = .ok (.iconst 1, 1) := by decide +kernel
theorem d_X_number_94 : decode b_X_number 94 = .ok (.iload_n 3, 1) := by decide +kernel
theorem d_X_number_95 : decode b_X_number 95 = .ok (.ishl, 1) := by decide +kernel
theorem d_X_number_96 : decode b_X_number 96 = .ok (.ior, 1) := by decide +kernel
theorem d_X_number_97 : decode b_X_number 97 = .ok (.invokevirtual 80, 3) := by decide +kernel
theorem d_X_number_100 : decode b_X_number 100 = .ok (.iinc 3 1, 3) := by decide +kernel
theorem d_X_number_103 : decode b_X_number 103 = .ok (.goto (-38), 3) := by decide +kernel
theorem d_X_number_106 : decode b_X_number 106 = .ok (.return_, 1) := by decide +kernel
theorem d_X_forget_0 : decode b_X_forget 0 = .ok (.aload_n 0, 1) := by decide +kernel
theorem d_X_forget_1 : decode b_X_forget 1 = .ok (.iconst 0, 1) := by decide +kernel
theorem d_X_forget_2 : decode b_X_forget 2 = .ok (.putfield 99, 3) := by decide +kernel
theorem d_X_forget_5 : decode b_X_forget 5 = .ok (.aload_n 0, 1) := by decide +kernel
theorem d_X_forget_6 : decode b_X_forget 6 = .ok (.iconst 0, 1) := by decide +kernel
theorem d_X_forget_7 : decode b_X_forget 7 = .ok (.putfield 102, 3) := by decide +kernel
theorem d_X_forget_10 : decode b_X_forget 10 = .ok (.aload_n 0, 1) := by decide +kernel
theorem d_X_forget_11 : decode b_X_forget 11 = .ok (.iconst (-1), 1) := by decide +kernel
theorem d_X_forget_12 : decode b_X_forget 12 = .ok (.putfield 49, 3) := by decide +kernel
theorem d_X_forget_15 : decode b_X_forget 15 = .ok (.aload_n 0, 1) := by decide +kernel
theorem d_X_forget_16 : decode b_X_forget 16 = .ok (.iconst 0, 1) := by decide +kernel
theorem d_X_forget_17 : decode b_X_forget 17 = .ok (.putfield 105, 3) := by decide +kernel
theorem d_X_forget_20 : decode b_X_forget 20 = .ok (.aload_n 0, 1) := by decide +kernel
theorem d_X_forget_21 : decode b_X_forget 21 = .ok (.iconst 0, 1) := by decide +kernel
theorem d_X_forget_22 : decode b_X_forget 22 = .ok (.putfield 109, 3) := by decide +kernel
theorem d_X_forget_25 : decode b_X_forget 25 = .ok (.aload_n 0, 1) := by decide +kernel
theorem d_X_forget_26 : decode b_X_forget 26 = .ok (.iconst 0, 1) := by decide +kernel
theorem d_X_forget_27 : decode b_X_forget 27 = .ok (.putfield 112, 3) := by decide +kernel
theorem d_X_forget_30 : decode b_X_forget 30 = .ok (.iconst 0, 1) := by decide +kernel
theorem d_X_forget_31 : decode b_X_forget 31 = .ok (.istore_n 1, 1) := by decide +kernel
theorem d_X_forget_32 : decode b_X_forget 32 = .ok (.iload_n 1, 1) := by decide +kernel
theorem d_X_forget_33 : decode b_X_forget 33 = .ok (.aload_n 0, 1) := by decide +kernel
theorem d_X_forget_34 : decode b_X_forget 34 = .ok (.getfield 46, 3) := by decide +kernel
theorem d_X_forget_37 : decode b_X_forget 37 = .ok (.arraylength, 1) := by decide +kernel
theorem d_X_forget_38 : decode b_X_forget 38 = .ok (.if_icmp .ge 16, 3) := by decide +kernel
theorem d_X_forget_41 : decode b_X_forget 41 = .ok (.aload_n 0, 1) := by decide +kernel
theorem d_X_forget_42 : decode b_X_forget 42 = .ok (.getfield 46, 3) := by decide +kernel
theorem d_X_forget_45 : decode b_X_forget 45 = .ok (.iload_n 1, 1) := by decide +kernel
theorem d_X_forget_46 : decode b_X_forget 46 = .ok (.iconst (-1), 1) := by decide +kernel
theorem d_X_forget_47 : decode b_X_forget 47 = .ok (.iastore, 1) := by decide +kernel
theorem d_X_forget_48 : decode b_X_forget 48 = .ok (.iinc 1 1, 3) := by decide +kernel
theorem d_X_forget_51 : decode b_X_forget 51 = .ok (.goto (-19), 3) := by decide +kernel
theorem d_X_forget_54 : decode b_X_forget 54 = .ok (.return_, 1) := by decide +kernel
theorem d_X_run_0 : decode b_X_run 0 = .ok (.aload_n 0, 1) := by decide +kernel
theorem d_X_run_1 : decode b_X_run 1 = .ok (.invokevirtual 237, 3) := by decide +kernel
theorem d_X_run_4 : decode b_X_run 4 = .ok (.aload_n 0, 1) := by decide +kernel
theorem d_X_run_5 : decode b_X_run 5 = .ok (.invokevirtual 207, 3) := by decide +kernel
theorem d_X_run_8 : decode b_X_run 8 = .ok (.ifCond .ne 46, 3) := by decide +kernel
theorem d_X_run_11 : decode b_X_run 11 = .ok (.aload_n 0, 1) := by decide +kernel
theorem d_X_run_12 : decode b_X_run 12 = .ok (.getfield 102, 3) := by decide +kernel
theorem d_X_run_15 : decode b_X_run 15 = .ok (.aload_n 0, 1) := by decide +kernel
theorem d_X_run_16 : decode b_X_run 16 = .ok (.getfield 99, 3) := by decide +kernel
theorem d_X_run_19 : decode b_X_run 19 = .ok (.if_icmp .ge 35, 3) := by decide +kernel
theorem d_X_run_22 : decode b_X_run 22 = .ok (.aload_n 0, 1) := by decide +kernel
theorem d_X_run_23 : decode b_X_run 23 = .ok (.aload_n 0, 1) := by decide +kernel
theorem d_X_run_24 : decode b_X_run 24 = .ok (.getfield 102, 3) := by decide +kernel
theorem d_X_run_27 : decode b_X_run 27 = .ok (.invokevirtual 240, 3) := by decide +kernel
theorem d_X_run_30 : decode b_X_run 30 = .ok (.aload_n 0, 1) := by decide +kernel
theorem d_X_run_31 : decode b_X_run 31 = .ok (.dup, 1) := by decide +kernel
theorem d_X_run_32 : decode b_X_run 32 = .ok (.getfield 102, 3) := by decide +kernel
theorem d_X_run_35 : decode b_X_run 35 = .ok (.aload_n 0, 1) := by decide +kernel
theorem d_X_run_36 : decode b_X_run 36 = .ok (.invokevirtual 207, 3) := by decide +kernel
theorem d_X_run_39 : decode b_X_run 39 = .ok (.ifCond .eq 7, 3) := by decide +kernel
theorem d_X_run_42 : decode b_X_run 42 = .ok (.iconst 0, 1) := by decide +kernel
theorem d_X_run_43 : decode b_X_run 43 = .ok (.goto 4, 3) := by decide +kernel
theorem d_X_run_46 : decode b_X_run 46 = .ok (.iconst 1, 1) := by decide +kernel
theorem d_X_run_47 : decode b_X_run 47 = .ok (.iadd, 1) := by decide +kernel
theorem d_X_run_48 : decode b_X_run 48 = .ok (.putfield 102, 3) := by decide +kernel
theorem d_X_run_51 : decode b_X_run 51 = .ok (.goto (-47), 3) := by decide +kernel
theorem d_X_run_54 : decode b_X_run 54 = .ok (.aload_n 0, 1) := by decide +kernel
theorem d_X_run_55 : decode b_X_run 55 = .ok (.getfield 49, 3) := by decide +kernel
theorem d_X_run_58 : decode b_X_run 58 = .ok (.iconst (-1), 1) := by decide +kernel
theorem d_X_run_59 : decode b_X_run 59 = .ok (.if_icmp .eq 8, 3) := by decide +kernel
theorem d_X_run_62 : decode b_X_run 62 = .ok (.bipush (-2), 2) := by decide +kernel
theorem d_X_run_64 : decode b_X_run 64 = .ok (.goto 18, 3) := by decide +kernel
theorem d_X_run_67 : decode b_X_run 67 = .ok (.aload_n 0, 1) := by decide +kernel
theorem d_X_run_68 : decode b_X_run 68 = .ok (.getfield 105, 3) := by decide +kernel
theorem d_X_run_71 : decode b_X_run 71 = .ok (.ifCond .eq 7, 3) := by decide +kernel
theorem d_X_run_74 : decode b_X_run 74 = .ok (.iconst (-1), 1) := by decide +kernel
theorem d_X_run_75 : decode b_X_run 75 = .ok (.goto 7, 3) := by decide +kernel
theorem d_X_run_78 : decode b_X_run 78 = .ok (.aload_n 0, 1) := by decide +kernel
theorem d_X_run_79 : decode b_X_run 79 = .ok (.getfield 99, 3) := by decide +kernel
theorem d_X_run_82 : decode b_X_run 82 = .ok (.ireturn, 1) := by decide +kernel
theorem d_X_begin_0 : decode b_X_begin 0 = .ok (.aload_n 0, 1) := by decide +kernel
theorem d_X_begin_1 : decode b_X_begin 1 = .ok (.getfield 99, 3) := by decide +kernel
theorem d_X_begin_4 : decode b_X_begin 4 = .ok (.ifCond .ne 44, 3) := by decide +kernel
theorem d_X_begin_7 : decode b_X_begin 7 = .ok (.iconst 0, 1) := by decide +kernel
theorem d_X_begin_8 : decode b_X_begin 8 = .ok (.istore_n 1, 1) := by decide +kernel
theorem d_X_begin_9 : decode b_X_begin 9 = .ok (.iload_n 1, 1) := by decide +kernel
theorem d_X_begin_10 : decode b_X_begin 10 = .ok (.iconst 4, 1) := by decide +kernel
theorem d_X_begin_11 : decode b_X_begin 11 = .ok (.if_icmp .ge 19, 3) := by decide +kernel
theorem d_X_begin_14 : decode b_X_begin 14 = .ok (.aload_n 0, 1) := by decide +kernel
theorem d_X_begin_15 : decode b_X_begin 15 = .ok (.getfield 59, 3) := by decide +kernel
theorem d_X_begin_18 : decode b_X_begin 18 = .ok (.getfield 180, 3) := by decide +kernel
theorem d_X_begin_21 : decode b_X_begin 21 = .ok (.iload_n 1, 1) := by decide +kernel
theorem d_X_begin_22 : decode b_X_begin 22 = .ok (.iconst 0, 1) := by decide +kernel
theorem d_X_begin_23 : decode b_X_begin 23 = .ok (.iastore, 1) := by decide +kernel
theorem d_X_begin_24 : decode b_X_begin 24 = .ok (.iinc 1 1, 3) := by decide +kernel
theorem d_X_begin_27 : decode b_X_begin 27 = .ok (.goto (-18), 3) := by decide +kernel
theorem d_X_begin_30 : decode b_X_begin 30 = .ok (.aload_n 0, 1) := by decide +kernel
theorem d_X_begin_31 : decode b_X_begin 31 = .ok (.getfield 59, 3) := by decide +kernel
theorem d_X_begin_34 : decode b_X_begin 34 = .ok (.iconst 0, 1) := by decide +kernel
theorem d_X_begin_35 : decode b_X_begin 35 = .ok (.putfield 219, 3) := by decide +kernel
theorem d_X_begin_38 : decode b_X_begin 38 = .ok (.aload_n 0, 1) := by decide +kernel
theorem d_X_begin_39 : decode b_X_begin 39 = .ok (.aload_n 0, 1) := by decide +kernel
theorem d_X_begin_40 : decode b_X_begin 40 = .ok (.getfield 59, 3) := by decide +kernel
theorem d_X_begin_43 : decode b_X_begin 43 = .ok (.iconst (-1), 1) := by decide +kernel
theorem d_X_begin_44 : decode b_X_begin 44 = .ok (.iconst (-1), 1) := by decide +kernel
theorem d_X_begin_45 : decode b_X_begin 45 = .ok (.invokevirtual 215, 3) := by decide +kernel
theorem d_X_begin_48 : decode b_X_begin 48 = .ok (.return_, 1) := by decide +kernel
theorem d_X_come_0 : decode b_X_come 0 = .ok (.aload_n 0, 1) := by decide +kernel
theorem d_X_come_1 : decode b_X_come 1 = .ok (.aload_n 1, 1) := by decide +kernel
theorem d_X_come_2 : decode b_X_come 2 = .ok (.invokevirtual 182, 3) := by decide +kernel
theorem d_X_come_5 : decode b_X_come 5 = .ok (.lstore 4, 2) := by decide +kernel
theorem d_X_come_7 : decode b_X_come 7 = .ok (.aload_n 0, 1) := by decide +kernel
theorem d_X_come_8 : decode b_X_come 8 = .ok (.lload 4, 2) := by decide +kernel
theorem d_X_come_10 : decode b_X_come 10 = .ok (.invokevirtual 177, 3) := by decide +kernel
theorem d_X_come_13 : decode b_X_come 13 = .ok (.istore 6, 2) := by decide +kernel
theorem d_X_come_15 : decode b_X_come 15 = .ok (.aload_n 0, 1) := by decide +kernel
theorem d_X_come_16 : decode b_X_come 16 = .ok (.getfield 46, 3) := by decide +kernel
theorem d_X_come_19 : decode b_X_come 19 = .ok (.iload 6, 2) := by decide +kernel
theorem d_X_come_21 : decode b_X_come 21 = .ok (.iaload, 1) := by decide +kernel
theorem d_X_come_22 : decode b_X_come 22 = .ok (.iconst (-1), 1) := by decide +kernel
theorem d_X_come_23 : decode b_X_come 23 = .ok (.if_icmp .eq 14, 3) := by decide +kernel
theorem d_X_come_26 : decode b_X_come 26 = .ok (.aload_n 0, 1) := by decide +kernel
theorem d_X_come_27 : decode b_X_come 27 = .ok (.dup, 1) := by decide +kernel
theorem d_X_come_28 : decode b_X_come 28 = .ok (.getfield 112, 3) := by decide +kernel
theorem d_X_come_31 : decode b_X_come 31 = .ok (.iconst 1, 1) := by decide +kernel
theorem d_X_come_32 : decode b_X_come 32 = .ok (.iadd, 1) := by decide +kernel
theorem d_X_come_33 : decode b_X_come 33 = .ok (.putfield 112, 3) := by decide +kernel
theorem d_X_come_36 : decode b_X_come 36 = .ok (.return_, 1) := by decide +kernel
theorem d_X_come_37 : decode b_X_come 37 = .ok (.aload_n 0, 1) := by decide +kernel
theorem d_X_come_38 : decode b_X_come 38 = .ok (.getfield 99, 3) := by decide +kernel
theorem d_X_come_41 : decode b_X_come 41 = .ok (.aload_n 0, 1) := by decide +kernel
theorem d_X_come_42 : decode b_X_come 42 = .ok (.getfield 77, 3) := by decide +kernel
theorem d_X_come_45 : decode b_X_come 45 = .ok (.if_icmp .ne 9, 3) := by decide +kernel
theorem d_X_come_48 : decode b_X_come 48 = .ok (.aload_n 0, 1) := by decide +kernel
theorem d_X_come_49 : decode b_X_come 49 = .ok (.iconst 1, 1) := by decide +kernel
theorem d_X_come_50 : decode b_X_come 50 = .ok (.putfield 105, 3) := by decide +kernel
theorem d_X_come_53 : decode b_X_come 53 = .ok (.return_, 1) := by decide +kernel
theorem d_X_come_54 : decode b_X_come 54 = .ok (.aload_n 0, 1) := by decide +kernel
theorem d_X_come_55 : decode b_X_come 55 = .ok (.getfield 99, 3) := by decide +kernel
theorem d_X_come_58 : decode b_X_come 58 = .ok (.aload_n 0, 1) := by decide +kernel
theorem d_X_come_59 : decode b_X_come 59 = .ok (.getfield 27, 3) := by decide +kernel
theorem d_X_come_62 : decode b_X_come 62 = .ok (.arraylength, 1) := by decide +kernel
theorem d_X_come_63 : decode b_X_come 63 = .ok (.if_icmp .ne 15, 3) := by decide +kernel
theorem d_X_come_66 : decode b_X_come 66 = .ok (.aload_n 0, 1) := by decide +kernel
theorem d_X_come_67 : decode b_X_come 67 = .ok (.invokevirtual 186, 3) := by decide +kernel
theorem d_X_come_70 : decode b_X_come 70 = .ok (.aload_n 0, 1) := by decide +kernel
theorem d_X_come_71 : decode b_X_come 71 = .ok (.lload 4, 2) := by decide +kernel
theorem d_X_come_73 : decode b_X_come 73 = .ok (.invokevirtual 177, 3) := by decide +kernel
theorem d_X_come_76 : decode b_X_come 76 = .ok (.istore 6, 2) := by decide +kernel
theorem d_X_come_78 : decode b_X_come 78 = .ok (.aload_n 0, 1) := by decide +kernel
theorem d_X_come_79 : decode b_X_come 79 = .ok (.getfield 46, 3) := by decide +kernel
theorem d_X_come_82 : decode b_X_come 82 = .ok (.iload 6, 2) := by decide +kernel
theorem d_X_come_84 : decode b_X_come 84 = .ok (.aload_n 0, 1) := by decide +kernel
theorem d_X_come_85 : decode b_X_come 85 = .ok (.getfield 99, 3) := by decide +kernel
theorem d_X_come_88 : decode b_X_come 88 = .ok (.iastore, 1) := by decide +kernel
theorem d_X_come_89 : decode b_X_come 89 = .ok (.aload_n 0, 1) := by decide +kernel
theorem d_X_come_90 : decode b_X_come 90 = .ok (.getfield 27, 3) := by decide +kernel
theorem d_X_come_93 : decode b_X_come 93 = .ok (.aload_n 0, 1) := by decide +kernel
theorem d_X_come_94 : decode b_X_come 94 = .ok (.getfield 99, 3) := by decide +kernel
theorem d_X_come_97 : decode b_X_come 97 = .ok (.lload 4, 2) := by decide +kernel
theorem d_X_come_99 : decode b_X_come 99 = .ok (.lastore, 1) := by decide +kernel
theorem d_X_come_100 : decode b_X_come 100 = .ok (.aload_n 0, 1) := by decide +kernel
theorem d_X_come_101 : decode b_X_come 101 = .ok (.getfield 31, 3) := by decide +kernel
theorem d_X_come_104 : decode b_X_come 104 = .ok (.aload_n 0, 1) := by decide +kernel
theorem d_X_come_105 : decode b_X_come 105 = .ok (.getfield 99, 3) := by decide +kernel
theorem d_X_come_108 : decode b_X_come 108 = .ok (.iload_n 2, 1) := by decide +kernel
theorem d_X_come_109 : decode b_X_come 109 = .ok (.iastore, 1) := by decide +kernel
theorem d_X_come_110 : decode b_X_come 110 = .ok (.aload_n 0, 1) := by decide +kernel
theorem d_X_come_111 : decode b_X_come 111 = .ok (.getfield 34, 3) := by decide +kernel
theorem d_X_come_114 : decode b_X_come 114 = .ok (.aload_n 0, 1) := by decide +kernel
theorem d_X_come_115 : decode b_X_come 115 = .ok (.getfield 99, 3) := by decide +kernel
theorem d_X_come_118 : decode b_X_come 118 = .ok (.iload_n 3, 1) := by decide +kernel
theorem d_X_come_119 : decode b_X_come 119 = .ok (.iastore, 1) := by decide +kernel
theorem d_X_come_120 : decode b_X_come 120 = .ok (.aload_n 0, 1) := by decide +kernel
theorem d_X_come_121 : decode b_X_come 121 = .ok (.getfield 37, 3) := by decide +kernel
theorem d_X_come_124 : decode b_X_come 124 = .ok (.aload_n 0, 1) := by decide +kernel
theorem d_X_come_125 : decode b_X_come 125 = .ok (.getfield 99, 3) := by decide +kernel
theorem d_X_come_128 : decode b_X_come 128 = .ok (.iload_n 2, 1) := by decide +kernel
theorem d_X_come_129 : decode b_X_come 129 = .ok (.iconst (-1), 1) := by decide +kernel
theorem d_X_come_130 : decode b_X_come 130 = .ok (.if_icmp .ne 7, 3) := by decide +kernel
theorem d_X_come_133 : decode b_X_come 133 = .ok (.iconst 0, 1) := by decide +kernel
theorem d_X_come_134 : decode b_X_come 134 = .ok (.goto 11, 3) := by decide +kernel
theorem d_X_come_137 : decode b_X_come 137 = .ok (.aload_n 0, 1) := by decide +kernel
theorem d_X_come_138 : decode b_X_come 138 = .ok (.getfield 37, 3) := by decide +kernel
theorem d_X_come_141 : decode b_X_come 141 = .ok (.iload_n 2, 1) := by decide +kernel
theorem d_X_come_142 : decode b_X_come 142 = .ok (.iaload, 1) := by decide +kernel
theorem d_X_come_143 : decode b_X_come 143 = .ok (.iconst 1, 1) := by decide +kernel
theorem d_X_come_144 : decode b_X_come 144 = .ok (.iadd, 1) := by decide +kernel
theorem d_X_come_145 : decode b_X_come 145 = .ok (.iastore, 1) := by decide +kernel
theorem d_X_come_146 : decode b_X_come 146 = .ok (.aload_n 0, 1) := by decide +kernel
theorem d_X_come_147 : decode b_X_come 147 = .ok (.getfield 40, 3) := by decide +kernel
theorem d_X_come_150 : decode b_X_come 150 = .ok (.aload_n 0, 1) := by decide +kernel
theorem d_X_come_151 : decode b_X_come 151 = .ok (.getfield 99, 3) := by decide +kernel
theorem d_X_come_154 : decode b_X_come 154 = .ok (.iconst (-1), 1) := by decide +kernel
theorem d_X_come_155 : decode b_X_come 155 = .ok (.iastore, 1) := by decide +kernel
theorem d_X_come_156 : decode b_X_come 156 = .ok (.aload_n 0, 1) := by decide +kernel
theorem d_X_come_157 : decode b_X_come 157 = .ok (.getfield 43, 3) := by decide +kernel
theorem d_X_come_160 : decode b_X_come 160 = .ok (.aload_n 0, 1) := by decide +kernel
theorem d_X_come_161 : decode b_X_come 161 = .ok (.getfield 99, 3) := by decide +kernel
theorem d_X_come_164 : decode b_X_come 164 = .ok (.aload_n 0, 1) := by decide +kernel
theorem d_X_come_165 : decode b_X_come 165 = .ok (.getfield 144, 3) := by decide +kernel
theorem d_X_come_168 : decode b_X_come 168 = .ok (.iastore, 1) := by decide +kernel
theorem d_X_come_169 : decode b_X_come 169 = .ok (.aload_n 0, 1) := by decide +kernel
theorem d_X_come_170 : decode b_X_come 170 = .ok (.aload_n 0, 1) := by decide +kernel
theorem d_X_come_171 : decode b_X_come 171 = .ok (.aload_n 1, 1) := by decide +kernel
theorem d_X_come_172 : decode b_X_come 172 = .ok (.invokevirtual 189, 3) := by decide +kernel
theorem d_X_come_175 : decode b_X_come 175 = .ok (.ifCond .eq 10, 3) := by decide +kernel
theorem d_X_come_178 : decode b_X_come 178 = .ok (.aload_n 0, 1) := by decide +kernel
theorem d_X_come_179 : decode b_X_come 179 = .ok (.getfield 99, 3) := by decide +kernel
theorem d_X_come_182 : decode b_X_come 182 = .ok (.goto 4, 3) := by decide +kernel
theorem d_X_come_185 : decode b_X_come 185 = .ok (.iconst (-1), 1) := by decide +kernel
theorem d_X_come_186 : decode b_X_come 186 = .ok (.putfield 49, 3) := by decide +kernel
theorem d_X_come_189 : decode b_X_come 189 = .ok (.aload_n 0, 1) := by decide +kernel
theorem d_X_come_190 : decode b_X_come 190 = .ok (.dup, 1) := by decide +kernel
theorem d_X_come_191 : decode b_X_come 191 = .ok (.getfield 99, 3) := by decide +kernel
theorem d_X_come_194 : decode b_X_come 194 = .ok (.iconst 1, 1) := by decide +kernel
theorem d_X_come_195 : decode b_X_come 195 = .ok (.iadd, 1) := by decide +kernel
theorem d_X_come_196 : decode b_X_come 196 = .ok (.putfield 99, 3) := by decide +kernel
theorem d_X_come_199 : decode b_X_come 199 = .ok (.return_, 1) := by decide +kernel
theorem d_X_form_0 : decode b_X_form 0 = .ok (.lconst 0, 1) := by decide +kernel
theorem d_X_form_1 : decode b_X_form 1 = .ok (.lstore_n 2, 1) := by decide +kernel
theorem d_X_form_2 : decode b_X_form 2 = .ok (.aload_n 0, 1) := by decide +kernel
theorem d_X_form_3 : decode b_X_form 3 = .ok (.iconst 0, 1) := by decide +kernel
theorem d_X_form_4 : decode b_X_form 4 = .ok (.putfield 144, 3) := by decide +kernel
theorem d_X_form_7 : decode b_X_form 7 = .ok (.iconst 0, 1) := by decide +kernel
theorem d_X_form_8 : decode b_X_form 8 = .ok (.istore 4, 2) := by decide +kernel
theorem d_X_form_10 : decode b_X_form 10 = .ok (.iload 4, 2) := by decide +kernel
theorem d_X_form_12 : decode b_X_form 12 = .ok (.aload_n 0, 1) := by decide +kernel
theorem d_X_form_13 : decode b_X_form 13 = .ok (.getfield 87, 3) := by decide +kernel
theorem d_X_form_16 : decode b_X_form 16 = .ok (.if_icmp .ge 97, 3) := by decide +kernel
theorem d_X_form_19 : decode b_X_form 19 = .ok (.aload_n 0, 1) := by decide +kernel
theorem d_X_form_20 : decode b_X_form 20 = .ok (.getfield 23, 3) := by decide +kernel
theorem d_X_form_23 : decode b_X_form 23 = .ok (.iconst 4, 1) := by decide +kernel
theorem d_X_form_24 : decode b_X_form 24 = .ok (.iload 4, 2) := by decide +kernel
theorem d_X_form_26 : decode b_X_form 26 = .ok (.imul, 1) := by decide +kernel
theorem d_X_form_27 : decode b_X_form 27 = .ok (.aload_n 0, 1) := by decide +kernel
theorem d_X_form_28 : decode b_X_form 28 = .ok (.getfield 65, 3) := by decide +kernel
theorem d_X_form_31 : decode b_X_form 31 = .ok (.iconst 0, 1) := by decide +kernel
theorem d_X_form_32 : decode b_X_form 32 = .ok (.iconst 4, 1) := by decide +kernel
theorem d_X_form_33 : decode b_X_form 33 = .ok (.invokestatic 147, 3) := by decide +kernel
theorem d_X_form_36 : decode b_X_form 36 = .ok (.aload_n 1, 1) := by decide +kernel
theorem d_X_form_37 : decode b_X_form 37 = .ok (.aload_n 0, 1) := by decide +kernel
theorem d_X_form_38 : decode b_X_form 38 = .ok (.getfield 62, 3) := by decide +kernel
theorem d_X_form_41 : decode b_X_form 41 = .ok (.aload_n 0, 1) := by decide +kernel
theorem d_X_form_42 : decode b_X_form 42 = .ok (.getfield 65, 3) := by decide +kernel
theorem d_X_form_45 : decode b_X_form 45 = .ok (.invokevirtual 153, 3) := by decide +kernel
theorem d_X_form_48 : decode b_X_form 48 = .ok (.aload_n 0, 1) := by decide +kernel
theorem d_X_form_49 : decode b_X_form 49 = .ok (.getfield 62, 3) := by decide +kernel
theorem d_X_form_52 : decode b_X_form 52 = .ok (.invokevirtual 157, 3) := by decide +kernel
theorem d_X_form_55 : decode b_X_form 55 = .ok (.lstore 5, 2) := by decide +kernel
theorem d_X_form_57 : decode b_X_form 57 = .ok (.aload_n 0, 1) := by decide +kernel
theorem d_X_form_58 : decode b_X_form 58 = .ok (.getfield 144, 3) := by decide +kernel
theorem d_X_form_61 : decode b_X_form 61 = .ok (.ifCond .ne 7, 3) := by decide +kernel
theorem d_X_form_64 : decode b_X_form 64 = .ok (.iconst (-1), 1) := by decide +kernel
theorem d_X_form_65 : decode b_X_form 65 = .ok (.goto 9, 3) := by decide +kernel
theorem d_X_form_68 : decode b_X_form 68 = .ok (.lload 5, 2) := by decide +kernel
theorem d_X_form_70 : decode b_X_form 70 = .ok (.lload_n 2, 1) := by decide +kernel
theorem d_X_form_71 : decode b_X_form 71 = .ok (.invokestatic 161, 3) := by decide +kernel
theorem d_X_form_74 : decode b_X_form 74 = .ok (.istore 7, 2) := by decide +kernel
theorem d_X_form_76 : decode b_X_form 76 = .ok (.iload 7, 2) := by decide +kernel
theorem d_X_form_78 : decode b_X_form 78 = .ok (.ifCond .ge 14, 3) := by decide +kernel
theorem d_X_form_81 : decode b_X_form 81 = .ok (.lload 5, 2) := by decide +kernel
theorem d_X_form_83 : decode b_X_form 83 = .ok (.lstore_n 2, 1) := by decide +kernel
theorem d_X_form_84 : decode b_X_form 84 = .ok (.aload_n 0, 1) := by decide +kernel
theorem d_X_form_85 : decode b_X_form 85 = .ok (.iconst 1, 1) := by decide +kernel
theorem d_X_form_86 : decode b_X_form 86 = .ok (.putfield 144, 3) := by decide +kernel
theorem d_X_form_89 : decode b_X_form 89 = .ok (.goto 18, 3) := by decide +kernel
theorem d_X_form_92 : decode b_X_form 92 = .ok (.iload 7, 2) := by decide +kernel
theorem d_X_form_94 : decode b_X_form 94 = .ok (.ifCond .ne 13, 3) := by decide +kernel
theorem d_X_form_97 : decode b_X_form 97 = .ok (.aload_n 0, 1) := by decide +kernel
theorem d_X_form_98 : decode b_X_form 98 = .ok (.dup, 1) := by decide +kernel
theorem d_X_form_99 : decode b_X_form 99 = .ok (.getfield 144, 3) := by decide +kernel
theorem d_X_form_102 : decode b_X_form 102 = .ok (.iconst 1, 1) := by decide +kernel
theorem d_X_form_103 : decode b_X_form 103 = .ok (.iadd, 1) := by decide +kernel
theorem d_X_form_104 : decode b_X_form 104 = .ok (.putfield 144, 3) := by decide +kernel
theorem d_X_form_107 : decode b_X_form 107 = .ok (.iinc 4 1, 3) := by decide +kernel
theorem d_X_form_110 : decode b_X_form 110 = .ok (.goto (-100), 3) := by decide +kernel
theorem d_X_form_113 : decode b_X_form 113 = .ok (.lload_n 2, 1) := by decide +kernel
theorem d_X_form_114 : decode b_X_form 114 = .ok (.lreturn, 1) := by decide +kernel
theorem d_X_find_0 : decode b_X_find 0 = .ok (.aload_n 0, 1) := by decide +kernel
theorem d_X_find_1 : decode b_X_find 1 = .ok (.lload_n 1, 1) := by decide +kernel
theorem d_X_find_2 : decode b_X_find 2 = .ok (.invokevirtual 169, 3) := by decide +kernel
theorem d_X_find_5 : decode b_X_find 5 = .ok (.istore_n 3, 1) := by decide +kernel
theorem d_X_find_6 : decode b_X_find 6 = .ok (.aload_n 0, 1) := by decide +kernel
theorem d_X_find_7 : decode b_X_find 7 = .ok (.getfield 46, 3) := by decide +kernel
theorem d_X_find_10 : decode b_X_find 10 = .ok (.iload_n 3, 1) := by decide +kernel
theorem d_X_find_11 : decode b_X_find 11 = .ok (.iaload, 1) := by decide +kernel
theorem d_X_find_12 : decode b_X_find 12 = .ok (.iconst (-1), 1) := by decide +kernel
theorem d_X_find_13 : decode b_X_find 13 = .ok (.if_icmp .eq 34, 3) := by decide +kernel
theorem d_X_find_16 : decode b_X_find 16 = .ok (.aload_n 0, 1) := by decide +kernel
theorem d_X_find_17 : decode b_X_find 17 = .ok (.getfield 27, 3) := by decide +kernel
theorem d_X_find_20 : decode b_X_find 20 = .ok (.aload_n 0, 1) := by decide +kernel
theorem d_X_find_21 : decode b_X_find 21 = .ok (.getfield 46, 3) := by decide +kernel
theorem d_X_find_24 : decode b_X_find 24 = .ok (.iload_n 3, 1) := by decide +kernel
theorem d_X_find_25 : decode b_X_find 25 = .ok (.iaload, 1) := by decide +kernel
theorem d_X_find_26 : decode b_X_find 26 = .ok (.laload, 1) := by decide +kernel
theorem d_X_find_27 : decode b_X_find 27 = .ok (.lload_n 1, 1) := by decide +kernel
theorem d_X_find_28 : decode b_X_find 28 = .ok (.lcmp, 1) := by decide +kernel
theorem d_X_find_29 : decode b_X_find 29 = .ok (.ifCond .eq 18, 3) := by decide +kernel
theorem d_X_find_32 : decode b_X_find 32 = .ok (.iload_n 3, 1) := by decide +kernel
theorem d_X_find_33 : decode b_X_find 33 = .ok (.iconst 1, 1) := by decide +kernel
theorem d_X_find_34 : decode b_X_find 34 = .ok (.iadd, 1) := by decide +kernel
theorem d_X_find_35 : decode b_X_find 35 = .ok (.aload_n 0, 1) := by decide +kernel
theorem d_X_find_36 : decode b_X_find 36 = .ok (.getfield 46, 3) := by decide +kernel
theorem d_X_find_39 : decode b_X_find 39 = .ok (.arraylength, 1) := by decide +kernel
theorem d_X_find_40 : decode b_X_find 40 = .ok (.iconst 1, 1) := by decide +kernel
theorem d_X_find_41 : decode b_X_find 41 = .ok (.isub, 1) := by decide +kernel
theorem d_X_find_42 : decode b_X_find 42 = .ok (.iand, 1) := by decide +kernel
theorem d_X_find_43 : decode b_X_find 43 = .ok (.istore_n 3, 1) := by decide +kernel
theorem d_X_find_44 : decode b_X_find 44 = .ok (.goto (-38), 3) := by decide +kernel
theorem d_X_find_47 : decode b_X_find 47 = .ok (.iload_n 3, 1) := by decide +kernel
theorem d_X_find_48 : decode b_X_find 48 = .ok (.ireturn, 1) := by decide +kernel
theorem d_X_slot_0 : decode b_X_slot 0 = .ok (.lload_n 1, 1) := by decide +kernel
theorem d_X_slot_1 : decode b_X_slot 1 = .ok (.ldc2_w 167, 3) := by decide +kernel
theorem d_X_slot_4 : decode b_X_slot 4 = .ok (.lmul, 1) := by decide +kernel
theorem d_X_slot_5 : decode b_X_slot 5 = .ok (.lstore_n 3, 1) := by decide +kernel
theorem d_X_slot_6 : decode b_X_slot 6 = .ok (.lload_n 3, 1) := by decide +kernel
theorem d_X_slot_7 : decode b_X_slot 7 = .ok (.bipush 40, 2) := by decide +kernel
theorem d_X_slot_9 : decode b_X_slot 9 = .ok (.lushr, 1) := by decide +kernel
theorem d_X_slot_10 : decode b_X_slot 10 = .ok (.l2i, 1) := by decide +kernel
theorem d_X_slot_11 : decode b_X_slot 11 = .ok (.aload_n 0, 1) := by decide +kernel
theorem d_X_slot_12 : decode b_X_slot 12 = .ok (.getfield 46, 3) := by decide +kernel
theorem d_X_slot_15 : decode b_X_slot 15 = .ok (.arraylength, 1) := by decide +kernel
theorem d_X_slot_16 : decode b_X_slot 16 = .ok (.iconst 1, 1) := by decide +kernel
theorem d_X_slot_17 : decode b_X_slot 17 = .ok (.isub, 1) := by decide +kernel
theorem d_X_slot_18 : decode b_X_slot 18 = .ok (.iand, 1) := by decide +kernel
theorem d_X_slot_19 : decode b_X_slot 19 = .ok (.ireturn, 1) := by decide +kernel
theorem d_X_grow_0 : decode b_X_grow 0 = .ok (.iconst 2, 1) := by decide +kernel
theorem d_X_grow_1 : decode b_X_grow 1 = .ok (.aload_n 0, 1) := by decide +kernel
theorem d_X_grow_2 : decode b_X_grow 2 = .ok (.getfield 99, 3) := by decide +kernel
theorem d_X_grow_5 : decode b_X_grow 5 = .ok (.imul, 1) := by decide +kernel
theorem d_X_grow_6 : decode b_X_grow 6 = .ok (.istore_n 1, 1) := by decide +kernel
theorem d_X_grow_7 : decode b_X_grow 7 = .ok (.iload_n 1, 1) := by decide +kernel
theorem d_X_grow_8 : decode b_X_grow 8 = .ok (.newarray .long, 2) := by decide +kernel
theorem d_X_grow_10 : decode b_X_grow 10 = .ok (.astore_n 2, 1) := by decide +kernel
theorem d_X_grow_11 : decode b_X_grow 11 = .ok (.aload_n 0, 1) := by decide +kernel
theorem d_X_grow_12 : decode b_X_grow 12 = .ok (.getfield 27, 3) := by decide +kernel
theorem d_X_grow_15 : decode b_X_grow 15 = .ok (.iconst 0, 1) := by decide +kernel
theorem d_X_grow_16 : decode b_X_grow 16 = .ok (.aload_n 2, 1) := by decide +kernel
theorem d_X_grow_17 : decode b_X_grow 17 = .ok (.iconst 0, 1) := by decide +kernel
theorem d_X_grow_18 : decode b_X_grow 18 = .ok (.aload_n 0, 1) := by decide +kernel
theorem d_X_grow_19 : decode b_X_grow 19 = .ok (.getfield 99, 3) := by decide +kernel
theorem d_X_grow_22 : decode b_X_grow 22 = .ok (.invokestatic 147, 3) := by decide +kernel
theorem d_X_grow_25 : decode b_X_grow 25 = .ok (.aload_n 0, 1) := by decide +kernel
theorem d_X_grow_26 : decode b_X_grow 26 = .ok (.aload_n 2, 1) := by decide +kernel
theorem d_X_grow_27 : decode b_X_grow 27 = .ok (.putfield 27, 3) := by decide +kernel
theorem d_X_grow_30 : decode b_X_grow 30 = .ok (.aload_n 0, 1) := by decide +kernel
theorem d_X_grow_31 : decode b_X_grow 31 = .ok (.aload_n 0, 1) := by decide +kernel
theorem d_X_grow_32 : decode b_X_grow 32 = .ok (.getfield 31, 3) := by decide +kernel
theorem d_X_grow_35 : decode b_X_grow 35 = .ok (.iload_n 1, 1) := by decide +kernel
theorem d_X_grow_36 : decode b_X_grow 36 = .ok (.invokestatic 173, 3) := by decide +kernel
theorem d_X_grow_39 : decode b_X_grow 39 = .ok (.putfield 31, 3) := by decide +kernel
theorem d_X_grow_42 : decode b_X_grow 42 = .ok (.aload_n 0, 1) := by decide +kernel
theorem d_X_grow_43 : decode b_X_grow 43 = .ok (.aload_n 0, 1) := by decide +kernel
theorem d_X_grow_44 : decode b_X_grow 44 = .ok (.getfield 34, 3) := by decide +kernel
theorem d_X_grow_47 : decode b_X_grow 47 = .ok (.iload_n 1, 1) := by decide +kernel
theorem d_X_grow_48 : decode b_X_grow 48 = .ok (.invokestatic 173, 3) := by decide +kernel
theorem d_X_grow_51 : decode b_X_grow 51 = .ok (.putfield 34, 3) := by decide +kernel
theorem d_X_grow_54 : decode b_X_grow 54 = .ok (.aload_n 0, 1) := by decide +kernel
theorem d_X_grow_55 : decode b_X_grow 55 = .ok (.aload_n 0, 1) := by decide +kernel
theorem d_X_grow_56 : decode b_X_grow 56 = .ok (.getfield 37, 3) := by decide +kernel
theorem d_X_grow_59 : decode b_X_grow 59 = .ok (.iload_n 1, 1) := by decide +kernel
theorem d_X_grow_60 : decode b_X_grow 60 = .ok (.invokestatic 173, 3) := by decide +kernel
theorem d_X_grow_63 : decode b_X_grow 63 = .ok (.putfield 37, 3) := by decide +kernel
theorem d_X_grow_66 : decode b_X_grow 66 = .ok (.aload_n 0, 1) := by decide +kernel
theorem d_X_grow_67 : decode b_X_grow 67 = .ok (.aload_n 0, 1) := by decide +kernel
theorem d_X_grow_68 : decode b_X_grow 68 = .ok (.getfield 40, 3) := by decide +kernel
theorem d_X_grow_71 : decode b_X_grow 71 = .ok (.iload_n 1, 1) := by decide +kernel
theorem d_X_grow_72 : decode b_X_grow 72 = .ok (.invokestatic 173, 3) := by decide +kernel
theorem d_X_grow_75 : decode b_X_grow 75 = .ok (.putfield 40, 3) := by decide +kernel
theorem d_X_grow_78 : decode b_X_grow 78 = .ok (.aload_n 0, 1) := by decide +kernel
theorem d_X_grow_79 : decode b_X_grow 79 = .ok (.aload_n 0, 1) := by decide +kernel
theorem d_X_grow_80 : decode b_X_grow 80 = .ok (.getfield 43, 3) := by decide +kernel
theorem d_X_grow_83 : decode b_X_grow 83 = .ok (.iload_n 1, 1) := by decide +kernel
theorem d_X_grow_84 : decode b_X_grow 84 = .ok (.invokestatic 173, 3) := by decide +kernel
theorem d_X_grow_87 : decode b_X_grow 87 = .ok (.putfield 43, 3) := by decide +kernel
theorem d_X_grow_90 : decode b_X_grow 90 = .ok (.aload_n 0, 1) := by decide +kernel
theorem d_X_grow_91 : decode b_X_grow 91 = .ok (.iconst 4, 1) := by decide +kernel
theorem d_X_grow_92 : decode b_X_grow 92 = .ok (.iload_n 1, 1) := by decide +kernel
theorem d_X_grow_93 : decode b_X_grow 93 = .ok (.imul, 1) := by decide +kernel
theorem d_X_grow_94 : decode b_X_grow 94 = .ok (.newarray .int, 2) := by decide +kernel
theorem d_X_grow_96 : decode b_X_grow 96 = .ok (.putfield 46, 3) := by decide +kernel
theorem d_X_grow_99 : decode b_X_grow 99 = .ok (.iconst 0, 1) := by decide +kernel
theorem d_X_grow_100 : decode b_X_grow 100 = .ok (.istore_n 3, 1) := by decide +kernel
theorem d_X_grow_101 : decode b_X_grow 101 = .ok (.iload_n 3, 1) := by decide +kernel
theorem d_X_grow_102 : decode b_X_grow 102 = .ok (.aload_n 0, 1) := by decide +kernel
theorem d_X_grow_103 : decode b_X_grow 103 = .ok (.getfield 46, 3) := by decide +kernel
theorem d_X_grow_106 : decode b_X_grow 106 = .ok (.arraylength, 1) := by decide +kernel
theorem d_X_grow_107 : decode b_X_grow 107 = .ok (.if_icmp .ge 16, 3) := by decide +kernel
theorem d_X_grow_110 : decode b_X_grow 110 = .ok (.aload_n 0, 1) := by decide +kernel
theorem d_X_grow_111 : decode b_X_grow 111 = .ok (.getfield 46, 3) := by decide +kernel
theorem d_X_grow_114 : decode b_X_grow 114 = .ok (.iload_n 3, 1) := by decide +kernel
theorem d_X_grow_115 : decode b_X_grow 115 = .ok (.iconst (-1), 1) := by decide +kernel
theorem d_X_grow_116 : decode b_X_grow 116 = .ok (.iastore, 1) := by decide +kernel
theorem d_X_grow_117 : decode b_X_grow 117 = .ok (.iinc 3 1, 3) := by decide +kernel
theorem d_X_grow_120 : decode b_X_grow 120 = .ok (.goto (-19), 3) := by decide +kernel
theorem d_X_grow_123 : decode b_X_grow 123 = .ok (.iconst 0, 1) := by decide +kernel
theorem d_X_grow_124 : decode b_X_grow 124 = .ok (.istore_n 3, 1) := by decide +kernel
theorem d_X_grow_125 : decode b_X_grow 125 = .ok (.iload_n 3, 1) := by decide +kernel
theorem d_X_grow_126 : decode b_X_grow 126 = .ok (.aload_n 0, 1) := by decide +kernel
theorem d_X_grow_127 : decode b_X_grow 127 = .ok (.getfield 99, 3) := by decide +kernel
theorem d_X_grow_130 : decode b_X_grow 130 = .ok (.if_icmp .ge 25, 3) := by decide +kernel
theorem d_X_grow_133 : decode b_X_grow 133 = .ok (.aload_n 0, 1) := by decide +kernel
theorem d_X_grow_134 : decode b_X_grow 134 = .ok (.getfield 46, 3) := by decide +kernel
theorem d_X_grow_137 : decode b_X_grow 137 = .ok (.aload_n 0, 1) := by decide +kernel
theorem d_X_grow_138 : decode b_X_grow 138 = .ok (.aload_n 0, 1) := by decide +kernel
theorem d_X_grow_139 : decode b_X_grow 139 = .ok (.getfield 27, 3) := by decide +kernel
theorem d_X_grow_142 : decode b_X_grow 142 = .ok (.iload_n 3, 1) := by decide +kernel
theorem d_X_grow_143 : decode b_X_grow 143 = .ok (.laload, 1) := by decide +kernel
theorem d_X_grow_144 : decode b_X_grow 144 = .ok (.invokevirtual 177, 3) := by decide +kernel
theorem d_X_grow_147 : decode b_X_grow 147 = .ok (.iload_n 3, 1) := by decide +kernel
theorem d_X_grow_148 : decode b_X_grow 148 = .ok (.iastore, 1) := by decide +kernel
theorem d_X_grow_149 : decode b_X_grow 149 = .ok (.iinc 3 1, 3) := by decide +kernel
theorem d_X_grow_152 : decode b_X_grow 152 = .ok (.goto (-27), 3) := by decide +kernel
theorem d_X_grow_155 : decode b_X_grow 155 = .ok (.return_, 1) := by decide +kernel
theorem d_X_longer_0 : decode b_X_longer 0 = .ok (.iload_n 1, 1) := by decide +kernel
theorem d_X_longer_1 : decode b_X_longer 1 = .ok (.newarray .int, 2) := by decide +kernel
theorem d_X_longer_3 : decode b_X_longer 3 = .ok (.astore_n 2, 1) := by decide +kernel
theorem d_X_longer_4 : decode b_X_longer 4 = .ok (.aload_n 0, 1) := by decide +kernel
theorem d_X_longer_5 : decode b_X_longer 5 = .ok (.iconst 0, 1) := by decide +kernel
theorem d_X_longer_6 : decode b_X_longer 6 = .ok (.aload_n 2, 1) := by decide +kernel
theorem d_X_longer_7 : decode b_X_longer 7 = .ok (.iconst 0, 1) := by decide +kernel
theorem d_X_longer_8 : decode b_X_longer 8 = .ok (.aload_n 0, 1) := by decide +kernel
theorem d_X_longer_9 : decode b_X_longer 9 = .ok (.arraylength, 1) := by decide +kernel
theorem d_X_longer_10 : decode b_X_longer 10 = .ok (.invokestatic 147, 3) := by decide +kernel
theorem d_X_longer_13 : decode b_X_longer 13 = .ok (.aload_n 2, 1) := by decide +kernel
theorem d_X_longer_14 : decode b_X_longer 14 = .ok (.areturn, 1) := by decide +kernel
theorem d_X_isBad_0 : decode b_X_isBad 0 = .ok (.iconst 0, 1) := by decide +kernel
theorem d_X_isBad_1 : decode b_X_isBad 1 = .ok (.istore_n 2, 1) := by decide +kernel
theorem d_X_isBad_2 : decode b_X_isBad 2 = .ok (.iload_n 2, 1) := by decide +kernel
theorem d_X_isBad_3 : decode b_X_isBad 3 = .ok (.aload_n 0, 1) := by decide +kernel
theorem d_X_isBad_4 : decode b_X_isBad 4 = .ok (.getfield 74, 3) := by decide +kernel
theorem d_X_isBad_7 : decode b_X_isBad 7 = .ok (.if_icmp .ge 53, 3) := by decide +kernel
theorem d_X_isBad_10 : decode b_X_isBad 10 = .ok (.iload_n 2, 1) := by decide +kernel
theorem d_X_isBad_11 : decode b_X_isBad 11 = .ok (.iconst 1, 1) := by decide +kernel
theorem d_X_isBad_12 : decode b_X_isBad 12 = .ok (.iadd, 1) := by decide +kernel
theorem d_X_isBad_13 : decode b_X_isBad 13 = .ok (.istore_n 3, 1) := by decide +kernel
theorem d_X_isBad_14 : decode b_X_isBad 14 = .ok (.iload_n 3, 1) := by decide +kernel
theorem d_X_isBad_15 : decode b_X_isBad 15 = .ok (.aload_n 0, 1) := by decide +kernel
theorem d_X_isBad_16 : decode b_X_isBad 16 = .ok (.getfield 74, 3) := by decide +kernel
theorem d_X_isBad_19 : decode b_X_isBad 19 = .ok (.if_icmp .ge 35, 3) := by decide +kernel
theorem d_X_isBad_22 : decode b_X_isBad 22 = .ok (.aload_n 0, 1) := by decide +kernel
theorem d_X_isBad_23 : decode b_X_isBad 23 = .ok (.getfield 19, 3) := by decide +kernel
theorem d_X_isBad_26 : decode b_X_isBad 26 = .ok (.bipush 8, 2) := by decide +kernel
theorem d_X_isBad_28 : decode b_X_isBad 28 = .ok (.aload_n 1, 1) := by decide +kernel
theorem d_X_isBad_29 : decode b_X_isBad 29 = .ok (.getfield 180, 3) := by decide +kernel
theorem d_X_isBad_32 : decode b_X_isBad 32 = .ok (.iload_n 2, 1) := by decide +kernel
theorem d_X_isBad_33 : decode b_X_isBad 33 = .ok (.iaload, 1) := by decide +kernel
theorem d_X_isBad_34 : decode b_X_isBad 34 = .ok (.imul, 1) := by decide +kernel
theorem d_X_isBad_35 : decode b_X_isBad 35 = .ok (.aload_n 1, 1) := by decide +kernel
theorem d_X_isBad_36 : decode b_X_isBad 36 = .ok (.getfield 180, 3) := by decide +kernel
theorem d_X_isBad_39 : decode b_X_isBad 39 = .ok (.iload_n 3, 1) := by decide +kernel
theorem d_X_isBad_40 : decode b_X_isBad 40 = .ok (.iaload, 1) := by decide +kernel
theorem d_X_isBad_41 : decode b_X_isBad 41 = .ok (.iadd, 1) := by decide +kernel
theorem d_X_isBad_42 : decode b_X_isBad 42 = .ok (.baload, 1) := by decide +kernel
theorem d_X_isBad_43 : decode b_X_isBad 43 = .ok (.ifCond .eq 5, 3) := by decide +kernel
theorem d_X_isBad_46 : decode b_X_isBad 46 = .ok (.iconst 1, 1) := by decide +kernel
theorem d_X_isBad_47 : decode b_X_isBad 47 = .ok (.ireturn, 1) := by decide +kernel
theorem d_X_isBad_48 : decode b_X_isBad 48 = .ok (.iinc 3 1, 3) := by decide +kernel
theorem d_X_isBad_51 : decode b_X_isBad 51 = .ok (.goto (-37), 3) := by decide +kernel
theorem d_X_isBad_54 : decode b_X_isBad 54 = .ok (.iinc 2 1, 3) := by decide +kernel
theorem d_X_isBad_57 : decode b_X_isBad 57 = .ok (.goto (-55), 3) := by decide +kernel
theorem d_X_isBad_60 : decode b_X_isBad 60 = .ok (.iconst 0, 1) := by decide +kernel
theorem d_X_isBad_61 : decode b_X_isBad 61 = .ok (.ireturn, 1) := by decide +kernel
theorem d_X_isOver_0 : decode b_X_isOver 0 = .ok (.aload_n 0, 1) := by decide +kernel
theorem d_X_isOver_1 : decode b_X_isOver 1 = .ok (.getfield 49, 3) := by decide +kernel
theorem d_X_isOver_4 : decode b_X_isOver 4 = .ok (.iconst (-1), 1) := by decide +kernel
theorem d_X_isOver_5 : decode b_X_isOver 5 = .ok (.if_icmp .ne 10, 3) := by decide +kernel
theorem d_X_isOver_8 : decode b_X_isOver 8 = .ok (.aload_n 0, 1) := by decide +kernel
theorem d_X_isOver_9 : decode b_X_isOver 9 = .ok (.getfield 105, 3) := by decide +kernel
theorem d_X_isOver_12 : decode b_X_isOver 12 = .ok (.ifCond .eq 7, 3) := by decide +kernel
theorem d_X_isOver_15 : decode b_X_isOver 15 = .ok (.iconst 1, 1) := by decide +kernel
theorem d_X_isOver_16 : decode b_X_isOver 16 = .ok (.goto 4, 3) := by decide +kernel
theorem d_X_isOver_19 : decode b_X_isOver 19 = .ok (.iconst 0, 1) := by decide +kernel
theorem d_X_isOver_20 : decode b_X_isOver 20 = .ok (.ireturn, 1) := by decide +kernel
theorem d_X_goThrough_0 : decode b_X_goThrough 0 = .ok (.aload_n 0, 1) := by decide +kernel
theorem d_X_goThrough_1 : decode b_X_goThrough 1 = .ok (.getfield 55, 3) := by decide +kernel
theorem d_X_goThrough_4 : decode b_X_goThrough 4 = .ok (.aload_n 0, 1) := by decide +kernel
theorem d_X_goThrough_5 : decode b_X_goThrough 5 = .ok (.getfield 27, 3) := by decide +kernel
theorem d_X_goThrough_8 : decode b_X_goThrough 8 = .ok (.iload_n 1, 1) := by decide +kernel
theorem d_X_goThrough_9 : decode b_X_goThrough 9 = .ok (.laload, 1) := by decide +kernel
theorem d_X_goThrough_10 : decode b_X_goThrough 10 = .ok (.invokevirtual 227, 3) := by decide +kernel
theorem d_X_goThrough_13 : decode b_X_goThrough 13 = .ok (.aload_n 0, 1) := by decide +kernel
theorem d_X_goThrough_14 : decode b_X_goThrough 14 = .ok (.getfield 40, 3) := by decide +kernel
theorem d_X_goThrough_17 : decode b_X_goThrough 17 = .ok (.iload_n 1, 1) := by decide +kernel
theorem d_X_goThrough_18 : decode b_X_goThrough 18 = .ok (.iconst 0, 1) := by decide +kernel
theorem d_X_goThrough_19 : decode b_X_goThrough 19 = .ok (.iastore, 1) := by decide +kernel
theorem d_X_goThrough_20 : decode b_X_goThrough 20 = .ok (.iconst 0, 1) := by decide +kernel
theorem d_X_goThrough_21 : decode b_X_goThrough 21 = .ok (.istore_n 2, 1) := by decide +kernel
theorem d_X_goThrough_22 : decode b_X_goThrough 22 = .ok (.iload_n 2, 1) := by decide +kernel
theorem d_X_goThrough_23 : decode b_X_goThrough 23 = .ok (.aload_n 0, 1) := by decide +kernel
theorem d_X_goThrough_24 : decode b_X_goThrough 24 = .ok (.getfield 74, 3) := by decide +kernel
theorem d_X_goThrough_27 : decode b_X_goThrough 27 = .ok (.if_icmp .ge 78, 3) := by decide +kernel
theorem d_X_goThrough_30 : decode b_X_goThrough 30 = .ok (.iconst 0, 1) := by decide +kernel
theorem d_X_goThrough_31 : decode b_X_goThrough 31 = .ok (.istore_n 3, 1) := by decide +kernel
theorem d_X_goThrough_32 : decode b_X_goThrough 32 = .ok (.iload_n 3, 1) := by decide +kernel
theorem d_X_goThrough_33 : decode b_X_goThrough 33 = .ok (.aload_n 0, 1) := by decide +kernel
theorem d_X_goThrough_34 : decode b_X_goThrough 34 = .ok (.getfield 129, 3) := by decide +kernel
theorem d_X_goThrough_37 : decode b_X_goThrough 37 = .ok (.if_icmp .ge 62, 3) := by decide +kernel
theorem d_X_goThrough_40 : decode b_X_goThrough 40 = .ok (.aload_n 0, 1) := by decide +kernel
theorem d_X_goThrough_41 : decode b_X_goThrough 41 = .ok (.getfield 15, 3) := by decide +kernel
theorem d_X_goThrough_44 : decode b_X_goThrough 44 = .ok (.iload_n 3, 1) := by decide +kernel
theorem d_X_goThrough_45 : decode b_X_goThrough 45 = .ok (.aaload, 1) := by decide +kernel
theorem d_X_goThrough_46 : decode b_X_goThrough 46 = .ok (.getfield 231, 3) := by decide +kernel
theorem d_X_goThrough_49 : decode b_X_goThrough 49 = .ok (.aload_n 0, 1) := by decide +kernel
theorem d_X_goThrough_50 : decode b_X_goThrough 50 = .ok (.getfield 55, 3) := by decide +kernel
theorem d_X_goThrough_53 : decode b_X_goThrough 53 = .ok (.getfield 180, 3) := by decide +kernel
theorem d_X_goThrough_56 : decode b_X_goThrough 56 = .ok (.iload_n 2, 1) := by decide +kernel
theorem d_X_goThrough_57 : decode b_X_goThrough 57 = .ok (.iaload, 1) := by decide +kernel
theorem d_X_goThrough_58 : decode b_X_goThrough 58 = .ok (.if_icmp .ne 35, 3) := by decide +kernel
theorem d_X_goThrough_61 : decode b_X_goThrough 61 = .ok (.aload_n 0, 1) := by decide +kernel
theorem d_X_goThrough_62 : decode b_X_goThrough 62 = .ok (.getfield 15, 3) := by decide +kernel
theorem d_X_goThrough_65 : decode b_X_goThrough 65 = .ok (.iload_n 3, 1) := by decide +kernel
theorem d_X_goThrough_66 : decode b_X_goThrough 66 = .ok (.aaload, 1) := by decide +kernel
theorem d_X_goThrough_67 : decode b_X_goThrough 67 = .ok (.getfield 135, 3) := by decide +kernel
theorem d_X_goThrough_70 : decode b_X_goThrough 70 = .ok (.iconst (-1), 1) := by decide +kernel
theorem d_X_goThrough_71 : decode b_X_goThrough 71 = .ok (.if_icmp .ne 15, 3) := by decide +kernel
theorem d_X_goThrough_74 : decode b_X_goThrough 74 = .ok (.aload_n 0, 1) := by decide +kernel
theorem d_X_goThrough_75 : decode b_X_goThrough 75 = .ok (.iload_n 1, 1) := by decide +kernel
theorem d_X_goThrough_76 : decode b_X_goThrough 76 = .ok (.iload_n 3, 1) := by decide +kernel
theorem d_X_goThrough_77 : decode b_X_goThrough 77 = .ok (.iload_n 2, 1) := by decide +kernel
theorem d_X_goThrough_78 : decode b_X_goThrough 78 = .ok (.iconst (-1), 1) := by decide +kernel
theorem d_X_goThrough_79 : decode b_X_goThrough 79 = .ok (.iconst (-1), 1) := by decide +kernel
theorem d_X_goThrough_80 : decode b_X_goThrough 80 = .ok (.invokevirtual 223, 3) := by decide +kernel
theorem d_X_goThrough_83 : decode b_X_goThrough 83 = .ok (.goto 10, 3) := by decide +kernel
theorem d_X_goThrough_86 : decode b_X_goThrough 86 = .ok (.aload_n 0, 1) := by decide +kernel
theorem d_X_goThrough_87 : decode b_X_goThrough 87 = .ok (.iload_n 1, 1) := by decide +kernel
theorem d_X_goThrough_88 : decode b_X_goThrough 88 = .ok (.iload_n 3, 1) := by decide +kernel
theorem d_X_goThrough_89 : decode b_X_goThrough 89 = .ok (.iload_n 2, 1) := by decide +kernel
theorem d_X_goThrough_90 : decode b_X_goThrough 90 = .ok (.invokevirtual 234, 3) := by decide +kernel
theorem d_X_goThrough_93 : decode b_X_goThrough 93 = .ok (.iinc 3 1, 3) := by decide +kernel
theorem d_X_goThrough_96 : decode b_X_goThrough 96 = .ok (.goto (-64), 3) := by decide +kernel
theorem d_X_goThrough_99 : decode b_X_goThrough 99 = .ok (.iinc 2 1, 3) := by decide +kernel
theorem d_X_goThrough_102 : decode b_X_goThrough 102 = .ok (.goto (-80), 3) := by decide +kernel
theorem d_X_goThrough_105 : decode b_X_goThrough 105 = .ok (.return_, 1) := by decide +kernel
theorem d_X_step_0 : decode b_X_step 0 = .ok (.aload_n 0, 1) := by decide +kernel
theorem d_X_step_1 : decode b_X_step 1 = .ok (.invokevirtual 207, 3) := by decide +kernel
theorem d_X_step_4 : decode b_X_step 4 = .ok (.ifCond .ne 51, 3) := by decide +kernel
theorem d_X_step_7 : decode b_X_step 7 = .ok (.aload_n 0, 1) := by decide +kernel
theorem d_X_step_8 : decode b_X_step 8 = .ok (.aload_n 0, 1) := by decide +kernel
theorem d_X_step_9 : decode b_X_step 9 = .ok (.getfield 15, 3) := by decide +kernel
theorem d_X_step_12 : decode b_X_step 12 = .ok (.iload_n 2, 1) := by decide +kernel
theorem d_X_step_13 : decode b_X_step 13 = .ok (.aaload, 1) := by decide +kernel
theorem d_X_step_14 : decode b_X_step 14 = .ok (.iload_n 3, 1) := by decide +kernel
theorem d_X_step_15 : decode b_X_step 15 = .ok (.iload 4, 2) := by decide +kernel
theorem d_X_step_17 : decode b_X_step 17 = .ok (.iload 5, 2) := by decide +kernel
theorem d_X_step_19 : decode b_X_step 19 = .ok (.invokevirtual 211, 3) := by decide +kernel
theorem d_X_step_22 : decode b_X_step 22 = .ok (.ifCond .eq 33, 3) := by decide +kernel
theorem d_X_step_25 : decode b_X_step 25 = .ok (.aload_n 0, 1) := by decide +kernel
theorem d_X_step_26 : decode b_X_step 26 = .ok (.getfield 40, 3) := by decide +kernel
theorem d_X_step_29 : decode b_X_step 29 = .ok (.iload_n 1, 1) := by decide +kernel
theorem d_X_step_30 : decode b_X_step 30 = .ok (.dup2, 1) := by decide +kernel
theorem d_X_step_31 : decode b_X_step 31 = .ok (.iaload, 1) := by decide +kernel
theorem d_X_step_32 : decode b_X_step 32 = .ok (.iconst 1, 1) := by decide +kernel
theorem d_X_step_33 : decode b_X_step 33 = .ok (.iadd, 1) := by decide +kernel
theorem d_X_step_34 : decode b_X_step 34 = .ok (.iastore, 1) := by decide +kernel
theorem d_X_step_35 : decode b_X_step 35 = .ok (.aload_n 0, 1) := by decide +kernel
theorem d_X_step_36 : decode b_X_step 36 = .ok (.dup, 1) := by decide +kernel
theorem d_X_step_37 : decode b_X_step 37 = .ok (.getfield 109, 3) := by decide +kernel
theorem d_X_step_40 : decode b_X_step 40 = .ok (.iconst 1, 1) := by decide +kernel
theorem d_X_step_41 : decode b_X_step 41 = .ok (.iadd, 1) := by decide +kernel
theorem d_X_step_42 : decode b_X_step 42 = .ok (.putfield 109, 3) := by decide +kernel
theorem d_X_step_45 : decode b_X_step 45 = .ok (.aload_n 0, 1) := by decide +kernel
theorem d_X_step_46 : decode b_X_step 46 = .ok (.aload_n 0, 1) := by decide +kernel
theorem d_X_step_47 : decode b_X_step 47 = .ok (.getfield 59, 3) := by decide +kernel
theorem d_X_step_50 : decode b_X_step 50 = .ok (.iload_n 1, 1) := by decide +kernel
theorem d_X_step_51 : decode b_X_step 51 = .ok (.iload_n 2, 1) := by decide +kernel
theorem d_X_step_52 : decode b_X_step 52 = .ok (.invokevirtual 215, 3) := by decide +kernel
theorem d_X_step_55 : decode b_X_step 55 = .ok (.return_, 1) := by decide +kernel
theorem d_X_make_0 : decode b_X_make 0 = .ok (.aload_n 0, 1) := by decide +kernel
theorem d_X_make_1 : decode b_X_make 1 = .ok (.getfield 59, 3) := by decide +kernel
theorem d_X_make_4 : decode b_X_make 4 = .ok (.aload_n 0, 1) := by decide +kernel
theorem d_X_make_5 : decode b_X_make 5 = .ok (.getfield 55, 3) := by decide +kernel
theorem d_X_make_8 : decode b_X_make 8 = .ok (.invokevirtual 193, 3) := by decide +kernel
theorem d_X_make_11 : decode b_X_make 11 = .ok (.aload_n 0, 1) := by decide +kernel
theorem d_X_make_12 : decode b_X_make 12 = .ok (.getfield 59, 3) := by decide +kernel
theorem d_X_make_15 : decode b_X_make 15 = .ok (.getfield 180, 3) := by decide +kernel
theorem d_X_make_18 : decode b_X_make 18 = .ok (.iload_n 2, 1) := by decide +kernel
theorem d_X_make_19 : decode b_X_make 19 = .ok (.aload_n 1, 1) := by decide +kernel
theorem d_X_make_20 : decode b_X_make 20 = .ok (.getfield 197, 3) := by decide +kernel
theorem d_X_make_23 : decode b_X_make 23 = .ok (.iastore, 1) := by decide +kernel
theorem d_X_make_24 : decode b_X_make 24 = .ok (.iload_n 3, 1) := by decide +kernel
theorem d_X_make_25 : decode b_X_make 25 = .ok (.iconst (-1), 1) := by decide +kernel
theorem d_X_make_26 : decode b_X_make 26 = .ok (.if_icmp .eq 11, 3) := by decide +kernel
theorem d_X_make_29 : decode b_X_make 29 = .ok (.aload_n 0, 1) := by decide +kernel
theorem d_X_make_30 : decode b_X_make 30 = .ok (.getfield 59, 3) := by decide +kernel
theorem d_X_make_33 : decode b_X_make 33 = .ok (.iload_n 3, 1) := by decide +kernel
theorem d_X_make_34 : decode b_X_make 34 = .ok (.invokevirtual 200, 3) := by decide +kernel
theorem d_X_make_37 : decode b_X_make 37 = .ok (.iconst 0, 1) := by decide +kernel
theorem d_X_make_38 : decode b_X_make 38 = .ok (.istore 5, 2) := by decide +kernel
theorem d_X_make_40 : decode b_X_make 40 = .ok (.iload 5, 2) := by decide +kernel
theorem d_X_make_42 : decode b_X_make 42 = .ok (.aload_n 1, 1) := by decide +kernel
theorem d_X_make_43 : decode b_X_make 43 = .ok (.getfield 138, 3) := by decide +kernel
theorem d_X_make_46 : decode b_X_make 46 = .ok (.if_icmp .ge 98, 3) := by decide +kernel
theorem d_X_make_49 : decode b_X_make 49 = .ok (.iconst 0, 1) := by decide +kernel
theorem d_X_make_50 : decode b_X_make 50 = .ok (.istore 6, 2) := by decide +kernel
theorem d_X_make_52 : decode b_X_make 52 = .ok (.iload 6, 2) := by decide +kernel
theorem d_X_make_54 : decode b_X_make 54 = .ok (.aload_n 0, 1) := by decide +kernel
theorem d_X_make_55 : decode b_X_make 55 = .ok (.getfield 74, 3) := by decide +kernel
theorem d_X_make_58 : decode b_X_make 58 = .ok (.if_icmp .ge 80, 3) := by decide +kernel
theorem d_X_make_61 : decode b_X_make 61 = .ok (.aload_n 1, 1) := by decide +kernel
theorem d_X_make_62 : decode b_X_make 62 = .ok (.getfield 141, 3) := by decide +kernel
theorem d_X_make_65 : decode b_X_make 65 = .ok (.iload 5, 2) := by decide +kernel
theorem d_X_make_67 : decode b_X_make 67 = .ok (.iaload, 1) := by decide +kernel
theorem d_X_make_68 : decode b_X_make 68 = .ok (.ifCond .ne 18, 3) := by decide +kernel
theorem d_X_make_71 : decode b_X_make 71 = .ok (.iload 6, 2) := by decide +kernel
theorem d_X_make_73 : decode b_X_make 73 = .ok (.iload 4, 2) := by decide +kernel
theorem d_X_make_75 : decode b_X_make 75 = .ok (.if_icmp .ne 7, 3) := by decide +kernel
theorem d_X_make_78 : decode b_X_make 78 = .ok (.iconst 1, 1) := by decide +kernel
theorem d_X_make_79 : decode b_X_make 79 = .ok (.goto 18, 3) := by decide +kernel
theorem d_X_make_82 : decode b_X_make 82 = .ok (.iconst 0, 1) := by decide +kernel
theorem d_X_make_83 : decode b_X_make 83 = .ok (.goto 14, 3) := by decide +kernel
theorem d_X_make_86 : decode b_X_make 86 = .ok (.iload 6, 2) := by decide +kernel
theorem d_X_make_88 : decode b_X_make 88 = .ok (.iload_n 2, 1) := by decide +kernel
theorem d_X_make_89 : decode b_X_make 89 = .ok (.if_icmp .eq 7, 3) := by decide +kernel
theorem d_X_make_92 : decode b_X_make 92 = .ok (.iconst 1, 1) := by decide +kernel
theorem d_X_make_93 : decode b_X_make 93 = .ok (.goto 4, 3) := by decide +kernel
theorem d_X_make_96 : decode b_X_make 96 = .ok (.iconst 0, 1) := by decide +kernel
theorem d_X_make_97 : decode b_X_make 97 = .ok (.istore 7, 2) := by decide +kernel
theorem d_X_make_99 : decode b_X_make 99 = .ok (.iload 7, 2) := by decide +kernel
theorem d_X_make_101 : decode b_X_make 101 = .ok (.ifCond .eq 31, 3) := by decide +kernel
theorem d_X_make_104 : decode b_X_make 104 = .ok (.aload_n 0, 1) := by decide +kernel
theorem d_X_make_105 : decode b_X_make 105 = .ok (.getfield 59, 3) := by decide +kernel
theorem d_X_make_108 : decode b_X_make 108 = .ok (.aload_n 1, 1) := by decide +kernel
theorem d_X_make_109 : decode b_X_make 109 = .ok (.getfield 139, 3) := by decide +kernel
theorem d_X_make_112 : decode b_X_make 112 = .ok (.iload 5, 2) := by decide +kernel
theorem d_X_make_114 : decode b_X_make 114 = .ok (.iaload, 1) := by decide +kernel
theorem d_X_make_115 : decode b_X_make 115 = .ok (.iconst 4, 1) := by decide +kernel
theorem d_X_make_116 : decode b_X_make 116 = .ok (.ishl, 1) := by decide +kernel
theorem d_X_make_117 : decode b_X_make 117 = .ok (.iload_n 2, 1) := by decide +kernel
theorem d_X_make_118 : decode b_X_make 118 = .ok (.iconst 2, 1) := by decide +kernel
theorem d_X_make_119 : decode b_X_make 119 = .ok (.ishl, 1) := by decide +kernel
theorem d_X_make_120 : decode b_X_make 120 = .ok (.ior, 1) := by decide +kernel
theorem d_X_make_121 : decode b_X_make 121 = .ok (.iload 6, 2) := by decide +kernel
theorem d_X_make_123 : decode b_X_make 123 = .ok (.ior, 1) := by decide +kernel
theorem d_X_make_124 : decode b_X_make 124 = .ok (.invokevirtual 204, 3) := by decide +kernel
theorem d_X_make_127 : decode b_X_make 127 = .ok (.ifCond .ne 5, 3) := by decide +kernel
theorem d_X_make_130 : decode b_X_make 130 = .ok (.iconst 0, 1) := by decide +kernel
theorem d_X_make_131 : decode b_X_make 131 = .ok (.ireturn, 1) := by decide +kernel
theorem d_X_make_132 : decode b_X_make 132 = .ok (.iinc 6 1, 3) := by decide +kernel
theorem d_X_make_135 : decode b_X_make 135 = .ok (.goto (-83), 3) := by decide +kernel
theorem d_X_make_138 : decode b_X_make 138 = .ok (.iinc 5 1, 3) := by decide +kernel
theorem d_X_make_141 : decode b_X_make 141 = .ok (.goto (-101), 3) := by decide +kernel
theorem d_X_make_144 : decode b_X_make 144 = .ok (.iconst 1, 1) := by decide +kernel
theorem d_X_make_145 : decode b_X_make 145 = .ok (.ireturn, 1) := by decide +kernel
theorem d_X_receive_0 : decode b_X_receive 0 = .ok (.iconst (-1), 1) := by decide +kernel
theorem d_X_receive_1 : decode b_X_receive 1 = .ok (.istore 4, 2) := by decide +kernel
theorem d_X_receive_3 : decode b_X_receive 3 = .ok (.iconst 0, 1) := by decide +kernel
theorem d_X_receive_4 : decode b_X_receive 4 = .ok (.istore 5, 2) := by decide +kernel
theorem d_X_receive_6 : decode b_X_receive 6 = .ok (.iload 5, 2) := by decide +kernel
theorem d_X_receive_8 : decode b_X_receive 8 = .ok (.aload_n 0, 1) := by decide +kernel
theorem d_X_receive_9 : decode b_X_receive 9 = .ok (.getfield 55, 3) := by decide +kernel
theorem d_X_receive_12 : decode b_X_receive 12 = .ok (.getfield 219, 3) := by decide +kernel
theorem d_X_receive_15 : decode b_X_receive 15 = .ok (.if_icmp .ge 71, 3) := by decide +kernel
theorem d_X_receive_18 : decode b_X_receive 18 = .ok (.aload_n 0, 1) := by decide +kernel
theorem d_X_receive_19 : decode b_X_receive 19 = .ok (.getfield 55, 3) := by decide +kernel
theorem d_X_receive_22 : decode b_X_receive 22 = .ok (.getfield 220, 3) := by decide +kernel
theorem d_X_receive_25 : decode b_X_receive 25 = .ok (.iload 5, 2) := by decide +kernel
theorem d_X_receive_27 : decode b_X_receive 27 = .ok (.iaload, 1) := by decide +kernel
theorem d_X_receive_28 : decode b_X_receive 28 = .ok (.istore 6, 2) := by decide +kernel
theorem d_X_receive_30 : decode b_X_receive 30 = .ok (.iload 6, 2) := by decide +kernel
theorem d_X_receive_32 : decode b_X_receive 32 = .ok (.iload 4, 2) := by decide +kernel
theorem d_X_receive_34 : decode b_X_receive 34 = .ok (.if_icmp .eq 42, 3) := by decide +kernel
theorem d_X_receive_37 : decode b_X_receive 37 = .ok (.iload 6, 2) := by decide +kernel
theorem d_X_receive_39 : decode b_X_receive 39 = .ok (.iconst 4, 1) := by decide +kernel
theorem d_X_receive_40 : decode b_X_receive 40 = .ok (.ishr, 1) := by decide +kernel
theorem d_X_receive_41 : decode b_X_receive 41 = .ok (.aload_n 0, 1) := by decide +kernel
theorem d_X_receive_42 : decode b_X_receive 42 = .ok (.getfield 15, 3) := by decide +kernel
theorem d_X_receive_45 : decode b_X_receive 45 = .ok (.iload_n 2, 1) := by decide +kernel
theorem d_X_receive_46 : decode b_X_receive 46 = .ok (.aaload, 1) := by decide +kernel
theorem d_X_receive_47 : decode b_X_receive 47 = .ok (.getfield 135, 3) := by decide +kernel
theorem d_X_receive_50 : decode b_X_receive 50 = .ok (.if_icmp .ne 26, 3) := by decide +kernel
theorem d_X_receive_53 : decode b_X_receive 53 = .ok (.iload 6, 2) := by decide +kernel
theorem d_X_receive_55 : decode b_X_receive 55 = .ok (.iconst 3, 1) := by decide +kernel
theorem d_X_receive_56 : decode b_X_receive 56 = .ok (.iand, 1) := by decide +kernel
theorem d_X_receive_57 : decode b_X_receive 57 = .ok (.iload_n 3, 1) := by decide +kernel
theorem d_X_receive_58 : decode b_X_receive 58 = .ok (.if_icmp .ne 18, 3) := by decide +kernel
theorem d_X_receive_61 : decode b_X_receive 61 = .ok (.aload_n 0, 1) := by decide +kernel
theorem d_X_receive_62 : decode b_X_receive 62 = .ok (.iload_n 1, 1) := by decide +kernel
theorem d_X_receive_63 : decode b_X_receive 63 = .ok (.iload_n 2, 1) := by decide +kernel
theorem d_X_receive_64 : decode b_X_receive 64 = .ok (.iload_n 3, 1) := by decide +kernel
theorem d_X_receive_65 : decode b_X_receive 65 = .ok (.iload 5, 2) := by decide +kernel
theorem d_X_receive_67 : decode b_X_receive 67 = .ok (.iload 6, 2) := by decide +kernel
theorem d_X_receive_69 : decode b_X_receive 69 = .ok (.iconst 2, 1) := by decide +kernel
theorem d_X_receive_70 : decode b_X_receive 70 = .ok (.ishr, 1) := by decide +kernel
theorem d_X_receive_71 : decode b_X_receive 71 = .ok (.iconst 3, 1) := by decide +kernel
theorem d_X_receive_72 : decode b_X_receive 72 = .ok (.iand, 1) := by decide +kernel
theorem d_X_receive_73 : decode b_X_receive 73 = .ok (.invokevirtual 223, 3) := by decide +kernel
theorem d_X_receive_76 : decode b_X_receive 76 = .ok (.iload 6, 2) := by decide +kernel
theorem d_X_receive_78 : decode b_X_receive 78 = .ok (.istore 4, 2) := by decide +kernel
theorem d_X_receive_80 : decode b_X_receive 80 = .ok (.iinc 5 1, 3) := by decide +kernel
theorem d_X_receive_83 : decode b_X_receive 83 = .ok (.goto (-77), 3) := by decide +kernel
theorem d_X_receive_86 : decode b_X_receive 86 = .ok (.return_, 1) := by decide +kernel
theorem d_X_way_0 : decode b_X_way 0 = .ok (.aload_n 0, 1) := by decide +kernel
theorem d_X_way_1 : decode b_X_way 1 = .ok (.getfield 49, 3) := by decide +kernel
theorem d_X_way_4 : decode b_X_way 4 = .ok (.iconst (-1), 1) := by decide +kernel
theorem d_X_way_5 : decode b_X_way 5 = .ok (.if_icmp .ne 7, 3) := by decide +kernel
theorem d_X_way_8 : decode b_X_way 8 = .ok (.iconst (-1), 1) := by decide +kernel
theorem d_X_way_9 : decode b_X_way 9 = .ok (.goto 12, 3) := by decide +kernel
theorem d_X_way_12 : decode b_X_way 12 = .ok (.aload_n 0, 1) := by decide +kernel
theorem d_X_way_13 : decode b_X_way 13 = .ok (.getfield 37, 3) := by decide +kernel
theorem d_X_way_16 : decode b_X_way 16 = .ok (.aload_n 0, 1) := by decide +kernel
theorem d_X_way_17 : decode b_X_way 17 = .ok (.getfield 49, 3) := by decide +kernel
theorem d_X_way_20 : decode b_X_way 20 = .ok (.iaload, 1) := by decide +kernel
theorem d_X_way_21 : decode b_X_way 21 = .ok (.ireturn, 1) := by decide +kernel
theorem d_X_count_0 : decode b_X_count 0 = .ok (.iload_n 1, 1) := by decide +kernel
theorem d_X_count_1 : decode b_X_count 1 = .ok (.tableswitch 132 0 10 #[59, 64, 69, 74, 79, 84, 89, 112, 117, 122, 127], 59) := by decide +kernel
theorem d_X_count_60 : decode b_X_count 60 = .ok (.aload_n 0, 1) := by decide +kernel
theorem d_X_count_61 : decode b_X_count 61 = .ok (.getfield 74, 3) := by decide +kernel
theorem d_X_count_64 : decode b_X_count 64 = .ok (.ireturn, 1) := by decide +kernel
theorem d_X_count_65 : decode b_X_count 65 = .ok (.aload_n 0, 1) := by decide +kernel
theorem d_X_count_66 : decode b_X_count 66 = .ok (.getfield 7, 3) := by decide +kernel
theorem d_X_count_69 : decode b_X_count 69 = .ok (.ireturn, 1) := by decide +kernel
theorem d_X_count_70 : decode b_X_count 70 = .ok (.aload_n 0, 1) := by decide +kernel
theorem d_X_count_71 : decode b_X_count 71 = .ok (.getfield 119, 3) := by decide +kernel
theorem d_X_count_74 : decode b_X_count 74 = .ok (.ireturn, 1) := by decide +kernel
theorem d_X_count_75 : decode b_X_count 75 = .ok (.aload_n 0, 1) := by decide +kernel
theorem d_X_count_76 : decode b_X_count 76 = .ok (.getfield 129, 3) := by decide +kernel
theorem d_X_count_79 : decode b_X_count 79 = .ok (.ireturn, 1) := by decide +kernel
theorem d_X_count_80 : decode b_X_count 80 = .ok (.aload_n 0, 1) := by decide +kernel
theorem d_X_count_81 : decode b_X_count 81 = .ok (.getfield 99, 3) := by decide +kernel
theorem d_X_count_84 : decode b_X_count 84 = .ok (.ireturn, 1) := by decide +kernel
theorem d_X_count_85 : decode b_X_count 85 = .ok (.aload_n 0, 1) := by decide +kernel
theorem d_X_count_86 : decode b_X_count 86 = .ok (.getfield 102, 3) := by decide +kernel
theorem d_X_count_89 : decode b_X_count 89 = .ok (.ireturn, 1) := by decide +kernel
theorem d_X_count_90 : decode b_X_count 90 = .ok (.aload_n 0, 1) := by decide +kernel
theorem d_X_count_91 : decode b_X_count 91 = .ok (.getfield 99, 3) := by decide +kernel
theorem d_X_count_94 : decode b_X_count 94 = .ok (.ifCond .ne 7, 3) := by decide +kernel
theorem d_X_count_97 : decode b_X_count 97 = .ok (.iconst (-1), 1) := by decide +kernel
theorem d_X_count_98 : decode b_X_count 98 = .ok (.goto 14, 3) := by decide +kernel
theorem d_X_count_101 : decode b_X_count 101 = .ok (.aload_n 0, 1) := by decide +kernel
theorem d_X_count_102 : decode b_X_count 102 = .ok (.getfield 37, 3) := by decide +kernel
theorem d_X_count_105 : decode b_X_count 105 = .ok (.aload_n 0, 1) := by decide +kernel
theorem d_X_count_106 : decode b_X_count 106 = .ok (.getfield 99, 3) := by decide +kernel
theorem d_X_count_109 : decode b_X_count 109 = .ok (.iconst 1, 1) := by decide +kernel
theorem d_X_count_110 : decode b_X_count 110 = .ok (.isub, 1) := by decide +kernel
theorem d_X_count_111 : decode b_X_count 111 = .ok (.iaload, 1) := by decide +kernel
theorem d_X_count_112 : decode b_X_count 112 = .ok (.ireturn, 1) := by decide +kernel
theorem d_X_count_113 : decode b_X_count 113 = .ok (.aload_n 0, 1) := by decide +kernel
theorem d_X_count_114 : decode b_X_count 114 = .ok (.getfield 109, 3) := by decide +kernel
theorem d_X_count_117 : decode b_X_count 117 = .ok (.ireturn, 1) := by decide +kernel
theorem d_X_count_118 : decode b_X_count 118 = .ok (.aload_n 0, 1) := by decide +kernel
theorem d_X_count_119 : decode b_X_count 119 = .ok (.getfield 112, 3) := by decide +kernel
theorem d_X_count_122 : decode b_X_count 122 = .ok (.ireturn, 1) := by decide +kernel
theorem d_X_count_123 : decode b_X_count 123 = .ok (.aload_n 0, 1) := by decide +kernel
theorem d_X_count_124 : decode b_X_count 124 = .ok (.invokevirtual 249, 3) := by decide +kernel
theorem d_X_count_127 : decode b_X_count 127 = .ok (.ireturn, 1) := by decide +kernel
theorem d_X_count_128 : decode b_X_count 128 = .ok (.aload_n 0, 1) := by decide +kernel
theorem d_X_count_129 : decode b_X_count 129 = .ok (.invokevirtual 253, 3) := by decide +kernel
theorem d_X_count_132 : decode b_X_count 132 = .ok (.ireturn, 1) := by decide +kernel
theorem d_X_count_133 : decode b_X_count 133 = .ok (.iconst (-1), 1) := by decide +kernel
theorem d_X_count_134 : decode b_X_count 134 = .ok (.ireturn, 1) := by decide +kernel
theorem d_X_dead_0 : decode b_X_dead 0 = .ok (.iconst 0, 1) := by decide +kernel
theorem d_X_dead_1 : decode b_X_dead 1 = .ok (.istore_n 1, 1) := by decide +kernel
theorem d_X_dead_2 : decode b_X_dead 2 = .ok (.iconst 0, 1) := by decide +kernel
theorem d_X_dead_3 : decode b_X_dead 3 = .ok (.istore_n 2, 1) := by decide +kernel
theorem d_X_dead_4 : decode b_X_dead 4 = .ok (.iload_n 2, 1) := by decide +kernel
theorem d_X_dead_5 : decode b_X_dead 5 = .ok (.aload_n 0, 1) := by decide +kernel
theorem d_X_dead_6 : decode b_X_dead 6 = .ok (.getfield 102, 3) := by decide +kernel
theorem d_X_dead_9 : decode b_X_dead 9 = .ok (.if_icmp .ge 26, 3) := by decide +kernel
theorem d_X_dead_12 : decode b_X_dead 12 = .ok (.iload_n 1, 1) := by decide +kernel
theorem d_X_dead_13 : decode b_X_dead 13 = .ok (.aload_n 0, 1) := by decide +kernel
theorem d_X_dead_14 : decode b_X_dead 14 = .ok (.getfield 40, 3) := by decide +kernel
theorem d_X_dead_17 : decode b_X_dead 17 = .ok (.iload_n 2, 1) := by decide +kernel
theorem d_X_dead_18 : decode b_X_dead 18 = .ok (.iaload, 1) := by decide +kernel
theorem d_X_dead_19 : decode b_X_dead 19 = .ok (.ifCond .ne 7, 3) := by decide +kernel
theorem d_X_dead_22 : decode b_X_dead 22 = .ok (.iconst 1, 1) := by decide +kernel
theorem d_X_dead_23 : decode b_X_dead 23 = .ok (.goto 4, 3) := by decide +kernel
theorem d_X_dead_26 : decode b_X_dead 26 = .ok (.iconst 0, 1) := by decide +kernel
theorem d_X_dead_27 : decode b_X_dead 27 = .ok (.iadd, 1) := by decide +kernel
theorem d_X_dead_28 : decode b_X_dead 28 = .ok (.istore_n 1, 1) := by decide +kernel
theorem d_X_dead_29 : decode b_X_dead 29 = .ok (.iinc 2 1, 3) := by decide +kernel
theorem d_X_dead_32 : decode b_X_dead 32 = .ok (.goto (-28), 3) := by decide +kernel
theorem d_X_dead_35 : decode b_X_dead 35 = .ok (.iload_n 1, 1) := by decide +kernel
theorem d_X_dead_36 : decode b_X_dead 36 = .ok (.ireturn, 1) := by decide +kernel
theorem d_X_sum_0 : decode b_X_sum 0 = .ok (.iconst 0, 1) := by decide +kernel
theorem d_X_sum_1 : decode b_X_sum 1 = .ok (.istore_n 1, 1) := by decide +kernel
theorem d_X_sum_2 : decode b_X_sum 2 = .ok (.iconst 0, 1) := by decide +kernel
theorem d_X_sum_3 : decode b_X_sum 3 = .ok (.istore_n 2, 1) := by decide +kernel
theorem d_X_sum_4 : decode b_X_sum 4 = .ok (.iload_n 2, 1) := by decide +kernel
theorem d_X_sum_5 : decode b_X_sum 5 = .ok (.aload_n 0, 1) := by decide +kernel
theorem d_X_sum_6 : decode b_X_sum 6 = .ok (.getfield 99, 3) := by decide +kernel
theorem d_X_sum_9 : decode b_X_sum 9 = .ok (.if_icmp .ge 23, 3) := by decide +kernel
theorem d_X_sum_12 : decode b_X_sum 12 = .ok (.iload_n 1, 1) := by decide +kernel
theorem d_X_sum_13 : decode b_X_sum 13 = .ok (.aload_n 0, 1) := by decide +kernel
theorem d_X_sum_14 : decode b_X_sum 14 = .ok (.getfield 87, 3) := by decide +kernel
theorem d_X_sum_17 : decode b_X_sum 17 = .ok (.aload_n 0, 1) := by decide +kernel
theorem d_X_sum_18 : decode b_X_sum 18 = .ok (.getfield 43, 3) := by decide +kernel
theorem d_X_sum_21 : decode b_X_sum 21 = .ok (.iload_n 2, 1) := by decide +kernel
theorem d_X_sum_22 : decode b_X_sum 22 = .ok (.iaload, 1) := by decide +kernel
theorem d_X_sum_23 : decode b_X_sum 23 = .ok (.idiv, 1) := by decide +kernel
theorem d_X_sum_24 : decode b_X_sum 24 = .ok (.iadd, 1) := by decide +kernel
theorem d_X_sum_25 : decode b_X_sum 25 = .ok (.istore_n 1, 1) := by decide +kernel
theorem d_X_sum_26 : decode b_X_sum 26 = .ok (.iinc 2 1, 3) := by decide +kernel
theorem d_X_sum_29 : decode b_X_sum 29 = .ok (.goto (-25), 3) := by decide +kernel
theorem d_X_sum_32 : decode b_X_sum 32 = .ok (.iload_n 1, 1) := by decide +kernel
theorem d_X_sum_33 : decode b_X_sum 33 = .ok (.ireturn, 1) := by decide +kernel
theorem d_X_state_0 : decode b_X_state 0 = .ok (.aload_n 0, 1) := by decide +kernel
theorem d_X_state_1 : decode b_X_state 1 = .ok (.getfield 7, 3) := by decide +kernel
theorem d_X_state_4 : decode b_X_state 4 = .ok (.bipush 8, 2) := by decide +kernel
theorem d_X_state_6 : decode b_X_state 6 = .ok (.if_icmp .ge 7, 3) := by decide +kernel
theorem d_X_state_9 : decode b_X_state 9 = .ok (.iconst 1, 1) := by decide +kernel
theorem d_X_state_10 : decode b_X_state 10 = .ok (.goto 4, 3) := by decide +kernel
theorem d_X_state_13 : decode b_X_state 13 = .ok (.iconst 0, 1) := by decide +kernel
theorem d_X_state_14 : decode b_X_state 14 = .ok (.invokestatic 115, 3) := by decide +kernel
theorem d_X_state_17 : decode b_X_state 17 = .ok (.aload_n 0, 1) := by decide +kernel
theorem d_X_state_18 : decode b_X_state 18 = .ok (.dup, 1) := by decide +kernel
theorem d_X_state_19 : decode b_X_state 19 = .ok (.getfield 7, 3) := by decide +kernel
theorem d_X_state_22 : decode b_X_state 22 = .ok (.iconst 1, 1) := by decide +kernel
theorem d_X_state_23 : decode b_X_state 23 = .ok (.iadd, 1) := by decide +kernel
theorem d_X_state_24 : decode b_X_state 24 = .ok (.putfield 7, 3) := by decide +kernel
theorem d_X_state_27 : decode b_X_state 27 = .ok (.aload_n 0, 1) := by decide +kernel
theorem d_X_state_28 : decode b_X_state 28 = .ok (.invokevirtual 84, 3) := by decide +kernel
theorem d_X_state_31 : decode b_X_state 31 = .ok (.aload_n 0, 1) := by decide +kernel
theorem d_X_state_32 : decode b_X_state 32 = .ok (.getfield 7, 3) := by decide +kernel
theorem d_X_state_35 : decode b_X_state 35 = .ok (.iconst 1, 1) := by decide +kernel
theorem d_X_state_36 : decode b_X_state 36 = .ok (.isub, 1) := by decide +kernel
theorem d_X_state_37 : decode b_X_state 37 = .ok (.ireturn, 1) := by decide +kernel
theorem d_X_allowed_0 : decode b_X_allowed 0 = .ok (.iload_n 0, 1) := by decide +kernel
theorem d_X_allowed_1 : decode b_X_allowed 1 = .ok (.ifCond .ne 11, 3) := by decide +kernel
theorem d_X_allowed_4 : decode b_X_allowed 4 = .ok (.new 96, 3) := by decide +kernel
theorem d_X_allowed_7 : decode b_X_allowed 7 = .ok (.dup, 1) := by decide +kernel
theorem d_X_allowed_8 : decode b_X_allowed 8 = .ok (.invokespecial 98, 3) := by decide +kernel
theorem d_X_allowed_11 : decode b_X_allowed 11 = .ok (.athrow, 1) := by decide +kernel
theorem d_X_allowed_12 : decode b_X_allowed 12 = .ok (.return_, 1) := by decide +kernel
theorem d_X_message_0 : decode b_X_message 0 = .ok (.aload_n 0, 1) := by decide +kernel
theorem d_X_message_1 : decode b_X_message 1 = .ok (.getfield 119, 3) := by decide +kernel
theorem d_X_message_4 : decode b_X_message 4 = .ok (.bipush 6, 2) := by decide +kernel
theorem d_X_message_6 : decode b_X_message 6 = .ok (.if_icmp .ge 7, 3) := by decide +kernel
theorem d_X_message_9 : decode b_X_message 9 = .ok (.iconst 1, 1) := by decide +kernel
theorem d_X_message_10 : decode b_X_message 10 = .ok (.goto 4, 3) := by decide +kernel
theorem d_X_message_13 : decode b_X_message 13 = .ok (.iconst 0, 1) := by decide +kernel
theorem d_X_message_14 : decode b_X_message 14 = .ok (.invokestatic 115, 3) := by decide +kernel
theorem d_X_message_17 : decode b_X_message 17 = .ok (.aload_n 0, 1) := by decide +kernel
theorem d_X_message_18 : decode b_X_message 18 = .ok (.dup, 1) := by decide +kernel
theorem d_X_message_19 : decode b_X_message 19 = .ok (.getfield 119, 3) := by decide +kernel
theorem d_X_message_22 : decode b_X_message 22 = .ok (.iconst 1, 1) := by decide +kernel
theorem d_X_message_23 : decode b_X_message 23 = .ok (.iadd, 1) := by decide +kernel
theorem d_X_message_24 : decode b_X_message 24 = .ok (.putfield 119, 3) := by decide +kernel
theorem d_X_message_27 : decode b_X_message 27 = .ok (.aload_n 0, 1) := by decide +kernel
theorem d_X_message_28 : decode b_X_message 28 = .ok (.invokevirtual 84, 3) := by decide +kernel
theorem d_X_message_31 : decode b_X_message 31 = .ok (.aload_n 0, 1) := by decide +kernel
theorem d_X_message_32 : decode b_X_message 32 = .ok (.getfield 119, 3) := by decide +kernel
theorem d_X_message_35 : decode b_X_message 35 = .ok (.iconst 1, 1) := by decide +kernel
theorem d_X_message_36 : decode b_X_message 36 = .ok (.isub, 1) := by decide +kernel
theorem d_X_message_37 : decode b_X_message 37 = .ok (.ireturn, 1) := by decide +kernel
theorem d_X_rule_0 : decode b_X_rule 0 = .ok (.aload_n 0, 1) := by decide +kernel
theorem d_X_rule_1 : decode b_X_rule 1 = .ok (.iload_n 1, 1) := by decide +kernel
theorem d_X_rule_2 : decode b_X_rule 2 = .ok (.invokevirtual 122, 3) := by decide +kernel
theorem d_X_rule_5 : decode b_X_rule 5 = .ok (.ifCond .eq 28, 3) := by decide +kernel
theorem d_X_rule_8 : decode b_X_rule 8 = .ok (.aload_n 0, 1) := by decide +kernel
theorem d_X_rule_9 : decode b_X_rule 9 = .ok (.iload_n 3, 1) := by decide +kernel
theorem d_X_rule_10 : decode b_X_rule 10 = .ok (.invokevirtual 122, 3) := by decide +kernel
theorem d_X_rule_13 : decode b_X_rule 13 = .ok (.ifCond .eq 20, 3) := by decide +kernel
theorem d_X_rule_16 : decode b_X_rule 16 = .ok (.iload_n 2, 1) := by decide +kernel
theorem d_X_rule_17 : decode b_X_rule 17 = .ok (.iconst (-1), 1) := by decide +kernel
theorem d_X_rule_18 : decode b_X_rule 18 = .ok (.if_icmp .lt 15, 3) := by decide +kernel
theorem d_X_rule_21 : decode b_X_rule 21 = .ok (.iload_n 2, 1) := by decide +kernel
theorem d_X_rule_22 : decode b_X_rule 22 = .ok (.aload_n 0, 1) := by decide +kernel
theorem d_X_rule_23 : decode b_X_rule 23 = .ok (.getfield 119, 3) := by decide +kernel
theorem d_X_rule_26 : decode b_X_rule 26 = .ok (.if_icmp .ge 7, 3) := by decide +kernel
theorem d_X_rule_29 : decode b_X_rule 29 = .ok (.iconst 1, 1) := by decide +kernel
theorem d_X_rule_30 : decode b_X_rule 30 = .ok (.goto 4, 3) := by decide +kernel
theorem d_X_rule_33 : decode b_X_rule 33 = .ok (.iconst 0, 1) := by decide +kernel
theorem d_X_rule_34 : decode b_X_rule 34 = .ok (.invokestatic 126, 3) := by decide +kernel
theorem d_X_rule_37 : decode b_X_rule 37 = .ok (.aload_n 0, 1) := by decide +kernel
theorem d_X_rule_38 : decode b_X_rule 38 = .ok (.getfield 129, 3) := by decide +kernel
theorem d_X_rule_41 : decode b_X_rule 41 = .ok (.bipush 40, 2) := by decide +kernel
theorem d_X_rule_43 : decode b_X_rule 43 = .ok (.if_icmp .ge 7, 3) := by decide +kernel
theorem d_X_rule_46 : decode b_X_rule 46 = .ok (.iconst 1, 1) := by decide +kernel
theorem d_X_rule_47 : decode b_X_rule 47 = .ok (.goto 4, 3) := by decide +kernel
theorem d_X_rule_50 : decode b_X_rule 50 = .ok (.iconst 0, 1) := by decide +kernel
theorem d_X_rule_51 : decode b_X_rule 51 = .ok (.invokestatic 115, 3) := by decide +kernel
theorem d_X_rule_54 : decode b_X_rule 54 = .ok (.aload_n 0, 1) := by decide +kernel
theorem d_X_rule_55 : decode b_X_rule 55 = .ok (.getfield 15, 3) := by decide +kernel
theorem d_X_rule_58 : decode b_X_rule 58 = .ok (.aload_n 0, 1) := by decide +kernel
theorem d_X_rule_59 : decode b_X_rule 59 = .ok (.getfield 129, 3) := by decide +kernel
theorem d_X_rule_62 : decode b_X_rule 62 = .ok (.new 13, 3) := by decide +kernel
theorem d_X_rule_65 : decode b_X_rule 65 = .ok (.dup, 1) := by decide +kernel
theorem d_X_rule_66 : decode b_X_rule 66 = .ok (.iload_n 1, 1) := by decide +kernel
theorem d_X_rule_67 : decode b_X_rule 67 = .ok (.iload_n 2, 1) := by decide +kernel
theorem d_X_rule_68 : decode b_X_rule 68 = .ok (.iload_n 3, 1) := by decide +kernel
theorem d_X_rule_69 : decode b_X_rule 69 = .ok (.invokespecial 132, 3) := by decide +kernel
theorem d_X_rule_72 : decode b_X_rule 72 = .ok (.aastore, 1) := by decide +kernel
theorem d_X_rule_73 : decode b_X_rule 73 = .ok (.aload_n 0, 1) := by decide +kernel
theorem d_X_rule_74 : decode b_X_rule 74 = .ok (.dup, 1) := by decide +kernel
theorem d_X_rule_75 : decode b_X_rule 75 = .ok (.getfield 129, 3) := by decide +kernel
theorem d_X_rule_78 : decode b_X_rule 78 = .ok (.iconst 1, 1) := by decide +kernel
theorem d_X_rule_79 : decode b_X_rule 79 = .ok (.iadd, 1) := by decide +kernel
theorem d_X_rule_80 : decode b_X_rule 80 = .ok (.putfield 129, 3) := by decide +kernel
theorem d_X_rule_83 : decode b_X_rule 83 = .ok (.aload_n 0, 1) := by decide +kernel
theorem d_X_rule_84 : decode b_X_rule 84 = .ok (.invokevirtual 84, 3) := by decide +kernel
theorem d_X_rule_87 : decode b_X_rule 87 = .ok (.aload_n 0, 1) := by decide +kernel
theorem d_X_rule_88 : decode b_X_rule 88 = .ok (.getfield 129, 3) := by decide +kernel
theorem d_X_rule_91 : decode b_X_rule 91 = .ok (.iconst 1, 1) := by decide +kernel
theorem d_X_rule_92 : decode b_X_rule 92 = .ok (.isub, 1) := by decide +kernel
theorem d_X_rule_93 : decode b_X_rule 93 = .ok (.ireturn, 1) := by decide +kernel
theorem d_X_isState_0 : decode b_X_isState 0 = .ok (.iload_n 1, 1) := by decide +kernel
theorem d_X_isState_1 : decode b_X_isState 1 = .ok (.ifCond .lt 15, 3) := by decide +kernel
theorem d_X_isState_4 : decode b_X_isState 4 = .ok (.iload_n 1, 1) := by decide +kernel
theorem d_X_isState_5 : decode b_X_isState 5 = .ok (.aload_n 0, 1) := by decide +kernel
theorem d_X_isState_6 : decode b_X_isState 6 = .ok (.getfield 7, 3) := by decide +kernel
theorem d_X_isState_9 : decode b_X_isState 9 = .ok (.if_icmp .ge 7, 3) := by decide +kernel
theorem d_X_isState_12 : decode b_X_isState 12 = .ok (.iconst 1, 1) := by decide +kernel
theorem d_X_isState_13 : decode b_X_isState 13 = .ok (.goto 4, 3) := by decide +kernel
theorem d_X_isState_16 : decode b_X_isState 16 = .ok (.iconst 0, 1) := by decide +kernel
theorem d_X_isState_17 : decode b_X_isState 17 = .ok (.ireturn, 1) := by decide +kernel
theorem d_X_right_0 : decode b_X_right 0 = .ok (.iload_n 0, 1) := by decide +kernel
theorem d_X_right_1 : decode b_X_right 1 = .ok (.ifCond .ne 11, 3) := by decide +kernel
theorem d_X_right_4 : decode b_X_right 4 = .ok (.new 90, 3) := by decide +kernel
theorem d_X_right_7 : decode b_X_right 7 = .ok (.dup, 1) := by decide +kernel
theorem d_X_right_8 : decode b_X_right 8 = .ok (.invokespecial 92, 3) := by decide +kernel
theorem d_X_right_11 : decode b_X_right 11 = .ok (.athrow, 1) := by decide +kernel
theorem d_X_right_12 : decode b_X_right 12 = .ok (.return_, 1) := by decide +kernel
theorem d_X_sends_0 : decode b_X_sends 0 = .ok (.iload_n 1, 1) := by decide +kernel
theorem d_X_sends_1 : decode b_X_sends 1 = .ok (.ifCond .lt 49, 3) := by decide +kernel
theorem d_X_sends_4 : decode b_X_sends 4 = .ok (.iload_n 1, 1) := by decide +kernel
theorem d_X_sends_5 : decode b_X_sends 5 = .ok (.aload_n 0, 1) := by decide +kernel
theorem d_X_sends_6 : decode b_X_sends 6 = .ok (.getfield 129, 3) := by decide +kernel
theorem d_X_sends_9 : decode b_X_sends 9 = .ok (.if_icmp .ge 41, 3) := by decide +kernel
theorem d_X_sends_12 : decode b_X_sends 12 = .ok (.iload_n 2, 1) := by decide +kernel
theorem d_X_sends_13 : decode b_X_sends 13 = .ok (.ifCond .lt 37, 3) := by decide +kernel
theorem d_X_sends_16 : decode b_X_sends 16 = .ok (.iload_n 2, 1) := by decide +kernel
theorem d_X_sends_17 : decode b_X_sends 17 = .ok (.aload_n 0, 1) := by decide +kernel
theorem d_X_sends_18 : decode b_X_sends 18 = .ok (.getfield 119, 3) := by decide +kernel
theorem d_X_sends_21 : decode b_X_sends 21 = .ok (.if_icmp .ge 29, 3) := by decide +kernel
theorem d_X_sends_24 : decode b_X_sends 24 = .ok (.iload_n 3, 1) := by decide +kernel
theorem d_X_sends_25 : decode b_X_sends 25 = .ok (.iconst 1, 1) := by decide +kernel
theorem d_X_sends_26 : decode b_X_sends 26 = .ok (.if_icmp .eq 20, 3) := by decide +kernel
theorem d_X_sends_29 : decode b_X_sends 29 = .ok (.iload_n 3, 1) := by decide +kernel
theorem d_X_sends_30 : decode b_X_sends 30 = .ok (.ifCond .ne 20, 3) := by decide +kernel
theorem d_X_sends_33 : decode b_X_sends 33 = .ok (.aload_n 0, 1) := by decide +kernel
theorem d_X_sends_34 : decode b_X_sends 34 = .ok (.getfield 15, 3) := by decide +kernel
theorem d_X_sends_37 : decode b_X_sends 37 = .ok (.iload_n 1, 1) := by decide +kernel
theorem d_X_sends_38 : decode b_X_sends 38 = .ok (.aaload, 1) := by decide +kernel
theorem d_X_sends_39 : decode b_X_sends 39 = .ok (.getfield 135, 3) := by decide +kernel
theorem d_X_sends_42 : decode b_X_sends 42 = .ok (.iconst (-1), 1) := by decide +kernel
theorem d_X_sends_43 : decode b_X_sends 43 = .ok (.if_icmp .eq 7, 3) := by decide +kernel
theorem d_X_sends_46 : decode b_X_sends 46 = .ok (.iconst 1, 1) := by decide +kernel
theorem d_X_sends_47 : decode b_X_sends 47 = .ok (.goto 4, 3) := by decide +kernel
theorem d_X_sends_50 : decode b_X_sends 50 = .ok (.iconst 0, 1) := by decide +kernel
theorem d_X_sends_51 : decode b_X_sends 51 = .ok (.invokestatic 126, 3) := by decide +kernel
theorem d_X_sends_54 : decode b_X_sends 54 = .ok (.aload_n 0, 1) := by decide +kernel
theorem d_X_sends_55 : decode b_X_sends 55 = .ok (.getfield 15, 3) := by decide +kernel
theorem d_X_sends_58 : decode b_X_sends 58 = .ok (.iload_n 1, 1) := by decide +kernel
theorem d_X_sends_59 : decode b_X_sends 59 = .ok (.aaload, 1) := by decide +kernel
theorem d_X_sends_60 : decode b_X_sends 60 = .ok (.astore 4, 2) := by decide +kernel
theorem d_X_sends_62 : decode b_X_sends 62 = .ok (.aload 4, 2) := by decide +kernel
theorem d_X_sends_64 : decode b_X_sends 64 = .ok (.getfield 138, 3) := by decide +kernel
theorem d_X_sends_67 : decode b_X_sends 67 = .ok (.iconst 4, 1) := by decide +kernel
theorem d_X_sends_68 : decode b_X_sends 68 = .ok (.if_icmp .ge 7, 3) := by decide +kernel
theorem d_X_sends_71 : decode b_X_sends 71 = .ok (.iconst 1, 1) := by decide +kernel
theorem d_X_sends_72 : decode b_X_sends 72 = .ok (.goto 4, 3) := by decide +kernel
theorem d_X_sends_75 : decode b_X_sends 75 = .ok (.iconst 0, 1) := by decide +kernel
theorem d_X_sends_76 : decode b_X_sends 76 = .ok (.invokestatic 115, 3) := by decide +kernel
theorem d_X_sends_79 : decode b_X_sends 79 = .ok (.aload 4, 2) := by decide +kernel
theorem d_X_sends_81 : decode b_X_sends 81 = .ok (.getfield 139, 3) := by decide +kernel
theorem d_X_sends_84 : decode b_X_sends 84 = .ok (.aload 4, 2) := by decide +kernel
theorem d_X_sends_86 : decode b_X_sends 86 = .ok (.getfield 138, 3) := by decide +kernel
theorem d_X_sends_89 : decode b_X_sends 89 = .ok (.iload_n 2, 1) := by decide +kernel
theorem d_X_sends_90 : decode b_X_sends 90 = .ok (.iastore, 1) := by decide +kernel
theorem d_X_sends_91 : decode b_X_sends 91 = .ok (.aload 4, 2) := by decide +kernel
theorem d_X_sends_93 : decode b_X_sends 93 = .ok (.getfield 141, 3) := by decide +kernel
theorem d_X_sends_96 : decode b_X_sends 96 = .ok (.aload 4, 2) := by decide +kernel
theorem d_X_sends_98 : decode b_X_sends 98 = .ok (.getfield 138, 3) := by decide +kernel
theorem d_X_sends_101 : decode b_X_sends 101 = .ok (.iload_n 3, 1) := by decide +kernel
theorem d_X_sends_102 : decode b_X_sends 102 = .ok (.iastore, 1) := by decide +kernel
theorem d_X_sends_103 : decode b_X_sends 103 = .ok (.aload 4, 2) := by decide +kernel
theorem d_X_sends_105 : decode b_X_sends 105 = .ok (.dup, 1) := by decide +kernel
theorem d_X_sends_106 : decode b_X_sends 106 = .ok (.getfield 138, 3) := by decide +kernel
theorem d_X_sends_109 : decode b_X_sends 109 = .ok (.iconst 1, 1) := by decide +kernel
theorem d_X_sends_110 : decode b_X_sends 110 = .ok (.iadd, 1) := by decide +kernel
theorem d_X_sends_111 : decode b_X_sends 111 = .ok (.putfield 138, 3) := by decide +kernel
theorem d_X_sends_114 : decode b_X_sends 114 = .ok (.aload_n 0, 1) := by decide +kernel
theorem d_X_sends_115 : decode b_X_sends 115 = .ok (.invokevirtual 84, 3) := by decide +kernel
theorem d_X_sends_118 : decode b_X_sends 118 = .ok (.aload 4, 2) := by decide +kernel
theorem d_X_sends_120 : decode b_X_sends 120 = .ok (.getfield 138, 3) := by decide +kernel
theorem d_X_sends_123 : decode b_X_sends 123 = .ok (.ireturn, 1) := by decide +kernel
theorem d_X_bad_0 : decode b_X_bad 0 = .ok (.aload_n 0, 1) := by decide +kernel
theorem d_X_bad_1 : decode b_X_bad 1 = .ok (.iload_n 1, 1) := by decide +kernel
theorem d_X_bad_2 : decode b_X_bad 2 = .ok (.invokevirtual 122, 3) := by decide +kernel
theorem d_X_bad_5 : decode b_X_bad 5 = .ok (.ifCond .eq 15, 3) := by decide +kernel
theorem d_X_bad_8 : decode b_X_bad 8 = .ok (.aload_n 0, 1) := by decide +kernel
theorem d_X_bad_9 : decode b_X_bad 9 = .ok (.iload_n 2, 1) := by decide +kernel
theorem d_X_bad_10 : decode b_X_bad 10 = .ok (.invokevirtual 122, 3) := by decide +kernel
theorem d_X_bad_13 : decode b_X_bad 13 = .ok (.ifCond .eq 7, 3) := by decide +kernel
theorem d_X_bad_16 : decode b_X_bad 16 = .ok (.iconst 1, 1) := by decide +kernel
theorem d_X_bad_17 : decode b_X_bad 17 = .ok (.goto 4, 3) := by decide +kernel
theorem d_X_bad_20 : decode b_X_bad 20 = .ok (.iconst 0, 1) := by decide +kernel
theorem d_X_bad_21 : decode b_X_bad 21 = .ok (.invokestatic 126, 3) := by decide +kernel
theorem d_X_bad_24 : decode b_X_bad 24 = .ok (.aload_n 0, 1) := by decide +kernel
theorem d_X_bad_25 : decode b_X_bad 25 = .ok (.getfield 19, 3) := by decide +kernel
theorem d_X_bad_28 : decode b_X_bad 28 = .ok (.bipush 8, 2) := by decide +kernel
theorem d_X_bad_30 : decode b_X_bad 30 = .ok (.iload_n 1, 1) := by decide +kernel
theorem d_X_bad_31 : decode b_X_bad 31 = .ok (.imul, 1) := by decide +kernel
theorem d_X_bad_32 : decode b_X_bad 32 = .ok (.iload_n 2, 1) := by decide +kernel
theorem d_X_bad_33 : decode b_X_bad 33 = .ok (.iadd, 1) := by decide +kernel
theorem d_X_bad_34 : decode b_X_bad 34 = .ok (.baload, 1) := by decide +kernel
theorem d_X_bad_35 : decode b_X_bad 35 = .ok (.istore_n 3, 1) := by decide +kernel
theorem d_X_bad_36 : decode b_X_bad 36 = .ok (.aload_n 0, 1) := by decide +kernel
theorem d_X_bad_37 : decode b_X_bad 37 = .ok (.getfield 19, 3) := by decide +kernel
theorem d_X_bad_40 : decode b_X_bad 40 = .ok (.bipush 8, 2) := by decide +kernel
theorem d_X_bad_42 : decode b_X_bad 42 = .ok (.iload_n 1, 1) := by decide +kernel
theorem d_X_bad_43 : decode b_X_bad 43 = .ok (.imul, 1) := by decide +kernel
theorem d_X_bad_44 : decode b_X_bad 44 = .ok (.iload_n 2, 1) := by decide +kernel
theorem d_X_bad_45 : decode b_X_bad 45 = .ok (.iadd, 1) := by decide +kernel
theorem d_X_bad_46 : decode b_X_bad 46 = .ok (.iconst 1, 1) := by decide +kernel
theorem d_X_bad_47 : decode b_X_bad 47 = .ok (.bastore, 1) := by decide +kernel
theorem d_X_bad_48 : decode b_X_bad 48 = .ok (.aload_n 0, 1) := by decide +kernel
theorem d_X_bad_49 : decode b_X_bad 49 = .ok (.getfield 19, 3) := by decide +kernel
theorem d_X_bad_52 : decode b_X_bad 52 = .ok (.bipush 8, 2) := by decide +kernel
theorem d_X_bad_54 : decode b_X_bad 54 = .ok (.iload_n 2, 1) := by decide +kernel
theorem d_X_bad_55 : decode b_X_bad 55 = .ok (.imul, 1) := by decide +kernel
theorem d_X_bad_56 : decode b_X_bad 56 = .ok (.iload_n 1, 1) := by decide +kernel
theorem d_X_bad_57 : decode b_X_bad 57 = .ok (.iadd, 1) := by decide +kernel
theorem d_X_bad_58 : decode b_X_bad 58 = .ok (.iconst 1, 1) := by decide +kernel
theorem d_X_bad_59 : decode b_X_bad 59 = .ok (.bastore, 1) := by decide +kernel
theorem d_X_bad_60 : decode b_X_bad 60 = .ok (.iload_n 3, 1) := by decide +kernel
theorem d_X_bad_61 : decode b_X_bad 61 = .ok (.ifCond .ne 7, 3) := by decide +kernel
theorem d_X_bad_64 : decode b_X_bad 64 = .ok (.aload_n 0, 1) := by decide +kernel
theorem d_X_bad_65 : decode b_X_bad 65 = .ok (.invokevirtual 84, 3) := by decide +kernel
theorem d_X_bad_68 : decode b_X_bad 68 = .ok (.iload_n 3, 1) := by decide +kernel
theorem d_X_bad_69 : decode b_X_bad 69 = .ok (.ifCond .ne 7, 3) := by decide +kernel
theorem d_X_bad_72 : decode b_X_bad 72 = .ok (.iconst 1, 1) := by decide +kernel
theorem d_X_bad_73 : decode b_X_bad 73 = .ok (.goto 4, 3) := by decide +kernel
theorem d_X_bad_76 : decode b_X_bad 76 = .ok (.iconst 0, 1) := by decide +kernel
theorem d_X_bad_77 : decode b_X_bad 77 = .ok (.ireturn, 1) := by decide +kernel
theorem d_X_go_0 : decode b_X_go 0 = .ok (.iload_n 1, 1) := by decide +kernel
theorem d_X_go_1 : decode b_X_go 1 = .ok (.iconst 1, 1) := by decide +kernel
theorem d_X_go_2 : decode b_X_go 2 = .ok (.if_icmp .lt 14, 3) := by decide +kernel
theorem d_X_go_5 : decode b_X_go 5 = .ok (.iload_n 1, 1) := by decide +kernel
theorem d_X_go_6 : decode b_X_go 6 = .ok (.sipush 1000, 3) := by decide +kernel
theorem d_X_go_9 : decode b_X_go 9 = .ok (.if_icmp .gt 7, 3) := by decide +kernel
theorem d_X_go_12 : decode b_X_go 12 = .ok (.iconst 1, 1) := by decide +kernel
theorem d_X_go_13 : decode b_X_go 13 = .ok (.goto 4, 3) := by decide +kernel
theorem d_X_go_16 : decode b_X_go 16 = .ok (.iconst 0, 1) := by decide +kernel
theorem d_X_go_17 : decode b_X_go 17 = .ok (.invokestatic 126, 3) := by decide +kernel
theorem d_X_go_20 : decode b_X_go 20 = .ok (.aload_n 0, 1) := by decide +kernel
theorem d_X_go_21 : decode b_X_go 21 = .ok (.invokevirtual 237, 3) := by decide +kernel
theorem d_X_go_24 : decode b_X_go 24 = .ok (.iconst 0, 1) := by decide +kernel
theorem d_X_go_25 : decode b_X_go 25 = .ok (.istore_n 2, 1) := by decide +kernel
theorem d_X_go_26 : decode b_X_go 26 = .ok (.iload_n 2, 1) := by decide +kernel
theorem d_X_go_27 : decode b_X_go 27 = .ok (.iload_n 1, 1) := by decide +kernel
theorem d_X_go_28 : decode b_X_go 28 = .ok (.if_icmp .ge 56, 3) := by decide +kernel
theorem d_X_go_31 : decode b_X_go 31 = .ok (.aload_n 0, 1) := by decide +kernel
theorem d_X_go_32 : decode b_X_go 32 = .ok (.invokevirtual 207, 3) := by decide +kernel
theorem d_X_go_35 : decode b_X_go 35 = .ok (.ifCond .ne 49, 3) := by decide +kernel
theorem d_X_go_38 : decode b_X_go 38 = .ok (.aload_n 0, 1) := by decide +kernel
theorem d_X_go_39 : decode b_X_go 39 = .ok (.getfield 102, 3) := by decide +kernel
theorem d_X_go_42 : decode b_X_go 42 = .ok (.aload_n 0, 1) := by decide +kernel
theorem d_X_go_43 : decode b_X_go 43 = .ok (.getfield 99, 3) := by decide +kernel
theorem d_X_go_46 : decode b_X_go 46 = .ok (.if_icmp .ge 38, 3) := by decide +kernel
theorem d_X_go_49 : decode b_X_go 49 = .ok (.aload_n 0, 1) := by decide +kernel
theorem d_X_go_50 : decode b_X_go 50 = .ok (.aload_n 0, 1) := by decide +kernel
theorem d_X_go_51 : decode b_X_go 51 = .ok (.getfield 102, 3) := by decide +kernel
theorem d_X_go_54 : decode b_X_go 54 = .ok (.invokevirtual 240, 3) := by decide +kernel
theorem d_X_go_57 : decode b_X_go 57 = .ok (.aload_n 0, 1) := by decide +kernel
theorem d_X_go_58 : decode b_X_go 58 = .ok (.dup, 1) := by decide +kernel
theorem d_X_go_59 : decode b_X_go 59 = .ok (.getfield 102, 3) := by decide +kernel
theorem d_X_go_62 : decode b_X_go 62 = .ok (.aload_n 0, 1) := by decide +kernel
theorem d_X_go_63 : decode b_X_go 63 = .ok (.invokevirtual 207, 3) := by decide +kernel
theorem d_X_go_66 : decode b_X_go 66 = .ok (.ifCond .eq 7, 3) := by decide +kernel
theorem d_X_go_69 : decode b_X_go 69 = .ok (.iconst 0, 1) := by decide +kernel
theorem d_X_go_70 : decode b_X_go 70 = .ok (.goto 4, 3) := by decide +kernel
theorem d_X_go_73 : decode b_X_go 73 = .ok (.iconst 1, 1) := by decide +kernel
theorem d_X_go_74 : decode b_X_go 74 = .ok (.iadd, 1) := by decide +kernel
theorem d_X_go_75 : decode b_X_go 75 = .ok (.putfield 102, 3) := by decide +kernel
theorem d_X_go_78 : decode b_X_go 78 = .ok (.iinc 2 1, 3) := by decide +kernel
theorem d_X_go_81 : decode b_X_go 81 = .ok (.goto (-55), 3) := by decide +kernel
theorem d_X_go_84 : decode b_X_go 84 = .ok (.aload_n 0, 1) := by decide +kernel
theorem d_X_go_85 : decode b_X_go 85 = .ok (.getfield 99, 3) := by decide +kernel
theorem d_X_go_88 : decode b_X_go 88 = .ok (.ireturn, 1) := by decide +kernel
theorem d_X_node_0 : decode b_X_node 0 = .ok (.aload_n 0, 1) := by decide +kernel
theorem d_X_node_1 : decode b_X_node 1 = .ok (.iload_n 1, 1) := by decide +kernel
theorem d_X_node_2 : decode b_X_node 2 = .ok (.invokevirtual 246, 3) := by decide +kernel
theorem d_X_node_5 : decode b_X_node 5 = .ok (.iload_n 2, 1) := by decide +kernel
theorem d_X_node_6 : decode b_X_node 6 = .ok (.ifCond .lt 15, 3) := by decide +kernel
theorem d_X_node_9 : decode b_X_node 9 = .ok (.iload_n 2, 1) := by decide +kernel
theorem d_X_node_10 : decode b_X_node 10 = .ok (.aload_n 0, 1) := by decide +kernel
theorem d_X_node_11 : decode b_X_node 11 = .ok (.getfield 74, 3) := by decide +kernel
theorem d_X_node_14 : decode b_X_node 14 = .ok (.if_icmp .ge 7, 3) := by decide +kernel
theorem d_X_node_17 : decode b_X_node 17 = .ok (.iconst 1, 1) := by decide +kernel
theorem d_X_node_18 : decode b_X_node 18 = .ok (.goto 4, 3) := by decide +kernel
theorem d_X_node_21 : decode b_X_node 21 = .ok (.iconst 0, 1) := by decide +kernel
theorem d_X_node_22 : decode b_X_node 22 = .ok (.invokestatic 243, 3) := by decide +kernel
theorem d_X_node_25 : decode b_X_node 25 = .ok (.aload_n 0, 1) := by decide +kernel
theorem d_X_node_26 : decode b_X_node 26 = .ok (.getfield 55, 3) := by decide +kernel
theorem d_X_node_29 : decode b_X_node 29 = .ok (.getfield 180, 3) := by decide +kernel
theorem d_X_node_32 : decode b_X_node 32 = .ok (.iload_n 2, 1) := by decide +kernel
theorem d_X_node_33 : decode b_X_node 33 = .ok (.iaload, 1) := by decide +kernel
theorem d_X_node_34 : decode b_X_node 34 = .ok (.ireturn, 1) := by decide +kernel
theorem d_X_isWhole_0 : decode b_X_isWhole 0 = .ok (.iload_n 1, 1) := by decide +kernel
theorem d_X_isWhole_1 : decode b_X_isWhole 1 = .ok (.ifCond .lt 15, 3) := by decide +kernel
theorem d_X_isWhole_4 : decode b_X_isWhole 4 = .ok (.iload_n 1, 1) := by decide +kernel
theorem d_X_isWhole_5 : decode b_X_isWhole 5 = .ok (.aload_n 0, 1) := by decide +kernel
theorem d_X_isWhole_6 : decode b_X_isWhole 6 = .ok (.getfield 99, 3) := by decide +kernel
theorem d_X_isWhole_9 : decode b_X_isWhole 9 = .ok (.if_icmp .ge 7, 3) := by decide +kernel
theorem d_X_isWhole_12 : decode b_X_isWhole 12 = .ok (.iconst 1, 1) := by decide +kernel
theorem d_X_isWhole_13 : decode b_X_isWhole 13 = .ok (.goto 4, 3) := by decide +kernel
theorem d_X_isWhole_16 : decode b_X_isWhole 16 = .ok (.iconst 0, 1) := by decide +kernel
theorem d_X_isWhole_17 : decode b_X_isWhole 17 = .ok (.invokestatic 243, 3) := by decide +kernel
theorem d_X_isWhole_20 : decode b_X_isWhole 20 = .ok (.aload_n 0, 1) := by decide +kernel
theorem d_X_isWhole_21 : decode b_X_isWhole 21 = .ok (.getfield 55, 3) := by decide +kernel
theorem d_X_isWhole_24 : decode b_X_isWhole 24 = .ok (.aload_n 0, 1) := by decide +kernel
theorem d_X_isWhole_25 : decode b_X_isWhole 25 = .ok (.getfield 27, 3) := by decide +kernel
theorem d_X_isWhole_28 : decode b_X_isWhole 28 = .ok (.iload_n 1, 1) := by decide +kernel
theorem d_X_isWhole_29 : decode b_X_isWhole 29 = .ok (.laload, 1) := by decide +kernel
theorem d_X_isWhole_30 : decode b_X_isWhole 30 = .ok (.invokevirtual 227, 3) := by decide +kernel
theorem d_X_isWhole_33 : decode b_X_isWhole 33 = .ok (.return_, 1) := by decide +kernel
theorem d_X_there_0 : decode b_X_there 0 = .ok (.iload_n 0, 1) := by decide +kernel
theorem d_X_there_1 : decode b_X_there 1 = .ok (.ifCond .ne 11, 3) := by decide +kernel
theorem d_X_there_4 : decode b_X_there 4 = .ok (.new 93, 3) := by decide +kernel
theorem d_X_there_7 : decode b_X_there 7 = .ok (.dup, 1) := by decide +kernel
theorem d_X_there_8 : decode b_X_there 8 = .ok (.invokespecial 95, 3) := by decide +kernel
theorem d_X_there_11 : decode b_X_there 11 = .ok (.athrow, 1) := by decide +kernel
theorem d_X_there_12 : decode b_X_there 12 = .ok (.return_, 1) := by decide +kernel
theorem d_X_code_0 : decode b_X_code 0 = .ok (.aload_n 0, 1) := by decide +kernel
theorem d_X_code_1 : decode b_X_code 1 = .ok (.iload_n 1, 1) := by decide +kernel
theorem d_X_code_2 : decode b_X_code 2 = .ok (.invokevirtual 246, 3) := by decide +kernel
theorem d_X_code_5 : decode b_X_code 5 = .ok (.iload_n 2, 1) := by decide +kernel
theorem d_X_code_6 : decode b_X_code 6 = .ok (.ifCond .lt 18, 3) := by decide +kernel
theorem d_X_code_9 : decode b_X_code 9 = .ok (.iload_n 2, 1) := by decide +kernel
theorem d_X_code_10 : decode b_X_code 10 = .ok (.aload_n 0, 1) := by decide +kernel
theorem d_X_code_11 : decode b_X_code 11 = .ok (.getfield 55, 3) := by decide +kernel
theorem d_X_code_14 : decode b_X_code 14 = .ok (.getfield 219, 3) := by decide +kernel
theorem d_X_code_17 : decode b_X_code 17 = .ok (.if_icmp .ge 7, 3) := by decide +kernel
theorem d_X_code_20 : decode b_X_code 20 = .ok (.iconst 1, 1) := by decide +kernel
theorem d_X_code_21 : decode b_X_code 21 = .ok (.goto 4, 3) := by decide +kernel
theorem d_X_code_24 : decode b_X_code 24 = .ok (.iconst 0, 1) := by decide +kernel
theorem d_X_code_25 : decode b_X_code 25 = .ok (.invokestatic 243, 3) := by decide +kernel
theorem d_X_code_28 : decode b_X_code 28 = .ok (.aload_n 0, 1) := by decide +kernel
theorem d_X_code_29 : decode b_X_code 29 = .ok (.getfield 55, 3) := by decide +kernel
theorem d_X_code_32 : decode b_X_code 32 = .ok (.getfield 220, 3) := by decide +kernel
theorem d_X_code_35 : decode b_X_code 35 = .ok (.iload_n 2, 1) := by decide +kernel
theorem d_X_code_36 : decode b_X_code 36 = .ok (.iaload, 1) := by decide +kernel
theorem d_X_code_37 : decode b_X_code 37 = .ok (.ireturn, 1) := by decide +kernel
theorem d_X_whole_0 : decode b_X_whole 0 = .ok (.aload_n 0, 1) := by decide +kernel
theorem d_X_whole_1 : decode b_X_whole 1 = .ok (.iload_n 1, 1) := by decide +kernel
theorem d_X_whole_2 : decode b_X_whole 2 = .ok (.invokevirtual 246, 3) := by decide +kernel
theorem d_X_whole_5 : decode b_X_whole 5 = .ok (.iload_n 2, 1) := by decide +kernel
theorem d_X_whole_6 : decode b_X_whole 6 = .ok (.ifCond .lt 13, 3) := by decide +kernel
theorem d_X_whole_9 : decode b_X_whole 9 = .ok (.iload_n 2, 1) := by decide +kernel
theorem d_X_whole_10 : decode b_X_whole 10 = .ok (.bipush 6, 2) := by decide +kernel
theorem d_X_whole_12 : decode b_X_whole 12 = .ok (.if_icmp .ge 7, 3) := by decide +kernel
theorem d_X_whole_15 : decode b_X_whole 15 = .ok (.iconst 1, 1) := by decide +kernel
theorem d_X_whole_16 : decode b_X_whole 16 = .ok (.goto 4, 3) := by decide +kernel
theorem d_X_whole_19 : decode b_X_whole 19 = .ok (.iconst 0, 1) := by decide +kernel
theorem d_X_whole_20 : decode b_X_whole 20 = .ok (.invokestatic 243, 3) := by decide +kernel
theorem d_X_whole_23 : decode b_X_whole 23 = .ok (.iload_n 2, 1) := by decide +kernel
theorem d_X_whole_24 : decode b_X_whole 24 = .ok (.tableswitch 84 0 4 #[36, 44, 51, 58, 65], 36) := by decide +kernel
theorem d_X_whole_60 : decode b_X_whole 60 = .ok (.aload_n 0, 1) := by decide +kernel
theorem d_X_whole_61 : decode b_X_whole 61 = .ok (.getfield 55, 3) := by decide +kernel
theorem d_X_whole_64 : decode b_X_whole 64 = .ok (.getfield 219, 3) := by decide +kernel
theorem d_X_whole_67 : decode b_X_whole 67 = .ok (.ireturn, 1) := by decide +kernel
theorem d_X_whole_68 : decode b_X_whole 68 = .ok (.aload_n 0, 1) := by decide +kernel
theorem d_X_whole_69 : decode b_X_whole 69 = .ok (.getfield 37, 3) := by decide +kernel
theorem d_X_whole_72 : decode b_X_whole 72 = .ok (.iload_n 1, 1) := by decide +kernel
theorem d_X_whole_73 : decode b_X_whole 73 = .ok (.iaload, 1) := by decide +kernel
theorem d_X_whole_74 : decode b_X_whole 74 = .ok (.ireturn, 1) := by decide +kernel
theorem d_X_whole_75 : decode b_X_whole 75 = .ok (.aload_n 0, 1) := by decide +kernel
theorem d_X_whole_76 : decode b_X_whole 76 = .ok (.getfield 31, 3) := by decide +kernel
theorem d_X_whole_79 : decode b_X_whole 79 = .ok (.iload_n 1, 1) := by decide +kernel
theorem d_X_whole_80 : decode b_X_whole 80 = .ok (.iaload, 1) := by decide +kernel
theorem d_X_whole_81 : decode b_X_whole 81 = .ok (.ireturn, 1) := by decide +kernel
theorem d_X_whole_82 : decode b_X_whole 82 = .ok (.aload_n 0, 1) := by decide +kernel
theorem d_X_whole_83 : decode b_X_whole 83 = .ok (.getfield 34, 3) := by decide +kernel
theorem d_X_whole_86 : decode b_X_whole 86 = .ok (.iload_n 1, 1) := by decide +kernel
theorem d_X_whole_87 : decode b_X_whole 87 = .ok (.iaload, 1) := by decide +kernel
theorem d_X_whole_88 : decode b_X_whole 88 = .ok (.ireturn, 1) := by decide +kernel
theorem d_X_whole_89 : decode b_X_whole 89 = .ok (.iload_n 1, 1) := by decide +kernel
theorem d_X_whole_90 : decode b_X_whole 90 = .ok (.aload_n 0, 1) := by decide +kernel
theorem d_X_whole_91 : decode b_X_whole 91 = .ok (.getfield 102, 3) := by decide +kernel
theorem d_X_whole_94 : decode b_X_whole 94 = .ok (.if_icmp .ge 12, 3) := by decide +kernel
theorem d_X_whole_97 : decode b_X_whole 97 = .ok (.aload_n 0, 1) := by decide +kernel
theorem d_X_whole_98 : decode b_X_whole 98 = .ok (.getfield 40, 3) := by decide +kernel
theorem d_X_whole_101 : decode b_X_whole 101 = .ok (.iload_n 1, 1) := by decide +kernel
theorem d_X_whole_102 : decode b_X_whole 102 = .ok (.iaload, 1) := by decide +kernel
theorem d_X_whole_103 : decode b_X_whole 103 = .ok (.goto 4, 3) := by decide +kernel
theorem d_X_whole_106 : decode b_X_whole 106 = .ok (.iconst (-1), 1) := by decide +kernel
theorem d_X_whole_107 : decode b_X_whole 107 = .ok (.ireturn, 1) := by decide +kernel
theorem d_X_whole_108 : decode b_X_whole 108 = .ok (.aload_n 0, 1) := by decide +kernel
theorem d_X_whole_109 : decode b_X_whole 109 = .ok (.getfield 43, 3) := by decide +kernel
theorem d_X_whole_112 : decode b_X_whole 112 = .ok (.iload_n 1, 1) := by decide +kernel
theorem d_X_whole_113 : decode b_X_whole 113 = .ok (.iaload, 1) := by decide +kernel
theorem d_X_whole_114 : decode b_X_whole 114 = .ok (.ireturn, 1) := by decide +kernel
theorem d_X_wayAt_0 : decode b_X_wayAt 0 = .ok (.aload_n 0, 1) := by decide +kernel
theorem d_X_wayAt_1 : decode b_X_wayAt 1 = .ok (.getfield 49, 3) := by decide +kernel
theorem d_X_wayAt_4 : decode b_X_wayAt 4 = .ok (.iconst (-1), 1) := by decide +kernel
theorem d_X_wayAt_5 : decode b_X_wayAt 5 = .ok (.if_icmp .eq 24, 3) := by decide +kernel
theorem d_X_wayAt_8 : decode b_X_wayAt 8 = .ok (.iload_n 1, 1) := by decide +kernel
theorem d_X_wayAt_9 : decode b_X_wayAt 9 = .ok (.ifCond .lt 20, 3) := by decide +kernel
theorem d_X_wayAt_12 : decode b_X_wayAt 12 = .ok (.iload_n 1, 1) := by decide +kernel
theorem d_X_wayAt_13 : decode b_X_wayAt 13 = .ok (.aload_n 0, 1) := by decide +kernel
theorem d_X_wayAt_14 : decode b_X_wayAt 14 = .ok (.getfield 37, 3) := by decide +kernel
theorem d_X_wayAt_17 : decode b_X_wayAt 17 = .ok (.aload_n 0, 1) := by decide +kernel
theorem d_X_wayAt_18 : decode b_X_wayAt 18 = .ok (.getfield 49, 3) := by decide +kernel
theorem d_X_wayAt_21 : decode b_X_wayAt 21 = .ok (.iaload, 1) := by decide +kernel
theorem d_X_wayAt_22 : decode b_X_wayAt 22 = .ok (.if_icmp .gt 7, 3) := by decide +kernel
theorem d_X_wayAt_25 : decode b_X_wayAt 25 = .ok (.iconst 1, 1) := by decide +kernel
theorem d_X_wayAt_26 : decode b_X_wayAt 26 = .ok (.goto 4, 3) := by decide +kernel
theorem d_X_wayAt_29 : decode b_X_wayAt 29 = .ok (.iconst 0, 1) := by decide +kernel
theorem d_X_wayAt_30 : decode b_X_wayAt 30 = .ok (.invokestatic 243, 3) := by decide +kernel
theorem d_X_wayAt_33 : decode b_X_wayAt 33 = .ok (.aload_n 0, 1) := by decide +kernel
theorem d_X_wayAt_34 : decode b_X_wayAt 34 = .ok (.getfield 49, 3) := by decide +kernel
theorem d_X_wayAt_37 : decode b_X_wayAt 37 = .ok (.istore_n 2, 1) := by decide +kernel
theorem d_X_wayAt_38 : decode b_X_wayAt 38 = .ok (.aload_n 0, 1) := by decide +kernel
theorem d_X_wayAt_39 : decode b_X_wayAt 39 = .ok (.getfield 37, 3) := by decide +kernel
theorem d_X_wayAt_42 : decode b_X_wayAt 42 = .ok (.iload_n 2, 1) := by decide +kernel
theorem d_X_wayAt_43 : decode b_X_wayAt 43 = .ok (.iaload, 1) := by decide +kernel
theorem d_X_wayAt_44 : decode b_X_wayAt 44 = .ok (.iload_n 1, 1) := by decide +kernel
theorem d_X_wayAt_45 : decode b_X_wayAt 45 = .ok (.if_icmp .le 13, 3) := by decide +kernel
theorem d_X_wayAt_48 : decode b_X_wayAt 48 = .ok (.aload_n 0, 1) := by decide +kernel
theorem d_X_wayAt_49 : decode b_X_wayAt 49 = .ok (.getfield 31, 3) := by decide +kernel
theorem d_X_wayAt_52 : decode b_X_wayAt 52 = .ok (.iload_n 2, 1) := by decide +kernel
theorem d_X_wayAt_53 : decode b_X_wayAt 53 = .ok (.iaload, 1) := by decide +kernel
theorem d_X_wayAt_54 : decode b_X_wayAt 54 = .ok (.istore_n 2, 1) := by decide +kernel
theorem d_X_wayAt_55 : decode b_X_wayAt 55 = .ok (.goto (-17), 3) := by decide +kernel
theorem d_X_wayAt_58 : decode b_X_wayAt 58 = .ok (.iload_n 2, 1) := by decide +kernel
theorem d_X_wayAt_59 : decode b_X_wayAt 59 = .ok (.ireturn, 1) := by decide +kernel
