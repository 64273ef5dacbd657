theorem d_W_init_0 : decode b_W_init 0 = .ok (.aload_n 0, 1) := by decide +kernel
theorem d_W_init_1 : decode b_W_init 1 = .ok (.invokespecial 3, 3) := by decide +kernel
theorem d_W_init_4 : decode b_W_init 4 = .ok (.aload_n 0, 1) := by decide +kernel
theorem d_W_init_5 : decode b_W_init 5 = .ok (.iconst 4, 1) := by decide +kernel
theorem d_W_init_6 : decode b_W_init 6 = .ok (.newarray .int, 2) := by decide +kernel
theorem d_W_init_8 : decode b_W_init 8 = .ok (.putfield 9, 3) := by decide +kernel
theorem d_W_init_11 : decode b_W_init 11 = .ok (.aload_n 0, 1) := by decide +kernel
theorem d_W_init_12 : decode b_W_init 12 = .ok (.bipush 8, 2) := by decide +kernel
theorem d_W_init_14 : decode b_W_init 14 = .ok (.newarray .int, 2) := by decide +kernel
theorem d_W_init_16 : decode b_W_init 16 = .ok (.putfield 15, 3) := by decide +kernel
theorem d_W_init_19 : decode b_W_init 19 = .ok (.return_, 1) := by decide +kernel
theorem d_W_turn_0 : decode b_W_turn 0 = .ok (.iconst 0, 1) := by decide +kernel
theorem d_W_turn_1 : decode b_W_turn 1 = .ok (.istore_n 3, 1) := by decide +kernel
theorem d_W_turn_2 : decode b_W_turn 2 = .ok (.iload_n 3, 1) := by decide +kernel
theorem d_W_turn_3 : decode b_W_turn 3 = .ok (.iconst 4, 1) := by decide +kernel
theorem d_W_turn_4 : decode b_W_turn 4 = .ok (.if_icmp .ge 23, 3) := by decide +kernel
theorem d_W_turn_7 : decode b_W_turn 7 = .ok (.aload_n 1, 1) := by decide +kernel
theorem d_W_turn_8 : decode b_W_turn 8 = .ok (.getfield 9, 3) := by decide +kernel
theorem d_W_turn_11 : decode b_W_turn 11 = .ok (.aload_n 2, 1) := by decide +kernel
theorem d_W_turn_12 : decode b_W_turn 12 = .ok (.iload_n 3, 1) := by decide +kernel
theorem d_W_turn_13 : decode b_W_turn 13 = .ok (.iaload, 1) := by decide +kernel
theorem d_W_turn_14 : decode b_W_turn 14 = .ok (.aload_n 0, 1) := by decide +kernel
theorem d_W_turn_15 : decode b_W_turn 15 = .ok (.getfield 9, 3) := by decide +kernel
theorem d_W_turn_18 : decode b_W_turn 18 = .ok (.iload_n 3, 1) := by decide +kernel
theorem d_W_turn_19 : decode b_W_turn 19 = .ok (.iaload, 1) := by decide +kernel
theorem d_W_turn_20 : decode b_W_turn 20 = .ok (.iastore, 1) := by decide +kernel
theorem d_W_turn_21 : decode b_W_turn 21 = .ok (.iinc 3 1, 3) := by decide +kernel
theorem d_W_turn_24 : decode b_W_turn 24 = .ok (.goto (-22), 3) := by decide +kernel
theorem d_W_turn_27 : decode b_W_turn 27 = .ok (.aload_n 1, 1) := by decide +kernel
theorem d_W_turn_28 : decode b_W_turn 28 = .ok (.iconst 0, 1) := by decide +kernel
theorem d_W_turn_29 : decode b_W_turn 29 = .ok (.putfield 24, 3) := by decide +kernel
theorem d_W_turn_32 : decode b_W_turn 32 = .ok (.iconst 0, 1) := by decide +kernel
theorem d_W_turn_33 : decode b_W_turn 33 = .ok (.istore_n 3, 1) := by decide +kernel
theorem d_W_turn_34 : decode b_W_turn 34 = .ok (.iload_n 3, 1) := by decide +kernel
theorem d_W_turn_35 : decode b_W_turn 35 = .ok (.aload_n 0, 1) := by decide +kernel
theorem d_W_turn_36 : decode b_W_turn 36 = .ok (.getfield 24, 3) := by decide +kernel
theorem d_W_turn_39 : decode b_W_turn 39 = .ok (.if_icmp .ge 45, 3) := by decide +kernel
theorem d_W_turn_42 : decode b_W_turn 42 = .ok (.aload_n 0, 1) := by decide +kernel
theorem d_W_turn_43 : decode b_W_turn 43 = .ok (.getfield 15, 3) := by decide +kernel
theorem d_W_turn_46 : decode b_W_turn 46 = .ok (.iload_n 3, 1) := by decide +kernel
theorem d_W_turn_47 : decode b_W_turn 47 = .ok (.iaload, 1) := by decide +kernel
theorem d_W_turn_48 : decode b_W_turn 48 = .ok (.istore 4, 2) := by decide +kernel
theorem d_W_turn_50 : decode b_W_turn 50 = .ok (.aload_n 1, 1) := by decide +kernel
theorem d_W_turn_51 : decode b_W_turn 51 = .ok (.iload 4, 2) := by decide +kernel
theorem d_W_turn_53 : decode b_W_turn 53 = .ok (.bipush (-16), 2) := by decide +kernel
theorem d_W_turn_55 : decode b_W_turn 55 = .ok (.iand, 1) := by decide +kernel
theorem d_W_turn_56 : decode b_W_turn 56 = .ok (.aload_n 2, 1) := by decide +kernel
theorem d_W_turn_57 : decode b_W_turn 57 = .ok (.iload 4, 2) := by decide +kernel
theorem d_W_turn_59 : decode b_W_turn 59 = .ok (.iconst 2, 1) := by decide +kernel
theorem d_W_turn_60 : decode b_W_turn 60 = .ok (.ishr, 1) := by decide +kernel
theorem d_W_turn_61 : decode b_W_turn 61 = .ok (.iconst 3, 1) := by decide +kernel
theorem d_W_turn_62 : decode b_W_turn 62 = .ok (.iand, 1) := by decide +kernel
theorem d_W_turn_63 : decode b_W_turn 63 = .ok (.iaload, 1) := by decide +kernel
theorem d_W_turn_64 : decode b_W_turn 64 = .ok (.iconst 2, 1) := by decide +kernel
theorem d_W_turn_65 : decode b_W_turn 65 = .ok (.ishl, 1) := by decide +kernel
theorem d_W_turn_66 : decode b_W_turn 66 = .ok (.ior, 1) := by decide +kernel
theorem d_W_turn_67 : decode b_W_turn 67 = .ok (.aload_n 2, 1) := by decide +kernel
theorem d_W_turn_68 : decode b_W_turn 68 = .ok (.iload 4, 2) := by decide +kernel
theorem d_W_turn_70 : decode b_W_turn 70 = .ok (.iconst 3, 1) := by decide +kernel
theorem d_W_turn_71 : decode b_W_turn 71 = .ok (.iand, 1) := by decide +kernel
theorem d_W_turn_72 : decode b_W_turn 72 = .ok (.iaload, 1) := by decide +kernel
theorem d_W_turn_73 : decode b_W_turn 73 = .ok (.ior, 1) := by decide +kernel
theorem d_W_turn_74 : decode b_W_turn 74 = .ok (.invokevirtual 28, 3) := by decide +kernel
theorem d_W_turn_77 : decode b_W_turn 77 = .ok (.pop, 1) := by decide +kernel
theorem d_W_turn_78 : decode b_W_turn 78 = .ok (.iinc 3 1, 3) := by decide +kernel
theorem d_W_turn_81 : decode b_W_turn 81 = .ok (.goto (-47), 3) := by decide +kernel
theorem d_W_turn_84 : decode b_W_turn 84 = .ok (.return_, 1) := by decide +kernel
theorem d_W_add_0 : decode b_W_add 0 = .ok (.aload_n 0, 1) := by decide +kernel
theorem d_W_add_1 : decode b_W_add 1 = .ok (.getfield 24, 3) := by decide +kernel
theorem d_W_add_4 : decode b_W_add 4 = .ok (.bipush 7, 2) := by decide +kernel
theorem d_W_add_6 : decode b_W_add 6 = .ok (.if_icmp .ne 5, 3) := by decide +kernel
theorem d_W_add_9 : decode b_W_add 9 = .ok (.iconst 0, 1) := by decide +kernel
theorem d_W_add_10 : decode b_W_add 10 = .ok (.ireturn, 1) := by decide +kernel
theorem d_W_add_11 : decode b_W_add 11 = .ok (.aload_n 0, 1) := by decide +kernel
theorem d_W_add_12 : decode b_W_add 12 = .ok (.getfield 24, 3) := by decide +kernel
theorem d_W_add_15 : decode b_W_add 15 = .ok (.istore_n 2, 1) := by decide +kernel
theorem d_W_add_16 : decode b_W_add 16 = .ok (.iload_n 2, 1) := by decide +kernel
theorem d_W_add_17 : decode b_W_add 17 = .ok (.ifCond .le 35, 3) := by decide +kernel
theorem d_W_add_20 : decode b_W_add 20 = .ok (.aload_n 0, 1) := by decide +kernel
theorem d_W_add_21 : decode b_W_add 21 = .ok (.getfield 15, 3) := by decide +kernel
theorem d_W_add_24 : decode b_W_add 24 = .ok (.iload_n 2, 1) := by decide +kernel
theorem d_W_add_25 : decode b_W_add 25 = .ok (.iconst 1, 1) := by decide +kernel
theorem d_W_add_26 : decode b_W_add 26 = .ok (.isub, 1) := by decide +kernel
theorem d_W_add_27 : decode b_W_add 27 = .ok (.iaload, 1) := by decide +kernel
theorem d_W_add_28 : decode b_W_add 28 = .ok (.iload_n 1, 1) := by decide +kernel
theorem d_W_add_29 : decode b_W_add 29 = .ok (.if_icmp .le 23, 3) := by decide +kernel
theorem d_W_add_32 : decode b_W_add 32 = .ok (.aload_n 0, 1) := by decide +kernel
theorem d_W_add_33 : decode b_W_add 33 = .ok (.getfield 15, 3) := by decide +kernel
theorem d_W_add_36 : decode b_W_add 36 = .ok (.iload_n 2, 1) := by decide +kernel
theorem d_W_add_37 : decode b_W_add 37 = .ok (.aload_n 0, 1) := by decide +kernel
theorem d_W_add_38 : decode b_W_add 38 = .ok (.getfield 15, 3) := by decide +kernel
theorem d_W_add_41 : decode b_W_add 41 = .ok (.iload_n 2, 1) := by decide +kernel
theorem d_W_add_42 : decode b_W_add 42 = .ok (.iconst 1, 1) := by decide +kernel
theorem d_W_add_43 : decode b_W_add 43 = .ok (.isub, 1) := by decide +kernel
theorem d_W_add_44 : decode b_W_add 44 = .ok (.iaload, 1) := by decide +kernel
theorem d_W_add_45 : decode b_W_add 45 = .ok (.iastore, 1) := by decide +kernel
theorem d_W_add_46 : decode b_W_add 46 = .ok (.iinc 2 (-1), 3) := by decide +kernel
theorem d_W_add_49 : decode b_W_add 49 = .ok (.goto (-33), 3) := by decide +kernel
theorem d_W_add_52 : decode b_W_add 52 = .ok (.aload_n 0, 1) := by decide +kernel
theorem d_W_add_53 : decode b_W_add 53 = .ok (.getfield 15, 3) := by decide +kernel
theorem d_W_add_56 : decode b_W_add 56 = .ok (.iload_n 2, 1) := by decide +kernel
theorem d_W_add_57 : decode b_W_add 57 = .ok (.iload_n 1, 1) := by decide +kernel
theorem d_W_add_58 : decode b_W_add 58 = .ok (.iastore, 1) := by decide +kernel
theorem d_W_add_59 : decode b_W_add 59 = .ok (.aload_n 0, 1) := by decide +kernel
theorem d_W_add_60 : decode b_W_add 60 = .ok (.dup, 1) := by decide +kernel
theorem d_W_add_61 : decode b_W_add 61 = .ok (.getfield 24, 3) := by decide +kernel
theorem d_W_add_64 : decode b_W_add 64 = .ok (.iconst 1, 1) := by decide +kernel
theorem d_W_add_65 : decode b_W_add 65 = .ok (.iadd, 1) := by decide +kernel
theorem d_W_add_66 : decode b_W_add 66 = .ok (.putfield 24, 3) := by decide +kernel
theorem d_W_add_69 : decode b_W_add 69 = .ok (.iconst 1, 1) := by decide +kernel
theorem d_W_add_70 : decode b_W_add 70 = .ok (.ireturn, 1) := by decide +kernel
theorem d_W_pack_0 : decode b_W_pack 0 = .ok (.lconst 0, 1) := by decide +kernel
theorem d_W_pack_1 : decode b_W_pack 1 = .ok (.lstore_n 1, 1) := by decide +kernel
theorem d_W_pack_2 : decode b_W_pack 2 = .ok (.iconst 0, 1) := by decide +kernel
theorem d_W_pack_3 : decode b_W_pack 3 = .ok (.istore_n 3, 1) := by decide +kernel
theorem d_W_pack_4 : decode b_W_pack 4 = .ok (.iload_n 3, 1) := by decide +kernel
theorem d_W_pack_5 : decode b_W_pack 5 = .ok (.iconst 4, 1) := by decide +kernel
theorem d_W_pack_6 : decode b_W_pack 6 = .ok (.if_icmp .ge 21, 3) := by decide +kernel
theorem d_W_pack_9 : decode b_W_pack 9 = .ok (.lload_n 1, 1) := by decide +kernel
theorem d_W_pack_10 : decode b_W_pack 10 = .ok (.iconst 3, 1) := by decide +kernel
theorem d_W_pack_11 : decode b_W_pack 11 = .ok (.lshl, 1) := by decide +kernel
theorem d_W_pack_12 : decode b_W_pack 12 = .ok (.aload_n 0, 1) := by decide +kernel
theorem d_W_pack_13 : decode b_W_pack 13 = .ok (.getfield 9, 3) := by decide +kernel
theorem d_W_pack_16 : decode b_W_pack 16 = .ok (.iload_n 3, 1) := by decide +kernel
theorem d_W_pack_17 : decode b_W_pack 17 = .ok (.iaload, 1) := by decide +kernel
theorem d_W_pack_18 : decode b_W_pack 18 = .ok (.i2l, 1) := by decide +kernel
theorem d_W_pack_19 : decode b_W_pack 19 = .ok (.lor, 1) := by decide +kernel
theorem d_W_pack_20 : decode b_W_pack 20 = .ok (.lstore_n 1, 1) := by decide +kernel
theorem d_W_pack_21 : decode b_W_pack 21 = .ok (.iinc 3 1, 3) := by decide +kernel
theorem d_W_pack_24 : decode b_W_pack 24 = .ok (.goto (-20), 3) := by decide +kernel
theorem d_W_pack_27 : decode b_W_pack 27 = .ok (.lload_n 1, 1) := by decide +kernel
theorem d_W_pack_28 : decode b_W_pack 28 = .ok (.iconst 3, 1) := by decide +kernel
theorem d_W_pack_29 : decode b_W_pack 29 = .ok (.lshl, 1) := by decide +kernel
theorem d_W_pack_30 : decode b_W_pack 30 = .ok (.aload_n 0, 1) := by decide +kernel
theorem d_W_pack_31 : decode b_W_pack 31 = .ok (.getfield 24, 3) := by decide +kernel
theorem d_W_pack_34 : decode b_W_pack 34 = .ok (.i2l, 1) := by decide +kernel
theorem d_W_pack_35 : decode b_W_pack 35 = .ok (.lor, 1) := by decide +kernel
theorem d_W_pack_36 : decode b_W_pack 36 = .ok (.lstore_n 1, 1) := by decide +kernel
theorem d_W_pack_37 : decode b_W_pack 37 = .ok (.iconst 0, 1) := by decide +kernel
theorem d_W_pack_38 : decode b_W_pack 38 = .ok (.istore_n 3, 1) := by decide +kernel
theorem d_W_pack_39 : decode b_W_pack 39 = .ok (.iload_n 3, 1) := by decide +kernel
theorem d_W_pack_40 : decode b_W_pack 40 = .ok (.bipush 7, 2) := by decide +kernel
theorem d_W_pack_42 : decode b_W_pack 42 = .ok (.if_icmp .ge 34, 3) := by decide +kernel
theorem d_W_pack_45 : decode b_W_pack 45 = .ok (.lload_n 1, 1) := by decide +kernel
theorem d_W_pack_46 : decode b_W_pack 46 = .ok (.bipush 7, 2) := by decide +kernel
theorem d_W_pack_48 : decode b_W_pack 48 = .ok (.lshl, 1) := by decide +kernel
theorem d_W_pack_49 : decode b_W_pack 49 = .ok (.iload_n 3, 1) := by decide +kernel
theorem d_W_pack_50 : decode b_W_pack 50 = .ok (.aload_n 0, 1) := by decide +kernel
theorem d_W_pack_51 : decode b_W_pack 51 = .ok (.getfield 24, 3) := by decide +kernel
theorem d_W_pack_54 : decode b_W_pack 54 = .ok (.if_icmp .ge 12, 3) := by decide +kernel
theorem d_W_pack_57 : decode b_W_pack 57 = .ok (.aload_n 0, 1) := by decide +kernel
theorem d_W_pack_58 : decode b_W_pack 58 = .ok (.getfield 15, 3) := by decide +kernel
theorem d_W_pack_61 : decode b_W_pack 61 = .ok (.iload_n 3, 1) := by decide +kernel
theorem d_W_pack_62 : decode b_W_pack 62 = .ok (.iaload, 1) := by decide +kernel
theorem d_W_pack_63 : decode b_W_pack 63 = .ok (.goto 4, 3) := by decide +kernel
theorem d_W_pack_66 : decode b_W_pack 66 = .ok (.iconst 0, 1) := by decide +kernel
theorem d_W_pack_67 : decode b_W_pack 67 = .ok (.i2l, 1) := by decide +kernel
theorem d_W_pack_68 : decode b_W_pack 68 = .ok (.lor, 1) := by decide +kernel
theorem d_W_pack_69 : decode b_W_pack 69 = .ok (.lstore_n 1, 1) := by decide +kernel
theorem d_W_pack_70 : decode b_W_pack 70 = .ok (.iinc 3 1, 3) := by decide +kernel
theorem d_W_pack_73 : decode b_W_pack 73 = .ok (.goto (-34), 3) := by decide +kernel
theorem d_W_pack_76 : decode b_W_pack 76 = .ok (.lload_n 1, 1) := by decide +kernel
theorem d_W_pack_77 : decode b_W_pack 77 = .ok (.lreturn, 1) := by decide +kernel
theorem d_W_unpack_0 : decode b_W_unpack 0 = .ok (.iconst 0, 1) := by decide +kernel
theorem d_W_unpack_1 : decode b_W_unpack 1 = .ok (.istore_n 3, 1) := by decide +kernel
theorem d_W_unpack_2 : decode b_W_unpack 2 = .ok (.iload_n 3, 1) := by decide +kernel
theorem d_W_unpack_3 : decode b_W_unpack 3 = .ok (.iconst 4, 1) := by decide +kernel
theorem d_W_unpack_4 : decode b_W_unpack 4 = .ok (.if_icmp .ge 27, 3) := by decide +kernel
theorem d_W_unpack_7 : decode b_W_unpack 7 = .ok (.aload_n 0, 1) := by decide +kernel
theorem d_W_unpack_8 : decode b_W_unpack 8 = .ok (.getfield 9, 3) := by decide +kernel
theorem d_W_unpack_11 : decode b_W_unpack 11 = .ok (.iload_n 3, 1) := by decide +kernel
theorem d_W_unpack_12 : decode b_W_unpack 12 = .ok (.lload_n 1, 1) := by decide +kernel
theorem d_W_unpack_13 : decode b_W_unpack 13 = .ok (.bipush 61, 2) := by decide +kernel
theorem d_W_unpack_15 : decode b_W_unpack 15 = .ok (.iconst 3, 1) := by decide +kernel
theorem d_W_unpack_16 : decode b_W_unpack 16 = .ok (.iload_n 3, 1) := by decide +kernel
theorem d_W_unpack_17 : decode b_W_unpack 17 = .ok (.imul, 1) := by decide +kernel
theorem d_W_unpack_18 : decode b_W_unpack 18 = .ok (.isub, 1) := by decide +kernel
theorem d_W_unpack_19 : decode b_W_unpack 19 = .ok (.lushr, 1) := by decide +kernel
theorem d_W_unpack_20 : decode b_W_unpack 20 = .ok (.l2i, 1) := by decide +kernel
theorem d_W_unpack_21 : decode b_W_unpack 21 = .ok (.bipush 7, 2) := by decide +kernel
theorem d_W_unpack_23 : decode b_W_unpack 23 = .ok (.iand, 1) := by decide +kernel
theorem d_W_unpack_24 : decode b_W_unpack 24 = .ok (.iastore, 1) := by decide +kernel
theorem d_W_unpack_25 : decode b_W_unpack 25 = .ok (.iinc 3 1, 3) := by decide +kernel
theorem d_W_unpack_28 : decode b_W_unpack 28 = .ok (.goto (-26), 3) := by decide +kernel
theorem d_W_unpack_31 : decode b_W_unpack 31 = .ok (.aload_n 0, 1) := by decide +kernel
theorem d_W_unpack_32 : decode b_W_unpack 32 = .ok (.lload_n 1, 1) := by decide +kernel
theorem d_W_unpack_33 : decode b_W_unpack 33 = .ok (.bipush 49, 2) := by decide +kernel
theorem d_W_unpack_35 : decode b_W_unpack 35 = .ok (.lushr, 1) := by decide +kernel
theorem d_W_unpack_36 : decode b_W_unpack 36 = .ok (.l2i, 1) := by decide +kernel
theorem d_W_unpack_37 : decode b_W_unpack 37 = .ok (.bipush 7, 2) := by decide +kernel
theorem d_W_unpack_39 : decode b_W_unpack 39 = .ok (.iand, 1) := by decide +kernel
theorem d_W_unpack_40 : decode b_W_unpack 40 = .ok (.putfield 24, 3) := by decide +kernel
theorem d_W_unpack_43 : decode b_W_unpack 43 = .ok (.iconst 0, 1) := by decide +kernel
theorem d_W_unpack_44 : decode b_W_unpack 44 = .ok (.istore_n 3, 1) := by decide +kernel
theorem d_W_unpack_45 : decode b_W_unpack 45 = .ok (.iload_n 3, 1) := by decide +kernel
theorem d_W_unpack_46 : decode b_W_unpack 46 = .ok (.bipush 7, 2) := by decide +kernel
theorem d_W_unpack_48 : decode b_W_unpack 48 = .ok (.if_icmp .ge 28, 3) := by decide +kernel
theorem d_W_unpack_51 : decode b_W_unpack 51 = .ok (.aload_n 0, 1) := by decide +kernel
theorem d_W_unpack_52 : decode b_W_unpack 52 = .ok (.getfield 15, 3) := by decide +kernel
theorem d_W_unpack_55 : decode b_W_unpack 55 = .ok (.iload_n 3, 1) := by decide +kernel
theorem d_W_unpack_56 : decode b_W_unpack 56 = .ok (.lload_n 1, 1) := by decide +kernel
theorem d_W_unpack_57 : decode b_W_unpack 57 = .ok (.bipush 42, 2) := by decide +kernel
theorem d_W_unpack_59 : decode b_W_unpack 59 = .ok (.bipush 7, 2) := by decide +kernel
theorem d_W_unpack_61 : decode b_W_unpack 61 = .ok (.iload_n 3, 1) := by decide +kernel
theorem d_W_unpack_62 : decode b_W_unpack 62 = .ok (.imul, 1) := by decide +kernel
theorem d_W_unpack_63 : decode b_W_unpack 63 = .ok (.isub, 1) := by decide +kernel
theorem d_W_unpack_64 : decode b_W_unpack 64 = .ok (.lushr, 1) := by decide +kernel
theorem d_W_unpack_65 : decode b_W_unpack 65 = .ok (.l2i, 1) := by decide +kernel
theorem d_W_unpack_66 : decode b_W_unpack 66 = .ok (.bipush 127, 2) := by decide +kernel
theorem d_W_unpack_68 : decode b_W_unpack 68 = .ok (.iand, 1) := by decide +kernel
theorem d_W_unpack_69 : decode b_W_unpack 69 = .ok (.iastore, 1) := by decide +kernel
theorem d_W_unpack_70 : decode b_W_unpack 70 = .ok (.iinc 3 1, 3) := by decide +kernel
theorem d_W_unpack_73 : decode b_W_unpack 73 = .ok (.goto (-28), 3) := by decide +kernel
theorem d_W_unpack_76 : decode b_W_unpack 76 = .ok (.return_, 1) := by decide +kernel
theorem d_W_become_0 : decode b_W_become 0 = .ok (.aload_n 1, 1) := by decide +kernel
theorem d_W_become_1 : decode b_W_become 1 = .ok (.getfield 9, 3) := by decide +kernel
theorem d_W_become_4 : decode b_W_become 4 = .ok (.iconst 0, 1) := by decide +kernel
theorem d_W_become_5 : decode b_W_become 5 = .ok (.aload_n 0, 1) := by decide +kernel
theorem d_W_become_6 : decode b_W_become 6 = .ok (.getfield 9, 3) := by decide +kernel
theorem d_W_become_9 : decode b_W_become 9 = .ok (.iconst 0, 1) := by decide +kernel
theorem d_W_become_10 : decode b_W_become 10 = .ok (.iconst 4, 1) := by decide +kernel
theorem d_W_become_11 : decode b_W_become 11 = .ok (.invokestatic 18, 3) := by decide +kernel
theorem d_W_become_14 : decode b_W_become 14 = .ok (.aload_n 1, 1) := by decide +kernel
theorem d_W_become_15 : decode b_W_become 15 = .ok (.getfield 15, 3) := by decide +kernel
theorem d_W_become_18 : decode b_W_become 18 = .ok (.iconst 0, 1) := by decide +kernel
theorem d_W_become_19 : decode b_W_become 19 = .ok (.aload_n 0, 1) := by decide +kernel
theorem d_W_become_20 : decode b_W_become 20 = .ok (.getfield 15, 3) := by decide +kernel
theorem d_W_become_23 : decode b_W_become 23 = .ok (.iconst 0, 1) := by decide +kernel
theorem d_W_become_24 : decode b_W_become 24 = .ok (.bipush 8, 2) := by decide +kernel
theorem d_W_become_26 : decode b_W_become 26 = .ok (.invokestatic 18, 3) := by decide +kernel
theorem d_W_become_29 : decode b_W_become 29 = .ok (.aload_n 0, 1) := by decide +kernel
theorem d_W_become_30 : decode b_W_become 30 = .ok (.aload_n 1, 1) := by decide +kernel
theorem d_W_become_31 : decode b_W_become 31 = .ok (.getfield 24, 3) := by decide +kernel
theorem d_W_become_34 : decode b_W_become 34 = .ok (.putfield 24, 3) := by decide +kernel
theorem d_W_become_37 : decode b_W_become 37 = .ok (.return_, 1) := by decide +kernel
theorem d_W_drop_0 : decode b_W_drop 0 = .ok (.aload_n 0, 1) := by decide +kernel
theorem d_W_drop_1 : decode b_W_drop 1 = .ok (.dup, 1) := by decide +kernel
theorem d_W_drop_2 : decode b_W_drop 2 = .ok (.getfield 24, 3) := by decide +kernel
theorem d_W_drop_5 : decode b_W_drop 5 = .ok (.iconst 1, 1) := by decide +kernel
theorem d_W_drop_6 : decode b_W_drop 6 = .ok (.isub, 1) := by decide +kernel
theorem d_W_drop_7 : decode b_W_drop 7 = .ok (.putfield 24, 3) := by decide +kernel
theorem d_W_drop_10 : decode b_W_drop 10 = .ok (.iload_n 1, 1) := by decide +kernel
theorem d_W_drop_11 : decode b_W_drop 11 = .ok (.istore_n 2, 1) := by decide +kernel
theorem d_W_drop_12 : decode b_W_drop 12 = .ok (.iload_n 2, 1) := by decide +kernel
theorem d_W_drop_13 : decode b_W_drop 13 = .ok (.aload_n 0, 1) := by decide +kernel
theorem d_W_drop_14 : decode b_W_drop 14 = .ok (.getfield 24, 3) := by decide +kernel
theorem d_W_drop_17 : decode b_W_drop 17 = .ok (.if_icmp .ge 23, 3) := by decide +kernel
theorem d_W_drop_20 : decode b_W_drop 20 = .ok (.aload_n 0, 1) := by decide +kernel
theorem d_W_drop_21 : decode b_W_drop 21 = .ok (.getfield 15, 3) := by decide +kernel
theorem d_W_drop_24 : decode b_W_drop 24 = .ok (.iload_n 2, 1) := by decide +kernel
theorem d_W_drop_25 : decode b_W_drop 25 = .ok (.aload_n 0, 1) := by decide +kernel
theorem d_W_drop_26 : decode b_W_drop 26 = .ok (.getfield 15, 3) := by decide +kernel
theorem d_W_drop_29 : decode b_W_drop 29 = .ok (.iload_n 2, 1) := by decide +kernel
theorem d_W_drop_30 : decode b_W_drop 30 = .ok (.iconst 1, 1) := by decide +kernel
theorem d_W_drop_31 : decode b_W_drop 31 = .ok (.iadd, 1) := by decide +kernel
theorem d_W_drop_32 : decode b_W_drop 32 = .ok (.iaload, 1) := by decide +kernel
theorem d_W_drop_33 : decode b_W_drop 33 = .ok (.iastore, 1) := by decide +kernel
theorem d_W_drop_34 : decode b_W_drop 34 = .ok (.iinc 2 1, 3) := by decide +kernel
theorem d_W_drop_37 : decode b_W_drop 37 = .ok (.goto (-25), 3) := by decide +kernel
theorem d_W_drop_40 : decode b_W_drop 40 = .ok (.return_, 1) := by decide +kernel
theorem d_R_init_0 : decode b_R_init 0 = .ok (.aload_n 0, 1) := by decide +kernel
theorem d_R_init_1 : decode b_R_init 1 = .ok (.invokespecial 3, 3) := by decide +kernel
theorem d_R_init_4 : decode b_R_init 4 = .ok (.aload_n 0, 1) := by decide +kernel
theorem d_R_init_5 : decode b_R_init 5 = .ok (.iconst 4, 1) := by decide +kernel
theorem d_R_init_6 : decode b_R_init 6 = .ok (.newarray .int, 2) := by decide +kernel
theorem d_R_init_8 : decode b_R_init 8 = .ok (.putfield 9, 3) := by decide +kernel
theorem d_R_init_11 : decode b_R_init 11 = .ok (.aload_n 0, 1) := by decide +kernel
theorem d_R_init_12 : decode b_R_init 12 = .ok (.iconst 4, 1) := by decide +kernel
theorem d_R_init_13 : decode b_R_init 13 = .ok (.newarray .int, 2) := by decide +kernel
theorem d_R_init_15 : decode b_R_init 15 = .ok (.putfield 15, 3) := by decide +kernel
theorem d_R_init_18 : decode b_R_init 18 = .ok (.aload_n 0, 1) := by decide +kernel
theorem d_R_init_19 : decode b_R_init 19 = .ok (.iload_n 1, 1) := by decide +kernel
theorem d_R_init_20 : decode b_R_init 20 = .ok (.putfield 18, 3) := by decide +kernel
theorem d_R_init_23 : decode b_R_init 23 = .ok (.aload_n 0, 1) := by decide +kernel
theorem d_R_init_24 : decode b_R_init 24 = .ok (.iload_n 2, 1) := by decide +kernel
theorem d_R_init_25 : decode b_R_init 25 = .ok (.putfield 22, 3) := by decide +kernel
theorem d_R_init_28 : decode b_R_init 28 = .ok (.aload_n 0, 1) := by decide +kernel
theorem d_R_init_29 : decode b_R_init 29 = .ok (.iload_n 3, 1) := by decide +kernel
theorem d_R_init_30 : decode b_R_init 30 = .ok (.putfield 25, 3) := by decide +kernel
theorem d_R_init_33 : decode b_R_init 33 = .ok (.return_, 1) := by decide +kernel
theorem d_Math_floorMod_0 : decode b_Math_floorMod 0 = .ok (.iload_n 0, 1) := by decide +kernel
theorem d_Math_floorMod_1 : decode b_Math_floorMod 1 = .ok (.iload_n 1, 1) := by decide +kernel
theorem d_Math_floorMod_2 : decode b_Math_floorMod 2 = .ok (.irem, 1) := by decide +kernel
theorem d_Math_floorMod_3 : decode b_Math_floorMod 3 = .ok (.istore_n 2, 1) := by decide +kernel
theorem d_Math_floorMod_4 : decode b_Math_floorMod 4 = .ok (.iload_n 0, 1) := by decide +kernel
theorem d_Math_floorMod_5 : decode b_Math_floorMod 5 = .ok (.iload_n 1, 1) := by decide +kernel
theorem d_Math_floorMod_6 : decode b_Math_floorMod 6 = .ok (.ixor, 1) := by decide +kernel
theorem d_Math_floorMod_7 : decode b_Math_floorMod 7 = .ok (.ifCond .ge 11, 3) := by decide +kernel
theorem d_Math_floorMod_10 : decode b_Math_floorMod 10 = .ok (.iload_n 2, 1) := by decide +kernel
theorem d_Math_floorMod_11 : decode b_Math_floorMod 11 = .ok (.ifCond .eq 7, 3) := by decide +kernel
theorem d_Math_floorMod_14 : decode b_Math_floorMod 14 = .ok (.iload_n 2, 1) := by decide +kernel
theorem d_Math_floorMod_15 : decode b_Math_floorMod 15 = .ok (.iload_n 1, 1) := by decide +kernel
theorem d_Math_floorMod_16 : decode b_Math_floorMod 16 = .ok (.iadd, 1) := by decide +kernel
theorem d_Math_floorMod_17 : decode b_Math_floorMod 17 = .ok (.ireturn, 1) := by decide +kernel
theorem d_Math_floorMod_18 : decode b_Math_floorMod 18 = .ok (.iload_n 2, 1) := by decide +kernel
theorem d_Math_floorMod_19 : decode b_Math_floorMod 19 = .ok (.ireturn, 1) := by decide +kernel
theorem d_Long_compareUnsigned_0 : decode b_Long_compareUnsigned 0 = .ok (.lload_n 0, 1) := by decide +kernel
theorem d_Long_compareUnsigned_1 : decode b_Long_compareUnsigned 1 = .ok (.ldc2_w 168, 3) := by decide +kernel
theorem d_Long_compareUnsigned_4 : decode b_Long_compareUnsigned 4 = .ok (.ladd, 1) := by decide +kernel
theorem d_Long_compareUnsigned_5 : decode b_Long_compareUnsigned 5 = .ok (.lload_n 2, 1) := by decide +kernel
theorem d_Long_compareUnsigned_6 : decode b_Long_compareUnsigned 6 = .ok (.ldc2_w 168, 3) := by decide +kernel
theorem d_Long_compareUnsigned_9 : decode b_Long_compareUnsigned 9 = .ok (.ladd, 1) := by decide +kernel
theorem d_Long_compareUnsigned_10 : decode b_Long_compareUnsigned 10 = .ok (.invokestatic 302, 3) := by decide +kernel
theorem d_Long_compareUnsigned_13 : decode b_Long_compareUnsigned 13 = .ok (.ireturn, 1) := by decide +kernel
theorem d_Long_compare_0 : decode b_Long_compare 0 = .ok (.lload_n 0, 1) := by decide +kernel
theorem d_Long_compare_1 : decode b_Long_compare 1 = .ok (.lload_n 2, 1) := by decide +kernel
theorem d_Long_compare_2 : decode b_Long_compare 2 = .ok (.lcmp, 1) := by decide +kernel
theorem d_Long_compare_3 : decode b_Long_compare 3 = .ok (.ifCond .ge 7, 3) := by decide +kernel
theorem d_Long_compare_6 : decode b_Long_compare 6 = .ok (.iconst (-1), 1) := by decide +kernel
theorem d_Long_compare_7 : decode b_Long_compare 7 = .ok (.goto 14, 3) := by decide +kernel
theorem d_Long_compare_10 : decode b_Long_compare 10 = .ok (.lload_n 0, 1) := by decide +kernel
theorem d_Long_compare_11 : decode b_Long_compare 11 = .ok (.lload_n 2, 1) := by decide +kernel
theorem d_Long_compare_12 : decode b_Long_compare 12 = .ok (.lcmp, 1) := by decide +kernel
theorem d_Long_compare_13 : decode b_Long_compare 13 = .ok (.ifCond .ne 7, 3) := by decide +kernel
theorem d_Long_compare_16 : decode b_Long_compare 16 = .ok (.iconst 0, 1) := by decide +kernel
theorem d_Long_compare_17 : decode b_Long_compare 17 = .ok (.goto 4, 3) := by decide +kernel
theorem d_Long_compare_20 : decode b_Long_compare 20 = .ok (.iconst 1, 1) := by decide +kernel
theorem d_Long_compare_21 : decode b_Long_compare 21 = .ok (.ireturn, 1) := by decide +kernel
