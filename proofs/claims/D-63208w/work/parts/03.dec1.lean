theorem d_LC_init_0 : decode b_LC_init 0 = .ok (.aload_n 0, 1) := by decide +kernel
theorem d_LC_init_1 : decode b_LC_init 1 = .ok (.invokespecial 1, 3) := by decide +kernel
theorem d_LC_init_4 : decode b_LC_init 4 = .ok (.aload_n 0, 1) := by decide +kernel
theorem d_LC_init_5 : decode b_LC_init 5 = .ok (.iconst 3, 1) := by decide +kernel
theorem d_LC_init_6 : decode b_LC_init 6 = .ok (.anewarray 9, 3) := by decide +kernel
theorem d_LC_init_9 : decode b_LC_init 9 = .ok (.putfield 11, 3) := by decide +kernel
theorem d_LC_init_12 : decode b_LC_init 12 = .ok (.aload_n 0, 1) := by decide +kernel
theorem d_LC_init_13 : decode b_LC_init 13 = .ok (.bipush 6, 2) := by decide +kernel
theorem d_LC_init_15 : decode b_LC_init 15 = .ok (.anewarray 15, 3) := by decide +kernel
theorem d_LC_init_18 : decode b_LC_init 18 = .ok (.putfield 17, 3) := by decide +kernel
theorem d_LC_init_21 : decode b_LC_init 21 = .ok (.aload_n 0, 1) := by decide +kernel
theorem d_LC_init_22 : decode b_LC_init 22 = .ok (.bipush 12, 2) := by decide +kernel
theorem d_LC_init_24 : decode b_LC_init 24 = .ok (.newarray .int, 2) := by decide +kernel
theorem d_LC_init_26 : decode b_LC_init 26 = .ok (.putfield 21, 3) := by decide +kernel
theorem d_LC_init_29 : decode b_LC_init 29 = .ok (.aload_n 0, 1) := by decide +kernel
theorem d_LC_init_30 : decode b_LC_init 30 = .ok (.bipush 24, 2) := by decide +kernel
theorem d_LC_init_32 : decode b_LC_init 32 = .ok (.anewarray 25, 3) := by decide +kernel
theorem d_LC_init_35 : decode b_LC_init 35 = .ok (.putfield 27, 3) := by decide +kernel
theorem d_LC_init_38 : decode b_LC_init 38 = .ok (.aload_n 0, 1) := by decide +kernel
theorem d_LC_init_39 : decode b_LC_init 39 = .ok (.iconst 1, 1) := by decide +kernel
theorem d_LC_init_40 : decode b_LC_init 40 = .ok (.sipush 1000, 3) := by decide +kernel
theorem d_LC_init_43 : decode b_LC_init 43 = .ok (.iload_n 1, 1) := by decide +kernel
theorem d_LC_init_44 : decode b_LC_init 44 = .ok (.invokestatic 31, 3) := by decide +kernel
theorem d_LC_init_47 : decode b_LC_init 47 = .ok (.invokestatic 37, 3) := by decide +kernel
theorem d_LC_init_50 : decode b_LC_init 50 = .ok (.putfield 40, 3) := by decide +kernel
theorem d_LC_init_53 : decode b_LC_init 53 = .ok (.aload_n 0, 1) := by decide +kernel
theorem d_LC_init_54 : decode b_LC_init 54 = .ok (.iconst 1, 1) := by decide +kernel
theorem d_LC_init_55 : decode b_LC_init 55 = .ok (.bipush 50, 2) := by decide +kernel
theorem d_LC_init_57 : decode b_LC_init 57 = .ok (.iload_n 2, 1) := by decide +kernel
theorem d_LC_init_58 : decode b_LC_init 58 = .ok (.invokestatic 31, 3) := by decide +kernel
theorem d_LC_init_61 : decode b_LC_init 61 = .ok (.invokestatic 37, 3) := by decide +kernel
theorem d_LC_init_64 : decode b_LC_init 64 = .ok (.putfield 44, 3) := by decide +kernel
theorem d_LC_init_67 : decode b_LC_init 67 = .ok (.iconst 0, 1) := by decide +kernel
theorem d_LC_init_68 : decode b_LC_init 68 = .ok (.istore_n 3, 1) := by decide +kernel
theorem d_LC_init_69 : decode b_LC_init 69 = .ok (.iload_n 3, 1) := by decide +kernel
theorem d_LC_init_70 : decode b_LC_init 70 = .ok (.iconst 3, 1) := by decide +kernel
theorem d_LC_init_71 : decode b_LC_init 71 = .ok (.if_icmp .ge 23, 3) := by decide +kernel
theorem d_LC_init_74 : decode b_LC_init 74 = .ok (.aload_n 0, 1) := by decide +kernel
theorem d_LC_init_75 : decode b_LC_init 75 = .ok (.getfield 11, 3) := by decide +kernel
theorem d_LC_init_78 : decode b_LC_init 78 = .ok (.iload_n 3, 1) := by decide +kernel
theorem d_LC_init_79 : decode b_LC_init 79 = .ok (.new 9, 3) := by decide +kernel
theorem d_LC_init_82 : decode b_LC_init 82 = .ok (.dup, 1) := by decide +kernel
theorem d_LC_init_83 : decode b_LC_init 83 = .ok (.iload_n 3, 1) := by decide +kernel
theorem d_LC_init_84 : decode b_LC_init 84 = .ok (.invokespecial 47, 3) := by decide +kernel
theorem d_LC_init_87 : decode b_LC_init 87 = .ok (.aastore, 1) := by decide +kernel
theorem d_LC_init_88 : decode b_LC_init 88 = .ok (.iinc 3 1, 3) := by decide +kernel
theorem d_LC_init_91 : decode b_LC_init 91 = .ok (.goto (-22), 3) := by decide +kernel
theorem d_LC_init_94 : decode b_LC_init 94 = .ok (.iconst 0, 1) := by decide +kernel
theorem d_LC_init_95 : decode b_LC_init 95 = .ok (.istore_n 3, 1) := by decide +kernel
theorem d_LC_init_96 : decode b_LC_init 96 = .ok (.iload_n 3, 1) := by decide +kernel
theorem d_LC_init_97 : decode b_LC_init 97 = .ok (.bipush 6, 2) := by decide +kernel
theorem d_LC_init_99 : decode b_LC_init 99 = .ok (.if_icmp .ge 22, 3) := by decide +kernel
theorem d_LC_init_102 : decode b_LC_init 102 = .ok (.aload_n 0, 1) := by decide +kernel
theorem d_LC_init_103 : decode b_LC_init 103 = .ok (.getfield 17, 3) := by decide +kernel
theorem d_LC_init_106 : decode b_LC_init 106 = .ok (.iload_n 3, 1) := by decide +kernel
theorem d_LC_init_107 : decode b_LC_init 107 = .ok (.new 15, 3) := by decide +kernel
theorem d_LC_init_110 : decode b_LC_init 110 = .ok (.dup, 1) := by decide +kernel
theorem d_LC_init_111 : decode b_LC_init 111 = .ok (.invokespecial 50, 3) := by decide +kernel
theorem d_LC_init_114 : decode b_LC_init 114 = .ok (.aastore, 1) := by decide +kernel
theorem d_LC_init_115 : decode b_LC_init 115 = .ok (.iinc 3 1, 3) := by decide +kernel
theorem d_LC_init_118 : decode b_LC_init 118 = .ok (.goto (-22), 3) := by decide +kernel
theorem d_LC_init_121 : decode b_LC_init 121 = .ok (.return_, 1) := by decide +kernel
theorem d_LC_send_0 : decode b_LC_send 0 = .ok (.aload_n 0, 1) := by decide +kernel
theorem d_LC_send_1 : decode b_LC_send 1 = .ok (.getfield 27, 3) := by decide +kernel
theorem d_LC_send_4 : decode b_LC_send 4 = .ok (.aload_n 0, 1) := by decide +kernel
theorem d_LC_send_5 : decode b_LC_send 5 = .ok (.getfield 51, 3) := by decide +kernel
theorem d_LC_send_8 : decode b_LC_send 8 = .ok (.aload_n 1, 1) := by decide +kernel
theorem d_LC_send_9 : decode b_LC_send 9 = .ok (.aastore, 1) := by decide +kernel
theorem d_LC_send_10 : decode b_LC_send 10 = .ok (.aload_n 0, 1) := by decide +kernel
theorem d_LC_send_11 : decode b_LC_send 11 = .ok (.dup, 1) := by decide +kernel
theorem d_LC_send_12 : decode b_LC_send 12 = .ok (.getfield 51, 3) := by decide +kernel
theorem d_LC_send_15 : decode b_LC_send 15 = .ok (.iconst 1, 1) := by decide +kernel
theorem d_LC_send_16 : decode b_LC_send 16 = .ok (.iadd, 1) := by decide +kernel
theorem d_LC_send_17 : decode b_LC_send 17 = .ok (.putfield 51, 3) := by decide +kernel
theorem d_LC_send_20 : decode b_LC_send 20 = .ok (.return_, 1) := by decide +kernel
theorem d_LC_remove_0 : decode b_LC_remove 0 = .ok (.aload_n 0, 1) := by decide +kernel
theorem d_LC_remove_1 : decode b_LC_remove 1 = .ok (.dup, 1) := by decide +kernel
theorem d_LC_remove_2 : decode b_LC_remove 2 = .ok (.getfield 51, 3) := by decide +kernel
theorem d_LC_remove_5 : decode b_LC_remove 5 = .ok (.iconst 1, 1) := by decide +kernel
theorem d_LC_remove_6 : decode b_LC_remove 6 = .ok (.isub, 1) := by decide +kernel
theorem d_LC_remove_7 : decode b_LC_remove 7 = .ok (.putfield 51, 3) := by decide +kernel
theorem d_LC_remove_10 : decode b_LC_remove 10 = .ok (.iload_n 1, 1) := by decide +kernel
theorem d_LC_remove_11 : decode b_LC_remove 11 = .ok (.istore_n 2, 1) := by decide +kernel
theorem d_LC_remove_12 : decode b_LC_remove 12 = .ok (.iload_n 2, 1) := by decide +kernel
theorem d_LC_remove_13 : decode b_LC_remove 13 = .ok (.aload_n 0, 1) := by decide +kernel
theorem d_LC_remove_14 : decode b_LC_remove 14 = .ok (.getfield 51, 3) := by decide +kernel
theorem d_LC_remove_17 : decode b_LC_remove 17 = .ok (.if_icmp .ge 23, 3) := by decide +kernel
theorem d_LC_remove_20 : decode b_LC_remove 20 = .ok (.aload_n 0, 1) := by decide +kernel
theorem d_LC_remove_21 : decode b_LC_remove 21 = .ok (.getfield 27, 3) := by decide +kernel
theorem d_LC_remove_24 : decode b_LC_remove 24 = .ok (.iload_n 2, 1) := by decide +kernel
theorem d_LC_remove_25 : decode b_LC_remove 25 = .ok (.aload_n 0, 1) := by decide +kernel
theorem d_LC_remove_26 : decode b_LC_remove 26 = .ok (.getfield 27, 3) := by decide +kernel
theorem d_LC_remove_29 : decode b_LC_remove 29 = .ok (.iload_n 2, 1) := by decide +kernel
theorem d_LC_remove_30 : decode b_LC_remove 30 = .ok (.iconst 1, 1) := by decide +kernel
theorem d_LC_remove_31 : decode b_LC_remove 31 = .ok (.iadd, 1) := by decide +kernel
theorem d_LC_remove_32 : decode b_LC_remove 32 = .ok (.aaload, 1) := by decide +kernel
theorem d_LC_remove_33 : decode b_LC_remove 33 = .ok (.aastore, 1) := by decide +kernel
theorem d_LC_remove_34 : decode b_LC_remove 34 = .ok (.iinc 2 1, 3) := by decide +kernel
theorem d_LC_remove_37 : decode b_LC_remove 37 = .ok (.goto (-25), 3) := by decide +kernel
theorem d_LC_remove_40 : decode b_LC_remove 40 = .ok (.aload_n 0, 1) := by decide +kernel
theorem d_LC_remove_41 : decode b_LC_remove 41 = .ok (.getfield 27, 3) := by decide +kernel
theorem d_LC_remove_44 : decode b_LC_remove 44 = .ok (.aload_n 0, 1) := by decide +kernel
theorem d_LC_remove_45 : decode b_LC_remove 45 = .ok (.getfield 51, 3) := by decide +kernel
theorem d_LC_remove_48 : decode b_LC_remove 48 = .ok (.aconst_null, 1) := by decide +kernel
theorem d_LC_remove_49 : decode b_LC_remove 49 = .ok (.aastore, 1) := by decide +kernel
theorem d_LC_remove_50 : decode b_LC_remove 50 = .ok (.return_, 1) := by decide +kernel
theorem d_LC_forgetCalls_0 : decode b_LC_forgetCalls 0 = .ok (.aload_n 0, 1) := by decide +kernel
theorem d_LC_forgetCalls_1 : decode b_LC_forgetCalls 1 = .ok (.getfield 51, 3) := by decide +kernel
theorem d_LC_forgetCalls_4 : decode b_LC_forgetCalls 4 = .ok (.iconst 1, 1) := by decide +kernel
theorem d_LC_forgetCalls_5 : decode b_LC_forgetCalls 5 = .ok (.isub, 1) := by decide +kernel
theorem d_LC_forgetCalls_6 : decode b_LC_forgetCalls 6 = .ok (.istore_n 2, 1) := by decide +kernel
theorem d_LC_forgetCalls_7 : decode b_LC_forgetCalls 7 = .ok (.iload_n 2, 1) := by decide +kernel
theorem d_LC_forgetCalls_8 : decode b_LC_forgetCalls 8 = .ok (.ifCond .lt 39, 3) := by decide +kernel
theorem d_LC_forgetCalls_11 : decode b_LC_forgetCalls 11 = .ok (.aload_n 0, 1) := by decide +kernel
theorem d_LC_forgetCalls_12 : decode b_LC_forgetCalls 12 = .ok (.getfield 27, 3) := by decide +kernel
theorem d_LC_forgetCalls_15 : decode b_LC_forgetCalls 15 = .ok (.iload_n 2, 1) := by decide +kernel
theorem d_LC_forgetCalls_16 : decode b_LC_forgetCalls 16 = .ok (.aaload, 1) := by decide +kernel
theorem d_LC_forgetCalls_17 : decode b_LC_forgetCalls 17 = .ok (.instanceof 54, 3) := by decide +kernel
theorem d_LC_forgetCalls_20 : decode b_LC_forgetCalls 20 = .ok (.ifCond .eq 21, 3) := by decide +kernel
theorem d_LC_forgetCalls_23 : decode b_LC_forgetCalls 23 = .ok (.aload_n 0, 1) := by decide +kernel
theorem d_LC_forgetCalls_24 : decode b_LC_forgetCalls 24 = .ok (.getfield 27, 3) := by decide +kernel
theorem d_LC_forgetCalls_27 : decode b_LC_forgetCalls 27 = .ok (.iload_n 2, 1) := by decide +kernel
theorem d_LC_forgetCalls_28 : decode b_LC_forgetCalls 28 = .ok (.aaload, 1) := by decide +kernel
theorem d_LC_forgetCalls_29 : decode b_LC_forgetCalls 29 = .ok (.getfield 56, 3) := by decide +kernel
theorem d_LC_forgetCalls_32 : decode b_LC_forgetCalls 32 = .ok (.iload_n 1, 1) := by decide +kernel
theorem d_LC_forgetCalls_33 : decode b_LC_forgetCalls 33 = .ok (.if_icmp .ne 8, 3) := by decide +kernel
theorem d_LC_forgetCalls_36 : decode b_LC_forgetCalls 36 = .ok (.aload_n 0, 1) := by decide +kernel
theorem d_LC_forgetCalls_37 : decode b_LC_forgetCalls 37 = .ok (.iload_n 2, 1) := by decide +kernel
theorem d_LC_forgetCalls_38 : decode b_LC_forgetCalls 38 = .ok (.invokevirtual 59, 3) := by decide +kernel
theorem d_LC_forgetCalls_41 : decode b_LC_forgetCalls 41 = .ok (.iinc 2 (-1), 3) := by decide +kernel
theorem d_LC_forgetCalls_44 : decode b_LC_forgetCalls 44 = .ok (.goto (-37), 3) := by decide +kernel
theorem d_LC_forgetCalls_47 : decode b_LC_forgetCalls 47 = .ok (.return_, 1) := by decide +kernel
theorem d_LC_deliver_0 : decode b_LC_deliver 0 = .ok (.aload_n 0, 1) := by decide +kernel
theorem d_LC_deliver_1 : decode b_LC_deliver 1 = .ok (.iload_n 1, 1) := by decide +kernel
theorem d_LC_deliver_2 : decode b_LC_deliver 2 = .ok (.invokevirtual 62, 3) := by decide +kernel
theorem d_LC_deliver_5 : decode b_LC_deliver 5 = .ok (.astore_n 2, 1) := by decide +kernel
theorem d_LC_deliver_6 : decode b_LC_deliver 6 = .ok (.aload_n 0, 1) := by decide +kernel
theorem d_LC_deliver_7 : decode b_LC_deliver 7 = .ok (.iload_n 1, 1) := by decide +kernel
theorem d_LC_deliver_8 : decode b_LC_deliver 8 = .ok (.invokevirtual 59, 3) := by decide +kernel
theorem d_LC_deliver_11 : decode b_LC_deliver 11 = .ok (.aload_n 2, 1) := by decide +kernel
theorem d_LC_deliver_12 : decode b_LC_deliver 12 = .ok (.aload_n 0, 1) := by decide +kernel
theorem d_LC_deliver_13 : decode b_LC_deliver 13 = .ok (.invokevirtual 66, 3) := by decide +kernel
theorem d_LC_deliver_16 : decode b_LC_deliver 16 = .ok (.istore_n 3, 1) := by decide +kernel
theorem d_LC_deliver_17 : decode b_LC_deliver 17 = .ok (.iload_n 3, 1) := by decide +kernel
theorem d_LC_deliver_18 : decode b_LC_deliver 18 = .ok (.ifCond .ne 9, 3) := by decide +kernel
theorem d_LC_deliver_21 : decode b_LC_deliver 21 = .ok (.aload_n 0, 1) := by decide +kernel
theorem d_LC_deliver_22 : decode b_LC_deliver 22 = .ok (.iload_n 1, 1) := by decide +kernel
theorem d_LC_deliver_23 : decode b_LC_deliver 23 = .ok (.aload_n 2, 1) := by decide +kernel
theorem d_LC_deliver_24 : decode b_LC_deliver 24 = .ok (.invokevirtual 70, 3) := by decide +kernel
theorem d_LC_deliver_27 : decode b_LC_deliver 27 = .ok (.iload_n 3, 1) := by decide +kernel
theorem d_LC_deliver_28 : decode b_LC_deliver 28 = .ok (.ireturn, 1) := by decide +kernel
theorem d_LC_insert_0 : decode b_LC_insert 0 = .ok (.aload_n 0, 1) := by decide +kernel
theorem d_LC_insert_1 : decode b_LC_insert 1 = .ok (.getfield 51, 3) := by decide +kernel
theorem d_LC_insert_4 : decode b_LC_insert 4 = .ok (.istore_n 3, 1) := by decide +kernel
theorem d_LC_insert_5 : decode b_LC_insert 5 = .ok (.iload_n 3, 1) := by decide +kernel
theorem d_LC_insert_6 : decode b_LC_insert 6 = .ok (.iload_n 1, 1) := by decide +kernel
theorem d_LC_insert_7 : decode b_LC_insert 7 = .ok (.if_icmp .le 23, 3) := by decide +kernel
theorem d_LC_insert_10 : decode b_LC_insert 10 = .ok (.aload_n 0, 1) := by decide +kernel
theorem d_LC_insert_11 : decode b_LC_insert 11 = .ok (.getfield 27, 3) := by decide +kernel
theorem d_LC_insert_14 : decode b_LC_insert 14 = .ok (.iload_n 3, 1) := by decide +kernel
theorem d_LC_insert_15 : decode b_LC_insert 15 = .ok (.aload_n 0, 1) := by decide +kernel
theorem d_LC_insert_16 : decode b_LC_insert 16 = .ok (.getfield 27, 3) := by decide +kernel
theorem d_LC_insert_19 : decode b_LC_insert 19 = .ok (.iload_n 3, 1) := by decide +kernel
theorem d_LC_insert_20 : decode b_LC_insert 20 = .ok (.iconst 1, 1) := by decide +kernel
theorem d_LC_insert_21 : decode b_LC_insert 21 = .ok (.isub, 1) := by decide +kernel
theorem d_LC_insert_22 : decode b_LC_insert 22 = .ok (.aaload, 1) := by decide +kernel
theorem d_LC_insert_23 : decode b_LC_insert 23 = .ok (.aastore, 1) := by decide +kernel
theorem d_LC_insert_24 : decode b_LC_insert 24 = .ok (.iinc 3 (-1), 3) := by decide +kernel
theorem d_LC_insert_27 : decode b_LC_insert 27 = .ok (.goto (-22), 3) := by decide +kernel
theorem d_LC_insert_30 : decode b_LC_insert 30 = .ok (.aload_n 0, 1) := by decide +kernel
theorem d_LC_insert_31 : decode b_LC_insert 31 = .ok (.getfield 27, 3) := by decide +kernel
theorem d_LC_insert_34 : decode b_LC_insert 34 = .ok (.iload_n 1, 1) := by decide +kernel
theorem d_LC_insert_35 : decode b_LC_insert 35 = .ok (.aload_n 2, 1) := by decide +kernel
theorem d_LC_insert_36 : decode b_LC_insert 36 = .ok (.aastore, 1) := by decide +kernel
theorem d_LC_insert_37 : decode b_LC_insert 37 = .ok (.aload_n 0, 1) := by decide +kernel
theorem d_LC_insert_38 : decode b_LC_insert 38 = .ok (.dup, 1) := by decide +kernel
theorem d_LC_insert_39 : decode b_LC_insert 39 = .ok (.getfield 51, 3) := by decide +kernel
theorem d_LC_insert_42 : decode b_LC_insert 42 = .ok (.iconst 1, 1) := by decide +kernel
theorem d_LC_insert_43 : decode b_LC_insert 43 = .ok (.iadd, 1) := by decide +kernel
theorem d_LC_insert_44 : decode b_LC_insert 44 = .ok (.putfield 51, 3) := by decide +kernel
theorem d_LC_insert_47 : decode b_LC_insert 47 = .ok (.return_, 1) := by decide +kernel
theorem d_LC_at_0 : decode b_LC_at 0 = .ok (.iload_n 1, 1) := by decide +kernel
theorem d_LC_at_1 : decode b_LC_at 1 = .ok (.ifCond .lt 11, 3) := by decide +kernel
theorem d_LC_at_4 : decode b_LC_at 4 = .ok (.iload_n 1, 1) := by decide +kernel
theorem d_LC_at_5 : decode b_LC_at 5 = .ok (.aload_n 0, 1) := by decide +kernel
theorem d_LC_at_6 : decode b_LC_at 6 = .ok (.getfield 51, 3) := by decide +kernel
theorem d_LC_at_9 : decode b_LC_at 9 = .ok (.if_icmp .lt 11, 3) := by decide +kernel
theorem d_LC_at_12 : decode b_LC_at 12 = .ok (.new 74, 3) := by decide +kernel
theorem d_LC_at_15 : decode b_LC_at 15 = .ok (.dup, 1) := by decide +kernel
theorem d_LC_at_16 : decode b_LC_at 16 = .ok (.invokespecial 76, 3) := by decide +kernel
theorem d_LC_at_19 : decode b_LC_at 19 = .ok (.athrow, 1) := by decide +kernel
theorem d_LC_at_20 : decode b_LC_at 20 = .ok (.aload_n 0, 1) := by decide +kernel
theorem d_LC_at_21 : decode b_LC_at 21 = .ok (.getfield 27, 3) := by decide +kernel
theorem d_LC_at_24 : decode b_LC_at 24 = .ok (.iload_n 1, 1) := by decide +kernel
theorem d_LC_at_25 : decode b_LC_at 25 = .ok (.aaload, 1) := by decide +kernel
theorem d_LC_at_26 : decode b_LC_at 26 = .ok (.areturn, 1) := by decide +kernel
theorem d_LC_use_0 : decode b_LC_use 0 = .ok (.aload_n 0, 1) := by decide +kernel
theorem d_LC_use_1 : decode b_LC_use 1 = .ok (.dup, 1) := by decide +kernel
theorem d_LC_use_2 : decode b_LC_use 2 = .ok (.getfield 77, 3) := by decide +kernel
theorem d_LC_use_5 : decode b_LC_use 5 = .ok (.iconst 1, 1) := by decide +kernel
theorem d_LC_use_6 : decode b_LC_use 6 = .ok (.iadd, 1) := by decide +kernel
theorem d_LC_use_7 : decode b_LC_use 7 = .ok (.putfield 77, 3) := by decide +kernel
theorem d_LC_use_10 : decode b_LC_use 10 = .ok (.aload_n 1, 1) := by decide +kernel
theorem d_LC_use_11 : decode b_LC_use 11 = .ok (.aload_n 0, 1) := by decide +kernel
theorem d_LC_use_12 : decode b_LC_use 12 = .ok (.getfield 77, 3) := by decide +kernel
theorem d_LC_use_15 : decode b_LC_use 15 = .ok (.putfield 80, 3) := by decide +kernel
theorem d_LC_use_18 : decode b_LC_use 18 = .ok (.return_, 1) := by decide +kernel
theorem d_LC_leave_0 : decode b_LC_leave 0 = .ok (.aload_n 2, 1) := by decide +kernel
theorem d_LC_leave_1 : decode b_LC_leave 1 = .ok (.getfield 85, 3) := by decide +kernel
theorem d_LC_leave_4 : decode b_LC_leave 4 = .ok (.iconst (-1), 1) := by decide +kernel
theorem d_LC_leave_5 : decode b_LC_leave 5 = .ok (.if_icmp .eq 33, 3) := by decide +kernel
theorem d_LC_leave_8 : decode b_LC_leave 8 = .ok (.aload_n 2, 1) := by decide +kernel
theorem d_LC_leave_9 : decode b_LC_leave 9 = .ok (.getfield 85, 3) := by decide +kernel
theorem d_LC_leave_12 : decode b_LC_leave 12 = .ok (.iload_n 3, 1) := by decide +kernel
theorem d_LC_leave_13 : decode b_LC_leave 13 = .ok (.if_icmp .eq 25, 3) := by decide +kernel
theorem d_LC_leave_16 : decode b_LC_leave 16 = .ok (.aload_n 2, 1) := by decide +kernel
theorem d_LC_leave_17 : decode b_LC_leave 17 = .ok (.getfield 86, 3) := by decide +kernel
theorem d_LC_leave_20 : decode b_LC_leave 20 = .ok (.ifCond .eq 18, 3) := by decide +kernel
theorem d_LC_leave_23 : decode b_LC_leave 23 = .ok (.aload_n 0, 1) := by decide +kernel
theorem d_LC_leave_24 : decode b_LC_leave 24 = .ok (.new 90, 3) := by decide +kernel
theorem d_LC_leave_27 : decode b_LC_leave 27 = .ok (.dup, 1) := by decide +kernel
theorem d_LC_leave_28 : decode b_LC_leave 28 = .ok (.bipush 7, 2) := by decide +kernel
theorem d_LC_leave_30 : decode b_LC_leave 30 = .ok (.aload_n 1, 1) := by decide +kernel
theorem d_LC_leave_31 : decode b_LC_leave 31 = .ok (.aload_n 2, 1) := by decide +kernel
theorem d_LC_leave_32 : decode b_LC_leave 32 = .ok (.invokespecial 92, 3) := by decide +kernel
theorem d_LC_leave_35 : decode b_LC_leave 35 = .ok (.invokevirtual 95, 3) := by decide +kernel
theorem d_LC_leave_38 : decode b_LC_leave 38 = .ok (.aload_n 2, 1) := by decide +kernel
theorem d_LC_leave_39 : decode b_LC_leave 39 = .ok (.iconst 0, 1) := by decide +kernel
theorem d_LC_leave_40 : decode b_LC_leave 40 = .ok (.putfield 86, 3) := by decide +kernel
theorem d_LC_leave_43 : decode b_LC_leave 43 = .ok (.return_, 1) := by decide +kernel
theorem d_LC_needCore_0 : decode b_LC_needCore 0 = .ok (.iload_n 1, 1) := by decide +kernel
theorem d_LC_needCore_1 : decode b_LC_needCore 1 = .ok (.ifCond .lt 8, 3) := by decide +kernel
theorem d_LC_needCore_4 : decode b_LC_needCore 4 = .ok (.iload_n 1, 1) := by decide +kernel
theorem d_LC_needCore_5 : decode b_LC_needCore 5 = .ok (.iconst 3, 1) := by decide +kernel
theorem d_LC_needCore_6 : decode b_LC_needCore 6 = .ok (.if_icmp .lt 11, 3) := by decide +kernel
theorem d_LC_needCore_9 : decode b_LC_needCore 9 = .ok (.new 99, 3) := by decide +kernel
theorem d_LC_needCore_12 : decode b_LC_needCore 12 = .ok (.dup, 1) := by decide +kernel
theorem d_LC_needCore_13 : decode b_LC_needCore 13 = .ok (.invokespecial 101, 3) := by decide +kernel
theorem d_LC_needCore_16 : decode b_LC_needCore 16 = .ok (.athrow, 1) := by decide +kernel
theorem d_LC_needCore_17 : decode b_LC_needCore 17 = .ok (.aload_n 0, 1) := by decide +kernel
theorem d_LC_needCore_18 : decode b_LC_needCore 18 = .ok (.getfield 11, 3) := by decide +kernel
theorem d_LC_needCore_21 : decode b_LC_needCore 21 = .ok (.iload_n 1, 1) := by decide +kernel
theorem d_LC_needCore_22 : decode b_LC_needCore 22 = .ok (.aaload, 1) := by decide +kernel
theorem d_LC_needCore_23 : decode b_LC_needCore 23 = .ok (.areturn, 1) := by decide +kernel
theorem d_LC_needLine_0 : decode b_LC_needLine 0 = .ok (.iload_n 0, 1) := by decide +kernel
theorem d_LC_needLine_1 : decode b_LC_needLine 1 = .ok (.ifCond .lt 9, 3) := by decide +kernel
theorem d_LC_needLine_4 : decode b_LC_needLine 4 = .ok (.iload_n 0, 1) := by decide +kernel
theorem d_LC_needLine_5 : decode b_LC_needLine 5 = .ok (.bipush 12, 2) := by decide +kernel
theorem d_LC_needLine_7 : decode b_LC_needLine 7 = .ok (.if_icmp .lt 11, 3) := by decide +kernel
theorem d_LC_needLine_10 : decode b_LC_needLine 10 = .ok (.new 99, 3) := by decide +kernel
theorem d_LC_needLine_13 : decode b_LC_needLine 13 = .ok (.dup, 1) := by decide +kernel
theorem d_LC_needLine_14 : decode b_LC_needLine 14 = .ok (.invokespecial 101, 3) := by decide +kernel
theorem d_LC_needLine_17 : decode b_LC_needLine 17 = .ok (.athrow, 1) := by decide +kernel
theorem d_LC_needLine_18 : decode b_LC_needLine 18 = .ok (.return_, 1) := by decide +kernel
theorem d_LC_operate_0 : decode b_LC_operate 0 = .ok (.aload_n 0, 1) := by decide +kernel
theorem d_LC_operate_1 : decode b_LC_operate 1 = .ok (.iload_n 1, 1) := by decide +kernel
theorem d_LC_operate_2 : decode b_LC_operate 2 = .ok (.invokevirtual 102, 3) := by decide +kernel
theorem d_LC_operate_5 : decode b_LC_operate 5 = .ok (.astore 6, 2) := by decide +kernel
theorem d_LC_operate_7 : decode b_LC_operate 7 = .ok (.iload_n 3, 1) := by decide +kernel
theorem d_LC_operate_8 : decode b_LC_operate 8 = .ok (.invokestatic 106, 3) := by decide +kernel
theorem d_LC_operate_11 : decode b_LC_operate 11 = .ok (.iload_n 2, 1) := by decide +kernel
theorem d_LC_operate_12 : decode b_LC_operate 12 = .ok (.ifCond .lt 8, 3) := by decide +kernel
theorem d_LC_operate_15 : decode b_LC_operate 15 = .ok (.iload_n 2, 1) := by decide +kernel
theorem d_LC_operate_16 : decode b_LC_operate 16 = .ok (.iconst 3, 1) := by decide +kernel
theorem d_LC_operate_17 : decode b_LC_operate 17 = .ok (.if_icmp .lt 11, 3) := by decide +kernel
theorem d_LC_operate_20 : decode b_LC_operate 20 = .ok (.new 99, 3) := by decide +kernel
theorem d_LC_operate_23 : decode b_LC_operate 23 = .ok (.dup, 1) := by decide +kernel
theorem d_LC_operate_24 : decode b_LC_operate 24 = .ok (.invokespecial 101, 3) := by decide +kernel
theorem d_LC_operate_27 : decode b_LC_operate 27 = .ok (.athrow, 1) := by decide +kernel
theorem d_LC_operate_28 : decode b_LC_operate 28 = .ok (.aload 6, 2) := by decide +kernel
theorem d_LC_operate_30 : decode b_LC_operate 30 = .ok (.getfield 109, 3) := by decide +kernel
theorem d_LC_operate_33 : decode b_LC_operate 33 = .ok (.ifCond .eq 11, 3) := by decide +kernel
theorem d_LC_operate_36 : decode b_LC_operate 36 = .ok (.new 112, 3) := by decide +kernel
theorem d_LC_operate_39 : decode b_LC_operate 39 = .ok (.dup, 1) := by decide +kernel
theorem d_LC_operate_40 : decode b_LC_operate 40 = .ok (.invokespecial 114, 3) := by decide +kernel
theorem d_LC_operate_43 : decode b_LC_operate 43 = .ok (.athrow, 1) := by decide +kernel
theorem d_LC_operate_44 : decode b_LC_operate 44 = .ok (.aload 6, 2) := by decide +kernel
theorem d_LC_operate_46 : decode b_LC_operate 46 = .ok (.dup, 1) := by decide +kernel
theorem d_LC_operate_47 : decode b_LC_operate 47 = .ok (.getfield 115, 3) := by decide +kernel
theorem d_LC_operate_50 : decode b_LC_operate 50 = .ok (.iconst 1, 1) := by decide +kernel
theorem d_LC_operate_51 : decode b_LC_operate 51 = .ok (.iadd, 1) := by decide +kernel
theorem d_LC_operate_52 : decode b_LC_operate 52 = .ok (.putfield 115, 3) := by decide +kernel
theorem d_LC_operate_55 : decode b_LC_operate 55 = .ok (.aload 6, 2) := by decide +kernel
theorem d_LC_operate_57 : decode b_LC_operate 57 = .ok (.dup, 1) := by decide +kernel
theorem d_LC_operate_58 : decode b_LC_operate 58 = .ok (.getfield 118, 3) := by decide +kernel
theorem d_LC_operate_61 : decode b_LC_operate 61 = .ok (.aload 6, 2) := by decide +kernel
theorem d_LC_operate_63 : decode b_LC_operate 63 = .ok (.getfield 115, 3) := by decide +kernel
theorem d_LC_operate_66 : decode b_LC_operate 66 = .ok (.aload_n 0, 1) := by decide +kernel
theorem d_LC_operate_67 : decode b_LC_operate 67 = .ok (.getfield 44, 3) := by decide +kernel
theorem d_LC_operate_70 : decode b_LC_operate 70 = .ok (.irem, 1) := by decide +kernel
theorem d_LC_operate_71 : decode b_LC_operate 71 = .ok (.ifCond .ne 7, 3) := by decide +kernel
theorem d_LC_operate_74 : decode b_LC_operate 74 = .ok (.lconst 1, 1) := by decide +kernel
theorem d_LC_operate_75 : decode b_LC_operate 75 = .ok (.goto 4, 3) := by decide +kernel
theorem d_LC_operate_78 : decode b_LC_operate 78 = .ok (.lconst 0, 1) := by decide +kernel
theorem d_LC_operate_79 : decode b_LC_operate 79 = .ok (.ladd, 1) := by decide +kernel
theorem d_LC_operate_80 : decode b_LC_operate 80 = .ok (.putfield 118, 3) := by decide +kernel
theorem d_LC_operate_83 : decode b_LC_operate 83 = .ok (.aload 6, 2) := by decide +kernel
theorem d_LC_operate_85 : decode b_LC_operate 85 = .ok (.iload_n 2, 1) := by decide +kernel
theorem d_LC_operate_86 : decode b_LC_operate 86 = .ok (.putfield 122, 3) := by decide +kernel
theorem d_LC_operate_89 : decode b_LC_operate 89 = .ok (.aload 6, 2) := by decide +kernel
theorem d_LC_operate_91 : decode b_LC_operate 91 = .ok (.iload_n 3, 1) := by decide +kernel
theorem d_LC_operate_92 : decode b_LC_operate 92 = .ok (.putfield 125, 3) := by decide +kernel
theorem d_LC_operate_95 : decode b_LC_operate 95 = .ok (.aload 6, 2) := by decide +kernel
theorem d_LC_operate_97 : decode b_LC_operate 97 = .ok (.iload 4, 2) := by decide +kernel
theorem d_LC_operate_99 : decode b_LC_operate 99 = .ok (.putfield 126, 3) := by decide +kernel
theorem d_LC_operate_102 : decode b_LC_operate 102 = .ok (.aload 6, 2) := by decide +kernel
theorem d_LC_operate_104 : decode b_LC_operate 104 = .ok (.iload 5, 2) := by decide +kernel
theorem d_LC_operate_106 : decode b_LC_operate 106 = .ok (.putfield 129, 3) := by decide +kernel
theorem d_LC_operate_109 : decode b_LC_operate 109 = .ok (.aload 6, 2) := by decide +kernel
theorem d_LC_operate_111 : decode b_LC_operate 111 = .ok (.iload_n 3, 1) := by decide +kernel
theorem d_LC_operate_112 : decode b_LC_operate 112 = .ok (.invokevirtual 132, 3) := by decide +kernel
theorem d_LC_operate_115 : decode b_LC_operate 115 = .ok (.astore 7, 2) := by decide +kernel
theorem d_LC_operate_117 : decode b_LC_operate 117 = .ok (.aload 6, 2) := by decide +kernel
theorem d_LC_operate_119 : decode b_LC_operate 119 = .ok (.aload 7, 2) := by decide +kernel
theorem d_LC_operate_121 : decode b_LC_operate 121 = .ok (.invokevirtual 136, 3) := by decide +kernel
theorem d_LC_operate_124 : decode b_LC_operate 124 = .ok (.ifCond .eq 18, 3) := by decide +kernel
theorem d_LC_operate_127 : decode b_LC_operate 127 = .ok (.aload_n 0, 1) := by decide +kernel
theorem d_LC_operate_128 : decode b_LC_operate 128 = .ok (.aload 7, 2) := by decide +kernel
theorem d_LC_operate_130 : decode b_LC_operate 130 = .ok (.invokevirtual 140, 3) := by decide +kernel
theorem d_LC_operate_133 : decode b_LC_operate 133 = .ok (.aload 6, 2) := by decide +kernel
theorem d_LC_operate_135 : decode b_LC_operate 135 = .ok (.aload 7, 2) := by decide +kernel
theorem d_LC_operate_137 : decode b_LC_operate 137 = .ok (.invokevirtual 144, 3) := by decide +kernel
theorem d_LC_operate_140 : decode b_LC_operate 140 = .ok (.iconst 1, 1) := by decide +kernel
theorem d_LC_operate_141 : decode b_LC_operate 141 = .ok (.ireturn, 1) := by decide +kernel
theorem d_LC_operate_142 : decode b_LC_operate 142 = .ok (.aload 6, 2) := by decide +kernel
theorem d_LC_operate_144 : decode b_LC_operate 144 = .ok (.iconst 1, 1) := by decide +kernel
theorem d_LC_operate_145 : decode b_LC_operate 145 = .ok (.putfield 109, 3) := by decide +kernel
theorem d_LC_operate_148 : decode b_LC_operate 148 = .ok (.aload_n 0, 1) := by decide +kernel
theorem d_LC_operate_149 : decode b_LC_operate 149 = .ok (.new 147, 3) := by decide +kernel
theorem d_LC_operate_152 : decode b_LC_operate 152 = .ok (.dup, 1) := by decide +kernel
theorem d_LC_operate_153 : decode b_LC_operate 153 = .ok (.iload_n 2, 1) := by decide +kernel
theorem d_LC_operate_154 : decode b_LC_operate 154 = .ok (.ifCond .ne 7, 3) := by decide +kernel
theorem d_LC_operate_157 : decode b_LC_operate 157 = .ok (.iconst 1, 1) := by decide +kernel
theorem d_LC_operate_158 : decode b_LC_operate 158 = .ok (.goto 4, 3) := by decide +kernel
theorem d_LC_operate_161 : decode b_LC_operate 161 = .ok (.iconst 2, 1) := by decide +kernel
theorem d_LC_operate_162 : decode b_LC_operate 162 = .ok (.iload_n 3, 1) := by decide +kernel
theorem d_LC_operate_163 : decode b_LC_operate 163 = .ok (.aload 6, 2) := by decide +kernel
theorem d_LC_operate_165 : decode b_LC_operate 165 = .ok (.aload 6, 2) := by decide +kernel
theorem d_LC_operate_167 : decode b_LC_operate 167 = .ok (.getfield 118, 3) := by decide +kernel
theorem d_LC_operate_170 : decode b_LC_operate 170 = .ok (.aload 7, 2) := by decide +kernel
theorem d_LC_operate_172 : decode b_LC_operate 172 = .ok (.ifnonnull 9, 3) := by decide +kernel
theorem d_LC_operate_175 : decode b_LC_operate 175 = .ok (.ldc2_w 149, 3) := by decide +kernel
theorem d_LC_operate_178 : decode b_LC_operate 178 = .ok (.goto 8, 3) := by decide +kernel
theorem d_LC_operate_181 : decode b_LC_operate 181 = .ok (.aload 7, 2) := by decide +kernel
theorem d_LC_operate_183 : decode b_LC_operate 183 = .ok (.getfield 151, 3) := by decide +kernel
theorem d_LC_operate_186 : decode b_LC_operate 186 = .ok (.invokespecial 154, 3) := by decide +kernel
theorem d_LC_operate_189 : decode b_LC_operate 189 = .ok (.invokevirtual 95, 3) := by decide +kernel
theorem d_LC_operate_192 : decode b_LC_operate 192 = .ok (.iconst 0, 1) := by decide +kernel
theorem d_LC_operate_193 : decode b_LC_operate 193 = .ok (.ireturn, 1) := by decide +kernel
theorem d_LC_entryOf_0 : decode b_LC_entryOf 0 = .ok (.iconst 0, 1) := by decide +kernel
theorem d_LC_entryOf_1 : decode b_LC_entryOf 1 = .ok (.istore_n 2, 1) := by decide +kernel
theorem d_LC_entryOf_2 : decode b_LC_entryOf 2 = .ok (.iload_n 2, 1) := by decide +kernel
theorem d_LC_entryOf_3 : decode b_LC_entryOf 3 = .ok (.bipush 6, 2) := by decide +kernel
theorem d_LC_entryOf_5 : decode b_LC_entryOf 5 = .ok (.if_icmp .ge 29, 3) := by decide +kernel
theorem d_LC_entryOf_8 : decode b_LC_entryOf 8 = .ok (.aload_n 0, 1) := by decide +kernel
theorem d_LC_entryOf_9 : decode b_LC_entryOf 9 = .ok (.getfield 17, 3) := by decide +kernel
theorem d_LC_entryOf_12 : decode b_LC_entryOf 12 = .ok (.iload_n 2, 1) := by decide +kernel
theorem d_LC_entryOf_13 : decode b_LC_entryOf 13 = .ok (.aaload, 1) := by decide +kernel
theorem d_LC_entryOf_14 : decode b_LC_entryOf 14 = .ok (.getfield 157, 3) := by decide +kernel
theorem d_LC_entryOf_17 : decode b_LC_entryOf 17 = .ok (.iload_n 1, 1) := by decide +kernel
theorem d_LC_entryOf_18 : decode b_LC_entryOf 18 = .ok (.if_icmp .ne 10, 3) := by decide +kernel
theorem d_LC_entryOf_21 : decode b_LC_entryOf 21 = .ok (.aload_n 0, 1) := by decide +kernel
theorem d_LC_entryOf_22 : decode b_LC_entryOf 22 = .ok (.getfield 17, 3) := by decide +kernel
theorem d_LC_entryOf_25 : decode b_LC_entryOf 25 = .ok (.iload_n 2, 1) := by decide +kernel
theorem d_LC_entryOf_26 : decode b_LC_entryOf 26 = .ok (.aaload, 1) := by decide +kernel
theorem d_LC_entryOf_27 : decode b_LC_entryOf 27 = .ok (.areturn, 1) := by decide +kernel
theorem d_LC_entryOf_28 : decode b_LC_entryOf 28 = .ok (.iinc 2 1, 3) := by decide +kernel
theorem d_LC_entryOf_31 : decode b_LC_entryOf 31 = .ok (.goto (-29), 3) := by decide +kernel
theorem d_LC_entryOf_34 : decode b_LC_entryOf 34 = .ok (.aconst_null, 1) := by decide +kernel
theorem d_LC_entryOf_35 : decode b_LC_entryOf 35 = .ok (.areturn, 1) := by decide +kernel
theorem d_LC_least_0 : decode b_LC_least 0 = .ok (.aconst_null, 1) := by decide +kernel
theorem d_LC_least_1 : decode b_LC_least 1 = .ok (.astore_n 2, 1) := by decide +kernel
theorem d_LC_least_2 : decode b_LC_least 2 = .ok (.iconst 0, 1) := by decide +kernel
theorem d_LC_least_3 : decode b_LC_least 3 = .ok (.istore_n 3, 1) := by decide +kernel
theorem d_LC_least_4 : decode b_LC_least 4 = .ok (.iload_n 3, 1) := by decide +kernel
theorem d_LC_least_5 : decode b_LC_least 5 = .ok (.bipush 6, 2) := by decide +kernel
theorem d_LC_least_7 : decode b_LC_least 7 = .ok (.if_icmp .ge 85, 3) := by decide +kernel
theorem d_LC_least_10 : decode b_LC_least 10 = .ok (.aload_n 0, 1) := by decide +kernel
theorem d_LC_least_11 : decode b_LC_least 11 = .ok (.getfield 17, 3) := by decide +kernel
theorem d_LC_least_14 : decode b_LC_least 14 = .ok (.iload_n 3, 1) := by decide +kernel
theorem d_LC_least_15 : decode b_LC_least 15 = .ok (.aaload, 1) := by decide +kernel
theorem d_LC_least_16 : decode b_LC_least 16 = .ok (.astore 4, 2) := by decide +kernel
theorem d_LC_least_18 : decode b_LC_least 18 = .ok (.iload_n 1, 1) := by decide +kernel
theorem d_LC_least_19 : decode b_LC_least 19 = .ok (.ifCond .eq 27, 3) := by decide +kernel
theorem d_LC_least_22 : decode b_LC_least 22 = .ok (.aload 4, 2) := by decide +kernel
theorem d_LC_least_24 : decode b_LC_least 24 = .ok (.getfield 158, 3) := by decide +kernel
theorem d_LC_least_27 : decode b_LC_least 27 = .ok (.ifnull 15, 3) := by decide +kernel
theorem d_LC_least_30 : decode b_LC_least 30 = .ok (.aload 4, 2) := by decide +kernel
theorem d_LC_least_32 : decode b_LC_least 32 = .ok (.getfield 162, 3) := by decide +kernel
theorem d_LC_least_35 : decode b_LC_least 35 = .ok (.ifnonnull 7, 3) := by decide +kernel
theorem d_LC_least_38 : decode b_LC_least 38 = .ok (.iconst 1, 1) := by decide +kernel
theorem d_LC_least_39 : decode b_LC_least 39 = .ok (.goto 20, 3) := by decide +kernel
theorem d_LC_least_42 : decode b_LC_least 42 = .ok (.iconst 0, 1) := by decide +kernel
theorem d_LC_least_43 : decode b_LC_least 43 = .ok (.goto 16, 3) := by decide +kernel
theorem d_LC_least_46 : decode b_LC_least 46 = .ok (.aload 4, 2) := by decide +kernel
theorem d_LC_least_48 : decode b_LC_least 48 = .ok (.getfield 158, 3) := by decide +kernel
theorem d_LC_least_51 : decode b_LC_least 51 = .ok (.ifnonnull 7, 3) := by decide +kernel
theorem d_LC_least_54 : decode b_LC_least 54 = .ok (.iconst 1, 1) := by decide +kernel
theorem d_LC_least_55 : decode b_LC_least 55 = .ok (.goto 4, 3) := by decide +kernel
theorem d_LC_least_58 : decode b_LC_least 58 = .ok (.iconst 0, 1) := by decide +kernel
theorem d_LC_least_59 : decode b_LC_least 59 = .ok (.istore 5, 2) := by decide +kernel
theorem d_LC_least_61 : decode b_LC_least 61 = .ok (.iload 5, 2) := by decide +kernel
theorem d_LC_least_63 : decode b_LC_least 63 = .ok (.ifCond .eq 23, 3) := by decide +kernel
theorem d_LC_least_66 : decode b_LC_least 66 = .ok (.aload_n 2, 1) := by decide +kernel
theorem d_LC_least_67 : decode b_LC_least 67 = .ok (.ifnull 16, 3) := by decide +kernel
theorem d_LC_least_70 : decode b_LC_least 70 = .ok (.aload 4, 2) := by decide +kernel
theorem d_LC_least_72 : decode b_LC_least 72 = .ok (.getfield 166, 3) := by decide +kernel
theorem d_LC_least_75 : decode b_LC_least 75 = .ok (.aload_n 2, 1) := by decide +kernel
theorem d_LC_least_76 : decode b_LC_least 76 = .ok (.getfield 166, 3) := by decide +kernel
theorem d_LC_least_79 : decode b_LC_least 79 = .ok (.lcmp, 1) := by decide +kernel
theorem d_LC_least_80 : decode b_LC_least 80 = .ok (.ifCond .ge 6, 3) := by decide +kernel
theorem d_LC_least_83 : decode b_LC_least 83 = .ok (.aload 4, 2) := by decide +kernel
theorem d_LC_least_85 : decode b_LC_least 85 = .ok (.astore_n 2, 1) := by decide +kernel
theorem d_LC_least_86 : decode b_LC_least 86 = .ok (.iinc 3 1, 3) := by decide +kernel
theorem d_LC_least_89 : decode b_LC_least 89 = .ok (.goto (-85), 3) := by decide +kernel
theorem d_LC_least_92 : decode b_LC_least 92 = .ok (.aload_n 2, 1) := by decide +kernel
theorem d_LC_least_93 : decode b_LC_least 93 = .ok (.areturn, 1) := by decide +kernel
theorem d_LC_newEntry_0 : decode b_LC_newEntry 0 = .ok (.aload_n 0, 1) := by decide +kernel
theorem d_LC_newEntry_1 : decode b_LC_newEntry 1 = .ok (.iconst (-1), 1) := by decide +kernel
theorem d_LC_newEntry_2 : decode b_LC_newEntry 2 = .ok (.invokevirtual 169, 3) := by decide +kernel
theorem d_LC_newEntry_5 : decode b_LC_newEntry 5 = .ok (.astore_n 2, 1) := by decide +kernel
theorem d_LC_newEntry_6 : decode b_LC_newEntry 6 = .ok (.aload_n 2, 1) := by decide +kernel
theorem d_LC_newEntry_7 : decode b_LC_newEntry 7 = .ok (.ifnonnull 41, 3) := by decide +kernel
theorem d_LC_newEntry_10 : decode b_LC_newEntry 10 = .ok (.aload_n 0, 1) := by decide +kernel
theorem d_LC_newEntry_11 : decode b_LC_newEntry 11 = .ok (.iconst 0, 1) := by decide +kernel
theorem d_LC_newEntry_12 : decode b_LC_newEntry 12 = .ok (.invokevirtual 173, 3) := by decide +kernel
theorem d_LC_newEntry_15 : decode b_LC_newEntry 15 = .ok (.astore_n 2, 1) := by decide +kernel
theorem d_LC_newEntry_16 : decode b_LC_newEntry 16 = .ok (.aload_n 2, 1) := by decide +kernel
theorem d_LC_newEntry_17 : decode b_LC_newEntry 17 = .ok (.ifnull 31, 3) := by decide +kernel
theorem d_LC_newEntry_20 : decode b_LC_newEntry 20 = .ok (.aload_n 0, 1) := by decide +kernel
theorem d_LC_newEntry_21 : decode b_LC_newEntry 21 = .ok (.getfield 21, 3) := by decide +kernel
theorem d_LC_newEntry_24 : decode b_LC_newEntry 24 = .ok (.aload_n 2, 1) := by decide +kernel
theorem d_LC_newEntry_25 : decode b_LC_newEntry 25 = .ok (.getfield 157, 3) := by decide +kernel
theorem d_LC_newEntry_28 : decode b_LC_newEntry 28 = .ok (.aload_n 2, 1) := by decide +kernel
theorem d_LC_newEntry_29 : decode b_LC_newEntry 29 = .ok (.getfield 177, 3) := by decide +kernel
theorem d_LC_newEntry_32 : decode b_LC_newEntry 32 = .ok (.iastore, 1) := by decide +kernel
theorem d_LC_newEntry_33 : decode b_LC_newEntry 33 = .ok (.aload_n 0, 1) := by decide +kernel
theorem d_LC_newEntry_34 : decode b_LC_newEntry 34 = .ok (.aload_n 0, 1) := by decide +kernel
theorem d_LC_newEntry_35 : decode b_LC_newEntry 35 = .ok (.getfield 180, 3) := by decide +kernel
theorem d_LC_newEntry_38 : decode b_LC_newEntry 38 = .ok (.aload_n 2, 1) := by decide +kernel
theorem d_LC_newEntry_39 : decode b_LC_newEntry 39 = .ok (.getfield 166, 3) := by decide +kernel
theorem d_LC_newEntry_42 : decode b_LC_newEntry 42 = .ok (.invokestatic 183, 3) := by decide +kernel
theorem d_LC_newEntry_45 : decode b_LC_newEntry 45 = .ok (.putfield 180, 3) := by decide +kernel
theorem d_LC_newEntry_48 : decode b_LC_newEntry 48 = .ok (.aload_n 2, 1) := by decide +kernel
theorem d_LC_newEntry_49 : decode b_LC_newEntry 49 = .ok (.ifnonnull 9, 3) := by decide +kernel
theorem d_LC_newEntry_52 : decode b_LC_newEntry 52 = .ok (.aload_n 0, 1) := by decide +kernel
theorem d_LC_newEntry_53 : decode b_LC_newEntry 53 = .ok (.invokevirtual 186, 3) := by decide +kernel
theorem d_LC_newEntry_56 : decode b_LC_newEntry 56 = .ok (.aconst_null, 1) := by decide +kernel
theorem d_LC_newEntry_57 : decode b_LC_newEntry 57 = .ok (.areturn, 1) := by decide +kernel
theorem d_LC_newEntry_58 : decode b_LC_newEntry 58 = .ok (.aload_n 2, 1) := by decide +kernel
theorem d_LC_newEntry_59 : decode b_LC_newEntry 59 = .ok (.iload_n 1, 1) := by decide +kernel
theorem d_LC_newEntry_60 : decode b_LC_newEntry 60 = .ok (.aload_n 0, 1) := by decide +kernel
theorem d_LC_newEntry_61 : decode b_LC_newEntry 61 = .ok (.getfield 21, 3) := by decide +kernel
theorem d_LC_newEntry_64 : decode b_LC_newEntry 64 = .ok (.iload_n 1, 1) := by decide +kernel
theorem d_LC_newEntry_65 : decode b_LC_newEntry 65 = .ok (.iaload, 1) := by decide +kernel
theorem d_LC_newEntry_66 : decode b_LC_newEntry 66 = .ok (.aload_n 0, 1) := by decide +kernel
theorem d_LC_newEntry_67 : decode b_LC_newEntry 67 = .ok (.getfield 180, 3) := by decide +kernel
theorem d_LC_newEntry_70 : decode b_LC_newEntry 70 = .ok (.invokevirtual 189, 3) := by decide +kernel
theorem d_LC_newEntry_73 : decode b_LC_newEntry 73 = .ok (.aload_n 2, 1) := by decide +kernel
theorem d_LC_newEntry_74 : decode b_LC_newEntry 74 = .ok (.areturn, 1) := by decide +kernel
theorem d_LC_call_0 : decode b_LC_call 0 = .ok (.iconst 0, 1) := by decide +kernel
theorem d_LC_call_1 : decode b_LC_call 1 = .ok (.istore_n 1, 1) := by decide +kernel
theorem d_LC_call_2 : decode b_LC_call 2 = .ok (.iconst 0, 1) := by decide +kernel
theorem d_LC_call_3 : decode b_LC_call 3 = .ok (.istore_n 2, 1) := by decide +kernel
theorem d_LC_call_4 : decode b_LC_call 4 = .ok (.iload_n 2, 1) := by decide +kernel
theorem d_LC_call_5 : decode b_LC_call 5 = .ok (.bipush 6, 2) := by decide +kernel
theorem d_LC_call_7 : decode b_LC_call 7 = .ok (.if_icmp .ge 31, 3) := by decide +kernel
theorem d_LC_call_10 : decode b_LC_call 10 = .ok (.iload_n 1, 1) := by decide +kernel
theorem d_LC_call_11 : decode b_LC_call 11 = .ok (.ifCond .ne 15, 3) := by decide +kernel
theorem d_LC_call_14 : decode b_LC_call 14 = .ok (.aload_n 0, 1) := by decide +kernel
theorem d_LC_call_15 : decode b_LC_call 15 = .ok (.getfield 17, 3) := by decide +kernel
theorem d_LC_call_18 : decode b_LC_call 18 = .ok (.iload_n 2, 1) := by decide +kernel
theorem d_LC_call_19 : decode b_LC_call 19 = .ok (.aaload, 1) := by decide +kernel
theorem d_LC_call_20 : decode b_LC_call 20 = .ok (.getfield 193, 3) := by decide +kernel
theorem d_LC_call_23 : decode b_LC_call 23 = .ok (.ifCond .eq 7, 3) := by decide +kernel
theorem d_LC_call_26 : decode b_LC_call 26 = .ok (.iconst 1, 1) := by decide +kernel
theorem d_LC_call_27 : decode b_LC_call 27 = .ok (.goto 4, 3) := by decide +kernel
theorem d_LC_call_30 : decode b_LC_call 30 = .ok (.iconst 0, 1) := by decide +kernel
theorem d_LC_call_31 : decode b_LC_call 31 = .ok (.istore_n 1, 1) := by decide +kernel
theorem d_LC_call_32 : decode b_LC_call 32 = .ok (.iinc 2 1, 3) := by decide +kernel
theorem d_LC_call_35 : decode b_LC_call 35 = .ok (.goto (-31), 3) := by decide +kernel
theorem d_LC_call_38 : decode b_LC_call 38 = .ok (.iload_n 1, 1) := by decide +kernel
theorem d_LC_call_39 : decode b_LC_call 39 = .ok (.ifCond .eq 7, 3) := by decide +kernel
theorem d_LC_call_42 : decode b_LC_call 42 = .ok (.aconst_null, 1) := by decide +kernel
theorem d_LC_call_43 : decode b_LC_call 43 = .ok (.goto 8, 3) := by decide +kernel
theorem d_LC_call_46 : decode b_LC_call 46 = .ok (.aload_n 0, 1) := by decide +kernel
theorem d_LC_call_47 : decode b_LC_call 47 = .ok (.iconst 1, 1) := by decide +kernel
theorem d_LC_call_48 : decode b_LC_call 48 = .ok (.invokevirtual 173, 3) := by decide +kernel
theorem d_LC_call_51 : decode b_LC_call 51 = .ok (.astore_n 2, 1) := by decide +kernel
theorem d_LC_call_52 : decode b_LC_call 52 = .ok (.aload_n 2, 1) := by decide +kernel
theorem d_LC_call_53 : decode b_LC_call 53 = .ok (.ifnull 23, 3) := by decide +kernel
theorem d_LC_call_56 : decode b_LC_call 56 = .ok (.aload_n 2, 1) := by decide +kernel
theorem d_LC_call_57 : decode b_LC_call 57 = .ok (.iconst 1, 1) := by decide +kernel
theorem d_LC_call_58 : decode b_LC_call 58 = .ok (.putfield 193, 3) := by decide +kernel
theorem d_LC_call_61 : decode b_LC_call 61 = .ok (.aload_n 0, 1) := by decide +kernel
theorem d_LC_call_62 : decode b_LC_call 62 = .ok (.new 54, 3) := by decide +kernel
theorem d_LC_call_65 : decode b_LC_call 65 = .ok (.dup, 1) := by decide +kernel
theorem d_LC_call_66 : decode b_LC_call 66 = .ok (.bipush 6, 2) := by decide +kernel
theorem d_LC_call_68 : decode b_LC_call 68 = .ok (.aload_n 2, 1) := by decide +kernel
theorem d_LC_call_69 : decode b_LC_call 69 = .ok (.lconst 0, 1) := by decide +kernel
theorem d_LC_call_70 : decode b_LC_call 70 = .ok (.invokespecial 196, 3) := by decide +kernel
theorem d_LC_call_73 : decode b_LC_call 73 = .ok (.invokevirtual 95, 3) := by decide +kernel
theorem d_LC_call_76 : decode b_LC_call 76 = .ok (.return_, 1) := by decide +kernel
theorem d_LC_serve_0 : decode b_LC_serve 0 = .ok (.aload_n 1, 1) := by decide +kernel
theorem d_LC_serve_1 : decode b_LC_serve 1 = .ok (.getfield 158, 3) := by decide +kernel
theorem d_LC_serve_4 : decode b_LC_serve 4 = .ok (.ifnull 52, 3) := by decide +kernel
theorem d_LC_serve_7 : decode b_LC_serve 7 = .ok (.aload_n 1, 1) := by decide +kernel
theorem d_LC_serve_8 : decode b_LC_serve 8 = .ok (.aload_n 2, 1) := by decide +kernel
theorem d_LC_serve_9 : decode b_LC_serve 9 = .ok (.putfield 162, 3) := by decide +kernel
theorem d_LC_serve_12 : decode b_LC_serve 12 = .ok (.aload_n 1, 1) := by decide +kernel
theorem d_LC_serve_13 : decode b_LC_serve 13 = .ok (.getfield 193, 3) := by decide +kernel
theorem d_LC_serve_16 : decode b_LC_serve 16 = .ok (.ifCond .ne 39, 3) := by decide +kernel
theorem d_LC_serve_19 : decode b_LC_serve 19 = .ok (.aload_n 0, 1) := by decide +kernel
theorem d_LC_serve_20 : decode b_LC_serve 20 = .ok (.new 54, 3) := by decide +kernel
theorem d_LC_serve_23 : decode b_LC_serve 23 = .ok (.dup, 1) := by decide +kernel
theorem d_LC_serve_24 : decode b_LC_serve 24 = .ok (.aload_n 2, 1) := by decide +kernel
theorem d_LC_serve_25 : decode b_LC_serve 25 = .ok (.getfield 199, 3) := by decide +kernel
theorem d_LC_serve_28 : decode b_LC_serve 28 = .ok (.iconst 1, 1) := by decide +kernel
theorem d_LC_serve_29 : decode b_LC_serve 29 = .ok (.if_icmp .ne 7, 3) := by decide +kernel
theorem d_LC_serve_32 : decode b_LC_serve 32 = .ok (.iconst 5, 1) := by decide +kernel
theorem d_LC_serve_33 : decode b_LC_serve 33 = .ok (.goto 5, 3) := by decide +kernel
theorem d_LC_serve_36 : decode b_LC_serve 36 = .ok (.bipush 6, 2) := by decide +kernel
theorem d_LC_serve_38 : decode b_LC_serve 38 = .ok (.aload_n 1, 1) := by decide +kernel
theorem d_LC_serve_39 : decode b_LC_serve 39 = .ok (.aload_n 2, 1) := by decide +kernel
theorem d_LC_serve_40 : decode b_LC_serve 40 = .ok (.getfield 200, 3) := by decide +kernel
theorem d_LC_serve_43 : decode b_LC_serve 43 = .ok (.aload_n 0, 1) := by decide +kernel
theorem d_LC_serve_44 : decode b_LC_serve 44 = .ok (.getfield 40, 3) := by decide +kernel
theorem d_LC_serve_47 : decode b_LC_serve 47 = .ok (.i2l, 1) := by decide +kernel
theorem d_LC_serve_48 : decode b_LC_serve 48 = .ok (.ladd, 1) := by decide +kernel
theorem d_LC_serve_49 : decode b_LC_serve 49 = .ok (.invokespecial 196, 3) := by decide +kernel
theorem d_LC_serve_52 : decode b_LC_serve 52 = .ok (.invokevirtual 95, 3) := by decide +kernel
theorem d_LC_serve_55 : decode b_LC_serve 55 = .ok (.return_, 1) := by decide +kernel
theorem d_LC_serve_56 : decode b_LC_serve 56 = .ok (.aload_n 2, 1) := by decide +kernel
theorem d_LC_serve_57 : decode b_LC_serve 57 = .ok (.getfield 199, 3) := by decide +kernel
theorem d_LC_serve_60 : decode b_LC_serve 60 = .ok (.iconst 1, 1) := by decide +kernel
theorem d_LC_serve_61 : decode b_LC_serve 61 = .ok (.if_icmp .ne 40, 3) := by decide +kernel
theorem d_LC_serve_64 : decode b_LC_serve 64 = .ok (.aload_n 1, 1) := by decide +kernel
theorem d_LC_serve_65 : decode b_LC_serve 65 = .ok (.aload_n 1, 1) := by decide +kernel
theorem d_LC_serve_66 : decode b_LC_serve 66 = .ok (.getfield 166, 3) := by decide +kernel
theorem d_LC_serve_69 : decode b_LC_serve 69 = .ok (.aload_n 1, 1) := by decide +kernel
theorem d_LC_serve_70 : decode b_LC_serve 70 = .ok (.getfield 201, 3) := by decide +kernel
theorem d_LC_serve_73 : decode b_LC_serve 73 = .ok (.aload_n 0, 1) := by decide +kernel
theorem d_LC_serve_74 : decode b_LC_serve 74 = .ok (.getfield 40, 3) := by decide +kernel
theorem d_LC_serve_77 : decode b_LC_serve 77 = .ok (.i2l, 1) := by decide +kernel
theorem d_LC_serve_78 : decode b_LC_serve 78 = .ok (.ladd, 1) := by decide +kernel
theorem d_LC_serve_79 : decode b_LC_serve 79 = .ok (.aload_n 2, 1) := by decide +kernel
theorem d_LC_serve_80 : decode b_LC_serve 80 = .ok (.getfield 200, 3) := by decide +kernel
theorem d_LC_serve_83 : decode b_LC_serve 83 = .ok (.aload_n 0, 1) := by decide +kernel
theorem d_LC_serve_84 : decode b_LC_serve 84 = .ok (.getfield 40, 3) := by decide +kernel
theorem d_LC_serve_87 : decode b_LC_serve 87 = .ok (.i2l, 1) := by decide +kernel
theorem d_LC_serve_88 : decode b_LC_serve 88 = .ok (.ladd, 1) := by decide +kernel
theorem d_LC_serve_89 : decode b_LC_serve 89 = .ok (.invokestatic 183, 3) := by decide +kernel
theorem d_LC_serve_92 : decode b_LC_serve 92 = .ok (.invokestatic 183, 3) := by decide +kernel
theorem d_LC_serve_95 : decode b_LC_serve 95 = .ok (.putfield 166, 3) := by decide +kernel
theorem d_LC_serve_98 : decode b_LC_serve 98 = .ok (.goto 11, 3) := by decide +kernel
theorem d_LC_serve_101 : decode b_LC_serve 101 = .ok (.aload_n 1, 1) := by decide +kernel
theorem d_LC_serve_102 : decode b_LC_serve 102 = .ok (.aload_n 2, 1) := by decide +kernel
theorem d_LC_serve_103 : decode b_LC_serve 103 = .ok (.getfield 202, 3) := by decide +kernel
theorem d_LC_serve_106 : decode b_LC_serve 106 = .ok (.putfield 158, 3) := by decide +kernel
theorem d_LC_serve_109 : decode b_LC_serve 109 = .ok (.aload_n 0, 1) := by decide +kernel
theorem d_LC_serve_110 : decode b_LC_serve 110 = .ok (.new 205, 3) := by decide +kernel
theorem d_LC_serve_113 : decode b_LC_serve 113 = .ok (.dup, 1) := by decide +kernel
theorem d_LC_serve_114 : decode b_LC_serve 114 = .ok (.aload_n 2, 1) := by decide +kernel
theorem d_LC_serve_115 : decode b_LC_serve 115 = .ok (.getfield 207, 3) := by decide +kernel
theorem d_LC_serve_118 : decode b_LC_serve 118 = .ok (.aload_n 1, 1) := by decide +kernel
theorem d_LC_serve_119 : decode b_LC_serve 119 = .ok (.getfield 201, 3) := by decide +kernel
theorem d_LC_serve_122 : decode b_LC_serve 122 = .ok (.lcmp, 1) := by decide +kernel
theorem d_LC_serve_123 : decode b_LC_serve 123 = .ok (.ifCond .ne 7, 3) := by decide +kernel
theorem d_LC_serve_126 : decode b_LC_serve 126 = .ok (.iconst 4, 1) := by decide +kernel
theorem d_LC_serve_127 : decode b_LC_serve 127 = .ok (.goto 4, 3) := by decide +kernel
theorem d_LC_serve_130 : decode b_LC_serve 130 = .ok (.iconst 3, 1) := by decide +kernel
theorem d_LC_serve_131 : decode b_LC_serve 131 = .ok (.aload_n 1, 1) := by decide +kernel
theorem d_LC_serve_132 : decode b_LC_serve 132 = .ok (.aload_n 2, 1) := by decide +kernel
theorem d_LC_serve_133 : decode b_LC_serve 133 = .ok (.invokespecial 208, 3) := by decide +kernel
theorem d_LC_serve_136 : decode b_LC_serve 136 = .ok (.invokevirtual 95, 3) := by decide +kernel
theorem d_LC_serve_139 : decode b_LC_serve 139 = .ok (.return_, 1) := by decide +kernel
theorem d_LC_messages_0 : decode b_LC_messages 0 = .ok (.aload_n 0, 1) := by decide +kernel
theorem d_LC_messages_1 : decode b_LC_messages 1 = .ok (.getfield 51, 3) := by decide +kernel
theorem d_LC_messages_4 : decode b_LC_messages 4 = .ok (.ireturn, 1) := by decide +kernel
theorem d_LC_message_0 : decode b_LC_message 0 = .ok (.aload_n 0, 1) := by decide +kernel
theorem d_LC_message_1 : decode b_LC_message 1 = .ok (.iload_n 1, 1) := by decide +kernel
theorem d_LC_message_2 : decode b_LC_message 2 = .ok (.invokevirtual 62, 3) := by decide +kernel
theorem d_LC_message_5 : decode b_LC_message 5 = .ok (.astore_n 3, 1) := by decide +kernel
theorem d_LC_message_6 : decode b_LC_message 6 = .ok (.iload_n 2, 1) := by decide +kernel
theorem d_LC_message_7 : decode b_LC_message 7 = .ok (.tableswitch 60 0 3 #[29, 34, 39, 47], 29) := by decide +kernel
theorem d_LC_message_36 : decode b_LC_message 36 = .ok (.aload_n 3, 1) := by decide +kernel
theorem d_LC_message_37 : decode b_LC_message 37 = .ok (.getfield 211, 3) := by decide +kernel
theorem d_LC_message_40 : decode b_LC_message 40 = .ok (.ireturn, 1) := by decide +kernel
theorem d_LC_message_41 : decode b_LC_message 41 = .ok (.aload_n 3, 1) := by decide +kernel
theorem d_LC_message_42 : decode b_LC_message 42 = .ok (.getfield 56, 3) := by decide +kernel
theorem d_LC_message_45 : decode b_LC_message 45 = .ok (.ireturn, 1) := by decide +kernel
theorem d_LC_message_46 : decode b_LC_message 46 = .ok (.aload_n 3, 1) := by decide +kernel
theorem d_LC_message_47 : decode b_LC_message 47 = .ok (.getfield 212, 3) := by decide +kernel
theorem d_LC_message_50 : decode b_LC_message 50 = .ok (.getfield 213, 3) := by decide +kernel
theorem d_LC_message_53 : decode b_LC_message 53 = .ok (.ireturn, 1) := by decide +kernel
theorem d_LC_message_54 : decode b_LC_message 54 = .ok (.aload_n 3, 1) := by decide +kernel
theorem d_LC_message_55 : decode b_LC_message 55 = .ok (.invokevirtual 216, 3) := by decide +kernel
theorem d_LC_message_58 : decode b_LC_message 58 = .ok (.ifCond .eq 7, 3) := by decide +kernel
theorem d_LC_message_61 : decode b_LC_message 61 = .ok (.iconst 1, 1) := by decide +kernel
theorem d_LC_message_62 : decode b_LC_message 62 = .ok (.goto 4, 3) := by decide +kernel
theorem d_LC_message_65 : decode b_LC_message 65 = .ok (.iconst 0, 1) := by decide +kernel
theorem d_LC_message_66 : decode b_LC_message 66 = .ok (.ireturn, 1) := by decide +kernel
theorem d_LC_message_67 : decode b_LC_message 67 = .ok (.new 99, 3) := by decide +kernel
theorem d_LC_message_70 : decode b_LC_message 70 = .ok (.dup, 1) := by decide +kernel
theorem d_LC_message_71 : decode b_LC_message 71 = .ok (.invokespecial 101, 3) := by decide +kernel
theorem d_LC_message_74 : decode b_LC_message 74 = .ok (.athrow, 1) := by decide +kernel
theorem d_LC_core_0 : decode b_LC_core 0 = .ok (.aload_n 0, 1) := by decide +kernel
theorem d_LC_core_1 : decode b_LC_core 1 = .ok (.iload_n 1, 1) := by decide +kernel
theorem d_LC_core_2 : decode b_LC_core 2 = .ok (.invokevirtual 102, 3) := by decide +kernel
theorem d_LC_core_5 : decode b_LC_core 5 = .ok (.astore_n 3, 1) := by decide +kernel
theorem d_LC_core_6 : decode b_LC_core 6 = .ok (.iload_n 2, 1) := by decide +kernel
theorem d_LC_core_7 : decode b_LC_core 7 = .ok (.tableswitch 66 0 4 #[33, 46, 51, 56, 61], 33) := by decide +kernel
theorem d_LC_core_40 : decode b_LC_core 40 = .ok (.aload_n 3, 1) := by decide +kernel
theorem d_LC_core_41 : decode b_LC_core 41 = .ok (.getfield 109, 3) := by decide +kernel
theorem d_LC_core_44 : decode b_LC_core 44 = .ok (.ifCond .eq 7, 3) := by decide +kernel
theorem d_LC_core_47 : decode b_LC_core 47 = .ok (.iconst 1, 1) := by decide +kernel
theorem d_LC_core_48 : decode b_LC_core 48 = .ok (.goto 4, 3) := by decide +kernel
theorem d_LC_core_51 : decode b_LC_core 51 = .ok (.iconst 0, 1) := by decide +kernel
theorem d_LC_core_52 : decode b_LC_core 52 = .ok (.ireturn, 1) := by decide +kernel
theorem d_LC_core_53 : decode b_LC_core 53 = .ok (.aload_n 3, 1) := by decide +kernel
theorem d_LC_core_54 : decode b_LC_core 54 = .ok (.getfield 115, 3) := by decide +kernel
theorem d_LC_core_57 : decode b_LC_core 57 = .ok (.ireturn, 1) := by decide +kernel
theorem d_LC_core_58 : decode b_LC_core 58 = .ok (.aload_n 3, 1) := by decide +kernel
theorem d_LC_core_59 : decode b_LC_core 59 = .ok (.getfield 220, 3) := by decide +kernel
theorem d_LC_core_62 : decode b_LC_core 62 = .ok (.ireturn, 1) := by decide +kernel
theorem d_LC_core_63 : decode b_LC_core 63 = .ok (.aload_n 3, 1) := by decide +kernel
theorem d_LC_core_64 : decode b_LC_core 64 = .ok (.getfield 223, 3) := by decide +kernel
theorem d_LC_core_67 : decode b_LC_core 67 = .ok (.ireturn, 1) := by decide +kernel
theorem d_LC_core_68 : decode b_LC_core 68 = .ok (.aload_n 3, 1) := by decide +kernel
theorem d_LC_core_69 : decode b_LC_core 69 = .ok (.getfield 226, 3) := by decide +kernel
theorem d_LC_core_72 : decode b_LC_core 72 = .ok (.ireturn, 1) := by decide +kernel
theorem d_LC_core_73 : decode b_LC_core 73 = .ok (.new 99, 3) := by decide +kernel
theorem d_LC_core_76 : decode b_LC_core 76 = .ok (.dup, 1) := by decide +kernel
theorem d_LC_core_77 : decode b_LC_core 77 = .ok (.invokespecial 101, 3) := by decide +kernel
theorem d_LC_core_80 : decode b_LC_core 80 = .ok (.athrow, 1) := by decide +kernel
theorem d_LC_time_0 : decode b_LC_time 0 = .ok (.aload_n 0, 1) := by decide +kernel
theorem d_LC_time_1 : decode b_LC_time 1 = .ok (.iload_n 1, 1) := by decide +kernel
theorem d_LC_time_2 : decode b_LC_time 2 = .ok (.invokevirtual 102, 3) := by decide +kernel
theorem d_LC_time_5 : decode b_LC_time 5 = .ok (.getfield 118, 3) := by decide +kernel
theorem d_LC_time_8 : decode b_LC_time 8 = .ok (.lreturn, 1) := by decide +kernel
theorem d_LC_cached_0 : decode b_LC_cached 0 = .ok (.aload_n 0, 1) := by decide +kernel
theorem d_LC_cached_1 : decode b_LC_cached 1 = .ok (.iload_n 1, 1) := by decide +kernel
theorem d_LC_cached_2 : decode b_LC_cached 2 = .ok (.invokevirtual 102, 3) := by decide +kernel
theorem d_LC_cached_5 : decode b_LC_cached 5 = .ok (.astore 4, 2) := by decide +kernel
theorem d_LC_cached_7 : decode b_LC_cached 7 = .ok (.iload_n 2, 1) := by decide +kernel
theorem d_LC_cached_8 : decode b_LC_cached 8 = .ok (.invokestatic 106, 3) := by decide +kernel
theorem d_LC_cached_11 : decode b_LC_cached 11 = .ok (.iload_n 3, 1) := by decide +kernel
theorem d_LC_cached_12 : decode b_LC_cached 12 = .ok (.ifCond .lt 8, 3) := by decide +kernel
theorem d_LC_cached_15 : decode b_LC_cached 15 = .ok (.iload_n 3, 1) := by decide +kernel
theorem d_LC_cached_16 : decode b_LC_cached 16 = .ok (.iconst 3, 1) := by decide +kernel
theorem d_LC_cached_17 : decode b_LC_cached 17 = .ok (.if_icmp .le 11, 3) := by decide +kernel
theorem d_LC_cached_20 : decode b_LC_cached 20 = .ok (.new 99, 3) := by decide +kernel
theorem d_LC_cached_23 : decode b_LC_cached 23 = .ok (.dup, 1) := by decide +kernel
theorem d_LC_cached_24 : decode b_LC_cached 24 = .ok (.invokespecial 101, 3) := by decide +kernel
theorem d_LC_cached_27 : decode b_LC_cached 27 = .ok (.athrow, 1) := by decide +kernel
theorem d_LC_cached_28 : decode b_LC_cached 28 = .ok (.aload 4, 2) := by decide +kernel
theorem d_LC_cached_30 : decode b_LC_cached 30 = .ok (.iload_n 2, 1) := by decide +kernel
theorem d_LC_cached_31 : decode b_LC_cached 31 = .ok (.invokevirtual 132, 3) := by decide +kernel
theorem d_LC_cached_34 : decode b_LC_cached 34 = .ok (.astore 5, 2) := by decide +kernel
theorem d_LC_cached_36 : decode b_LC_cached 36 = .ok (.aload 5, 2) := by decide +kernel
theorem d_LC_cached_38 : decode b_LC_cached 38 = .ok (.ifnonnull 11, 3) := by decide +kernel
theorem d_LC_cached_41 : decode b_LC_cached 41 = .ok (.new 74, 3) := by decide +kernel
theorem d_LC_cached_44 : decode b_LC_cached 44 = .ok (.dup, 1) := by decide +kernel
theorem d_LC_cached_45 : decode b_LC_cached 45 = .ok (.invokespecial 76, 3) := by decide +kernel
theorem d_LC_cached_48 : decode b_LC_cached 48 = .ok (.athrow, 1) := by decide +kernel
theorem d_LC_cached_49 : decode b_LC_cached 49 = .ok (.iload_n 3, 1) := by decide +kernel
theorem d_LC_cached_50 : decode b_LC_cached 50 = .ok (.ifCond .ne 19, 3) := by decide +kernel
theorem d_LC_cached_53 : decode b_LC_cached 53 = .ok (.aload 5, 2) := by decide +kernel
theorem d_LC_cached_55 : decode b_LC_cached 55 = .ok (.getfield 86, 3) := by decide +kernel
theorem d_LC_cached_58 : decode b_LC_cached 58 = .ok (.ifCond .eq 7, 3) := by decide +kernel
theorem d_LC_cached_61 : decode b_LC_cached 61 = .ok (.lconst 1, 1) := by decide +kernel
theorem d_LC_cached_62 : decode b_LC_cached 62 = .ok (.goto 39, 3) := by decide +kernel
theorem d_LC_cached_65 : decode b_LC_cached 65 = .ok (.lconst 0, 1) := by decide +kernel
theorem d_LC_cached_66 : decode b_LC_cached 66 = .ok (.goto 35, 3) := by decide +kernel
theorem d_LC_cached_69 : decode b_LC_cached 69 = .ok (.iload_n 3, 1) := by decide +kernel
theorem d_LC_cached_70 : decode b_LC_cached 70 = .ok (.iconst 1, 1) := by decide +kernel
theorem d_LC_cached_71 : decode b_LC_cached 71 = .ok (.if_icmp .ne 12, 3) := by decide +kernel
theorem d_LC_cached_74 : decode b_LC_cached 74 = .ok (.aload 5, 2) := by decide +kernel
theorem d_LC_cached_76 : decode b_LC_cached 76 = .ok (.getfield 229, 3) := by decide +kernel
theorem d_LC_cached_79 : decode b_LC_cached 79 = .ok (.i2l, 1) := by decide +kernel
theorem d_LC_cached_80 : decode b_LC_cached 80 = .ok (.goto 21, 3) := by decide +kernel
theorem d_LC_cached_83 : decode b_LC_cached 83 = .ok (.iload_n 3, 1) := by decide +kernel
theorem d_LC_cached_84 : decode b_LC_cached 84 = .ok (.iconst 2, 1) := by decide +kernel
theorem d_LC_cached_85 : decode b_LC_cached 85 = .ok (.if_icmp .ne 11, 3) := by decide +kernel
theorem d_LC_cached_88 : decode b_LC_cached 88 = .ok (.aload 5, 2) := by decide +kernel
theorem d_LC_cached_90 : decode b_LC_cached 90 = .ok (.getfield 151, 3) := by decide +kernel
theorem d_LC_cached_93 : decode b_LC_cached 93 = .ok (.goto 8, 3) := by decide +kernel
theorem d_LC_cached_96 : decode b_LC_cached 96 = .ok (.aload 5, 2) := by decide +kernel
theorem d_LC_cached_98 : decode b_LC_cached 98 = .ok (.getfield 230, 3) := by decide +kernel
theorem d_LC_cached_101 : decode b_LC_cached 101 = .ok (.lreturn, 1) := by decide +kernel
theorem d_LC_entry_0 : decode b_LC_entry 0 = .ok (.iload_n 1, 1) := by decide +kernel
theorem d_LC_entry_1 : decode b_LC_entry 1 = .ok (.invokestatic 106, 3) := by decide +kernel
theorem d_LC_entry_4 : decode b_LC_entry 4 = .ok (.iload_n 2, 1) := by decide +kernel
theorem d_LC_entry_5 : decode b_LC_entry 5 = .ok (.ifCond .lt 8, 3) := by decide +kernel
theorem d_LC_entry_8 : decode b_LC_entry 8 = .ok (.iload_n 2, 1) := by decide +kernel
theorem d_LC_entry_9 : decode b_LC_entry 9 = .ok (.iconst 5, 1) := by decide +kernel
theorem d_LC_entry_10 : decode b_LC_entry 10 = .ok (.if_icmp .le 11, 3) := by decide +kernel
theorem d_LC_entry_13 : decode b_LC_entry 13 = .ok (.new 99, 3) := by decide +kernel
theorem d_LC_entry_16 : decode b_LC_entry 16 = .ok (.dup, 1) := by decide +kernel
theorem d_LC_entry_17 : decode b_LC_entry 17 = .ok (.invokespecial 101, 3) := by decide +kernel
theorem d_LC_entry_20 : decode b_LC_entry 20 = .ok (.athrow, 1) := by decide +kernel
theorem d_LC_entry_21 : decode b_LC_entry 21 = .ok (.aload_n 0, 1) := by decide +kernel
theorem d_LC_entry_22 : decode b_LC_entry 22 = .ok (.iload_n 1, 1) := by decide +kernel
theorem d_LC_entry_23 : decode b_LC_entry 23 = .ok (.invokevirtual 169, 3) := by decide +kernel
theorem d_LC_entry_26 : decode b_LC_entry 26 = .ok (.astore_n 3, 1) := by decide +kernel
theorem d_LC_entry_27 : decode b_LC_entry 27 = .ok (.aload_n 3, 1) := by decide +kernel
theorem d_LC_entry_28 : decode b_LC_entry 28 = .ok (.ifnonnull 11, 3) := by decide +kernel
theorem d_LC_entry_31 : decode b_LC_entry 31 = .ok (.new 74, 3) := by decide +kernel
theorem d_LC_entry_34 : decode b_LC_entry 34 = .ok (.dup, 1) := by decide +kernel
theorem d_LC_entry_35 : decode b_LC_entry 35 = .ok (.invokespecial 76, 3) := by decide +kernel
theorem d_LC_entry_38 : decode b_LC_entry 38 = .ok (.athrow, 1) := by decide +kernel
theorem d_LC_entry_39 : decode b_LC_entry 39 = .ok (.iload_n 2, 1) := by decide +kernel
theorem d_LC_entry_40 : decode b_LC_entry 40 = .ok (.tableswitch 87 0 4 #[36, 42, 47, 52, 74], 36) := by decide +kernel
theorem d_LC_entry_76 : decode b_LC_entry 76 = .ok (.aload_n 3, 1) := by decide +kernel
theorem d_LC_entry_77 : decode b_LC_entry 77 = .ok (.getfield 177, 3) := by decide +kernel
theorem d_LC_entry_80 : decode b_LC_entry 80 = .ok (.i2l, 1) := by decide +kernel
theorem d_LC_entry_81 : decode b_LC_entry 81 = .ok (.lreturn, 1) := by decide +kernel
theorem d_LC_entry_82 : decode b_LC_entry 82 = .ok (.aload_n 3, 1) := by decide +kernel
theorem d_LC_entry_83 : decode b_LC_entry 83 = .ok (.getfield 201, 3) := by decide +kernel
theorem d_LC_entry_86 : decode b_LC_entry 86 = .ok (.lreturn, 1) := by decide +kernel
theorem d_LC_entry_87 : decode b_LC_entry 87 = .ok (.aload_n 3, 1) := by decide +kernel
theorem d_LC_entry_88 : decode b_LC_entry 88 = .ok (.getfield 166, 3) := by decide +kernel
theorem d_LC_entry_91 : decode b_LC_entry 91 = .ok (.lreturn, 1) := by decide +kernel
theorem d_LC_entry_92 : decode b_LC_entry 92 = .ok (.aload_n 3, 1) := by decide +kernel
theorem d_LC_entry_93 : decode b_LC_entry 93 = .ok (.getfield 158, 3) := by decide +kernel
theorem d_LC_entry_96 : decode b_LC_entry 96 = .ok (.ifnonnull 9, 3) := by decide +kernel
theorem d_LC_entry_99 : decode b_LC_entry 99 = .ok (.ldc2_w 149, 3) := by decide +kernel
theorem d_LC_entry_102 : decode b_LC_entry 102 = .ok (.goto 11, 3) := by decide +kernel
theorem d_LC_entry_105 : decode b_LC_entry 105 = .ok (.aload_n 3, 1) := by decide +kernel
theorem d_LC_entry_106 : decode b_LC_entry 106 = .ok (.getfield 158, 3) := by decide +kernel
theorem d_LC_entry_109 : decode b_LC_entry 109 = .ok (.getfield 213, 3) := by decide +kernel
theorem d_LC_entry_112 : decode b_LC_entry 112 = .ok (.i2l, 1) := by decide +kernel
theorem d_LC_entry_113 : decode b_LC_entry 113 = .ok (.lreturn, 1) := by decide +kernel
theorem d_LC_entry_114 : decode b_LC_entry 114 = .ok (.aload_n 3, 1) := by decide +kernel
theorem d_LC_entry_115 : decode b_LC_entry 115 = .ok (.getfield 162, 3) := by decide +kernel
theorem d_LC_entry_118 : decode b_LC_entry 118 = .ok (.ifnonnull 7, 3) := by decide +kernel
theorem d_LC_entry_121 : decode b_LC_entry 121 = .ok (.lconst 0, 1) := by decide +kernel
theorem d_LC_entry_122 : decode b_LC_entry 122 = .ok (.goto 4, 3) := by decide +kernel
theorem d_LC_entry_125 : decode b_LC_entry 125 = .ok (.lconst 1, 1) := by decide +kernel
theorem d_LC_entry_126 : decode b_LC_entry 126 = .ok (.lreturn, 1) := by decide +kernel
theorem d_LC_entry_127 : decode b_LC_entry 127 = .ok (.aload_n 3, 1) := by decide +kernel
theorem d_LC_entry_128 : decode b_LC_entry 128 = .ok (.getfield 231, 3) := by decide +kernel
theorem d_LC_entry_131 : decode b_LC_entry 131 = .ok (.i2l, 1) := by decide +kernel
theorem d_LC_entry_132 : decode b_LC_entry 132 = .ok (.lreturn, 1) := by decide +kernel
theorem d_LC_memory_0 : decode b_LC_memory 0 = .ok (.iload_n 1, 1) := by decide +kernel
theorem d_LC_memory_1 : decode b_LC_memory 1 = .ok (.invokestatic 106, 3) := by decide +kernel
theorem d_LC_memory_4 : decode b_LC_memory 4 = .ok (.aload_n 0, 1) := by decide +kernel
theorem d_LC_memory_5 : decode b_LC_memory 5 = .ok (.getfield 21, 3) := by decide +kernel
theorem d_LC_memory_8 : decode b_LC_memory 8 = .ok (.iload_n 1, 1) := by decide +kernel
theorem d_LC_memory_9 : decode b_LC_memory 9 = .ok (.iaload, 1) := by decide +kernel
theorem d_LC_memory_10 : decode b_LC_memory 10 = .ok (.ireturn, 1) := by decide +kernel
theorem d_LC_stamp_0 : decode b_LC_stamp 0 = .ok (.aload_n 0, 1) := by decide +kernel
theorem d_LC_stamp_1 : decode b_LC_stamp 1 = .ok (.getfield 180, 3) := by decide +kernel
theorem d_LC_stamp_4 : decode b_LC_stamp 4 = .ok (.lreturn, 1) := by decide +kernel
theorem d_Answer_init_0 : decode b_Answer_init 0 = .ok (.aload_n 0, 1) := by decide +kernel
theorem d_Answer_init_1 : decode b_Answer_init 1 = .ok (.iload_n 1, 1) := by decide +kernel
theorem d_Answer_init_2 : decode b_Answer_init 2 = .ok (.aload_n 2, 1) := by decide +kernel
theorem d_Answer_init_3 : decode b_Answer_init 3 = .ok (.getfield 3, 3) := by decide +kernel
theorem d_Answer_init_6 : decode b_Answer_init 6 = .ok (.aload_n 3, 1) := by decide +kernel
theorem d_Answer_init_7 : decode b_Answer_init 7 = .ok (.getfield 9, 3) := by decide +kernel
theorem d_Answer_init_10 : decode b_Answer_init 10 = .ok (.invokespecial 15, 3) := by decide +kernel
theorem d_Answer_init_13 : decode b_Answer_init 13 = .ok (.aload_n 0, 1) := by decide +kernel
theorem d_Answer_init_14 : decode b_Answer_init 14 = .ok (.aload_n 2, 1) := by decide +kernel
theorem d_Answer_init_15 : decode b_Answer_init 15 = .ok (.getfield 21, 3) := by decide +kernel
theorem d_Answer_init_18 : decode b_Answer_init 18 = .ok (.putfield 24, 3) := by decide +kernel
theorem d_Answer_init_21 : decode b_Answer_init 21 = .ok (.aload_n 0, 1) := by decide +kernel
theorem d_Answer_init_22 : decode b_Answer_init 22 = .ok (.aload_n 2, 1) := by decide +kernel
theorem d_Answer_init_23 : decode b_Answer_init 23 = .ok (.getfield 27, 3) := by decide +kernel
theorem d_Answer_init_26 : decode b_Answer_init 26 = .ok (.putfield 31, 3) := by decide +kernel
theorem d_Answer_init_29 : decode b_Answer_init 29 = .ok (.aload_n 0, 1) := by decide +kernel
theorem d_Answer_init_30 : decode b_Answer_init 30 = .ok (.aload_n 2, 1) := by decide +kernel
theorem d_Answer_init_31 : decode b_Answer_init 31 = .ok (.getfield 32, 3) := by decide +kernel
theorem d_Answer_init_34 : decode b_Answer_init 34 = .ok (.putfield 35, 3) := by decide +kernel
theorem d_Answer_init_37 : decode b_Answer_init 37 = .ok (.aload_n 0, 1) := by decide +kernel
theorem d_Answer_init_38 : decode b_Answer_init 38 = .ok (.aload_n 3, 1) := by decide +kernel
theorem d_Answer_init_39 : decode b_Answer_init 39 = .ok (.getfield 36, 3) := by decide +kernel
theorem d_Answer_init_42 : decode b_Answer_init 42 = .ok (.iconst 2, 1) := by decide +kernel
theorem d_Answer_init_43 : decode b_Answer_init 43 = .ok (.if_icmp .ne 7, 3) := by decide +kernel
theorem d_Answer_init_46 : decode b_Answer_init 46 = .ok (.iconst 1, 1) := by decide +kernel
theorem d_Answer_init_47 : decode b_Answer_init 47 = .ok (.goto 4, 3) := by decide +kernel
theorem d_Answer_init_50 : decode b_Answer_init 50 = .ok (.iconst 0, 1) := by decide +kernel
theorem d_Answer_init_51 : decode b_Answer_init 51 = .ok (.putfield 39, 3) := by decide +kernel
theorem d_Answer_init_54 : decode b_Answer_init 54 = .ok (.return_, 1) := by decide +kernel
theorem d_Answer_arrive_0 : decode b_Answer_arrive 0 = .ok (.aload_n 0, 1) := by decide +kernel
theorem d_Answer_arrive_1 : decode b_Answer_arrive 1 = .ok (.getfield 43, 3) := by decide +kernel
theorem d_Answer_arrive_4 : decode b_Answer_arrive 4 = .ok (.aload_n 0, 1) := by decide +kernel
theorem d_Answer_arrive_5 : decode b_Answer_arrive 5 = .ok (.getfield 44, 3) := by decide +kernel
theorem d_Answer_arrive_8 : decode b_Answer_arrive 8 = .ok (.invokevirtual 45, 3) := by decide +kernel
theorem d_Answer_arrive_11 : decode b_Answer_arrive 11 = .ok (.astore_n 2, 1) := by decide +kernel
theorem d_Answer_arrive_12 : decode b_Answer_arrive 12 = .ok (.aload_n 0, 1) := by decide +kernel
theorem d_Answer_arrive_13 : decode b_Answer_arrive 13 = .ok (.getfield 51, 3) := by decide +kernel
theorem d_Answer_arrive_16 : decode b_Answer_arrive 16 = .ok (.iconst 4, 1) := by decide +kernel
theorem d_Answer_arrive_17 : decode b_Answer_arrive 17 = .ok (.if_icmp .ne 14, 3) := by decide +kernel
theorem d_Answer_arrive_20 : decode b_Answer_arrive 20 = .ok (.aload_n 2, 1) := by decide +kernel
theorem d_Answer_arrive_21 : decode b_Answer_arrive 21 = .ok (.aload_n 0, 1) := by decide +kernel
theorem d_Answer_arrive_22 : decode b_Answer_arrive 22 = .ok (.getfield 35, 3) := by decide +kernel
theorem d_Answer_arrive_25 : decode b_Answer_arrive 25 = .ok (.putfield 52, 3) := by decide +kernel
theorem d_Answer_arrive_28 : decode b_Answer_arrive 28 = .ok (.goto 40, 3) := by decide +kernel
theorem d_Answer_arrive_31 : decode b_Answer_arrive 31 = .ok (.aload_n 1, 1) := by decide +kernel
theorem d_Answer_arrive_32 : decode b_Answer_arrive 32 = .ok (.aload_n 0, 1) := by decide +kernel
theorem d_Answer_arrive_33 : decode b_Answer_arrive 33 = .ok (.getfield 43, 3) := by decide +kernel
theorem d_Answer_arrive_36 : decode b_Answer_arrive 36 = .ok (.aload_n 2, 1) := by decide +kernel
theorem d_Answer_arrive_37 : decode b_Answer_arrive 37 = .ok (.aload_n 0, 1) := by decide +kernel
theorem d_Answer_arrive_38 : decode b_Answer_arrive 38 = .ok (.getfield 44, 3) := by decide +kernel
theorem d_Answer_arrive_41 : decode b_Answer_arrive 41 = .ok (.invokevirtual 55, 3) := by decide +kernel
theorem d_Answer_arrive_44 : decode b_Answer_arrive 44 = .ok (.aload_n 2, 1) := by decide +kernel
theorem d_Answer_arrive_45 : decode b_Answer_arrive 45 = .ok (.aload_n 0, 1) := by decide +kernel
theorem d_Answer_arrive_46 : decode b_Answer_arrive 46 = .ok (.getfield 44, 3) := by decide +kernel
theorem d_Answer_arrive_49 : decode b_Answer_arrive 49 = .ok (.putfield 59, 3) := by decide +kernel
theorem d_Answer_arrive_52 : decode b_Answer_arrive 52 = .ok (.aload_n 2, 1) := by decide +kernel
theorem d_Answer_arrive_53 : decode b_Answer_arrive 53 = .ok (.aload_n 0, 1) := by decide +kernel
theorem d_Answer_arrive_54 : decode b_Answer_arrive 54 = .ok (.getfield 24, 3) := by decide +kernel
theorem d_Answer_arrive_57 : decode b_Answer_arrive 57 = .ok (.aload_n 0, 1) := by decide +kernel
theorem d_Answer_arrive_58 : decode b_Answer_arrive 58 = .ok (.getfield 31, 3) := by decide +kernel
theorem d_Answer_arrive_61 : decode b_Answer_arrive 61 = .ok (.aload_n 0, 1) := by decide +kernel
theorem d_Answer_arrive_62 : decode b_Answer_arrive 62 = .ok (.getfield 35, 3) := by decide +kernel
theorem d_Answer_arrive_65 : decode b_Answer_arrive 65 = .ok (.invokevirtual 60, 3) := by decide +kernel
theorem d_Answer_arrive_68 : decode b_Answer_arrive 68 = .ok (.aload_n 2, 1) := by decide +kernel
theorem d_Answer_arrive_69 : decode b_Answer_arrive 69 = .ok (.aload_n 0, 1) := by decide +kernel
theorem d_Answer_arrive_70 : decode b_Answer_arrive 70 = .ok (.getfield 39, 3) := by decide +kernel
theorem d_Answer_arrive_73 : decode b_Answer_arrive 73 = .ok (.putfield 64, 3) := by decide +kernel
theorem d_Answer_arrive_76 : decode b_Answer_arrive 76 = .ok (.aload_n 1, 1) := by decide +kernel
theorem d_Answer_arrive_77 : decode b_Answer_arrive 77 = .ok (.aload_n 2, 1) := by decide +kernel
theorem d_Answer_arrive_78 : decode b_Answer_arrive 78 = .ok (.invokevirtual 65, 3) := by decide +kernel
theorem d_Answer_arrive_81 : decode b_Answer_arrive 81 = .ok (.aload_n 0, 1) := by decide +kernel
theorem d_Answer_arrive_82 : decode b_Answer_arrive 82 = .ok (.getfield 43, 3) := by decide +kernel
theorem d_Answer_arrive_85 : decode b_Answer_arrive 85 = .ok (.aload_n 2, 1) := by decide +kernel
theorem d_Answer_arrive_86 : decode b_Answer_arrive 86 = .ok (.invokevirtual 69, 3) := by decide +kernel
theorem d_Answer_arrive_89 : decode b_Answer_arrive 89 = .ok (.iconst 1, 1) := by decide +kernel
theorem d_Answer_arrive_90 : decode b_Answer_arrive 90 = .ok (.ireturn, 1) := by decide +kernel
theorem d_Call_init_0 : decode b_Call_init 0 = .ok (.aload_n 0, 1) := by decide +kernel
theorem d_Call_init_1 : decode b_Call_init 1 = .ok (.iload_n 1, 1) := by decide +kernel
theorem d_Call_init_2 : decode b_Call_init 2 = .ok (.aload_n 2, 1) := by decide +kernel
theorem d_Call_init_3 : decode b_Call_init 3 = .ok (.getfield 3, 3) := by decide +kernel
theorem d_Call_init_6 : decode b_Call_init 6 = .ok (.aload_n 2, 1) := by decide +kernel
theorem d_Call_init_7 : decode b_Call_init 7 = .ok (.getfield 9, 3) := by decide +kernel
theorem d_Call_init_10 : decode b_Call_init 10 = .ok (.invokespecial 13, 3) := by decide +kernel
theorem d_Call_init_13 : decode b_Call_init 13 = .ok (.aload_n 0, 1) := by decide +kernel
theorem d_Call_init_14 : decode b_Call_init 14 = .ok (.lload_n 3, 1) := by decide +kernel
theorem d_Call_init_15 : decode b_Call_init 15 = .ok (.putfield 19, 3) := by decide +kernel
theorem d_Call_init_18 : decode b_Call_init 18 = .ok (.return_, 1) := by decide +kernel
theorem d_Call_arrive_0 : decode b_Call_arrive 0 = .ok (.aload_n 0, 1) := by decide +kernel
theorem d_Call_arrive_1 : decode b_Call_arrive 1 = .ok (.getfield 25, 3) := by decide +kernel
theorem d_Call_arrive_4 : decode b_Call_arrive 4 = .ok (.aload_n 0, 1) := by decide +kernel
theorem d_Call_arrive_5 : decode b_Call_arrive 5 = .ok (.getfield 28, 3) := by decide +kernel
theorem d_Call_arrive_8 : decode b_Call_arrive 8 = .ok (.invokevirtual 29, 3) := by decide +kernel
theorem d_Call_arrive_11 : decode b_Call_arrive 11 = .ok (.astore_n 2, 1) := by decide +kernel
theorem d_Call_arrive_12 : decode b_Call_arrive 12 = .ok (.aload_n 2, 1) := by decide +kernel
theorem d_Call_arrive_13 : decode b_Call_arrive 13 = .ok (.ifnull 14, 3) := by decide +kernel
theorem d_Call_arrive_16 : decode b_Call_arrive 16 = .ok (.aload_n 2, 1) := by decide +kernel
theorem d_Call_arrive_17 : decode b_Call_arrive 17 = .ok (.getfield 35, 3) := by decide +kernel
theorem d_Call_arrive_20 : decode b_Call_arrive 20 = .ok (.ifCond .eq 7, 3) := by decide +kernel
theorem d_Call_arrive_23 : decode b_Call_arrive 23 = .ok (.iconst 1, 1) := by decide +kernel
theorem d_Call_arrive_24 : decode b_Call_arrive 24 = .ok (.goto 4, 3) := by decide +kernel
theorem d_Call_arrive_27 : decode b_Call_arrive 27 = .ok (.iconst 0, 1) := by decide +kernel
theorem d_Call_arrive_28 : decode b_Call_arrive 28 = .ok (.istore_n 3, 1) := by decide +kernel
theorem d_Call_arrive_29 : decode b_Call_arrive 29 = .ok (.iload_n 3, 1) := by decide +kernel
theorem d_Call_arrive_30 : decode b_Call_arrive 30 = .ok (.ifCond .ne 33, 3) := by decide +kernel
theorem d_Call_arrive_33 : decode b_Call_arrive 33 = .ok (.aload_n 0, 1) := by decide +kernel
theorem d_Call_arrive_34 : decode b_Call_arrive 34 = .ok (.getfield 25, 3) := by decide +kernel
theorem d_Call_arrive_37 : decode b_Call_arrive 37 = .ok (.getfield 41, 3) := by decide +kernel
theorem d_Call_arrive_40 : decode b_Call_arrive 40 = .ok (.ifCond .eq 17, 3) := by decide +kernel
theorem d_Call_arrive_43 : decode b_Call_arrive 43 = .ok (.aload_n 0, 1) := by decide +kernel
theorem d_Call_arrive_44 : decode b_Call_arrive 44 = .ok (.getfield 25, 3) := by decide +kernel
theorem d_Call_arrive_47 : decode b_Call_arrive 47 = .ok (.getfield 44, 3) := by decide +kernel
theorem d_Call_arrive_50 : decode b_Call_arrive 50 = .ok (.aload_n 0, 1) := by decide +kernel
theorem d_Call_arrive_51 : decode b_Call_arrive 51 = .ok (.getfield 28, 3) := by decide +kernel
theorem d_Call_arrive_54 : decode b_Call_arrive 54 = .ok (.if_icmp .eq 7, 3) := by decide +kernel
theorem d_Call_arrive_57 : decode b_Call_arrive 57 = .ok (.iconst 1, 1) := by decide +kernel
theorem d_Call_arrive_58 : decode b_Call_arrive 58 = .ok (.goto 4, 3) := by decide +kernel
theorem d_Call_arrive_61 : decode b_Call_arrive 61 = .ok (.iconst 0, 1) := by decide +kernel
theorem d_Call_arrive_62 : decode b_Call_arrive 62 = .ok (.ireturn, 1) := by decide +kernel
theorem d_Call_arrive_63 : decode b_Call_arrive 63 = .ok (.aload_n 0, 1) := by decide +kernel
theorem d_Call_arrive_64 : decode b_Call_arrive 64 = .ok (.getfield 45, 3) := by decide +kernel
theorem d_Call_arrive_67 : decode b_Call_arrive 67 = .ok (.iconst 5, 1) := by decide +kernel
theorem d_Call_arrive_68 : decode b_Call_arrive 68 = .ok (.if_icmp .ne 57, 3) := by decide +kernel
theorem d_Call_arrive_71 : decode b_Call_arrive 71 = .ok (.aload_n 2, 1) := by decide +kernel
theorem d_Call_arrive_72 : decode b_Call_arrive 72 = .ok (.aload_n 2, 1) := by decide +kernel
theorem d_Call_arrive_73 : decode b_Call_arrive 73 = .ok (.getfield 48, 3) := by decide +kernel
theorem d_Call_arrive_76 : decode b_Call_arrive 76 = .ok (.aload_n 2, 1) := by decide +kernel
theorem d_Call_arrive_77 : decode b_Call_arrive 77 = .ok (.getfield 51, 3) := by decide +kernel
theorem d_Call_arrive_80 : decode b_Call_arrive 80 = .ok (.aload_n 1, 1) := by decide +kernel
theorem d_Call_arrive_81 : decode b_Call_arrive 81 = .ok (.getfield 54, 3) := by decide +kernel
theorem d_Call_arrive_84 : decode b_Call_arrive 84 = .ok (.i2l, 1) := by decide +kernel
theorem d_Call_arrive_85 : decode b_Call_arrive 85 = .ok (.ladd, 1) := by decide +kernel
theorem d_Call_arrive_86 : decode b_Call_arrive 86 = .ok (.aload_n 0, 1) := by decide +kernel
theorem d_Call_arrive_87 : decode b_Call_arrive 87 = .ok (.getfield 19, 3) := by decide +kernel
theorem d_Call_arrive_90 : decode b_Call_arrive 90 = .ok (.invokestatic 57, 3) := by decide +kernel
theorem d_Call_arrive_93 : decode b_Call_arrive 93 = .ok (.invokestatic 57, 3) := by decide +kernel
theorem d_Call_arrive_96 : decode b_Call_arrive 96 = .ok (.putfield 48, 3) := by decide +kernel
theorem d_Call_arrive_99 : decode b_Call_arrive 99 = .ok (.aload_n 2, 1) := by decide +kernel
theorem d_Call_arrive_100 : decode b_Call_arrive 100 = .ok (.iconst 0, 1) := by decide +kernel
theorem d_Call_arrive_101 : decode b_Call_arrive 101 = .ok (.putfield 35, 3) := by decide +kernel
theorem d_Call_arrive_104 : decode b_Call_arrive 104 = .ok (.aload_n 1, 1) := by decide +kernel
theorem d_Call_arrive_105 : decode b_Call_arrive 105 = .ok (.new 63, 3) := by decide +kernel
theorem d_Call_arrive_108 : decode b_Call_arrive 108 = .ok (.dup, 1) := by decide +kernel
theorem d_Call_arrive_109 : decode b_Call_arrive 109 = .ok (.bipush 8, 2) := by decide +kernel
theorem d_Call_arrive_111 : decode b_Call_arrive 111 = .ok (.aload_n 0, 1) := by decide +kernel
theorem d_Call_arrive_112 : decode b_Call_arrive 112 = .ok (.getfield 25, 3) := by decide +kernel
theorem d_Call_arrive_115 : decode b_Call_arrive 115 = .ok (.aload_n 2, 1) := by decide +kernel
theorem d_Call_arrive_116 : decode b_Call_arrive 116 = .ok (.invokespecial 65, 3) := by decide +kernel
theorem d_Call_arrive_119 : decode b_Call_arrive 119 = .ok (.invokevirtual 68, 3) := by decide +kernel
theorem d_Call_arrive_122 : decode b_Call_arrive 122 = .ok (.goto 31, 3) := by decide +kernel
theorem d_Call_arrive_125 : decode b_Call_arrive 125 = .ok (.aload_n 1, 1) := by decide +kernel
theorem d_Call_arrive_126 : decode b_Call_arrive 126 = .ok (.new 63, 3) := by decide +kernel
theorem d_Call_arrive_129 : decode b_Call_arrive 129 = .ok (.dup, 1) := by decide +kernel
theorem d_Call_arrive_130 : decode b_Call_arrive 130 = .ok (.bipush 7, 2) := by decide +kernel
theorem d_Call_arrive_132 : decode b_Call_arrive 132 = .ok (.aload_n 0, 1) := by decide +kernel
theorem d_Call_arrive_133 : decode b_Call_arrive 133 = .ok (.getfield 25, 3) := by decide +kernel
theorem d_Call_arrive_136 : decode b_Call_arrive 136 = .ok (.aload_n 2, 1) := by decide +kernel
theorem d_Call_arrive_137 : decode b_Call_arrive 137 = .ok (.invokespecial 65, 3) := by decide +kernel
theorem d_Call_arrive_140 : decode b_Call_arrive 140 = .ok (.invokevirtual 68, 3) := by decide +kernel
theorem d_Call_arrive_143 : decode b_Call_arrive 143 = .ok (.aload_n 2, 1) := by decide +kernel
theorem d_Call_arrive_144 : decode b_Call_arrive 144 = .ok (.iconst (-1), 1) := by decide +kernel
theorem d_Call_arrive_145 : decode b_Call_arrive 145 = .ok (.putfield 72, 3) := by decide +kernel
theorem d_Call_arrive_148 : decode b_Call_arrive 148 = .ok (.aload_n 2, 1) := by decide +kernel
theorem d_Call_arrive_149 : decode b_Call_arrive 149 = .ok (.iconst 0, 1) := by decide +kernel
theorem d_Call_arrive_150 : decode b_Call_arrive 150 = .ok (.putfield 35, 3) := by decide +kernel
theorem d_Call_arrive_153 : decode b_Call_arrive 153 = .ok (.iconst 1, 1) := by decide +kernel
theorem d_Call_arrive_154 : decode b_Call_arrive 154 = .ok (.ireturn, 1) := by decide +kernel
theorem d_Core_init_0 : decode b_Core_init 0 = .ok (.aload_n 0, 1) := by decide +kernel
theorem d_Core_init_1 : decode b_Core_init 1 = .ok (.invokespecial 3, 3) := by decide +kernel
theorem d_Core_init_4 : decode b_Core_init 4 = .ok (.aload_n 0, 1) := by decide +kernel
theorem d_Core_init_5 : decode b_Core_init 5 = .ok (.iconst 4, 1) := by decide +kernel
theorem d_Core_init_6 : decode b_Core_init 6 = .ok (.anewarray 9, 3) := by decide +kernel
theorem d_Core_init_9 : decode b_Core_init 9 = .ok (.putfield 11, 3) := by decide +kernel
theorem d_Core_init_12 : decode b_Core_init 12 = .ok (.aload_n 0, 1) := by decide +kernel
theorem d_Core_init_13 : decode b_Core_init 13 = .ok (.iconst (-1), 1) := by decide +kernel
theorem d_Core_init_14 : decode b_Core_init 14 = .ok (.putfield 17, 3) := by decide +kernel
theorem d_Core_init_17 : decode b_Core_init 17 = .ok (.aload_n 0, 1) := by decide +kernel
theorem d_Core_init_18 : decode b_Core_init 18 = .ok (.iconst (-1), 1) := by decide +kernel
theorem d_Core_init_19 : decode b_Core_init 19 = .ok (.putfield 21, 3) := by decide +kernel
theorem d_Core_init_22 : decode b_Core_init 22 = .ok (.aload_n 0, 1) := by decide +kernel
theorem d_Core_init_23 : decode b_Core_init 23 = .ok (.iload_n 1, 1) := by decide +kernel
theorem d_Core_init_24 : decode b_Core_init 24 = .ok (.putfield 24, 3) := by decide +kernel
theorem d_Core_init_27 : decode b_Core_init 27 = .ok (.iconst 0, 1) := by decide +kernel
theorem d_Core_init_28 : decode b_Core_init 28 = .ok (.istore_n 2, 1) := by decide +kernel
theorem d_Core_init_29 : decode b_Core_init 29 = .ok (.iload_n 2, 1) := by decide +kernel
theorem d_Core_init_30 : decode b_Core_init 30 = .ok (.iconst 4, 1) := by decide +kernel
theorem d_Core_init_31 : decode b_Core_init 31 = .ok (.if_icmp .ge 22, 3) := by decide +kernel
theorem d_Core_init_34 : decode b_Core_init 34 = .ok (.aload_n 0, 1) := by decide +kernel
theorem d_Core_init_35 : decode b_Core_init 35 = .ok (.getfield 11, 3) := by decide +kernel
theorem d_Core_init_38 : decode b_Core_init 38 = .ok (.iload_n 2, 1) := by decide +kernel
theorem d_Core_init_39 : decode b_Core_init 39 = .ok (.new 9, 3) := by decide +kernel
theorem d_Core_init_42 : decode b_Core_init 42 = .ok (.dup, 1) := by decide +kernel
theorem d_Core_init_43 : decode b_Core_init 43 = .ok (.invokespecial 27, 3) := by decide +kernel
theorem d_Core_init_46 : decode b_Core_init 46 = .ok (.aastore, 1) := by decide +kernel
theorem d_Core_init_47 : decode b_Core_init 47 = .ok (.iinc 2 1, 3) := by decide +kernel
theorem d_Core_init_50 : decode b_Core_init 50 = .ok (.goto (-21), 3) := by decide +kernel
theorem d_Core_init_53 : decode b_Core_init 53 = .ok (.return_, 1) := by decide +kernel
theorem d_Core_find_0 : decode b_Core_find 0 = .ok (.iconst 0, 1) := by decide +kernel
theorem d_Core_find_1 : decode b_Core_find 1 = .ok (.istore_n 2, 1) := by decide +kernel
theorem d_Core_find_2 : decode b_Core_find 2 = .ok (.iload_n 2, 1) := by decide +kernel
theorem d_Core_find_3 : decode b_Core_find 3 = .ok (.iconst 4, 1) := by decide +kernel
theorem d_Core_find_4 : decode b_Core_find 4 = .ok (.if_icmp .ge 29, 3) := by decide +kernel
theorem d_Core_find_7 : decode b_Core_find 7 = .ok (.aload_n 0, 1) := by decide +kernel
theorem d_Core_find_8 : decode b_Core_find 8 = .ok (.getfield 11, 3) := by decide +kernel
theorem d_Core_find_11 : decode b_Core_find 11 = .ok (.iload_n 2, 1) := by decide +kernel
theorem d_Core_find_12 : decode b_Core_find 12 = .ok (.aaload, 1) := by decide +kernel
theorem d_Core_find_13 : decode b_Core_find 13 = .ok (.getfield 28, 3) := by decide +kernel
theorem d_Core_find_16 : decode b_Core_find 16 = .ok (.iload_n 1, 1) := by decide +kernel
theorem d_Core_find_17 : decode b_Core_find 17 = .ok (.if_icmp .ne 10, 3) := by decide +kernel
theorem d_Core_find_20 : decode b_Core_find 20 = .ok (.aload_n 0, 1) := by decide +kernel
theorem d_Core_find_21 : decode b_Core_find 21 = .ok (.getfield 11, 3) := by decide +kernel
theorem d_Core_find_24 : decode b_Core_find 24 = .ok (.iload_n 2, 1) := by decide +kernel
theorem d_Core_find_25 : decode b_Core_find 25 = .ok (.aaload, 1) := by decide +kernel
theorem d_Core_find_26 : decode b_Core_find 26 = .ok (.areturn, 1) := by decide +kernel
theorem d_Core_find_27 : decode b_Core_find 27 = .ok (.iinc 2 1, 3) := by decide +kernel
theorem d_Core_find_30 : decode b_Core_find 30 = .ok (.goto (-28), 3) := by decide +kernel
theorem d_Core_find_33 : decode b_Core_find 33 = .ok (.aconst_null, 1) := by decide +kernel
theorem d_Core_find_34 : decode b_Core_find 34 = .ok (.areturn, 1) := by decide +kernel
theorem d_Core_room_0 : decode b_Core_room 0 = .ok (.aload_n 0, 1) := by decide +kernel
theorem d_Core_room_1 : decode b_Core_room 1 = .ok (.iload_n 1, 1) := by decide +kernel
theorem d_Core_room_2 : decode b_Core_room 2 = .ok (.invokevirtual 31, 3) := by decide +kernel
theorem d_Core_room_5 : decode b_Core_room 5 = .ok (.astore_n 2, 1) := by decide +kernel
theorem d_Core_room_6 : decode b_Core_room 6 = .ok (.aload_n 0, 1) := by decide +kernel
theorem d_Core_room_7 : decode b_Core_room 7 = .ok (.getfield 11, 3) := by decide +kernel
theorem d_Core_room_10 : decode b_Core_room 10 = .ok (.iload_n 1, 1) := by decide +kernel
theorem d_Core_room_11 : decode b_Core_room 11 = .ok (.iconst 2, 1) := by decide +kernel
theorem d_Core_room_12 : decode b_Core_room 12 = .ok (.irem, 1) := by decide +kernel
theorem d_Core_room_13 : decode b_Core_room 13 = .ok (.iconst 2, 1) := by decide +kernel
theorem d_Core_room_14 : decode b_Core_room 14 = .ok (.imul, 1) := by decide +kernel
theorem d_Core_room_15 : decode b_Core_room 15 = .ok (.aaload, 1) := by decide +kernel
theorem d_Core_room_16 : decode b_Core_room 16 = .ok (.astore_n 3, 1) := by decide +kernel
theorem d_Core_room_17 : decode b_Core_room 17 = .ok (.aload_n 0, 1) := by decide +kernel
theorem d_Core_room_18 : decode b_Core_room 18 = .ok (.getfield 11, 3) := by decide +kernel
theorem d_Core_room_21 : decode b_Core_room 21 = .ok (.iload_n 1, 1) := by decide +kernel
theorem d_Core_room_22 : decode b_Core_room 22 = .ok (.iconst 2, 1) := by decide +kernel
theorem d_Core_room_23 : decode b_Core_room 23 = .ok (.irem, 1) := by decide +kernel
theorem d_Core_room_24 : decode b_Core_room 24 = .ok (.iconst 2, 1) := by decide +kernel
theorem d_Core_room_25 : decode b_Core_room 25 = .ok (.imul, 1) := by decide +kernel
theorem d_Core_room_26 : decode b_Core_room 26 = .ok (.iconst 1, 1) := by decide +kernel
theorem d_Core_room_27 : decode b_Core_room 27 = .ok (.iadd, 1) := by decide +kernel
theorem d_Core_room_28 : decode b_Core_room 28 = .ok (.aaload, 1) := by decide +kernel
theorem d_Core_room_29 : decode b_Core_room 29 = .ok (.astore 4, 2) := by decide +kernel
theorem d_Core_room_31 : decode b_Core_room 31 = .ok (.aload_n 2, 1) := by decide +kernel
theorem d_Core_room_32 : decode b_Core_room 32 = .ok (.ifnull 5, 3) := by decide +kernel
theorem d_Core_room_35 : decode b_Core_room 35 = .ok (.aload_n 2, 1) := by decide +kernel
theorem d_Core_room_36 : decode b_Core_room 36 = .ok (.areturn, 1) := by decide +kernel
theorem d_Core_room_37 : decode b_Core_room 37 = .ok (.aload_n 3, 1) := by decide +kernel
theorem d_Core_room_38 : decode b_Core_room 38 = .ok (.getfield 28, 3) := by decide +kernel
theorem d_Core_room_41 : decode b_Core_room 41 = .ok (.iconst (-1), 1) := by decide +kernel
theorem d_Core_room_42 : decode b_Core_room 42 = .ok (.if_icmp .eq 24, 3) := by decide +kernel
theorem d_Core_room_45 : decode b_Core_room 45 = .ok (.aload 4, 2) := by decide +kernel
theorem d_Core_room_47 : decode b_Core_room 47 = .ok (.getfield 28, 3) := by decide +kernel
theorem d_Core_room_50 : decode b_Core_room 50 = .ok (.iconst (-1), 1) := by decide +kernel
theorem d_Core_room_51 : decode b_Core_room 51 = .ok (.if_icmp .eq 17, 3) := by decide +kernel
theorem d_Core_room_54 : decode b_Core_room 54 = .ok (.aload_n 3, 1) := by decide +kernel
theorem d_Core_room_55 : decode b_Core_room 55 = .ok (.getfield 35, 3) := by decide +kernel
theorem d_Core_room_58 : decode b_Core_room 58 = .ok (.aload 4, 2) := by decide +kernel
theorem d_Core_room_60 : decode b_Core_room 60 = .ok (.getfield 35, 3) := by decide +kernel
theorem d_Core_room_63 : decode b_Core_room 63 = .ok (.if_icmp .ge 5, 3) := by decide +kernel
theorem d_Core_room_66 : decode b_Core_room 66 = .ok (.aload_n 3, 1) := by decide +kernel
theorem d_Core_room_67 : decode b_Core_room 67 = .ok (.areturn, 1) := by decide +kernel
theorem d_Core_room_68 : decode b_Core_room 68 = .ok (.aload 4, 2) := by decide +kernel
theorem d_Core_room_70 : decode b_Core_room 70 = .ok (.areturn, 1) := by decide +kernel
theorem d_Core_may_0 : decode b_Core_may 0 = .ok (.aload_n 1, 1) := by decide +kernel
theorem d_Core_may_1 : decode b_Core_may 1 = .ok (.ifnull 33, 3) := by decide +kernel
theorem d_Core_may_4 : decode b_Core_may 4 = .ok (.aload_n 1, 1) := by decide +kernel
theorem d_Core_may_5 : decode b_Core_may 5 = .ok (.getfield 38, 3) := by decide +kernel
theorem d_Core_may_8 : decode b_Core_may 8 = .ok (.ifCond .ne 22, 3) := by decide +kernel
theorem d_Core_may_11 : decode b_Core_may 11 = .ok (.aload_n 0, 1) := by decide +kernel
theorem d_Core_may_12 : decode b_Core_may 12 = .ok (.getfield 17, 3) := by decide +kernel
theorem d_Core_may_15 : decode b_Core_may 15 = .ok (.ifCond .ne 19, 3) := by decide +kernel
theorem d_Core_may_18 : decode b_Core_may 18 = .ok (.aload_n 0, 1) := by decide +kernel
theorem d_Core_may_19 : decode b_Core_may 19 = .ok (.getfield 42, 3) := by decide +kernel
theorem d_Core_may_22 : decode b_Core_may 22 = .ok (.aload_n 1, 1) := by decide +kernel
theorem d_Core_may_23 : decode b_Core_may 23 = .ok (.getfield 46, 3) := by decide +kernel
theorem d_Core_may_26 : decode b_Core_may 26 = .ok (.lcmp, 1) := by decide +kernel
theorem d_Core_may_27 : decode b_Core_may 27 = .ok (.ifCond .gt 7, 3) := by decide +kernel
theorem d_Core_may_30 : decode b_Core_may 30 = .ok (.iconst 1, 1) := by decide +kernel
theorem d_Core_may_31 : decode b_Core_may 31 = .ok (.goto 4, 3) := by decide +kernel
theorem d_Core_may_34 : decode b_Core_may 34 = .ok (.iconst 0, 1) := by decide +kernel
theorem d_Core_may_35 : decode b_Core_may 35 = .ok (.ireturn, 1) := by decide +kernel
theorem d_Core_perform_0 : decode b_Core_perform 0 = .ok (.aload_n 0, 1) := by decide +kernel
theorem d_Core_perform_1 : decode b_Core_perform 1 = .ok (.getfield 17, 3) := by decide +kernel
theorem d_Core_perform_4 : decode b_Core_perform 4 = .ok (.iconst 1, 1) := by decide +kernel
theorem d_Core_perform_5 : decode b_Core_perform 5 = .ok (.if_icmp .eq 21, 3) := by decide +kernel
theorem d_Core_perform_8 : decode b_Core_perform 8 = .ok (.aload_n 0, 1) := by decide +kernel
theorem d_Core_perform_9 : decode b_Core_perform 9 = .ok (.getfield 17, 3) := by decide +kernel
theorem d_Core_perform_12 : decode b_Core_perform 12 = .ok (.ifCond .eq 18, 3) := by decide +kernel
theorem d_Core_perform_15 : decode b_Core_perform 15 = .ok (.aload_n 1, 1) := by decide +kernel
theorem d_Core_perform_16 : decode b_Core_perform 16 = .ok (.getfield 49, 3) := by decide +kernel
theorem d_Core_perform_19 : decode b_Core_perform 19 = .ok (.aload_n 0, 1) := by decide +kernel
theorem d_Core_perform_20 : decode b_Core_perform 20 = .ok (.getfield 52, 3) := by decide +kernel
theorem d_Core_perform_23 : decode b_Core_perform 23 = .ok (.if_icmp .ne 7, 3) := by decide +kernel
theorem d_Core_perform_26 : decode b_Core_perform 26 = .ok (.iconst 1, 1) := by decide +kernel
theorem d_Core_perform_27 : decode b_Core_perform 27 = .ok (.goto 4, 3) := by decide +kernel
theorem d_Core_perform_30 : decode b_Core_perform 30 = .ok (.iconst 0, 1) := by decide +kernel
theorem d_Core_perform_31 : decode b_Core_perform 31 = .ok (.istore_n 2, 1) := by decide +kernel
theorem d_Core_perform_32 : decode b_Core_perform 32 = .ok (.aload_n 0, 1) := by decide +kernel
theorem d_Core_perform_33 : decode b_Core_perform 33 = .ok (.aload_n 0, 1) := by decide +kernel
theorem d_Core_perform_34 : decode b_Core_perform 34 = .ok (.getfield 17, 3) := by decide +kernel
theorem d_Core_perform_37 : decode b_Core_perform 37 = .ok (.iconst 1, 1) := by decide +kernel
theorem d_Core_perform_38 : decode b_Core_perform 38 = .ok (.if_icmp .ne 7, 3) := by decide +kernel
theorem d_Core_perform_41 : decode b_Core_perform 41 = .ok (.iconst 0, 1) := by decide +kernel
theorem d_Core_perform_42 : decode b_Core_perform 42 = .ok (.goto 7, 3) := by decide +kernel
theorem d_Core_perform_45 : decode b_Core_perform 45 = .ok (.aload_n 1, 1) := by decide +kernel
theorem d_Core_perform_46 : decode b_Core_perform 46 = .ok (.getfield 49, 3) := by decide +kernel
theorem d_Core_perform_49 : decode b_Core_perform 49 = .ok (.putfield 55, 3) := by decide +kernel
theorem d_Core_perform_52 : decode b_Core_perform 52 = .ok (.iload_n 2, 1) := by decide +kernel
theorem d_Core_perform_53 : decode b_Core_perform 53 = .ok (.ifCond .eq 39, 3) := by decide +kernel
theorem d_Core_perform_56 : decode b_Core_perform 56 = .ok (.aload_n 0, 1) := by decide +kernel
theorem d_Core_perform_57 : decode b_Core_perform 57 = .ok (.aload_n 0, 1) := by decide +kernel
theorem d_Core_perform_58 : decode b_Core_perform 58 = .ok (.getfield 42, 3) := by decide +kernel
theorem d_Core_perform_61 : decode b_Core_perform 61 = .ok (.aload_n 1, 1) := by decide +kernel
theorem d_Core_perform_62 : decode b_Core_perform 62 = .ok (.getfield 46, 3) := by decide +kernel
theorem d_Core_perform_65 : decode b_Core_perform 65 = .ok (.lconst 1, 1) := by decide +kernel
theorem d_Core_perform_66 : decode b_Core_perform 66 = .ok (.ladd, 1) := by decide +kernel
theorem d_Core_perform_67 : decode b_Core_perform 67 = .ok (.invokestatic 58, 3) := by decide +kernel
theorem d_Core_perform_70 : decode b_Core_perform 70 = .ok (.putfield 42, 3) := by decide +kernel
theorem d_Core_perform_73 : decode b_Core_perform 73 = .ok (.aload_n 1, 1) := by decide +kernel
theorem d_Core_perform_74 : decode b_Core_perform 74 = .ok (.aload_n 0, 1) := by decide +kernel
theorem d_Core_perform_75 : decode b_Core_perform 75 = .ok (.getfield 64, 3) := by decide +kernel
theorem d_Core_perform_78 : decode b_Core_perform 78 = .ok (.aload_n 0, 1) := by decide +kernel
theorem d_Core_perform_79 : decode b_Core_perform 79 = .ok (.getfield 42, 3) := by decide +kernel
theorem d_Core_perform_82 : decode b_Core_perform 82 = .ok (.aload_n 0, 1) := by decide +kernel
theorem d_Core_perform_83 : decode b_Core_perform 83 = .ok (.getfield 42, 3) := by decide +kernel
theorem d_Core_perform_86 : decode b_Core_perform 86 = .ok (.invokevirtual 67, 3) := by decide +kernel
theorem d_Core_perform_89 : decode b_Core_perform 89 = .ok (.goto 47, 3) := by decide +kernel
theorem d_Core_perform_92 : decode b_Core_perform 92 = .ok (.aload_n 0, 1) := by decide +kernel
theorem d_Core_perform_93 : decode b_Core_perform 93 = .ok (.aload_n 0, 1) := by decide +kernel
theorem d_Core_perform_94 : decode b_Core_perform 94 = .ok (.getfield 42, 3) := by decide +kernel
theorem d_Core_perform_97 : decode b_Core_perform 97 = .ok (.aload_n 1, 1) := by decide +kernel
theorem d_Core_perform_98 : decode b_Core_perform 98 = .ok (.getfield 71, 3) := by decide +kernel
theorem d_Core_perform_101 : decode b_Core_perform 101 = .ok (.invokestatic 58, 3) := by decide +kernel
theorem d_Core_perform_104 : decode b_Core_perform 104 = .ok (.putfield 42, 3) := by decide +kernel
theorem d_Core_perform_107 : decode b_Core_perform 107 = .ok (.aload_n 1, 1) := by decide +kernel
theorem d_Core_perform_108 : decode b_Core_perform 108 = .ok (.aload_n 1, 1) := by decide +kernel
theorem d_Core_perform_109 : decode b_Core_perform 109 = .ok (.getfield 38, 3) := by decide +kernel
theorem d_Core_perform_112 : decode b_Core_perform 112 = .ok (.ifCond .eq 17, 3) := by decide +kernel
theorem d_Core_perform_115 : decode b_Core_perform 115 = .ok (.aload_n 1, 1) := by decide +kernel
theorem d_Core_perform_116 : decode b_Core_perform 116 = .ok (.getfield 46, 3) := by decide +kernel
theorem d_Core_perform_119 : decode b_Core_perform 119 = .ok (.aload_n 0, 1) := by decide +kernel
theorem d_Core_perform_120 : decode b_Core_perform 120 = .ok (.getfield 42, 3) := by decide +kernel
theorem d_Core_perform_123 : decode b_Core_perform 123 = .ok (.invokestatic 58, 3) := by decide +kernel
theorem d_Core_perform_126 : decode b_Core_perform 126 = .ok (.goto 7, 3) := by decide +kernel
theorem d_Core_perform_129 : decode b_Core_perform 129 = .ok (.aload_n 1, 1) := by decide +kernel
theorem d_Core_perform_130 : decode b_Core_perform 130 = .ok (.getfield 46, 3) := by decide +kernel
theorem d_Core_perform_133 : decode b_Core_perform 133 = .ok (.putfield 46, 3) := by decide +kernel
theorem d_Core_perform_136 : decode b_Core_perform 136 = .ok (.aload_n 0, 1) := by decide +kernel
theorem d_Core_perform_137 : decode b_Core_perform 137 = .ok (.aload_n 0, 1) := by decide +kernel
theorem d_Core_perform_138 : decode b_Core_perform 138 = .ok (.getfield 17, 3) := by decide +kernel
theorem d_Core_perform_141 : decode b_Core_perform 141 = .ok (.putfield 21, 3) := by decide +kernel
theorem d_Core_perform_144 : decode b_Core_perform 144 = .ok (.aload_n 0, 1) := by decide +kernel
theorem d_Core_perform_145 : decode b_Core_perform 145 = .ok (.iconst 0, 1) := by decide +kernel
theorem d_Core_perform_146 : decode b_Core_perform 146 = .ok (.putfield 74, 3) := by decide +kernel
theorem d_Core_perform_149 : decode b_Core_perform 149 = .ok (.aload_n 0, 1) := by decide +kernel
theorem d_Core_perform_150 : decode b_Core_perform 150 = .ok (.dup, 1) := by decide +kernel
theorem d_Core_perform_151 : decode b_Core_perform 151 = .ok (.getfield 77, 3) := by decide +kernel
theorem d_Core_perform_154 : decode b_Core_perform 154 = .ok (.iconst 1, 1) := by decide +kernel
theorem d_Core_perform_155 : decode b_Core_perform 155 = .ok (.iadd, 1) := by decide +kernel
theorem d_Core_perform_156 : decode b_Core_perform 156 = .ok (.putfield 77, 3) := by decide +kernel
theorem d_Core_perform_159 : decode b_Core_perform 159 = .ok (.return_, 1) := by decide +kernel
theorem d_Entry_init_0 : decode b_Entry_init 0 = .ok (.aload_n 0, 1) := by decide +kernel
theorem d_Entry_init_1 : decode b_Entry_init 1 = .ok (.invokespecial 3, 3) := by decide +kernel
theorem d_Entry_init_4 : decode b_Entry_init 4 = .ok (.aload_n 0, 1) := by decide +kernel
theorem d_Entry_init_5 : decode b_Entry_init 5 = .ok (.iconst 2, 1) := by decide +kernel
theorem d_Entry_init_6 : decode b_Entry_init 6 = .ok (.anewarray 9, 3) := by decide +kernel
theorem d_Entry_init_9 : decode b_Entry_init 9 = .ok (.putfield 11, 3) := by decide +kernel
theorem d_Entry_init_12 : decode b_Entry_init 12 = .ok (.return_, 1) := by decide +kernel
theorem d_Entry_begin_0 : decode b_Entry_begin 0 = .ok (.aload_n 0, 1) := by decide +kernel
theorem d_Entry_begin_1 : decode b_Entry_begin 1 = .ok (.iload_n 1, 1) := by decide +kernel
theorem d_Entry_begin_2 : decode b_Entry_begin 2 = .ok (.putfield 17, 3) := by decide +kernel
theorem d_Entry_begin_5 : decode b_Entry_begin 5 = .ok (.aload_n 0, 1) := by decide +kernel
theorem d_Entry_begin_6 : decode b_Entry_begin 6 = .ok (.iload_n 2, 1) := by decide +kernel
theorem d_Entry_begin_7 : decode b_Entry_begin 7 = .ok (.lload_n 3, 1) := by decide +kernel
theorem d_Entry_begin_8 : decode b_Entry_begin 8 = .ok (.lload_n 3, 1) := by decide +kernel
theorem d_Entry_begin_9 : decode b_Entry_begin 9 = .ok (.invokevirtual 21, 3) := by decide +kernel
theorem d_Entry_begin_12 : decode b_Entry_begin 12 = .ok (.aload_n 0, 1) := by decide +kernel
theorem d_Entry_begin_13 : decode b_Entry_begin 13 = .ok (.iconst 0, 1) := by decide +kernel
theorem d_Entry_begin_14 : decode b_Entry_begin 14 = .ok (.putfield 25, 3) := by decide +kernel
theorem d_Entry_begin_17 : decode b_Entry_begin 17 = .ok (.return_, 1) := by decide +kernel
theorem d_Entry_next_0 : decode b_Entry_next 0 = .ok (.aload_n 0, 1) := by decide +kernel
theorem d_Entry_next_1 : decode b_Entry_next 1 = .ok (.getfield 11, 3) := by decide +kernel
theorem d_Entry_next_4 : decode b_Entry_next 4 = .ok (.iconst 0, 1) := by decide +kernel
theorem d_Entry_next_5 : decode b_Entry_next 5 = .ok (.aaload, 1) := by decide +kernel
theorem d_Entry_next_6 : decode b_Entry_next 6 = .ok (.astore_n 1, 1) := by decide +kernel
theorem d_Entry_next_7 : decode b_Entry_next 7 = .ok (.aload_n 0, 1) := by decide +kernel
theorem d_Entry_next_8 : decode b_Entry_next 8 = .ok (.getfield 11, 3) := by decide +kernel
theorem d_Entry_next_11 : decode b_Entry_next 11 = .ok (.iconst 0, 1) := by decide +kernel
theorem d_Entry_next_12 : decode b_Entry_next 12 = .ok (.aload_n 0, 1) := by decide +kernel
theorem d_Entry_next_13 : decode b_Entry_next 13 = .ok (.getfield 11, 3) := by decide +kernel
theorem d_Entry_next_16 : decode b_Entry_next 16 = .ok (.iconst 1, 1) := by decide +kernel
theorem d_Entry_next_17 : decode b_Entry_next 17 = .ok (.aaload, 1) := by decide +kernel
theorem d_Entry_next_18 : decode b_Entry_next 18 = .ok (.aastore, 1) := by decide +kernel
theorem d_Entry_next_19 : decode b_Entry_next 19 = .ok (.aload_n 0, 1) := by decide +kernel
theorem d_Entry_next_20 : decode b_Entry_next 20 = .ok (.getfield 11, 3) := by decide +kernel
theorem d_Entry_next_23 : decode b_Entry_next 23 = .ok (.iconst 1, 1) := by decide +kernel
theorem d_Entry_next_24 : decode b_Entry_next 24 = .ok (.aconst_null, 1) := by decide +kernel
theorem d_Entry_next_25 : decode b_Entry_next 25 = .ok (.aastore, 1) := by decide +kernel
theorem d_Entry_next_26 : decode b_Entry_next 26 = .ok (.aload_n 0, 1) := by decide +kernel
theorem d_Entry_next_27 : decode b_Entry_next 27 = .ok (.dup, 1) := by decide +kernel
theorem d_Entry_next_28 : decode b_Entry_next 28 = .ok (.getfield 29, 3) := by decide +kernel
theorem d_Entry_next_31 : decode b_Entry_next 31 = .ok (.iconst 1, 1) := by decide +kernel
theorem d_Entry_next_32 : decode b_Entry_next 32 = .ok (.isub, 1) := by decide +kernel
theorem d_Entry_next_33 : decode b_Entry_next 33 = .ok (.putfield 29, 3) := by decide +kernel
theorem d_Entry_next_36 : decode b_Entry_next 36 = .ok (.aload_n 1, 1) := by decide +kernel
theorem d_Entry_next_37 : decode b_Entry_next 37 = .ok (.areturn, 1) := by decide +kernel
theorem d_Message_init_0 : decode b_Message_init 0 = .ok (.aload_n 0, 1) := by decide +kernel
theorem d_Message_init_1 : decode b_Message_init 1 = .ok (.invokespecial 1, 3) := by decide +kernel
theorem d_Message_init_4 : decode b_Message_init 4 = .ok (.aload_n 0, 1) := by decide +kernel
theorem d_Message_init_5 : decode b_Message_init 5 = .ok (.iload_n 1, 1) := by decide +kernel
theorem d_Message_init_6 : decode b_Message_init 6 = .ok (.putfield 7, 3) := by decide +kernel
theorem d_Message_init_9 : decode b_Message_init 9 = .ok (.aload_n 0, 1) := by decide +kernel
theorem d_Message_init_10 : decode b_Message_init 10 = .ok (.iload_n 2, 1) := by decide +kernel
theorem d_Message_init_11 : decode b_Message_init 11 = .ok (.putfield 13, 3) := by decide +kernel
theorem d_Message_init_14 : decode b_Message_init 14 = .ok (.aload_n 0, 1) := by decide +kernel
theorem d_Message_init_15 : decode b_Message_init 15 = .ok (.aload_n 3, 1) := by decide +kernel
theorem d_Message_init_16 : decode b_Message_init 16 = .ok (.putfield 16, 3) := by decide +kernel
theorem d_Message_init_19 : decode b_Message_init 19 = .ok (.return_, 1) := by decide +kernel
theorem d_Message_toManager_0 : decode b_Message_toManager 0 = .ok (.iconst 0, 1) := by decide +kernel
theorem d_Message_toManager_1 : decode b_Message_toManager 1 = .ok (.ireturn, 1) := by decide +kernel
theorem d_Place_init_0 : decode b_Place_init 0 = .ok (.aload_n 0, 1) := by decide +kernel
theorem d_Place_init_1 : decode b_Place_init 1 = .ok (.invokespecial 1, 3) := by decide +kernel
theorem d_Place_init_4 : decode b_Place_init 4 = .ok (.return_, 1) := by decide +kernel
theorem d_Request_init_0 : decode b_Request_init 0 = .ok (.aload_n 0, 1) := by decide +kernel
theorem d_Request_init_1 : decode b_Request_init 1 = .ok (.iload_n 1, 1) := by decide +kernel
theorem d_Request_init_2 : decode b_Request_init 2 = .ok (.iload_n 2, 1) := by decide +kernel
theorem d_Request_init_3 : decode b_Request_init 3 = .ok (.aload_n 3, 1) := by decide +kernel
theorem d_Request_init_4 : decode b_Request_init 4 = .ok (.invokespecial 1, 3) := by decide +kernel
theorem d_Request_init_7 : decode b_Request_init 7 = .ok (.aload_n 0, 1) := by decide +kernel
theorem d_Request_init_8 : decode b_Request_init 8 = .ok (.lload 4, 2) := by decide +kernel
theorem d_Request_init_10 : decode b_Request_init 10 = .ok (.putfield 7, 3) := by decide +kernel
theorem d_Request_init_13 : decode b_Request_init 13 = .ok (.aload_n 0, 1) := by decide +kernel
theorem d_Request_init_14 : decode b_Request_init 14 = .ok (.lload 6, 2) := by decide +kernel
theorem d_Request_init_16 : decode b_Request_init 16 = .ok (.putfield 13, 3) := by decide +kernel
theorem d_Request_init_19 : decode b_Request_init 19 = .ok (.return_, 1) := by decide +kernel
theorem d_Request_toManager_0 : decode b_Request_toManager 0 = .ok (.iconst 1, 1) := by decide +kernel
theorem d_Request_toManager_1 : decode b_Request_toManager 1 = .ok (.ireturn, 1) := by decide +kernel
theorem d_Request_arrive_0 : decode b_Request_arrive 0 = .ok (.aload_n 1, 1) := by decide +kernel
theorem d_Request_arrive_1 : decode b_Request_arrive 1 = .ok (.aload_n 0, 1) := by decide +kernel
theorem d_Request_arrive_2 : decode b_Request_arrive 2 = .ok (.getfield 16, 3) := by decide +kernel
theorem d_Request_arrive_5 : decode b_Request_arrive 5 = .ok (.invokevirtual 20, 3) := by decide +kernel
theorem d_Request_arrive_8 : decode b_Request_arrive 8 = .ok (.astore_n 2, 1) := by decide +kernel
theorem d_Request_arrive_9 : decode b_Request_arrive 9 = .ok (.aload_n 2, 1) := by decide +kernel
theorem d_Request_arrive_10 : decode b_Request_arrive 10 = .ok (.ifnonnull 14, 3) := by decide +kernel
theorem d_Request_arrive_13 : decode b_Request_arrive 13 = .ok (.aload_n 1, 1) := by decide +kernel
theorem d_Request_arrive_14 : decode b_Request_arrive 14 = .ok (.aload_n 0, 1) := by decide +kernel
theorem d_Request_arrive_15 : decode b_Request_arrive 15 = .ok (.getfield 16, 3) := by decide +kernel
theorem d_Request_arrive_18 : decode b_Request_arrive 18 = .ok (.invokevirtual 26, 3) := by decide +kernel
theorem d_Request_arrive_21 : decode b_Request_arrive 21 = .ok (.goto 4, 3) := by decide +kernel
theorem d_Request_arrive_24 : decode b_Request_arrive 24 = .ok (.aload_n 2, 1) := by decide +kernel
theorem d_Request_arrive_25 : decode b_Request_arrive 25 = .ok (.astore_n 2, 1) := by decide +kernel
theorem d_Request_arrive_26 : decode b_Request_arrive 26 = .ok (.aload_n 2, 1) := by decide +kernel
theorem d_Request_arrive_27 : decode b_Request_arrive 27 = .ok (.ifnonnull 5, 3) := by decide +kernel
theorem d_Request_arrive_30 : decode b_Request_arrive 30 = .ok (.iconst 0, 1) := by decide +kernel
theorem d_Request_arrive_31 : decode b_Request_arrive 31 = .ok (.ireturn, 1) := by decide +kernel
theorem d_Request_arrive_32 : decode b_Request_arrive 32 = .ok (.aload_n 2, 1) := by decide +kernel
theorem d_Request_arrive_33 : decode b_Request_arrive 33 = .ok (.getfield 29, 3) := by decide +kernel
theorem d_Request_arrive_36 : decode b_Request_arrive 36 = .ok (.ifnull 26, 3) := by decide +kernel
theorem d_Request_arrive_39 : decode b_Request_arrive 39 = .ok (.aload_n 2, 1) := by decide +kernel
theorem d_Request_arrive_40 : decode b_Request_arrive 40 = .ok (.getfield 35, 3) := by decide +kernel
theorem d_Request_arrive_43 : decode b_Request_arrive 43 = .ok (.aload_n 2, 1) := by decide +kernel
theorem d_Request_arrive_44 : decode b_Request_arrive 44 = .ok (.getfield 39, 3) := by decide +kernel
theorem d_Request_arrive_47 : decode b_Request_arrive 47 = .ok (.aload_n 0, 1) := by decide +kernel
theorem d_Request_arrive_48 : decode b_Request_arrive 48 = .ok (.aastore, 1) := by decide +kernel
theorem d_Request_arrive_49 : decode b_Request_arrive 49 = .ok (.aload_n 2, 1) := by decide +kernel
theorem d_Request_arrive_50 : decode b_Request_arrive 50 = .ok (.dup, 1) := by decide +kernel
theorem d_Request_arrive_51 : decode b_Request_arrive 51 = .ok (.getfield 39, 3) := by decide +kernel
theorem d_Request_arrive_54 : decode b_Request_arrive 54 = .ok (.iconst 1, 1) := by decide +kernel
theorem d_Request_arrive_55 : decode b_Request_arrive 55 = .ok (.iadd, 1) := by decide +kernel
theorem d_Request_arrive_56 : decode b_Request_arrive 56 = .ok (.putfield 39, 3) := by decide +kernel
theorem d_Request_arrive_59 : decode b_Request_arrive 59 = .ok (.goto 9, 3) := by decide +kernel
theorem d_Request_arrive_62 : decode b_Request_arrive 62 = .ok (.aload_n 1, 1) := by decide +kernel
theorem d_Request_arrive_63 : decode b_Request_arrive 63 = .ok (.aload_n 2, 1) := by decide +kernel
theorem d_Request_arrive_64 : decode b_Request_arrive 64 = .ok (.aload_n 0, 1) := by decide +kernel
theorem d_Request_arrive_65 : decode b_Request_arrive 65 = .ok (.invokevirtual 42, 3) := by decide +kernel
theorem d_Request_arrive_68 : decode b_Request_arrive 68 = .ok (.iconst 1, 1) := by decide +kernel
theorem d_Request_arrive_69 : decode b_Request_arrive 69 = .ok (.ireturn, 1) := by decide +kernel
theorem d_Return_init_0 : decode b_Return_init 0 = .ok (.aload_n 0, 1) := by decide +kernel
theorem d_Return_init_1 : decode b_Return_init 1 = .ok (.iload_n 1, 1) := by decide +kernel
theorem d_Return_init_2 : decode b_Return_init 2 = .ok (.aload_n 3, 1) := by decide +kernel
theorem d_Return_init_3 : decode b_Return_init 3 = .ok (.getfield 1, 3) := by decide +kernel
theorem d_Return_init_6 : decode b_Return_init 6 = .ok (.aload_n 2, 1) := by decide +kernel
theorem d_Return_init_7 : decode b_Return_init 7 = .ok (.invokespecial 7, 3) := by decide +kernel
theorem d_Return_init_10 : decode b_Return_init 10 = .ok (.aload_n 0, 1) := by decide +kernel
theorem d_Return_init_11 : decode b_Return_init 11 = .ok (.aload_n 3, 1) := by decide +kernel
theorem d_Return_init_12 : decode b_Return_init 12 = .ok (.getfield 13, 3) := by decide +kernel
theorem d_Return_init_15 : decode b_Return_init 15 = .ok (.putfield 16, 3) := by decide +kernel
theorem d_Return_init_18 : decode b_Return_init 18 = .ok (.aload_n 0, 1) := by decide +kernel
theorem d_Return_init_19 : decode b_Return_init 19 = .ok (.aload_n 3, 1) := by decide +kernel
theorem d_Return_init_20 : decode b_Return_init 20 = .ok (.getfield 19, 3) := by decide +kernel
theorem d_Return_init_23 : decode b_Return_init 23 = .ok (.putfield 23, 3) := by decide +kernel
theorem d_Return_init_26 : decode b_Return_init 26 = .ok (.aload_n 0, 1) := by decide +kernel
theorem d_Return_init_27 : decode b_Return_init 27 = .ok (.aload_n 3, 1) := by decide +kernel
theorem d_Return_init_28 : decode b_Return_init 28 = .ok (.getfield 24, 3) := by decide +kernel
theorem d_Return_init_31 : decode b_Return_init 31 = .ok (.putfield 27, 3) := by decide +kernel
theorem d_Return_init_34 : decode b_Return_init 34 = .ok (.return_, 1) := by decide +kernel
theorem d_Return_toManager_0 : decode b_Return_toManager 0 = .ok (.iconst 1, 1) := by decide +kernel
theorem d_Return_toManager_1 : decode b_Return_toManager 1 = .ok (.ireturn, 1) := by decide +kernel
theorem d_Return_arrive_0 : decode b_Return_arrive 0 = .ok (.aload_n 1, 1) := by decide +kernel
theorem d_Return_arrive_1 : decode b_Return_arrive 1 = .ok (.aload_n 0, 1) := by decide +kernel
theorem d_Return_arrive_2 : decode b_Return_arrive 2 = .ok (.getfield 28, 3) := by decide +kernel
theorem d_Return_arrive_5 : decode b_Return_arrive 5 = .ok (.invokevirtual 29, 3) := by decide +kernel
theorem d_Return_arrive_8 : decode b_Return_arrive 8 = .ok (.astore_n 2, 1) := by decide +kernel
theorem d_Return_arrive_9 : decode b_Return_arrive 9 = .ok (.aload_n 2, 1) := by decide +kernel
theorem d_Return_arrive_10 : decode b_Return_arrive 10 = .ok (.aload_n 0, 1) := by decide +kernel
theorem d_Return_arrive_11 : decode b_Return_arrive 11 = .ok (.getfield 16, 3) := by decide +kernel
theorem d_Return_arrive_14 : decode b_Return_arrive 14 = .ok (.aload_n 0, 1) := by decide +kernel
theorem d_Return_arrive_15 : decode b_Return_arrive 15 = .ok (.getfield 23, 3) := by decide +kernel
theorem d_Return_arrive_18 : decode b_Return_arrive 18 = .ok (.aload_n 0, 1) := by decide +kernel
theorem d_Return_arrive_19 : decode b_Return_arrive 19 = .ok (.getfield 27, 3) := by decide +kernel
theorem d_Return_arrive_22 : decode b_Return_arrive 22 = .ok (.invokevirtual 35, 3) := by decide +kernel
theorem d_Return_arrive_25 : decode b_Return_arrive 25 = .ok (.aload_n 2, 1) := by decide +kernel
theorem d_Return_arrive_26 : decode b_Return_arrive 26 = .ok (.aconst_null, 1) := by decide +kernel
theorem d_Return_arrive_27 : decode b_Return_arrive 27 = .ok (.putfield 41, 3) := by decide +kernel
theorem d_Return_arrive_30 : decode b_Return_arrive 30 = .ok (.aload_n 2, 1) := by decide +kernel
theorem d_Return_arrive_31 : decode b_Return_arrive 31 = .ok (.iconst 0, 1) := by decide +kernel
theorem d_Return_arrive_32 : decode b_Return_arrive 32 = .ok (.putfield 45, 3) := by decide +kernel
theorem d_Return_arrive_35 : decode b_Return_arrive 35 = .ok (.aload_n 1, 1) := by decide +kernel
theorem d_Return_arrive_36 : decode b_Return_arrive 36 = .ok (.aload_n 0, 1) := by decide +kernel
theorem d_Return_arrive_37 : decode b_Return_arrive 37 = .ok (.getfield 28, 3) := by decide +kernel
theorem d_Return_arrive_40 : decode b_Return_arrive 40 = .ok (.invokevirtual 49, 3) := by decide +kernel
theorem d_Return_arrive_43 : decode b_Return_arrive 43 = .ok (.aload_n 2, 1) := by decide +kernel
theorem d_Return_arrive_44 : decode b_Return_arrive 44 = .ok (.getfield 53, 3) := by decide +kernel
theorem d_Return_arrive_47 : decode b_Return_arrive 47 = .ok (.astore_n 3, 1) := by decide +kernel
theorem d_Return_arrive_48 : decode b_Return_arrive 48 = .ok (.aload_n 2, 1) := by decide +kernel
theorem d_Return_arrive_49 : decode b_Return_arrive 49 = .ok (.aconst_null, 1) := by decide +kernel
theorem d_Return_arrive_50 : decode b_Return_arrive 50 = .ok (.putfield 53, 3) := by decide +kernel
theorem d_Return_arrive_53 : decode b_Return_arrive 53 = .ok (.aload_n 3, 1) := by decide +kernel
theorem d_Return_arrive_54 : decode b_Return_arrive 54 = .ok (.ifnull 35, 3) := by decide +kernel
theorem d_Return_arrive_57 : decode b_Return_arrive 57 = .ok (.aload_n 1, 1) := by decide +kernel
theorem d_Return_arrive_58 : decode b_Return_arrive 58 = .ok (.aload_n 2, 1) := by decide +kernel
theorem d_Return_arrive_59 : decode b_Return_arrive 59 = .ok (.aload_n 3, 1) := by decide +kernel
theorem d_Return_arrive_60 : decode b_Return_arrive 60 = .ok (.invokevirtual 57, 3) := by decide +kernel
theorem d_Return_arrive_63 : decode b_Return_arrive 63 = .ok (.aload_n 2, 1) := by decide +kernel
theorem d_Return_arrive_64 : decode b_Return_arrive 64 = .ok (.getfield 53, 3) := by decide +kernel
theorem d_Return_arrive_67 : decode b_Return_arrive 67 = .ok (.ifnonnull 17, 3) := by decide +kernel
theorem d_Return_arrive_70 : decode b_Return_arrive 70 = .ok (.aload_n 2, 1) := by decide +kernel
theorem d_Return_arrive_71 : decode b_Return_arrive 71 = .ok (.getfield 61, 3) := by decide +kernel
theorem d_Return_arrive_74 : decode b_Return_arrive 74 = .ok (.ifCond .le 10, 3) := by decide +kernel
theorem d_Return_arrive_77 : decode b_Return_arrive 77 = .ok (.aload_n 2, 1) := by decide +kernel
theorem d_Return_arrive_78 : decode b_Return_arrive 78 = .ok (.invokevirtual 64, 3) := by decide +kernel
theorem d_Return_arrive_81 : decode b_Return_arrive 81 = .ok (.goto 4, 3) := by decide +kernel
theorem d_Return_arrive_84 : decode b_Return_arrive 84 = .ok (.aconst_null, 1) := by decide +kernel
theorem d_Return_arrive_85 : decode b_Return_arrive 85 = .ok (.astore_n 3, 1) := by decide +kernel
theorem d_Return_arrive_86 : decode b_Return_arrive 86 = .ok (.goto (-33), 3) := by decide +kernel
theorem d_Return_arrive_89 : decode b_Return_arrive 89 = .ok (.iconst 1, 1) := by decide +kernel
theorem d_Return_arrive_90 : decode b_Return_arrive 90 = .ok (.ireturn, 1) := by decide +kernel
theorem d_Version_init_0 : decode b_Version_init 0 = .ok (.aload_n 0, 1) := by decide +kernel
theorem d_Version_init_1 : decode b_Version_init 1 = .ok (.invokespecial 3, 3) := by decide +kernel
theorem d_Version_init_4 : decode b_Version_init 4 = .ok (.aload_n 0, 1) := by decide +kernel
theorem d_Version_init_5 : decode b_Version_init 5 = .ok (.iconst (-1), 1) := by decide +kernel
theorem d_Version_init_6 : decode b_Version_init 6 = .ok (.putfield 9, 3) := by decide +kernel
theorem d_Version_init_9 : decode b_Version_init 9 = .ok (.return_, 1) := by decide +kernel
theorem d_Version_take_0 : decode b_Version_take 0 = .ok (.aload_n 0, 1) := by decide +kernel
theorem d_Version_take_1 : decode b_Version_take 1 = .ok (.iload_n 1, 1) := by decide +kernel
theorem d_Version_take_2 : decode b_Version_take 2 = .ok (.putfield 15, 3) := by decide +kernel
theorem d_Version_take_5 : decode b_Version_take 5 = .ok (.aload_n 0, 1) := by decide +kernel
theorem d_Version_take_6 : decode b_Version_take 6 = .ok (.lload_n 2, 1) := by decide +kernel
theorem d_Version_take_7 : decode b_Version_take 7 = .ok (.putfield 18, 3) := by decide +kernel
theorem d_Version_take_10 : decode b_Version_take 10 = .ok (.aload_n 0, 1) := by decide +kernel
theorem d_Version_take_11 : decode b_Version_take 11 = .ok (.lload 4, 2) := by decide +kernel
theorem d_Version_take_13 : decode b_Version_take 13 = .ok (.putfield 22, 3) := by decide +kernel
theorem d_Version_take_16 : decode b_Version_take 16 = .ok (.return_, 1) := by decide +kernel
