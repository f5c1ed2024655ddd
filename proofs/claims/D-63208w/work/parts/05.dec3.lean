theorem d_Law_cell_0 : decode b_Law_cell 0 = .ok (.iload_n 1, 1) := by decide +kernel
theorem d_Law_cell_1 : decode b_Law_cell 1 = .ok (.aload_n 0, 1) := by decide +kernel
theorem d_Law_cell_2 : decode b_Law_cell 2 = .ok (.arraylength, 1) := by decide +kernel
theorem d_Law_cell_3 : decode b_Law_cell 3 = .ok (.if_icmp .ge 9, 3) := by decide +kernel
theorem d_Law_cell_6 : decode b_Law_cell 6 = .ok (.aload_n 0, 1) := by decide +kernel
theorem d_Law_cell_7 : decode b_Law_cell 7 = .ok (.iload_n 1, 1) := by decide +kernel
theorem d_Law_cell_8 : decode b_Law_cell 8 = .ok (.iaload, 1) := by decide +kernel
theorem d_Law_cell_9 : decode b_Law_cell 9 = .ok (.goto 4, 3) := by decide +kernel
theorem d_Law_cell_12 : decode b_Law_cell 12 = .ok (.iconst 0, 1) := by decide +kernel
theorem d_Law_cell_13 : decode b_Law_cell 13 = .ok (.ireturn, 1) := by decide +kernel
theorem d_Law_operate_0 : decode b_Law_operate 0 = .ok (.aload 6, 2) := by decide +kernel
theorem d_Law_operate_2 : decode b_Law_operate 2 = .ok (.iconst 0, 1) := by decide +kernel
theorem d_Law_operate_3 : decode b_Law_operate 3 = .ok (.aload_n 0, 1) := by decide +kernel
theorem d_Law_operate_4 : decode b_Law_operate 4 = .ok (.iload_n 1, 1) := by decide +kernel
theorem d_Law_operate_5 : decode b_Law_operate 5 = .ok (.iload_n 2, 1) := by decide +kernel
theorem d_Law_operate_6 : decode b_Law_operate 6 = .ok (.iload_n 3, 1) := by decide +kernel
theorem d_Law_operate_7 : decode b_Law_operate 7 = .ok (.iload 4, 2) := by decide +kernel
theorem d_Law_operate_9 : decode b_Law_operate 9 = .ok (.iload 5, 2) := by decide +kernel
theorem d_Law_operate_11 : decode b_Law_operate 11 = .ok (.invokevirtual 7, 3) := by decide +kernel
theorem d_Law_operate_14 : decode b_Law_operate 14 = .ok (.ifCond .eq 7, 3) := by decide +kernel
theorem d_Law_operate_17 : decode b_Law_operate 17 = .ok (.lconst 1, 1) := by decide +kernel
theorem d_Law_operate_18 : decode b_Law_operate 18 = .ok (.goto 4, 3) := by decide +kernel
theorem d_Law_operate_21 : decode b_Law_operate 21 = .ok (.lconst 0, 1) := by decide +kernel
theorem d_Law_operate_22 : decode b_Law_operate 22 = .ok (.lastore, 1) := by decide +kernel
theorem d_Law_operate_23 : decode b_Law_operate 23 = .ok (.goto 11, 3) := by decide +kernel
theorem d_Law_operate_26 : decode b_Law_operate 26 = .ok (.astore 7, 2) := by decide +kernel
theorem d_Law_operate_28 : decode b_Law_operate 28 = .ok (.iconst 1, 1) := by decide +kernel
theorem d_Law_operate_29 : decode b_Law_operate 29 = .ok (.ireturn, 1) := by decide +kernel
theorem d_Law_operate_30 : decode b_Law_operate 30 = .ok (.astore 7, 2) := by decide +kernel
theorem d_Law_operate_32 : decode b_Law_operate 32 = .ok (.iconst 2, 1) := by decide +kernel
theorem d_Law_operate_33 : decode b_Law_operate 33 = .ok (.ireturn, 1) := by decide +kernel
theorem d_Law_operate_34 : decode b_Law_operate 34 = .ok (.iconst 0, 1) := by decide +kernel
theorem d_Law_operate_35 : decode b_Law_operate 35 = .ok (.ireturn, 1) := by decide +kernel
theorem d_Law_deliver_0 : decode b_Law_deliver 0 = .ok (.aload_n 2, 1) := by decide +kernel
theorem d_Law_deliver_1 : decode b_Law_deliver 1 = .ok (.iconst 0, 1) := by decide +kernel
theorem d_Law_deliver_2 : decode b_Law_deliver 2 = .ok (.aload_n 0, 1) := by decide +kernel
theorem d_Law_deliver_3 : decode b_Law_deliver 3 = .ok (.iload_n 1, 1) := by decide +kernel
theorem d_Law_deliver_4 : decode b_Law_deliver 4 = .ok (.invokevirtual 17, 3) := by decide +kernel
theorem d_Law_deliver_7 : decode b_Law_deliver 7 = .ok (.ifCond .eq 7, 3) := by decide +kernel
theorem d_Law_deliver_10 : decode b_Law_deliver 10 = .ok (.lconst 1, 1) := by decide +kernel
theorem d_Law_deliver_11 : decode b_Law_deliver 11 = .ok (.goto 4, 3) := by decide +kernel
theorem d_Law_deliver_14 : decode b_Law_deliver 14 = .ok (.lconst 0, 1) := by decide +kernel
theorem d_Law_deliver_15 : decode b_Law_deliver 15 = .ok (.lastore, 1) := by decide +kernel
theorem d_Law_deliver_16 : decode b_Law_deliver 16 = .ok (.goto 6, 3) := by decide +kernel
theorem d_Law_deliver_19 : decode b_Law_deliver 19 = .ok (.astore_n 3, 1) := by decide +kernel
theorem d_Law_deliver_20 : decode b_Law_deliver 20 = .ok (.iconst 1, 1) := by decide +kernel
theorem d_Law_deliver_21 : decode b_Law_deliver 21 = .ok (.ireturn, 1) := by decide +kernel
theorem d_Law_deliver_22 : decode b_Law_deliver 22 = .ok (.iconst 0, 1) := by decide +kernel
theorem d_Law_deliver_23 : decode b_Law_deliver 23 = .ok (.ireturn, 1) := by decide +kernel
theorem d_Law_message_0 : decode b_Law_message 0 = .ok (.aload_n 3, 1) := by decide +kernel
theorem d_Law_message_1 : decode b_Law_message 1 = .ok (.iconst 0, 1) := by decide +kernel
theorem d_Law_message_2 : decode b_Law_message 2 = .ok (.aload_n 0, 1) := by decide +kernel
theorem d_Law_message_3 : decode b_Law_message 3 = .ok (.iload_n 1, 1) := by decide +kernel
theorem d_Law_message_4 : decode b_Law_message 4 = .ok (.iload_n 2, 1) := by decide +kernel
theorem d_Law_message_5 : decode b_Law_message 5 = .ok (.invokevirtual 23, 3) := by decide +kernel
theorem d_Law_message_8 : decode b_Law_message 8 = .ok (.i2l, 1) := by decide +kernel
theorem d_Law_message_9 : decode b_Law_message 9 = .ok (.lastore, 1) := by decide +kernel
theorem d_Law_message_10 : decode b_Law_message 10 = .ok (.goto 11, 3) := by decide +kernel
theorem d_Law_message_13 : decode b_Law_message 13 = .ok (.astore 4, 2) := by decide +kernel
theorem d_Law_message_15 : decode b_Law_message 15 = .ok (.iconst 1, 1) := by decide +kernel
theorem d_Law_message_16 : decode b_Law_message 16 = .ok (.ireturn, 1) := by decide +kernel
theorem d_Law_message_17 : decode b_Law_message 17 = .ok (.astore 4, 2) := by decide +kernel
theorem d_Law_message_19 : decode b_Law_message 19 = .ok (.iconst 2, 1) := by decide +kernel
theorem d_Law_message_20 : decode b_Law_message 20 = .ok (.ireturn, 1) := by decide +kernel
theorem d_Law_message_21 : decode b_Law_message 21 = .ok (.iconst 0, 1) := by decide +kernel
theorem d_Law_message_22 : decode b_Law_message 22 = .ok (.ireturn, 1) := by decide +kernel
theorem d_Law_core_0 : decode b_Law_core 0 = .ok (.aload_n 3, 1) := by decide +kernel
theorem d_Law_core_1 : decode b_Law_core 1 = .ok (.iconst 0, 1) := by decide +kernel
theorem d_Law_core_2 : decode b_Law_core 2 = .ok (.aload_n 0, 1) := by decide +kernel
theorem d_Law_core_3 : decode b_Law_core 3 = .ok (.iload_n 1, 1) := by decide +kernel
theorem d_Law_core_4 : decode b_Law_core 4 = .ok (.iload_n 2, 1) := by decide +kernel
theorem d_Law_core_5 : decode b_Law_core 5 = .ok (.invokevirtual 27, 3) := by decide +kernel
theorem d_Law_core_8 : decode b_Law_core 8 = .ok (.i2l, 1) := by decide +kernel
theorem d_Law_core_9 : decode b_Law_core 9 = .ok (.lastore, 1) := by decide +kernel
theorem d_Law_core_10 : decode b_Law_core 10 = .ok (.goto 7, 3) := by decide +kernel
theorem d_Law_core_13 : decode b_Law_core 13 = .ok (.astore 4, 2) := by decide +kernel
theorem d_Law_core_15 : decode b_Law_core 15 = .ok (.iconst 1, 1) := by decide +kernel
theorem d_Law_core_16 : decode b_Law_core 16 = .ok (.ireturn, 1) := by decide +kernel
theorem d_Law_core_17 : decode b_Law_core 17 = .ok (.iconst 0, 1) := by decide +kernel
theorem d_Law_core_18 : decode b_Law_core 18 = .ok (.ireturn, 1) := by decide +kernel
theorem d_Law_time_0 : decode b_Law_time 0 = .ok (.aload_n 2, 1) := by decide +kernel
theorem d_Law_time_1 : decode b_Law_time 1 = .ok (.iconst 0, 1) := by decide +kernel
theorem d_Law_time_2 : decode b_Law_time 2 = .ok (.aload_n 0, 1) := by decide +kernel
theorem d_Law_time_3 : decode b_Law_time 3 = .ok (.iload_n 1, 1) := by decide +kernel
theorem d_Law_time_4 : decode b_Law_time 4 = .ok (.invokevirtual 30, 3) := by decide +kernel
theorem d_Law_time_7 : decode b_Law_time 7 = .ok (.lastore, 1) := by decide +kernel
theorem d_Law_time_8 : decode b_Law_time 8 = .ok (.goto 6, 3) := by decide +kernel
theorem d_Law_time_11 : decode b_Law_time 11 = .ok (.astore_n 3, 1) := by decide +kernel
theorem d_Law_time_12 : decode b_Law_time 12 = .ok (.iconst 1, 1) := by decide +kernel
theorem d_Law_time_13 : decode b_Law_time 13 = .ok (.ireturn, 1) := by decide +kernel
theorem d_Law_time_14 : decode b_Law_time 14 = .ok (.iconst 0, 1) := by decide +kernel
theorem d_Law_time_15 : decode b_Law_time 15 = .ok (.ireturn, 1) := by decide +kernel
theorem d_Law_cached_0 : decode b_Law_cached 0 = .ok (.aload 4, 2) := by decide +kernel
theorem d_Law_cached_2 : decode b_Law_cached 2 = .ok (.iconst 0, 1) := by decide +kernel
theorem d_Law_cached_3 : decode b_Law_cached 3 = .ok (.aload_n 0, 1) := by decide +kernel
theorem d_Law_cached_4 : decode b_Law_cached 4 = .ok (.iload_n 1, 1) := by decide +kernel
theorem d_Law_cached_5 : decode b_Law_cached 5 = .ok (.iload_n 2, 1) := by decide +kernel
theorem d_Law_cached_6 : decode b_Law_cached 6 = .ok (.iload_n 3, 1) := by decide +kernel
theorem d_Law_cached_7 : decode b_Law_cached 7 = .ok (.invokevirtual 34, 3) := by decide +kernel
theorem d_Law_cached_10 : decode b_Law_cached 10 = .ok (.lastore, 1) := by decide +kernel
theorem d_Law_cached_11 : decode b_Law_cached 11 = .ok (.goto 11, 3) := by decide +kernel
theorem d_Law_cached_14 : decode b_Law_cached 14 = .ok (.astore 5, 2) := by decide +kernel
theorem d_Law_cached_16 : decode b_Law_cached 16 = .ok (.iconst 1, 1) := by decide +kernel
theorem d_Law_cached_17 : decode b_Law_cached 17 = .ok (.ireturn, 1) := by decide +kernel
theorem d_Law_cached_18 : decode b_Law_cached 18 = .ok (.astore 5, 2) := by decide +kernel
theorem d_Law_cached_20 : decode b_Law_cached 20 = .ok (.iconst 2, 1) := by decide +kernel
theorem d_Law_cached_21 : decode b_Law_cached 21 = .ok (.ireturn, 1) := by decide +kernel
theorem d_Law_cached_22 : decode b_Law_cached 22 = .ok (.iconst 0, 1) := by decide +kernel
theorem d_Law_cached_23 : decode b_Law_cached 23 = .ok (.ireturn, 1) := by decide +kernel
theorem d_Law_entry_0 : decode b_Law_entry 0 = .ok (.aload_n 3, 1) := by decide +kernel
theorem d_Law_entry_1 : decode b_Law_entry 1 = .ok (.iconst 0, 1) := by decide +kernel
theorem d_Law_entry_2 : decode b_Law_entry 2 = .ok (.aload_n 0, 1) := by decide +kernel
theorem d_Law_entry_3 : decode b_Law_entry 3 = .ok (.iload_n 1, 1) := by decide +kernel
theorem d_Law_entry_4 : decode b_Law_entry 4 = .ok (.iload_n 2, 1) := by decide +kernel
theorem d_Law_entry_5 : decode b_Law_entry 5 = .ok (.invokevirtual 38, 3) := by decide +kernel
theorem d_Law_entry_8 : decode b_Law_entry 8 = .ok (.lastore, 1) := by decide +kernel
theorem d_Law_entry_9 : decode b_Law_entry 9 = .ok (.goto 11, 3) := by decide +kernel
theorem d_Law_entry_12 : decode b_Law_entry 12 = .ok (.astore 4, 2) := by decide +kernel
theorem d_Law_entry_14 : decode b_Law_entry 14 = .ok (.iconst 1, 1) := by decide +kernel
theorem d_Law_entry_15 : decode b_Law_entry 15 = .ok (.ireturn, 1) := by decide +kernel
theorem d_Law_entry_16 : decode b_Law_entry 16 = .ok (.astore 4, 2) := by decide +kernel
theorem d_Law_entry_18 : decode b_Law_entry 18 = .ok (.iconst 2, 1) := by decide +kernel
theorem d_Law_entry_19 : decode b_Law_entry 19 = .ok (.ireturn, 1) := by decide +kernel
theorem d_Law_entry_20 : decode b_Law_entry 20 = .ok (.iconst 0, 1) := by decide +kernel
theorem d_Law_entry_21 : decode b_Law_entry 21 = .ok (.ireturn, 1) := by decide +kernel
theorem d_Law_memory_0 : decode b_Law_memory 0 = .ok (.aload_n 2, 1) := by decide +kernel
theorem d_Law_memory_1 : decode b_Law_memory 1 = .ok (.iconst 0, 1) := by decide +kernel
theorem d_Law_memory_2 : decode b_Law_memory 2 = .ok (.aload_n 0, 1) := by decide +kernel
theorem d_Law_memory_3 : decode b_Law_memory 3 = .ok (.iload_n 1, 1) := by decide +kernel
theorem d_Law_memory_4 : decode b_Law_memory 4 = .ok (.invokevirtual 42, 3) := by decide +kernel
theorem d_Law_memory_7 : decode b_Law_memory 7 = .ok (.i2l, 1) := by decide +kernel
theorem d_Law_memory_8 : decode b_Law_memory 8 = .ok (.lastore, 1) := by decide +kernel
theorem d_Law_memory_9 : decode b_Law_memory 9 = .ok (.goto 6, 3) := by decide +kernel
theorem d_Law_memory_12 : decode b_Law_memory 12 = .ok (.astore_n 3, 1) := by decide +kernel
theorem d_Law_memory_13 : decode b_Law_memory 13 = .ok (.iconst 1, 1) := by decide +kernel
theorem d_Law_memory_14 : decode b_Law_memory 14 = .ok (.ireturn, 1) := by decide +kernel
theorem d_Law_memory_15 : decode b_Law_memory 15 = .ok (.iconst 0, 1) := by decide +kernel
theorem d_Law_memory_16 : decode b_Law_memory 16 = .ok (.ireturn, 1) := by decide +kernel
theorem d_Law_law_0 : decode code 0 = .ok (.new 8, 3) := by decide +kernel
theorem d_Law_law_3 : decode code 3 = .ok (.dup, 1) := by decide +kernel
theorem d_Law_law_4 : decode code 4 = .ok (.aload_n 0, 1) := by decide +kernel
theorem d_Law_law_5 : decode code 5 = .ok (.iconst 0, 1) := by decide +kernel
theorem d_Law_law_6 : decode code 6 = .ok (.invokestatic 46, 3) := by decide +kernel
theorem d_Law_law_9 : decode code 9 = .ok (.aload_n 0, 1) := by decide +kernel
theorem d_Law_law_10 : decode code 10 = .ok (.iconst 1, 1) := by decide +kernel
theorem d_Law_law_11 : decode code 11 = .ok (.invokestatic 46, 3) := by decide +kernel
theorem d_Law_law_14 : decode code 14 = .ok (.invokespecial 52, 3) := by decide +kernel
theorem d_Law_law_17 : decode code 17 = .ok (.astore_n 1, 1) := by decide +kernel
theorem d_Law_law_18 : decode code 18 = .ok (.new 55, 3) := by decide +kernel
theorem d_Law_law_21 : decode code 21 = .ok (.dup, 1) := by decide +kernel
theorem d_Law_law_22 : decode code 22 = .ok (.aload_n 0, 1) := by decide +kernel
theorem d_Law_law_23 : decode code 23 = .ok (.iconst 0, 1) := by decide +kernel
theorem d_Law_law_24 : decode code 24 = .ok (.invokestatic 46, 3) := by decide +kernel
theorem d_Law_law_27 : decode code 27 = .ok (.aload_n 0, 1) := by decide +kernel
theorem d_Law_law_28 : decode code 28 = .ok (.iconst 1, 1) := by decide +kernel
theorem d_Law_law_29 : decode code 29 = .ok (.invokestatic 46, 3) := by decide +kernel
theorem d_Law_law_32 : decode code 32 = .ok (.invokespecial 57, 3) := by decide +kernel
theorem d_Law_law_35 : decode code 35 = .ok (.astore_n 2, 1) := by decide +kernel
theorem d_Law_law_36 : decode code 36 = .ok (.iconst 1, 1) := by decide +kernel
theorem d_Law_law_37 : decode code 37 = .ok (.newarray .long, 2) := by decide +kernel
theorem d_Law_law_39 : decode code 39 = .ok (.astore_n 3, 1) := by decide +kernel
theorem d_Law_law_40 : decode code 40 = .ok (.iconst 2, 1) := by decide +kernel
theorem d_Law_law_41 : decode code 41 = .ok (.istore 4, 2) := by decide +kernel
theorem d_Law_law_43 : decode code 43 = .ok (.iload 4, 2) := by decide +kernel
theorem d_Law_law_45 : decode code 45 = .ok (.aload_n 0, 1) := by decide +kernel
theorem d_Law_law_46 : decode code 46 = .ok (.arraylength, 1) := by decide +kernel
theorem d_Law_law_47 : decode code 47 = .ok (.bipush 6, 2) := by decide +kernel
theorem d_Law_law_49 : decode code 49 = .ok (.isub, 1) := by decide +kernel
theorem d_Law_law_50 : decode code 50 = .ok (.if_icmp .gt 666, 3) := by decide +kernel
theorem d_Law_law_53 : decode code 53 = .ok (.aload_n 0, 1) := by decide +kernel
theorem d_Law_law_54 : decode code 54 = .ok (.iload 4, 2) := by decide +kernel
theorem d_Law_law_56 : decode code 56 = .ok (.iaload, 1) := by decide +kernel
theorem d_Law_law_57 : decode code 57 = .ok (.bipush 15, 2) := by decide +kernel
theorem d_Law_law_59 : decode code 59 = .ok (.iand, 1) := by decide +kernel
theorem d_Law_law_60 : decode code 60 = .ok (.tableswitch 650 0 9 #[56, 167, 230, 243, 311, 379, 434, 513, 580, 636], 56) := by decide +kernel
theorem d_Law_law_116 : decode code 116 = .ok (.aload_n 1, 1) := by decide +kernel
theorem d_Law_law_117 : decode code 117 = .ok (.aload_n 0, 1) := by decide +kernel
theorem d_Law_law_118 : decode code 118 = .ok (.iload 4, 2) := by decide +kernel
theorem d_Law_law_120 : decode code 120 = .ok (.iconst 1, 1) := by decide +kernel
theorem d_Law_law_121 : decode code 121 = .ok (.iadd, 1) := by decide +kernel
theorem d_Law_law_122 : decode code 122 = .ok (.iaload, 1) := by decide +kernel
theorem d_Law_law_123 : decode code 123 = .ok (.aload_n 0, 1) := by decide +kernel
theorem d_Law_law_124 : decode code 124 = .ok (.iload 4, 2) := by decide +kernel
theorem d_Law_law_126 : decode code 126 = .ok (.iconst 2, 1) := by decide +kernel
theorem d_Law_law_127 : decode code 127 = .ok (.iadd, 1) := by decide +kernel
theorem d_Law_law_128 : decode code 128 = .ok (.iaload, 1) := by decide +kernel
theorem d_Law_law_129 : decode code 129 = .ok (.aload_n 0, 1) := by decide +kernel
theorem d_Law_law_130 : decode code 130 = .ok (.iload 4, 2) := by decide +kernel
theorem d_Law_law_132 : decode code 132 = .ok (.iconst 3, 1) := by decide +kernel
theorem d_Law_law_133 : decode code 133 = .ok (.iadd, 1) := by decide +kernel
theorem d_Law_law_134 : decode code 134 = .ok (.iaload, 1) := by decide +kernel
theorem d_Law_law_135 : decode code 135 = .ok (.aload_n 0, 1) := by decide +kernel
theorem d_Law_law_136 : decode code 136 = .ok (.iload 4, 2) := by decide +kernel
theorem d_Law_law_138 : decode code 138 = .ok (.iconst 4, 1) := by decide +kernel
theorem d_Law_law_139 : decode code 139 = .ok (.iadd, 1) := by decide +kernel
theorem d_Law_law_140 : decode code 140 = .ok (.iaload, 1) := by decide +kernel
theorem d_Law_law_141 : decode code 141 = .ok (.aload_n 0, 1) := by decide +kernel
theorem d_Law_law_142 : decode code 142 = .ok (.iload 4, 2) := by decide +kernel
theorem d_Law_law_144 : decode code 144 = .ok (.iconst 5, 1) := by decide +kernel
theorem d_Law_law_145 : decode code 145 = .ok (.iadd, 1) := by decide +kernel
theorem d_Law_law_146 : decode code 146 = .ok (.iaload, 1) := by decide +kernel
theorem d_Law_law_147 : decode code 147 = .ok (.aload_n 3, 1) := by decide +kernel
theorem d_Law_law_148 : decode code 148 = .ok (.invokestatic 58, 3) := by decide +kernel
theorem d_Law_law_151 : decode code 151 = .ok (.istore 5, 2) := by decide +kernel
theorem d_Law_law_153 : decode code 153 = .ok (.aload_n 2, 1) := by decide +kernel
theorem d_Law_law_154 : decode code 154 = .ok (.aload_n 0, 1) := by decide +kernel
theorem d_Law_law_155 : decode code 155 = .ok (.iload 4, 2) := by decide +kernel
theorem d_Law_law_157 : decode code 157 = .ok (.iconst 1, 1) := by decide +kernel
theorem d_Law_law_158 : decode code 158 = .ok (.iadd, 1) := by decide +kernel
theorem d_Law_law_159 : decode code 159 = .ok (.iaload, 1) := by decide +kernel
theorem d_Law_law_160 : decode code 160 = .ok (.aload_n 0, 1) := by decide +kernel
theorem d_Law_law_161 : decode code 161 = .ok (.iload 4, 2) := by decide +kernel
theorem d_Law_law_163 : decode code 163 = .ok (.iconst 2, 1) := by decide +kernel
theorem d_Law_law_164 : decode code 164 = .ok (.iadd, 1) := by decide +kernel
theorem d_Law_law_165 : decode code 165 = .ok (.iaload, 1) := by decide +kernel
theorem d_Law_law_166 : decode code 166 = .ok (.aload_n 0, 1) := by decide +kernel
theorem d_Law_law_167 : decode code 167 = .ok (.iload 4, 2) := by decide +kernel
theorem d_Law_law_169 : decode code 169 = .ok (.iconst 3, 1) := by decide +kernel
theorem d_Law_law_170 : decode code 170 = .ok (.iadd, 1) := by decide +kernel
theorem d_Law_law_171 : decode code 171 = .ok (.iaload, 1) := by decide +kernel
theorem d_Law_law_172 : decode code 172 = .ok (.aload_n 0, 1) := by decide +kernel
theorem d_Law_law_173 : decode code 173 = .ok (.iload 4, 2) := by decide +kernel
theorem d_Law_law_175 : decode code 175 = .ok (.iconst 4, 1) := by decide +kernel
theorem d_Law_law_176 : decode code 176 = .ok (.iadd, 1) := by decide +kernel
theorem d_Law_law_177 : decode code 177 = .ok (.iaload, 1) := by decide +kernel
theorem d_Law_law_178 : decode code 178 = .ok (.aload_n 0, 1) := by decide +kernel
theorem d_Law_law_179 : decode code 179 = .ok (.iload 4, 2) := by decide +kernel
theorem d_Law_law_181 : decode code 181 = .ok (.iconst 5, 1) := by decide +kernel
theorem d_Law_law_182 : decode code 182 = .ok (.iadd, 1) := by decide +kernel
theorem d_Law_law_183 : decode code 183 = .ok (.iaload, 1) := by decide +kernel
theorem d_Law_law_184 : decode code 184 = .ok (.invokevirtual 61, 3) := by decide +kernel
theorem d_Law_law_187 : decode code 187 = .ok (.istore 6, 2) := by decide +kernel
theorem d_Law_law_189 : decode code 189 = .ok (.aload_n 2, 1) := by decide +kernel
theorem d_Law_law_190 : decode code 190 = .ok (.invokevirtual 62, 3) := by decide +kernel
theorem d_Law_law_193 : decode code 193 = .ok (.iload 5, 2) := by decide +kernel
theorem d_Law_law_195 : decode code 195 = .ok (.if_icmp .eq 5, 3) := by decide +kernel
theorem d_Law_law_198 : decode code 198 = .ok (.iconst 0, 1) := by decide +kernel
theorem d_Law_law_199 : decode code 199 = .ok (.ireturn, 1) := by decide +kernel
theorem d_Law_law_200 : decode code 200 = .ok (.iload 5, 2) := by decide +kernel
theorem d_Law_law_202 : decode code 202 = .ok (.ifCond .ne 22, 3) := by decide +kernel
theorem d_Law_law_205 : decode code 205 = .ok (.aload_n 3, 1) := by decide +kernel
theorem d_Law_law_206 : decode code 206 = .ok (.iconst 0, 1) := by decide +kernel
theorem d_Law_law_207 : decode code 207 = .ok (.laload, 1) := by decide +kernel
theorem d_Law_law_208 : decode code 208 = .ok (.iload 6, 2) := by decide +kernel
theorem d_Law_law_210 : decode code 210 = .ok (.ifCond .eq 7, 3) := by decide +kernel
theorem d_Law_law_213 : decode code 213 = .ok (.lconst 1, 1) := by decide +kernel
theorem d_Law_law_214 : decode code 214 = .ok (.goto 4, 3) := by decide +kernel
theorem d_Law_law_217 : decode code 217 = .ok (.lconst 0, 1) := by decide +kernel
theorem d_Law_law_218 : decode code 218 = .ok (.lcmp, 1) := by decide +kernel
theorem d_Law_law_219 : decode code 219 = .ok (.ifCond .eq 5, 3) := by decide +kernel
theorem d_Law_law_222 : decode code 222 = .ok (.iconst 0, 1) := by decide +kernel
theorem d_Law_law_223 : decode code 223 = .ok (.ireturn, 1) := by decide +kernel
theorem d_Law_law_224 : decode code 224 = .ok (.goto 486, 3) := by decide +kernel
theorem d_Law_law_227 : decode code 227 = .ok (.aload_n 1, 1) := by decide +kernel
theorem d_Law_law_228 : decode code 228 = .ok (.aload_n 0, 1) := by decide +kernel
theorem d_Law_law_229 : decode code 229 = .ok (.iload 4, 2) := by decide +kernel
theorem d_Law_law_231 : decode code 231 = .ok (.iconst 1, 1) := by decide +kernel
theorem d_Law_law_232 : decode code 232 = .ok (.iadd, 1) := by decide +kernel
theorem d_Law_law_233 : decode code 233 = .ok (.iaload, 1) := by decide +kernel
theorem d_Law_law_234 : decode code 234 = .ok (.aload_n 3, 1) := by decide +kernel
theorem d_Law_law_235 : decode code 235 = .ok (.invokestatic 66, 3) := by decide +kernel
theorem d_Law_law_238 : decode code 238 = .ok (.istore 5, 2) := by decide +kernel
theorem d_Law_law_240 : decode code 240 = .ok (.aload_n 2, 1) := by decide +kernel
theorem d_Law_law_241 : decode code 241 = .ok (.aload_n 0, 1) := by decide +kernel
theorem d_Law_law_242 : decode code 242 = .ok (.iload 4, 2) := by decide +kernel
theorem d_Law_law_244 : decode code 244 = .ok (.iconst 1, 1) := by decide +kernel
theorem d_Law_law_245 : decode code 245 = .ok (.iadd, 1) := by decide +kernel
theorem d_Law_law_246 : decode code 246 = .ok (.iaload, 1) := by decide +kernel
theorem d_Law_law_247 : decode code 247 = .ok (.invokevirtual 69, 3) := by decide +kernel
theorem d_Law_law_250 : decode code 250 = .ok (.istore 6, 2) := by decide +kernel
theorem d_Law_law_252 : decode code 252 = .ok (.aload_n 2, 1) := by decide +kernel
theorem d_Law_law_253 : decode code 253 = .ok (.invokevirtual 62, 3) := by decide +kernel
theorem d_Law_law_256 : decode code 256 = .ok (.iload 5, 2) := by decide +kernel
theorem d_Law_law_258 : decode code 258 = .ok (.if_icmp .eq 5, 3) := by decide +kernel
theorem d_Law_law_261 : decode code 261 = .ok (.iconst 0, 1) := by decide +kernel
theorem d_Law_law_262 : decode code 262 = .ok (.ireturn, 1) := by decide +kernel
theorem d_Law_law_263 : decode code 263 = .ok (.iload 5, 2) := by decide +kernel
theorem d_Law_law_265 : decode code 265 = .ok (.ifCond .ne 22, 3) := by decide +kernel
theorem d_Law_law_268 : decode code 268 = .ok (.aload_n 3, 1) := by decide +kernel
theorem d_Law_law_269 : decode code 269 = .ok (.iconst 0, 1) := by decide +kernel
theorem d_Law_law_270 : decode code 270 = .ok (.laload, 1) := by decide +kernel
theorem d_Law_law_271 : decode code 271 = .ok (.iload 6, 2) := by decide +kernel
theorem d_Law_law_273 : decode code 273 = .ok (.ifCond .eq 7, 3) := by decide +kernel
theorem d_Law_law_276 : decode code 276 = .ok (.lconst 1, 1) := by decide +kernel
theorem d_Law_law_277 : decode code 277 = .ok (.goto 4, 3) := by decide +kernel
theorem d_Law_law_280 : decode code 280 = .ok (.lconst 0, 1) := by decide +kernel
theorem d_Law_law_281 : decode code 281 = .ok (.lcmp, 1) := by decide +kernel
theorem d_Law_law_282 : decode code 282 = .ok (.ifCond .eq 5, 3) := by decide +kernel
theorem d_Law_law_285 : decode code 285 = .ok (.iconst 0, 1) := by decide +kernel
theorem d_Law_law_286 : decode code 286 = .ok (.ireturn, 1) := by decide +kernel
theorem d_Law_law_287 : decode code 287 = .ok (.goto 423, 3) := by decide +kernel
theorem d_Law_law_290 : decode code 290 = .ok (.aload_n 1, 1) := by decide +kernel
theorem d_Law_law_291 : decode code 291 = .ok (.invokevirtual 70, 3) := by decide +kernel
theorem d_Law_law_294 : decode code 294 = .ok (.aload_n 2, 1) := by decide +kernel
theorem d_Law_law_295 : decode code 295 = .ok (.invokevirtual 73, 3) := by decide +kernel
theorem d_Law_law_298 : decode code 298 = .ok (.if_icmp .eq 412, 3) := by decide +kernel
theorem d_Law_law_301 : decode code 301 = .ok (.iconst 0, 1) := by decide +kernel
theorem d_Law_law_302 : decode code 302 = .ok (.ireturn, 1) := by decide +kernel
theorem d_Law_law_303 : decode code 303 = .ok (.aload_n 1, 1) := by decide +kernel
theorem d_Law_law_304 : decode code 304 = .ok (.aload_n 0, 1) := by decide +kernel
theorem d_Law_law_305 : decode code 305 = .ok (.iload 4, 2) := by decide +kernel
theorem d_Law_law_307 : decode code 307 = .ok (.iconst 1, 1) := by decide +kernel
theorem d_Law_law_308 : decode code 308 = .ok (.iadd, 1) := by decide +kernel
theorem d_Law_law_309 : decode code 309 = .ok (.iaload, 1) := by decide +kernel
theorem d_Law_law_310 : decode code 310 = .ok (.aload_n 0, 1) := by decide +kernel
theorem d_Law_law_311 : decode code 311 = .ok (.iload 4, 2) := by decide +kernel
theorem d_Law_law_313 : decode code 313 = .ok (.iconst 2, 1) := by decide +kernel
theorem d_Law_law_314 : decode code 314 = .ok (.iadd, 1) := by decide +kernel
theorem d_Law_law_315 : decode code 315 = .ok (.iaload, 1) := by decide +kernel
theorem d_Law_law_316 : decode code 316 = .ok (.aload_n 3, 1) := by decide +kernel
theorem d_Law_law_317 : decode code 317 = .ok (.invokestatic 74, 3) := by decide +kernel
theorem d_Law_law_320 : decode code 320 = .ok (.istore 5, 2) := by decide +kernel
theorem d_Law_law_322 : decode code 322 = .ok (.aload_n 2, 1) := by decide +kernel
theorem d_Law_law_323 : decode code 323 = .ok (.aload_n 0, 1) := by decide +kernel
theorem d_Law_law_324 : decode code 324 = .ok (.iload 4, 2) := by decide +kernel
theorem d_Law_law_326 : decode code 326 = .ok (.iconst 1, 1) := by decide +kernel
theorem d_Law_law_327 : decode code 327 = .ok (.iadd, 1) := by decide +kernel
theorem d_Law_law_328 : decode code 328 = .ok (.iaload, 1) := by decide +kernel
theorem d_Law_law_329 : decode code 329 = .ok (.aload_n 0, 1) := by decide +kernel
theorem d_Law_law_330 : decode code 330 = .ok (.iload 4, 2) := by decide +kernel
theorem d_Law_law_332 : decode code 332 = .ok (.iconst 2, 1) := by decide +kernel
theorem d_Law_law_333 : decode code 333 = .ok (.iadd, 1) := by decide +kernel
theorem d_Law_law_334 : decode code 334 = .ok (.iaload, 1) := by decide +kernel
theorem d_Law_law_335 : decode code 335 = .ok (.invokevirtual 77, 3) := by decide +kernel
theorem d_Law_law_338 : decode code 338 = .ok (.istore 6, 2) := by decide +kernel
theorem d_Law_law_340 : decode code 340 = .ok (.aload_n 2, 1) := by decide +kernel
theorem d_Law_law_341 : decode code 341 = .ok (.invokevirtual 62, 3) := by decide +kernel
theorem d_Law_law_344 : decode code 344 = .ok (.iload 5, 2) := by decide +kernel
theorem d_Law_law_346 : decode code 346 = .ok (.if_icmp .eq 5, 3) := by decide +kernel
theorem d_Law_law_349 : decode code 349 = .ok (.iconst 0, 1) := by decide +kernel
theorem d_Law_law_350 : decode code 350 = .ok (.ireturn, 1) := by decide +kernel
theorem d_Law_law_351 : decode code 351 = .ok (.iload 5, 2) := by decide +kernel
theorem d_Law_law_353 : decode code 353 = .ok (.ifCond .ne 15, 3) := by decide +kernel
theorem d_Law_law_356 : decode code 356 = .ok (.aload_n 3, 1) := by decide +kernel
theorem d_Law_law_357 : decode code 357 = .ok (.iconst 0, 1) := by decide +kernel
theorem d_Law_law_358 : decode code 358 = .ok (.laload, 1) := by decide +kernel
theorem d_Law_law_359 : decode code 359 = .ok (.iload 6, 2) := by decide +kernel
theorem d_Law_law_361 : decode code 361 = .ok (.i2l, 1) := by decide +kernel
theorem d_Law_law_362 : decode code 362 = .ok (.lcmp, 1) := by decide +kernel
theorem d_Law_law_363 : decode code 363 = .ok (.ifCond .eq 5, 3) := by decide +kernel
theorem d_Law_law_366 : decode code 366 = .ok (.iconst 0, 1) := by decide +kernel
theorem d_Law_law_367 : decode code 367 = .ok (.ireturn, 1) := by decide +kernel
theorem d_Law_law_368 : decode code 368 = .ok (.goto 342, 3) := by decide +kernel
theorem d_Law_law_371 : decode code 371 = .ok (.aload_n 1, 1) := by decide +kernel
theorem d_Law_law_372 : decode code 372 = .ok (.aload_n 0, 1) := by decide +kernel
theorem d_Law_law_373 : decode code 373 = .ok (.iload 4, 2) := by decide +kernel
theorem d_Law_law_375 : decode code 375 = .ok (.iconst 1, 1) := by decide +kernel
theorem d_Law_law_376 : decode code 376 = .ok (.iadd, 1) := by decide +kernel
theorem d_Law_law_377 : decode code 377 = .ok (.iaload, 1) := by decide +kernel
theorem d_Law_law_378 : decode code 378 = .ok (.aload_n 0, 1) := by decide +kernel
theorem d_Law_law_379 : decode code 379 = .ok (.iload 4, 2) := by decide +kernel
theorem d_Law_law_381 : decode code 381 = .ok (.iconst 2, 1) := by decide +kernel
theorem d_Law_law_382 : decode code 382 = .ok (.iadd, 1) := by decide +kernel
theorem d_Law_law_383 : decode code 383 = .ok (.iaload, 1) := by decide +kernel
theorem d_Law_law_384 : decode code 384 = .ok (.aload_n 3, 1) := by decide +kernel
theorem d_Law_law_385 : decode code 385 = .ok (.invokestatic 78, 3) := by decide +kernel
theorem d_Law_law_388 : decode code 388 = .ok (.istore 5, 2) := by decide +kernel
theorem d_Law_law_390 : decode code 390 = .ok (.aload_n 2, 1) := by decide +kernel
theorem d_Law_law_391 : decode code 391 = .ok (.aload_n 0, 1) := by decide +kernel
theorem d_Law_law_392 : decode code 392 = .ok (.iload 4, 2) := by decide +kernel
theorem d_Law_law_394 : decode code 394 = .ok (.iconst 1, 1) := by decide +kernel
theorem d_Law_law_395 : decode code 395 = .ok (.iadd, 1) := by decide +kernel
theorem d_Law_law_396 : decode code 396 = .ok (.iaload, 1) := by decide +kernel
theorem d_Law_law_397 : decode code 397 = .ok (.aload_n 0, 1) := by decide +kernel
theorem d_Law_law_398 : decode code 398 = .ok (.iload 4, 2) := by decide +kernel
theorem d_Law_law_400 : decode code 400 = .ok (.iconst 2, 1) := by decide +kernel
theorem d_Law_law_401 : decode code 401 = .ok (.iadd, 1) := by decide +kernel
theorem d_Law_law_402 : decode code 402 = .ok (.iaload, 1) := by decide +kernel
theorem d_Law_law_403 : decode code 403 = .ok (.invokevirtual 80, 3) := by decide +kernel
theorem d_Law_law_406 : decode code 406 = .ok (.istore 6, 2) := by decide +kernel
theorem d_Law_law_408 : decode code 408 = .ok (.aload_n 2, 1) := by decide +kernel
theorem d_Law_law_409 : decode code 409 = .ok (.invokevirtual 62, 3) := by decide +kernel
theorem d_Law_law_412 : decode code 412 = .ok (.iload 5, 2) := by decide +kernel
theorem d_Law_law_414 : decode code 414 = .ok (.if_icmp .eq 5, 3) := by decide +kernel
theorem d_Law_law_417 : decode code 417 = .ok (.iconst 0, 1) := by decide +kernel
theorem d_Law_law_418 : decode code 418 = .ok (.ireturn, 1) := by decide +kernel
theorem d_Law_law_419 : decode code 419 = .ok (.iload 5, 2) := by decide +kernel
theorem d_Law_law_421 : decode code 421 = .ok (.ifCond .ne 15, 3) := by decide +kernel
theorem d_Law_law_424 : decode code 424 = .ok (.aload_n 3, 1) := by decide +kernel
theorem d_Law_law_425 : decode code 425 = .ok (.iconst 0, 1) := by decide +kernel
theorem d_Law_law_426 : decode code 426 = .ok (.laload, 1) := by decide +kernel
theorem d_Law_law_427 : decode code 427 = .ok (.iload 6, 2) := by decide +kernel
theorem d_Law_law_429 : decode code 429 = .ok (.i2l, 1) := by decide +kernel
theorem d_Law_law_430 : decode code 430 = .ok (.lcmp, 1) := by decide +kernel
theorem d_Law_law_431 : decode code 431 = .ok (.ifCond .eq 5, 3) := by decide +kernel
theorem d_Law_law_434 : decode code 434 = .ok (.iconst 0, 1) := by decide +kernel
theorem d_Law_law_435 : decode code 435 = .ok (.ireturn, 1) := by decide +kernel
theorem d_Law_law_436 : decode code 436 = .ok (.goto 274, 3) := by decide +kernel
theorem d_Law_law_439 : decode code 439 = .ok (.aload_n 1, 1) := by decide +kernel
theorem d_Law_law_440 : decode code 440 = .ok (.aload_n 0, 1) := by decide +kernel
theorem d_Law_law_441 : decode code 441 = .ok (.iload 4, 2) := by decide +kernel
theorem d_Law_law_443 : decode code 443 = .ok (.iconst 1, 1) := by decide +kernel
theorem d_Law_law_444 : decode code 444 = .ok (.iadd, 1) := by decide +kernel
theorem d_Law_law_445 : decode code 445 = .ok (.iaload, 1) := by decide +kernel
theorem d_Law_law_446 : decode code 446 = .ok (.aload_n 3, 1) := by decide +kernel
theorem d_Law_law_447 : decode code 447 = .ok (.invokestatic 81, 3) := by decide +kernel
theorem d_Law_law_450 : decode code 450 = .ok (.istore 5, 2) := by decide +kernel
theorem d_Law_law_452 : decode code 452 = .ok (.aload_n 2, 1) := by decide +kernel
theorem d_Law_law_453 : decode code 453 = .ok (.aload_n 0, 1) := by decide +kernel
theorem d_Law_law_454 : decode code 454 = .ok (.iload 4, 2) := by decide +kernel
theorem d_Law_law_456 : decode code 456 = .ok (.iconst 1, 1) := by decide +kernel
theorem d_Law_law_457 : decode code 457 = .ok (.iadd, 1) := by decide +kernel
theorem d_Law_law_458 : decode code 458 = .ok (.iaload, 1) := by decide +kernel
theorem d_Law_law_459 : decode code 459 = .ok (.invokevirtual 83, 3) := by decide +kernel
theorem d_Law_law_462 : decode code 462 = .ok (.lstore 6, 2) := by decide +kernel
theorem d_Law_law_464 : decode code 464 = .ok (.aload_n 2, 1) := by decide +kernel
theorem d_Law_law_465 : decode code 465 = .ok (.invokevirtual 62, 3) := by decide +kernel
theorem d_Law_law_468 : decode code 468 = .ok (.iload 5, 2) := by decide +kernel
theorem d_Law_law_470 : decode code 470 = .ok (.if_icmp .eq 5, 3) := by decide +kernel
theorem d_Law_law_473 : decode code 473 = .ok (.iconst 0, 1) := by decide +kernel
theorem d_Law_law_474 : decode code 474 = .ok (.ireturn, 1) := by decide +kernel
theorem d_Law_law_475 : decode code 475 = .ok (.iload 5, 2) := by decide +kernel
theorem d_Law_law_477 : decode code 477 = .ok (.ifCond .ne 14, 3) := by decide +kernel
theorem d_Law_law_480 : decode code 480 = .ok (.aload_n 3, 1) := by decide +kernel
theorem d_Law_law_481 : decode code 481 = .ok (.iconst 0, 1) := by decide +kernel
theorem d_Law_law_482 : decode code 482 = .ok (.laload, 1) := by decide +kernel
theorem d_Law_law_483 : decode code 483 = .ok (.lload 6, 2) := by decide +kernel
theorem d_Law_law_485 : decode code 485 = .ok (.lcmp, 1) := by decide +kernel
theorem d_Law_law_486 : decode code 486 = .ok (.ifCond .eq 5, 3) := by decide +kernel
theorem d_Law_law_489 : decode code 489 = .ok (.iconst 0, 1) := by decide +kernel
theorem d_Law_law_490 : decode code 490 = .ok (.ireturn, 1) := by decide +kernel
theorem d_Law_law_491 : decode code 491 = .ok (.goto 219, 3) := by decide +kernel
theorem d_Law_law_494 : decode code 494 = .ok (.aload_n 1, 1) := by decide +kernel
theorem d_Law_law_495 : decode code 495 = .ok (.aload_n 0, 1) := by decide +kernel
theorem d_Law_law_496 : decode code 496 = .ok (.iload 4, 2) := by decide +kernel
theorem d_Law_law_498 : decode code 498 = .ok (.iconst 1, 1) := by decide +kernel
theorem d_Law_law_499 : decode code 499 = .ok (.iadd, 1) := by decide +kernel
theorem d_Law_law_500 : decode code 500 = .ok (.iaload, 1) := by decide +kernel
theorem d_Law_law_501 : decode code 501 = .ok (.aload_n 0, 1) := by decide +kernel
theorem d_Law_law_502 : decode code 502 = .ok (.iload 4, 2) := by decide +kernel
theorem d_Law_law_504 : decode code 504 = .ok (.iconst 2, 1) := by decide +kernel
theorem d_Law_law_505 : decode code 505 = .ok (.iadd, 1) := by decide +kernel
theorem d_Law_law_506 : decode code 506 = .ok (.iaload, 1) := by decide +kernel
theorem d_Law_law_507 : decode code 507 = .ok (.aload_n 0, 1) := by decide +kernel
theorem d_Law_law_508 : decode code 508 = .ok (.iload 4, 2) := by decide +kernel
theorem d_Law_law_510 : decode code 510 = .ok (.iconst 3, 1) := by decide +kernel
theorem d_Law_law_511 : decode code 511 = .ok (.iadd, 1) := by decide +kernel
theorem d_Law_law_512 : decode code 512 = .ok (.iaload, 1) := by decide +kernel
theorem d_Law_law_513 : decode code 513 = .ok (.aload_n 3, 1) := by decide +kernel
theorem d_Law_law_514 : decode code 514 = .ok (.invokestatic 84, 3) := by decide +kernel
theorem d_Law_law_517 : decode code 517 = .ok (.istore 5, 2) := by decide +kernel
theorem d_Law_law_519 : decode code 519 = .ok (.aload_n 2, 1) := by decide +kernel
theorem d_Law_law_520 : decode code 520 = .ok (.aload_n 0, 1) := by decide +kernel
theorem d_Law_law_521 : decode code 521 = .ok (.iload 4, 2) := by decide +kernel
theorem d_Law_law_523 : decode code 523 = .ok (.iconst 1, 1) := by decide +kernel
theorem d_Law_law_524 : decode code 524 = .ok (.iadd, 1) := by decide +kernel
theorem d_Law_law_525 : decode code 525 = .ok (.iaload, 1) := by decide +kernel
theorem d_Law_law_526 : decode code 526 = .ok (.aload_n 0, 1) := by decide +kernel
theorem d_Law_law_527 : decode code 527 = .ok (.iload 4, 2) := by decide +kernel
theorem d_Law_law_529 : decode code 529 = .ok (.iconst 2, 1) := by decide +kernel
theorem d_Law_law_530 : decode code 530 = .ok (.iadd, 1) := by decide +kernel
theorem d_Law_law_531 : decode code 531 = .ok (.iaload, 1) := by decide +kernel
theorem d_Law_law_532 : decode code 532 = .ok (.aload_n 0, 1) := by decide +kernel
theorem d_Law_law_533 : decode code 533 = .ok (.iload 4, 2) := by decide +kernel
theorem d_Law_law_535 : decode code 535 = .ok (.iconst 3, 1) := by decide +kernel
theorem d_Law_law_536 : decode code 536 = .ok (.iadd, 1) := by decide +kernel
theorem d_Law_law_537 : decode code 537 = .ok (.iaload, 1) := by decide +kernel
theorem d_Law_law_538 : decode code 538 = .ok (.invokevirtual 87, 3) := by decide +kernel
theorem d_Law_law_541 : decode code 541 = .ok (.lstore 6, 2) := by decide +kernel
theorem d_Law_law_543 : decode code 543 = .ok (.aload_n 2, 1) := by decide +kernel
theorem d_Law_law_544 : decode code 544 = .ok (.invokevirtual 62, 3) := by decide +kernel
theorem d_Law_law_547 : decode code 547 = .ok (.iload 5, 2) := by decide +kernel
theorem d_Law_law_549 : decode code 549 = .ok (.if_icmp .eq 5, 3) := by decide +kernel
theorem d_Law_law_552 : decode code 552 = .ok (.iconst 0, 1) := by decide +kernel
theorem d_Law_law_553 : decode code 553 = .ok (.ireturn, 1) := by decide +kernel
theorem d_Law_law_554 : decode code 554 = .ok (.iload 5, 2) := by decide +kernel
theorem d_Law_law_556 : decode code 556 = .ok (.ifCond .ne 14, 3) := by decide +kernel
theorem d_Law_law_559 : decode code 559 = .ok (.aload_n 3, 1) := by decide +kernel
theorem d_Law_law_560 : decode code 560 = .ok (.iconst 0, 1) := by decide +kernel
theorem d_Law_law_561 : decode code 561 = .ok (.laload, 1) := by decide +kernel
theorem d_Law_law_562 : decode code 562 = .ok (.lload 6, 2) := by decide +kernel
theorem d_Law_law_564 : decode code 564 = .ok (.lcmp, 1) := by decide +kernel
theorem d_Law_law_565 : decode code 565 = .ok (.ifCond .eq 5, 3) := by decide +kernel
theorem d_Law_law_568 : decode code 568 = .ok (.iconst 0, 1) := by decide +kernel
theorem d_Law_law_569 : decode code 569 = .ok (.ireturn, 1) := by decide +kernel
theorem d_Law_law_570 : decode code 570 = .ok (.goto 140, 3) := by decide +kernel
theorem d_Law_law_573 : decode code 573 = .ok (.aload_n 1, 1) := by decide +kernel
theorem d_Law_law_574 : decode code 574 = .ok (.aload_n 0, 1) := by decide +kernel
theorem d_Law_law_575 : decode code 575 = .ok (.iload 4, 2) := by decide +kernel
theorem d_Law_law_577 : decode code 577 = .ok (.iconst 1, 1) := by decide +kernel
theorem d_Law_law_578 : decode code 578 = .ok (.iadd, 1) := by decide +kernel
theorem d_Law_law_579 : decode code 579 = .ok (.iaload, 1) := by decide +kernel
theorem d_Law_law_580 : decode code 580 = .ok (.aload_n 0, 1) := by decide +kernel
theorem d_Law_law_581 : decode code 581 = .ok (.iload 4, 2) := by decide +kernel
theorem d_Law_law_583 : decode code 583 = .ok (.iconst 2, 1) := by decide +kernel
theorem d_Law_law_584 : decode code 584 = .ok (.iadd, 1) := by decide +kernel
theorem d_Law_law_585 : decode code 585 = .ok (.iaload, 1) := by decide +kernel
theorem d_Law_law_586 : decode code 586 = .ok (.aload_n 3, 1) := by decide +kernel
theorem d_Law_law_587 : decode code 587 = .ok (.invokestatic 88, 3) := by decide +kernel
theorem d_Law_law_590 : decode code 590 = .ok (.istore 5, 2) := by decide +kernel
theorem d_Law_law_592 : decode code 592 = .ok (.aload_n 2, 1) := by decide +kernel
theorem d_Law_law_593 : decode code 593 = .ok (.aload_n 0, 1) := by decide +kernel
theorem d_Law_law_594 : decode code 594 = .ok (.iload 4, 2) := by decide +kernel
theorem d_Law_law_596 : decode code 596 = .ok (.iconst 1, 1) := by decide +kernel
theorem d_Law_law_597 : decode code 597 = .ok (.iadd, 1) := by decide +kernel
theorem d_Law_law_598 : decode code 598 = .ok (.iaload, 1) := by decide +kernel
theorem d_Law_law_599 : decode code 599 = .ok (.aload_n 0, 1) := by decide +kernel
theorem d_Law_law_600 : decode code 600 = .ok (.iload 4, 2) := by decide +kernel
theorem d_Law_law_602 : decode code 602 = .ok (.iconst 2, 1) := by decide +kernel
theorem d_Law_law_603 : decode code 603 = .ok (.iadd, 1) := by decide +kernel
theorem d_Law_law_604 : decode code 604 = .ok (.iaload, 1) := by decide +kernel
theorem d_Law_law_605 : decode code 605 = .ok (.invokevirtual 90, 3) := by decide +kernel
theorem d_Law_law_608 : decode code 608 = .ok (.lstore 6, 2) := by decide +kernel
theorem d_Law_law_610 : decode code 610 = .ok (.aload_n 2, 1) := by decide +kernel
theorem d_Law_law_611 : decode code 611 = .ok (.invokevirtual 62, 3) := by decide +kernel
theorem d_Law_law_614 : decode code 614 = .ok (.iload 5, 2) := by decide +kernel
theorem d_Law_law_616 : decode code 616 = .ok (.if_icmp .eq 5, 3) := by decide +kernel
theorem d_Law_law_619 : decode code 619 = .ok (.iconst 0, 1) := by decide +kernel
theorem d_Law_law_620 : decode code 620 = .ok (.ireturn, 1) := by decide +kernel
theorem d_Law_law_621 : decode code 621 = .ok (.iload 5, 2) := by decide +kernel
theorem d_Law_law_623 : decode code 623 = .ok (.ifCond .ne 14, 3) := by decide +kernel
theorem d_Law_law_626 : decode code 626 = .ok (.aload_n 3, 1) := by decide +kernel
theorem d_Law_law_627 : decode code 627 = .ok (.iconst 0, 1) := by decide +kernel
theorem d_Law_law_628 : decode code 628 = .ok (.laload, 1) := by decide +kernel
theorem d_Law_law_629 : decode code 629 = .ok (.lload 6, 2) := by decide +kernel
theorem d_Law_law_631 : decode code 631 = .ok (.lcmp, 1) := by decide +kernel
theorem d_Law_law_632 : decode code 632 = .ok (.ifCond .eq 5, 3) := by decide +kernel
theorem d_Law_law_635 : decode code 635 = .ok (.iconst 0, 1) := by decide +kernel
theorem d_Law_law_636 : decode code 636 = .ok (.ireturn, 1) := by decide +kernel
theorem d_Law_law_637 : decode code 637 = .ok (.goto 73, 3) := by decide +kernel
theorem d_Law_law_640 : decode code 640 = .ok (.aload_n 1, 1) := by decide +kernel
theorem d_Law_law_641 : decode code 641 = .ok (.aload_n 0, 1) := by decide +kernel
theorem d_Law_law_642 : decode code 642 = .ok (.iload 4, 2) := by decide +kernel
theorem d_Law_law_644 : decode code 644 = .ok (.iconst 1, 1) := by decide +kernel
theorem d_Law_law_645 : decode code 645 = .ok (.iadd, 1) := by decide +kernel
theorem d_Law_law_646 : decode code 646 = .ok (.iaload, 1) := by decide +kernel
theorem d_Law_law_647 : decode code 647 = .ok (.aload_n 3, 1) := by decide +kernel
theorem d_Law_law_648 : decode code 648 = .ok (.invokestatic 91, 3) := by decide +kernel
theorem d_Law_law_651 : decode code 651 = .ok (.istore 5, 2) := by decide +kernel
theorem d_Law_law_653 : decode code 653 = .ok (.aload_n 2, 1) := by decide +kernel
theorem d_Law_law_654 : decode code 654 = .ok (.aload_n 0, 1) := by decide +kernel
theorem d_Law_law_655 : decode code 655 = .ok (.iload 4, 2) := by decide +kernel
theorem d_Law_law_657 : decode code 657 = .ok (.iconst 1, 1) := by decide +kernel
theorem d_Law_law_658 : decode code 658 = .ok (.iadd, 1) := by decide +kernel
theorem d_Law_law_659 : decode code 659 = .ok (.iaload, 1) := by decide +kernel
theorem d_Law_law_660 : decode code 660 = .ok (.invokevirtual 93, 3) := by decide +kernel
theorem d_Law_law_663 : decode code 663 = .ok (.istore 6, 2) := by decide +kernel
theorem d_Law_law_665 : decode code 665 = .ok (.aload_n 2, 1) := by decide +kernel
theorem d_Law_law_666 : decode code 666 = .ok (.invokevirtual 62, 3) := by decide +kernel
theorem d_Law_law_669 : decode code 669 = .ok (.iload 5, 2) := by decide +kernel
theorem d_Law_law_671 : decode code 671 = .ok (.if_icmp .eq 5, 3) := by decide +kernel
theorem d_Law_law_674 : decode code 674 = .ok (.iconst 0, 1) := by decide +kernel
theorem d_Law_law_675 : decode code 675 = .ok (.ireturn, 1) := by decide +kernel
theorem d_Law_law_676 : decode code 676 = .ok (.iload 5, 2) := by decide +kernel
theorem d_Law_law_678 : decode code 678 = .ok (.ifCond .ne 15, 3) := by decide +kernel
theorem d_Law_law_681 : decode code 681 = .ok (.aload_n 3, 1) := by decide +kernel
theorem d_Law_law_682 : decode code 682 = .ok (.iconst 0, 1) := by decide +kernel
theorem d_Law_law_683 : decode code 683 = .ok (.laload, 1) := by decide +kernel
theorem d_Law_law_684 : decode code 684 = .ok (.iload 6, 2) := by decide +kernel
theorem d_Law_law_686 : decode code 686 = .ok (.i2l, 1) := by decide +kernel
theorem d_Law_law_687 : decode code 687 = .ok (.lcmp, 1) := by decide +kernel
theorem d_Law_law_688 : decode code 688 = .ok (.ifCond .eq 5, 3) := by decide +kernel
theorem d_Law_law_691 : decode code 691 = .ok (.iconst 0, 1) := by decide +kernel
theorem d_Law_law_692 : decode code 692 = .ok (.ireturn, 1) := by decide +kernel
theorem d_Law_law_693 : decode code 693 = .ok (.goto 17, 3) := by decide +kernel
theorem d_Law_law_696 : decode code 696 = .ok (.aload_n 1, 1) := by decide +kernel
theorem d_Law_law_697 : decode code 697 = .ok (.invokevirtual 94, 3) := by decide +kernel
theorem d_Law_law_700 : decode code 700 = .ok (.aload_n 2, 1) := by decide +kernel
theorem d_Law_law_701 : decode code 701 = .ok (.invokevirtual 98, 3) := by decide +kernel
theorem d_Law_law_704 : decode code 704 = .ok (.lcmp, 1) := by decide +kernel
theorem d_Law_law_705 : decode code 705 = .ok (.ifCond .eq 5, 3) := by decide +kernel
theorem d_Law_law_708 : decode code 708 = .ok (.iconst 0, 1) := by decide +kernel
theorem d_Law_law_709 : decode code 709 = .ok (.ireturn, 1) := by decide +kernel
theorem d_Law_law_710 : decode code 710 = .ok (.iinc 4 6, 3) := by decide +kernel
theorem d_Law_law_713 : decode code 713 = .ok (.goto (-670), 3) := by decide +kernel
theorem d_Law_law_716 : decode code 716 = .ok (.iconst 1, 1) := by decide +kernel
theorem d_Law_law_717 : decode code 717 = .ok (.ireturn, 1) := by decide +kernel
