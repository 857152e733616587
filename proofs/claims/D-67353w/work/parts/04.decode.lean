def dl_R_init : List (Nat × Instr × Nat) := [(0, .aload_n 0, 1), (1, .invokespecial 1, 3), (4, .aload_n 0, 1), (5, .iconst 4, 1), (6, .anewarray 7, 3), (9, .dup, 1), (10, .iconst 0, 1), (11, .new 9, 3), (14, .dup, 1), (15, .invokespecial 11, 3), (18, .aastore, 1), (19, .dup, 1), (20, .iconst 1, 1), (21, .new 12, 3), (24, .dup, 1), (25, .invokespecial 14, 3), (28, .aastore, 1), (29, .dup, 1), (30, .iconst 2, 1), (31, .new 15, 3), (34, .dup, 1), (35, .invokespecial 17, 3), (38, .aastore, 1), (39, .dup, 1), (40, .iconst 3, 1), (41, .new 18, 3), (44, .dup, 1), (45, .invokespecial 20, 3), (48, .aastore, 1), (49, .putfield 21, 3), (52, .aload_n 0, 1), (53, .new 27, 3), (56, .dup, 1), (57, .invokespecial 29, 3), (60, .putfield 30, 3), (63, .aload_n 0, 1), (64, .sipush 2000, 3), (67, .newarray .int, 2), (69, .putfield 34, 3), (72, .aload_n 0, 1), (73, .sipush 2000, 3), (76, .newarray .int, 2), (78, .putfield 38, 3), (81, .aload_n 0, 1), (82, .sipush 2000, 3), (85, .newarray .int, 2), (87, .putfield 41, 3), (90, .aload_n 0, 1), (91, .sipush 2000, 3), (94, .newarray .int, 2), (96, .putfield 44, 3), (99, .return_, 1)]
set_option maxRecDepth 100000 in
theorem da_R_init : (dl_R_init.all fun q => decide (decode b_R_init q.1 = .ok q.2)) = true := by decide +kernel
theorem d_R_init_0 : decode b_R_init 0 = .ok (.aload_n 0, 1) := dk da_R_init 0 rfl
theorem d_R_init_1 : decode b_R_init 1 = .ok (.invokespecial 1, 3) := dk da_R_init 1 rfl
theorem d_R_init_4 : decode b_R_init 4 = .ok (.aload_n 0, 1) := dk da_R_init 2 rfl
theorem d_R_init_5 : decode b_R_init 5 = .ok (.iconst 4, 1) := dk da_R_init 3 rfl
theorem d_R_init_6 : decode b_R_init 6 = .ok (.anewarray 7, 3) := dk da_R_init 4 rfl
theorem d_R_init_9 : decode b_R_init 9 = .ok (.dup, 1) := dk da_R_init 5 rfl
theorem d_R_init_10 : decode b_R_init 10 = .ok (.iconst 0, 1) := dk da_R_init 6 rfl
theorem d_R_init_11 : decode b_R_init 11 = .ok (.new 9, 3) := dk da_R_init 7 rfl
theorem d_R_init_14 : decode b_R_init 14 = .ok (.dup, 1) := dk da_R_init 8 rfl
theorem d_R_init_15 : decode b_R_init 15 = .ok (.invokespecial 11, 3) := dk da_R_init 9 rfl
theorem d_R_init_18 : decode b_R_init 18 = .ok (.aastore, 1) := dk da_R_init 10 rfl
theorem d_R_init_19 : decode b_R_init 19 = .ok (.dup, 1) := dk da_R_init 11 rfl
theorem d_R_init_20 : decode b_R_init 20 = .ok (.iconst 1, 1) := dk da_R_init 12 rfl
theorem d_R_init_21 : decode b_R_init 21 = .ok (.new 12, 3) := dk da_R_init 13 rfl
theorem d_R_init_24 : decode b_R_init 24 = .ok (.dup, 1) := dk da_R_init 14 rfl
theorem d_R_init_25 : decode b_R_init 25 = .ok (.invokespecial 14, 3) := dk da_R_init 15 rfl
theorem d_R_init_28 : decode b_R_init 28 = .ok (.aastore, 1) := dk da_R_init 16 rfl
theorem d_R_init_29 : decode b_R_init 29 = .ok (.dup, 1) := dk da_R_init 17 rfl
theorem d_R_init_30 : decode b_R_init 30 = .ok (.iconst 2, 1) := dk da_R_init 18 rfl
theorem d_R_init_31 : decode b_R_init 31 = .ok (.new 15, 3) := dk da_R_init 19 rfl
theorem d_R_init_34 : decode b_R_init 34 = .ok (.dup, 1) := dk da_R_init 20 rfl
theorem d_R_init_35 : decode b_R_init 35 = .ok (.invokespecial 17, 3) := dk da_R_init 21 rfl
theorem d_R_init_38 : decode b_R_init 38 = .ok (.aastore, 1) := dk da_R_init 22 rfl
theorem d_R_init_39 : decode b_R_init 39 = .ok (.dup, 1) := dk da_R_init 23 rfl
theorem d_R_init_40 : decode b_R_init 40 = .ok (.iconst 3, 1) := dk da_R_init 24 rfl
theorem d_R_init_41 : decode b_R_init 41 = .ok (.new 18, 3) := dk da_R_init 25 rfl
theorem d_R_init_44 : decode b_R_init 44 = .ok (.dup, 1) := dk da_R_init 26 rfl
theorem d_R_init_45 : decode b_R_init 45 = .ok (.invokespecial 20, 3) := dk da_R_init 27 rfl
theorem d_R_init_48 : decode b_R_init 48 = .ok (.aastore, 1) := dk da_R_init 28 rfl
theorem d_R_init_49 : decode b_R_init 49 = .ok (.putfield 21, 3) := dk da_R_init 29 rfl
theorem d_R_init_52 : decode b_R_init 52 = .ok (.aload_n 0, 1) := dk da_R_init 30 rfl
theorem d_R_init_53 : decode b_R_init 53 = .ok (.new 27, 3) := dk da_R_init 31 rfl
theorem d_R_init_56 : decode b_R_init 56 = .ok (.dup, 1) := dk da_R_init 32 rfl
theorem d_R_init_57 : decode b_R_init 57 = .ok (.invokespecial 29, 3) := dk da_R_init 33 rfl
theorem d_R_init_60 : decode b_R_init 60 = .ok (.putfield 30, 3) := dk da_R_init 34 rfl
theorem d_R_init_63 : decode b_R_init 63 = .ok (.aload_n 0, 1) := dk da_R_init 35 rfl
theorem d_R_init_64 : decode b_R_init 64 = .ok (.sipush 2000, 3) := dk da_R_init 36 rfl
theorem d_R_init_67 : decode b_R_init 67 = .ok (.newarray .int, 2) := dk da_R_init 37 rfl
theorem d_R_init_69 : decode b_R_init 69 = .ok (.putfield 34, 3) := dk da_R_init 38 rfl
theorem d_R_init_72 : decode b_R_init 72 = .ok (.aload_n 0, 1) := dk da_R_init 39 rfl
theorem d_R_init_73 : decode b_R_init 73 = .ok (.sipush 2000, 3) := dk da_R_init 40 rfl
theorem d_R_init_76 : decode b_R_init 76 = .ok (.newarray .int, 2) := dk da_R_init 41 rfl
theorem d_R_init_78 : decode b_R_init 78 = .ok (.putfield 38, 3) := dk da_R_init 42 rfl
theorem d_R_init_81 : decode b_R_init 81 = .ok (.aload_n 0, 1) := dk da_R_init 43 rfl
theorem d_R_init_82 : decode b_R_init 82 = .ok (.sipush 2000, 3) := dk da_R_init 44 rfl
theorem d_R_init_85 : decode b_R_init 85 = .ok (.newarray .int, 2) := dk da_R_init 45 rfl
theorem d_R_init_87 : decode b_R_init 87 = .ok (.putfield 41, 3) := dk da_R_init 46 rfl
theorem d_R_init_90 : decode b_R_init 90 = .ok (.aload_n 0, 1) := dk da_R_init 47 rfl
theorem d_R_init_91 : decode b_R_init 91 = .ok (.sipush 2000, 3) := dk da_R_init 48 rfl
theorem d_R_init_94 : decode b_R_init 94 = .ok (.newarray .int, 2) := dk da_R_init 49 rfl
theorem d_R_init_96 : decode b_R_init 96 = .ok (.putfield 44, 3) := dk da_R_init 50 rfl
theorem d_R_init_99 : decode b_R_init 99 = .ok (.return_, 1) := dk da_R_init 51 rfl
def dl_R_in : List (Nat × Instr × Nat) := [(0, .iload_n 0, 1), (1, .iload_n 1, 1), (2, .if_icmp .lt 8, 3), (5, .iload_n 0, 1), (6, .iload_n 2, 1), (7, .if_icmp .le 11, 3), (10, .new 47, 3), (13, .dup, 1), (14, .invokespecial 49, 3), (17, .athrow, 1), (18, .return_, 1)]
set_option maxRecDepth 100000 in
theorem da_R_in : (dl_R_in.all fun q => decide (decode b_R_in q.1 = .ok q.2)) = true := by decide +kernel
theorem d_R_in_0 : decode b_R_in 0 = .ok (.iload_n 0, 1) := dk da_R_in 0 rfl
theorem d_R_in_1 : decode b_R_in 1 = .ok (.iload_n 1, 1) := dk da_R_in 1 rfl
theorem d_R_in_2 : decode b_R_in 2 = .ok (.if_icmp .lt 8, 3) := dk da_R_in 2 rfl
theorem d_R_in_5 : decode b_R_in 5 = .ok (.iload_n 0, 1) := dk da_R_in 3 rfl
theorem d_R_in_6 : decode b_R_in 6 = .ok (.iload_n 2, 1) := dk da_R_in 4 rfl
theorem d_R_in_7 : decode b_R_in 7 = .ok (.if_icmp .le 11, 3) := dk da_R_in 5 rfl
theorem d_R_in_10 : decode b_R_in 10 = .ok (.new 47, 3) := dk da_R_in 6 rfl
theorem d_R_in_13 : decode b_R_in 13 = .ok (.dup, 1) := dk da_R_in 7 rfl
theorem d_R_in_14 : decode b_R_in 14 = .ok (.invokespecial 49, 3) := dk da_R_in 8 rfl
theorem d_R_in_17 : decode b_R_in 17 = .ok (.athrow, 1) := dk da_R_in 9 rfl
theorem d_R_in_18 : decode b_R_in 18 = .ok (.return_, 1) := dk da_R_in 10 rfl
def dl_R_within : List (Nat × Instr × Nat) := [(0, .iload_n 0, 1), (1, .ifCond .ne 11, 3), (4, .new 50, 3), (7, .dup, 1), (8, .invokespecial 52, 3), (11, .athrow, 1), (12, .return_, 1)]
set_option maxRecDepth 100000 in
theorem da_R_within : (dl_R_within.all fun q => decide (decode b_R_within q.1 = .ok q.2)) = true := by decide +kernel
theorem d_R_within_0 : decode b_R_within 0 = .ok (.iload_n 0, 1) := dk da_R_within 0 rfl
theorem d_R_within_1 : decode b_R_within 1 = .ok (.ifCond .ne 11, 3) := dk da_R_within 1 rfl
theorem d_R_within_4 : decode b_R_within 4 = .ok (.new 50, 3) := dk da_R_within 2 rfl
theorem d_R_within_7 : decode b_R_within 7 = .ok (.dup, 1) := dk da_R_within 3 rfl
theorem d_R_within_8 : decode b_R_within 8 = .ok (.invokespecial 52, 3) := dk da_R_within 4 rfl
theorem d_R_within_11 : decode b_R_within 11 = .ok (.athrow, 1) := dk da_R_within 5 rfl
theorem d_R_within_12 : decode b_R_within 12 = .ok (.return_, 1) := dk da_R_within 6 rfl
def dl_R_add : List (Nat × Instr × Nat) := [(0, .aload_n 0, 1), (1, .getfield 34, 3), (4, .aload_n 0, 1), (5, .getfield 53, 3), (8, .iload_n 1, 1), (9, .iastore, 1), (10, .aload_n 0, 1), (11, .getfield 38, 3), (14, .aload_n 0, 1), (15, .getfield 53, 3), (18, .aload_n 0, 1), (19, .getfield 53, 3), (22, .iastore, 1), (23, .aload_n 0, 1), (24, .dup, 1), (25, .getfield 53, 3), (28, .iconst 1, 1), (29, .iadd, 1), (30, .putfield 53, 3), (33, .return_, 1)]
set_option maxRecDepth 100000 in
theorem da_R_add : (dl_R_add.all fun q => decide (decode b_R_add q.1 = .ok q.2)) = true := by decide +kernel
theorem d_R_add_0 : decode b_R_add 0 = .ok (.aload_n 0, 1) := dk da_R_add 0 rfl
theorem d_R_add_1 : decode b_R_add 1 = .ok (.getfield 34, 3) := dk da_R_add 1 rfl
theorem d_R_add_4 : decode b_R_add 4 = .ok (.aload_n 0, 1) := dk da_R_add 2 rfl
theorem d_R_add_5 : decode b_R_add 5 = .ok (.getfield 53, 3) := dk da_R_add 3 rfl
theorem d_R_add_8 : decode b_R_add 8 = .ok (.iload_n 1, 1) := dk da_R_add 4 rfl
theorem d_R_add_9 : decode b_R_add 9 = .ok (.iastore, 1) := dk da_R_add 5 rfl
theorem d_R_add_10 : decode b_R_add 10 = .ok (.aload_n 0, 1) := dk da_R_add 6 rfl
theorem d_R_add_11 : decode b_R_add 11 = .ok (.getfield 38, 3) := dk da_R_add 7 rfl
theorem d_R_add_14 : decode b_R_add 14 = .ok (.aload_n 0, 1) := dk da_R_add 8 rfl
theorem d_R_add_15 : decode b_R_add 15 = .ok (.getfield 53, 3) := dk da_R_add 9 rfl
theorem d_R_add_18 : decode b_R_add 18 = .ok (.aload_n 0, 1) := dk da_R_add 10 rfl
theorem d_R_add_19 : decode b_R_add 19 = .ok (.getfield 53, 3) := dk da_R_add 11 rfl
theorem d_R_add_22 : decode b_R_add 22 = .ok (.iastore, 1) := dk da_R_add 12 rfl
theorem d_R_add_23 : decode b_R_add 23 = .ok (.aload_n 0, 1) := dk da_R_add 13 rfl
theorem d_R_add_24 : decode b_R_add 24 = .ok (.dup, 1) := dk da_R_add 14 rfl
theorem d_R_add_25 : decode b_R_add 25 = .ok (.getfield 53, 3) := dk da_R_add 15 rfl
theorem d_R_add_28 : decode b_R_add 28 = .ok (.iconst 1, 1) := dk da_R_add 16 rfl
theorem d_R_add_29 : decode b_R_add 29 = .ok (.iadd, 1) := dk da_R_add 17 rfl
theorem d_R_add_30 : decode b_R_add 30 = .ok (.putfield 53, 3) := dk da_R_add 18 rfl
theorem d_R_add_33 : decode b_R_add 33 = .ok (.return_, 1) := dk da_R_add 19 rfl
def dl_R_fill : List (Nat × Instr × Nat) := [(0, .iload_n 3, 1), (1, .iconst 0, 1), (2, .sipush 2000, 3), (5, .invokestatic 57, 3), (8, .aload_n 0, 1), (9, .getfield 53, 3), (12, .iload_n 3, 1), (13, .iadd, 1), (14, .sipush 2000, 3), (17, .if_icmp .gt 7, 3), (20, .iconst 1, 1), (21, .goto 4, 3), (24, .iconst 0, 1), (25, .invokestatic 61, 3), (28, .iconst 0, 1), (29, .istore 4, 2), (31, .iload 4, 2), (33, .iload_n 3, 1), (34, .if_icmp .ge 19, 3), (37, .aload_n 0, 1), (38, .iload_n 1, 1), (39, .iload 4, 2), (41, .iload_n 2, 1), (42, .imul, 1), (43, .iadd, 1), (44, .invokevirtual 65, 3), (47, .iinc 4 1, 3), (50, .goto (-19), 3), (53, .aload_n 0, 1), (54, .getfield 53, 3), (57, .ireturn, 1)]
set_option maxRecDepth 100000 in
theorem da_R_fill : (dl_R_fill.all fun q => decide (decode b_R_fill q.1 = .ok q.2)) = true := by decide +kernel
theorem d_R_fill_0 : decode b_R_fill 0 = .ok (.iload_n 3, 1) := dk da_R_fill 0 rfl
theorem d_R_fill_1 : decode b_R_fill 1 = .ok (.iconst 0, 1) := dk da_R_fill 1 rfl
theorem d_R_fill_2 : decode b_R_fill 2 = .ok (.sipush 2000, 3) := dk da_R_fill 2 rfl
theorem d_R_fill_5 : decode b_R_fill 5 = .ok (.invokestatic 57, 3) := dk da_R_fill 3 rfl
theorem d_R_fill_8 : decode b_R_fill 8 = .ok (.aload_n 0, 1) := dk da_R_fill 4 rfl
theorem d_R_fill_9 : decode b_R_fill 9 = .ok (.getfield 53, 3) := dk da_R_fill 5 rfl
theorem d_R_fill_12 : decode b_R_fill 12 = .ok (.iload_n 3, 1) := dk da_R_fill 6 rfl
theorem d_R_fill_13 : decode b_R_fill 13 = .ok (.iadd, 1) := dk da_R_fill 7 rfl
theorem d_R_fill_14 : decode b_R_fill 14 = .ok (.sipush 2000, 3) := dk da_R_fill 8 rfl
theorem d_R_fill_17 : decode b_R_fill 17 = .ok (.if_icmp .gt 7, 3) := dk da_R_fill 9 rfl
theorem d_R_fill_20 : decode b_R_fill 20 = .ok (.iconst 1, 1) := dk da_R_fill 10 rfl
theorem d_R_fill_21 : decode b_R_fill 21 = .ok (.goto 4, 3) := dk da_R_fill 11 rfl
theorem d_R_fill_24 : decode b_R_fill 24 = .ok (.iconst 0, 1) := dk da_R_fill 12 rfl
theorem d_R_fill_25 : decode b_R_fill 25 = .ok (.invokestatic 61, 3) := dk da_R_fill 13 rfl
theorem d_R_fill_28 : decode b_R_fill 28 = .ok (.iconst 0, 1) := dk da_R_fill 14 rfl
theorem d_R_fill_29 : decode b_R_fill 29 = .ok (.istore 4, 2) := dk da_R_fill 15 rfl
theorem d_R_fill_31 : decode b_R_fill 31 = .ok (.iload 4, 2) := dk da_R_fill 16 rfl
theorem d_R_fill_33 : decode b_R_fill 33 = .ok (.iload_n 3, 1) := dk da_R_fill 17 rfl
theorem d_R_fill_34 : decode b_R_fill 34 = .ok (.if_icmp .ge 19, 3) := dk da_R_fill 18 rfl
theorem d_R_fill_37 : decode b_R_fill 37 = .ok (.aload_n 0, 1) := dk da_R_fill 19 rfl
theorem d_R_fill_38 : decode b_R_fill 38 = .ok (.iload_n 1, 1) := dk da_R_fill 20 rfl
theorem d_R_fill_39 : decode b_R_fill 39 = .ok (.iload 4, 2) := dk da_R_fill 21 rfl
theorem d_R_fill_41 : decode b_R_fill 41 = .ok (.iload_n 2, 1) := dk da_R_fill 22 rfl
theorem d_R_fill_42 : decode b_R_fill 42 = .ok (.imul, 1) := dk da_R_fill 23 rfl
theorem d_R_fill_43 : decode b_R_fill 43 = .ok (.iadd, 1) := dk da_R_fill 24 rfl
theorem d_R_fill_44 : decode b_R_fill 44 = .ok (.invokevirtual 65, 3) := dk da_R_fill 25 rfl
theorem d_R_fill_47 : decode b_R_fill 47 = .ok (.iinc 4 1, 3) := dk da_R_fill 26 rfl
theorem d_R_fill_50 : decode b_R_fill 50 = .ok (.goto (-19), 3) := dk da_R_fill 27 rfl
theorem d_R_fill_53 : decode b_R_fill 53 = .ok (.aload_n 0, 1) := dk da_R_fill 28 rfl
theorem d_R_fill_54 : decode b_R_fill 54 = .ok (.getfield 53, 3) := dk da_R_fill 29 rfl
theorem d_R_fill_57 : decode b_R_fill 57 = .ok (.ireturn, 1) := dk da_R_fill 30 rfl
def dl_R_scatter : List (Nat × Instr × Nat) := [(0, .iload_n 2, 1), (1, .iconst 1, 1), (2, .bipush 16, 2), (4, .invokestatic 57, 3), (7, .iload_n 3, 1), (8, .iconst 0, 1), (9, .sipush 2000, 3), (12, .invokestatic 57, 3), (15, .aload_n 0, 1), (16, .getfield 53, 3), (19, .iload_n 3, 1), (20, .iadd, 1), (21, .sipush 2000, 3), (24, .if_icmp .gt 7, 3), (27, .iconst 1, 1), (28, .goto 4, 3), (31, .iconst 0, 1), (32, .invokestatic 61, 3), (35, .iload_n 1, 1), (36, .istore 4, 2), (38, .iconst 0, 1), (39, .istore 5, 2), (41, .iload 5, 2), (43, .iload_n 3, 1), (44, .if_icmp .ge 34, 3), (47, .ldc 69, 2), (49, .iload 4, 2), (51, .imul, 1), (52, .ldc 70, 2), (54, .iadd, 1), (55, .istore 4, 2), (57, .aload_n 0, 1), (58, .iload 4, 2), (60, .bipush 16, 2), (62, .iushr, 1), (63, .iconst 1, 1), (64, .iload_n 2, 1), (65, .ishl, 1), (66, .iconst 1, 1), (67, .isub, 1), (68, .iand, 1), (69, .invokevirtual 65, 3), (72, .iinc 5 1, 3), (75, .goto (-34), 3), (78, .aload_n 0, 1), (79, .getfield 53, 3), (82, .ireturn, 1)]
set_option maxRecDepth 100000 in
theorem da_R_scatter : (dl_R_scatter.all fun q => decide (decode b_R_scatter q.1 = .ok q.2)) = true := by decide +kernel
theorem d_R_scatter_0 : decode b_R_scatter 0 = .ok (.iload_n 2, 1) := dk da_R_scatter 0 rfl
theorem d_R_scatter_1 : decode b_R_scatter 1 = .ok (.iconst 1, 1) := dk da_R_scatter 1 rfl
theorem d_R_scatter_2 : decode b_R_scatter 2 = .ok (.bipush 16, 2) := dk da_R_scatter 2 rfl
theorem d_R_scatter_4 : decode b_R_scatter 4 = .ok (.invokestatic 57, 3) := dk da_R_scatter 3 rfl
theorem d_R_scatter_7 : decode b_R_scatter 7 = .ok (.iload_n 3, 1) := dk da_R_scatter 4 rfl
theorem d_R_scatter_8 : decode b_R_scatter 8 = .ok (.iconst 0, 1) := dk da_R_scatter 5 rfl
theorem d_R_scatter_9 : decode b_R_scatter 9 = .ok (.sipush 2000, 3) := dk da_R_scatter 6 rfl
theorem d_R_scatter_12 : decode b_R_scatter 12 = .ok (.invokestatic 57, 3) := dk da_R_scatter 7 rfl
theorem d_R_scatter_15 : decode b_R_scatter 15 = .ok (.aload_n 0, 1) := dk da_R_scatter 8 rfl
theorem d_R_scatter_16 : decode b_R_scatter 16 = .ok (.getfield 53, 3) := dk da_R_scatter 9 rfl
theorem d_R_scatter_19 : decode b_R_scatter 19 = .ok (.iload_n 3, 1) := dk da_R_scatter 10 rfl
theorem d_R_scatter_20 : decode b_R_scatter 20 = .ok (.iadd, 1) := dk da_R_scatter 11 rfl
theorem d_R_scatter_21 : decode b_R_scatter 21 = .ok (.sipush 2000, 3) := dk da_R_scatter 12 rfl
theorem d_R_scatter_24 : decode b_R_scatter 24 = .ok (.if_icmp .gt 7, 3) := dk da_R_scatter 13 rfl
theorem d_R_scatter_27 : decode b_R_scatter 27 = .ok (.iconst 1, 1) := dk da_R_scatter 14 rfl
theorem d_R_scatter_28 : decode b_R_scatter 28 = .ok (.goto 4, 3) := dk da_R_scatter 15 rfl
theorem d_R_scatter_31 : decode b_R_scatter 31 = .ok (.iconst 0, 1) := dk da_R_scatter 16 rfl
theorem d_R_scatter_32 : decode b_R_scatter 32 = .ok (.invokestatic 61, 3) := dk da_R_scatter 17 rfl
theorem d_R_scatter_35 : decode b_R_scatter 35 = .ok (.iload_n 1, 1) := dk da_R_scatter 18 rfl
theorem d_R_scatter_36 : decode b_R_scatter 36 = .ok (.istore 4, 2) := dk da_R_scatter 19 rfl
theorem d_R_scatter_38 : decode b_R_scatter 38 = .ok (.iconst 0, 1) := dk da_R_scatter 20 rfl
theorem d_R_scatter_39 : decode b_R_scatter 39 = .ok (.istore 5, 2) := dk da_R_scatter 21 rfl
theorem d_R_scatter_41 : decode b_R_scatter 41 = .ok (.iload 5, 2) := dk da_R_scatter 22 rfl
theorem d_R_scatter_43 : decode b_R_scatter 43 = .ok (.iload_n 3, 1) := dk da_R_scatter 23 rfl
theorem d_R_scatter_44 : decode b_R_scatter 44 = .ok (.if_icmp .ge 34, 3) := dk da_R_scatter 24 rfl
theorem d_R_scatter_47 : decode b_R_scatter 47 = .ok (.ldc 69, 2) := dk da_R_scatter 25 rfl
theorem d_R_scatter_49 : decode b_R_scatter 49 = .ok (.iload 4, 2) := dk da_R_scatter 26 rfl
theorem d_R_scatter_51 : decode b_R_scatter 51 = .ok (.imul, 1) := dk da_R_scatter 27 rfl
theorem d_R_scatter_52 : decode b_R_scatter 52 = .ok (.ldc 70, 2) := dk da_R_scatter 28 rfl
theorem d_R_scatter_54 : decode b_R_scatter 54 = .ok (.iadd, 1) := dk da_R_scatter 29 rfl
theorem d_R_scatter_55 : decode b_R_scatter 55 = .ok (.istore 4, 2) := dk da_R_scatter 30 rfl
theorem d_R_scatter_57 : decode b_R_scatter 57 = .ok (.aload_n 0, 1) := dk da_R_scatter 31 rfl
theorem d_R_scatter_58 : decode b_R_scatter 58 = .ok (.iload 4, 2) := dk da_R_scatter 32 rfl
theorem d_R_scatter_60 : decode b_R_scatter 60 = .ok (.bipush 16, 2) := dk da_R_scatter 33 rfl
theorem d_R_scatter_62 : decode b_R_scatter 62 = .ok (.iushr, 1) := dk da_R_scatter 34 rfl
theorem d_R_scatter_63 : decode b_R_scatter 63 = .ok (.iconst 1, 1) := dk da_R_scatter 35 rfl
theorem d_R_scatter_64 : decode b_R_scatter 64 = .ok (.iload_n 2, 1) := dk da_R_scatter 36 rfl
theorem d_R_scatter_65 : decode b_R_scatter 65 = .ok (.ishl, 1) := dk da_R_scatter 37 rfl
theorem d_R_scatter_66 : decode b_R_scatter 66 = .ok (.iconst 1, 1) := dk da_R_scatter 38 rfl
theorem d_R_scatter_67 : decode b_R_scatter 67 = .ok (.isub, 1) := dk da_R_scatter 39 rfl
theorem d_R_scatter_68 : decode b_R_scatter 68 = .ok (.iand, 1) := dk da_R_scatter 40 rfl
theorem d_R_scatter_69 : decode b_R_scatter 69 = .ok (.invokevirtual 65, 3) := dk da_R_scatter 41 rfl
theorem d_R_scatter_72 : decode b_R_scatter 72 = .ok (.iinc 5 1, 3) := dk da_R_scatter 42 rfl
theorem d_R_scatter_75 : decode b_R_scatter 75 = .ok (.goto (-34), 3) := dk da_R_scatter 43 rfl
theorem d_R_scatter_78 : decode b_R_scatter 78 = .ok (.aload_n 0, 1) := dk da_R_scatter 44 rfl
theorem d_R_scatter_79 : decode b_R_scatter 79 = .ok (.getfield 53, 3) := dk da_R_scatter 45 rfl
theorem d_R_scatter_82 : decode b_R_scatter 82 = .ok (.ireturn, 1) := dk da_R_scatter 46 rfl
def dl_R_sort : List (Nat × Instr × Nat) := [(0, .iload_n 1, 1), (1, .iconst 0, 1), (2, .iconst 3, 1), (3, .invokestatic 57, 3), (6, .iload_n 2, 1), (7, .iconst 0, 1), (8, .aload_n 0, 1), (9, .getfield 53, 3), (12, .invokestatic 57, 3), (15, .iload_n 3, 1), (16, .iload_n 2, 1), (17, .aload_n 0, 1), (18, .getfield 53, 3), (21, .invokestatic 57, 3), (24, .iload_n 3, 1), (25, .iload_n 2, 1), (26, .isub, 1), (27, .istore 4, 2), (29, .aload_n 0, 1), (30, .getfield 30, 3), (33, .invokevirtual 71, 3), (36, .astore 5, 2), (38, .iconst 0, 1), (39, .istore 6, 2), (41, .iload 6, 2), (43, .iload 4, 2), (45, .if_icmp .ge 48, 3), (48, .aload_n 0, 1), (49, .getfield 41, 3), (52, .iload 6, 2), (54, .aload_n 0, 1), (55, .getfield 34, 3), (58, .iload_n 2, 1), (59, .iload 6, 2), (61, .iadd, 1), (62, .iaload, 1), (63, .iastore, 1), (64, .aload_n 0, 1), (65, .getfield 44, 3), (68, .iload 6, 2), (70, .aload_n 0, 1), (71, .getfield 38, 3), (74, .iload_n 2, 1), (75, .iload 6, 2), (77, .iadd, 1), (78, .iaload, 1), (79, .iastore, 1), (80, .aload 5, 2), (82, .iload 6, 2), (84, .iload 6, 2), (86, .iastore, 1), (87, .iinc 6 1, 3), (90, .goto (-49), 3), (93, .aload_n 0, 1), (94, .getfield 30, 3), (97, .iload 4, 2), (99, .new 75, 3), (102, .dup, 1), (103, .aload_n 0, 1), (104, .getfield 21, 3), (107, .iload_n 1, 1), (108, .aaload, 1), (109, .aload_n 0, 1), (110, .getfield 41, 3), (113, .invokespecial 77, 3), (116, .invokevirtual 80, 3), (119, .iconst 0, 1), (120, .istore 6, 2), (122, .iload 6, 2), (124, .iload 4, 2), (126, .if_icmp .ge 47, 3), (129, .aload_n 0, 1), (130, .getfield 34, 3), (133, .iload_n 2, 1), (134, .iload 6, 2), (136, .iadd, 1), (137, .aload_n 0, 1), (138, .getfield 41, 3), (141, .aload 5, 2), (143, .iload 6, 2), (145, .iaload, 1), (146, .iaload, 1), (147, .iastore, 1), (148, .aload_n 0, 1), (149, .getfield 38, 3), (152, .iload_n 2, 1), (153, .iload 6, 2), (155, .iadd, 1), (156, .aload_n 0, 1), (157, .getfield 44, 3), (160, .aload 5, 2), (162, .iload 6, 2), (164, .iaload, 1), (165, .iaload, 1), (166, .iastore, 1), (167, .iinc 6 1, 3), (170, .goto (-48), 3), (173, .iload 4, 2), (175, .ireturn, 1)]
set_option maxRecDepth 100000 in
theorem da_R_sort : (dl_R_sort.all fun q => decide (decode b_R_sort q.1 = .ok q.2)) = true := by decide +kernel
theorem d_R_sort_0 : decode b_R_sort 0 = .ok (.iload_n 1, 1) := dk da_R_sort 0 rfl
theorem d_R_sort_1 : decode b_R_sort 1 = .ok (.iconst 0, 1) := dk da_R_sort 1 rfl
theorem d_R_sort_2 : decode b_R_sort 2 = .ok (.iconst 3, 1) := dk da_R_sort 2 rfl
theorem d_R_sort_3 : decode b_R_sort 3 = .ok (.invokestatic 57, 3) := dk da_R_sort 3 rfl
theorem d_R_sort_6 : decode b_R_sort 6 = .ok (.iload_n 2, 1) := dk da_R_sort 4 rfl
theorem d_R_sort_7 : decode b_R_sort 7 = .ok (.iconst 0, 1) := dk da_R_sort 5 rfl
theorem d_R_sort_8 : decode b_R_sort 8 = .ok (.aload_n 0, 1) := dk da_R_sort 6 rfl
theorem d_R_sort_9 : decode b_R_sort 9 = .ok (.getfield 53, 3) := dk da_R_sort 7 rfl
theorem d_R_sort_12 : decode b_R_sort 12 = .ok (.invokestatic 57, 3) := dk da_R_sort 8 rfl
theorem d_R_sort_15 : decode b_R_sort 15 = .ok (.iload_n 3, 1) := dk da_R_sort 9 rfl
theorem d_R_sort_16 : decode b_R_sort 16 = .ok (.iload_n 2, 1) := dk da_R_sort 10 rfl
theorem d_R_sort_17 : decode b_R_sort 17 = .ok (.aload_n 0, 1) := dk da_R_sort 11 rfl
theorem d_R_sort_18 : decode b_R_sort 18 = .ok (.getfield 53, 3) := dk da_R_sort 12 rfl
theorem d_R_sort_21 : decode b_R_sort 21 = .ok (.invokestatic 57, 3) := dk da_R_sort 13 rfl
theorem d_R_sort_24 : decode b_R_sort 24 = .ok (.iload_n 3, 1) := dk da_R_sort 14 rfl
theorem d_R_sort_25 : decode b_R_sort 25 = .ok (.iload_n 2, 1) := dk da_R_sort 15 rfl
theorem d_R_sort_26 : decode b_R_sort 26 = .ok (.isub, 1) := dk da_R_sort 16 rfl
theorem d_R_sort_27 : decode b_R_sort 27 = .ok (.istore 4, 2) := dk da_R_sort 17 rfl
theorem d_R_sort_29 : decode b_R_sort 29 = .ok (.aload_n 0, 1) := dk da_R_sort 18 rfl
theorem d_R_sort_30 : decode b_R_sort 30 = .ok (.getfield 30, 3) := dk da_R_sort 19 rfl
theorem d_R_sort_33 : decode b_R_sort 33 = .ok (.invokevirtual 71, 3) := dk da_R_sort 20 rfl
theorem d_R_sort_36 : decode b_R_sort 36 = .ok (.astore 5, 2) := dk da_R_sort 21 rfl
theorem d_R_sort_38 : decode b_R_sort 38 = .ok (.iconst 0, 1) := dk da_R_sort 22 rfl
theorem d_R_sort_39 : decode b_R_sort 39 = .ok (.istore 6, 2) := dk da_R_sort 23 rfl
theorem d_R_sort_41 : decode b_R_sort 41 = .ok (.iload 6, 2) := dk da_R_sort 24 rfl
theorem d_R_sort_43 : decode b_R_sort 43 = .ok (.iload 4, 2) := dk da_R_sort 25 rfl
theorem d_R_sort_45 : decode b_R_sort 45 = .ok (.if_icmp .ge 48, 3) := dk da_R_sort 26 rfl
theorem d_R_sort_48 : decode b_R_sort 48 = .ok (.aload_n 0, 1) := dk da_R_sort 27 rfl
theorem d_R_sort_49 : decode b_R_sort 49 = .ok (.getfield 41, 3) := dk da_R_sort 28 rfl
theorem d_R_sort_52 : decode b_R_sort 52 = .ok (.iload 6, 2) := dk da_R_sort 29 rfl
theorem d_R_sort_54 : decode b_R_sort 54 = .ok (.aload_n 0, 1) := dk da_R_sort 30 rfl
theorem d_R_sort_55 : decode b_R_sort 55 = .ok (.getfield 34, 3) := dk da_R_sort 31 rfl
theorem d_R_sort_58 : decode b_R_sort 58 = .ok (.iload_n 2, 1) := dk da_R_sort 32 rfl
theorem d_R_sort_59 : decode b_R_sort 59 = .ok (.iload 6, 2) := dk da_R_sort 33 rfl
theorem d_R_sort_61 : decode b_R_sort 61 = .ok (.iadd, 1) := dk da_R_sort 34 rfl
theorem d_R_sort_62 : decode b_R_sort 62 = .ok (.iaload, 1) := dk da_R_sort 35 rfl
theorem d_R_sort_63 : decode b_R_sort 63 = .ok (.iastore, 1) := dk da_R_sort 36 rfl
theorem d_R_sort_64 : decode b_R_sort 64 = .ok (.aload_n 0, 1) := dk da_R_sort 37 rfl
theorem d_R_sort_65 : decode b_R_sort 65 = .ok (.getfield 44, 3) := dk da_R_sort 38 rfl
theorem d_R_sort_68 : decode b_R_sort 68 = .ok (.iload 6, 2) := dk da_R_sort 39 rfl
theorem d_R_sort_70 : decode b_R_sort 70 = .ok (.aload_n 0, 1) := dk da_R_sort 40 rfl
theorem d_R_sort_71 : decode b_R_sort 71 = .ok (.getfield 38, 3) := dk da_R_sort 41 rfl
theorem d_R_sort_74 : decode b_R_sort 74 = .ok (.iload_n 2, 1) := dk da_R_sort 42 rfl
theorem d_R_sort_75 : decode b_R_sort 75 = .ok (.iload 6, 2) := dk da_R_sort 43 rfl
theorem d_R_sort_77 : decode b_R_sort 77 = .ok (.iadd, 1) := dk da_R_sort 44 rfl
theorem d_R_sort_78 : decode b_R_sort 78 = .ok (.iaload, 1) := dk da_R_sort 45 rfl
theorem d_R_sort_79 : decode b_R_sort 79 = .ok (.iastore, 1) := dk da_R_sort 46 rfl
theorem d_R_sort_80 : decode b_R_sort 80 = .ok (.aload 5, 2) := dk da_R_sort 47 rfl
theorem d_R_sort_82 : decode b_R_sort 82 = .ok (.iload 6, 2) := dk da_R_sort 48 rfl
theorem d_R_sort_84 : decode b_R_sort 84 = .ok (.iload 6, 2) := dk da_R_sort 49 rfl
theorem d_R_sort_86 : decode b_R_sort 86 = .ok (.iastore, 1) := dk da_R_sort 50 rfl
theorem d_R_sort_87 : decode b_R_sort 87 = .ok (.iinc 6 1, 3) := dk da_R_sort 51 rfl
theorem d_R_sort_90 : decode b_R_sort 90 = .ok (.goto (-49), 3) := dk da_R_sort 52 rfl
theorem d_R_sort_93 : decode b_R_sort 93 = .ok (.aload_n 0, 1) := dk da_R_sort 53 rfl
theorem d_R_sort_94 : decode b_R_sort 94 = .ok (.getfield 30, 3) := dk da_R_sort 54 rfl
theorem d_R_sort_97 : decode b_R_sort 97 = .ok (.iload 4, 2) := dk da_R_sort 55 rfl
theorem d_R_sort_99 : decode b_R_sort 99 = .ok (.new 75, 3) := dk da_R_sort 56 rfl
theorem d_R_sort_102 : decode b_R_sort 102 = .ok (.dup, 1) := dk da_R_sort 57 rfl
theorem d_R_sort_103 : decode b_R_sort 103 = .ok (.aload_n 0, 1) := dk da_R_sort 58 rfl
theorem d_R_sort_104 : decode b_R_sort 104 = .ok (.getfield 21, 3) := dk da_R_sort 59 rfl
theorem d_R_sort_107 : decode b_R_sort 107 = .ok (.iload_n 1, 1) := dk da_R_sort 60 rfl
theorem d_R_sort_108 : decode b_R_sort 108 = .ok (.aaload, 1) := dk da_R_sort 61 rfl
theorem d_R_sort_109 : decode b_R_sort 109 = .ok (.aload_n 0, 1) := dk da_R_sort 62 rfl
theorem d_R_sort_110 : decode b_R_sort 110 = .ok (.getfield 41, 3) := dk da_R_sort 63 rfl
theorem d_R_sort_113 : decode b_R_sort 113 = .ok (.invokespecial 77, 3) := dk da_R_sort 64 rfl
theorem d_R_sort_116 : decode b_R_sort 116 = .ok (.invokevirtual 80, 3) := dk da_R_sort 65 rfl
theorem d_R_sort_119 : decode b_R_sort 119 = .ok (.iconst 0, 1) := dk da_R_sort 66 rfl
theorem d_R_sort_120 : decode b_R_sort 120 = .ok (.istore 6, 2) := dk da_R_sort 67 rfl
theorem d_R_sort_122 : decode b_R_sort 122 = .ok (.iload 6, 2) := dk da_R_sort 68 rfl
theorem d_R_sort_124 : decode b_R_sort 124 = .ok (.iload 4, 2) := dk da_R_sort 69 rfl
theorem d_R_sort_126 : decode b_R_sort 126 = .ok (.if_icmp .ge 47, 3) := dk da_R_sort 70 rfl
theorem d_R_sort_129 : decode b_R_sort 129 = .ok (.aload_n 0, 1) := dk da_R_sort 71 rfl
theorem d_R_sort_130 : decode b_R_sort 130 = .ok (.getfield 34, 3) := dk da_R_sort 72 rfl
theorem d_R_sort_133 : decode b_R_sort 133 = .ok (.iload_n 2, 1) := dk da_R_sort 73 rfl
theorem d_R_sort_134 : decode b_R_sort 134 = .ok (.iload 6, 2) := dk da_R_sort 74 rfl
theorem d_R_sort_136 : decode b_R_sort 136 = .ok (.iadd, 1) := dk da_R_sort 75 rfl
theorem d_R_sort_137 : decode b_R_sort 137 = .ok (.aload_n 0, 1) := dk da_R_sort 76 rfl
theorem d_R_sort_138 : decode b_R_sort 138 = .ok (.getfield 41, 3) := dk da_R_sort 77 rfl
theorem d_R_sort_141 : decode b_R_sort 141 = .ok (.aload 5, 2) := dk da_R_sort 78 rfl
theorem d_R_sort_143 : decode b_R_sort 143 = .ok (.iload 6, 2) := dk da_R_sort 79 rfl
theorem d_R_sort_145 : decode b_R_sort 145 = .ok (.iaload, 1) := dk da_R_sort 80 rfl
theorem d_R_sort_146 : decode b_R_sort 146 = .ok (.iaload, 1) := dk da_R_sort 81 rfl
theorem d_R_sort_147 : decode b_R_sort 147 = .ok (.iastore, 1) := dk da_R_sort 82 rfl
theorem d_R_sort_148 : decode b_R_sort 148 = .ok (.aload_n 0, 1) := dk da_R_sort 83 rfl
theorem d_R_sort_149 : decode b_R_sort 149 = .ok (.getfield 38, 3) := dk da_R_sort 84 rfl
theorem d_R_sort_152 : decode b_R_sort 152 = .ok (.iload_n 2, 1) := dk da_R_sort 85 rfl
theorem d_R_sort_153 : decode b_R_sort 153 = .ok (.iload 6, 2) := dk da_R_sort 86 rfl
theorem d_R_sort_155 : decode b_R_sort 155 = .ok (.iadd, 1) := dk da_R_sort 87 rfl
theorem d_R_sort_156 : decode b_R_sort 156 = .ok (.aload_n 0, 1) := dk da_R_sort 88 rfl
theorem d_R_sort_157 : decode b_R_sort 157 = .ok (.getfield 44, 3) := dk da_R_sort 89 rfl
theorem d_R_sort_160 : decode b_R_sort 160 = .ok (.aload 5, 2) := dk da_R_sort 90 rfl
theorem d_R_sort_162 : decode b_R_sort 162 = .ok (.iload 6, 2) := dk da_R_sort 91 rfl
theorem d_R_sort_164 : decode b_R_sort 164 = .ok (.iaload, 1) := dk da_R_sort 92 rfl
theorem d_R_sort_165 : decode b_R_sort 165 = .ok (.iaload, 1) := dk da_R_sort 93 rfl
theorem d_R_sort_166 : decode b_R_sort 166 = .ok (.iastore, 1) := dk da_R_sort 94 rfl
theorem d_R_sort_167 : decode b_R_sort 167 = .ok (.iinc 6 1, 3) := dk da_R_sort 95 rfl
theorem d_R_sort_170 : decode b_R_sort 170 = .ok (.goto (-48), 3) := dk da_R_sort 96 rfl
theorem d_R_sort_173 : decode b_R_sort 173 = .ok (.iload 4, 2) := dk da_R_sort 97 rfl
theorem d_R_sort_175 : decode b_R_sort 175 = .ok (.ireturn, 1) := dk da_R_sort 98 rfl
def dl_R_get : List (Nat × Instr × Nat) := [(0, .iload_n 1, 1), (1, .ifCond .lt 15, 3), (4, .iload_n 1, 1), (5, .aload_n 0, 1), (6, .getfield 53, 3), (9, .if_icmp .ge 7, 3), (12, .iconst 1, 1), (13, .goto 4, 3), (16, .iconst 0, 1), (17, .invokestatic 61, 3), (20, .aload_n 0, 1), (21, .getfield 34, 3), (24, .iload_n 1, 1), (25, .iaload, 1), (26, .ireturn, 1)]
set_option maxRecDepth 100000 in
theorem da_R_get : (dl_R_get.all fun q => decide (decode b_R_get q.1 = .ok q.2)) = true := by decide +kernel
theorem d_R_get_0 : decode b_R_get 0 = .ok (.iload_n 1, 1) := dk da_R_get 0 rfl
theorem d_R_get_1 : decode b_R_get 1 = .ok (.ifCond .lt 15, 3) := dk da_R_get 1 rfl
theorem d_R_get_4 : decode b_R_get 4 = .ok (.iload_n 1, 1) := dk da_R_get 2 rfl
theorem d_R_get_5 : decode b_R_get 5 = .ok (.aload_n 0, 1) := dk da_R_get 3 rfl
theorem d_R_get_6 : decode b_R_get 6 = .ok (.getfield 53, 3) := dk da_R_get 4 rfl
theorem d_R_get_9 : decode b_R_get 9 = .ok (.if_icmp .ge 7, 3) := dk da_R_get 5 rfl
theorem d_R_get_12 : decode b_R_get 12 = .ok (.iconst 1, 1) := dk da_R_get 6 rfl
theorem d_R_get_13 : decode b_R_get 13 = .ok (.goto 4, 3) := dk da_R_get 7 rfl
theorem d_R_get_16 : decode b_R_get 16 = .ok (.iconst 0, 1) := dk da_R_get 8 rfl
theorem d_R_get_17 : decode b_R_get 17 = .ok (.invokestatic 61, 3) := dk da_R_get 9 rfl
theorem d_R_get_20 : decode b_R_get 20 = .ok (.aload_n 0, 1) := dk da_R_get 10 rfl
theorem d_R_get_21 : decode b_R_get 21 = .ok (.getfield 34, 3) := dk da_R_get 11 rfl
theorem d_R_get_24 : decode b_R_get 24 = .ok (.iload_n 1, 1) := dk da_R_get 12 rfl
theorem d_R_get_25 : decode b_R_get 25 = .ok (.iaload, 1) := dk da_R_get 13 rfl
theorem d_R_get_26 : decode b_R_get 26 = .ok (.ireturn, 1) := dk da_R_get 14 rfl
def dl_R_tag : List (Nat × Instr × Nat) := [(0, .iload_n 1, 1), (1, .ifCond .lt 15, 3), (4, .iload_n 1, 1), (5, .aload_n 0, 1), (6, .getfield 53, 3), (9, .if_icmp .ge 7, 3), (12, .iconst 1, 1), (13, .goto 4, 3), (16, .iconst 0, 1), (17, .invokestatic 61, 3), (20, .aload_n 0, 1), (21, .getfield 38, 3), (24, .iload_n 1, 1), (25, .iaload, 1), (26, .ireturn, 1)]
set_option maxRecDepth 100000 in
theorem da_R_tag : (dl_R_tag.all fun q => decide (decode b_R_tag q.1 = .ok q.2)) = true := by decide +kernel
theorem d_R_tag_0 : decode b_R_tag 0 = .ok (.iload_n 1, 1) := dk da_R_tag 0 rfl
theorem d_R_tag_1 : decode b_R_tag 1 = .ok (.ifCond .lt 15, 3) := dk da_R_tag 1 rfl
theorem d_R_tag_4 : decode b_R_tag 4 = .ok (.iload_n 1, 1) := dk da_R_tag 2 rfl
theorem d_R_tag_5 : decode b_R_tag 5 = .ok (.aload_n 0, 1) := dk da_R_tag 3 rfl
theorem d_R_tag_6 : decode b_R_tag 6 = .ok (.getfield 53, 3) := dk da_R_tag 4 rfl
theorem d_R_tag_9 : decode b_R_tag 9 = .ok (.if_icmp .ge 7, 3) := dk da_R_tag 5 rfl
theorem d_R_tag_12 : decode b_R_tag 12 = .ok (.iconst 1, 1) := dk da_R_tag 6 rfl
theorem d_R_tag_13 : decode b_R_tag 13 = .ok (.goto 4, 3) := dk da_R_tag 7 rfl
theorem d_R_tag_16 : decode b_R_tag 16 = .ok (.iconst 0, 1) := dk da_R_tag 8 rfl
theorem d_R_tag_17 : decode b_R_tag 17 = .ok (.invokestatic 61, 3) := dk da_R_tag 9 rfl
theorem d_R_tag_20 : decode b_R_tag 20 = .ok (.aload_n 0, 1) := dk da_R_tag 10 rfl
theorem d_R_tag_21 : decode b_R_tag 21 = .ok (.getfield 38, 3) := dk da_R_tag 11 rfl
theorem d_R_tag_24 : decode b_R_tag 24 = .ok (.iload_n 1, 1) := dk da_R_tag 12 rfl
theorem d_R_tag_25 : decode b_R_tag 25 = .ok (.iaload, 1) := dk da_R_tag 13 rfl
theorem d_R_tag_26 : decode b_R_tag 26 = .ok (.ireturn, 1) := dk da_R_tag 14 rfl
def dl_R_set : List (Nat × Instr × Nat) := [(0, .iload_n 1, 1), (1, .ifCond .lt 15, 3), (4, .iload_n 1, 1), (5, .aload_n 0, 1), (6, .getfield 53, 3), (9, .if_icmp .ge 7, 3), (12, .iconst 1, 1), (13, .goto 4, 3), (16, .iconst 0, 1), (17, .invokestatic 61, 3), (20, .aload_n 0, 1), (21, .getfield 34, 3), (24, .iload_n 1, 1), (25, .iaload, 1), (26, .istore_n 3, 1), (27, .aload_n 0, 1), (28, .getfield 34, 3), (31, .iload_n 1, 1), (32, .iload_n 2, 1), (33, .iastore, 1), (34, .iload_n 3, 1), (35, .ireturn, 1)]
set_option maxRecDepth 100000 in
theorem da_R_set : (dl_R_set.all fun q => decide (decode b_R_set q.1 = .ok q.2)) = true := by decide +kernel
theorem d_R_set_0 : decode b_R_set 0 = .ok (.iload_n 1, 1) := dk da_R_set 0 rfl
theorem d_R_set_1 : decode b_R_set 1 = .ok (.ifCond .lt 15, 3) := dk da_R_set 1 rfl
theorem d_R_set_4 : decode b_R_set 4 = .ok (.iload_n 1, 1) := dk da_R_set 2 rfl
theorem d_R_set_5 : decode b_R_set 5 = .ok (.aload_n 0, 1) := dk da_R_set 3 rfl
theorem d_R_set_6 : decode b_R_set 6 = .ok (.getfield 53, 3) := dk da_R_set 4 rfl
theorem d_R_set_9 : decode b_R_set 9 = .ok (.if_icmp .ge 7, 3) := dk da_R_set 5 rfl
theorem d_R_set_12 : decode b_R_set 12 = .ok (.iconst 1, 1) := dk da_R_set 6 rfl
theorem d_R_set_13 : decode b_R_set 13 = .ok (.goto 4, 3) := dk da_R_set 7 rfl
theorem d_R_set_16 : decode b_R_set 16 = .ok (.iconst 0, 1) := dk da_R_set 8 rfl
theorem d_R_set_17 : decode b_R_set 17 = .ok (.invokestatic 61, 3) := dk da_R_set 9 rfl
theorem d_R_set_20 : decode b_R_set 20 = .ok (.aload_n 0, 1) := dk da_R_set 10 rfl
theorem d_R_set_21 : decode b_R_set 21 = .ok (.getfield 34, 3) := dk da_R_set 11 rfl
theorem d_R_set_24 : decode b_R_set 24 = .ok (.iload_n 1, 1) := dk da_R_set 12 rfl
theorem d_R_set_25 : decode b_R_set 25 = .ok (.iaload, 1) := dk da_R_set 13 rfl
theorem d_R_set_26 : decode b_R_set 26 = .ok (.istore_n 3, 1) := dk da_R_set 14 rfl
theorem d_R_set_27 : decode b_R_set 27 = .ok (.aload_n 0, 1) := dk da_R_set 15 rfl
theorem d_R_set_28 : decode b_R_set 28 = .ok (.getfield 34, 3) := dk da_R_set 16 rfl
theorem d_R_set_31 : decode b_R_set 31 = .ok (.iload_n 1, 1) := dk da_R_set 17 rfl
theorem d_R_set_32 : decode b_R_set 32 = .ok (.iload_n 2, 1) := dk da_R_set 18 rfl
theorem d_R_set_33 : decode b_R_set 33 = .ok (.iastore, 1) := dk da_R_set 19 rfl
theorem d_R_set_34 : decode b_R_set 34 = .ok (.iload_n 3, 1) := dk da_R_set 20 rfl
theorem d_R_set_35 : decode b_R_set 35 = .ok (.ireturn, 1) := dk da_R_set 21 rfl
def dl_R_turn : List (Nat × Instr × Nat) := [(0, .iload_n 1, 1), (1, .iconst 0, 1), (2, .aload_n 0, 1), (3, .getfield 53, 3), (6, .invokestatic 57, 3), (9, .iload_n 2, 1), (10, .iload_n 1, 1), (11, .aload_n 0, 1), (12, .getfield 53, 3), (15, .invokestatic 57, 3), (18, .iload_n 1, 1), (19, .istore_n 3, 1), (20, .iload_n 2, 1), (21, .iconst 1, 1), (22, .isub, 1), (23, .istore 4, 2), (25, .iload_n 3, 1), (26, .iload 4, 2), (28, .if_icmp .ge 72, 3), (31, .aload_n 0, 1), (32, .getfield 34, 3), (35, .iload_n 3, 1), (36, .iaload, 1), (37, .istore 5, 2), (39, .aload_n 0, 1), (40, .getfield 34, 3), (43, .iload_n 3, 1), (44, .aload_n 0, 1), (45, .getfield 34, 3), (48, .iload 4, 2), (50, .iaload, 1), (51, .iastore, 1), (52, .aload_n 0, 1), (53, .getfield 34, 3), (56, .iload 4, 2), (58, .iload 5, 2), (60, .iastore, 1), (61, .aload_n 0, 1), (62, .getfield 38, 3), (65, .iload_n 3, 1), (66, .iaload, 1), (67, .istore 6, 2), (69, .aload_n 0, 1), (70, .getfield 38, 3), (73, .iload_n 3, 1), (74, .aload_n 0, 1), (75, .getfield 38, 3), (78, .iload 4, 2), (80, .iaload, 1), (81, .iastore, 1), (82, .aload_n 0, 1), (83, .getfield 38, 3), (86, .iload 4, 2), (88, .iload 6, 2), (90, .iastore, 1), (91, .iinc 3 1, 3), (94, .iinc 4 (-1), 3), (97, .goto (-72), 3), (100, .iload_n 2, 1), (101, .iload_n 1, 1), (102, .isub, 1), (103, .ireturn, 1)]
set_option maxRecDepth 100000 in
theorem da_R_turn : (dl_R_turn.all fun q => decide (decode b_R_turn q.1 = .ok q.2)) = true := by decide +kernel
theorem d_R_turn_0 : decode b_R_turn 0 = .ok (.iload_n 1, 1) := dk da_R_turn 0 rfl
theorem d_R_turn_1 : decode b_R_turn 1 = .ok (.iconst 0, 1) := dk da_R_turn 1 rfl
theorem d_R_turn_2 : decode b_R_turn 2 = .ok (.aload_n 0, 1) := dk da_R_turn 2 rfl
theorem d_R_turn_3 : decode b_R_turn 3 = .ok (.getfield 53, 3) := dk da_R_turn 3 rfl
theorem d_R_turn_6 : decode b_R_turn 6 = .ok (.invokestatic 57, 3) := dk da_R_turn 4 rfl
theorem d_R_turn_9 : decode b_R_turn 9 = .ok (.iload_n 2, 1) := dk da_R_turn 5 rfl
theorem d_R_turn_10 : decode b_R_turn 10 = .ok (.iload_n 1, 1) := dk da_R_turn 6 rfl
theorem d_R_turn_11 : decode b_R_turn 11 = .ok (.aload_n 0, 1) := dk da_R_turn 7 rfl
theorem d_R_turn_12 : decode b_R_turn 12 = .ok (.getfield 53, 3) := dk da_R_turn 8 rfl
theorem d_R_turn_15 : decode b_R_turn 15 = .ok (.invokestatic 57, 3) := dk da_R_turn 9 rfl
theorem d_R_turn_18 : decode b_R_turn 18 = .ok (.iload_n 1, 1) := dk da_R_turn 10 rfl
theorem d_R_turn_19 : decode b_R_turn 19 = .ok (.istore_n 3, 1) := dk da_R_turn 11 rfl
theorem d_R_turn_20 : decode b_R_turn 20 = .ok (.iload_n 2, 1) := dk da_R_turn 12 rfl
theorem d_R_turn_21 : decode b_R_turn 21 = .ok (.iconst 1, 1) := dk da_R_turn 13 rfl
theorem d_R_turn_22 : decode b_R_turn 22 = .ok (.isub, 1) := dk da_R_turn 14 rfl
theorem d_R_turn_23 : decode b_R_turn 23 = .ok (.istore 4, 2) := dk da_R_turn 15 rfl
theorem d_R_turn_25 : decode b_R_turn 25 = .ok (.iload_n 3, 1) := dk da_R_turn 16 rfl
theorem d_R_turn_26 : decode b_R_turn 26 = .ok (.iload 4, 2) := dk da_R_turn 17 rfl
theorem d_R_turn_28 : decode b_R_turn 28 = .ok (.if_icmp .ge 72, 3) := dk da_R_turn 18 rfl
theorem d_R_turn_31 : decode b_R_turn 31 = .ok (.aload_n 0, 1) := dk da_R_turn 19 rfl
theorem d_R_turn_32 : decode b_R_turn 32 = .ok (.getfield 34, 3) := dk da_R_turn 20 rfl
theorem d_R_turn_35 : decode b_R_turn 35 = .ok (.iload_n 3, 1) := dk da_R_turn 21 rfl
theorem d_R_turn_36 : decode b_R_turn 36 = .ok (.iaload, 1) := dk da_R_turn 22 rfl
theorem d_R_turn_37 : decode b_R_turn 37 = .ok (.istore 5, 2) := dk da_R_turn 23 rfl
theorem d_R_turn_39 : decode b_R_turn 39 = .ok (.aload_n 0, 1) := dk da_R_turn 24 rfl
theorem d_R_turn_40 : decode b_R_turn 40 = .ok (.getfield 34, 3) := dk da_R_turn 25 rfl
theorem d_R_turn_43 : decode b_R_turn 43 = .ok (.iload_n 3, 1) := dk da_R_turn 26 rfl
theorem d_R_turn_44 : decode b_R_turn 44 = .ok (.aload_n 0, 1) := dk da_R_turn 27 rfl
theorem d_R_turn_45 : decode b_R_turn 45 = .ok (.getfield 34, 3) := dk da_R_turn 28 rfl
theorem d_R_turn_48 : decode b_R_turn 48 = .ok (.iload 4, 2) := dk da_R_turn 29 rfl
theorem d_R_turn_50 : decode b_R_turn 50 = .ok (.iaload, 1) := dk da_R_turn 30 rfl
theorem d_R_turn_51 : decode b_R_turn 51 = .ok (.iastore, 1) := dk da_R_turn 31 rfl
theorem d_R_turn_52 : decode b_R_turn 52 = .ok (.aload_n 0, 1) := dk da_R_turn 32 rfl
theorem d_R_turn_53 : decode b_R_turn 53 = .ok (.getfield 34, 3) := dk da_R_turn 33 rfl
theorem d_R_turn_56 : decode b_R_turn 56 = .ok (.iload 4, 2) := dk da_R_turn 34 rfl
theorem d_R_turn_58 : decode b_R_turn 58 = .ok (.iload 5, 2) := dk da_R_turn 35 rfl
theorem d_R_turn_60 : decode b_R_turn 60 = .ok (.iastore, 1) := dk da_R_turn 36 rfl
theorem d_R_turn_61 : decode b_R_turn 61 = .ok (.aload_n 0, 1) := dk da_R_turn 37 rfl
theorem d_R_turn_62 : decode b_R_turn 62 = .ok (.getfield 38, 3) := dk da_R_turn 38 rfl
theorem d_R_turn_65 : decode b_R_turn 65 = .ok (.iload_n 3, 1) := dk da_R_turn 39 rfl
theorem d_R_turn_66 : decode b_R_turn 66 = .ok (.iaload, 1) := dk da_R_turn 40 rfl
theorem d_R_turn_67 : decode b_R_turn 67 = .ok (.istore 6, 2) := dk da_R_turn 41 rfl
theorem d_R_turn_69 : decode b_R_turn 69 = .ok (.aload_n 0, 1) := dk da_R_turn 42 rfl
theorem d_R_turn_70 : decode b_R_turn 70 = .ok (.getfield 38, 3) := dk da_R_turn 43 rfl
theorem d_R_turn_73 : decode b_R_turn 73 = .ok (.iload_n 3, 1) := dk da_R_turn 44 rfl
theorem d_R_turn_74 : decode b_R_turn 74 = .ok (.aload_n 0, 1) := dk da_R_turn 45 rfl
theorem d_R_turn_75 : decode b_R_turn 75 = .ok (.getfield 38, 3) := dk da_R_turn 46 rfl
theorem d_R_turn_78 : decode b_R_turn 78 = .ok (.iload 4, 2) := dk da_R_turn 47 rfl
theorem d_R_turn_80 : decode b_R_turn 80 = .ok (.iaload, 1) := dk da_R_turn 48 rfl
theorem d_R_turn_81 : decode b_R_turn 81 = .ok (.iastore, 1) := dk da_R_turn 49 rfl
theorem d_R_turn_82 : decode b_R_turn 82 = .ok (.aload_n 0, 1) := dk da_R_turn 50 rfl
theorem d_R_turn_83 : decode b_R_turn 83 = .ok (.getfield 38, 3) := dk da_R_turn 51 rfl
theorem d_R_turn_86 : decode b_R_turn 86 = .ok (.iload 4, 2) := dk da_R_turn 52 rfl
theorem d_R_turn_88 : decode b_R_turn 88 = .ok (.iload 6, 2) := dk da_R_turn 53 rfl
theorem d_R_turn_90 : decode b_R_turn 90 = .ok (.iastore, 1) := dk da_R_turn 54 rfl
theorem d_R_turn_91 : decode b_R_turn 91 = .ok (.iinc 3 1, 3) := dk da_R_turn 55 rfl
theorem d_R_turn_94 : decode b_R_turn 94 = .ok (.iinc 4 (-1), 3) := dk da_R_turn 56 rfl
theorem d_R_turn_97 : decode b_R_turn 97 = .ok (.goto (-72), 3) := dk da_R_turn 57 rfl
theorem d_R_turn_100 : decode b_R_turn 100 = .ok (.iload_n 2, 1) := dk da_R_turn 58 rfl
theorem d_R_turn_101 : decode b_R_turn 101 = .ok (.iload_n 1, 1) := dk da_R_turn 59 rfl
theorem d_R_turn_102 : decode b_R_turn 102 = .ok (.isub, 1) := dk da_R_turn 60 rfl
theorem d_R_turn_103 : decode b_R_turn 103 = .ok (.ireturn, 1) := dk da_R_turn 61 rfl
def dl_R_upTo : List (Nat × Instr × Nat) := [(0, .iload_n 1, 1), (1, .iconst 0, 1), (2, .iconst 3, 1), (3, .invokestatic 57, 3), (6, .iconst 0, 1), (7, .istore 4, 2), (9, .iload 4, 2), (11, .aload_n 0, 1), (12, .getfield 53, 3), (15, .if_icmp .ge 47, 3), (18, .aload_n 0, 1), (19, .getfield 21, 3), (22, .iload_n 1, 1), (23, .aaload, 1), (24, .aload_n 0, 1), (25, .getfield 34, 3), (28, .iload 4, 2), (30, .iaload, 1), (31, .iload_n 2, 1), (32, .invokeinterface 84 3, 5), (37, .istore 5, 2), (39, .iload 5, 2), (41, .ifCond .gt 21, 3), (44, .iload 5, 2), (46, .ifCond .ne 10, 3), (49, .iload_n 3, 1), (50, .ifCond .ne 6, 3), (53, .goto 9, 3), (56, .iinc 4 1, 3), (59, .goto (-50), 3), (62, .iload 4, 2), (64, .ireturn, 1)]
set_option maxRecDepth 100000 in
theorem da_R_upTo : (dl_R_upTo.all fun q => decide (decode b_R_upTo q.1 = .ok q.2)) = true := by decide +kernel
theorem d_R_upTo_0 : decode b_R_upTo 0 = .ok (.iload_n 1, 1) := dk da_R_upTo 0 rfl
theorem d_R_upTo_1 : decode b_R_upTo 1 = .ok (.iconst 0, 1) := dk da_R_upTo 1 rfl
theorem d_R_upTo_2 : decode b_R_upTo 2 = .ok (.iconst 3, 1) := dk da_R_upTo 2 rfl
theorem d_R_upTo_3 : decode b_R_upTo 3 = .ok (.invokestatic 57, 3) := dk da_R_upTo 3 rfl
theorem d_R_upTo_6 : decode b_R_upTo 6 = .ok (.iconst 0, 1) := dk da_R_upTo 4 rfl
theorem d_R_upTo_7 : decode b_R_upTo 7 = .ok (.istore 4, 2) := dk da_R_upTo 5 rfl
theorem d_R_upTo_9 : decode b_R_upTo 9 = .ok (.iload 4, 2) := dk da_R_upTo 6 rfl
theorem d_R_upTo_11 : decode b_R_upTo 11 = .ok (.aload_n 0, 1) := dk da_R_upTo 7 rfl
theorem d_R_upTo_12 : decode b_R_upTo 12 = .ok (.getfield 53, 3) := dk da_R_upTo 8 rfl
theorem d_R_upTo_15 : decode b_R_upTo 15 = .ok (.if_icmp .ge 47, 3) := dk da_R_upTo 9 rfl
theorem d_R_upTo_18 : decode b_R_upTo 18 = .ok (.aload_n 0, 1) := dk da_R_upTo 10 rfl
theorem d_R_upTo_19 : decode b_R_upTo 19 = .ok (.getfield 21, 3) := dk da_R_upTo 11 rfl
theorem d_R_upTo_22 : decode b_R_upTo 22 = .ok (.iload_n 1, 1) := dk da_R_upTo 12 rfl
theorem d_R_upTo_23 : decode b_R_upTo 23 = .ok (.aaload, 1) := dk da_R_upTo 13 rfl
theorem d_R_upTo_24 : decode b_R_upTo 24 = .ok (.aload_n 0, 1) := dk da_R_upTo 14 rfl
theorem d_R_upTo_25 : decode b_R_upTo 25 = .ok (.getfield 34, 3) := dk da_R_upTo 15 rfl
theorem d_R_upTo_28 : decode b_R_upTo 28 = .ok (.iload 4, 2) := dk da_R_upTo 16 rfl
theorem d_R_upTo_30 : decode b_R_upTo 30 = .ok (.iaload, 1) := dk da_R_upTo 17 rfl
theorem d_R_upTo_31 : decode b_R_upTo 31 = .ok (.iload_n 2, 1) := dk da_R_upTo 18 rfl
theorem d_R_upTo_32 : decode b_R_upTo 32 = .ok (.invokeinterface 84 3, 5) := dk da_R_upTo 19 rfl
theorem d_R_upTo_37 : decode b_R_upTo 37 = .ok (.istore 5, 2) := dk da_R_upTo 20 rfl
theorem d_R_upTo_39 : decode b_R_upTo 39 = .ok (.iload 5, 2) := dk da_R_upTo 21 rfl
theorem d_R_upTo_41 : decode b_R_upTo 41 = .ok (.ifCond .gt 21, 3) := dk da_R_upTo 22 rfl
theorem d_R_upTo_44 : decode b_R_upTo 44 = .ok (.iload 5, 2) := dk da_R_upTo 23 rfl
theorem d_R_upTo_46 : decode b_R_upTo 46 = .ok (.ifCond .ne 10, 3) := dk da_R_upTo 24 rfl
theorem d_R_upTo_49 : decode b_R_upTo 49 = .ok (.iload_n 3, 1) := dk da_R_upTo 25 rfl
theorem d_R_upTo_50 : decode b_R_upTo 50 = .ok (.ifCond .ne 6, 3) := dk da_R_upTo 26 rfl
theorem d_R_upTo_53 : decode b_R_upTo 53 = .ok (.goto 9, 3) := dk da_R_upTo 27 rfl
theorem d_R_upTo_56 : decode b_R_upTo 56 = .ok (.iinc 4 1, 3) := dk da_R_upTo 28 rfl
theorem d_R_upTo_59 : decode b_R_upTo 59 = .ok (.goto (-50), 3) := dk da_R_upTo 29 rfl
theorem d_R_upTo_62 : decode b_R_upTo 62 = .ok (.iload 4, 2) := dk da_R_upTo 30 rfl
theorem d_R_upTo_64 : decode b_R_upTo 64 = .ok (.ireturn, 1) := dk da_R_upTo 31 rfl
def dl_R_clear : List (Nat × Instr × Nat) := [(0, .aload_n 0, 1), (1, .getfield 53, 3), (4, .istore_n 1, 1), (5, .aload_n 0, 1), (6, .iconst 0, 1), (7, .putfield 53, 3), (10, .iload_n 1, 1), (11, .ireturn, 1)]
set_option maxRecDepth 100000 in
theorem da_R_clear : (dl_R_clear.all fun q => decide (decode b_R_clear q.1 = .ok q.2)) = true := by decide +kernel
theorem d_R_clear_0 : decode b_R_clear 0 = .ok (.aload_n 0, 1) := dk da_R_clear 0 rfl
theorem d_R_clear_1 : decode b_R_clear 1 = .ok (.getfield 53, 3) := dk da_R_clear 1 rfl
theorem d_R_clear_4 : decode b_R_clear 4 = .ok (.istore_n 1, 1) := dk da_R_clear 2 rfl
theorem d_R_clear_5 : decode b_R_clear 5 = .ok (.aload_n 0, 1) := dk da_R_clear 3 rfl
theorem d_R_clear_6 : decode b_R_clear 6 = .ok (.iconst 0, 1) := dk da_R_clear 4 rfl
theorem d_R_clear_7 : decode b_R_clear 7 = .ok (.putfield 53, 3) := dk da_R_clear 5 rfl
theorem d_R_clear_10 : decode b_R_clear 10 = .ok (.iload_n 1, 1) := dk da_R_clear 6 rfl
theorem d_R_clear_11 : decode b_R_clear 11 = .ok (.ireturn, 1) := dk da_R_clear 7 rfl
def dl_R_hash : List (Nat × Instr × Nat) := [(0, .iconst 1, 1), (1, .istore_n 1, 1), (2, .iconst 0, 1), (3, .istore_n 2, 1), (4, .iload_n 2, 1), (5, .aload_n 0, 1), (6, .getfield 53, 3), (9, .if_icmp .ge 31, 3), (12, .bipush 31, 2), (14, .bipush 31, 2), (16, .iload_n 1, 1), (17, .imul, 1), (18, .aload_n 0, 1), (19, .getfield 34, 3), (22, .iload_n 2, 1), (23, .iaload, 1), (24, .iadd, 1), (25, .imul, 1), (26, .aload_n 0, 1), (27, .getfield 38, 3), (30, .iload_n 2, 1), (31, .iaload, 1), (32, .iadd, 1), (33, .istore_n 1, 1), (34, .iinc 2 1, 3), (37, .goto (-33), 3), (40, .iload_n 1, 1), (41, .ireturn, 1)]
set_option maxRecDepth 100000 in
theorem da_R_hash : (dl_R_hash.all fun q => decide (decode b_R_hash q.1 = .ok q.2)) = true := by decide +kernel
theorem d_R_hash_0 : decode b_R_hash 0 = .ok (.iconst 1, 1) := dk da_R_hash 0 rfl
theorem d_R_hash_1 : decode b_R_hash 1 = .ok (.istore_n 1, 1) := dk da_R_hash 1 rfl
theorem d_R_hash_2 : decode b_R_hash 2 = .ok (.iconst 0, 1) := dk da_R_hash 2 rfl
theorem d_R_hash_3 : decode b_R_hash 3 = .ok (.istore_n 2, 1) := dk da_R_hash 3 rfl
theorem d_R_hash_4 : decode b_R_hash 4 = .ok (.iload_n 2, 1) := dk da_R_hash 4 rfl
theorem d_R_hash_5 : decode b_R_hash 5 = .ok (.aload_n 0, 1) := dk da_R_hash 5 rfl
theorem d_R_hash_6 : decode b_R_hash 6 = .ok (.getfield 53, 3) := dk da_R_hash 6 rfl
theorem d_R_hash_9 : decode b_R_hash 9 = .ok (.if_icmp .ge 31, 3) := dk da_R_hash 7 rfl
theorem d_R_hash_12 : decode b_R_hash 12 = .ok (.bipush 31, 2) := dk da_R_hash 8 rfl
theorem d_R_hash_14 : decode b_R_hash 14 = .ok (.bipush 31, 2) := dk da_R_hash 9 rfl
theorem d_R_hash_16 : decode b_R_hash 16 = .ok (.iload_n 1, 1) := dk da_R_hash 10 rfl
theorem d_R_hash_17 : decode b_R_hash 17 = .ok (.imul, 1) := dk da_R_hash 11 rfl
theorem d_R_hash_18 : decode b_R_hash 18 = .ok (.aload_n 0, 1) := dk da_R_hash 12 rfl
theorem d_R_hash_19 : decode b_R_hash 19 = .ok (.getfield 34, 3) := dk da_R_hash 13 rfl
theorem d_R_hash_22 : decode b_R_hash 22 = .ok (.iload_n 2, 1) := dk da_R_hash 14 rfl
theorem d_R_hash_23 : decode b_R_hash 23 = .ok (.iaload, 1) := dk da_R_hash 15 rfl
theorem d_R_hash_24 : decode b_R_hash 24 = .ok (.iadd, 1) := dk da_R_hash 16 rfl
theorem d_R_hash_25 : decode b_R_hash 25 = .ok (.imul, 1) := dk da_R_hash 17 rfl
theorem d_R_hash_26 : decode b_R_hash 26 = .ok (.aload_n 0, 1) := dk da_R_hash 18 rfl
theorem d_R_hash_27 : decode b_R_hash 27 = .ok (.getfield 38, 3) := dk da_R_hash 19 rfl
theorem d_R_hash_30 : decode b_R_hash 30 = .ok (.iload_n 2, 1) := dk da_R_hash 20 rfl
theorem d_R_hash_31 : decode b_R_hash 31 = .ok (.iaload, 1) := dk da_R_hash 21 rfl
theorem d_R_hash_32 : decode b_R_hash 32 = .ok (.iadd, 1) := dk da_R_hash 22 rfl
theorem d_R_hash_33 : decode b_R_hash 33 = .ok (.istore_n 1, 1) := dk da_R_hash 23 rfl
theorem d_R_hash_34 : decode b_R_hash 34 = .ok (.iinc 2 1, 3) := dk da_R_hash 24 rfl
theorem d_R_hash_37 : decode b_R_hash 37 = .ok (.goto (-33), 3) := dk da_R_hash 25 rfl
theorem d_R_hash_40 : decode b_R_hash 40 = .ok (.iload_n 1, 1) := dk da_R_hash 26 rfl
theorem d_R_hash_41 : decode b_R_hash 41 = .ok (.ireturn, 1) := dk da_R_hash 27 rfl
def dl_M_init : List (Nat × Instr × Nat) := [(0, .aload_n 0, 1), (1, .invokespecial 1, 3), (4, .aload_n 0, 1), (5, .sipush 2000, 3), (8, .newarray .int, 2), (10, .putfield 7, 3), (13, .aload_n 0, 1), (14, .sipush 2000, 3), (17, .newarray .int, 2), (19, .putfield 13, 3), (22, .return_, 1)]
set_option maxRecDepth 100000 in
theorem da_M_init : (dl_M_init.all fun q => decide (decode b_M_init q.1 = .ok q.2)) = true := by decide +kernel
theorem d_M_init_0 : decode b_M_init 0 = .ok (.aload_n 0, 1) := dk da_M_init 0 rfl
theorem d_M_init_1 : decode b_M_init 1 = .ok (.invokespecial 1, 3) := dk da_M_init 1 rfl
theorem d_M_init_4 : decode b_M_init 4 = .ok (.aload_n 0, 1) := dk da_M_init 2 rfl
theorem d_M_init_5 : decode b_M_init 5 = .ok (.sipush 2000, 3) := dk da_M_init 3 rfl
theorem d_M_init_8 : decode b_M_init 8 = .ok (.newarray .int, 2) := dk da_M_init 4 rfl
theorem d_M_init_10 : decode b_M_init 10 = .ok (.putfield 7, 3) := dk da_M_init 5 rfl
theorem d_M_init_13 : decode b_M_init 13 = .ok (.aload_n 0, 1) := dk da_M_init 6 rfl
theorem d_M_init_14 : decode b_M_init 14 = .ok (.sipush 2000, 3) := dk da_M_init 7 rfl
theorem d_M_init_17 : decode b_M_init 17 = .ok (.newarray .int, 2) := dk da_M_init 8 rfl
theorem d_M_init_19 : decode b_M_init 19 = .ok (.putfield 13, 3) := dk da_M_init 9 rfl
theorem d_M_init_22 : decode b_M_init 22 = .ok (.return_, 1) := dk da_M_init 10 rfl
def dl_M_thrown : List (Nat × Instr × Nat) := [(0, .aload_n 0, 1), (1, .getfield 16, 3), (4, .ireturn, 1)]
set_option maxRecDepth 100000 in
theorem da_M_thrown : (dl_M_thrown.all fun q => decide (decode b_M_thrown q.1 = .ok q.2)) = true := by decide +kernel
theorem d_M_thrown_0 : decode b_M_thrown 0 = .ok (.aload_n 0, 1) := dk da_M_thrown 0 rfl
theorem d_M_thrown_1 : decode b_M_thrown 1 = .ok (.getfield 16, 3) := dk da_M_thrown 1 rfl
theorem d_M_thrown_4 : decode b_M_thrown 4 = .ok (.ireturn, 1) := dk da_M_thrown 2 rfl
def dl_M_fail : List (Nat × Instr × Nat) := [(0, .aload_n 0, 1), (1, .iload_n 1, 1), (2, .putfield 16, 3), (5, .iconst 0, 1), (6, .ireturn, 1)]
set_option maxRecDepth 100000 in
theorem da_M_fail : (dl_M_fail.all fun q => decide (decode b_M_fail q.1 = .ok q.2)) = true := by decide +kernel
theorem d_M_fail_0 : decode b_M_fail 0 = .ok (.aload_n 0, 1) := dk da_M_fail 0 rfl
theorem d_M_fail_1 : decode b_M_fail 1 = .ok (.iload_n 1, 1) := dk da_M_fail 1 rfl
theorem d_M_fail_2 : decode b_M_fail 2 = .ok (.putfield 16, 3) := dk da_M_fail 2 rfl
theorem d_M_fail_5 : decode b_M_fail 5 = .ok (.iconst 0, 1) := dk da_M_fail 3 rfl
theorem d_M_fail_6 : decode b_M_fail 6 = .ok (.ireturn, 1) := dk da_M_fail 4 rfl
def dl_M_rank : List (Nat × Instr × Nat) := [(0, .iload_n 1, 1), (1, .ifCond .ne 7, 3), (4, .iload_n 2, 1), (5, .goto 30, 3), (8, .iload_n 1, 1), (9, .iconst 1, 1), (10, .if_icmp .ne 9, 3), (13, .iload_n 2, 1), (14, .iconst (-1), 1), (15, .ixor, 1), (16, .goto 19, 3), (19, .iload_n 1, 1), (20, .iconst 2, 1), (21, .if_icmp .ne 10, 3), (24, .iload_n 2, 1), (25, .bipush 15, 2), (27, .iand, 1), (28, .goto 7, 3), (31, .iload_n 2, 1), (32, .ldc 20, 2), (34, .ixor, 1), (35, .ireturn, 1)]
set_option maxRecDepth 100000 in
theorem da_M_rank : (dl_M_rank.all fun q => decide (decode b_M_rank q.1 = .ok q.2)) = true := by decide +kernel
theorem d_M_rank_0 : decode b_M_rank 0 = .ok (.iload_n 1, 1) := dk da_M_rank 0 rfl
theorem d_M_rank_1 : decode b_M_rank 1 = .ok (.ifCond .ne 7, 3) := dk da_M_rank 1 rfl
theorem d_M_rank_4 : decode b_M_rank 4 = .ok (.iload_n 2, 1) := dk da_M_rank 2 rfl
theorem d_M_rank_5 : decode b_M_rank 5 = .ok (.goto 30, 3) := dk da_M_rank 3 rfl
theorem d_M_rank_8 : decode b_M_rank 8 = .ok (.iload_n 1, 1) := dk da_M_rank 4 rfl
theorem d_M_rank_9 : decode b_M_rank 9 = .ok (.iconst 1, 1) := dk da_M_rank 5 rfl
theorem d_M_rank_10 : decode b_M_rank 10 = .ok (.if_icmp .ne 9, 3) := dk da_M_rank 6 rfl
theorem d_M_rank_13 : decode b_M_rank 13 = .ok (.iload_n 2, 1) := dk da_M_rank 7 rfl
theorem d_M_rank_14 : decode b_M_rank 14 = .ok (.iconst (-1), 1) := dk da_M_rank 8 rfl
theorem d_M_rank_15 : decode b_M_rank 15 = .ok (.ixor, 1) := dk da_M_rank 9 rfl
theorem d_M_rank_16 : decode b_M_rank 16 = .ok (.goto 19, 3) := dk da_M_rank 10 rfl
theorem d_M_rank_19 : decode b_M_rank 19 = .ok (.iload_n 1, 1) := dk da_M_rank 11 rfl
theorem d_M_rank_20 : decode b_M_rank 20 = .ok (.iconst 2, 1) := dk da_M_rank 12 rfl
theorem d_M_rank_21 : decode b_M_rank 21 = .ok (.if_icmp .ne 10, 3) := dk da_M_rank 13 rfl
theorem d_M_rank_24 : decode b_M_rank 24 = .ok (.iload_n 2, 1) := dk da_M_rank 14 rfl
theorem d_M_rank_25 : decode b_M_rank 25 = .ok (.bipush 15, 2) := dk da_M_rank 15 rfl
theorem d_M_rank_27 : decode b_M_rank 27 = .ok (.iand, 1) := dk da_M_rank 16 rfl
theorem d_M_rank_28 : decode b_M_rank 28 = .ok (.goto 7, 3) := dk da_M_rank 17 rfl
theorem d_M_rank_31 : decode b_M_rank 31 = .ok (.iload_n 2, 1) := dk da_M_rank 18 rfl
theorem d_M_rank_32 : decode b_M_rank 32 = .ok (.ldc 20, 2) := dk da_M_rank 19 rfl
theorem d_M_rank_34 : decode b_M_rank 34 = .ok (.ixor, 1) := dk da_M_rank 20 rfl
theorem d_M_rank_35 : decode b_M_rank 35 = .ok (.ireturn, 1) := dk da_M_rank 21 rfl
def dl_M_append : List (Nat × Instr × Nat) := [(0, .aload_n 0, 1), (1, .getfield 7, 3), (4, .aload_n 0, 1), (5, .getfield 21, 3), (8, .iload_n 1, 1), (9, .iastore, 1), (10, .aload_n 0, 1), (11, .getfield 13, 3), (14, .aload_n 0, 1), (15, .getfield 21, 3), (18, .aload_n 0, 1), (19, .getfield 21, 3), (22, .iastore, 1), (23, .aload_n 0, 1), (24, .dup, 1), (25, .getfield 21, 3), (28, .iconst 1, 1), (29, .iadd, 1), (30, .putfield 21, 3), (33, .return_, 1)]
set_option maxRecDepth 100000 in
theorem da_M_append : (dl_M_append.all fun q => decide (decode b_M_append q.1 = .ok q.2)) = true := by decide +kernel
theorem d_M_append_0 : decode b_M_append 0 = .ok (.aload_n 0, 1) := dk da_M_append 0 rfl
theorem d_M_append_1 : decode b_M_append 1 = .ok (.getfield 7, 3) := dk da_M_append 1 rfl
theorem d_M_append_4 : decode b_M_append 4 = .ok (.aload_n 0, 1) := dk da_M_append 2 rfl
theorem d_M_append_5 : decode b_M_append 5 = .ok (.getfield 21, 3) := dk da_M_append 3 rfl
theorem d_M_append_8 : decode b_M_append 8 = .ok (.iload_n 1, 1) := dk da_M_append 4 rfl
theorem d_M_append_9 : decode b_M_append 9 = .ok (.iastore, 1) := dk da_M_append 5 rfl
theorem d_M_append_10 : decode b_M_append 10 = .ok (.aload_n 0, 1) := dk da_M_append 6 rfl
theorem d_M_append_11 : decode b_M_append 11 = .ok (.getfield 13, 3) := dk da_M_append 7 rfl
theorem d_M_append_14 : decode b_M_append 14 = .ok (.aload_n 0, 1) := dk da_M_append 8 rfl
theorem d_M_append_15 : decode b_M_append 15 = .ok (.getfield 21, 3) := dk da_M_append 9 rfl
theorem d_M_append_18 : decode b_M_append 18 = .ok (.aload_n 0, 1) := dk da_M_append 10 rfl
theorem d_M_append_19 : decode b_M_append 19 = .ok (.getfield 21, 3) := dk da_M_append 11 rfl
theorem d_M_append_22 : decode b_M_append 22 = .ok (.iastore, 1) := dk da_M_append 12 rfl
theorem d_M_append_23 : decode b_M_append 23 = .ok (.aload_n 0, 1) := dk da_M_append 13 rfl
theorem d_M_append_24 : decode b_M_append 24 = .ok (.dup, 1) := dk da_M_append 14 rfl
theorem d_M_append_25 : decode b_M_append 25 = .ok (.getfield 21, 3) := dk da_M_append 15 rfl
theorem d_M_append_28 : decode b_M_append 28 = .ok (.iconst 1, 1) := dk da_M_append 16 rfl
theorem d_M_append_29 : decode b_M_append 29 = .ok (.iadd, 1) := dk da_M_append 17 rfl
theorem d_M_append_30 : decode b_M_append 30 = .ok (.putfield 21, 3) := dk da_M_append 18 rfl
theorem d_M_append_33 : decode b_M_append 33 = .ok (.return_, 1) := dk da_M_append 19 rfl
def dl_M_fill : List (Nat × Instr × Nat) := [(0, .aload_n 0, 1), (1, .iconst 0, 1), (2, .putfield 16, 3), (5, .iload_n 3, 1), (6, .ifCond .lt 10, 3), (9, .iload_n 3, 1), (10, .sipush 2000, 3), (13, .if_icmp .le 9, 3), (16, .aload_n 0, 1), (17, .iconst 1, 1), (18, .invokevirtual 24, 3), (21, .ireturn, 1), (22, .aload_n 0, 1), (23, .getfield 21, 3), (26, .iload_n 3, 1), (27, .iadd, 1), (28, .sipush 2000, 3), (31, .if_icmp .le 9, 3), (34, .aload_n 0, 1), (35, .iconst 2, 1), (36, .invokevirtual 24, 3), (39, .ireturn, 1), (40, .iconst 0, 1), (41, .istore 4, 2), (43, .iload 4, 2), (45, .iload_n 3, 1), (46, .if_icmp .ge 19, 3), (49, .aload_n 0, 1), (50, .iload_n 1, 1), (51, .iload 4, 2), (53, .iload_n 2, 1), (54, .imul, 1), (55, .iadd, 1), (56, .invokevirtual 28, 3), (59, .iinc 4 1, 3), (62, .goto (-19), 3), (65, .aload_n 0, 1), (66, .getfield 21, 3), (69, .ireturn, 1)]
set_option maxRecDepth 100000 in
theorem da_M_fill : (dl_M_fill.all fun q => decide (decode b_M_fill q.1 = .ok q.2)) = true := by decide +kernel
theorem d_M_fill_0 : decode b_M_fill 0 = .ok (.aload_n 0, 1) := dk da_M_fill 0 rfl
theorem d_M_fill_1 : decode b_M_fill 1 = .ok (.iconst 0, 1) := dk da_M_fill 1 rfl
theorem d_M_fill_2 : decode b_M_fill 2 = .ok (.putfield 16, 3) := dk da_M_fill 2 rfl
theorem d_M_fill_5 : decode b_M_fill 5 = .ok (.iload_n 3, 1) := dk da_M_fill 3 rfl
theorem d_M_fill_6 : decode b_M_fill 6 = .ok (.ifCond .lt 10, 3) := dk da_M_fill 4 rfl
theorem d_M_fill_9 : decode b_M_fill 9 = .ok (.iload_n 3, 1) := dk da_M_fill 5 rfl
theorem d_M_fill_10 : decode b_M_fill 10 = .ok (.sipush 2000, 3) := dk da_M_fill 6 rfl
theorem d_M_fill_13 : decode b_M_fill 13 = .ok (.if_icmp .le 9, 3) := dk da_M_fill 7 rfl
theorem d_M_fill_16 : decode b_M_fill 16 = .ok (.aload_n 0, 1) := dk da_M_fill 8 rfl
theorem d_M_fill_17 : decode b_M_fill 17 = .ok (.iconst 1, 1) := dk da_M_fill 9 rfl
theorem d_M_fill_18 : decode b_M_fill 18 = .ok (.invokevirtual 24, 3) := dk da_M_fill 10 rfl
theorem d_M_fill_21 : decode b_M_fill 21 = .ok (.ireturn, 1) := dk da_M_fill 11 rfl
theorem d_M_fill_22 : decode b_M_fill 22 = .ok (.aload_n 0, 1) := dk da_M_fill 12 rfl
theorem d_M_fill_23 : decode b_M_fill 23 = .ok (.getfield 21, 3) := dk da_M_fill 13 rfl
theorem d_M_fill_26 : decode b_M_fill 26 = .ok (.iload_n 3, 1) := dk da_M_fill 14 rfl
theorem d_M_fill_27 : decode b_M_fill 27 = .ok (.iadd, 1) := dk da_M_fill 15 rfl
theorem d_M_fill_28 : decode b_M_fill 28 = .ok (.sipush 2000, 3) := dk da_M_fill 16 rfl
theorem d_M_fill_31 : decode b_M_fill 31 = .ok (.if_icmp .le 9, 3) := dk da_M_fill 17 rfl
theorem d_M_fill_34 : decode b_M_fill 34 = .ok (.aload_n 0, 1) := dk da_M_fill 18 rfl
theorem d_M_fill_35 : decode b_M_fill 35 = .ok (.iconst 2, 1) := dk da_M_fill 19 rfl
theorem d_M_fill_36 : decode b_M_fill 36 = .ok (.invokevirtual 24, 3) := dk da_M_fill 20 rfl
theorem d_M_fill_39 : decode b_M_fill 39 = .ok (.ireturn, 1) := dk da_M_fill 21 rfl
theorem d_M_fill_40 : decode b_M_fill 40 = .ok (.iconst 0, 1) := dk da_M_fill 22 rfl
theorem d_M_fill_41 : decode b_M_fill 41 = .ok (.istore 4, 2) := dk da_M_fill 23 rfl
theorem d_M_fill_43 : decode b_M_fill 43 = .ok (.iload 4, 2) := dk da_M_fill 24 rfl
theorem d_M_fill_45 : decode b_M_fill 45 = .ok (.iload_n 3, 1) := dk da_M_fill 25 rfl
theorem d_M_fill_46 : decode b_M_fill 46 = .ok (.if_icmp .ge 19, 3) := dk da_M_fill 26 rfl
theorem d_M_fill_49 : decode b_M_fill 49 = .ok (.aload_n 0, 1) := dk da_M_fill 27 rfl
theorem d_M_fill_50 : decode b_M_fill 50 = .ok (.iload_n 1, 1) := dk da_M_fill 28 rfl
theorem d_M_fill_51 : decode b_M_fill 51 = .ok (.iload 4, 2) := dk da_M_fill 29 rfl
theorem d_M_fill_53 : decode b_M_fill 53 = .ok (.iload_n 2, 1) := dk da_M_fill 30 rfl
theorem d_M_fill_54 : decode b_M_fill 54 = .ok (.imul, 1) := dk da_M_fill 31 rfl
theorem d_M_fill_55 : decode b_M_fill 55 = .ok (.iadd, 1) := dk da_M_fill 32 rfl
theorem d_M_fill_56 : decode b_M_fill 56 = .ok (.invokevirtual 28, 3) := dk da_M_fill 33 rfl
theorem d_M_fill_59 : decode b_M_fill 59 = .ok (.iinc 4 1, 3) := dk da_M_fill 34 rfl
theorem d_M_fill_62 : decode b_M_fill 62 = .ok (.goto (-19), 3) := dk da_M_fill 35 rfl
theorem d_M_fill_65 : decode b_M_fill 65 = .ok (.aload_n 0, 1) := dk da_M_fill 36 rfl
theorem d_M_fill_66 : decode b_M_fill 66 = .ok (.getfield 21, 3) := dk da_M_fill 37 rfl
theorem d_M_fill_69 : decode b_M_fill 69 = .ok (.ireturn, 1) := dk da_M_fill 38 rfl
def dl_M_scatter : List (Nat × Instr × Nat) := [(0, .aload_n 0, 1), (1, .iconst 0, 1), (2, .putfield 16, 3), (5, .iload_n 3, 1), (6, .ifCond .lt 21, 3), (9, .iload_n 3, 1), (10, .sipush 2000, 3), (13, .if_icmp .gt 14, 3), (16, .iload_n 2, 1), (17, .iconst 1, 1), (18, .if_icmp .lt 9, 3), (21, .iload_n 2, 1), (22, .bipush 16, 2), (24, .if_icmp .le 9, 3), (27, .aload_n 0, 1), (28, .iconst 1, 1), (29, .invokevirtual 24, 3), (32, .ireturn, 1), (33, .aload_n 0, 1), (34, .getfield 21, 3), (37, .iload_n 3, 1), (38, .iadd, 1), (39, .sipush 2000, 3), (42, .if_icmp .le 9, 3), (45, .aload_n 0, 1), (46, .iconst 2, 1), (47, .invokevirtual 24, 3), (50, .ireturn, 1), (51, .iload_n 1, 1), (52, .istore 4, 2), (54, .iconst 0, 1), (55, .istore 5, 2), (57, .iload 5, 2), (59, .iload_n 3, 1), (60, .if_icmp .ge 34, 3), (63, .ldc 32, 2), (65, .iload 4, 2), (67, .imul, 1), (68, .ldc 33, 2), (70, .iadd, 1), (71, .istore 4, 2), (73, .aload_n 0, 1), (74, .iload 4, 2), (76, .bipush 16, 2), (78, .iushr, 1), (79, .iconst 1, 1), (80, .iload_n 2, 1), (81, .ishl, 1), (82, .iconst 1, 1), (83, .isub, 1), (84, .iand, 1), (85, .invokevirtual 28, 3), (88, .iinc 5 1, 3), (91, .goto (-34), 3), (94, .aload_n 0, 1), (95, .getfield 21, 3), (98, .ireturn, 1)]
set_option maxRecDepth 100000 in
theorem da_M_scatter : (dl_M_scatter.all fun q => decide (decode b_M_scatter q.1 = .ok q.2)) = true := by decide +kernel
theorem d_M_scatter_0 : decode b_M_scatter 0 = .ok (.aload_n 0, 1) := dk da_M_scatter 0 rfl
theorem d_M_scatter_1 : decode b_M_scatter 1 = .ok (.iconst 0, 1) := dk da_M_scatter 1 rfl
theorem d_M_scatter_2 : decode b_M_scatter 2 = .ok (.putfield 16, 3) := dk da_M_scatter 2 rfl
theorem d_M_scatter_5 : decode b_M_scatter 5 = .ok (.iload_n 3, 1) := dk da_M_scatter 3 rfl
theorem d_M_scatter_6 : decode b_M_scatter 6 = .ok (.ifCond .lt 21, 3) := dk da_M_scatter 4 rfl
theorem d_M_scatter_9 : decode b_M_scatter 9 = .ok (.iload_n 3, 1) := dk da_M_scatter 5 rfl
theorem d_M_scatter_10 : decode b_M_scatter 10 = .ok (.sipush 2000, 3) := dk da_M_scatter 6 rfl
theorem d_M_scatter_13 : decode b_M_scatter 13 = .ok (.if_icmp .gt 14, 3) := dk da_M_scatter 7 rfl
theorem d_M_scatter_16 : decode b_M_scatter 16 = .ok (.iload_n 2, 1) := dk da_M_scatter 8 rfl
theorem d_M_scatter_17 : decode b_M_scatter 17 = .ok (.iconst 1, 1) := dk da_M_scatter 9 rfl
theorem d_M_scatter_18 : decode b_M_scatter 18 = .ok (.if_icmp .lt 9, 3) := dk da_M_scatter 10 rfl
theorem d_M_scatter_21 : decode b_M_scatter 21 = .ok (.iload_n 2, 1) := dk da_M_scatter 11 rfl
theorem d_M_scatter_22 : decode b_M_scatter 22 = .ok (.bipush 16, 2) := dk da_M_scatter 12 rfl
theorem d_M_scatter_24 : decode b_M_scatter 24 = .ok (.if_icmp .le 9, 3) := dk da_M_scatter 13 rfl
theorem d_M_scatter_27 : decode b_M_scatter 27 = .ok (.aload_n 0, 1) := dk da_M_scatter 14 rfl
theorem d_M_scatter_28 : decode b_M_scatter 28 = .ok (.iconst 1, 1) := dk da_M_scatter 15 rfl
theorem d_M_scatter_29 : decode b_M_scatter 29 = .ok (.invokevirtual 24, 3) := dk da_M_scatter 16 rfl
theorem d_M_scatter_32 : decode b_M_scatter 32 = .ok (.ireturn, 1) := dk da_M_scatter 17 rfl
theorem d_M_scatter_33 : decode b_M_scatter 33 = .ok (.aload_n 0, 1) := dk da_M_scatter 18 rfl
theorem d_M_scatter_34 : decode b_M_scatter 34 = .ok (.getfield 21, 3) := dk da_M_scatter 19 rfl
theorem d_M_scatter_37 : decode b_M_scatter 37 = .ok (.iload_n 3, 1) := dk da_M_scatter 20 rfl
theorem d_M_scatter_38 : decode b_M_scatter 38 = .ok (.iadd, 1) := dk da_M_scatter 21 rfl
theorem d_M_scatter_39 : decode b_M_scatter 39 = .ok (.sipush 2000, 3) := dk da_M_scatter 22 rfl
theorem d_M_scatter_42 : decode b_M_scatter 42 = .ok (.if_icmp .le 9, 3) := dk da_M_scatter 23 rfl
theorem d_M_scatter_45 : decode b_M_scatter 45 = .ok (.aload_n 0, 1) := dk da_M_scatter 24 rfl
theorem d_M_scatter_46 : decode b_M_scatter 46 = .ok (.iconst 2, 1) := dk da_M_scatter 25 rfl
theorem d_M_scatter_47 : decode b_M_scatter 47 = .ok (.invokevirtual 24, 3) := dk da_M_scatter 26 rfl
theorem d_M_scatter_50 : decode b_M_scatter 50 = .ok (.ireturn, 1) := dk da_M_scatter 27 rfl
theorem d_M_scatter_51 : decode b_M_scatter 51 = .ok (.iload_n 1, 1) := dk da_M_scatter 28 rfl
theorem d_M_scatter_52 : decode b_M_scatter 52 = .ok (.istore 4, 2) := dk da_M_scatter 29 rfl
theorem d_M_scatter_54 : decode b_M_scatter 54 = .ok (.iconst 0, 1) := dk da_M_scatter 30 rfl
theorem d_M_scatter_55 : decode b_M_scatter 55 = .ok (.istore 5, 2) := dk da_M_scatter 31 rfl
theorem d_M_scatter_57 : decode b_M_scatter 57 = .ok (.iload 5, 2) := dk da_M_scatter 32 rfl
theorem d_M_scatter_59 : decode b_M_scatter 59 = .ok (.iload_n 3, 1) := dk da_M_scatter 33 rfl
theorem d_M_scatter_60 : decode b_M_scatter 60 = .ok (.if_icmp .ge 34, 3) := dk da_M_scatter 34 rfl
theorem d_M_scatter_63 : decode b_M_scatter 63 = .ok (.ldc 32, 2) := dk da_M_scatter 35 rfl
theorem d_M_scatter_65 : decode b_M_scatter 65 = .ok (.iload 4, 2) := dk da_M_scatter 36 rfl
theorem d_M_scatter_67 : decode b_M_scatter 67 = .ok (.imul, 1) := dk da_M_scatter 37 rfl
theorem d_M_scatter_68 : decode b_M_scatter 68 = .ok (.ldc 33, 2) := dk da_M_scatter 38 rfl
theorem d_M_scatter_70 : decode b_M_scatter 70 = .ok (.iadd, 1) := dk da_M_scatter 39 rfl
theorem d_M_scatter_71 : decode b_M_scatter 71 = .ok (.istore 4, 2) := dk da_M_scatter 40 rfl
theorem d_M_scatter_73 : decode b_M_scatter 73 = .ok (.aload_n 0, 1) := dk da_M_scatter 41 rfl
theorem d_M_scatter_74 : decode b_M_scatter 74 = .ok (.iload 4, 2) := dk da_M_scatter 42 rfl
theorem d_M_scatter_76 : decode b_M_scatter 76 = .ok (.bipush 16, 2) := dk da_M_scatter 43 rfl
theorem d_M_scatter_78 : decode b_M_scatter 78 = .ok (.iushr, 1) := dk da_M_scatter 44 rfl
theorem d_M_scatter_79 : decode b_M_scatter 79 = .ok (.iconst 1, 1) := dk da_M_scatter 45 rfl
theorem d_M_scatter_80 : decode b_M_scatter 80 = .ok (.iload_n 2, 1) := dk da_M_scatter 46 rfl
theorem d_M_scatter_81 : decode b_M_scatter 81 = .ok (.ishl, 1) := dk da_M_scatter 47 rfl
theorem d_M_scatter_82 : decode b_M_scatter 82 = .ok (.iconst 1, 1) := dk da_M_scatter 48 rfl
theorem d_M_scatter_83 : decode b_M_scatter 83 = .ok (.isub, 1) := dk da_M_scatter 49 rfl
theorem d_M_scatter_84 : decode b_M_scatter 84 = .ok (.iand, 1) := dk da_M_scatter 50 rfl
theorem d_M_scatter_85 : decode b_M_scatter 85 = .ok (.invokevirtual 28, 3) := dk da_M_scatter 51 rfl
theorem d_M_scatter_88 : decode b_M_scatter 88 = .ok (.iinc 5 1, 3) := dk da_M_scatter 52 rfl
theorem d_M_scatter_91 : decode b_M_scatter 91 = .ok (.goto (-34), 3) := dk da_M_scatter 53 rfl
theorem d_M_scatter_94 : decode b_M_scatter 94 = .ok (.aload_n 0, 1) := dk da_M_scatter 54 rfl
theorem d_M_scatter_95 : decode b_M_scatter 95 = .ok (.getfield 21, 3) := dk da_M_scatter 55 rfl
theorem d_M_scatter_98 : decode b_M_scatter 98 = .ok (.ireturn, 1) := dk da_M_scatter 56 rfl
def dl_M_bad : List (Nat × Instr × Nat) := [(0, .iload_n 1, 1), (1, .ifCond .lt 16, 3), (4, .iload_n 2, 1), (5, .iload_n 1, 1), (6, .if_icmp .lt 11, 3), (9, .iload_n 2, 1), (10, .aload_n 0, 1), (11, .getfield 21, 3), (14, .if_icmp .le 7, 3), (17, .iconst 1, 1), (18, .goto 4, 3), (21, .iconst 0, 1), (22, .ireturn, 1)]
set_option maxRecDepth 100000 in
theorem da_M_bad : (dl_M_bad.all fun q => decide (decode b_M_bad q.1 = .ok q.2)) = true := by decide +kernel
theorem d_M_bad_0 : decode b_M_bad 0 = .ok (.iload_n 1, 1) := dk da_M_bad 0 rfl
theorem d_M_bad_1 : decode b_M_bad 1 = .ok (.ifCond .lt 16, 3) := dk da_M_bad 1 rfl
theorem d_M_bad_4 : decode b_M_bad 4 = .ok (.iload_n 2, 1) := dk da_M_bad 2 rfl
theorem d_M_bad_5 : decode b_M_bad 5 = .ok (.iload_n 1, 1) := dk da_M_bad 3 rfl
theorem d_M_bad_6 : decode b_M_bad 6 = .ok (.if_icmp .lt 11, 3) := dk da_M_bad 4 rfl
theorem d_M_bad_9 : decode b_M_bad 9 = .ok (.iload_n 2, 1) := dk da_M_bad 5 rfl
theorem d_M_bad_10 : decode b_M_bad 10 = .ok (.aload_n 0, 1) := dk da_M_bad 6 rfl
theorem d_M_bad_11 : decode b_M_bad 11 = .ok (.getfield 21, 3) := dk da_M_bad 7 rfl
theorem d_M_bad_14 : decode b_M_bad 14 = .ok (.if_icmp .le 7, 3) := dk da_M_bad 8 rfl
theorem d_M_bad_17 : decode b_M_bad 17 = .ok (.iconst 1, 1) := dk da_M_bad 9 rfl
theorem d_M_bad_18 : decode b_M_bad 18 = .ok (.goto 4, 3) := dk da_M_bad 10 rfl
theorem d_M_bad_21 : decode b_M_bad 21 = .ok (.iconst 0, 1) := dk da_M_bad 11 rfl
theorem d_M_bad_22 : decode b_M_bad 22 = .ok (.ireturn, 1) := dk da_M_bad 12 rfl
def dl_M_sort : List (Nat × Instr × Nat) := [(0, .aload_n 0, 1), (1, .iconst 0, 1), (2, .putfield 16, 3), (5, .iload_n 1, 1), (6, .ifCond .lt 17, 3), (9, .iload_n 1, 1), (10, .iconst 3, 1), (11, .if_icmp .gt 12, 3), (14, .aload_n 0, 1), (15, .iload_n 2, 1), (16, .iload_n 3, 1), (17, .invokevirtual 34, 3), (20, .ifCond .eq 9, 3), (23, .aload_n 0, 1), (24, .iconst 1, 1), (25, .invokevirtual 24, 3), (28, .ireturn, 1), (29, .iload_n 2, 1), (30, .iconst 1, 1), (31, .iadd, 1), (32, .istore 4, 2), (34, .iload 4, 2), (36, .iload_n 3, 1), (37, .if_icmp .ge 117, 3), (40, .aload_n 0, 1), (41, .getfield 7, 3), (44, .iload 4, 2), (46, .iaload, 1), (47, .istore 5, 2), (49, .aload_n 0, 1), (50, .getfield 13, 3), (53, .iload 4, 2), (55, .iaload, 1), (56, .istore 6, 2), (58, .iload 4, 2), (60, .istore 7, 2), (62, .iload 7, 2), (64, .iload_n 2, 1), (65, .if_icmp .le 65, 3), (68, .aload_n 0, 1), (69, .iload_n 1, 1), (70, .aload_n 0, 1), (71, .getfield 7, 3), (74, .iload 7, 2), (76, .iconst 1, 1), (77, .isub, 1), (78, .iaload, 1), (79, .invokevirtual 38, 3), (82, .aload_n 0, 1), (83, .iload_n 1, 1), (84, .iload 5, 2), (86, .invokevirtual 38, 3), (89, .if_icmp .le 41, 3), (92, .aload_n 0, 1), (93, .getfield 7, 3), (96, .iload 7, 2), (98, .aload_n 0, 1), (99, .getfield 7, 3), (102, .iload 7, 2), (104, .iconst 1, 1), (105, .isub, 1), (106, .iaload, 1), (107, .iastore, 1), (108, .aload_n 0, 1), (109, .getfield 13, 3), (112, .iload 7, 2), (114, .aload_n 0, 1), (115, .getfield 13, 3), (118, .iload 7, 2), (120, .iconst 1, 1), (121, .isub, 1), (122, .iaload, 1), (123, .iastore, 1), (124, .iinc 7 (-1), 3), (127, .goto (-65), 3), (130, .aload_n 0, 1), (131, .getfield 7, 3), (134, .iload 7, 2), (136, .iload 5, 2), (138, .iastore, 1), (139, .aload_n 0, 1), (140, .getfield 13, 3), (143, .iload 7, 2), (145, .iload 6, 2), (147, .iastore, 1), (148, .iinc 4 1, 3), (151, .goto (-117), 3), (154, .iload_n 3, 1), (155, .iload_n 2, 1), (156, .isub, 1), (157, .ireturn, 1)]
set_option maxRecDepth 100000 in
theorem da_M_sort : (dl_M_sort.all fun q => decide (decode b_M_sort q.1 = .ok q.2)) = true := by decide +kernel
theorem d_M_sort_0 : decode b_M_sort 0 = .ok (.aload_n 0, 1) := dk da_M_sort 0 rfl
theorem d_M_sort_1 : decode b_M_sort 1 = .ok (.iconst 0, 1) := dk da_M_sort 1 rfl
theorem d_M_sort_2 : decode b_M_sort 2 = .ok (.putfield 16, 3) := dk da_M_sort 2 rfl
theorem d_M_sort_5 : decode b_M_sort 5 = .ok (.iload_n 1, 1) := dk da_M_sort 3 rfl
theorem d_M_sort_6 : decode b_M_sort 6 = .ok (.ifCond .lt 17, 3) := dk da_M_sort 4 rfl
theorem d_M_sort_9 : decode b_M_sort 9 = .ok (.iload_n 1, 1) := dk da_M_sort 5 rfl
theorem d_M_sort_10 : decode b_M_sort 10 = .ok (.iconst 3, 1) := dk da_M_sort 6 rfl
theorem d_M_sort_11 : decode b_M_sort 11 = .ok (.if_icmp .gt 12, 3) := dk da_M_sort 7 rfl
theorem d_M_sort_14 : decode b_M_sort 14 = .ok (.aload_n 0, 1) := dk da_M_sort 8 rfl
theorem d_M_sort_15 : decode b_M_sort 15 = .ok (.iload_n 2, 1) := dk da_M_sort 9 rfl
theorem d_M_sort_16 : decode b_M_sort 16 = .ok (.iload_n 3, 1) := dk da_M_sort 10 rfl
theorem d_M_sort_17 : decode b_M_sort 17 = .ok (.invokevirtual 34, 3) := dk da_M_sort 11 rfl
theorem d_M_sort_20 : decode b_M_sort 20 = .ok (.ifCond .eq 9, 3) := dk da_M_sort 12 rfl
theorem d_M_sort_23 : decode b_M_sort 23 = .ok (.aload_n 0, 1) := dk da_M_sort 13 rfl
theorem d_M_sort_24 : decode b_M_sort 24 = .ok (.iconst 1, 1) := dk da_M_sort 14 rfl
theorem d_M_sort_25 : decode b_M_sort 25 = .ok (.invokevirtual 24, 3) := dk da_M_sort 15 rfl
theorem d_M_sort_28 : decode b_M_sort 28 = .ok (.ireturn, 1) := dk da_M_sort 16 rfl
theorem d_M_sort_29 : decode b_M_sort 29 = .ok (.iload_n 2, 1) := dk da_M_sort 17 rfl
theorem d_M_sort_30 : decode b_M_sort 30 = .ok (.iconst 1, 1) := dk da_M_sort 18 rfl
theorem d_M_sort_31 : decode b_M_sort 31 = .ok (.iadd, 1) := dk da_M_sort 19 rfl
theorem d_M_sort_32 : decode b_M_sort 32 = .ok (.istore 4, 2) := dk da_M_sort 20 rfl
theorem d_M_sort_34 : decode b_M_sort 34 = .ok (.iload 4, 2) := dk da_M_sort 21 rfl
theorem d_M_sort_36 : decode b_M_sort 36 = .ok (.iload_n 3, 1) := dk da_M_sort 22 rfl
theorem d_M_sort_37 : decode b_M_sort 37 = .ok (.if_icmp .ge 117, 3) := dk da_M_sort 23 rfl
theorem d_M_sort_40 : decode b_M_sort 40 = .ok (.aload_n 0, 1) := dk da_M_sort 24 rfl
theorem d_M_sort_41 : decode b_M_sort 41 = .ok (.getfield 7, 3) := dk da_M_sort 25 rfl
theorem d_M_sort_44 : decode b_M_sort 44 = .ok (.iload 4, 2) := dk da_M_sort 26 rfl
theorem d_M_sort_46 : decode b_M_sort 46 = .ok (.iaload, 1) := dk da_M_sort 27 rfl
theorem d_M_sort_47 : decode b_M_sort 47 = .ok (.istore 5, 2) := dk da_M_sort 28 rfl
theorem d_M_sort_49 : decode b_M_sort 49 = .ok (.aload_n 0, 1) := dk da_M_sort 29 rfl
theorem d_M_sort_50 : decode b_M_sort 50 = .ok (.getfield 13, 3) := dk da_M_sort 30 rfl
theorem d_M_sort_53 : decode b_M_sort 53 = .ok (.iload 4, 2) := dk da_M_sort 31 rfl
theorem d_M_sort_55 : decode b_M_sort 55 = .ok (.iaload, 1) := dk da_M_sort 32 rfl
theorem d_M_sort_56 : decode b_M_sort 56 = .ok (.istore 6, 2) := dk da_M_sort 33 rfl
theorem d_M_sort_58 : decode b_M_sort 58 = .ok (.iload 4, 2) := dk da_M_sort 34 rfl
theorem d_M_sort_60 : decode b_M_sort 60 = .ok (.istore 7, 2) := dk da_M_sort 35 rfl
theorem d_M_sort_62 : decode b_M_sort 62 = .ok (.iload 7, 2) := dk da_M_sort 36 rfl
theorem d_M_sort_64 : decode b_M_sort 64 = .ok (.iload_n 2, 1) := dk da_M_sort 37 rfl
theorem d_M_sort_65 : decode b_M_sort 65 = .ok (.if_icmp .le 65, 3) := dk da_M_sort 38 rfl
theorem d_M_sort_68 : decode b_M_sort 68 = .ok (.aload_n 0, 1) := dk da_M_sort 39 rfl
theorem d_M_sort_69 : decode b_M_sort 69 = .ok (.iload_n 1, 1) := dk da_M_sort 40 rfl
theorem d_M_sort_70 : decode b_M_sort 70 = .ok (.aload_n 0, 1) := dk da_M_sort 41 rfl
theorem d_M_sort_71 : decode b_M_sort 71 = .ok (.getfield 7, 3) := dk da_M_sort 42 rfl
theorem d_M_sort_74 : decode b_M_sort 74 = .ok (.iload 7, 2) := dk da_M_sort 43 rfl
theorem d_M_sort_76 : decode b_M_sort 76 = .ok (.iconst 1, 1) := dk da_M_sort 44 rfl
theorem d_M_sort_77 : decode b_M_sort 77 = .ok (.isub, 1) := dk da_M_sort 45 rfl
theorem d_M_sort_78 : decode b_M_sort 78 = .ok (.iaload, 1) := dk da_M_sort 46 rfl
theorem d_M_sort_79 : decode b_M_sort 79 = .ok (.invokevirtual 38, 3) := dk da_M_sort 47 rfl
theorem d_M_sort_82 : decode b_M_sort 82 = .ok (.aload_n 0, 1) := dk da_M_sort 48 rfl
theorem d_M_sort_83 : decode b_M_sort 83 = .ok (.iload_n 1, 1) := dk da_M_sort 49 rfl
theorem d_M_sort_84 : decode b_M_sort 84 = .ok (.iload 5, 2) := dk da_M_sort 50 rfl
theorem d_M_sort_86 : decode b_M_sort 86 = .ok (.invokevirtual 38, 3) := dk da_M_sort 51 rfl
theorem d_M_sort_89 : decode b_M_sort 89 = .ok (.if_icmp .le 41, 3) := dk da_M_sort 52 rfl
theorem d_M_sort_92 : decode b_M_sort 92 = .ok (.aload_n 0, 1) := dk da_M_sort 53 rfl
theorem d_M_sort_93 : decode b_M_sort 93 = .ok (.getfield 7, 3) := dk da_M_sort 54 rfl
theorem d_M_sort_96 : decode b_M_sort 96 = .ok (.iload 7, 2) := dk da_M_sort 55 rfl
theorem d_M_sort_98 : decode b_M_sort 98 = .ok (.aload_n 0, 1) := dk da_M_sort 56 rfl
theorem d_M_sort_99 : decode b_M_sort 99 = .ok (.getfield 7, 3) := dk da_M_sort 57 rfl
theorem d_M_sort_102 : decode b_M_sort 102 = .ok (.iload 7, 2) := dk da_M_sort 58 rfl
theorem d_M_sort_104 : decode b_M_sort 104 = .ok (.iconst 1, 1) := dk da_M_sort 59 rfl
theorem d_M_sort_105 : decode b_M_sort 105 = .ok (.isub, 1) := dk da_M_sort 60 rfl
theorem d_M_sort_106 : decode b_M_sort 106 = .ok (.iaload, 1) := dk da_M_sort 61 rfl
theorem d_M_sort_107 : decode b_M_sort 107 = .ok (.iastore, 1) := dk da_M_sort 62 rfl
theorem d_M_sort_108 : decode b_M_sort 108 = .ok (.aload_n 0, 1) := dk da_M_sort 63 rfl
theorem d_M_sort_109 : decode b_M_sort 109 = .ok (.getfield 13, 3) := dk da_M_sort 64 rfl
theorem d_M_sort_112 : decode b_M_sort 112 = .ok (.iload 7, 2) := dk da_M_sort 65 rfl
theorem d_M_sort_114 : decode b_M_sort 114 = .ok (.aload_n 0, 1) := dk da_M_sort 66 rfl
theorem d_M_sort_115 : decode b_M_sort 115 = .ok (.getfield 13, 3) := dk da_M_sort 67 rfl
theorem d_M_sort_118 : decode b_M_sort 118 = .ok (.iload 7, 2) := dk da_M_sort 68 rfl
theorem d_M_sort_120 : decode b_M_sort 120 = .ok (.iconst 1, 1) := dk da_M_sort 69 rfl
theorem d_M_sort_121 : decode b_M_sort 121 = .ok (.isub, 1) := dk da_M_sort 70 rfl
theorem d_M_sort_122 : decode b_M_sort 122 = .ok (.iaload, 1) := dk da_M_sort 71 rfl
theorem d_M_sort_123 : decode b_M_sort 123 = .ok (.iastore, 1) := dk da_M_sort 72 rfl
theorem d_M_sort_124 : decode b_M_sort 124 = .ok (.iinc 7 (-1), 3) := dk da_M_sort 73 rfl
theorem d_M_sort_127 : decode b_M_sort 127 = .ok (.goto (-65), 3) := dk da_M_sort 74 rfl
theorem d_M_sort_130 : decode b_M_sort 130 = .ok (.aload_n 0, 1) := dk da_M_sort 75 rfl
theorem d_M_sort_131 : decode b_M_sort 131 = .ok (.getfield 7, 3) := dk da_M_sort 76 rfl
theorem d_M_sort_134 : decode b_M_sort 134 = .ok (.iload 7, 2) := dk da_M_sort 77 rfl
theorem d_M_sort_136 : decode b_M_sort 136 = .ok (.iload 5, 2) := dk da_M_sort 78 rfl
theorem d_M_sort_138 : decode b_M_sort 138 = .ok (.iastore, 1) := dk da_M_sort 79 rfl
theorem d_M_sort_139 : decode b_M_sort 139 = .ok (.aload_n 0, 1) := dk da_M_sort 80 rfl
theorem d_M_sort_140 : decode b_M_sort 140 = .ok (.getfield 13, 3) := dk da_M_sort 81 rfl
theorem d_M_sort_143 : decode b_M_sort 143 = .ok (.iload 7, 2) := dk da_M_sort 82 rfl
theorem d_M_sort_145 : decode b_M_sort 145 = .ok (.iload 6, 2) := dk da_M_sort 83 rfl
theorem d_M_sort_147 : decode b_M_sort 147 = .ok (.iastore, 1) := dk da_M_sort 84 rfl
theorem d_M_sort_148 : decode b_M_sort 148 = .ok (.iinc 4 1, 3) := dk da_M_sort 85 rfl
theorem d_M_sort_151 : decode b_M_sort 151 = .ok (.goto (-117), 3) := dk da_M_sort 86 rfl
theorem d_M_sort_154 : decode b_M_sort 154 = .ok (.iload_n 3, 1) := dk da_M_sort 87 rfl
theorem d_M_sort_155 : decode b_M_sort 155 = .ok (.iload_n 2, 1) := dk da_M_sort 88 rfl
theorem d_M_sort_156 : decode b_M_sort 156 = .ok (.isub, 1) := dk da_M_sort 89 rfl
theorem d_M_sort_157 : decode b_M_sort 157 = .ok (.ireturn, 1) := dk da_M_sort 90 rfl
def dl_M_get : List (Nat × Instr × Nat) := [(0, .aload_n 0, 1), (1, .iconst 0, 1), (2, .putfield 16, 3), (5, .iload_n 1, 1), (6, .ifCond .lt 11, 3), (9, .iload_n 1, 1), (10, .aload_n 0, 1), (11, .getfield 21, 3), (14, .if_icmp .lt 11, 3), (17, .aload_n 0, 1), (18, .iconst 1, 1), (19, .invokevirtual 24, 3), (22, .goto 9, 3), (25, .aload_n 0, 1), (26, .getfield 7, 3), (29, .iload_n 1, 1), (30, .iaload, 1), (31, .ireturn, 1)]
set_option maxRecDepth 100000 in
theorem da_M_get : (dl_M_get.all fun q => decide (decode b_M_get q.1 = .ok q.2)) = true := by decide +kernel
theorem d_M_get_0 : decode b_M_get 0 = .ok (.aload_n 0, 1) := dk da_M_get 0 rfl
theorem d_M_get_1 : decode b_M_get 1 = .ok (.iconst 0, 1) := dk da_M_get 1 rfl
theorem d_M_get_2 : decode b_M_get 2 = .ok (.putfield 16, 3) := dk da_M_get 2 rfl
theorem d_M_get_5 : decode b_M_get 5 = .ok (.iload_n 1, 1) := dk da_M_get 3 rfl
theorem d_M_get_6 : decode b_M_get 6 = .ok (.ifCond .lt 11, 3) := dk da_M_get 4 rfl
theorem d_M_get_9 : decode b_M_get 9 = .ok (.iload_n 1, 1) := dk da_M_get 5 rfl
theorem d_M_get_10 : decode b_M_get 10 = .ok (.aload_n 0, 1) := dk da_M_get 6 rfl
theorem d_M_get_11 : decode b_M_get 11 = .ok (.getfield 21, 3) := dk da_M_get 7 rfl
theorem d_M_get_14 : decode b_M_get 14 = .ok (.if_icmp .lt 11, 3) := dk da_M_get 8 rfl
theorem d_M_get_17 : decode b_M_get 17 = .ok (.aload_n 0, 1) := dk da_M_get 9 rfl
theorem d_M_get_18 : decode b_M_get 18 = .ok (.iconst 1, 1) := dk da_M_get 10 rfl
theorem d_M_get_19 : decode b_M_get 19 = .ok (.invokevirtual 24, 3) := dk da_M_get 11 rfl
theorem d_M_get_22 : decode b_M_get 22 = .ok (.goto 9, 3) := dk da_M_get 12 rfl
theorem d_M_get_25 : decode b_M_get 25 = .ok (.aload_n 0, 1) := dk da_M_get 13 rfl
theorem d_M_get_26 : decode b_M_get 26 = .ok (.getfield 7, 3) := dk da_M_get 14 rfl
theorem d_M_get_29 : decode b_M_get 29 = .ok (.iload_n 1, 1) := dk da_M_get 15 rfl
theorem d_M_get_30 : decode b_M_get 30 = .ok (.iaload, 1) := dk da_M_get 16 rfl
theorem d_M_get_31 : decode b_M_get 31 = .ok (.ireturn, 1) := dk da_M_get 17 rfl
def dl_M_tag : List (Nat × Instr × Nat) := [(0, .aload_n 0, 1), (1, .iconst 0, 1), (2, .putfield 16, 3), (5, .iload_n 1, 1), (6, .ifCond .lt 11, 3), (9, .iload_n 1, 1), (10, .aload_n 0, 1), (11, .getfield 21, 3), (14, .if_icmp .lt 11, 3), (17, .aload_n 0, 1), (18, .iconst 1, 1), (19, .invokevirtual 24, 3), (22, .goto 9, 3), (25, .aload_n 0, 1), (26, .getfield 13, 3), (29, .iload_n 1, 1), (30, .iaload, 1), (31, .ireturn, 1)]
set_option maxRecDepth 100000 in
theorem da_M_tag : (dl_M_tag.all fun q => decide (decode b_M_tag q.1 = .ok q.2)) = true := by decide +kernel
theorem d_M_tag_0 : decode b_M_tag 0 = .ok (.aload_n 0, 1) := dk da_M_tag 0 rfl
theorem d_M_tag_1 : decode b_M_tag 1 = .ok (.iconst 0, 1) := dk da_M_tag 1 rfl
theorem d_M_tag_2 : decode b_M_tag 2 = .ok (.putfield 16, 3) := dk da_M_tag 2 rfl
theorem d_M_tag_5 : decode b_M_tag 5 = .ok (.iload_n 1, 1) := dk da_M_tag 3 rfl
theorem d_M_tag_6 : decode b_M_tag 6 = .ok (.ifCond .lt 11, 3) := dk da_M_tag 4 rfl
theorem d_M_tag_9 : decode b_M_tag 9 = .ok (.iload_n 1, 1) := dk da_M_tag 5 rfl
theorem d_M_tag_10 : decode b_M_tag 10 = .ok (.aload_n 0, 1) := dk da_M_tag 6 rfl
theorem d_M_tag_11 : decode b_M_tag 11 = .ok (.getfield 21, 3) := dk da_M_tag 7 rfl
theorem d_M_tag_14 : decode b_M_tag 14 = .ok (.if_icmp .lt 11, 3) := dk da_M_tag 8 rfl
theorem d_M_tag_17 : decode b_M_tag 17 = .ok (.aload_n 0, 1) := dk da_M_tag 9 rfl
theorem d_M_tag_18 : decode b_M_tag 18 = .ok (.iconst 1, 1) := dk da_M_tag 10 rfl
theorem d_M_tag_19 : decode b_M_tag 19 = .ok (.invokevirtual 24, 3) := dk da_M_tag 11 rfl
theorem d_M_tag_22 : decode b_M_tag 22 = .ok (.goto 9, 3) := dk da_M_tag 12 rfl
theorem d_M_tag_25 : decode b_M_tag 25 = .ok (.aload_n 0, 1) := dk da_M_tag 13 rfl
theorem d_M_tag_26 : decode b_M_tag 26 = .ok (.getfield 13, 3) := dk da_M_tag 14 rfl
theorem d_M_tag_29 : decode b_M_tag 29 = .ok (.iload_n 1, 1) := dk da_M_tag 15 rfl
theorem d_M_tag_30 : decode b_M_tag 30 = .ok (.iaload, 1) := dk da_M_tag 16 rfl
theorem d_M_tag_31 : decode b_M_tag 31 = .ok (.ireturn, 1) := dk da_M_tag 17 rfl
def dl_M_set : List (Nat × Instr × Nat) := [(0, .aload_n 0, 1), (1, .iconst 0, 1), (2, .putfield 16, 3), (5, .iload_n 1, 1), (6, .ifCond .lt 11, 3), (9, .iload_n 1, 1), (10, .aload_n 0, 1), (11, .getfield 21, 3), (14, .if_icmp .lt 9, 3), (17, .aload_n 0, 1), (18, .iconst 1, 1), (19, .invokevirtual 24, 3), (22, .ireturn, 1), (23, .aload_n 0, 1), (24, .getfield 7, 3), (27, .iload_n 1, 1), (28, .iaload, 1), (29, .istore_n 3, 1), (30, .aload_n 0, 1), (31, .getfield 7, 3), (34, .iload_n 1, 1), (35, .iload_n 2, 1), (36, .iastore, 1), (37, .iload_n 3, 1), (38, .ireturn, 1)]
set_option maxRecDepth 100000 in
theorem da_M_set : (dl_M_set.all fun q => decide (decode b_M_set q.1 = .ok q.2)) = true := by decide +kernel
theorem d_M_set_0 : decode b_M_set 0 = .ok (.aload_n 0, 1) := dk da_M_set 0 rfl
theorem d_M_set_1 : decode b_M_set 1 = .ok (.iconst 0, 1) := dk da_M_set 1 rfl
theorem d_M_set_2 : decode b_M_set 2 = .ok (.putfield 16, 3) := dk da_M_set 2 rfl
theorem d_M_set_5 : decode b_M_set 5 = .ok (.iload_n 1, 1) := dk da_M_set 3 rfl
theorem d_M_set_6 : decode b_M_set 6 = .ok (.ifCond .lt 11, 3) := dk da_M_set 4 rfl
theorem d_M_set_9 : decode b_M_set 9 = .ok (.iload_n 1, 1) := dk da_M_set 5 rfl
theorem d_M_set_10 : decode b_M_set 10 = .ok (.aload_n 0, 1) := dk da_M_set 6 rfl
theorem d_M_set_11 : decode b_M_set 11 = .ok (.getfield 21, 3) := dk da_M_set 7 rfl
theorem d_M_set_14 : decode b_M_set 14 = .ok (.if_icmp .lt 9, 3) := dk da_M_set 8 rfl
theorem d_M_set_17 : decode b_M_set 17 = .ok (.aload_n 0, 1) := dk da_M_set 9 rfl
theorem d_M_set_18 : decode b_M_set 18 = .ok (.iconst 1, 1) := dk da_M_set 10 rfl
theorem d_M_set_19 : decode b_M_set 19 = .ok (.invokevirtual 24, 3) := dk da_M_set 11 rfl
theorem d_M_set_22 : decode b_M_set 22 = .ok (.ireturn, 1) := dk da_M_set 12 rfl
theorem d_M_set_23 : decode b_M_set 23 = .ok (.aload_n 0, 1) := dk da_M_set 13 rfl
theorem d_M_set_24 : decode b_M_set 24 = .ok (.getfield 7, 3) := dk da_M_set 14 rfl
theorem d_M_set_27 : decode b_M_set 27 = .ok (.iload_n 1, 1) := dk da_M_set 15 rfl
theorem d_M_set_28 : decode b_M_set 28 = .ok (.iaload, 1) := dk da_M_set 16 rfl
theorem d_M_set_29 : decode b_M_set 29 = .ok (.istore_n 3, 1) := dk da_M_set 17 rfl
theorem d_M_set_30 : decode b_M_set 30 = .ok (.aload_n 0, 1) := dk da_M_set 18 rfl
theorem d_M_set_31 : decode b_M_set 31 = .ok (.getfield 7, 3) := dk da_M_set 19 rfl
theorem d_M_set_34 : decode b_M_set 34 = .ok (.iload_n 1, 1) := dk da_M_set 20 rfl
theorem d_M_set_35 : decode b_M_set 35 = .ok (.iload_n 2, 1) := dk da_M_set 21 rfl
theorem d_M_set_36 : decode b_M_set 36 = .ok (.iastore, 1) := dk da_M_set 22 rfl
theorem d_M_set_37 : decode b_M_set 37 = .ok (.iload_n 3, 1) := dk da_M_set 23 rfl
theorem d_M_set_38 : decode b_M_set 38 = .ok (.ireturn, 1) := dk da_M_set 24 rfl
def dl_M_turn : List (Nat × Instr × Nat) := [(0, .aload_n 0, 1), (1, .iconst 0, 1), (2, .putfield 16, 3), (5, .aload_n 0, 1), (6, .iload_n 1, 1), (7, .iload_n 2, 1), (8, .invokevirtual 34, 3), (11, .ifCond .eq 9, 3), (14, .aload_n 0, 1), (15, .iconst 1, 1), (16, .invokevirtual 24, 3), (19, .ireturn, 1), (20, .iload_n 1, 1), (21, .istore_n 3, 1), (22, .iload_n 2, 1), (23, .iconst 1, 1), (24, .isub, 1), (25, .istore 4, 2), (27, .iload_n 3, 1), (28, .iload 4, 2), (30, .if_icmp .ge 72, 3), (33, .aload_n 0, 1), (34, .getfield 7, 3), (37, .iload_n 3, 1), (38, .iaload, 1), (39, .istore 5, 2), (41, .aload_n 0, 1), (42, .getfield 13, 3), (45, .iload_n 3, 1), (46, .iaload, 1), (47, .istore 6, 2), (49, .aload_n 0, 1), (50, .getfield 7, 3), (53, .iload_n 3, 1), (54, .aload_n 0, 1), (55, .getfield 7, 3), (58, .iload 4, 2), (60, .iaload, 1), (61, .iastore, 1), (62, .aload_n 0, 1), (63, .getfield 13, 3), (66, .iload_n 3, 1), (67, .aload_n 0, 1), (68, .getfield 13, 3), (71, .iload 4, 2), (73, .iaload, 1), (74, .iastore, 1), (75, .aload_n 0, 1), (76, .getfield 7, 3), (79, .iload 4, 2), (81, .iload 5, 2), (83, .iastore, 1), (84, .aload_n 0, 1), (85, .getfield 13, 3), (88, .iload 4, 2), (90, .iload 6, 2), (92, .iastore, 1), (93, .iinc 4 (-1), 3), (96, .iinc 3 1, 3), (99, .goto (-72), 3), (102, .iload_n 2, 1), (103, .iload_n 1, 1), (104, .isub, 1), (105, .ireturn, 1)]
set_option maxRecDepth 100000 in
theorem da_M_turn : (dl_M_turn.all fun q => decide (decode b_M_turn q.1 = .ok q.2)) = true := by decide +kernel
theorem d_M_turn_0 : decode b_M_turn 0 = .ok (.aload_n 0, 1) := dk da_M_turn 0 rfl
theorem d_M_turn_1 : decode b_M_turn 1 = .ok (.iconst 0, 1) := dk da_M_turn 1 rfl
theorem d_M_turn_2 : decode b_M_turn 2 = .ok (.putfield 16, 3) := dk da_M_turn 2 rfl
theorem d_M_turn_5 : decode b_M_turn 5 = .ok (.aload_n 0, 1) := dk da_M_turn 3 rfl
theorem d_M_turn_6 : decode b_M_turn 6 = .ok (.iload_n 1, 1) := dk da_M_turn 4 rfl
theorem d_M_turn_7 : decode b_M_turn 7 = .ok (.iload_n 2, 1) := dk da_M_turn 5 rfl
theorem d_M_turn_8 : decode b_M_turn 8 = .ok (.invokevirtual 34, 3) := dk da_M_turn 6 rfl
theorem d_M_turn_11 : decode b_M_turn 11 = .ok (.ifCond .eq 9, 3) := dk da_M_turn 7 rfl
theorem d_M_turn_14 : decode b_M_turn 14 = .ok (.aload_n 0, 1) := dk da_M_turn 8 rfl
theorem d_M_turn_15 : decode b_M_turn 15 = .ok (.iconst 1, 1) := dk da_M_turn 9 rfl
theorem d_M_turn_16 : decode b_M_turn 16 = .ok (.invokevirtual 24, 3) := dk da_M_turn 10 rfl
theorem d_M_turn_19 : decode b_M_turn 19 = .ok (.ireturn, 1) := dk da_M_turn 11 rfl
theorem d_M_turn_20 : decode b_M_turn 20 = .ok (.iload_n 1, 1) := dk da_M_turn 12 rfl
theorem d_M_turn_21 : decode b_M_turn 21 = .ok (.istore_n 3, 1) := dk da_M_turn 13 rfl
theorem d_M_turn_22 : decode b_M_turn 22 = .ok (.iload_n 2, 1) := dk da_M_turn 14 rfl
theorem d_M_turn_23 : decode b_M_turn 23 = .ok (.iconst 1, 1) := dk da_M_turn 15 rfl
theorem d_M_turn_24 : decode b_M_turn 24 = .ok (.isub, 1) := dk da_M_turn 16 rfl
theorem d_M_turn_25 : decode b_M_turn 25 = .ok (.istore 4, 2) := dk da_M_turn 17 rfl
theorem d_M_turn_27 : decode b_M_turn 27 = .ok (.iload_n 3, 1) := dk da_M_turn 18 rfl
theorem d_M_turn_28 : decode b_M_turn 28 = .ok (.iload 4, 2) := dk da_M_turn 19 rfl
theorem d_M_turn_30 : decode b_M_turn 30 = .ok (.if_icmp .ge 72, 3) := dk da_M_turn 20 rfl
theorem d_M_turn_33 : decode b_M_turn 33 = .ok (.aload_n 0, 1) := dk da_M_turn 21 rfl
theorem d_M_turn_34 : decode b_M_turn 34 = .ok (.getfield 7, 3) := dk da_M_turn 22 rfl
theorem d_M_turn_37 : decode b_M_turn 37 = .ok (.iload_n 3, 1) := dk da_M_turn 23 rfl
theorem d_M_turn_38 : decode b_M_turn 38 = .ok (.iaload, 1) := dk da_M_turn 24 rfl
theorem d_M_turn_39 : decode b_M_turn 39 = .ok (.istore 5, 2) := dk da_M_turn 25 rfl
theorem d_M_turn_41 : decode b_M_turn 41 = .ok (.aload_n 0, 1) := dk da_M_turn 26 rfl
theorem d_M_turn_42 : decode b_M_turn 42 = .ok (.getfield 13, 3) := dk da_M_turn 27 rfl
theorem d_M_turn_45 : decode b_M_turn 45 = .ok (.iload_n 3, 1) := dk da_M_turn 28 rfl
theorem d_M_turn_46 : decode b_M_turn 46 = .ok (.iaload, 1) := dk da_M_turn 29 rfl
theorem d_M_turn_47 : decode b_M_turn 47 = .ok (.istore 6, 2) := dk da_M_turn 30 rfl
theorem d_M_turn_49 : decode b_M_turn 49 = .ok (.aload_n 0, 1) := dk da_M_turn 31 rfl
theorem d_M_turn_50 : decode b_M_turn 50 = .ok (.getfield 7, 3) := dk da_M_turn 32 rfl
theorem d_M_turn_53 : decode b_M_turn 53 = .ok (.iload_n 3, 1) := dk da_M_turn 33 rfl
theorem d_M_turn_54 : decode b_M_turn 54 = .ok (.aload_n 0, 1) := dk da_M_turn 34 rfl
theorem d_M_turn_55 : decode b_M_turn 55 = .ok (.getfield 7, 3) := dk da_M_turn 35 rfl
theorem d_M_turn_58 : decode b_M_turn 58 = .ok (.iload 4, 2) := dk da_M_turn 36 rfl
theorem d_M_turn_60 : decode b_M_turn 60 = .ok (.iaload, 1) := dk da_M_turn 37 rfl
theorem d_M_turn_61 : decode b_M_turn 61 = .ok (.iastore, 1) := dk da_M_turn 38 rfl
theorem d_M_turn_62 : decode b_M_turn 62 = .ok (.aload_n 0, 1) := dk da_M_turn 39 rfl
theorem d_M_turn_63 : decode b_M_turn 63 = .ok (.getfield 13, 3) := dk da_M_turn 40 rfl
theorem d_M_turn_66 : decode b_M_turn 66 = .ok (.iload_n 3, 1) := dk da_M_turn 41 rfl
theorem d_M_turn_67 : decode b_M_turn 67 = .ok (.aload_n 0, 1) := dk da_M_turn 42 rfl
theorem d_M_turn_68 : decode b_M_turn 68 = .ok (.getfield 13, 3) := dk da_M_turn 43 rfl
theorem d_M_turn_71 : decode b_M_turn 71 = .ok (.iload 4, 2) := dk da_M_turn 44 rfl
theorem d_M_turn_73 : decode b_M_turn 73 = .ok (.iaload, 1) := dk da_M_turn 45 rfl
theorem d_M_turn_74 : decode b_M_turn 74 = .ok (.iastore, 1) := dk da_M_turn 46 rfl
theorem d_M_turn_75 : decode b_M_turn 75 = .ok (.aload_n 0, 1) := dk da_M_turn 47 rfl
theorem d_M_turn_76 : decode b_M_turn 76 = .ok (.getfield 7, 3) := dk da_M_turn 48 rfl
theorem d_M_turn_79 : decode b_M_turn 79 = .ok (.iload 4, 2) := dk da_M_turn 49 rfl
theorem d_M_turn_81 : decode b_M_turn 81 = .ok (.iload 5, 2) := dk da_M_turn 50 rfl
theorem d_M_turn_83 : decode b_M_turn 83 = .ok (.iastore, 1) := dk da_M_turn 51 rfl
theorem d_M_turn_84 : decode b_M_turn 84 = .ok (.aload_n 0, 1) := dk da_M_turn 52 rfl
theorem d_M_turn_85 : decode b_M_turn 85 = .ok (.getfield 13, 3) := dk da_M_turn 53 rfl
theorem d_M_turn_88 : decode b_M_turn 88 = .ok (.iload 4, 2) := dk da_M_turn 54 rfl
theorem d_M_turn_90 : decode b_M_turn 90 = .ok (.iload 6, 2) := dk da_M_turn 55 rfl
theorem d_M_turn_92 : decode b_M_turn 92 = .ok (.iastore, 1) := dk da_M_turn 56 rfl
theorem d_M_turn_93 : decode b_M_turn 93 = .ok (.iinc 4 (-1), 3) := dk da_M_turn 57 rfl
theorem d_M_turn_96 : decode b_M_turn 96 = .ok (.iinc 3 1, 3) := dk da_M_turn 58 rfl
theorem d_M_turn_99 : decode b_M_turn 99 = .ok (.goto (-72), 3) := dk da_M_turn 59 rfl
theorem d_M_turn_102 : decode b_M_turn 102 = .ok (.iload_n 2, 1) := dk da_M_turn 60 rfl
theorem d_M_turn_103 : decode b_M_turn 103 = .ok (.iload_n 1, 1) := dk da_M_turn 61 rfl
theorem d_M_turn_104 : decode b_M_turn 104 = .ok (.isub, 1) := dk da_M_turn 62 rfl
theorem d_M_turn_105 : decode b_M_turn 105 = .ok (.ireturn, 1) := dk da_M_turn 63 rfl
def dl_M_upTo : List (Nat × Instr × Nat) := [(0, .aload_n 0, 1), (1, .iconst 0, 1), (2, .putfield 16, 3), (5, .iload_n 1, 1), (6, .ifCond .lt 8, 3), (9, .iload_n 1, 1), (10, .iconst 3, 1), (11, .if_icmp .le 9, 3), (14, .aload_n 0, 1), (15, .iconst 1, 1), (16, .invokevirtual 24, 3), (19, .ireturn, 1), (20, .iconst 0, 1), (21, .istore 4, 2), (23, .iload 4, 2), (25, .aload_n 0, 1), (26, .getfield 21, 3), (29, .if_icmp .ge 58, 3), (32, .iload_n 3, 1), (33, .ifCond .eq 27, 3), (36, .aload_n 0, 1), (37, .iload_n 1, 1), (38, .aload_n 0, 1), (39, .getfield 7, 3), (42, .iload 4, 2), (44, .iaload, 1), (45, .invokevirtual 38, 3), (48, .aload_n 0, 1), (49, .iload_n 1, 1), (50, .iload_n 2, 1), (51, .invokevirtual 38, 3), (54, .if_icmp .gt 33, 3), (57, .goto 24, 3), (60, .aload_n 0, 1), (61, .iload_n 1, 1), (62, .aload_n 0, 1), (63, .getfield 7, 3), (66, .iload 4, 2), (68, .iaload, 1), (69, .invokevirtual 38, 3), (72, .aload_n 0, 1), (73, .iload_n 1, 1), (74, .iload_n 2, 1), (75, .invokevirtual 38, 3), (78, .if_icmp .ge 9, 3), (81, .iinc 4 1, 3), (84, .goto (-61), 3), (87, .iload 4, 2), (89, .ireturn, 1)]
set_option maxRecDepth 100000 in
theorem da_M_upTo : (dl_M_upTo.all fun q => decide (decode b_M_upTo q.1 = .ok q.2)) = true := by decide +kernel
theorem d_M_upTo_0 : decode b_M_upTo 0 = .ok (.aload_n 0, 1) := dk da_M_upTo 0 rfl
theorem d_M_upTo_1 : decode b_M_upTo 1 = .ok (.iconst 0, 1) := dk da_M_upTo 1 rfl
theorem d_M_upTo_2 : decode b_M_upTo 2 = .ok (.putfield 16, 3) := dk da_M_upTo 2 rfl
theorem d_M_upTo_5 : decode b_M_upTo 5 = .ok (.iload_n 1, 1) := dk da_M_upTo 3 rfl
theorem d_M_upTo_6 : decode b_M_upTo 6 = .ok (.ifCond .lt 8, 3) := dk da_M_upTo 4 rfl
theorem d_M_upTo_9 : decode b_M_upTo 9 = .ok (.iload_n 1, 1) := dk da_M_upTo 5 rfl
theorem d_M_upTo_10 : decode b_M_upTo 10 = .ok (.iconst 3, 1) := dk da_M_upTo 6 rfl
theorem d_M_upTo_11 : decode b_M_upTo 11 = .ok (.if_icmp .le 9, 3) := dk da_M_upTo 7 rfl
theorem d_M_upTo_14 : decode b_M_upTo 14 = .ok (.aload_n 0, 1) := dk da_M_upTo 8 rfl
theorem d_M_upTo_15 : decode b_M_upTo 15 = .ok (.iconst 1, 1) := dk da_M_upTo 9 rfl
theorem d_M_upTo_16 : decode b_M_upTo 16 = .ok (.invokevirtual 24, 3) := dk da_M_upTo 10 rfl
theorem d_M_upTo_19 : decode b_M_upTo 19 = .ok (.ireturn, 1) := dk da_M_upTo 11 rfl
theorem d_M_upTo_20 : decode b_M_upTo 20 = .ok (.iconst 0, 1) := dk da_M_upTo 12 rfl
theorem d_M_upTo_21 : decode b_M_upTo 21 = .ok (.istore 4, 2) := dk da_M_upTo 13 rfl
theorem d_M_upTo_23 : decode b_M_upTo 23 = .ok (.iload 4, 2) := dk da_M_upTo 14 rfl
theorem d_M_upTo_25 : decode b_M_upTo 25 = .ok (.aload_n 0, 1) := dk da_M_upTo 15 rfl
theorem d_M_upTo_26 : decode b_M_upTo 26 = .ok (.getfield 21, 3) := dk da_M_upTo 16 rfl
theorem d_M_upTo_29 : decode b_M_upTo 29 = .ok (.if_icmp .ge 58, 3) := dk da_M_upTo 17 rfl
theorem d_M_upTo_32 : decode b_M_upTo 32 = .ok (.iload_n 3, 1) := dk da_M_upTo 18 rfl
theorem d_M_upTo_33 : decode b_M_upTo 33 = .ok (.ifCond .eq 27, 3) := dk da_M_upTo 19 rfl
theorem d_M_upTo_36 : decode b_M_upTo 36 = .ok (.aload_n 0, 1) := dk da_M_upTo 20 rfl
theorem d_M_upTo_37 : decode b_M_upTo 37 = .ok (.iload_n 1, 1) := dk da_M_upTo 21 rfl
theorem d_M_upTo_38 : decode b_M_upTo 38 = .ok (.aload_n 0, 1) := dk da_M_upTo 22 rfl
theorem d_M_upTo_39 : decode b_M_upTo 39 = .ok (.getfield 7, 3) := dk da_M_upTo 23 rfl
theorem d_M_upTo_42 : decode b_M_upTo 42 = .ok (.iload 4, 2) := dk da_M_upTo 24 rfl
theorem d_M_upTo_44 : decode b_M_upTo 44 = .ok (.iaload, 1) := dk da_M_upTo 25 rfl
theorem d_M_upTo_45 : decode b_M_upTo 45 = .ok (.invokevirtual 38, 3) := dk da_M_upTo 26 rfl
theorem d_M_upTo_48 : decode b_M_upTo 48 = .ok (.aload_n 0, 1) := dk da_M_upTo 27 rfl
theorem d_M_upTo_49 : decode b_M_upTo 49 = .ok (.iload_n 1, 1) := dk da_M_upTo 28 rfl
theorem d_M_upTo_50 : decode b_M_upTo 50 = .ok (.iload_n 2, 1) := dk da_M_upTo 29 rfl
theorem d_M_upTo_51 : decode b_M_upTo 51 = .ok (.invokevirtual 38, 3) := dk da_M_upTo 30 rfl
theorem d_M_upTo_54 : decode b_M_upTo 54 = .ok (.if_icmp .gt 33, 3) := dk da_M_upTo 31 rfl
theorem d_M_upTo_57 : decode b_M_upTo 57 = .ok (.goto 24, 3) := dk da_M_upTo 32 rfl
theorem d_M_upTo_60 : decode b_M_upTo 60 = .ok (.aload_n 0, 1) := dk da_M_upTo 33 rfl
theorem d_M_upTo_61 : decode b_M_upTo 61 = .ok (.iload_n 1, 1) := dk da_M_upTo 34 rfl
theorem d_M_upTo_62 : decode b_M_upTo 62 = .ok (.aload_n 0, 1) := dk da_M_upTo 35 rfl
theorem d_M_upTo_63 : decode b_M_upTo 63 = .ok (.getfield 7, 3) := dk da_M_upTo 36 rfl
theorem d_M_upTo_66 : decode b_M_upTo 66 = .ok (.iload 4, 2) := dk da_M_upTo 37 rfl
theorem d_M_upTo_68 : decode b_M_upTo 68 = .ok (.iaload, 1) := dk da_M_upTo 38 rfl
theorem d_M_upTo_69 : decode b_M_upTo 69 = .ok (.invokevirtual 38, 3) := dk da_M_upTo 39 rfl
theorem d_M_upTo_72 : decode b_M_upTo 72 = .ok (.aload_n 0, 1) := dk da_M_upTo 40 rfl
theorem d_M_upTo_73 : decode b_M_upTo 73 = .ok (.iload_n 1, 1) := dk da_M_upTo 41 rfl
theorem d_M_upTo_74 : decode b_M_upTo 74 = .ok (.iload_n 2, 1) := dk da_M_upTo 42 rfl
theorem d_M_upTo_75 : decode b_M_upTo 75 = .ok (.invokevirtual 38, 3) := dk da_M_upTo 43 rfl
theorem d_M_upTo_78 : decode b_M_upTo 78 = .ok (.if_icmp .ge 9, 3) := dk da_M_upTo 44 rfl
theorem d_M_upTo_81 : decode b_M_upTo 81 = .ok (.iinc 4 1, 3) := dk da_M_upTo 45 rfl
theorem d_M_upTo_84 : decode b_M_upTo 84 = .ok (.goto (-61), 3) := dk da_M_upTo 46 rfl
theorem d_M_upTo_87 : decode b_M_upTo 87 = .ok (.iload 4, 2) := dk da_M_upTo 47 rfl
theorem d_M_upTo_89 : decode b_M_upTo 89 = .ok (.ireturn, 1) := dk da_M_upTo 48 rfl
def dl_M_clear : List (Nat × Instr × Nat) := [(0, .aload_n 0, 1), (1, .iconst 0, 1), (2, .putfield 16, 3), (5, .aload_n 0, 1), (6, .getfield 21, 3), (9, .istore_n 1, 1), (10, .aload_n 0, 1), (11, .iconst 0, 1), (12, .putfield 21, 3), (15, .iload_n 1, 1), (16, .ireturn, 1)]
set_option maxRecDepth 100000 in
theorem da_M_clear : (dl_M_clear.all fun q => decide (decode b_M_clear q.1 = .ok q.2)) = true := by decide +kernel
theorem d_M_clear_0 : decode b_M_clear 0 = .ok (.aload_n 0, 1) := dk da_M_clear 0 rfl
theorem d_M_clear_1 : decode b_M_clear 1 = .ok (.iconst 0, 1) := dk da_M_clear 1 rfl
theorem d_M_clear_2 : decode b_M_clear 2 = .ok (.putfield 16, 3) := dk da_M_clear 2 rfl
theorem d_M_clear_5 : decode b_M_clear 5 = .ok (.aload_n 0, 1) := dk da_M_clear 3 rfl
theorem d_M_clear_6 : decode b_M_clear 6 = .ok (.getfield 21, 3) := dk da_M_clear 4 rfl
theorem d_M_clear_9 : decode b_M_clear 9 = .ok (.istore_n 1, 1) := dk da_M_clear 5 rfl
theorem d_M_clear_10 : decode b_M_clear 10 = .ok (.aload_n 0, 1) := dk da_M_clear 6 rfl
theorem d_M_clear_11 : decode b_M_clear 11 = .ok (.iconst 0, 1) := dk da_M_clear 7 rfl
theorem d_M_clear_12 : decode b_M_clear 12 = .ok (.putfield 21, 3) := dk da_M_clear 8 rfl
theorem d_M_clear_15 : decode b_M_clear 15 = .ok (.iload_n 1, 1) := dk da_M_clear 9 rfl
theorem d_M_clear_16 : decode b_M_clear 16 = .ok (.ireturn, 1) := dk da_M_clear 10 rfl
def dl_M_hash : List (Nat × Instr × Nat) := [(0, .aload_n 0, 1), (1, .iconst 0, 1), (2, .putfield 16, 3), (5, .iconst 1, 1), (6, .istore_n 1, 1), (7, .iconst 0, 1), (8, .istore_n 2, 1), (9, .iload_n 2, 1), (10, .aload_n 0, 1), (11, .getfield 21, 3), (14, .if_icmp .ge 31, 3), (17, .bipush 31, 2), (19, .bipush 31, 2), (21, .iload_n 1, 1), (22, .imul, 1), (23, .aload_n 0, 1), (24, .getfield 7, 3), (27, .iload_n 2, 1), (28, .iaload, 1), (29, .iadd, 1), (30, .imul, 1), (31, .aload_n 0, 1), (32, .getfield 13, 3), (35, .iload_n 2, 1), (36, .iaload, 1), (37, .iadd, 1), (38, .istore_n 1, 1), (39, .iinc 2 1, 3), (42, .goto (-33), 3), (45, .iload_n 1, 1), (46, .ireturn, 1)]
set_option maxRecDepth 100000 in
theorem da_M_hash : (dl_M_hash.all fun q => decide (decode b_M_hash q.1 = .ok q.2)) = true := by decide +kernel
theorem d_M_hash_0 : decode b_M_hash 0 = .ok (.aload_n 0, 1) := dk da_M_hash 0 rfl
theorem d_M_hash_1 : decode b_M_hash 1 = .ok (.iconst 0, 1) := dk da_M_hash 1 rfl
theorem d_M_hash_2 : decode b_M_hash 2 = .ok (.putfield 16, 3) := dk da_M_hash 2 rfl
theorem d_M_hash_5 : decode b_M_hash 5 = .ok (.iconst 1, 1) := dk da_M_hash 3 rfl
theorem d_M_hash_6 : decode b_M_hash 6 = .ok (.istore_n 1, 1) := dk da_M_hash 4 rfl
theorem d_M_hash_7 : decode b_M_hash 7 = .ok (.iconst 0, 1) := dk da_M_hash 5 rfl
theorem d_M_hash_8 : decode b_M_hash 8 = .ok (.istore_n 2, 1) := dk da_M_hash 6 rfl
theorem d_M_hash_9 : decode b_M_hash 9 = .ok (.iload_n 2, 1) := dk da_M_hash 7 rfl
theorem d_M_hash_10 : decode b_M_hash 10 = .ok (.aload_n 0, 1) := dk da_M_hash 8 rfl
theorem d_M_hash_11 : decode b_M_hash 11 = .ok (.getfield 21, 3) := dk da_M_hash 9 rfl
theorem d_M_hash_14 : decode b_M_hash 14 = .ok (.if_icmp .ge 31, 3) := dk da_M_hash 10 rfl
theorem d_M_hash_17 : decode b_M_hash 17 = .ok (.bipush 31, 2) := dk da_M_hash 11 rfl
theorem d_M_hash_19 : decode b_M_hash 19 = .ok (.bipush 31, 2) := dk da_M_hash 12 rfl
theorem d_M_hash_21 : decode b_M_hash 21 = .ok (.iload_n 1, 1) := dk da_M_hash 13 rfl
theorem d_M_hash_22 : decode b_M_hash 22 = .ok (.imul, 1) := dk da_M_hash 14 rfl
theorem d_M_hash_23 : decode b_M_hash 23 = .ok (.aload_n 0, 1) := dk da_M_hash 15 rfl
theorem d_M_hash_24 : decode b_M_hash 24 = .ok (.getfield 7, 3) := dk da_M_hash 16 rfl
theorem d_M_hash_27 : decode b_M_hash 27 = .ok (.iload_n 2, 1) := dk da_M_hash 17 rfl
theorem d_M_hash_28 : decode b_M_hash 28 = .ok (.iaload, 1) := dk da_M_hash 18 rfl
theorem d_M_hash_29 : decode b_M_hash 29 = .ok (.iadd, 1) := dk da_M_hash 19 rfl
theorem d_M_hash_30 : decode b_M_hash 30 = .ok (.imul, 1) := dk da_M_hash 20 rfl
theorem d_M_hash_31 : decode b_M_hash 31 = .ok (.aload_n 0, 1) := dk da_M_hash 21 rfl
theorem d_M_hash_32 : decode b_M_hash 32 = .ok (.getfield 13, 3) := dk da_M_hash 22 rfl
theorem d_M_hash_35 : decode b_M_hash 35 = .ok (.iload_n 2, 1) := dk da_M_hash 23 rfl
theorem d_M_hash_36 : decode b_M_hash 36 = .ok (.iaload, 1) := dk da_M_hash 24 rfl
theorem d_M_hash_37 : decode b_M_hash 37 = .ok (.iadd, 1) := dk da_M_hash 25 rfl
theorem d_M_hash_38 : decode b_M_hash 38 = .ok (.istore_n 1, 1) := dk da_M_hash 26 rfl
theorem d_M_hash_39 : decode b_M_hash 39 = .ok (.iinc 2 1, 3) := dk da_M_hash 27 rfl
theorem d_M_hash_42 : decode b_M_hash 42 = .ok (.goto (-33), 3) := dk da_M_hash 28 rfl
theorem d_M_hash_45 : decode b_M_hash 45 = .ok (.iload_n 1, 1) := dk da_M_hash 29 rfl
theorem d_M_hash_46 : decode b_M_hash 46 = .ok (.ireturn, 1) := dk da_M_hash 30 rfl
def dl_B_init : List (Nat × Instr × Nat) := [(0, .aload_n 0, 1), (1, .invokespecial 1, 3), (4, .aload_n 0, 1), (5, .aload_n 1, 1), (6, .putfield 7, 3), (9, .aload_n 0, 1), (10, .aload_n 2, 1), (11, .putfield 13, 3), (14, .return_, 1)]
set_option maxRecDepth 100000 in
theorem da_B_init : (dl_B_init.all fun q => decide (decode b_B_init q.1 = .ok q.2)) = true := by decide +kernel
theorem d_B_init_0 : decode b_B_init 0 = .ok (.aload_n 0, 1) := dk da_B_init 0 rfl
theorem d_B_init_1 : decode b_B_init 1 = .ok (.invokespecial 1, 3) := dk da_B_init 1 rfl
theorem d_B_init_4 : decode b_B_init 4 = .ok (.aload_n 0, 1) := dk da_B_init 2 rfl
theorem d_B_init_5 : decode b_B_init 5 = .ok (.aload_n 1, 1) := dk da_B_init 3 rfl
theorem d_B_init_6 : decode b_B_init 6 = .ok (.putfield 7, 3) := dk da_B_init 4 rfl
theorem d_B_init_9 : decode b_B_init 9 = .ok (.aload_n 0, 1) := dk da_B_init 5 rfl
theorem d_B_init_10 : decode b_B_init 10 = .ok (.aload_n 2, 1) := dk da_B_init 6 rfl
theorem d_B_init_11 : decode b_B_init 11 = .ok (.putfield 13, 3) := dk da_B_init 7 rfl
theorem d_B_init_14 : decode b_B_init 14 = .ok (.return_, 1) := dk da_B_init 8 rfl
def dl_B_compare : List (Nat × Instr × Nat) := [(0, .aload_n 0, 1), (1, .getfield 7, 3), (4, .aload_n 0, 1), (5, .getfield 13, 3), (8, .iload_n 1, 1), (9, .iaload, 1), (10, .aload_n 0, 1), (11, .getfield 13, 3), (14, .iload_n 2, 1), (15, .iaload, 1), (16, .invokeinterface 17 3, 5), (21, .ireturn, 1)]
set_option maxRecDepth 100000 in
theorem da_B_compare : (dl_B_compare.all fun q => decide (decode b_B_compare q.1 = .ok q.2)) = true := by decide +kernel
theorem d_B_compare_0 : decode b_B_compare 0 = .ok (.aload_n 0, 1) := dk da_B_compare 0 rfl
theorem d_B_compare_1 : decode b_B_compare 1 = .ok (.getfield 7, 3) := dk da_B_compare 1 rfl
theorem d_B_compare_4 : decode b_B_compare 4 = .ok (.aload_n 0, 1) := dk da_B_compare 2 rfl
theorem d_B_compare_5 : decode b_B_compare 5 = .ok (.getfield 13, 3) := dk da_B_compare 3 rfl
theorem d_B_compare_8 : decode b_B_compare 8 = .ok (.iload_n 1, 1) := dk da_B_compare 4 rfl
theorem d_B_compare_9 : decode b_B_compare 9 = .ok (.iaload, 1) := dk da_B_compare 5 rfl
theorem d_B_compare_10 : decode b_B_compare 10 = .ok (.aload_n 0, 1) := dk da_B_compare 6 rfl
theorem d_B_compare_11 : decode b_B_compare 11 = .ok (.getfield 13, 3) := dk da_B_compare 7 rfl
theorem d_B_compare_14 : decode b_B_compare 14 = .ok (.iload_n 2, 1) := dk da_B_compare 8 rfl
theorem d_B_compare_15 : decode b_B_compare 15 = .ok (.iaload, 1) := dk da_B_compare 9 rfl
theorem d_B_compare_16 : decode b_B_compare 16 = .ok (.invokeinterface 17 3, 5) := dk da_B_compare 10 rfl
theorem d_B_compare_21 : decode b_B_compare 21 = .ok (.ireturn, 1) := dk da_B_compare 11 rfl
def dl_O1_init : List (Nat × Instr × Nat) := [(0, .aload_n 0, 1), (1, .invokespecial 1, 3), (4, .return_, 1)]
set_option maxRecDepth 100000 in
theorem da_O1_init : (dl_O1_init.all fun q => decide (decode b_O1_init q.1 = .ok q.2)) = true := by decide +kernel
theorem d_O1_init_0 : decode b_O1_init 0 = .ok (.aload_n 0, 1) := dk da_O1_init 0 rfl
theorem d_O1_init_1 : decode b_O1_init 1 = .ok (.invokespecial 1, 3) := dk da_O1_init 1 rfl
theorem d_O1_init_4 : decode b_O1_init 4 = .ok (.return_, 1) := dk da_O1_init 2 rfl
def dl_O1_compare : List (Nat × Instr × Nat) := [(0, .iload_n 1, 1), (1, .iload_n 2, 1), (2, .if_icmp .le 7, 3), (5, .iconst (-1), 1), (6, .goto 13, 3), (9, .iload_n 1, 1), (10, .iload_n 2, 1), (11, .if_icmp .ge 7, 3), (14, .iconst 1, 1), (15, .goto 4, 3), (18, .iconst 0, 1), (19, .ireturn, 1)]
set_option maxRecDepth 100000 in
theorem da_O1_compare : (dl_O1_compare.all fun q => decide (decode b_O1_compare q.1 = .ok q.2)) = true := by decide +kernel
theorem d_O1_compare_0 : decode b_O1_compare 0 = .ok (.iload_n 1, 1) := dk da_O1_compare 0 rfl
theorem d_O1_compare_1 : decode b_O1_compare 1 = .ok (.iload_n 2, 1) := dk da_O1_compare 1 rfl
theorem d_O1_compare_2 : decode b_O1_compare 2 = .ok (.if_icmp .le 7, 3) := dk da_O1_compare 2 rfl
theorem d_O1_compare_5 : decode b_O1_compare 5 = .ok (.iconst (-1), 1) := dk da_O1_compare 3 rfl
theorem d_O1_compare_6 : decode b_O1_compare 6 = .ok (.goto 13, 3) := dk da_O1_compare 4 rfl
theorem d_O1_compare_9 : decode b_O1_compare 9 = .ok (.iload_n 1, 1) := dk da_O1_compare 5 rfl
theorem d_O1_compare_10 : decode b_O1_compare 10 = .ok (.iload_n 2, 1) := dk da_O1_compare 6 rfl
theorem d_O1_compare_11 : decode b_O1_compare 11 = .ok (.if_icmp .ge 7, 3) := dk da_O1_compare 7 rfl
theorem d_O1_compare_14 : decode b_O1_compare 14 = .ok (.iconst 1, 1) := dk da_O1_compare 8 rfl
theorem d_O1_compare_15 : decode b_O1_compare 15 = .ok (.goto 4, 3) := dk da_O1_compare 9 rfl
theorem d_O1_compare_18 : decode b_O1_compare 18 = .ok (.iconst 0, 1) := dk da_O1_compare 10 rfl
theorem d_O1_compare_19 : decode b_O1_compare 19 = .ok (.ireturn, 1) := dk da_O1_compare 11 rfl
def dl_O2_init : List (Nat × Instr × Nat) := [(0, .aload_n 0, 1), (1, .invokespecial 1, 3), (4, .return_, 1)]
set_option maxRecDepth 100000 in
theorem da_O2_init : (dl_O2_init.all fun q => decide (decode b_O2_init q.1 = .ok q.2)) = true := by decide +kernel
theorem d_O2_init_0 : decode b_O2_init 0 = .ok (.aload_n 0, 1) := dk da_O2_init 0 rfl
theorem d_O2_init_1 : decode b_O2_init 1 = .ok (.invokespecial 1, 3) := dk da_O2_init 1 rfl
theorem d_O2_init_4 : decode b_O2_init 4 = .ok (.return_, 1) := dk da_O2_init 2 rfl
def dl_O2_compare : List (Nat × Instr × Nat) := [(0, .iload_n 1, 1), (1, .bipush 15, 2), (3, .iand, 1), (4, .iload_n 2, 1), (5, .bipush 15, 2), (7, .iand, 1), (8, .isub, 1), (9, .ireturn, 1)]
set_option maxRecDepth 100000 in
theorem da_O2_compare : (dl_O2_compare.all fun q => decide (decode b_O2_compare q.1 = .ok q.2)) = true := by decide +kernel
theorem d_O2_compare_0 : decode b_O2_compare 0 = .ok (.iload_n 1, 1) := dk da_O2_compare 0 rfl
theorem d_O2_compare_1 : decode b_O2_compare 1 = .ok (.bipush 15, 2) := dk da_O2_compare 1 rfl
theorem d_O2_compare_3 : decode b_O2_compare 3 = .ok (.iand, 1) := dk da_O2_compare 2 rfl
theorem d_O2_compare_4 : decode b_O2_compare 4 = .ok (.iload_n 2, 1) := dk da_O2_compare 3 rfl
theorem d_O2_compare_5 : decode b_O2_compare 5 = .ok (.bipush 15, 2) := dk da_O2_compare 4 rfl
theorem d_O2_compare_7 : decode b_O2_compare 7 = .ok (.iand, 1) := dk da_O2_compare 5 rfl
theorem d_O2_compare_8 : decode b_O2_compare 8 = .ok (.isub, 1) := dk da_O2_compare 6 rfl
theorem d_O2_compare_9 : decode b_O2_compare 9 = .ok (.ireturn, 1) := dk da_O2_compare 7 rfl
def dl_O0_init : List (Nat × Instr × Nat) := [(0, .aload_n 0, 1), (1, .invokespecial 1, 3), (4, .return_, 1)]
set_option maxRecDepth 100000 in
theorem da_O0_init : (dl_O0_init.all fun q => decide (decode b_O0_init q.1 = .ok q.2)) = true := by decide +kernel
theorem d_O0_init_0 : decode b_O0_init 0 = .ok (.aload_n 0, 1) := dk da_O0_init 0 rfl
theorem d_O0_init_1 : decode b_O0_init 1 = .ok (.invokespecial 1, 3) := dk da_O0_init 1 rfl
theorem d_O0_init_4 : decode b_O0_init 4 = .ok (.return_, 1) := dk da_O0_init 2 rfl
def dl_O0_compare : List (Nat × Instr × Nat) := [(0, .iload_n 1, 1), (1, .iload_n 2, 1), (2, .if_icmp .ge 7, 3), (5, .iconst (-1), 1), (6, .goto 13, 3), (9, .iload_n 1, 1), (10, .iload_n 2, 1), (11, .if_icmp .le 7, 3), (14, .iconst 1, 1), (15, .goto 4, 3), (18, .iconst 0, 1), (19, .ireturn, 1)]
set_option maxRecDepth 100000 in
theorem da_O0_compare : (dl_O0_compare.all fun q => decide (decode b_O0_compare q.1 = .ok q.2)) = true := by decide +kernel
theorem d_O0_compare_0 : decode b_O0_compare 0 = .ok (.iload_n 1, 1) := dk da_O0_compare 0 rfl
theorem d_O0_compare_1 : decode b_O0_compare 1 = .ok (.iload_n 2, 1) := dk da_O0_compare 1 rfl
theorem d_O0_compare_2 : decode b_O0_compare 2 = .ok (.if_icmp .ge 7, 3) := dk da_O0_compare 2 rfl
theorem d_O0_compare_5 : decode b_O0_compare 5 = .ok (.iconst (-1), 1) := dk da_O0_compare 3 rfl
theorem d_O0_compare_6 : decode b_O0_compare 6 = .ok (.goto 13, 3) := dk da_O0_compare 4 rfl
theorem d_O0_compare_9 : decode b_O0_compare 9 = .ok (.iload_n 1, 1) := dk da_O0_compare 5 rfl
theorem d_O0_compare_10 : decode b_O0_compare 10 = .ok (.iload_n 2, 1) := dk da_O0_compare 6 rfl
theorem d_O0_compare_11 : decode b_O0_compare 11 = .ok (.if_icmp .le 7, 3) := dk da_O0_compare 7 rfl
theorem d_O0_compare_14 : decode b_O0_compare 14 = .ok (.iconst 1, 1) := dk da_O0_compare 8 rfl
theorem d_O0_compare_15 : decode b_O0_compare 15 = .ok (.goto 4, 3) := dk da_O0_compare 9 rfl
theorem d_O0_compare_18 : decode b_O0_compare 18 = .ok (.iconst 0, 1) := dk da_O0_compare 10 rfl
theorem d_O0_compare_19 : decode b_O0_compare 19 = .ok (.ireturn, 1) := dk da_O0_compare 11 rfl
def dl_S_init : List (Nat × Instr × Nat) := [(0, .aload_n 0, 1), (1, .invokespecial 3, 3), (4, .aload_n 0, 1), (5, .sipush 2000, 3), (8, .newarray .int, 2), (10, .putfield 9, 3), (13, .aload_n 0, 1), (14, .sipush 2000, 3), (17, .newarray .int, 2), (19, .putfield 15, 3), (22, .aload_n 0, 1), (23, .bipush 40, 2), (25, .newarray .int, 2), (27, .putfield 18, 3), (30, .aload_n 0, 1), (31, .bipush 40, 2), (33, .newarray .int, 2), (35, .putfield 21, 3), (38, .return_, 1)]
set_option maxRecDepth 100000 in
theorem da_S_init : (dl_S_init.all fun q => decide (decode b_S_init q.1 = .ok q.2)) = true := by decide +kernel
theorem d_S_init_0 : decode b_S_init 0 = .ok (.aload_n 0, 1) := dk da_S_init 0 rfl
theorem d_S_init_1 : decode b_S_init 1 = .ok (.invokespecial 3, 3) := dk da_S_init 1 rfl
theorem d_S_init_4 : decode b_S_init 4 = .ok (.aload_n 0, 1) := dk da_S_init 2 rfl
theorem d_S_init_5 : decode b_S_init 5 = .ok (.sipush 2000, 3) := dk da_S_init 3 rfl
theorem d_S_init_8 : decode b_S_init 8 = .ok (.newarray .int, 2) := dk da_S_init 4 rfl
theorem d_S_init_10 : decode b_S_init 10 = .ok (.putfield 9, 3) := dk da_S_init 5 rfl
theorem d_S_init_13 : decode b_S_init 13 = .ok (.aload_n 0, 1) := dk da_S_init 6 rfl
theorem d_S_init_14 : decode b_S_init 14 = .ok (.sipush 2000, 3) := dk da_S_init 7 rfl
theorem d_S_init_17 : decode b_S_init 17 = .ok (.newarray .int, 2) := dk da_S_init 8 rfl
theorem d_S_init_19 : decode b_S_init 19 = .ok (.putfield 15, 3) := dk da_S_init 9 rfl
theorem d_S_init_22 : decode b_S_init 22 = .ok (.aload_n 0, 1) := dk da_S_init 10 rfl
theorem d_S_init_23 : decode b_S_init 23 = .ok (.bipush 40, 2) := dk da_S_init 11 rfl
theorem d_S_init_25 : decode b_S_init 25 = .ok (.newarray .int, 2) := dk da_S_init 12 rfl
theorem d_S_init_27 : decode b_S_init 27 = .ok (.putfield 18, 3) := dk da_S_init 13 rfl
theorem d_S_init_30 : decode b_S_init 30 = .ok (.aload_n 0, 1) := dk da_S_init 14 rfl
theorem d_S_init_31 : decode b_S_init 31 = .ok (.bipush 40, 2) := dk da_S_init 15 rfl
theorem d_S_init_33 : decode b_S_init 33 = .ok (.newarray .int, 2) := dk da_S_init 16 rfl
theorem d_S_init_35 : decode b_S_init 35 = .ok (.putfield 21, 3) := dk da_S_init 17 rfl
theorem d_S_init_38 : decode b_S_init 38 = .ok (.return_, 1) := dk da_S_init 18 rfl
def dl_S_cells : List (Nat × Instr × Nat) := [(0, .aload_n 0, 1), (1, .getfield 9, 3), (4, .areturn, 1)]
set_option maxRecDepth 100000 in
theorem da_S_cells : (dl_S_cells.all fun q => decide (decode b_S_cells q.1 = .ok q.2)) = true := by decide +kernel
theorem d_S_cells_0 : decode b_S_cells 0 = .ok (.aload_n 0, 1) := dk da_S_cells 0 rfl
theorem d_S_cells_1 : decode b_S_cells 1 = .ok (.getfield 9, 3) := dk da_S_cells 1 rfl
theorem d_S_cells_4 : decode b_S_cells 4 = .ok (.areturn, 1) := dk da_S_cells 2 rfl
def dl_S_sort : List (Nat × Instr × Nat) := [(0, .aload_n 0, 1), (1, .aload_n 2, 1), (2, .putfield 24, 3), (5, .aload_n 0, 1), (6, .iconst 0, 1), (7, .putfield 28, 3), (10, .aload_n 0, 1), (11, .bipush 7, 2), (13, .putfield 32, 3), (16, .iload_n 1, 1), (17, .invokestatic 35, 3), (20, .istore_n 3, 1), (21, .iconst 0, 1), (22, .istore 4, 2), (24, .iload 4, 2), (26, .iload_n 1, 1), (27, .if_icmp .ge 102, 3), (30, .aload_n 0, 1), (31, .iload 4, 2), (33, .iload_n 1, 1), (34, .invokevirtual 39, 3), (37, .istore 5, 2), (39, .iload 5, 2), (41, .iload_n 3, 1), (42, .if_icmp .ge 41, 3), (45, .iload 4, 2), (47, .iload_n 3, 1), (48, .iadd, 1), (49, .iload_n 1, 1), (50, .if_icmp .ge 10, 3), (53, .iload 4, 2), (55, .iload_n 3, 1), (56, .iadd, 1), (57, .goto 4, 3), (60, .iload_n 1, 1), (61, .istore 6, 2), (63, .aload_n 0, 1), (64, .iload 4, 2), (66, .iload 4, 2), (68, .iload 5, 2), (70, .iadd, 1), (71, .iload 6, 2), (73, .invokevirtual 43, 3), (76, .iload 6, 2), (78, .iload 4, 2), (80, .isub, 1), (81, .istore 5, 2), (83, .aload_n 0, 1), (84, .getfield 18, 3), (87, .aload_n 0, 1), (88, .getfield 28, 3), (91, .iload 4, 2), (93, .iastore, 1), (94, .aload_n 0, 1), (95, .getfield 21, 3), (98, .aload_n 0, 1), (99, .getfield 28, 3), (102, .iload 5, 2), (104, .iastore, 1), (105, .aload_n 0, 1), (106, .dup, 1), (107, .getfield 28, 3), (110, .iconst 1, 1), (111, .iadd, 1), (112, .putfield 28, 3), (115, .iload 4, 2), (117, .iload 5, 2), (119, .iadd, 1), (120, .istore 4, 2), (122, .aload_n 0, 1), (123, .invokevirtual 47, 3), (126, .goto (-102), 3), (129, .aload_n 0, 1), (130, .getfield 28, 3), (133, .iconst 1, 1), (134, .if_icmp .le 58, 3), (137, .aload_n 0, 1), (138, .aload_n 0, 1), (139, .getfield 28, 3), (142, .iconst 2, 1), (143, .if_icmp .le 37, 3), (146, .aload_n 0, 1), (147, .getfield 21, 3), (150, .aload_n 0, 1), (151, .getfield 28, 3), (154, .iconst 3, 1), (155, .isub, 1), (156, .iaload, 1), (157, .aload_n 0, 1), (158, .getfield 21, 3), (161, .aload_n 0, 1), (162, .getfield 28, 3), (165, .iconst 1, 1), (166, .isub, 1), (167, .iaload, 1), (168, .if_icmp .ge 12, 3), (171, .aload_n 0, 1), (172, .getfield 28, 3), (175, .iconst 3, 1), (176, .isub, 1), (177, .goto 9, 3), (180, .aload_n 0, 1), (181, .getfield 28, 3), (184, .iconst 2, 1), (185, .isub, 1), (186, .invokevirtual 50, 3), (189, .goto (-60), 3), (192, .return_, 1)]
set_option maxRecDepth 100000 in
theorem da_S_sort : (dl_S_sort.all fun q => decide (decode b_S_sort q.1 = .ok q.2)) = true := by decide +kernel
theorem d_S_sort_0 : decode b_S_sort 0 = .ok (.aload_n 0, 1) := dk da_S_sort 0 rfl
theorem d_S_sort_1 : decode b_S_sort 1 = .ok (.aload_n 2, 1) := dk da_S_sort 1 rfl
theorem d_S_sort_2 : decode b_S_sort 2 = .ok (.putfield 24, 3) := dk da_S_sort 2 rfl
theorem d_S_sort_5 : decode b_S_sort 5 = .ok (.aload_n 0, 1) := dk da_S_sort 3 rfl
theorem d_S_sort_6 : decode b_S_sort 6 = .ok (.iconst 0, 1) := dk da_S_sort 4 rfl
theorem d_S_sort_7 : decode b_S_sort 7 = .ok (.putfield 28, 3) := dk da_S_sort 5 rfl
theorem d_S_sort_10 : decode b_S_sort 10 = .ok (.aload_n 0, 1) := dk da_S_sort 6 rfl
theorem d_S_sort_11 : decode b_S_sort 11 = .ok (.bipush 7, 2) := dk da_S_sort 7 rfl
theorem d_S_sort_13 : decode b_S_sort 13 = .ok (.putfield 32, 3) := dk da_S_sort 8 rfl
theorem d_S_sort_16 : decode b_S_sort 16 = .ok (.iload_n 1, 1) := dk da_S_sort 9 rfl
theorem d_S_sort_17 : decode b_S_sort 17 = .ok (.invokestatic 35, 3) := dk da_S_sort 10 rfl
theorem d_S_sort_20 : decode b_S_sort 20 = .ok (.istore_n 3, 1) := dk da_S_sort 11 rfl
theorem d_S_sort_21 : decode b_S_sort 21 = .ok (.iconst 0, 1) := dk da_S_sort 12 rfl
theorem d_S_sort_22 : decode b_S_sort 22 = .ok (.istore 4, 2) := dk da_S_sort 13 rfl
theorem d_S_sort_24 : decode b_S_sort 24 = .ok (.iload 4, 2) := dk da_S_sort 14 rfl
theorem d_S_sort_26 : decode b_S_sort 26 = .ok (.iload_n 1, 1) := dk da_S_sort 15 rfl
theorem d_S_sort_27 : decode b_S_sort 27 = .ok (.if_icmp .ge 102, 3) := dk da_S_sort 16 rfl
theorem d_S_sort_30 : decode b_S_sort 30 = .ok (.aload_n 0, 1) := dk da_S_sort 17 rfl
theorem d_S_sort_31 : decode b_S_sort 31 = .ok (.iload 4, 2) := dk da_S_sort 18 rfl
theorem d_S_sort_33 : decode b_S_sort 33 = .ok (.iload_n 1, 1) := dk da_S_sort 19 rfl
theorem d_S_sort_34 : decode b_S_sort 34 = .ok (.invokevirtual 39, 3) := dk da_S_sort 20 rfl
theorem d_S_sort_37 : decode b_S_sort 37 = .ok (.istore 5, 2) := dk da_S_sort 21 rfl
theorem d_S_sort_39 : decode b_S_sort 39 = .ok (.iload 5, 2) := dk da_S_sort 22 rfl
theorem d_S_sort_41 : decode b_S_sort 41 = .ok (.iload_n 3, 1) := dk da_S_sort 23 rfl
theorem d_S_sort_42 : decode b_S_sort 42 = .ok (.if_icmp .ge 41, 3) := dk da_S_sort 24 rfl
theorem d_S_sort_45 : decode b_S_sort 45 = .ok (.iload 4, 2) := dk da_S_sort 25 rfl
theorem d_S_sort_47 : decode b_S_sort 47 = .ok (.iload_n 3, 1) := dk da_S_sort 26 rfl
theorem d_S_sort_48 : decode b_S_sort 48 = .ok (.iadd, 1) := dk da_S_sort 27 rfl
theorem d_S_sort_49 : decode b_S_sort 49 = .ok (.iload_n 1, 1) := dk da_S_sort 28 rfl
theorem d_S_sort_50 : decode b_S_sort 50 = .ok (.if_icmp .ge 10, 3) := dk da_S_sort 29 rfl
theorem d_S_sort_53 : decode b_S_sort 53 = .ok (.iload 4, 2) := dk da_S_sort 30 rfl
theorem d_S_sort_55 : decode b_S_sort 55 = .ok (.iload_n 3, 1) := dk da_S_sort 31 rfl
theorem d_S_sort_56 : decode b_S_sort 56 = .ok (.iadd, 1) := dk da_S_sort 32 rfl
theorem d_S_sort_57 : decode b_S_sort 57 = .ok (.goto 4, 3) := dk da_S_sort 33 rfl
theorem d_S_sort_60 : decode b_S_sort 60 = .ok (.iload_n 1, 1) := dk da_S_sort 34 rfl
theorem d_S_sort_61 : decode b_S_sort 61 = .ok (.istore 6, 2) := dk da_S_sort 35 rfl
theorem d_S_sort_63 : decode b_S_sort 63 = .ok (.aload_n 0, 1) := dk da_S_sort 36 rfl
theorem d_S_sort_64 : decode b_S_sort 64 = .ok (.iload 4, 2) := dk da_S_sort 37 rfl
theorem d_S_sort_66 : decode b_S_sort 66 = .ok (.iload 4, 2) := dk da_S_sort 38 rfl
theorem d_S_sort_68 : decode b_S_sort 68 = .ok (.iload 5, 2) := dk da_S_sort 39 rfl
theorem d_S_sort_70 : decode b_S_sort 70 = .ok (.iadd, 1) := dk da_S_sort 40 rfl
theorem d_S_sort_71 : decode b_S_sort 71 = .ok (.iload 6, 2) := dk da_S_sort 41 rfl
theorem d_S_sort_73 : decode b_S_sort 73 = .ok (.invokevirtual 43, 3) := dk da_S_sort 42 rfl
theorem d_S_sort_76 : decode b_S_sort 76 = .ok (.iload 6, 2) := dk da_S_sort 43 rfl
theorem d_S_sort_78 : decode b_S_sort 78 = .ok (.iload 4, 2) := dk da_S_sort 44 rfl
theorem d_S_sort_80 : decode b_S_sort 80 = .ok (.isub, 1) := dk da_S_sort 45 rfl
theorem d_S_sort_81 : decode b_S_sort 81 = .ok (.istore 5, 2) := dk da_S_sort 46 rfl
theorem d_S_sort_83 : decode b_S_sort 83 = .ok (.aload_n 0, 1) := dk da_S_sort 47 rfl
theorem d_S_sort_84 : decode b_S_sort 84 = .ok (.getfield 18, 3) := dk da_S_sort 48 rfl
theorem d_S_sort_87 : decode b_S_sort 87 = .ok (.aload_n 0, 1) := dk da_S_sort 49 rfl
theorem d_S_sort_88 : decode b_S_sort 88 = .ok (.getfield 28, 3) := dk da_S_sort 50 rfl
theorem d_S_sort_91 : decode b_S_sort 91 = .ok (.iload 4, 2) := dk da_S_sort 51 rfl
theorem d_S_sort_93 : decode b_S_sort 93 = .ok (.iastore, 1) := dk da_S_sort 52 rfl
theorem d_S_sort_94 : decode b_S_sort 94 = .ok (.aload_n 0, 1) := dk da_S_sort 53 rfl
theorem d_S_sort_95 : decode b_S_sort 95 = .ok (.getfield 21, 3) := dk da_S_sort 54 rfl
theorem d_S_sort_98 : decode b_S_sort 98 = .ok (.aload_n 0, 1) := dk da_S_sort 55 rfl
theorem d_S_sort_99 : decode b_S_sort 99 = .ok (.getfield 28, 3) := dk da_S_sort 56 rfl
theorem d_S_sort_102 : decode b_S_sort 102 = .ok (.iload 5, 2) := dk da_S_sort 57 rfl
theorem d_S_sort_104 : decode b_S_sort 104 = .ok (.iastore, 1) := dk da_S_sort 58 rfl
theorem d_S_sort_105 : decode b_S_sort 105 = .ok (.aload_n 0, 1) := dk da_S_sort 59 rfl
theorem d_S_sort_106 : decode b_S_sort 106 = .ok (.dup, 1) := dk da_S_sort 60 rfl
theorem d_S_sort_107 : decode b_S_sort 107 = .ok (.getfield 28, 3) := dk da_S_sort 61 rfl
theorem d_S_sort_110 : decode b_S_sort 110 = .ok (.iconst 1, 1) := dk da_S_sort 62 rfl
theorem d_S_sort_111 : decode b_S_sort 111 = .ok (.iadd, 1) := dk da_S_sort 63 rfl
theorem d_S_sort_112 : decode b_S_sort 112 = .ok (.putfield 28, 3) := dk da_S_sort 64 rfl
theorem d_S_sort_115 : decode b_S_sort 115 = .ok (.iload 4, 2) := dk da_S_sort 65 rfl
theorem d_S_sort_117 : decode b_S_sort 117 = .ok (.iload 5, 2) := dk da_S_sort 66 rfl
theorem d_S_sort_119 : decode b_S_sort 119 = .ok (.iadd, 1) := dk da_S_sort 67 rfl
theorem d_S_sort_120 : decode b_S_sort 120 = .ok (.istore 4, 2) := dk da_S_sort 68 rfl
theorem d_S_sort_122 : decode b_S_sort 122 = .ok (.aload_n 0, 1) := dk da_S_sort 69 rfl
theorem d_S_sort_123 : decode b_S_sort 123 = .ok (.invokevirtual 47, 3) := dk da_S_sort 70 rfl
theorem d_S_sort_126 : decode b_S_sort 126 = .ok (.goto (-102), 3) := dk da_S_sort 71 rfl
theorem d_S_sort_129 : decode b_S_sort 129 = .ok (.aload_n 0, 1) := dk da_S_sort 72 rfl
theorem d_S_sort_130 : decode b_S_sort 130 = .ok (.getfield 28, 3) := dk da_S_sort 73 rfl
theorem d_S_sort_133 : decode b_S_sort 133 = .ok (.iconst 1, 1) := dk da_S_sort 74 rfl
theorem d_S_sort_134 : decode b_S_sort 134 = .ok (.if_icmp .le 58, 3) := dk da_S_sort 75 rfl
theorem d_S_sort_137 : decode b_S_sort 137 = .ok (.aload_n 0, 1) := dk da_S_sort 76 rfl
theorem d_S_sort_138 : decode b_S_sort 138 = .ok (.aload_n 0, 1) := dk da_S_sort 77 rfl
theorem d_S_sort_139 : decode b_S_sort 139 = .ok (.getfield 28, 3) := dk da_S_sort 78 rfl
theorem d_S_sort_142 : decode b_S_sort 142 = .ok (.iconst 2, 1) := dk da_S_sort 79 rfl
theorem d_S_sort_143 : decode b_S_sort 143 = .ok (.if_icmp .le 37, 3) := dk da_S_sort 80 rfl
theorem d_S_sort_146 : decode b_S_sort 146 = .ok (.aload_n 0, 1) := dk da_S_sort 81 rfl
theorem d_S_sort_147 : decode b_S_sort 147 = .ok (.getfield 21, 3) := dk da_S_sort 82 rfl
theorem d_S_sort_150 : decode b_S_sort 150 = .ok (.aload_n 0, 1) := dk da_S_sort 83 rfl
theorem d_S_sort_151 : decode b_S_sort 151 = .ok (.getfield 28, 3) := dk da_S_sort 84 rfl
theorem d_S_sort_154 : decode b_S_sort 154 = .ok (.iconst 3, 1) := dk da_S_sort 85 rfl
theorem d_S_sort_155 : decode b_S_sort 155 = .ok (.isub, 1) := dk da_S_sort 86 rfl
theorem d_S_sort_156 : decode b_S_sort 156 = .ok (.iaload, 1) := dk da_S_sort 87 rfl
theorem d_S_sort_157 : decode b_S_sort 157 = .ok (.aload_n 0, 1) := dk da_S_sort 88 rfl
theorem d_S_sort_158 : decode b_S_sort 158 = .ok (.getfield 21, 3) := dk da_S_sort 89 rfl
theorem d_S_sort_161 : decode b_S_sort 161 = .ok (.aload_n 0, 1) := dk da_S_sort 90 rfl
theorem d_S_sort_162 : decode b_S_sort 162 = .ok (.getfield 28, 3) := dk da_S_sort 91 rfl
theorem d_S_sort_165 : decode b_S_sort 165 = .ok (.iconst 1, 1) := dk da_S_sort 92 rfl
theorem d_S_sort_166 : decode b_S_sort 166 = .ok (.isub, 1) := dk da_S_sort 93 rfl
theorem d_S_sort_167 : decode b_S_sort 167 = .ok (.iaload, 1) := dk da_S_sort 94 rfl
theorem d_S_sort_168 : decode b_S_sort 168 = .ok (.if_icmp .ge 12, 3) := dk da_S_sort 95 rfl
theorem d_S_sort_171 : decode b_S_sort 171 = .ok (.aload_n 0, 1) := dk da_S_sort 96 rfl
theorem d_S_sort_172 : decode b_S_sort 172 = .ok (.getfield 28, 3) := dk da_S_sort 97 rfl
theorem d_S_sort_175 : decode b_S_sort 175 = .ok (.iconst 3, 1) := dk da_S_sort 98 rfl
theorem d_S_sort_176 : decode b_S_sort 176 = .ok (.isub, 1) := dk da_S_sort 99 rfl
theorem d_S_sort_177 : decode b_S_sort 177 = .ok (.goto 9, 3) := dk da_S_sort 100 rfl
theorem d_S_sort_180 : decode b_S_sort 180 = .ok (.aload_n 0, 1) := dk da_S_sort 101 rfl
theorem d_S_sort_181 : decode b_S_sort 181 = .ok (.getfield 28, 3) := dk da_S_sort 102 rfl
theorem d_S_sort_184 : decode b_S_sort 184 = .ok (.iconst 2, 1) := dk da_S_sort 103 rfl
theorem d_S_sort_185 : decode b_S_sort 185 = .ok (.isub, 1) := dk da_S_sort 104 rfl
theorem d_S_sort_186 : decode b_S_sort 186 = .ok (.invokevirtual 50, 3) := dk da_S_sort 105 rfl
theorem d_S_sort_189 : decode b_S_sort 189 = .ok (.goto (-60), 3) := dk da_S_sort 106 rfl
theorem d_S_sort_192 : decode b_S_sort 192 = .ok (.return_, 1) := dk da_S_sort 107 rfl
def dl_S_shortest : List (Nat × Instr × Nat) := [(0, .iconst 0, 1), (1, .istore_n 1, 1), (2, .iload_n 0, 1), (3, .istore_n 2, 1), (4, .iload_n 2, 1), (5, .bipush 32, 2), (7, .if_icmp .lt 16, 3), (10, .iload_n 1, 1), (11, .iload_n 2, 1), (12, .iconst 1, 1), (13, .iand, 1), (14, .ior, 1), (15, .istore_n 1, 1), (16, .iload_n 2, 1), (17, .iconst 1, 1), (18, .ishr, 1), (19, .istore_n 2, 1), (20, .goto (-16), 3), (23, .iload_n 2, 1), (24, .iload_n 1, 1), (25, .iadd, 1), (26, .ireturn, 1)]
set_option maxRecDepth 100000 in
theorem da_S_shortest : (dl_S_shortest.all fun q => decide (decode b_S_shortest q.1 = .ok q.2)) = true := by decide +kernel
theorem d_S_shortest_0 : decode b_S_shortest 0 = .ok (.iconst 0, 1) := dk da_S_shortest 0 rfl
theorem d_S_shortest_1 : decode b_S_shortest 1 = .ok (.istore_n 1, 1) := dk da_S_shortest 1 rfl
theorem d_S_shortest_2 : decode b_S_shortest 2 = .ok (.iload_n 0, 1) := dk da_S_shortest 2 rfl
theorem d_S_shortest_3 : decode b_S_shortest 3 = .ok (.istore_n 2, 1) := dk da_S_shortest 3 rfl
theorem d_S_shortest_4 : decode b_S_shortest 4 = .ok (.iload_n 2, 1) := dk da_S_shortest 4 rfl
theorem d_S_shortest_5 : decode b_S_shortest 5 = .ok (.bipush 32, 2) := dk da_S_shortest 5 rfl
theorem d_S_shortest_7 : decode b_S_shortest 7 = .ok (.if_icmp .lt 16, 3) := dk da_S_shortest 6 rfl
theorem d_S_shortest_10 : decode b_S_shortest 10 = .ok (.iload_n 1, 1) := dk da_S_shortest 7 rfl
theorem d_S_shortest_11 : decode b_S_shortest 11 = .ok (.iload_n 2, 1) := dk da_S_shortest 8 rfl
theorem d_S_shortest_12 : decode b_S_shortest 12 = .ok (.iconst 1, 1) := dk da_S_shortest 9 rfl
theorem d_S_shortest_13 : decode b_S_shortest 13 = .ok (.iand, 1) := dk da_S_shortest 10 rfl
theorem d_S_shortest_14 : decode b_S_shortest 14 = .ok (.ior, 1) := dk da_S_shortest 11 rfl
theorem d_S_shortest_15 : decode b_S_shortest 15 = .ok (.istore_n 1, 1) := dk da_S_shortest 12 rfl
theorem d_S_shortest_16 : decode b_S_shortest 16 = .ok (.iload_n 2, 1) := dk da_S_shortest 13 rfl
theorem d_S_shortest_17 : decode b_S_shortest 17 = .ok (.iconst 1, 1) := dk da_S_shortest 14 rfl
theorem d_S_shortest_18 : decode b_S_shortest 18 = .ok (.ishr, 1) := dk da_S_shortest 15 rfl
theorem d_S_shortest_19 : decode b_S_shortest 19 = .ok (.istore_n 2, 1) := dk da_S_shortest 16 rfl
theorem d_S_shortest_20 : decode b_S_shortest 20 = .ok (.goto (-16), 3) := dk da_S_shortest 17 rfl
theorem d_S_shortest_23 : decode b_S_shortest 23 = .ok (.iload_n 2, 1) := dk da_S_shortest 18 rfl
theorem d_S_shortest_24 : decode b_S_shortest 24 = .ok (.iload_n 1, 1) := dk da_S_shortest 19 rfl
theorem d_S_shortest_25 : decode b_S_shortest 25 = .ok (.iadd, 1) := dk da_S_shortest 20 rfl
theorem d_S_shortest_26 : decode b_S_shortest 26 = .ok (.ireturn, 1) := dk da_S_shortest 21 rfl
def dl_S_run : List (Nat × Instr × Nat) := [(0, .iload_n 1, 1), (1, .iconst 1, 1), (2, .iadd, 1), (3, .istore_n 3, 1), (4, .iload_n 3, 1), (5, .iload_n 2, 1), (6, .if_icmp .ne 5, 3), (9, .iconst 1, 1), (10, .ireturn, 1), (11, .aload_n 0, 1), (12, .getfield 24, 3), (15, .aload_n 0, 1), (16, .getfield 9, 3), (19, .iload_n 3, 1), (20, .iaload, 1), (21, .aload_n 0, 1), (22, .getfield 9, 3), (25, .iload_n 1, 1), (26, .iaload, 1), (27, .invokeinterface 54 3, 5), (32, .ifCond .ge 7, 3), (35, .iconst 1, 1), (36, .goto 4, 3), (39, .iconst 0, 1), (40, .istore 4, 2), (42, .iinc 3 1, 3), (45, .iload_n 3, 1), (46, .iload_n 2, 1), (47, .if_icmp .ge 45, 3), (50, .aload_n 0, 1), (51, .getfield 24, 3), (54, .aload_n 0, 1), (55, .getfield 9, 3), (58, .iload_n 3, 1), (59, .iaload, 1), (60, .aload_n 0, 1), (61, .getfield 9, 3), (64, .iload_n 3, 1), (65, .iconst 1, 1), (66, .isub, 1), (67, .iaload, 1), (68, .invokeinterface 54 3, 5), (73, .ifCond .ge 7, 3), (76, .iconst 1, 1), (77, .goto 4, 3), (80, .iconst 0, 1), (81, .iload 4, 2), (83, .if_icmp .ne 9, 3), (86, .iinc 3 1, 3), (89, .goto (-44), 3), (92, .iload 4, 2), (94, .ifCond .eq 59, 3), (97, .iload_n 1, 1), (98, .istore 5, 2), (100, .iload_n 3, 1), (101, .iconst 1, 1), (102, .isub, 1), (103, .istore 6, 2), (105, .iload 5, 2), (107, .iload 6, 2), (109, .if_icmp .ge 44, 3), (112, .aload_n 0, 1), (113, .getfield 9, 3), (116, .iload 5, 2), (118, .iaload, 1), (119, .istore 7, 2), (121, .aload_n 0, 1), (122, .getfield 9, 3), (125, .iload 5, 2), (127, .aload_n 0, 1), (128, .getfield 9, 3), (131, .iload 6, 2), (133, .iaload, 1), (134, .iastore, 1), (135, .aload_n 0, 1), (136, .getfield 9, 3), (139, .iload 6, 2), (141, .iload 7, 2), (143, .iastore, 1), (144, .iinc 5 1, 3), (147, .iinc 6 (-1), 3), (150, .goto (-45), 3), (153, .iload_n 3, 1), (154, .iload_n 1, 1), (155, .isub, 1), (156, .ireturn, 1)]
set_option maxRecDepth 100000 in
theorem da_S_run : (dl_S_run.all fun q => decide (decode b_S_run q.1 = .ok q.2)) = true := by decide +kernel
theorem d_S_run_0 : decode b_S_run 0 = .ok (.iload_n 1, 1) := dk da_S_run 0 rfl
theorem d_S_run_1 : decode b_S_run 1 = .ok (.iconst 1, 1) := dk da_S_run 1 rfl
theorem d_S_run_2 : decode b_S_run 2 = .ok (.iadd, 1) := dk da_S_run 2 rfl
theorem d_S_run_3 : decode b_S_run 3 = .ok (.istore_n 3, 1) := dk da_S_run 3 rfl
theorem d_S_run_4 : decode b_S_run 4 = .ok (.iload_n 3, 1) := dk da_S_run 4 rfl
theorem d_S_run_5 : decode b_S_run 5 = .ok (.iload_n 2, 1) := dk da_S_run 5 rfl
theorem d_S_run_6 : decode b_S_run 6 = .ok (.if_icmp .ne 5, 3) := dk da_S_run 6 rfl
theorem d_S_run_9 : decode b_S_run 9 = .ok (.iconst 1, 1) := dk da_S_run 7 rfl
theorem d_S_run_10 : decode b_S_run 10 = .ok (.ireturn, 1) := dk da_S_run 8 rfl
theorem d_S_run_11 : decode b_S_run 11 = .ok (.aload_n 0, 1) := dk da_S_run 9 rfl
theorem d_S_run_12 : decode b_S_run 12 = .ok (.getfield 24, 3) := dk da_S_run 10 rfl
theorem d_S_run_15 : decode b_S_run 15 = .ok (.aload_n 0, 1) := dk da_S_run 11 rfl
theorem d_S_run_16 : decode b_S_run 16 = .ok (.getfield 9, 3) := dk da_S_run 12 rfl
theorem d_S_run_19 : decode b_S_run 19 = .ok (.iload_n 3, 1) := dk da_S_run 13 rfl
theorem d_S_run_20 : decode b_S_run 20 = .ok (.iaload, 1) := dk da_S_run 14 rfl
theorem d_S_run_21 : decode b_S_run 21 = .ok (.aload_n 0, 1) := dk da_S_run 15 rfl
theorem d_S_run_22 : decode b_S_run 22 = .ok (.getfield 9, 3) := dk da_S_run 16 rfl
theorem d_S_run_25 : decode b_S_run 25 = .ok (.iload_n 1, 1) := dk da_S_run 17 rfl
theorem d_S_run_26 : decode b_S_run 26 = .ok (.iaload, 1) := dk da_S_run 18 rfl
theorem d_S_run_27 : decode b_S_run 27 = .ok (.invokeinterface 54 3, 5) := dk da_S_run 19 rfl
theorem d_S_run_32 : decode b_S_run 32 = .ok (.ifCond .ge 7, 3) := dk da_S_run 20 rfl
theorem d_S_run_35 : decode b_S_run 35 = .ok (.iconst 1, 1) := dk da_S_run 21 rfl
theorem d_S_run_36 : decode b_S_run 36 = .ok (.goto 4, 3) := dk da_S_run 22 rfl
theorem d_S_run_39 : decode b_S_run 39 = .ok (.iconst 0, 1) := dk da_S_run 23 rfl
theorem d_S_run_40 : decode b_S_run 40 = .ok (.istore 4, 2) := dk da_S_run 24 rfl
theorem d_S_run_42 : decode b_S_run 42 = .ok (.iinc 3 1, 3) := dk da_S_run 25 rfl
theorem d_S_run_45 : decode b_S_run 45 = .ok (.iload_n 3, 1) := dk da_S_run 26 rfl
theorem d_S_run_46 : decode b_S_run 46 = .ok (.iload_n 2, 1) := dk da_S_run 27 rfl
theorem d_S_run_47 : decode b_S_run 47 = .ok (.if_icmp .ge 45, 3) := dk da_S_run 28 rfl
theorem d_S_run_50 : decode b_S_run 50 = .ok (.aload_n 0, 1) := dk da_S_run 29 rfl
theorem d_S_run_51 : decode b_S_run 51 = .ok (.getfield 24, 3) := dk da_S_run 30 rfl
theorem d_S_run_54 : decode b_S_run 54 = .ok (.aload_n 0, 1) := dk da_S_run 31 rfl
theorem d_S_run_55 : decode b_S_run 55 = .ok (.getfield 9, 3) := dk da_S_run 32 rfl
theorem d_S_run_58 : decode b_S_run 58 = .ok (.iload_n 3, 1) := dk da_S_run 33 rfl
theorem d_S_run_59 : decode b_S_run 59 = .ok (.iaload, 1) := dk da_S_run 34 rfl
theorem d_S_run_60 : decode b_S_run 60 = .ok (.aload_n 0, 1) := dk da_S_run 35 rfl
theorem d_S_run_61 : decode b_S_run 61 = .ok (.getfield 9, 3) := dk da_S_run 36 rfl
theorem d_S_run_64 : decode b_S_run 64 = .ok (.iload_n 3, 1) := dk da_S_run 37 rfl
theorem d_S_run_65 : decode b_S_run 65 = .ok (.iconst 1, 1) := dk da_S_run 38 rfl
theorem d_S_run_66 : decode b_S_run 66 = .ok (.isub, 1) := dk da_S_run 39 rfl
theorem d_S_run_67 : decode b_S_run 67 = .ok (.iaload, 1) := dk da_S_run 40 rfl
theorem d_S_run_68 : decode b_S_run 68 = .ok (.invokeinterface 54 3, 5) := dk da_S_run 41 rfl
theorem d_S_run_73 : decode b_S_run 73 = .ok (.ifCond .ge 7, 3) := dk da_S_run 42 rfl
theorem d_S_run_76 : decode b_S_run 76 = .ok (.iconst 1, 1) := dk da_S_run 43 rfl
theorem d_S_run_77 : decode b_S_run 77 = .ok (.goto 4, 3) := dk da_S_run 44 rfl
theorem d_S_run_80 : decode b_S_run 80 = .ok (.iconst 0, 1) := dk da_S_run 45 rfl
theorem d_S_run_81 : decode b_S_run 81 = .ok (.iload 4, 2) := dk da_S_run 46 rfl
theorem d_S_run_83 : decode b_S_run 83 = .ok (.if_icmp .ne 9, 3) := dk da_S_run 47 rfl
theorem d_S_run_86 : decode b_S_run 86 = .ok (.iinc 3 1, 3) := dk da_S_run 48 rfl
theorem d_S_run_89 : decode b_S_run 89 = .ok (.goto (-44), 3) := dk da_S_run 49 rfl
theorem d_S_run_92 : decode b_S_run 92 = .ok (.iload 4, 2) := dk da_S_run 50 rfl
theorem d_S_run_94 : decode b_S_run 94 = .ok (.ifCond .eq 59, 3) := dk da_S_run 51 rfl
theorem d_S_run_97 : decode b_S_run 97 = .ok (.iload_n 1, 1) := dk da_S_run 52 rfl
theorem d_S_run_98 : decode b_S_run 98 = .ok (.istore 5, 2) := dk da_S_run 53 rfl
theorem d_S_run_100 : decode b_S_run 100 = .ok (.iload_n 3, 1) := dk da_S_run 54 rfl
theorem d_S_run_101 : decode b_S_run 101 = .ok (.iconst 1, 1) := dk da_S_run 55 rfl
theorem d_S_run_102 : decode b_S_run 102 = .ok (.isub, 1) := dk da_S_run 56 rfl
theorem d_S_run_103 : decode b_S_run 103 = .ok (.istore 6, 2) := dk da_S_run 57 rfl
theorem d_S_run_105 : decode b_S_run 105 = .ok (.iload 5, 2) := dk da_S_run 58 rfl
theorem d_S_run_107 : decode b_S_run 107 = .ok (.iload 6, 2) := dk da_S_run 59 rfl
theorem d_S_run_109 : decode b_S_run 109 = .ok (.if_icmp .ge 44, 3) := dk da_S_run 60 rfl
theorem d_S_run_112 : decode b_S_run 112 = .ok (.aload_n 0, 1) := dk da_S_run 61 rfl
theorem d_S_run_113 : decode b_S_run 113 = .ok (.getfield 9, 3) := dk da_S_run 62 rfl
theorem d_S_run_116 : decode b_S_run 116 = .ok (.iload 5, 2) := dk da_S_run 63 rfl
theorem d_S_run_118 : decode b_S_run 118 = .ok (.iaload, 1) := dk da_S_run 64 rfl
theorem d_S_run_119 : decode b_S_run 119 = .ok (.istore 7, 2) := dk da_S_run 65 rfl
theorem d_S_run_121 : decode b_S_run 121 = .ok (.aload_n 0, 1) := dk da_S_run 66 rfl
theorem d_S_run_122 : decode b_S_run 122 = .ok (.getfield 9, 3) := dk da_S_run 67 rfl
theorem d_S_run_125 : decode b_S_run 125 = .ok (.iload 5, 2) := dk da_S_run 68 rfl
theorem d_S_run_127 : decode b_S_run 127 = .ok (.aload_n 0, 1) := dk da_S_run 69 rfl
theorem d_S_run_128 : decode b_S_run 128 = .ok (.getfield 9, 3) := dk da_S_run 70 rfl
theorem d_S_run_131 : decode b_S_run 131 = .ok (.iload 6, 2) := dk da_S_run 71 rfl
theorem d_S_run_133 : decode b_S_run 133 = .ok (.iaload, 1) := dk da_S_run 72 rfl
theorem d_S_run_134 : decode b_S_run 134 = .ok (.iastore, 1) := dk da_S_run 73 rfl
theorem d_S_run_135 : decode b_S_run 135 = .ok (.aload_n 0, 1) := dk da_S_run 74 rfl
theorem d_S_run_136 : decode b_S_run 136 = .ok (.getfield 9, 3) := dk da_S_run 75 rfl
theorem d_S_run_139 : decode b_S_run 139 = .ok (.iload 6, 2) := dk da_S_run 76 rfl
theorem d_S_run_141 : decode b_S_run 141 = .ok (.iload 7, 2) := dk da_S_run 77 rfl
theorem d_S_run_143 : decode b_S_run 143 = .ok (.iastore, 1) := dk da_S_run 78 rfl
theorem d_S_run_144 : decode b_S_run 144 = .ok (.iinc 5 1, 3) := dk da_S_run 79 rfl
theorem d_S_run_147 : decode b_S_run 147 = .ok (.iinc 6 (-1), 3) := dk da_S_run 80 rfl
theorem d_S_run_150 : decode b_S_run 150 = .ok (.goto (-45), 3) := dk da_S_run 81 rfl
theorem d_S_run_153 : decode b_S_run 153 = .ok (.iload_n 3, 1) := dk da_S_run 82 rfl
theorem d_S_run_154 : decode b_S_run 154 = .ok (.iload_n 1, 1) := dk da_S_run 83 rfl
theorem d_S_run_155 : decode b_S_run 155 = .ok (.isub, 1) := dk da_S_run 84 rfl
theorem d_S_run_156 : decode b_S_run 156 = .ok (.ireturn, 1) := dk da_S_run 85 rfl
def dl_S_insertion : List (Nat × Instr × Nat) := [(0, .iload_n 2, 1), (1, .istore 4, 2), (3, .iload 4, 2), (5, .iload_n 3, 1), (6, .if_icmp .ge 120, 3), (9, .aload_n 0, 1), (10, .getfield 9, 3), (13, .iload 4, 2), (15, .iaload, 1), (16, .istore 5, 2), (18, .iload_n 1, 1), (19, .istore 6, 2), (21, .iload 4, 2), (23, .istore 7, 2), (25, .iload 6, 2), (27, .iload 7, 2), (29, .if_icmp .ge 49, 3), (32, .iload 6, 2), (34, .iload 7, 2), (36, .iadd, 1), (37, .iconst 1, 1), (38, .iushr, 1), (39, .istore 8, 2), (41, .aload_n 0, 1), (42, .getfield 24, 3), (45, .iload 5, 2), (47, .aload_n 0, 1), (48, .getfield 9, 3), (51, .iload 8, 2), (53, .iaload, 1), (54, .invokeinterface 54 3, 5), (59, .ifCond .ge 10, 3), (62, .iload 8, 2), (64, .istore 7, 2), (66, .goto 9, 3), (69, .iload 8, 2), (71, .iconst 1, 1), (72, .iadd, 1), (73, .istore 6, 2), (75, .goto (-50), 3), (78, .iload 4, 2), (80, .istore 8, 2), (82, .iload 8, 2), (84, .iload 6, 2), (86, .if_icmp .le 25, 3), (89, .aload_n 0, 1), (90, .getfield 9, 3), (93, .iload 8, 2), (95, .aload_n 0, 1), (96, .getfield 9, 3), (99, .iload 8, 2), (101, .iconst 1, 1), (102, .isub, 1), (103, .iaload, 1), (104, .iastore, 1), (105, .iinc 8 (-1), 3), (108, .goto (-26), 3), (111, .aload_n 0, 1), (112, .getfield 9, 3), (115, .iload 6, 2), (117, .iload 5, 2), (119, .iastore, 1), (120, .iinc 4 1, 3), (123, .goto (-120), 3), (126, .return_, 1)]
set_option maxRecDepth 100000 in
theorem da_S_insertion : (dl_S_insertion.all fun q => decide (decode b_S_insertion q.1 = .ok q.2)) = true := by decide +kernel
theorem d_S_insertion_0 : decode b_S_insertion 0 = .ok (.iload_n 2, 1) := dk da_S_insertion 0 rfl
theorem d_S_insertion_1 : decode b_S_insertion 1 = .ok (.istore 4, 2) := dk da_S_insertion 1 rfl
theorem d_S_insertion_3 : decode b_S_insertion 3 = .ok (.iload 4, 2) := dk da_S_insertion 2 rfl
theorem d_S_insertion_5 : decode b_S_insertion 5 = .ok (.iload_n 3, 1) := dk da_S_insertion 3 rfl
theorem d_S_insertion_6 : decode b_S_insertion 6 = .ok (.if_icmp .ge 120, 3) := dk da_S_insertion 4 rfl
theorem d_S_insertion_9 : decode b_S_insertion 9 = .ok (.aload_n 0, 1) := dk da_S_insertion 5 rfl
theorem d_S_insertion_10 : decode b_S_insertion 10 = .ok (.getfield 9, 3) := dk da_S_insertion 6 rfl
theorem d_S_insertion_13 : decode b_S_insertion 13 = .ok (.iload 4, 2) := dk da_S_insertion 7 rfl
theorem d_S_insertion_15 : decode b_S_insertion 15 = .ok (.iaload, 1) := dk da_S_insertion 8 rfl
theorem d_S_insertion_16 : decode b_S_insertion 16 = .ok (.istore 5, 2) := dk da_S_insertion 9 rfl
theorem d_S_insertion_18 : decode b_S_insertion 18 = .ok (.iload_n 1, 1) := dk da_S_insertion 10 rfl
theorem d_S_insertion_19 : decode b_S_insertion 19 = .ok (.istore 6, 2) := dk da_S_insertion 11 rfl
theorem d_S_insertion_21 : decode b_S_insertion 21 = .ok (.iload 4, 2) := dk da_S_insertion 12 rfl
theorem d_S_insertion_23 : decode b_S_insertion 23 = .ok (.istore 7, 2) := dk da_S_insertion 13 rfl
theorem d_S_insertion_25 : decode b_S_insertion 25 = .ok (.iload 6, 2) := dk da_S_insertion 14 rfl
theorem d_S_insertion_27 : decode b_S_insertion 27 = .ok (.iload 7, 2) := dk da_S_insertion 15 rfl
theorem d_S_insertion_29 : decode b_S_insertion 29 = .ok (.if_icmp .ge 49, 3) := dk da_S_insertion 16 rfl
theorem d_S_insertion_32 : decode b_S_insertion 32 = .ok (.iload 6, 2) := dk da_S_insertion 17 rfl
theorem d_S_insertion_34 : decode b_S_insertion 34 = .ok (.iload 7, 2) := dk da_S_insertion 18 rfl
theorem d_S_insertion_36 : decode b_S_insertion 36 = .ok (.iadd, 1) := dk da_S_insertion 19 rfl
theorem d_S_insertion_37 : decode b_S_insertion 37 = .ok (.iconst 1, 1) := dk da_S_insertion 20 rfl
theorem d_S_insertion_38 : decode b_S_insertion 38 = .ok (.iushr, 1) := dk da_S_insertion 21 rfl
theorem d_S_insertion_39 : decode b_S_insertion 39 = .ok (.istore 8, 2) := dk da_S_insertion 22 rfl
theorem d_S_insertion_41 : decode b_S_insertion 41 = .ok (.aload_n 0, 1) := dk da_S_insertion 23 rfl
theorem d_S_insertion_42 : decode b_S_insertion 42 = .ok (.getfield 24, 3) := dk da_S_insertion 24 rfl
theorem d_S_insertion_45 : decode b_S_insertion 45 = .ok (.iload 5, 2) := dk da_S_insertion 25 rfl
theorem d_S_insertion_47 : decode b_S_insertion 47 = .ok (.aload_n 0, 1) := dk da_S_insertion 26 rfl
theorem d_S_insertion_48 : decode b_S_insertion 48 = .ok (.getfield 9, 3) := dk da_S_insertion 27 rfl
theorem d_S_insertion_51 : decode b_S_insertion 51 = .ok (.iload 8, 2) := dk da_S_insertion 28 rfl
theorem d_S_insertion_53 : decode b_S_insertion 53 = .ok (.iaload, 1) := dk da_S_insertion 29 rfl
theorem d_S_insertion_54 : decode b_S_insertion 54 = .ok (.invokeinterface 54 3, 5) := dk da_S_insertion 30 rfl
theorem d_S_insertion_59 : decode b_S_insertion 59 = .ok (.ifCond .ge 10, 3) := dk da_S_insertion 31 rfl
theorem d_S_insertion_62 : decode b_S_insertion 62 = .ok (.iload 8, 2) := dk da_S_insertion 32 rfl
theorem d_S_insertion_64 : decode b_S_insertion 64 = .ok (.istore 7, 2) := dk da_S_insertion 33 rfl
theorem d_S_insertion_66 : decode b_S_insertion 66 = .ok (.goto 9, 3) := dk da_S_insertion 34 rfl
theorem d_S_insertion_69 : decode b_S_insertion 69 = .ok (.iload 8, 2) := dk da_S_insertion 35 rfl
theorem d_S_insertion_71 : decode b_S_insertion 71 = .ok (.iconst 1, 1) := dk da_S_insertion 36 rfl
theorem d_S_insertion_72 : decode b_S_insertion 72 = .ok (.iadd, 1) := dk da_S_insertion 37 rfl
theorem d_S_insertion_73 : decode b_S_insertion 73 = .ok (.istore 6, 2) := dk da_S_insertion 38 rfl
theorem d_S_insertion_75 : decode b_S_insertion 75 = .ok (.goto (-50), 3) := dk da_S_insertion 39 rfl
theorem d_S_insertion_78 : decode b_S_insertion 78 = .ok (.iload 4, 2) := dk da_S_insertion 40 rfl
theorem d_S_insertion_80 : decode b_S_insertion 80 = .ok (.istore 8, 2) := dk da_S_insertion 41 rfl
theorem d_S_insertion_82 : decode b_S_insertion 82 = .ok (.iload 8, 2) := dk da_S_insertion 42 rfl
theorem d_S_insertion_84 : decode b_S_insertion 84 = .ok (.iload 6, 2) := dk da_S_insertion 43 rfl
theorem d_S_insertion_86 : decode b_S_insertion 86 = .ok (.if_icmp .le 25, 3) := dk da_S_insertion 44 rfl
theorem d_S_insertion_89 : decode b_S_insertion 89 = .ok (.aload_n 0, 1) := dk da_S_insertion 45 rfl
theorem d_S_insertion_90 : decode b_S_insertion 90 = .ok (.getfield 9, 3) := dk da_S_insertion 46 rfl
theorem d_S_insertion_93 : decode b_S_insertion 93 = .ok (.iload 8, 2) := dk da_S_insertion 47 rfl
theorem d_S_insertion_95 : decode b_S_insertion 95 = .ok (.aload_n 0, 1) := dk da_S_insertion 48 rfl
theorem d_S_insertion_96 : decode b_S_insertion 96 = .ok (.getfield 9, 3) := dk da_S_insertion 49 rfl
theorem d_S_insertion_99 : decode b_S_insertion 99 = .ok (.iload 8, 2) := dk da_S_insertion 50 rfl
theorem d_S_insertion_101 : decode b_S_insertion 101 = .ok (.iconst 1, 1) := dk da_S_insertion 51 rfl
theorem d_S_insertion_102 : decode b_S_insertion 102 = .ok (.isub, 1) := dk da_S_insertion 52 rfl
theorem d_S_insertion_103 : decode b_S_insertion 103 = .ok (.iaload, 1) := dk da_S_insertion 53 rfl
theorem d_S_insertion_104 : decode b_S_insertion 104 = .ok (.iastore, 1) := dk da_S_insertion 54 rfl
theorem d_S_insertion_105 : decode b_S_insertion 105 = .ok (.iinc 8 (-1), 3) := dk da_S_insertion 55 rfl
theorem d_S_insertion_108 : decode b_S_insertion 108 = .ok (.goto (-26), 3) := dk da_S_insertion 56 rfl
theorem d_S_insertion_111 : decode b_S_insertion 111 = .ok (.aload_n 0, 1) := dk da_S_insertion 57 rfl
theorem d_S_insertion_112 : decode b_S_insertion 112 = .ok (.getfield 9, 3) := dk da_S_insertion 58 rfl
theorem d_S_insertion_115 : decode b_S_insertion 115 = .ok (.iload 6, 2) := dk da_S_insertion 59 rfl
theorem d_S_insertion_117 : decode b_S_insertion 117 = .ok (.iload 5, 2) := dk da_S_insertion 60 rfl
theorem d_S_insertion_119 : decode b_S_insertion 119 = .ok (.iastore, 1) := dk da_S_insertion 61 rfl
theorem d_S_insertion_120 : decode b_S_insertion 120 = .ok (.iinc 4 1, 3) := dk da_S_insertion 62 rfl
theorem d_S_insertion_123 : decode b_S_insertion 123 = .ok (.goto (-120), 3) := dk da_S_insertion 63 rfl
theorem d_S_insertion_126 : decode b_S_insertion 126 = .ok (.return_, 1) := dk da_S_insertion 64 rfl
def dl_S_settle : List (Nat × Instr × Nat) := [(0, .aload_n 0, 1), (1, .getfield 28, 3), (4, .iconst 1, 1), (5, .if_icmp .le 143, 3), (8, .aload_n 0, 1), (9, .getfield 28, 3), (12, .iconst 2, 1), (13, .isub, 1), (14, .istore_n 1, 1), (15, .iload_n 1, 1), (16, .ifCond .le 29, 3), (19, .aload_n 0, 1), (20, .getfield 21, 3), (23, .iload_n 1, 1), (24, .iconst 1, 1), (25, .isub, 1), (26, .iaload, 1), (27, .aload_n 0, 1), (28, .getfield 21, 3), (31, .iload_n 1, 1), (32, .iaload, 1), (33, .aload_n 0, 1), (34, .getfield 21, 3), (37, .iload_n 1, 1), (38, .iconst 1, 1), (39, .iadd, 1), (40, .iaload, 1), (41, .iadd, 1), (42, .if_icmp .le 34, 3), (45, .iload_n 1, 1), (46, .iconst 1, 1), (47, .if_icmp .le 33, 3), (50, .aload_n 0, 1), (51, .getfield 21, 3), (54, .iload_n 1, 1), (55, .iconst 2, 1), (56, .isub, 1), (57, .iaload, 1), (58, .aload_n 0, 1), (59, .getfield 21, 3), (62, .iload_n 1, 1), (63, .iconst 1, 1), (64, .isub, 1), (65, .iaload, 1), (66, .aload_n 0, 1), (67, .getfield 21, 3), (70, .iload_n 1, 1), (71, .iaload, 1), (72, .iadd, 1), (73, .if_icmp .gt 7, 3), (76, .iconst 1, 1), (77, .goto 4, 3), (80, .iconst 0, 1), (81, .istore_n 2, 1), (82, .iload_n 2, 1), (83, .ifCond .eq 36, 3), (86, .aload_n 0, 1), (87, .aload_n 0, 1), (88, .getfield 21, 3), (91, .iload_n 1, 1), (92, .iconst 1, 1), (93, .isub, 1), (94, .iaload, 1), (95, .aload_n 0, 1), (96, .getfield 21, 3), (99, .iload_n 1, 1), (100, .iconst 1, 1), (101, .iadd, 1), (102, .iaload, 1), (103, .if_icmp .ge 9, 3), (106, .iload_n 1, 1), (107, .iconst 1, 1), (108, .isub, 1), (109, .goto 4, 3), (112, .iload_n 1, 1), (113, .invokevirtual 50, 3), (116, .goto 29, 3), (119, .aload_n 0, 1), (120, .getfield 21, 3), (123, .iload_n 1, 1), (124, .iaload, 1), (125, .aload_n 0, 1), (126, .getfield 21, 3), (129, .iload_n 1, 1), (130, .iconst 1, 1), (131, .iadd, 1), (132, .iaload, 1), (133, .if_icmp .gt 11, 3), (136, .aload_n 0, 1), (137, .iload_n 1, 1), (138, .invokevirtual 50, 3), (141, .goto 4, 3), (144, .return_, 1), (145, .goto (-145), 3), (148, .return_, 1)]
set_option maxRecDepth 100000 in
theorem da_S_settle : (dl_S_settle.all fun q => decide (decode b_S_settle q.1 = .ok q.2)) = true := by decide +kernel
theorem d_S_settle_0 : decode b_S_settle 0 = .ok (.aload_n 0, 1) := dk da_S_settle 0 rfl
theorem d_S_settle_1 : decode b_S_settle 1 = .ok (.getfield 28, 3) := dk da_S_settle 1 rfl
theorem d_S_settle_4 : decode b_S_settle 4 = .ok (.iconst 1, 1) := dk da_S_settle 2 rfl
theorem d_S_settle_5 : decode b_S_settle 5 = .ok (.if_icmp .le 143, 3) := dk da_S_settle 3 rfl
theorem d_S_settle_8 : decode b_S_settle 8 = .ok (.aload_n 0, 1) := dk da_S_settle 4 rfl
theorem d_S_settle_9 : decode b_S_settle 9 = .ok (.getfield 28, 3) := dk da_S_settle 5 rfl
theorem d_S_settle_12 : decode b_S_settle 12 = .ok (.iconst 2, 1) := dk da_S_settle 6 rfl
theorem d_S_settle_13 : decode b_S_settle 13 = .ok (.isub, 1) := dk da_S_settle 7 rfl
theorem d_S_settle_14 : decode b_S_settle 14 = .ok (.istore_n 1, 1) := dk da_S_settle 8 rfl
theorem d_S_settle_15 : decode b_S_settle 15 = .ok (.iload_n 1, 1) := dk da_S_settle 9 rfl
theorem d_S_settle_16 : decode b_S_settle 16 = .ok (.ifCond .le 29, 3) := dk da_S_settle 10 rfl
theorem d_S_settle_19 : decode b_S_settle 19 = .ok (.aload_n 0, 1) := dk da_S_settle 11 rfl
theorem d_S_settle_20 : decode b_S_settle 20 = .ok (.getfield 21, 3) := dk da_S_settle 12 rfl
theorem d_S_settle_23 : decode b_S_settle 23 = .ok (.iload_n 1, 1) := dk da_S_settle 13 rfl
theorem d_S_settle_24 : decode b_S_settle 24 = .ok (.iconst 1, 1) := dk da_S_settle 14 rfl
theorem d_S_settle_25 : decode b_S_settle 25 = .ok (.isub, 1) := dk da_S_settle 15 rfl
theorem d_S_settle_26 : decode b_S_settle 26 = .ok (.iaload, 1) := dk da_S_settle 16 rfl
theorem d_S_settle_27 : decode b_S_settle 27 = .ok (.aload_n 0, 1) := dk da_S_settle 17 rfl
theorem d_S_settle_28 : decode b_S_settle 28 = .ok (.getfield 21, 3) := dk da_S_settle 18 rfl
theorem d_S_settle_31 : decode b_S_settle 31 = .ok (.iload_n 1, 1) := dk da_S_settle 19 rfl
theorem d_S_settle_32 : decode b_S_settle 32 = .ok (.iaload, 1) := dk da_S_settle 20 rfl
theorem d_S_settle_33 : decode b_S_settle 33 = .ok (.aload_n 0, 1) := dk da_S_settle 21 rfl
theorem d_S_settle_34 : decode b_S_settle 34 = .ok (.getfield 21, 3) := dk da_S_settle 22 rfl
theorem d_S_settle_37 : decode b_S_settle 37 = .ok (.iload_n 1, 1) := dk da_S_settle 23 rfl
theorem d_S_settle_38 : decode b_S_settle 38 = .ok (.iconst 1, 1) := dk da_S_settle 24 rfl
theorem d_S_settle_39 : decode b_S_settle 39 = .ok (.iadd, 1) := dk da_S_settle 25 rfl
theorem d_S_settle_40 : decode b_S_settle 40 = .ok (.iaload, 1) := dk da_S_settle 26 rfl
theorem d_S_settle_41 : decode b_S_settle 41 = .ok (.iadd, 1) := dk da_S_settle 27 rfl
theorem d_S_settle_42 : decode b_S_settle 42 = .ok (.if_icmp .le 34, 3) := dk da_S_settle 28 rfl
theorem d_S_settle_45 : decode b_S_settle 45 = .ok (.iload_n 1, 1) := dk da_S_settle 29 rfl
theorem d_S_settle_46 : decode b_S_settle 46 = .ok (.iconst 1, 1) := dk da_S_settle 30 rfl
theorem d_S_settle_47 : decode b_S_settle 47 = .ok (.if_icmp .le 33, 3) := dk da_S_settle 31 rfl
theorem d_S_settle_50 : decode b_S_settle 50 = .ok (.aload_n 0, 1) := dk da_S_settle 32 rfl
theorem d_S_settle_51 : decode b_S_settle 51 = .ok (.getfield 21, 3) := dk da_S_settle 33 rfl
theorem d_S_settle_54 : decode b_S_settle 54 = .ok (.iload_n 1, 1) := dk da_S_settle 34 rfl
theorem d_S_settle_55 : decode b_S_settle 55 = .ok (.iconst 2, 1) := dk da_S_settle 35 rfl
theorem d_S_settle_56 : decode b_S_settle 56 = .ok (.isub, 1) := dk da_S_settle 36 rfl
theorem d_S_settle_57 : decode b_S_settle 57 = .ok (.iaload, 1) := dk da_S_settle 37 rfl
theorem d_S_settle_58 : decode b_S_settle 58 = .ok (.aload_n 0, 1) := dk da_S_settle 38 rfl
theorem d_S_settle_59 : decode b_S_settle 59 = .ok (.getfield 21, 3) := dk da_S_settle 39 rfl
theorem d_S_settle_62 : decode b_S_settle 62 = .ok (.iload_n 1, 1) := dk da_S_settle 40 rfl
theorem d_S_settle_63 : decode b_S_settle 63 = .ok (.iconst 1, 1) := dk da_S_settle 41 rfl
theorem d_S_settle_64 : decode b_S_settle 64 = .ok (.isub, 1) := dk da_S_settle 42 rfl
theorem d_S_settle_65 : decode b_S_settle 65 = .ok (.iaload, 1) := dk da_S_settle 43 rfl
theorem d_S_settle_66 : decode b_S_settle 66 = .ok (.aload_n 0, 1) := dk da_S_settle 44 rfl
theorem d_S_settle_67 : decode b_S_settle 67 = .ok (.getfield 21, 3) := dk da_S_settle 45 rfl
theorem d_S_settle_70 : decode b_S_settle 70 = .ok (.iload_n 1, 1) := dk da_S_settle 46 rfl
theorem d_S_settle_71 : decode b_S_settle 71 = .ok (.iaload, 1) := dk da_S_settle 47 rfl
theorem d_S_settle_72 : decode b_S_settle 72 = .ok (.iadd, 1) := dk da_S_settle 48 rfl
theorem d_S_settle_73 : decode b_S_settle 73 = .ok (.if_icmp .gt 7, 3) := dk da_S_settle 49 rfl
theorem d_S_settle_76 : decode b_S_settle 76 = .ok (.iconst 1, 1) := dk da_S_settle 50 rfl
theorem d_S_settle_77 : decode b_S_settle 77 = .ok (.goto 4, 3) := dk da_S_settle 51 rfl
theorem d_S_settle_80 : decode b_S_settle 80 = .ok (.iconst 0, 1) := dk da_S_settle 52 rfl
theorem d_S_settle_81 : decode b_S_settle 81 = .ok (.istore_n 2, 1) := dk da_S_settle 53 rfl
theorem d_S_settle_82 : decode b_S_settle 82 = .ok (.iload_n 2, 1) := dk da_S_settle 54 rfl
theorem d_S_settle_83 : decode b_S_settle 83 = .ok (.ifCond .eq 36, 3) := dk da_S_settle 55 rfl
theorem d_S_settle_86 : decode b_S_settle 86 = .ok (.aload_n 0, 1) := dk da_S_settle 56 rfl
theorem d_S_settle_87 : decode b_S_settle 87 = .ok (.aload_n 0, 1) := dk da_S_settle 57 rfl
theorem d_S_settle_88 : decode b_S_settle 88 = .ok (.getfield 21, 3) := dk da_S_settle 58 rfl
theorem d_S_settle_91 : decode b_S_settle 91 = .ok (.iload_n 1, 1) := dk da_S_settle 59 rfl
theorem d_S_settle_92 : decode b_S_settle 92 = .ok (.iconst 1, 1) := dk da_S_settle 60 rfl
theorem d_S_settle_93 : decode b_S_settle 93 = .ok (.isub, 1) := dk da_S_settle 61 rfl
theorem d_S_settle_94 : decode b_S_settle 94 = .ok (.iaload, 1) := dk da_S_settle 62 rfl
theorem d_S_settle_95 : decode b_S_settle 95 = .ok (.aload_n 0, 1) := dk da_S_settle 63 rfl
theorem d_S_settle_96 : decode b_S_settle 96 = .ok (.getfield 21, 3) := dk da_S_settle 64 rfl
theorem d_S_settle_99 : decode b_S_settle 99 = .ok (.iload_n 1, 1) := dk da_S_settle 65 rfl
theorem d_S_settle_100 : decode b_S_settle 100 = .ok (.iconst 1, 1) := dk da_S_settle 66 rfl
theorem d_S_settle_101 : decode b_S_settle 101 = .ok (.iadd, 1) := dk da_S_settle 67 rfl
theorem d_S_settle_102 : decode b_S_settle 102 = .ok (.iaload, 1) := dk da_S_settle 68 rfl
theorem d_S_settle_103 : decode b_S_settle 103 = .ok (.if_icmp .ge 9, 3) := dk da_S_settle 69 rfl
theorem d_S_settle_106 : decode b_S_settle 106 = .ok (.iload_n 1, 1) := dk da_S_settle 70 rfl
theorem d_S_settle_107 : decode b_S_settle 107 = .ok (.iconst 1, 1) := dk da_S_settle 71 rfl
theorem d_S_settle_108 : decode b_S_settle 108 = .ok (.isub, 1) := dk da_S_settle 72 rfl
theorem d_S_settle_109 : decode b_S_settle 109 = .ok (.goto 4, 3) := dk da_S_settle 73 rfl
theorem d_S_settle_112 : decode b_S_settle 112 = .ok (.iload_n 1, 1) := dk da_S_settle 74 rfl
theorem d_S_settle_113 : decode b_S_settle 113 = .ok (.invokevirtual 50, 3) := dk da_S_settle 75 rfl
theorem d_S_settle_116 : decode b_S_settle 116 = .ok (.goto 29, 3) := dk da_S_settle 76 rfl
theorem d_S_settle_119 : decode b_S_settle 119 = .ok (.aload_n 0, 1) := dk da_S_settle 77 rfl
theorem d_S_settle_120 : decode b_S_settle 120 = .ok (.getfield 21, 3) := dk da_S_settle 78 rfl
theorem d_S_settle_123 : decode b_S_settle 123 = .ok (.iload_n 1, 1) := dk da_S_settle 79 rfl
theorem d_S_settle_124 : decode b_S_settle 124 = .ok (.iaload, 1) := dk da_S_settle 80 rfl
theorem d_S_settle_125 : decode b_S_settle 125 = .ok (.aload_n 0, 1) := dk da_S_settle 81 rfl
theorem d_S_settle_126 : decode b_S_settle 126 = .ok (.getfield 21, 3) := dk da_S_settle 82 rfl
theorem d_S_settle_129 : decode b_S_settle 129 = .ok (.iload_n 1, 1) := dk da_S_settle 83 rfl
theorem d_S_settle_130 : decode b_S_settle 130 = .ok (.iconst 1, 1) := dk da_S_settle 84 rfl
theorem d_S_settle_131 : decode b_S_settle 131 = .ok (.iadd, 1) := dk da_S_settle 85 rfl
theorem d_S_settle_132 : decode b_S_settle 132 = .ok (.iaload, 1) := dk da_S_settle 86 rfl
theorem d_S_settle_133 : decode b_S_settle 133 = .ok (.if_icmp .gt 11, 3) := dk da_S_settle 87 rfl
theorem d_S_settle_136 : decode b_S_settle 136 = .ok (.aload_n 0, 1) := dk da_S_settle 88 rfl
theorem d_S_settle_137 : decode b_S_settle 137 = .ok (.iload_n 1, 1) := dk da_S_settle 89 rfl
theorem d_S_settle_138 : decode b_S_settle 138 = .ok (.invokevirtual 50, 3) := dk da_S_settle 90 rfl
theorem d_S_settle_141 : decode b_S_settle 141 = .ok (.goto 4, 3) := dk da_S_settle 91 rfl
theorem d_S_settle_144 : decode b_S_settle 144 = .ok (.return_, 1) := dk da_S_settle 92 rfl
theorem d_S_settle_145 : decode b_S_settle 145 = .ok (.goto (-145), 3) := dk da_S_settle 93 rfl
theorem d_S_settle_148 : decode b_S_settle 148 = .ok (.return_, 1) := dk da_S_settle 94 rfl
def dl_S_merge : List (Nat × Instr × Nat) := [(0, .aload_n 0, 1), (1, .getfield 18, 3), (4, .iload_n 1, 1), (5, .iaload, 1), (6, .istore_n 2, 1), (7, .aload_n 0, 1), (8, .getfield 21, 3), (11, .iload_n 1, 1), (12, .iaload, 1), (13, .istore_n 3, 1), (14, .aload_n 0, 1), (15, .getfield 18, 3), (18, .iload_n 1, 1), (19, .iconst 1, 1), (20, .iadd, 1), (21, .iaload, 1), (22, .istore 4, 2), (24, .aload_n 0, 1), (25, .getfield 21, 3), (28, .iload_n 1, 1), (29, .iconst 1, 1), (30, .iadd, 1), (31, .iaload, 1), (32, .istore 5, 2), (34, .aload_n 0, 1), (35, .getfield 21, 3), (38, .iload_n 1, 1), (39, .iload_n 3, 1), (40, .iload 5, 2), (42, .iadd, 1), (43, .iastore, 1), (44, .iload_n 1, 1), (45, .iconst 1, 1), (46, .iadd, 1), (47, .istore 6, 2), (49, .iload 6, 2), (51, .iconst 1, 1), (52, .iadd, 1), (53, .aload_n 0, 1), (54, .getfield 28, 3), (57, .if_icmp .ge 41, 3), (60, .aload_n 0, 1), (61, .getfield 18, 3), (64, .iload 6, 2), (66, .aload_n 0, 1), (67, .getfield 18, 3), (70, .iload 6, 2), (72, .iconst 1, 1), (73, .iadd, 1), (74, .iaload, 1), (75, .iastore, 1), (76, .aload_n 0, 1), (77, .getfield 21, 3), (80, .iload 6, 2), (82, .aload_n 0, 1), (83, .getfield 21, 3), (86, .iload 6, 2), (88, .iconst 1, 1), (89, .iadd, 1), (90, .iaload, 1), (91, .iastore, 1), (92, .iinc 6 1, 3), (95, .goto (-46), 3), (98, .aload_n 0, 1), (99, .dup, 1), (100, .getfield 28, 3), (103, .iconst 1, 1), (104, .isub, 1), (105, .putfield 28, 3), (108, .aload_n 0, 1), (109, .aload_n 0, 1), (110, .getfield 9, 3), (113, .iload 4, 2), (115, .iaload, 1), (116, .iload_n 2, 1), (117, .iload_n 3, 1), (118, .invokevirtual 59, 3), (121, .istore 6, 2), (123, .iload_n 2, 1), (124, .iload 6, 2), (126, .iadd, 1), (127, .istore_n 2, 1), (128, .iload_n 3, 1), (129, .iload 6, 2), (131, .isub, 1), (132, .istore_n 3, 1), (133, .iload_n 3, 1), (134, .ifCond .ne 4, 3), (137, .return_, 1), (138, .aload_n 0, 1), (139, .aload_n 0, 1), (140, .getfield 9, 3), (143, .iload_n 2, 1), (144, .iload_n 3, 1), (145, .iadd, 1), (146, .iconst 1, 1), (147, .isub, 1), (148, .iaload, 1), (149, .iload 4, 2), (151, .iload 5, 2), (153, .invokevirtual 63, 3), (156, .istore 5, 2), (158, .iload 5, 2), (160, .ifCond .ne 4, 3), (163, .return_, 1), (164, .iload_n 3, 1), (165, .iload 5, 2), (167, .if_icmp .gt 16, 3), (170, .aload_n 0, 1), (171, .iload_n 2, 1), (172, .iload_n 3, 1), (173, .iload 4, 2), (175, .iload 5, 2), (177, .invokevirtual 66, 3), (180, .goto 13, 3), (183, .aload_n 0, 1), (184, .iload_n 2, 1), (185, .iload_n 3, 1), (186, .iload 4, 2), (188, .iload 5, 2), (190, .invokevirtual 70, 3), (193, .return_, 1)]
set_option maxRecDepth 100000 in
theorem da_S_merge : (dl_S_merge.all fun q => decide (decode b_S_merge q.1 = .ok q.2)) = true := by decide +kernel
theorem d_S_merge_0 : decode b_S_merge 0 = .ok (.aload_n 0, 1) := dk da_S_merge 0 rfl
theorem d_S_merge_1 : decode b_S_merge 1 = .ok (.getfield 18, 3) := dk da_S_merge 1 rfl
theorem d_S_merge_4 : decode b_S_merge 4 = .ok (.iload_n 1, 1) := dk da_S_merge 2 rfl
theorem d_S_merge_5 : decode b_S_merge 5 = .ok (.iaload, 1) := dk da_S_merge 3 rfl
theorem d_S_merge_6 : decode b_S_merge 6 = .ok (.istore_n 2, 1) := dk da_S_merge 4 rfl
theorem d_S_merge_7 : decode b_S_merge 7 = .ok (.aload_n 0, 1) := dk da_S_merge 5 rfl
theorem d_S_merge_8 : decode b_S_merge 8 = .ok (.getfield 21, 3) := dk da_S_merge 6 rfl
theorem d_S_merge_11 : decode b_S_merge 11 = .ok (.iload_n 1, 1) := dk da_S_merge 7 rfl
theorem d_S_merge_12 : decode b_S_merge 12 = .ok (.iaload, 1) := dk da_S_merge 8 rfl
theorem d_S_merge_13 : decode b_S_merge 13 = .ok (.istore_n 3, 1) := dk da_S_merge 9 rfl
theorem d_S_merge_14 : decode b_S_merge 14 = .ok (.aload_n 0, 1) := dk da_S_merge 10 rfl
theorem d_S_merge_15 : decode b_S_merge 15 = .ok (.getfield 18, 3) := dk da_S_merge 11 rfl
theorem d_S_merge_18 : decode b_S_merge 18 = .ok (.iload_n 1, 1) := dk da_S_merge 12 rfl
theorem d_S_merge_19 : decode b_S_merge 19 = .ok (.iconst 1, 1) := dk da_S_merge 13 rfl
theorem d_S_merge_20 : decode b_S_merge 20 = .ok (.iadd, 1) := dk da_S_merge 14 rfl
theorem d_S_merge_21 : decode b_S_merge 21 = .ok (.iaload, 1) := dk da_S_merge 15 rfl
theorem d_S_merge_22 : decode b_S_merge 22 = .ok (.istore 4, 2) := dk da_S_merge 16 rfl
theorem d_S_merge_24 : decode b_S_merge 24 = .ok (.aload_n 0, 1) := dk da_S_merge 17 rfl
theorem d_S_merge_25 : decode b_S_merge 25 = .ok (.getfield 21, 3) := dk da_S_merge 18 rfl
theorem d_S_merge_28 : decode b_S_merge 28 = .ok (.iload_n 1, 1) := dk da_S_merge 19 rfl
theorem d_S_merge_29 : decode b_S_merge 29 = .ok (.iconst 1, 1) := dk da_S_merge 20 rfl
theorem d_S_merge_30 : decode b_S_merge 30 = .ok (.iadd, 1) := dk da_S_merge 21 rfl
theorem d_S_merge_31 : decode b_S_merge 31 = .ok (.iaload, 1) := dk da_S_merge 22 rfl
theorem d_S_merge_32 : decode b_S_merge 32 = .ok (.istore 5, 2) := dk da_S_merge 23 rfl
theorem d_S_merge_34 : decode b_S_merge 34 = .ok (.aload_n 0, 1) := dk da_S_merge 24 rfl
theorem d_S_merge_35 : decode b_S_merge 35 = .ok (.getfield 21, 3) := dk da_S_merge 25 rfl
theorem d_S_merge_38 : decode b_S_merge 38 = .ok (.iload_n 1, 1) := dk da_S_merge 26 rfl
theorem d_S_merge_39 : decode b_S_merge 39 = .ok (.iload_n 3, 1) := dk da_S_merge 27 rfl
theorem d_S_merge_40 : decode b_S_merge 40 = .ok (.iload 5, 2) := dk da_S_merge 28 rfl
theorem d_S_merge_42 : decode b_S_merge 42 = .ok (.iadd, 1) := dk da_S_merge 29 rfl
theorem d_S_merge_43 : decode b_S_merge 43 = .ok (.iastore, 1) := dk da_S_merge 30 rfl
theorem d_S_merge_44 : decode b_S_merge 44 = .ok (.iload_n 1, 1) := dk da_S_merge 31 rfl
theorem d_S_merge_45 : decode b_S_merge 45 = .ok (.iconst 1, 1) := dk da_S_merge 32 rfl
theorem d_S_merge_46 : decode b_S_merge 46 = .ok (.iadd, 1) := dk da_S_merge 33 rfl
theorem d_S_merge_47 : decode b_S_merge 47 = .ok (.istore 6, 2) := dk da_S_merge 34 rfl
theorem d_S_merge_49 : decode b_S_merge 49 = .ok (.iload 6, 2) := dk da_S_merge 35 rfl
theorem d_S_merge_51 : decode b_S_merge 51 = .ok (.iconst 1, 1) := dk da_S_merge 36 rfl
theorem d_S_merge_52 : decode b_S_merge 52 = .ok (.iadd, 1) := dk da_S_merge 37 rfl
theorem d_S_merge_53 : decode b_S_merge 53 = .ok (.aload_n 0, 1) := dk da_S_merge 38 rfl
theorem d_S_merge_54 : decode b_S_merge 54 = .ok (.getfield 28, 3) := dk da_S_merge 39 rfl
theorem d_S_merge_57 : decode b_S_merge 57 = .ok (.if_icmp .ge 41, 3) := dk da_S_merge 40 rfl
theorem d_S_merge_60 : decode b_S_merge 60 = .ok (.aload_n 0, 1) := dk da_S_merge 41 rfl
theorem d_S_merge_61 : decode b_S_merge 61 = .ok (.getfield 18, 3) := dk da_S_merge 42 rfl
theorem d_S_merge_64 : decode b_S_merge 64 = .ok (.iload 6, 2) := dk da_S_merge 43 rfl
theorem d_S_merge_66 : decode b_S_merge 66 = .ok (.aload_n 0, 1) := dk da_S_merge 44 rfl
theorem d_S_merge_67 : decode b_S_merge 67 = .ok (.getfield 18, 3) := dk da_S_merge 45 rfl
theorem d_S_merge_70 : decode b_S_merge 70 = .ok (.iload 6, 2) := dk da_S_merge 46 rfl
theorem d_S_merge_72 : decode b_S_merge 72 = .ok (.iconst 1, 1) := dk da_S_merge 47 rfl
theorem d_S_merge_73 : decode b_S_merge 73 = .ok (.iadd, 1) := dk da_S_merge 48 rfl
theorem d_S_merge_74 : decode b_S_merge 74 = .ok (.iaload, 1) := dk da_S_merge 49 rfl
theorem d_S_merge_75 : decode b_S_merge 75 = .ok (.iastore, 1) := dk da_S_merge 50 rfl
theorem d_S_merge_76 : decode b_S_merge 76 = .ok (.aload_n 0, 1) := dk da_S_merge 51 rfl
theorem d_S_merge_77 : decode b_S_merge 77 = .ok (.getfield 21, 3) := dk da_S_merge 52 rfl
theorem d_S_merge_80 : decode b_S_merge 80 = .ok (.iload 6, 2) := dk da_S_merge 53 rfl
theorem d_S_merge_82 : decode b_S_merge 82 = .ok (.aload_n 0, 1) := dk da_S_merge 54 rfl
theorem d_S_merge_83 : decode b_S_merge 83 = .ok (.getfield 21, 3) := dk da_S_merge 55 rfl
theorem d_S_merge_86 : decode b_S_merge 86 = .ok (.iload 6, 2) := dk da_S_merge 56 rfl
theorem d_S_merge_88 : decode b_S_merge 88 = .ok (.iconst 1, 1) := dk da_S_merge 57 rfl
theorem d_S_merge_89 : decode b_S_merge 89 = .ok (.iadd, 1) := dk da_S_merge 58 rfl
theorem d_S_merge_90 : decode b_S_merge 90 = .ok (.iaload, 1) := dk da_S_merge 59 rfl
theorem d_S_merge_91 : decode b_S_merge 91 = .ok (.iastore, 1) := dk da_S_merge 60 rfl
theorem d_S_merge_92 : decode b_S_merge 92 = .ok (.iinc 6 1, 3) := dk da_S_merge 61 rfl
theorem d_S_merge_95 : decode b_S_merge 95 = .ok (.goto (-46), 3) := dk da_S_merge 62 rfl
theorem d_S_merge_98 : decode b_S_merge 98 = .ok (.aload_n 0, 1) := dk da_S_merge 63 rfl
theorem d_S_merge_99 : decode b_S_merge 99 = .ok (.dup, 1) := dk da_S_merge 64 rfl
theorem d_S_merge_100 : decode b_S_merge 100 = .ok (.getfield 28, 3) := dk da_S_merge 65 rfl
theorem d_S_merge_103 : decode b_S_merge 103 = .ok (.iconst 1, 1) := dk da_S_merge 66 rfl
theorem d_S_merge_104 : decode b_S_merge 104 = .ok (.isub, 1) := dk da_S_merge 67 rfl
theorem d_S_merge_105 : decode b_S_merge 105 = .ok (.putfield 28, 3) := dk da_S_merge 68 rfl
theorem d_S_merge_108 : decode b_S_merge 108 = .ok (.aload_n 0, 1) := dk da_S_merge 69 rfl
theorem d_S_merge_109 : decode b_S_merge 109 = .ok (.aload_n 0, 1) := dk da_S_merge 70 rfl
theorem d_S_merge_110 : decode b_S_merge 110 = .ok (.getfield 9, 3) := dk da_S_merge 71 rfl
theorem d_S_merge_113 : decode b_S_merge 113 = .ok (.iload 4, 2) := dk da_S_merge 72 rfl
theorem d_S_merge_115 : decode b_S_merge 115 = .ok (.iaload, 1) := dk da_S_merge 73 rfl
theorem d_S_merge_116 : decode b_S_merge 116 = .ok (.iload_n 2, 1) := dk da_S_merge 74 rfl
theorem d_S_merge_117 : decode b_S_merge 117 = .ok (.iload_n 3, 1) := dk da_S_merge 75 rfl
theorem d_S_merge_118 : decode b_S_merge 118 = .ok (.invokevirtual 59, 3) := dk da_S_merge 76 rfl
theorem d_S_merge_121 : decode b_S_merge 121 = .ok (.istore 6, 2) := dk da_S_merge 77 rfl
theorem d_S_merge_123 : decode b_S_merge 123 = .ok (.iload_n 2, 1) := dk da_S_merge 78 rfl
theorem d_S_merge_124 : decode b_S_merge 124 = .ok (.iload 6, 2) := dk da_S_merge 79 rfl
theorem d_S_merge_126 : decode b_S_merge 126 = .ok (.iadd, 1) := dk da_S_merge 80 rfl
theorem d_S_merge_127 : decode b_S_merge 127 = .ok (.istore_n 2, 1) := dk da_S_merge 81 rfl
theorem d_S_merge_128 : decode b_S_merge 128 = .ok (.iload_n 3, 1) := dk da_S_merge 82 rfl
theorem d_S_merge_129 : decode b_S_merge 129 = .ok (.iload 6, 2) := dk da_S_merge 83 rfl
theorem d_S_merge_131 : decode b_S_merge 131 = .ok (.isub, 1) := dk da_S_merge 84 rfl
theorem d_S_merge_132 : decode b_S_merge 132 = .ok (.istore_n 3, 1) := dk da_S_merge 85 rfl
theorem d_S_merge_133 : decode b_S_merge 133 = .ok (.iload_n 3, 1) := dk da_S_merge 86 rfl
theorem d_S_merge_134 : decode b_S_merge 134 = .ok (.ifCond .ne 4, 3) := dk da_S_merge 87 rfl
theorem d_S_merge_137 : decode b_S_merge 137 = .ok (.return_, 1) := dk da_S_merge 88 rfl
theorem d_S_merge_138 : decode b_S_merge 138 = .ok (.aload_n 0, 1) := dk da_S_merge 89 rfl
theorem d_S_merge_139 : decode b_S_merge 139 = .ok (.aload_n 0, 1) := dk da_S_merge 90 rfl
theorem d_S_merge_140 : decode b_S_merge 140 = .ok (.getfield 9, 3) := dk da_S_merge 91 rfl
theorem d_S_merge_143 : decode b_S_merge 143 = .ok (.iload_n 2, 1) := dk da_S_merge 92 rfl
theorem d_S_merge_144 : decode b_S_merge 144 = .ok (.iload_n 3, 1) := dk da_S_merge 93 rfl
theorem d_S_merge_145 : decode b_S_merge 145 = .ok (.iadd, 1) := dk da_S_merge 94 rfl
theorem d_S_merge_146 : decode b_S_merge 146 = .ok (.iconst 1, 1) := dk da_S_merge 95 rfl
theorem d_S_merge_147 : decode b_S_merge 147 = .ok (.isub, 1) := dk da_S_merge 96 rfl
theorem d_S_merge_148 : decode b_S_merge 148 = .ok (.iaload, 1) := dk da_S_merge 97 rfl
theorem d_S_merge_149 : decode b_S_merge 149 = .ok (.iload 4, 2) := dk da_S_merge 98 rfl
theorem d_S_merge_151 : decode b_S_merge 151 = .ok (.iload 5, 2) := dk da_S_merge 99 rfl
theorem d_S_merge_153 : decode b_S_merge 153 = .ok (.invokevirtual 63, 3) := dk da_S_merge 100 rfl
theorem d_S_merge_156 : decode b_S_merge 156 = .ok (.istore 5, 2) := dk da_S_merge 101 rfl
theorem d_S_merge_158 : decode b_S_merge 158 = .ok (.iload 5, 2) := dk da_S_merge 102 rfl
theorem d_S_merge_160 : decode b_S_merge 160 = .ok (.ifCond .ne 4, 3) := dk da_S_merge 103 rfl
theorem d_S_merge_163 : decode b_S_merge 163 = .ok (.return_, 1) := dk da_S_merge 104 rfl
theorem d_S_merge_164 : decode b_S_merge 164 = .ok (.iload_n 3, 1) := dk da_S_merge 105 rfl
theorem d_S_merge_165 : decode b_S_merge 165 = .ok (.iload 5, 2) := dk da_S_merge 106 rfl
theorem d_S_merge_167 : decode b_S_merge 167 = .ok (.if_icmp .gt 16, 3) := dk da_S_merge 107 rfl
theorem d_S_merge_170 : decode b_S_merge 170 = .ok (.aload_n 0, 1) := dk da_S_merge 108 rfl
theorem d_S_merge_171 : decode b_S_merge 171 = .ok (.iload_n 2, 1) := dk da_S_merge 109 rfl
theorem d_S_merge_172 : decode b_S_merge 172 = .ok (.iload_n 3, 1) := dk da_S_merge 110 rfl
theorem d_S_merge_173 : decode b_S_merge 173 = .ok (.iload 4, 2) := dk da_S_merge 111 rfl
theorem d_S_merge_175 : decode b_S_merge 175 = .ok (.iload 5, 2) := dk da_S_merge 112 rfl
theorem d_S_merge_177 : decode b_S_merge 177 = .ok (.invokevirtual 66, 3) := dk da_S_merge 113 rfl
theorem d_S_merge_180 : decode b_S_merge 180 = .ok (.goto 13, 3) := dk da_S_merge 114 rfl
theorem d_S_merge_183 : decode b_S_merge 183 = .ok (.aload_n 0, 1) := dk da_S_merge 115 rfl
theorem d_S_merge_184 : decode b_S_merge 184 = .ok (.iload_n 2, 1) := dk da_S_merge 116 rfl
theorem d_S_merge_185 : decode b_S_merge 185 = .ok (.iload_n 3, 1) := dk da_S_merge 117 rfl
theorem d_S_merge_186 : decode b_S_merge 186 = .ok (.iload 4, 2) := dk da_S_merge 118 rfl
theorem d_S_merge_188 : decode b_S_merge 188 = .ok (.iload 5, 2) := dk da_S_merge 119 rfl
theorem d_S_merge_190 : decode b_S_merge 190 = .ok (.invokevirtual 70, 3) := dk da_S_merge 120 rfl
theorem d_S_merge_193 : decode b_S_merge 193 = .ok (.return_, 1) := dk da_S_merge 121 rfl
def dl_S_behind : List (Nat × Instr × Nat) := [(0, .iconst 1, 1), (1, .istore 4, 2), (3, .iconst 0, 1), (4, .istore 5, 2), (6, .iload 5, 2), (8, .iload 4, 2), (10, .iadd, 1), (11, .iload_n 3, 1), (12, .if_icmp .gt 46, 3), (15, .aload_n 0, 1), (16, .getfield 24, 3), (19, .iload_n 1, 1), (20, .aload_n 0, 1), (21, .getfield 9, 3), (24, .iload_n 2, 1), (25, .iload 5, 2), (27, .iadd, 1), (28, .iload 4, 2), (30, .iadd, 1), (31, .iconst 1, 1), (32, .isub, 1), (33, .iaload, 1), (34, .invokeinterface 54 3, 5), (39, .ifCond .lt 19, 3), (42, .iload 5, 2), (44, .iload 4, 2), (46, .iadd, 1), (47, .istore 5, 2), (49, .iload 4, 2), (51, .iconst 2, 1), (52, .imul, 1), (53, .istore 4, 2), (55, .goto (-49), 3), (58, .iload 5, 2), (60, .iload 4, 2), (62, .iadd, 1), (63, .iload_n 3, 1), (64, .if_icmp .gt 13, 3), (67, .iload 5, 2), (69, .iload 4, 2), (71, .iadd, 1), (72, .iconst 1, 1), (73, .isub, 1), (74, .goto 4, 3), (77, .iload_n 3, 1), (78, .istore 6, 2), (80, .iload 5, 2), (82, .iload 6, 2), (84, .if_icmp .ge 50, 3), (87, .iload 5, 2), (89, .iload 6, 2), (91, .iadd, 1), (92, .iconst 1, 1), (93, .iushr, 1), (94, .istore 7, 2), (96, .aload_n 0, 1), (97, .getfield 24, 3), (100, .iload_n 1, 1), (101, .aload_n 0, 1), (102, .getfield 9, 3), (105, .iload_n 2, 1), (106, .iload 7, 2), (108, .iadd, 1), (109, .iaload, 1), (110, .invokeinterface 54 3, 5), (115, .ifCond .lt 12, 3), (118, .iload 7, 2), (120, .iconst 1, 1), (121, .iadd, 1), (122, .istore 5, 2), (124, .goto 7, 3), (127, .iload 7, 2), (129, .istore 6, 2), (131, .goto (-51), 3), (134, .iload 5, 2), (136, .ireturn, 1)]
set_option maxRecDepth 100000 in
theorem da_S_behind : (dl_S_behind.all fun q => decide (decode b_S_behind q.1 = .ok q.2)) = true := by decide +kernel
theorem d_S_behind_0 : decode b_S_behind 0 = .ok (.iconst 1, 1) := dk da_S_behind 0 rfl
theorem d_S_behind_1 : decode b_S_behind 1 = .ok (.istore 4, 2) := dk da_S_behind 1 rfl
theorem d_S_behind_3 : decode b_S_behind 3 = .ok (.iconst 0, 1) := dk da_S_behind 2 rfl
theorem d_S_behind_4 : decode b_S_behind 4 = .ok (.istore 5, 2) := dk da_S_behind 3 rfl
theorem d_S_behind_6 : decode b_S_behind 6 = .ok (.iload 5, 2) := dk da_S_behind 4 rfl
theorem d_S_behind_8 : decode b_S_behind 8 = .ok (.iload 4, 2) := dk da_S_behind 5 rfl
theorem d_S_behind_10 : decode b_S_behind 10 = .ok (.iadd, 1) := dk da_S_behind 6 rfl
theorem d_S_behind_11 : decode b_S_behind 11 = .ok (.iload_n 3, 1) := dk da_S_behind 7 rfl
theorem d_S_behind_12 : decode b_S_behind 12 = .ok (.if_icmp .gt 46, 3) := dk da_S_behind 8 rfl
theorem d_S_behind_15 : decode b_S_behind 15 = .ok (.aload_n 0, 1) := dk da_S_behind 9 rfl
theorem d_S_behind_16 : decode b_S_behind 16 = .ok (.getfield 24, 3) := dk da_S_behind 10 rfl
theorem d_S_behind_19 : decode b_S_behind 19 = .ok (.iload_n 1, 1) := dk da_S_behind 11 rfl
theorem d_S_behind_20 : decode b_S_behind 20 = .ok (.aload_n 0, 1) := dk da_S_behind 12 rfl
theorem d_S_behind_21 : decode b_S_behind 21 = .ok (.getfield 9, 3) := dk da_S_behind 13 rfl
theorem d_S_behind_24 : decode b_S_behind 24 = .ok (.iload_n 2, 1) := dk da_S_behind 14 rfl
theorem d_S_behind_25 : decode b_S_behind 25 = .ok (.iload 5, 2) := dk da_S_behind 15 rfl
theorem d_S_behind_27 : decode b_S_behind 27 = .ok (.iadd, 1) := dk da_S_behind 16 rfl
theorem d_S_behind_28 : decode b_S_behind 28 = .ok (.iload 4, 2) := dk da_S_behind 17 rfl
theorem d_S_behind_30 : decode b_S_behind 30 = .ok (.iadd, 1) := dk da_S_behind 18 rfl
theorem d_S_behind_31 : decode b_S_behind 31 = .ok (.iconst 1, 1) := dk da_S_behind 19 rfl
theorem d_S_behind_32 : decode b_S_behind 32 = .ok (.isub, 1) := dk da_S_behind 20 rfl
theorem d_S_behind_33 : decode b_S_behind 33 = .ok (.iaload, 1) := dk da_S_behind 21 rfl
theorem d_S_behind_34 : decode b_S_behind 34 = .ok (.invokeinterface 54 3, 5) := dk da_S_behind 22 rfl
theorem d_S_behind_39 : decode b_S_behind 39 = .ok (.ifCond .lt 19, 3) := dk da_S_behind 23 rfl
theorem d_S_behind_42 : decode b_S_behind 42 = .ok (.iload 5, 2) := dk da_S_behind 24 rfl
theorem d_S_behind_44 : decode b_S_behind 44 = .ok (.iload 4, 2) := dk da_S_behind 25 rfl
theorem d_S_behind_46 : decode b_S_behind 46 = .ok (.iadd, 1) := dk da_S_behind 26 rfl
theorem d_S_behind_47 : decode b_S_behind 47 = .ok (.istore 5, 2) := dk da_S_behind 27 rfl
theorem d_S_behind_49 : decode b_S_behind 49 = .ok (.iload 4, 2) := dk da_S_behind 28 rfl
theorem d_S_behind_51 : decode b_S_behind 51 = .ok (.iconst 2, 1) := dk da_S_behind 29 rfl
theorem d_S_behind_52 : decode b_S_behind 52 = .ok (.imul, 1) := dk da_S_behind 30 rfl
theorem d_S_behind_53 : decode b_S_behind 53 = .ok (.istore 4, 2) := dk da_S_behind 31 rfl
theorem d_S_behind_55 : decode b_S_behind 55 = .ok (.goto (-49), 3) := dk da_S_behind 32 rfl
theorem d_S_behind_58 : decode b_S_behind 58 = .ok (.iload 5, 2) := dk da_S_behind 33 rfl
theorem d_S_behind_60 : decode b_S_behind 60 = .ok (.iload 4, 2) := dk da_S_behind 34 rfl
theorem d_S_behind_62 : decode b_S_behind 62 = .ok (.iadd, 1) := dk da_S_behind 35 rfl
theorem d_S_behind_63 : decode b_S_behind 63 = .ok (.iload_n 3, 1) := dk da_S_behind 36 rfl
theorem d_S_behind_64 : decode b_S_behind 64 = .ok (.if_icmp .gt 13, 3) := dk da_S_behind 37 rfl
theorem d_S_behind_67 : decode b_S_behind 67 = .ok (.iload 5, 2) := dk da_S_behind 38 rfl
theorem d_S_behind_69 : decode b_S_behind 69 = .ok (.iload 4, 2) := dk da_S_behind 39 rfl
theorem d_S_behind_71 : decode b_S_behind 71 = .ok (.iadd, 1) := dk da_S_behind 40 rfl
theorem d_S_behind_72 : decode b_S_behind 72 = .ok (.iconst 1, 1) := dk da_S_behind 41 rfl
theorem d_S_behind_73 : decode b_S_behind 73 = .ok (.isub, 1) := dk da_S_behind 42 rfl
theorem d_S_behind_74 : decode b_S_behind 74 = .ok (.goto 4, 3) := dk da_S_behind 43 rfl
theorem d_S_behind_77 : decode b_S_behind 77 = .ok (.iload_n 3, 1) := dk da_S_behind 44 rfl
theorem d_S_behind_78 : decode b_S_behind 78 = .ok (.istore 6, 2) := dk da_S_behind 45 rfl
theorem d_S_behind_80 : decode b_S_behind 80 = .ok (.iload 5, 2) := dk da_S_behind 46 rfl
theorem d_S_behind_82 : decode b_S_behind 82 = .ok (.iload 6, 2) := dk da_S_behind 47 rfl
theorem d_S_behind_84 : decode b_S_behind 84 = .ok (.if_icmp .ge 50, 3) := dk da_S_behind 48 rfl
theorem d_S_behind_87 : decode b_S_behind 87 = .ok (.iload 5, 2) := dk da_S_behind 49 rfl
theorem d_S_behind_89 : decode b_S_behind 89 = .ok (.iload 6, 2) := dk da_S_behind 50 rfl
theorem d_S_behind_91 : decode b_S_behind 91 = .ok (.iadd, 1) := dk da_S_behind 51 rfl
theorem d_S_behind_92 : decode b_S_behind 92 = .ok (.iconst 1, 1) := dk da_S_behind 52 rfl
theorem d_S_behind_93 : decode b_S_behind 93 = .ok (.iushr, 1) := dk da_S_behind 53 rfl
theorem d_S_behind_94 : decode b_S_behind 94 = .ok (.istore 7, 2) := dk da_S_behind 54 rfl
theorem d_S_behind_96 : decode b_S_behind 96 = .ok (.aload_n 0, 1) := dk da_S_behind 55 rfl
theorem d_S_behind_97 : decode b_S_behind 97 = .ok (.getfield 24, 3) := dk da_S_behind 56 rfl
theorem d_S_behind_100 : decode b_S_behind 100 = .ok (.iload_n 1, 1) := dk da_S_behind 57 rfl
theorem d_S_behind_101 : decode b_S_behind 101 = .ok (.aload_n 0, 1) := dk da_S_behind 58 rfl
theorem d_S_behind_102 : decode b_S_behind 102 = .ok (.getfield 9, 3) := dk da_S_behind 59 rfl
theorem d_S_behind_105 : decode b_S_behind 105 = .ok (.iload_n 2, 1) := dk da_S_behind 60 rfl
theorem d_S_behind_106 : decode b_S_behind 106 = .ok (.iload 7, 2) := dk da_S_behind 61 rfl
theorem d_S_behind_108 : decode b_S_behind 108 = .ok (.iadd, 1) := dk da_S_behind 62 rfl
theorem d_S_behind_109 : decode b_S_behind 109 = .ok (.iaload, 1) := dk da_S_behind 63 rfl
theorem d_S_behind_110 : decode b_S_behind 110 = .ok (.invokeinterface 54 3, 5) := dk da_S_behind 64 rfl
theorem d_S_behind_115 : decode b_S_behind 115 = .ok (.ifCond .lt 12, 3) := dk da_S_behind 65 rfl
theorem d_S_behind_118 : decode b_S_behind 118 = .ok (.iload 7, 2) := dk da_S_behind 66 rfl
theorem d_S_behind_120 : decode b_S_behind 120 = .ok (.iconst 1, 1) := dk da_S_behind 67 rfl
theorem d_S_behind_121 : decode b_S_behind 121 = .ok (.iadd, 1) := dk da_S_behind 68 rfl
theorem d_S_behind_122 : decode b_S_behind 122 = .ok (.istore 5, 2) := dk da_S_behind 69 rfl
theorem d_S_behind_124 : decode b_S_behind 124 = .ok (.goto 7, 3) := dk da_S_behind 70 rfl
theorem d_S_behind_127 : decode b_S_behind 127 = .ok (.iload 7, 2) := dk da_S_behind 71 rfl
theorem d_S_behind_129 : decode b_S_behind 129 = .ok (.istore 6, 2) := dk da_S_behind 72 rfl
theorem d_S_behind_131 : decode b_S_behind 131 = .ok (.goto (-51), 3) := dk da_S_behind 73 rfl
theorem d_S_behind_134 : decode b_S_behind 134 = .ok (.iload 5, 2) := dk da_S_behind 74 rfl
theorem d_S_behind_136 : decode b_S_behind 136 = .ok (.ireturn, 1) := dk da_S_behind 75 rfl
def dl_S_notBefore : List (Nat × Instr × Nat) := [(0, .iconst 1, 1), (1, .istore 4, 2), (3, .iload_n 3, 1), (4, .istore 5, 2), (6, .iload 5, 2), (8, .iload 4, 2), (10, .isub, 1), (11, .ifCond .lt 44, 3), (14, .aload_n 0, 1), (15, .getfield 24, 3), (18, .aload_n 0, 1), (19, .getfield 9, 3), (22, .iload_n 2, 1), (23, .iload 5, 2), (25, .iadd, 1), (26, .iload 4, 2), (28, .isub, 1), (29, .iaload, 1), (30, .iload_n 1, 1), (31, .invokeinterface 54 3, 5), (36, .ifCond .lt 19, 3), (39, .iload 5, 2), (41, .iload 4, 2), (43, .isub, 1), (44, .istore 5, 2), (46, .iload 4, 2), (48, .iconst 2, 1), (49, .imul, 1), (50, .istore 4, 2), (52, .goto (-46), 3), (55, .iload 5, 2), (57, .iload 4, 2), (59, .isub, 1), (60, .ifCond .lt 13, 3), (63, .iload 5, 2), (65, .iload 4, 2), (67, .isub, 1), (68, .iconst 1, 1), (69, .iadd, 1), (70, .goto 4, 3), (73, .iconst 0, 1), (74, .istore 6, 2), (76, .iload 6, 2), (78, .iload 5, 2), (80, .if_icmp .ge 50, 3), (83, .iload 6, 2), (85, .iload 5, 2), (87, .iadd, 1), (88, .iconst 1, 1), (89, .iushr, 1), (90, .istore 7, 2), (92, .aload_n 0, 1), (93, .getfield 24, 3), (96, .aload_n 0, 1), (97, .getfield 9, 3), (100, .iload_n 2, 1), (101, .iload 7, 2), (103, .iadd, 1), (104, .iaload, 1), (105, .iload_n 1, 1), (106, .invokeinterface 54 3, 5), (111, .ifCond .ge 12, 3), (114, .iload 7, 2), (116, .iconst 1, 1), (117, .iadd, 1), (118, .istore 6, 2), (120, .goto 7, 3), (123, .iload 7, 2), (125, .istore 5, 2), (127, .goto (-51), 3), (130, .iload 6, 2), (132, .ireturn, 1)]
set_option maxRecDepth 100000 in
theorem da_S_notBefore : (dl_S_notBefore.all fun q => decide (decode b_S_notBefore q.1 = .ok q.2)) = true := by decide +kernel
theorem d_S_notBefore_0 : decode b_S_notBefore 0 = .ok (.iconst 1, 1) := dk da_S_notBefore 0 rfl
theorem d_S_notBefore_1 : decode b_S_notBefore 1 = .ok (.istore 4, 2) := dk da_S_notBefore 1 rfl
theorem d_S_notBefore_3 : decode b_S_notBefore 3 = .ok (.iload_n 3, 1) := dk da_S_notBefore 2 rfl
theorem d_S_notBefore_4 : decode b_S_notBefore 4 = .ok (.istore 5, 2) := dk da_S_notBefore 3 rfl
theorem d_S_notBefore_6 : decode b_S_notBefore 6 = .ok (.iload 5, 2) := dk da_S_notBefore 4 rfl
theorem d_S_notBefore_8 : decode b_S_notBefore 8 = .ok (.iload 4, 2) := dk da_S_notBefore 5 rfl
theorem d_S_notBefore_10 : decode b_S_notBefore 10 = .ok (.isub, 1) := dk da_S_notBefore 6 rfl
theorem d_S_notBefore_11 : decode b_S_notBefore 11 = .ok (.ifCond .lt 44, 3) := dk da_S_notBefore 7 rfl
theorem d_S_notBefore_14 : decode b_S_notBefore 14 = .ok (.aload_n 0, 1) := dk da_S_notBefore 8 rfl
theorem d_S_notBefore_15 : decode b_S_notBefore 15 = .ok (.getfield 24, 3) := dk da_S_notBefore 9 rfl
theorem d_S_notBefore_18 : decode b_S_notBefore 18 = .ok (.aload_n 0, 1) := dk da_S_notBefore 10 rfl
theorem d_S_notBefore_19 : decode b_S_notBefore 19 = .ok (.getfield 9, 3) := dk da_S_notBefore 11 rfl
theorem d_S_notBefore_22 : decode b_S_notBefore 22 = .ok (.iload_n 2, 1) := dk da_S_notBefore 12 rfl
theorem d_S_notBefore_23 : decode b_S_notBefore 23 = .ok (.iload 5, 2) := dk da_S_notBefore 13 rfl
theorem d_S_notBefore_25 : decode b_S_notBefore 25 = .ok (.iadd, 1) := dk da_S_notBefore 14 rfl
theorem d_S_notBefore_26 : decode b_S_notBefore 26 = .ok (.iload 4, 2) := dk da_S_notBefore 15 rfl
theorem d_S_notBefore_28 : decode b_S_notBefore 28 = .ok (.isub, 1) := dk da_S_notBefore 16 rfl
theorem d_S_notBefore_29 : decode b_S_notBefore 29 = .ok (.iaload, 1) := dk da_S_notBefore 17 rfl
theorem d_S_notBefore_30 : decode b_S_notBefore 30 = .ok (.iload_n 1, 1) := dk da_S_notBefore 18 rfl
theorem d_S_notBefore_31 : decode b_S_notBefore 31 = .ok (.invokeinterface 54 3, 5) := dk da_S_notBefore 19 rfl
theorem d_S_notBefore_36 : decode b_S_notBefore 36 = .ok (.ifCond .lt 19, 3) := dk da_S_notBefore 20 rfl
theorem d_S_notBefore_39 : decode b_S_notBefore 39 = .ok (.iload 5, 2) := dk da_S_notBefore 21 rfl
theorem d_S_notBefore_41 : decode b_S_notBefore 41 = .ok (.iload 4, 2) := dk da_S_notBefore 22 rfl
theorem d_S_notBefore_43 : decode b_S_notBefore 43 = .ok (.isub, 1) := dk da_S_notBefore 23 rfl
theorem d_S_notBefore_44 : decode b_S_notBefore 44 = .ok (.istore 5, 2) := dk da_S_notBefore 24 rfl
theorem d_S_notBefore_46 : decode b_S_notBefore 46 = .ok (.iload 4, 2) := dk da_S_notBefore 25 rfl
theorem d_S_notBefore_48 : decode b_S_notBefore 48 = .ok (.iconst 2, 1) := dk da_S_notBefore 26 rfl
theorem d_S_notBefore_49 : decode b_S_notBefore 49 = .ok (.imul, 1) := dk da_S_notBefore 27 rfl
theorem d_S_notBefore_50 : decode b_S_notBefore 50 = .ok (.istore 4, 2) := dk da_S_notBefore 28 rfl
theorem d_S_notBefore_52 : decode b_S_notBefore 52 = .ok (.goto (-46), 3) := dk da_S_notBefore 29 rfl
theorem d_S_notBefore_55 : decode b_S_notBefore 55 = .ok (.iload 5, 2) := dk da_S_notBefore 30 rfl
theorem d_S_notBefore_57 : decode b_S_notBefore 57 = .ok (.iload 4, 2) := dk da_S_notBefore 31 rfl
theorem d_S_notBefore_59 : decode b_S_notBefore 59 = .ok (.isub, 1) := dk da_S_notBefore 32 rfl
theorem d_S_notBefore_60 : decode b_S_notBefore 60 = .ok (.ifCond .lt 13, 3) := dk da_S_notBefore 33 rfl
theorem d_S_notBefore_63 : decode b_S_notBefore 63 = .ok (.iload 5, 2) := dk da_S_notBefore 34 rfl
theorem d_S_notBefore_65 : decode b_S_notBefore 65 = .ok (.iload 4, 2) := dk da_S_notBefore 35 rfl
theorem d_S_notBefore_67 : decode b_S_notBefore 67 = .ok (.isub, 1) := dk da_S_notBefore 36 rfl
theorem d_S_notBefore_68 : decode b_S_notBefore 68 = .ok (.iconst 1, 1) := dk da_S_notBefore 37 rfl
theorem d_S_notBefore_69 : decode b_S_notBefore 69 = .ok (.iadd, 1) := dk da_S_notBefore 38 rfl
theorem d_S_notBefore_70 : decode b_S_notBefore 70 = .ok (.goto 4, 3) := dk da_S_notBefore 39 rfl
theorem d_S_notBefore_73 : decode b_S_notBefore 73 = .ok (.iconst 0, 1) := dk da_S_notBefore 40 rfl
theorem d_S_notBefore_74 : decode b_S_notBefore 74 = .ok (.istore 6, 2) := dk da_S_notBefore 41 rfl
theorem d_S_notBefore_76 : decode b_S_notBefore 76 = .ok (.iload 6, 2) := dk da_S_notBefore 42 rfl
theorem d_S_notBefore_78 : decode b_S_notBefore 78 = .ok (.iload 5, 2) := dk da_S_notBefore 43 rfl
theorem d_S_notBefore_80 : decode b_S_notBefore 80 = .ok (.if_icmp .ge 50, 3) := dk da_S_notBefore 44 rfl
theorem d_S_notBefore_83 : decode b_S_notBefore 83 = .ok (.iload 6, 2) := dk da_S_notBefore 45 rfl
theorem d_S_notBefore_85 : decode b_S_notBefore 85 = .ok (.iload 5, 2) := dk da_S_notBefore 46 rfl
theorem d_S_notBefore_87 : decode b_S_notBefore 87 = .ok (.iadd, 1) := dk da_S_notBefore 47 rfl
theorem d_S_notBefore_88 : decode b_S_notBefore 88 = .ok (.iconst 1, 1) := dk da_S_notBefore 48 rfl
theorem d_S_notBefore_89 : decode b_S_notBefore 89 = .ok (.iushr, 1) := dk da_S_notBefore 49 rfl
theorem d_S_notBefore_90 : decode b_S_notBefore 90 = .ok (.istore 7, 2) := dk da_S_notBefore 50 rfl
theorem d_S_notBefore_92 : decode b_S_notBefore 92 = .ok (.aload_n 0, 1) := dk da_S_notBefore 51 rfl
theorem d_S_notBefore_93 : decode b_S_notBefore 93 = .ok (.getfield 24, 3) := dk da_S_notBefore 52 rfl
theorem d_S_notBefore_96 : decode b_S_notBefore 96 = .ok (.aload_n 0, 1) := dk da_S_notBefore 53 rfl
theorem d_S_notBefore_97 : decode b_S_notBefore 97 = .ok (.getfield 9, 3) := dk da_S_notBefore 54 rfl
theorem d_S_notBefore_100 : decode b_S_notBefore 100 = .ok (.iload_n 2, 1) := dk da_S_notBefore 55 rfl
theorem d_S_notBefore_101 : decode b_S_notBefore 101 = .ok (.iload 7, 2) := dk da_S_notBefore 56 rfl
theorem d_S_notBefore_103 : decode b_S_notBefore 103 = .ok (.iadd, 1) := dk da_S_notBefore 57 rfl
theorem d_S_notBefore_104 : decode b_S_notBefore 104 = .ok (.iaload, 1) := dk da_S_notBefore 58 rfl
theorem d_S_notBefore_105 : decode b_S_notBefore 105 = .ok (.iload_n 1, 1) := dk da_S_notBefore 59 rfl
theorem d_S_notBefore_106 : decode b_S_notBefore 106 = .ok (.invokeinterface 54 3, 5) := dk da_S_notBefore 60 rfl
theorem d_S_notBefore_111 : decode b_S_notBefore 111 = .ok (.ifCond .ge 12, 3) := dk da_S_notBefore 61 rfl
theorem d_S_notBefore_114 : decode b_S_notBefore 114 = .ok (.iload 7, 2) := dk da_S_notBefore 62 rfl
theorem d_S_notBefore_116 : decode b_S_notBefore 116 = .ok (.iconst 1, 1) := dk da_S_notBefore 63 rfl
theorem d_S_notBefore_117 : decode b_S_notBefore 117 = .ok (.iadd, 1) := dk da_S_notBefore 64 rfl
theorem d_S_notBefore_118 : decode b_S_notBefore 118 = .ok (.istore 6, 2) := dk da_S_notBefore 65 rfl
theorem d_S_notBefore_120 : decode b_S_notBefore 120 = .ok (.goto 7, 3) := dk da_S_notBefore 66 rfl
theorem d_S_notBefore_123 : decode b_S_notBefore 123 = .ok (.iload 7, 2) := dk da_S_notBefore 67 rfl
theorem d_S_notBefore_125 : decode b_S_notBefore 125 = .ok (.istore 5, 2) := dk da_S_notBefore 68 rfl
theorem d_S_notBefore_127 : decode b_S_notBefore 127 = .ok (.goto (-51), 3) := dk da_S_notBefore 69 rfl
theorem d_S_notBefore_130 : decode b_S_notBefore 130 = .ok (.iload 6, 2) := dk da_S_notBefore 70 rfl
theorem d_S_notBefore_132 : decode b_S_notBefore 132 = .ok (.ireturn, 1) := dk da_S_notBefore 71 rfl
def dl_S_mergeUp : List (Nat × Instr × Nat) := [(0, .iconst 0, 1), (1, .istore 5, 2), (3, .iload 5, 2), (5, .iload_n 2, 1), (6, .if_icmp .ge 25, 3), (9, .aload_n 0, 1), (10, .getfield 15, 3), (13, .iload 5, 2), (15, .aload_n 0, 1), (16, .getfield 9, 3), (19, .iload_n 1, 1), (20, .iload 5, 2), (22, .iadd, 1), (23, .iaload, 1), (24, .iastore, 1), (25, .iinc 5 1, 3), (28, .goto (-25), 3), (31, .iconst 0, 1), (32, .istore 5, 2), (34, .iload_n 3, 1), (35, .istore 6, 2), (37, .iload_n 3, 1), (38, .iload 4, 2), (40, .iadd, 1), (41, .istore 7, 2), (43, .iload_n 1, 1), (44, .istore 8, 2), (46, .iconst 0, 1), (47, .istore 9, 2), (49, .iconst 1, 1), (50, .istore 10, 2), (52, .iload 5, 2), (54, .iload_n 2, 1), (55, .if_icmp .ge 275, 3), (58, .iload 6, 2), (60, .iload 7, 2), (62, .if_icmp .ge 268, 3), (65, .aload_n 0, 1), (66, .getfield 24, 3), (69, .aload_n 0, 1), (70, .getfield 9, 3), (73, .iload 6, 2), (75, .iaload, 1), (76, .aload_n 0, 1), (77, .getfield 15, 3), (80, .iload 5, 2), (82, .iaload, 1), (83, .invokeinterface 54 3, 5), (88, .ifCond .ge 7, 3), (91, .iconst 1, 1), (92, .goto 4, 3), (95, .iconst 0, 1), (96, .istore 11, 2), (98, .aload_n 0, 1), (99, .getfield 9, 3), (102, .iload 8, 2), (104, .iload 11, 2), (106, .ifCond .eq 16, 3), (109, .aload_n 0, 1), (110, .getfield 9, 3), (113, .iload 6, 2), (115, .iinc 6 1, 3), (118, .iaload, 1), (119, .goto 13, 3), (122, .aload_n 0, 1), (123, .getfield 15, 3), (126, .iload 5, 2), (128, .iinc 5 1, 3), (131, .iaload, 1), (132, .iastore, 1), (133, .iinc 8 1, 3), (136, .iload 11, 2), (138, .iload 10, 2), (140, .if_icmp .eq 10, 3), (143, .iload 9, 2), (145, .iconst 1, 1), (146, .iadd, 1), (147, .goto 4, 3), (150, .iconst 1, 1), (151, .istore 9, 2), (153, .iload 11, 2), (155, .ifCond .ne 7, 3), (158, .iconst 1, 1), (159, .goto 4, 3), (162, .iconst 0, 1), (163, .istore 10, 2), (165, .iload 9, 2), (167, .aload_n 0, 1), (168, .getfield 32, 3), (171, .if_icmp .lt (-119), 3), (174, .iload 5, 2), (176, .iload_n 2, 1), (177, .if_icmp .eq (-125), 3), (180, .iload 6, 2), (182, .iload 7, 2), (184, .if_icmp .ne 6, 3), (187, .goto (-135), 3), (190, .iload 11, 2), (192, .ifCond .eq 24, 3), (195, .aload_n 0, 1), (196, .aload_n 0, 1), (197, .getfield 15, 3), (200, .iload 5, 2), (202, .iaload, 1), (203, .iload 6, 2), (205, .iload 7, 2), (207, .iload 6, 2), (209, .isub, 1), (210, .invokevirtual 63, 3), (213, .goto 17, 3), (216, .aload_n 0, 1), (217, .aload_n 0, 1), (218, .getfield 9, 3), (221, .iload 6, 2), (223, .iaload, 1), (224, .iload 5, 2), (226, .iload_n 2, 1), (227, .invokevirtual 73, 3), (230, .istore 12, 2), (232, .iconst 0, 1), (233, .istore 13, 2), (235, .iload 13, 2), (237, .iload 12, 2), (239, .if_icmp .ge 47, 3), (242, .aload_n 0, 1), (243, .getfield 9, 3), (246, .iload 8, 2), (248, .iload 11, 2), (250, .ifCond .eq 16, 3), (253, .aload_n 0, 1), (254, .getfield 9, 3), (257, .iload 6, 2), (259, .iinc 6 1, 3), (262, .iaload, 1), (263, .goto 13, 3), (266, .aload_n 0, 1), (267, .getfield 15, 3), (270, .iload 5, 2), (272, .iinc 5 1, 3), (275, .iaload, 1), (276, .iastore, 1), (277, .iinc 8 1, 3), (280, .iinc 13 1, 3), (283, .goto (-48), 3), (286, .aload_n 0, 1), (287, .iload 12, 2), (289, .bipush 7, 2), (291, .if_icmp .lt 24, 3), (294, .aload_n 0, 1), (295, .getfield 32, 3), (298, .iconst 1, 1), (299, .if_icmp .le 12, 3), (302, .aload_n 0, 1), (303, .getfield 32, 3), (306, .iconst 1, 1), (307, .isub, 1), (308, .goto 13, 3), (311, .iconst 1, 1), (312, .goto 9, 3), (315, .aload_n 0, 1), (316, .getfield 32, 3), (319, .iconst 2, 1), (320, .iadd, 1), (321, .putfield 32, 3), (324, .iconst 0, 1), (325, .istore 9, 2), (327, .goto (-275), 3), (330, .iload 5, 2), (332, .iload_n 2, 1), (333, .if_icmp .ge 26, 3), (336, .aload_n 0, 1), (337, .getfield 9, 3), (340, .iload 8, 2), (342, .iinc 8 1, 3), (345, .aload_n 0, 1), (346, .getfield 15, 3), (349, .iload 5, 2), (351, .iinc 5 1, 3), (354, .iaload, 1), (355, .iastore, 1), (356, .goto (-26), 3), (359, .return_, 1)]
set_option maxRecDepth 100000 in
theorem da_S_mergeUp : (dl_S_mergeUp.all fun q => decide (decode b_S_mergeUp q.1 = .ok q.2)) = true := by decide +kernel
theorem d_S_mergeUp_0 : decode b_S_mergeUp 0 = .ok (.iconst 0, 1) := dk da_S_mergeUp 0 rfl
theorem d_S_mergeUp_1 : decode b_S_mergeUp 1 = .ok (.istore 5, 2) := dk da_S_mergeUp 1 rfl
theorem d_S_mergeUp_3 : decode b_S_mergeUp 3 = .ok (.iload 5, 2) := dk da_S_mergeUp 2 rfl
theorem d_S_mergeUp_5 : decode b_S_mergeUp 5 = .ok (.iload_n 2, 1) := dk da_S_mergeUp 3 rfl
theorem d_S_mergeUp_6 : decode b_S_mergeUp 6 = .ok (.if_icmp .ge 25, 3) := dk da_S_mergeUp 4 rfl
theorem d_S_mergeUp_9 : decode b_S_mergeUp 9 = .ok (.aload_n 0, 1) := dk da_S_mergeUp 5 rfl
theorem d_S_mergeUp_10 : decode b_S_mergeUp 10 = .ok (.getfield 15, 3) := dk da_S_mergeUp 6 rfl
theorem d_S_mergeUp_13 : decode b_S_mergeUp 13 = .ok (.iload 5, 2) := dk da_S_mergeUp 7 rfl
theorem d_S_mergeUp_15 : decode b_S_mergeUp 15 = .ok (.aload_n 0, 1) := dk da_S_mergeUp 8 rfl
theorem d_S_mergeUp_16 : decode b_S_mergeUp 16 = .ok (.getfield 9, 3) := dk da_S_mergeUp 9 rfl
theorem d_S_mergeUp_19 : decode b_S_mergeUp 19 = .ok (.iload_n 1, 1) := dk da_S_mergeUp 10 rfl
theorem d_S_mergeUp_20 : decode b_S_mergeUp 20 = .ok (.iload 5, 2) := dk da_S_mergeUp 11 rfl
theorem d_S_mergeUp_22 : decode b_S_mergeUp 22 = .ok (.iadd, 1) := dk da_S_mergeUp 12 rfl
theorem d_S_mergeUp_23 : decode b_S_mergeUp 23 = .ok (.iaload, 1) := dk da_S_mergeUp 13 rfl
theorem d_S_mergeUp_24 : decode b_S_mergeUp 24 = .ok (.iastore, 1) := dk da_S_mergeUp 14 rfl
theorem d_S_mergeUp_25 : decode b_S_mergeUp 25 = .ok (.iinc 5 1, 3) := dk da_S_mergeUp 15 rfl
theorem d_S_mergeUp_28 : decode b_S_mergeUp 28 = .ok (.goto (-25), 3) := dk da_S_mergeUp 16 rfl
theorem d_S_mergeUp_31 : decode b_S_mergeUp 31 = .ok (.iconst 0, 1) := dk da_S_mergeUp 17 rfl
theorem d_S_mergeUp_32 : decode b_S_mergeUp 32 = .ok (.istore 5, 2) := dk da_S_mergeUp 18 rfl
theorem d_S_mergeUp_34 : decode b_S_mergeUp 34 = .ok (.iload_n 3, 1) := dk da_S_mergeUp 19 rfl
theorem d_S_mergeUp_35 : decode b_S_mergeUp 35 = .ok (.istore 6, 2) := dk da_S_mergeUp 20 rfl
theorem d_S_mergeUp_37 : decode b_S_mergeUp 37 = .ok (.iload_n 3, 1) := dk da_S_mergeUp 21 rfl
theorem d_S_mergeUp_38 : decode b_S_mergeUp 38 = .ok (.iload 4, 2) := dk da_S_mergeUp 22 rfl
theorem d_S_mergeUp_40 : decode b_S_mergeUp 40 = .ok (.iadd, 1) := dk da_S_mergeUp 23 rfl
theorem d_S_mergeUp_41 : decode b_S_mergeUp 41 = .ok (.istore 7, 2) := dk da_S_mergeUp 24 rfl
theorem d_S_mergeUp_43 : decode b_S_mergeUp 43 = .ok (.iload_n 1, 1) := dk da_S_mergeUp 25 rfl
theorem d_S_mergeUp_44 : decode b_S_mergeUp 44 = .ok (.istore 8, 2) := dk da_S_mergeUp 26 rfl
theorem d_S_mergeUp_46 : decode b_S_mergeUp 46 = .ok (.iconst 0, 1) := dk da_S_mergeUp 27 rfl
theorem d_S_mergeUp_47 : decode b_S_mergeUp 47 = .ok (.istore 9, 2) := dk da_S_mergeUp 28 rfl
theorem d_S_mergeUp_49 : decode b_S_mergeUp 49 = .ok (.iconst 1, 1) := dk da_S_mergeUp 29 rfl
theorem d_S_mergeUp_50 : decode b_S_mergeUp 50 = .ok (.istore 10, 2) := dk da_S_mergeUp 30 rfl
theorem d_S_mergeUp_52 : decode b_S_mergeUp 52 = .ok (.iload 5, 2) := dk da_S_mergeUp 31 rfl
theorem d_S_mergeUp_54 : decode b_S_mergeUp 54 = .ok (.iload_n 2, 1) := dk da_S_mergeUp 32 rfl
theorem d_S_mergeUp_55 : decode b_S_mergeUp 55 = .ok (.if_icmp .ge 275, 3) := dk da_S_mergeUp 33 rfl
theorem d_S_mergeUp_58 : decode b_S_mergeUp 58 = .ok (.iload 6, 2) := dk da_S_mergeUp 34 rfl
theorem d_S_mergeUp_60 : decode b_S_mergeUp 60 = .ok (.iload 7, 2) := dk da_S_mergeUp 35 rfl
theorem d_S_mergeUp_62 : decode b_S_mergeUp 62 = .ok (.if_icmp .ge 268, 3) := dk da_S_mergeUp 36 rfl
theorem d_S_mergeUp_65 : decode b_S_mergeUp 65 = .ok (.aload_n 0, 1) := dk da_S_mergeUp 37 rfl
theorem d_S_mergeUp_66 : decode b_S_mergeUp 66 = .ok (.getfield 24, 3) := dk da_S_mergeUp 38 rfl
theorem d_S_mergeUp_69 : decode b_S_mergeUp 69 = .ok (.aload_n 0, 1) := dk da_S_mergeUp 39 rfl
theorem d_S_mergeUp_70 : decode b_S_mergeUp 70 = .ok (.getfield 9, 3) := dk da_S_mergeUp 40 rfl
theorem d_S_mergeUp_73 : decode b_S_mergeUp 73 = .ok (.iload 6, 2) := dk da_S_mergeUp 41 rfl
theorem d_S_mergeUp_75 : decode b_S_mergeUp 75 = .ok (.iaload, 1) := dk da_S_mergeUp 42 rfl
theorem d_S_mergeUp_76 : decode b_S_mergeUp 76 = .ok (.aload_n 0, 1) := dk da_S_mergeUp 43 rfl
theorem d_S_mergeUp_77 : decode b_S_mergeUp 77 = .ok (.getfield 15, 3) := dk da_S_mergeUp 44 rfl
theorem d_S_mergeUp_80 : decode b_S_mergeUp 80 = .ok (.iload 5, 2) := dk da_S_mergeUp 45 rfl
theorem d_S_mergeUp_82 : decode b_S_mergeUp 82 = .ok (.iaload, 1) := dk da_S_mergeUp 46 rfl
theorem d_S_mergeUp_83 : decode b_S_mergeUp 83 = .ok (.invokeinterface 54 3, 5) := dk da_S_mergeUp 47 rfl
theorem d_S_mergeUp_88 : decode b_S_mergeUp 88 = .ok (.ifCond .ge 7, 3) := dk da_S_mergeUp 48 rfl
theorem d_S_mergeUp_91 : decode b_S_mergeUp 91 = .ok (.iconst 1, 1) := dk da_S_mergeUp 49 rfl
theorem d_S_mergeUp_92 : decode b_S_mergeUp 92 = .ok (.goto 4, 3) := dk da_S_mergeUp 50 rfl
theorem d_S_mergeUp_95 : decode b_S_mergeUp 95 = .ok (.iconst 0, 1) := dk da_S_mergeUp 51 rfl
theorem d_S_mergeUp_96 : decode b_S_mergeUp 96 = .ok (.istore 11, 2) := dk da_S_mergeUp 52 rfl
theorem d_S_mergeUp_98 : decode b_S_mergeUp 98 = .ok (.aload_n 0, 1) := dk da_S_mergeUp 53 rfl
theorem d_S_mergeUp_99 : decode b_S_mergeUp 99 = .ok (.getfield 9, 3) := dk da_S_mergeUp 54 rfl
theorem d_S_mergeUp_102 : decode b_S_mergeUp 102 = .ok (.iload 8, 2) := dk da_S_mergeUp 55 rfl
theorem d_S_mergeUp_104 : decode b_S_mergeUp 104 = .ok (.iload 11, 2) := dk da_S_mergeUp 56 rfl
theorem d_S_mergeUp_106 : decode b_S_mergeUp 106 = .ok (.ifCond .eq 16, 3) := dk da_S_mergeUp 57 rfl
theorem d_S_mergeUp_109 : decode b_S_mergeUp 109 = .ok (.aload_n 0, 1) := dk da_S_mergeUp 58 rfl
theorem d_S_mergeUp_110 : decode b_S_mergeUp 110 = .ok (.getfield 9, 3) := dk da_S_mergeUp 59 rfl
theorem d_S_mergeUp_113 : decode b_S_mergeUp 113 = .ok (.iload 6, 2) := dk da_S_mergeUp 60 rfl
theorem d_S_mergeUp_115 : decode b_S_mergeUp 115 = .ok (.iinc 6 1, 3) := dk da_S_mergeUp 61 rfl
theorem d_S_mergeUp_118 : decode b_S_mergeUp 118 = .ok (.iaload, 1) := dk da_S_mergeUp 62 rfl
theorem d_S_mergeUp_119 : decode b_S_mergeUp 119 = .ok (.goto 13, 3) := dk da_S_mergeUp 63 rfl
theorem d_S_mergeUp_122 : decode b_S_mergeUp 122 = .ok (.aload_n 0, 1) := dk da_S_mergeUp 64 rfl
theorem d_S_mergeUp_123 : decode b_S_mergeUp 123 = .ok (.getfield 15, 3) := dk da_S_mergeUp 65 rfl
theorem d_S_mergeUp_126 : decode b_S_mergeUp 126 = .ok (.iload 5, 2) := dk da_S_mergeUp 66 rfl
theorem d_S_mergeUp_128 : decode b_S_mergeUp 128 = .ok (.iinc 5 1, 3) := dk da_S_mergeUp 67 rfl
theorem d_S_mergeUp_131 : decode b_S_mergeUp 131 = .ok (.iaload, 1) := dk da_S_mergeUp 68 rfl
theorem d_S_mergeUp_132 : decode b_S_mergeUp 132 = .ok (.iastore, 1) := dk da_S_mergeUp 69 rfl
theorem d_S_mergeUp_133 : decode b_S_mergeUp 133 = .ok (.iinc 8 1, 3) := dk da_S_mergeUp 70 rfl
theorem d_S_mergeUp_136 : decode b_S_mergeUp 136 = .ok (.iload 11, 2) := dk da_S_mergeUp 71 rfl
theorem d_S_mergeUp_138 : decode b_S_mergeUp 138 = .ok (.iload 10, 2) := dk da_S_mergeUp 72 rfl
theorem d_S_mergeUp_140 : decode b_S_mergeUp 140 = .ok (.if_icmp .eq 10, 3) := dk da_S_mergeUp 73 rfl
theorem d_S_mergeUp_143 : decode b_S_mergeUp 143 = .ok (.iload 9, 2) := dk da_S_mergeUp 74 rfl
theorem d_S_mergeUp_145 : decode b_S_mergeUp 145 = .ok (.iconst 1, 1) := dk da_S_mergeUp 75 rfl
theorem d_S_mergeUp_146 : decode b_S_mergeUp 146 = .ok (.iadd, 1) := dk da_S_mergeUp 76 rfl
theorem d_S_mergeUp_147 : decode b_S_mergeUp 147 = .ok (.goto 4, 3) := dk da_S_mergeUp 77 rfl
theorem d_S_mergeUp_150 : decode b_S_mergeUp 150 = .ok (.iconst 1, 1) := dk da_S_mergeUp 78 rfl
theorem d_S_mergeUp_151 : decode b_S_mergeUp 151 = .ok (.istore 9, 2) := dk da_S_mergeUp 79 rfl
theorem d_S_mergeUp_153 : decode b_S_mergeUp 153 = .ok (.iload 11, 2) := dk da_S_mergeUp 80 rfl
theorem d_S_mergeUp_155 : decode b_S_mergeUp 155 = .ok (.ifCond .ne 7, 3) := dk da_S_mergeUp 81 rfl
theorem d_S_mergeUp_158 : decode b_S_mergeUp 158 = .ok (.iconst 1, 1) := dk da_S_mergeUp 82 rfl
theorem d_S_mergeUp_159 : decode b_S_mergeUp 159 = .ok (.goto 4, 3) := dk da_S_mergeUp 83 rfl
theorem d_S_mergeUp_162 : decode b_S_mergeUp 162 = .ok (.iconst 0, 1) := dk da_S_mergeUp 84 rfl
theorem d_S_mergeUp_163 : decode b_S_mergeUp 163 = .ok (.istore 10, 2) := dk da_S_mergeUp 85 rfl
theorem d_S_mergeUp_165 : decode b_S_mergeUp 165 = .ok (.iload 9, 2) := dk da_S_mergeUp 86 rfl
theorem d_S_mergeUp_167 : decode b_S_mergeUp 167 = .ok (.aload_n 0, 1) := dk da_S_mergeUp 87 rfl
theorem d_S_mergeUp_168 : decode b_S_mergeUp 168 = .ok (.getfield 32, 3) := dk da_S_mergeUp 88 rfl
theorem d_S_mergeUp_171 : decode b_S_mergeUp 171 = .ok (.if_icmp .lt (-119), 3) := dk da_S_mergeUp 89 rfl
theorem d_S_mergeUp_174 : decode b_S_mergeUp 174 = .ok (.iload 5, 2) := dk da_S_mergeUp 90 rfl
theorem d_S_mergeUp_176 : decode b_S_mergeUp 176 = .ok (.iload_n 2, 1) := dk da_S_mergeUp 91 rfl
theorem d_S_mergeUp_177 : decode b_S_mergeUp 177 = .ok (.if_icmp .eq (-125), 3) := dk da_S_mergeUp 92 rfl
theorem d_S_mergeUp_180 : decode b_S_mergeUp 180 = .ok (.iload 6, 2) := dk da_S_mergeUp 93 rfl
theorem d_S_mergeUp_182 : decode b_S_mergeUp 182 = .ok (.iload 7, 2) := dk da_S_mergeUp 94 rfl
theorem d_S_mergeUp_184 : decode b_S_mergeUp 184 = .ok (.if_icmp .ne 6, 3) := dk da_S_mergeUp 95 rfl
theorem d_S_mergeUp_187 : decode b_S_mergeUp 187 = .ok (.goto (-135), 3) := dk da_S_mergeUp 96 rfl
theorem d_S_mergeUp_190 : decode b_S_mergeUp 190 = .ok (.iload 11, 2) := dk da_S_mergeUp 97 rfl
theorem d_S_mergeUp_192 : decode b_S_mergeUp 192 = .ok (.ifCond .eq 24, 3) := dk da_S_mergeUp 98 rfl
theorem d_S_mergeUp_195 : decode b_S_mergeUp 195 = .ok (.aload_n 0, 1) := dk da_S_mergeUp 99 rfl
theorem d_S_mergeUp_196 : decode b_S_mergeUp 196 = .ok (.aload_n 0, 1) := dk da_S_mergeUp 100 rfl
theorem d_S_mergeUp_197 : decode b_S_mergeUp 197 = .ok (.getfield 15, 3) := dk da_S_mergeUp 101 rfl
theorem d_S_mergeUp_200 : decode b_S_mergeUp 200 = .ok (.iload 5, 2) := dk da_S_mergeUp 102 rfl
theorem d_S_mergeUp_202 : decode b_S_mergeUp 202 = .ok (.iaload, 1) := dk da_S_mergeUp 103 rfl
theorem d_S_mergeUp_203 : decode b_S_mergeUp 203 = .ok (.iload 6, 2) := dk da_S_mergeUp 104 rfl
theorem d_S_mergeUp_205 : decode b_S_mergeUp 205 = .ok (.iload 7, 2) := dk da_S_mergeUp 105 rfl
theorem d_S_mergeUp_207 : decode b_S_mergeUp 207 = .ok (.iload 6, 2) := dk da_S_mergeUp 106 rfl
theorem d_S_mergeUp_209 : decode b_S_mergeUp 209 = .ok (.isub, 1) := dk da_S_mergeUp 107 rfl
theorem d_S_mergeUp_210 : decode b_S_mergeUp 210 = .ok (.invokevirtual 63, 3) := dk da_S_mergeUp 108 rfl
theorem d_S_mergeUp_213 : decode b_S_mergeUp 213 = .ok (.goto 17, 3) := dk da_S_mergeUp 109 rfl
theorem d_S_mergeUp_216 : decode b_S_mergeUp 216 = .ok (.aload_n 0, 1) := dk da_S_mergeUp 110 rfl
theorem d_S_mergeUp_217 : decode b_S_mergeUp 217 = .ok (.aload_n 0, 1) := dk da_S_mergeUp 111 rfl
theorem d_S_mergeUp_218 : decode b_S_mergeUp 218 = .ok (.getfield 9, 3) := dk da_S_mergeUp 112 rfl
theorem d_S_mergeUp_221 : decode b_S_mergeUp 221 = .ok (.iload 6, 2) := dk da_S_mergeUp 113 rfl
theorem d_S_mergeUp_223 : decode b_S_mergeUp 223 = .ok (.iaload, 1) := dk da_S_mergeUp 114 rfl
theorem d_S_mergeUp_224 : decode b_S_mergeUp 224 = .ok (.iload 5, 2) := dk da_S_mergeUp 115 rfl
theorem d_S_mergeUp_226 : decode b_S_mergeUp 226 = .ok (.iload_n 2, 1) := dk da_S_mergeUp 116 rfl
theorem d_S_mergeUp_227 : decode b_S_mergeUp 227 = .ok (.invokevirtual 73, 3) := dk da_S_mergeUp 117 rfl
theorem d_S_mergeUp_230 : decode b_S_mergeUp 230 = .ok (.istore 12, 2) := dk da_S_mergeUp 118 rfl
theorem d_S_mergeUp_232 : decode b_S_mergeUp 232 = .ok (.iconst 0, 1) := dk da_S_mergeUp 119 rfl
theorem d_S_mergeUp_233 : decode b_S_mergeUp 233 = .ok (.istore 13, 2) := dk da_S_mergeUp 120 rfl
theorem d_S_mergeUp_235 : decode b_S_mergeUp 235 = .ok (.iload 13, 2) := dk da_S_mergeUp 121 rfl
theorem d_S_mergeUp_237 : decode b_S_mergeUp 237 = .ok (.iload 12, 2) := dk da_S_mergeUp 122 rfl
theorem d_S_mergeUp_239 : decode b_S_mergeUp 239 = .ok (.if_icmp .ge 47, 3) := dk da_S_mergeUp 123 rfl
theorem d_S_mergeUp_242 : decode b_S_mergeUp 242 = .ok (.aload_n 0, 1) := dk da_S_mergeUp 124 rfl
theorem d_S_mergeUp_243 : decode b_S_mergeUp 243 = .ok (.getfield 9, 3) := dk da_S_mergeUp 125 rfl
theorem d_S_mergeUp_246 : decode b_S_mergeUp 246 = .ok (.iload 8, 2) := dk da_S_mergeUp 126 rfl
theorem d_S_mergeUp_248 : decode b_S_mergeUp 248 = .ok (.iload 11, 2) := dk da_S_mergeUp 127 rfl
theorem d_S_mergeUp_250 : decode b_S_mergeUp 250 = .ok (.ifCond .eq 16, 3) := dk da_S_mergeUp 128 rfl
theorem d_S_mergeUp_253 : decode b_S_mergeUp 253 = .ok (.aload_n 0, 1) := dk da_S_mergeUp 129 rfl
theorem d_S_mergeUp_254 : decode b_S_mergeUp 254 = .ok (.getfield 9, 3) := dk da_S_mergeUp 130 rfl
theorem d_S_mergeUp_257 : decode b_S_mergeUp 257 = .ok (.iload 6, 2) := dk da_S_mergeUp 131 rfl
theorem d_S_mergeUp_259 : decode b_S_mergeUp 259 = .ok (.iinc 6 1, 3) := dk da_S_mergeUp 132 rfl
theorem d_S_mergeUp_262 : decode b_S_mergeUp 262 = .ok (.iaload, 1) := dk da_S_mergeUp 133 rfl
theorem d_S_mergeUp_263 : decode b_S_mergeUp 263 = .ok (.goto 13, 3) := dk da_S_mergeUp 134 rfl
theorem d_S_mergeUp_266 : decode b_S_mergeUp 266 = .ok (.aload_n 0, 1) := dk da_S_mergeUp 135 rfl
theorem d_S_mergeUp_267 : decode b_S_mergeUp 267 = .ok (.getfield 15, 3) := dk da_S_mergeUp 136 rfl
theorem d_S_mergeUp_270 : decode b_S_mergeUp 270 = .ok (.iload 5, 2) := dk da_S_mergeUp 137 rfl
theorem d_S_mergeUp_272 : decode b_S_mergeUp 272 = .ok (.iinc 5 1, 3) := dk da_S_mergeUp 138 rfl
theorem d_S_mergeUp_275 : decode b_S_mergeUp 275 = .ok (.iaload, 1) := dk da_S_mergeUp 139 rfl
theorem d_S_mergeUp_276 : decode b_S_mergeUp 276 = .ok (.iastore, 1) := dk da_S_mergeUp 140 rfl
theorem d_S_mergeUp_277 : decode b_S_mergeUp 277 = .ok (.iinc 8 1, 3) := dk da_S_mergeUp 141 rfl
theorem d_S_mergeUp_280 : decode b_S_mergeUp 280 = .ok (.iinc 13 1, 3) := dk da_S_mergeUp 142 rfl
theorem d_S_mergeUp_283 : decode b_S_mergeUp 283 = .ok (.goto (-48), 3) := dk da_S_mergeUp 143 rfl
theorem d_S_mergeUp_286 : decode b_S_mergeUp 286 = .ok (.aload_n 0, 1) := dk da_S_mergeUp 144 rfl
theorem d_S_mergeUp_287 : decode b_S_mergeUp 287 = .ok (.iload 12, 2) := dk da_S_mergeUp 145 rfl
theorem d_S_mergeUp_289 : decode b_S_mergeUp 289 = .ok (.bipush 7, 2) := dk da_S_mergeUp 146 rfl
theorem d_S_mergeUp_291 : decode b_S_mergeUp 291 = .ok (.if_icmp .lt 24, 3) := dk da_S_mergeUp 147 rfl
theorem d_S_mergeUp_294 : decode b_S_mergeUp 294 = .ok (.aload_n 0, 1) := dk da_S_mergeUp 148 rfl
theorem d_S_mergeUp_295 : decode b_S_mergeUp 295 = .ok (.getfield 32, 3) := dk da_S_mergeUp 149 rfl
theorem d_S_mergeUp_298 : decode b_S_mergeUp 298 = .ok (.iconst 1, 1) := dk da_S_mergeUp 150 rfl
theorem d_S_mergeUp_299 : decode b_S_mergeUp 299 = .ok (.if_icmp .le 12, 3) := dk da_S_mergeUp 151 rfl
theorem d_S_mergeUp_302 : decode b_S_mergeUp 302 = .ok (.aload_n 0, 1) := dk da_S_mergeUp 152 rfl
theorem d_S_mergeUp_303 : decode b_S_mergeUp 303 = .ok (.getfield 32, 3) := dk da_S_mergeUp 153 rfl
theorem d_S_mergeUp_306 : decode b_S_mergeUp 306 = .ok (.iconst 1, 1) := dk da_S_mergeUp 154 rfl
theorem d_S_mergeUp_307 : decode b_S_mergeUp 307 = .ok (.isub, 1) := dk da_S_mergeUp 155 rfl
theorem d_S_mergeUp_308 : decode b_S_mergeUp 308 = .ok (.goto 13, 3) := dk da_S_mergeUp 156 rfl
theorem d_S_mergeUp_311 : decode b_S_mergeUp 311 = .ok (.iconst 1, 1) := dk da_S_mergeUp 157 rfl
theorem d_S_mergeUp_312 : decode b_S_mergeUp 312 = .ok (.goto 9, 3) := dk da_S_mergeUp 158 rfl
theorem d_S_mergeUp_315 : decode b_S_mergeUp 315 = .ok (.aload_n 0, 1) := dk da_S_mergeUp 159 rfl
theorem d_S_mergeUp_316 : decode b_S_mergeUp 316 = .ok (.getfield 32, 3) := dk da_S_mergeUp 160 rfl
theorem d_S_mergeUp_319 : decode b_S_mergeUp 319 = .ok (.iconst 2, 1) := dk da_S_mergeUp 161 rfl
theorem d_S_mergeUp_320 : decode b_S_mergeUp 320 = .ok (.iadd, 1) := dk da_S_mergeUp 162 rfl
theorem d_S_mergeUp_321 : decode b_S_mergeUp 321 = .ok (.putfield 32, 3) := dk da_S_mergeUp 163 rfl
theorem d_S_mergeUp_324 : decode b_S_mergeUp 324 = .ok (.iconst 0, 1) := dk da_S_mergeUp 164 rfl
theorem d_S_mergeUp_325 : decode b_S_mergeUp 325 = .ok (.istore 9, 2) := dk da_S_mergeUp 165 rfl
theorem d_S_mergeUp_327 : decode b_S_mergeUp 327 = .ok (.goto (-275), 3) := dk da_S_mergeUp 166 rfl
theorem d_S_mergeUp_330 : decode b_S_mergeUp 330 = .ok (.iload 5, 2) := dk da_S_mergeUp 167 rfl
theorem d_S_mergeUp_332 : decode b_S_mergeUp 332 = .ok (.iload_n 2, 1) := dk da_S_mergeUp 168 rfl
theorem d_S_mergeUp_333 : decode b_S_mergeUp 333 = .ok (.if_icmp .ge 26, 3) := dk da_S_mergeUp 169 rfl
theorem d_S_mergeUp_336 : decode b_S_mergeUp 336 = .ok (.aload_n 0, 1) := dk da_S_mergeUp 170 rfl
theorem d_S_mergeUp_337 : decode b_S_mergeUp 337 = .ok (.getfield 9, 3) := dk da_S_mergeUp 171 rfl
theorem d_S_mergeUp_340 : decode b_S_mergeUp 340 = .ok (.iload 8, 2) := dk da_S_mergeUp 172 rfl
theorem d_S_mergeUp_342 : decode b_S_mergeUp 342 = .ok (.iinc 8 1, 3) := dk da_S_mergeUp 173 rfl
theorem d_S_mergeUp_345 : decode b_S_mergeUp 345 = .ok (.aload_n 0, 1) := dk da_S_mergeUp 174 rfl
theorem d_S_mergeUp_346 : decode b_S_mergeUp 346 = .ok (.getfield 15, 3) := dk da_S_mergeUp 175 rfl
theorem d_S_mergeUp_349 : decode b_S_mergeUp 349 = .ok (.iload 5, 2) := dk da_S_mergeUp 176 rfl
theorem d_S_mergeUp_351 : decode b_S_mergeUp 351 = .ok (.iinc 5 1, 3) := dk da_S_mergeUp 177 rfl
theorem d_S_mergeUp_354 : decode b_S_mergeUp 354 = .ok (.iaload, 1) := dk da_S_mergeUp 178 rfl
theorem d_S_mergeUp_355 : decode b_S_mergeUp 355 = .ok (.iastore, 1) := dk da_S_mergeUp 179 rfl
theorem d_S_mergeUp_356 : decode b_S_mergeUp 356 = .ok (.goto (-26), 3) := dk da_S_mergeUp 180 rfl
theorem d_S_mergeUp_359 : decode b_S_mergeUp 359 = .ok (.return_, 1) := dk da_S_mergeUp 181 rfl
def dl_S_waiting : List (Nat × Instr × Nat) := [(0, .iload_n 2, 1), (1, .istore 4, 2), (3, .iload_n 3, 1), (4, .istore 5, 2), (6, .iload 4, 2), (8, .iload 5, 2), (10, .if_icmp .ge 48, 3), (13, .iload 4, 2), (15, .iload 5, 2), (17, .iadd, 1), (18, .iconst 1, 1), (19, .iushr, 1), (20, .istore 6, 2), (22, .aload_n 0, 1), (23, .getfield 24, 3), (26, .iload_n 1, 1), (27, .aload_n 0, 1), (28, .getfield 15, 3), (31, .iload 6, 2), (33, .iaload, 1), (34, .invokeinterface 54 3, 5), (39, .ifCond .lt 12, 3), (42, .iload 6, 2), (44, .iconst 1, 1), (45, .iadd, 1), (46, .istore 4, 2), (48, .goto 7, 3), (51, .iload 6, 2), (53, .istore 5, 2), (55, .goto (-49), 3), (58, .iload 4, 2), (60, .iload_n 2, 1), (61, .isub, 1), (62, .ireturn, 1)]
set_option maxRecDepth 100000 in
theorem da_S_waiting : (dl_S_waiting.all fun q => decide (decode b_S_waiting q.1 = .ok q.2)) = true := by decide +kernel
theorem d_S_waiting_0 : decode b_S_waiting 0 = .ok (.iload_n 2, 1) := dk da_S_waiting 0 rfl
theorem d_S_waiting_1 : decode b_S_waiting 1 = .ok (.istore 4, 2) := dk da_S_waiting 1 rfl
theorem d_S_waiting_3 : decode b_S_waiting 3 = .ok (.iload_n 3, 1) := dk da_S_waiting 2 rfl
theorem d_S_waiting_4 : decode b_S_waiting 4 = .ok (.istore 5, 2) := dk da_S_waiting 3 rfl
theorem d_S_waiting_6 : decode b_S_waiting 6 = .ok (.iload 4, 2) := dk da_S_waiting 4 rfl
theorem d_S_waiting_8 : decode b_S_waiting 8 = .ok (.iload 5, 2) := dk da_S_waiting 5 rfl
theorem d_S_waiting_10 : decode b_S_waiting 10 = .ok (.if_icmp .ge 48, 3) := dk da_S_waiting 6 rfl
theorem d_S_waiting_13 : decode b_S_waiting 13 = .ok (.iload 4, 2) := dk da_S_waiting 7 rfl
theorem d_S_waiting_15 : decode b_S_waiting 15 = .ok (.iload 5, 2) := dk da_S_waiting 8 rfl
theorem d_S_waiting_17 : decode b_S_waiting 17 = .ok (.iadd, 1) := dk da_S_waiting 9 rfl
theorem d_S_waiting_18 : decode b_S_waiting 18 = .ok (.iconst 1, 1) := dk da_S_waiting 10 rfl
theorem d_S_waiting_19 : decode b_S_waiting 19 = .ok (.iushr, 1) := dk da_S_waiting 11 rfl
theorem d_S_waiting_20 : decode b_S_waiting 20 = .ok (.istore 6, 2) := dk da_S_waiting 12 rfl
theorem d_S_waiting_22 : decode b_S_waiting 22 = .ok (.aload_n 0, 1) := dk da_S_waiting 13 rfl
theorem d_S_waiting_23 : decode b_S_waiting 23 = .ok (.getfield 24, 3) := dk da_S_waiting 14 rfl
theorem d_S_waiting_26 : decode b_S_waiting 26 = .ok (.iload_n 1, 1) := dk da_S_waiting 15 rfl
theorem d_S_waiting_27 : decode b_S_waiting 27 = .ok (.aload_n 0, 1) := dk da_S_waiting 16 rfl
theorem d_S_waiting_28 : decode b_S_waiting 28 = .ok (.getfield 15, 3) := dk da_S_waiting 17 rfl
theorem d_S_waiting_31 : decode b_S_waiting 31 = .ok (.iload 6, 2) := dk da_S_waiting 18 rfl
theorem d_S_waiting_33 : decode b_S_waiting 33 = .ok (.iaload, 1) := dk da_S_waiting 19 rfl
theorem d_S_waiting_34 : decode b_S_waiting 34 = .ok (.invokeinterface 54 3, 5) := dk da_S_waiting 20 rfl
theorem d_S_waiting_39 : decode b_S_waiting 39 = .ok (.ifCond .lt 12, 3) := dk da_S_waiting 21 rfl
theorem d_S_waiting_42 : decode b_S_waiting 42 = .ok (.iload 6, 2) := dk da_S_waiting 22 rfl
theorem d_S_waiting_44 : decode b_S_waiting 44 = .ok (.iconst 1, 1) := dk da_S_waiting 23 rfl
theorem d_S_waiting_45 : decode b_S_waiting 45 = .ok (.iadd, 1) := dk da_S_waiting 24 rfl
theorem d_S_waiting_46 : decode b_S_waiting 46 = .ok (.istore 4, 2) := dk da_S_waiting 25 rfl
theorem d_S_waiting_48 : decode b_S_waiting 48 = .ok (.goto 7, 3) := dk da_S_waiting 26 rfl
theorem d_S_waiting_51 : decode b_S_waiting 51 = .ok (.iload 6, 2) := dk da_S_waiting 27 rfl
theorem d_S_waiting_53 : decode b_S_waiting 53 = .ok (.istore 5, 2) := dk da_S_waiting 28 rfl
theorem d_S_waiting_55 : decode b_S_waiting 55 = .ok (.goto (-49), 3) := dk da_S_waiting 29 rfl
theorem d_S_waiting_58 : decode b_S_waiting 58 = .ok (.iload 4, 2) := dk da_S_waiting 30 rfl
theorem d_S_waiting_60 : decode b_S_waiting 60 = .ok (.iload_n 2, 1) := dk da_S_waiting 31 rfl
theorem d_S_waiting_61 : decode b_S_waiting 61 = .ok (.isub, 1) := dk da_S_waiting 32 rfl
theorem d_S_waiting_62 : decode b_S_waiting 62 = .ok (.ireturn, 1) := dk da_S_waiting 33 rfl
def dl_S_mergeDown : List (Nat × Instr × Nat) := [(0, .iconst 0, 1), (1, .istore 5, 2), (3, .iload 5, 2), (5, .iload 4, 2), (7, .if_icmp .ge 25, 3), (10, .aload_n 0, 1), (11, .getfield 15, 3), (14, .iload 5, 2), (16, .aload_n 0, 1), (17, .getfield 9, 3), (20, .iload_n 3, 1), (21, .iload 5, 2), (23, .iadd, 1), (24, .iaload, 1), (25, .iastore, 1), (26, .iinc 5 1, 3), (29, .goto (-26), 3), (32, .iload_n 1, 1), (33, .iload_n 2, 1), (34, .iadd, 1), (35, .iconst 1, 1), (36, .isub, 1), (37, .istore 5, 2), (39, .iload 4, 2), (41, .iconst 1, 1), (42, .isub, 1), (43, .istore 6, 2), (45, .iload_n 3, 1), (46, .iload 4, 2), (48, .iadd, 1), (49, .iconst 1, 1), (50, .isub, 1), (51, .istore 7, 2), (53, .iload 5, 2), (55, .iload_n 1, 1), (56, .if_icmp .lt 82, 3), (59, .iload 6, 2), (61, .ifCond .lt 77, 3), (64, .aload_n 0, 1), (65, .getfield 24, 3), (68, .aload_n 0, 1), (69, .getfield 15, 3), (72, .iload 6, 2), (74, .iaload, 1), (75, .aload_n 0, 1), (76, .getfield 9, 3), (79, .iload 5, 2), (81, .iaload, 1), (82, .invokeinterface 54 3, 5), (87, .ifCond .ge 7, 3), (90, .iconst 1, 1), (91, .goto 4, 3), (94, .iconst 0, 1), (95, .istore 8, 2), (97, .aload_n 0, 1), (98, .getfield 9, 3), (101, .iload 7, 2), (103, .iload 8, 2), (105, .ifCond .eq 16, 3), (108, .aload_n 0, 1), (109, .getfield 9, 3), (112, .iload 5, 2), (114, .iinc 5 (-1), 3), (117, .iaload, 1), (118, .goto 13, 3), (121, .aload_n 0, 1), (122, .getfield 15, 3), (125, .iload 6, 2), (127, .iinc 6 (-1), 3), (130, .iaload, 1), (131, .iastore, 1), (132, .iinc 7 (-1), 3), (135, .goto (-82), 3), (138, .iload 6, 2), (140, .ifCond .lt 26, 3), (143, .aload_n 0, 1), (144, .getfield 9, 3), (147, .iload 7, 2), (149, .iinc 7 (-1), 3), (152, .aload_n 0, 1), (153, .getfield 15, 3), (156, .iload 6, 2), (158, .iinc 6 (-1), 3), (161, .iaload, 1), (162, .iastore, 1), (163, .goto (-25), 3), (166, .return_, 1)]
set_option maxRecDepth 100000 in
theorem da_S_mergeDown : (dl_S_mergeDown.all fun q => decide (decode b_S_mergeDown q.1 = .ok q.2)) = true := by decide +kernel
theorem d_S_mergeDown_0 : decode b_S_mergeDown 0 = .ok (.iconst 0, 1) := dk da_S_mergeDown 0 rfl
theorem d_S_mergeDown_1 : decode b_S_mergeDown 1 = .ok (.istore 5, 2) := dk da_S_mergeDown 1 rfl
theorem d_S_mergeDown_3 : decode b_S_mergeDown 3 = .ok (.iload 5, 2) := dk da_S_mergeDown 2 rfl
theorem d_S_mergeDown_5 : decode b_S_mergeDown 5 = .ok (.iload 4, 2) := dk da_S_mergeDown 3 rfl
theorem d_S_mergeDown_7 : decode b_S_mergeDown 7 = .ok (.if_icmp .ge 25, 3) := dk da_S_mergeDown 4 rfl
theorem d_S_mergeDown_10 : decode b_S_mergeDown 10 = .ok (.aload_n 0, 1) := dk da_S_mergeDown 5 rfl
theorem d_S_mergeDown_11 : decode b_S_mergeDown 11 = .ok (.getfield 15, 3) := dk da_S_mergeDown 6 rfl
theorem d_S_mergeDown_14 : decode b_S_mergeDown 14 = .ok (.iload 5, 2) := dk da_S_mergeDown 7 rfl
theorem d_S_mergeDown_16 : decode b_S_mergeDown 16 = .ok (.aload_n 0, 1) := dk da_S_mergeDown 8 rfl
theorem d_S_mergeDown_17 : decode b_S_mergeDown 17 = .ok (.getfield 9, 3) := dk da_S_mergeDown 9 rfl
theorem d_S_mergeDown_20 : decode b_S_mergeDown 20 = .ok (.iload_n 3, 1) := dk da_S_mergeDown 10 rfl
theorem d_S_mergeDown_21 : decode b_S_mergeDown 21 = .ok (.iload 5, 2) := dk da_S_mergeDown 11 rfl
theorem d_S_mergeDown_23 : decode b_S_mergeDown 23 = .ok (.iadd, 1) := dk da_S_mergeDown 12 rfl
theorem d_S_mergeDown_24 : decode b_S_mergeDown 24 = .ok (.iaload, 1) := dk da_S_mergeDown 13 rfl
theorem d_S_mergeDown_25 : decode b_S_mergeDown 25 = .ok (.iastore, 1) := dk da_S_mergeDown 14 rfl
theorem d_S_mergeDown_26 : decode b_S_mergeDown 26 = .ok (.iinc 5 1, 3) := dk da_S_mergeDown 15 rfl
theorem d_S_mergeDown_29 : decode b_S_mergeDown 29 = .ok (.goto (-26), 3) := dk da_S_mergeDown 16 rfl
theorem d_S_mergeDown_32 : decode b_S_mergeDown 32 = .ok (.iload_n 1, 1) := dk da_S_mergeDown 17 rfl
theorem d_S_mergeDown_33 : decode b_S_mergeDown 33 = .ok (.iload_n 2, 1) := dk da_S_mergeDown 18 rfl
theorem d_S_mergeDown_34 : decode b_S_mergeDown 34 = .ok (.iadd, 1) := dk da_S_mergeDown 19 rfl
theorem d_S_mergeDown_35 : decode b_S_mergeDown 35 = .ok (.iconst 1, 1) := dk da_S_mergeDown 20 rfl
theorem d_S_mergeDown_36 : decode b_S_mergeDown 36 = .ok (.isub, 1) := dk da_S_mergeDown 21 rfl
theorem d_S_mergeDown_37 : decode b_S_mergeDown 37 = .ok (.istore 5, 2) := dk da_S_mergeDown 22 rfl
theorem d_S_mergeDown_39 : decode b_S_mergeDown 39 = .ok (.iload 4, 2) := dk da_S_mergeDown 23 rfl
theorem d_S_mergeDown_41 : decode b_S_mergeDown 41 = .ok (.iconst 1, 1) := dk da_S_mergeDown 24 rfl
theorem d_S_mergeDown_42 : decode b_S_mergeDown 42 = .ok (.isub, 1) := dk da_S_mergeDown 25 rfl
theorem d_S_mergeDown_43 : decode b_S_mergeDown 43 = .ok (.istore 6, 2) := dk da_S_mergeDown 26 rfl
theorem d_S_mergeDown_45 : decode b_S_mergeDown 45 = .ok (.iload_n 3, 1) := dk da_S_mergeDown 27 rfl
theorem d_S_mergeDown_46 : decode b_S_mergeDown 46 = .ok (.iload 4, 2) := dk da_S_mergeDown 28 rfl
theorem d_S_mergeDown_48 : decode b_S_mergeDown 48 = .ok (.iadd, 1) := dk da_S_mergeDown 29 rfl
theorem d_S_mergeDown_49 : decode b_S_mergeDown 49 = .ok (.iconst 1, 1) := dk da_S_mergeDown 30 rfl
theorem d_S_mergeDown_50 : decode b_S_mergeDown 50 = .ok (.isub, 1) := dk da_S_mergeDown 31 rfl
theorem d_S_mergeDown_51 : decode b_S_mergeDown 51 = .ok (.istore 7, 2) := dk da_S_mergeDown 32 rfl
theorem d_S_mergeDown_53 : decode b_S_mergeDown 53 = .ok (.iload 5, 2) := dk da_S_mergeDown 33 rfl
theorem d_S_mergeDown_55 : decode b_S_mergeDown 55 = .ok (.iload_n 1, 1) := dk da_S_mergeDown 34 rfl
theorem d_S_mergeDown_56 : decode b_S_mergeDown 56 = .ok (.if_icmp .lt 82, 3) := dk da_S_mergeDown 35 rfl
theorem d_S_mergeDown_59 : decode b_S_mergeDown 59 = .ok (.iload 6, 2) := dk da_S_mergeDown 36 rfl
theorem d_S_mergeDown_61 : decode b_S_mergeDown 61 = .ok (.ifCond .lt 77, 3) := dk da_S_mergeDown 37 rfl
theorem d_S_mergeDown_64 : decode b_S_mergeDown 64 = .ok (.aload_n 0, 1) := dk da_S_mergeDown 38 rfl
theorem d_S_mergeDown_65 : decode b_S_mergeDown 65 = .ok (.getfield 24, 3) := dk da_S_mergeDown 39 rfl
theorem d_S_mergeDown_68 : decode b_S_mergeDown 68 = .ok (.aload_n 0, 1) := dk da_S_mergeDown 40 rfl
theorem d_S_mergeDown_69 : decode b_S_mergeDown 69 = .ok (.getfield 15, 3) := dk da_S_mergeDown 41 rfl
theorem d_S_mergeDown_72 : decode b_S_mergeDown 72 = .ok (.iload 6, 2) := dk da_S_mergeDown 42 rfl
theorem d_S_mergeDown_74 : decode b_S_mergeDown 74 = .ok (.iaload, 1) := dk da_S_mergeDown 43 rfl
theorem d_S_mergeDown_75 : decode b_S_mergeDown 75 = .ok (.aload_n 0, 1) := dk da_S_mergeDown 44 rfl
theorem d_S_mergeDown_76 : decode b_S_mergeDown 76 = .ok (.getfield 9, 3) := dk da_S_mergeDown 45 rfl
theorem d_S_mergeDown_79 : decode b_S_mergeDown 79 = .ok (.iload 5, 2) := dk da_S_mergeDown 46 rfl
theorem d_S_mergeDown_81 : decode b_S_mergeDown 81 = .ok (.iaload, 1) := dk da_S_mergeDown 47 rfl
theorem d_S_mergeDown_82 : decode b_S_mergeDown 82 = .ok (.invokeinterface 54 3, 5) := dk da_S_mergeDown 48 rfl
theorem d_S_mergeDown_87 : decode b_S_mergeDown 87 = .ok (.ifCond .ge 7, 3) := dk da_S_mergeDown 49 rfl
theorem d_S_mergeDown_90 : decode b_S_mergeDown 90 = .ok (.iconst 1, 1) := dk da_S_mergeDown 50 rfl
theorem d_S_mergeDown_91 : decode b_S_mergeDown 91 = .ok (.goto 4, 3) := dk da_S_mergeDown 51 rfl
theorem d_S_mergeDown_94 : decode b_S_mergeDown 94 = .ok (.iconst 0, 1) := dk da_S_mergeDown 52 rfl
theorem d_S_mergeDown_95 : decode b_S_mergeDown 95 = .ok (.istore 8, 2) := dk da_S_mergeDown 53 rfl
theorem d_S_mergeDown_97 : decode b_S_mergeDown 97 = .ok (.aload_n 0, 1) := dk da_S_mergeDown 54 rfl
theorem d_S_mergeDown_98 : decode b_S_mergeDown 98 = .ok (.getfield 9, 3) := dk da_S_mergeDown 55 rfl
theorem d_S_mergeDown_101 : decode b_S_mergeDown 101 = .ok (.iload 7, 2) := dk da_S_mergeDown 56 rfl
theorem d_S_mergeDown_103 : decode b_S_mergeDown 103 = .ok (.iload 8, 2) := dk da_S_mergeDown 57 rfl
theorem d_S_mergeDown_105 : decode b_S_mergeDown 105 = .ok (.ifCond .eq 16, 3) := dk da_S_mergeDown 58 rfl
theorem d_S_mergeDown_108 : decode b_S_mergeDown 108 = .ok (.aload_n 0, 1) := dk da_S_mergeDown 59 rfl
theorem d_S_mergeDown_109 : decode b_S_mergeDown 109 = .ok (.getfield 9, 3) := dk da_S_mergeDown 60 rfl
theorem d_S_mergeDown_112 : decode b_S_mergeDown 112 = .ok (.iload 5, 2) := dk da_S_mergeDown 61 rfl
theorem d_S_mergeDown_114 : decode b_S_mergeDown 114 = .ok (.iinc 5 (-1), 3) := dk da_S_mergeDown 62 rfl
theorem d_S_mergeDown_117 : decode b_S_mergeDown 117 = .ok (.iaload, 1) := dk da_S_mergeDown 63 rfl
theorem d_S_mergeDown_118 : decode b_S_mergeDown 118 = .ok (.goto 13, 3) := dk da_S_mergeDown 64 rfl
theorem d_S_mergeDown_121 : decode b_S_mergeDown 121 = .ok (.aload_n 0, 1) := dk da_S_mergeDown 65 rfl
theorem d_S_mergeDown_122 : decode b_S_mergeDown 122 = .ok (.getfield 15, 3) := dk da_S_mergeDown 66 rfl
theorem d_S_mergeDown_125 : decode b_S_mergeDown 125 = .ok (.iload 6, 2) := dk da_S_mergeDown 67 rfl
theorem d_S_mergeDown_127 : decode b_S_mergeDown 127 = .ok (.iinc 6 (-1), 3) := dk da_S_mergeDown 68 rfl
theorem d_S_mergeDown_130 : decode b_S_mergeDown 130 = .ok (.iaload, 1) := dk da_S_mergeDown 69 rfl
theorem d_S_mergeDown_131 : decode b_S_mergeDown 131 = .ok (.iastore, 1) := dk da_S_mergeDown 70 rfl
theorem d_S_mergeDown_132 : decode b_S_mergeDown 132 = .ok (.iinc 7 (-1), 3) := dk da_S_mergeDown 71 rfl
theorem d_S_mergeDown_135 : decode b_S_mergeDown 135 = .ok (.goto (-82), 3) := dk da_S_mergeDown 72 rfl
theorem d_S_mergeDown_138 : decode b_S_mergeDown 138 = .ok (.iload 6, 2) := dk da_S_mergeDown 73 rfl
theorem d_S_mergeDown_140 : decode b_S_mergeDown 140 = .ok (.ifCond .lt 26, 3) := dk da_S_mergeDown 74 rfl
theorem d_S_mergeDown_143 : decode b_S_mergeDown 143 = .ok (.aload_n 0, 1) := dk da_S_mergeDown 75 rfl
theorem d_S_mergeDown_144 : decode b_S_mergeDown 144 = .ok (.getfield 9, 3) := dk da_S_mergeDown 76 rfl
theorem d_S_mergeDown_147 : decode b_S_mergeDown 147 = .ok (.iload 7, 2) := dk da_S_mergeDown 77 rfl
theorem d_S_mergeDown_149 : decode b_S_mergeDown 149 = .ok (.iinc 7 (-1), 3) := dk da_S_mergeDown 78 rfl
theorem d_S_mergeDown_152 : decode b_S_mergeDown 152 = .ok (.aload_n 0, 1) := dk da_S_mergeDown 79 rfl
theorem d_S_mergeDown_153 : decode b_S_mergeDown 153 = .ok (.getfield 15, 3) := dk da_S_mergeDown 80 rfl
theorem d_S_mergeDown_156 : decode b_S_mergeDown 156 = .ok (.iload 6, 2) := dk da_S_mergeDown 81 rfl
theorem d_S_mergeDown_158 : decode b_S_mergeDown 158 = .ok (.iinc 6 (-1), 3) := dk da_S_mergeDown 82 rfl
theorem d_S_mergeDown_161 : decode b_S_mergeDown 161 = .ok (.iaload, 1) := dk da_S_mergeDown 83 rfl
theorem d_S_mergeDown_162 : decode b_S_mergeDown 162 = .ok (.iastore, 1) := dk da_S_mergeDown 84 rfl
theorem d_S_mergeDown_163 : decode b_S_mergeDown 163 = .ok (.goto (-25), 3) := dk da_S_mergeDown 85 rfl
theorem d_S_mergeDown_166 : decode b_S_mergeDown 166 = .ok (.return_, 1) := dk da_S_mergeDown 86 rfl
def dl_O3_init : List (Nat × Instr × Nat) := [(0, .aload_n 0, 1), (1, .invokespecial 1, 3), (4, .return_, 1)]
set_option maxRecDepth 100000 in
theorem da_O3_init : (dl_O3_init.all fun q => decide (decode b_O3_init q.1 = .ok q.2)) = true := by decide +kernel
theorem d_O3_init_0 : decode b_O3_init 0 = .ok (.aload_n 0, 1) := dk da_O3_init 0 rfl
theorem d_O3_init_1 : decode b_O3_init 1 = .ok (.invokespecial 1, 3) := dk da_O3_init 1 rfl
theorem d_O3_init_4 : decode b_O3_init 4 = .ok (.return_, 1) := dk da_O3_init 2 rfl
def dl_O3_compare : List (Nat × Instr × Nat) := [(0, .iload_n 1, 1), (1, .ldc 9, 2), (3, .iadd, 1), (4, .iload_n 2, 1), (5, .ldc 9, 2), (7, .iadd, 1), (8, .if_icmp .ge 7, 3), (11, .iconst (-1), 1), (12, .goto 13, 3), (15, .iload_n 1, 1), (16, .iload_n 2, 1), (17, .if_icmp .ne 7, 3), (20, .iconst 0, 1), (21, .goto 4, 3), (24, .iconst 1, 1), (25, .ireturn, 1)]
set_option maxRecDepth 100000 in
theorem da_O3_compare : (dl_O3_compare.all fun q => decide (decode b_O3_compare q.1 = .ok q.2)) = true := by decide +kernel
theorem d_O3_compare_0 : decode b_O3_compare 0 = .ok (.iload_n 1, 1) := dk da_O3_compare 0 rfl
theorem d_O3_compare_1 : decode b_O3_compare 1 = .ok (.ldc 9, 2) := dk da_O3_compare 1 rfl
theorem d_O3_compare_3 : decode b_O3_compare 3 = .ok (.iadd, 1) := dk da_O3_compare 2 rfl
theorem d_O3_compare_4 : decode b_O3_compare 4 = .ok (.iload_n 2, 1) := dk da_O3_compare 3 rfl
theorem d_O3_compare_5 : decode b_O3_compare 5 = .ok (.ldc 9, 2) := dk da_O3_compare 4 rfl
theorem d_O3_compare_7 : decode b_O3_compare 7 = .ok (.iadd, 1) := dk da_O3_compare 5 rfl
theorem d_O3_compare_8 : decode b_O3_compare 8 = .ok (.if_icmp .ge 7, 3) := dk da_O3_compare 6 rfl
theorem d_O3_compare_11 : decode b_O3_compare 11 = .ok (.iconst (-1), 1) := dk da_O3_compare 7 rfl
theorem d_O3_compare_12 : decode b_O3_compare 12 = .ok (.goto 13, 3) := dk da_O3_compare 8 rfl
theorem d_O3_compare_15 : decode b_O3_compare 15 = .ok (.iload_n 1, 1) := dk da_O3_compare 9 rfl
theorem d_O3_compare_16 : decode b_O3_compare 16 = .ok (.iload_n 2, 1) := dk da_O3_compare 10 rfl
theorem d_O3_compare_17 : decode b_O3_compare 17 = .ok (.if_icmp .ne 7, 3) := dk da_O3_compare 11 rfl
theorem d_O3_compare_20 : decode b_O3_compare 20 = .ok (.iconst 0, 1) := dk da_O3_compare 12 rfl
theorem d_O3_compare_21 : decode b_O3_compare 21 = .ok (.goto 4, 3) := dk da_O3_compare 13 rfl
theorem d_O3_compare_24 : decode b_O3_compare 24 = .ok (.iconst 1, 1) := dk da_O3_compare 14 rfl
theorem d_O3_compare_25 : decode b_O3_compare 25 = .ok (.ireturn, 1) := dk da_O3_compare 15 rfl
def dl_L_fill : List (Nat × Instr × Nat) := [(0, .aload 4, 2), (2, .iconst 0, 1), (3, .aload_n 0, 1), (4, .iload_n 1, 1), (5, .iload_n 2, 1), (6, .iload_n 3, 1), (7, .invokevirtual 7, 3), (10, .i2l, 1), (11, .lastore, 1), (12, .goto 11, 3), (15, .astore 5, 2), (17, .iconst 1, 1), (18, .ireturn, 1), (19, .astore 5, 2), (21, .iconst 2, 1), (22, .ireturn, 1), (23, .iconst 0, 1), (24, .ireturn, 1)]
set_option maxRecDepth 100000 in
theorem da_L_fill : (dl_L_fill.all fun q => decide (decode b_L_fill q.1 = .ok q.2)) = true := by decide +kernel
theorem d_L_fill_0 : decode b_L_fill 0 = .ok (.aload 4, 2) := dk da_L_fill 0 rfl
theorem d_L_fill_2 : decode b_L_fill 2 = .ok (.iconst 0, 1) := dk da_L_fill 1 rfl
theorem d_L_fill_3 : decode b_L_fill 3 = .ok (.aload_n 0, 1) := dk da_L_fill 2 rfl
theorem d_L_fill_4 : decode b_L_fill 4 = .ok (.iload_n 1, 1) := dk da_L_fill 3 rfl
theorem d_L_fill_5 : decode b_L_fill 5 = .ok (.iload_n 2, 1) := dk da_L_fill 4 rfl
theorem d_L_fill_6 : decode b_L_fill 6 = .ok (.iload_n 3, 1) := dk da_L_fill 5 rfl
theorem d_L_fill_7 : decode b_L_fill 7 = .ok (.invokevirtual 7, 3) := dk da_L_fill 6 rfl
theorem d_L_fill_10 : decode b_L_fill 10 = .ok (.i2l, 1) := dk da_L_fill 7 rfl
theorem d_L_fill_11 : decode b_L_fill 11 = .ok (.lastore, 1) := dk da_L_fill 8 rfl
theorem d_L_fill_12 : decode b_L_fill 12 = .ok (.goto 11, 3) := dk da_L_fill 9 rfl
theorem d_L_fill_15 : decode b_L_fill 15 = .ok (.astore 5, 2) := dk da_L_fill 10 rfl
theorem d_L_fill_17 : decode b_L_fill 17 = .ok (.iconst 1, 1) := dk da_L_fill 11 rfl
theorem d_L_fill_18 : decode b_L_fill 18 = .ok (.ireturn, 1) := dk da_L_fill 12 rfl
theorem d_L_fill_19 : decode b_L_fill 19 = .ok (.astore 5, 2) := dk da_L_fill 13 rfl
theorem d_L_fill_21 : decode b_L_fill 21 = .ok (.iconst 2, 1) := dk da_L_fill 14 rfl
theorem d_L_fill_22 : decode b_L_fill 22 = .ok (.ireturn, 1) := dk da_L_fill 15 rfl
theorem d_L_fill_23 : decode b_L_fill 23 = .ok (.iconst 0, 1) := dk da_L_fill 16 rfl
theorem d_L_fill_24 : decode b_L_fill 24 = .ok (.ireturn, 1) := dk da_L_fill 17 rfl
def dl_L_scatter : List (Nat × Instr × Nat) := [(0, .aload 4, 2), (2, .iconst 0, 1), (3, .aload_n 0, 1), (4, .iload_n 1, 1), (5, .iload_n 2, 1), (6, .iload_n 3, 1), (7, .invokevirtual 17, 3), (10, .i2l, 1), (11, .lastore, 1), (12, .goto 11, 3), (15, .astore 5, 2), (17, .iconst 1, 1), (18, .ireturn, 1), (19, .astore 5, 2), (21, .iconst 2, 1), (22, .ireturn, 1), (23, .iconst 0, 1), (24, .ireturn, 1)]
set_option maxRecDepth 100000 in
theorem da_L_scatter : (dl_L_scatter.all fun q => decide (decode b_L_scatter q.1 = .ok q.2)) = true := by decide +kernel
theorem d_L_scatter_0 : decode b_L_scatter 0 = .ok (.aload 4, 2) := dk da_L_scatter 0 rfl
theorem d_L_scatter_2 : decode b_L_scatter 2 = .ok (.iconst 0, 1) := dk da_L_scatter 1 rfl
theorem d_L_scatter_3 : decode b_L_scatter 3 = .ok (.aload_n 0, 1) := dk da_L_scatter 2 rfl
theorem d_L_scatter_4 : decode b_L_scatter 4 = .ok (.iload_n 1, 1) := dk da_L_scatter 3 rfl
theorem d_L_scatter_5 : decode b_L_scatter 5 = .ok (.iload_n 2, 1) := dk da_L_scatter 4 rfl
theorem d_L_scatter_6 : decode b_L_scatter 6 = .ok (.iload_n 3, 1) := dk da_L_scatter 5 rfl
theorem d_L_scatter_7 : decode b_L_scatter 7 = .ok (.invokevirtual 17, 3) := dk da_L_scatter 6 rfl
theorem d_L_scatter_10 : decode b_L_scatter 10 = .ok (.i2l, 1) := dk da_L_scatter 7 rfl
theorem d_L_scatter_11 : decode b_L_scatter 11 = .ok (.lastore, 1) := dk da_L_scatter 8 rfl
theorem d_L_scatter_12 : decode b_L_scatter 12 = .ok (.goto 11, 3) := dk da_L_scatter 9 rfl
theorem d_L_scatter_15 : decode b_L_scatter 15 = .ok (.astore 5, 2) := dk da_L_scatter 10 rfl
theorem d_L_scatter_17 : decode b_L_scatter 17 = .ok (.iconst 1, 1) := dk da_L_scatter 11 rfl
theorem d_L_scatter_18 : decode b_L_scatter 18 = .ok (.ireturn, 1) := dk da_L_scatter 12 rfl
theorem d_L_scatter_19 : decode b_L_scatter 19 = .ok (.astore 5, 2) := dk da_L_scatter 13 rfl
theorem d_L_scatter_21 : decode b_L_scatter 21 = .ok (.iconst 2, 1) := dk da_L_scatter 14 rfl
theorem d_L_scatter_22 : decode b_L_scatter 22 = .ok (.ireturn, 1) := dk da_L_scatter 15 rfl
theorem d_L_scatter_23 : decode b_L_scatter 23 = .ok (.iconst 0, 1) := dk da_L_scatter 16 rfl
theorem d_L_scatter_24 : decode b_L_scatter 24 = .ok (.ireturn, 1) := dk da_L_scatter 17 rfl
def dl_L_sort : List (Nat × Instr × Nat) := [(0, .aload 4, 2), (2, .iconst 0, 1), (3, .aload_n 0, 1), (4, .iload_n 1, 1), (5, .iload_n 2, 1), (6, .iload_n 3, 1), (7, .invokevirtual 20, 3), (10, .i2l, 1), (11, .lastore, 1), (12, .goto 7, 3), (15, .astore 5, 2), (17, .iconst 1, 1), (18, .ireturn, 1), (19, .iconst 0, 1), (20, .ireturn, 1)]
set_option maxRecDepth 100000 in
theorem da_L_sort : (dl_L_sort.all fun q => decide (decode b_L_sort q.1 = .ok q.2)) = true := by decide +kernel
theorem d_L_sort_0 : decode b_L_sort 0 = .ok (.aload 4, 2) := dk da_L_sort 0 rfl
theorem d_L_sort_2 : decode b_L_sort 2 = .ok (.iconst 0, 1) := dk da_L_sort 1 rfl
theorem d_L_sort_3 : decode b_L_sort 3 = .ok (.aload_n 0, 1) := dk da_L_sort 2 rfl
theorem d_L_sort_4 : decode b_L_sort 4 = .ok (.iload_n 1, 1) := dk da_L_sort 3 rfl
theorem d_L_sort_5 : decode b_L_sort 5 = .ok (.iload_n 2, 1) := dk da_L_sort 4 rfl
theorem d_L_sort_6 : decode b_L_sort 6 = .ok (.iload_n 3, 1) := dk da_L_sort 5 rfl
theorem d_L_sort_7 : decode b_L_sort 7 = .ok (.invokevirtual 20, 3) := dk da_L_sort 6 rfl
theorem d_L_sort_10 : decode b_L_sort 10 = .ok (.i2l, 1) := dk da_L_sort 7 rfl
theorem d_L_sort_11 : decode b_L_sort 11 = .ok (.lastore, 1) := dk da_L_sort 8 rfl
theorem d_L_sort_12 : decode b_L_sort 12 = .ok (.goto 7, 3) := dk da_L_sort 9 rfl
theorem d_L_sort_15 : decode b_L_sort 15 = .ok (.astore 5, 2) := dk da_L_sort 10 rfl
theorem d_L_sort_17 : decode b_L_sort 17 = .ok (.iconst 1, 1) := dk da_L_sort 11 rfl
theorem d_L_sort_18 : decode b_L_sort 18 = .ok (.ireturn, 1) := dk da_L_sort 12 rfl
theorem d_L_sort_19 : decode b_L_sort 19 = .ok (.iconst 0, 1) := dk da_L_sort 13 rfl
theorem d_L_sort_20 : decode b_L_sort 20 = .ok (.ireturn, 1) := dk da_L_sort 14 rfl
def dl_L_get : List (Nat × Instr × Nat) := [(0, .aload_n 2, 1), (1, .iconst 0, 1), (2, .aload_n 0, 1), (3, .iload_n 1, 1), (4, .invokevirtual 23, 3), (7, .i2l, 1), (8, .lastore, 1), (9, .goto 6, 3), (12, .astore_n 3, 1), (13, .iconst 1, 1), (14, .ireturn, 1), (15, .iconst 0, 1), (16, .ireturn, 1)]
set_option maxRecDepth 100000 in
theorem da_L_get : (dl_L_get.all fun q => decide (decode b_L_get q.1 = .ok q.2)) = true := by decide +kernel
theorem d_L_get_0 : decode b_L_get 0 = .ok (.aload_n 2, 1) := dk da_L_get 0 rfl
theorem d_L_get_1 : decode b_L_get 1 = .ok (.iconst 0, 1) := dk da_L_get 1 rfl
theorem d_L_get_2 : decode b_L_get 2 = .ok (.aload_n 0, 1) := dk da_L_get 2 rfl
theorem d_L_get_3 : decode b_L_get 3 = .ok (.iload_n 1, 1) := dk da_L_get 3 rfl
theorem d_L_get_4 : decode b_L_get 4 = .ok (.invokevirtual 23, 3) := dk da_L_get 4 rfl
theorem d_L_get_7 : decode b_L_get 7 = .ok (.i2l, 1) := dk da_L_get 5 rfl
theorem d_L_get_8 : decode b_L_get 8 = .ok (.lastore, 1) := dk da_L_get 6 rfl
theorem d_L_get_9 : decode b_L_get 9 = .ok (.goto 6, 3) := dk da_L_get 7 rfl
theorem d_L_get_12 : decode b_L_get 12 = .ok (.astore_n 3, 1) := dk da_L_get 8 rfl
theorem d_L_get_13 : decode b_L_get 13 = .ok (.iconst 1, 1) := dk da_L_get 9 rfl
theorem d_L_get_14 : decode b_L_get 14 = .ok (.ireturn, 1) := dk da_L_get 10 rfl
theorem d_L_get_15 : decode b_L_get 15 = .ok (.iconst 0, 1) := dk da_L_get 11 rfl
theorem d_L_get_16 : decode b_L_get 16 = .ok (.ireturn, 1) := dk da_L_get 12 rfl
def dl_L_tag : List (Nat × Instr × Nat) := [(0, .aload_n 2, 1), (1, .iconst 0, 1), (2, .aload_n 0, 1), (3, .iload_n 1, 1), (4, .invokevirtual 27, 3), (7, .i2l, 1), (8, .lastore, 1), (9, .goto 6, 3), (12, .astore_n 3, 1), (13, .iconst 1, 1), (14, .ireturn, 1), (15, .iconst 0, 1), (16, .ireturn, 1)]
set_option maxRecDepth 100000 in
theorem da_L_tag : (dl_L_tag.all fun q => decide (decode b_L_tag q.1 = .ok q.2)) = true := by decide +kernel
theorem d_L_tag_0 : decode b_L_tag 0 = .ok (.aload_n 2, 1) := dk da_L_tag 0 rfl
theorem d_L_tag_1 : decode b_L_tag 1 = .ok (.iconst 0, 1) := dk da_L_tag 1 rfl
theorem d_L_tag_2 : decode b_L_tag 2 = .ok (.aload_n 0, 1) := dk da_L_tag 2 rfl
theorem d_L_tag_3 : decode b_L_tag 3 = .ok (.iload_n 1, 1) := dk da_L_tag 3 rfl
theorem d_L_tag_4 : decode b_L_tag 4 = .ok (.invokevirtual 27, 3) := dk da_L_tag 4 rfl
theorem d_L_tag_7 : decode b_L_tag 7 = .ok (.i2l, 1) := dk da_L_tag 5 rfl
theorem d_L_tag_8 : decode b_L_tag 8 = .ok (.lastore, 1) := dk da_L_tag 6 rfl
theorem d_L_tag_9 : decode b_L_tag 9 = .ok (.goto 6, 3) := dk da_L_tag 7 rfl
theorem d_L_tag_12 : decode b_L_tag 12 = .ok (.astore_n 3, 1) := dk da_L_tag 8 rfl
theorem d_L_tag_13 : decode b_L_tag 13 = .ok (.iconst 1, 1) := dk da_L_tag 9 rfl
theorem d_L_tag_14 : decode b_L_tag 14 = .ok (.ireturn, 1) := dk da_L_tag 10 rfl
theorem d_L_tag_15 : decode b_L_tag 15 = .ok (.iconst 0, 1) := dk da_L_tag 11 rfl
theorem d_L_tag_16 : decode b_L_tag 16 = .ok (.ireturn, 1) := dk da_L_tag 12 rfl
def dl_L_set : List (Nat × Instr × Nat) := [(0, .aload_n 3, 1), (1, .iconst 0, 1), (2, .aload_n 0, 1), (3, .iload_n 1, 1), (4, .iload_n 2, 1), (5, .invokevirtual 30, 3), (8, .i2l, 1), (9, .lastore, 1), (10, .goto 7, 3), (13, .astore 4, 2), (15, .iconst 1, 1), (16, .ireturn, 1), (17, .iconst 0, 1), (18, .ireturn, 1)]
set_option maxRecDepth 100000 in
theorem da_L_set : (dl_L_set.all fun q => decide (decode b_L_set q.1 = .ok q.2)) = true := by decide +kernel
theorem d_L_set_0 : decode b_L_set 0 = .ok (.aload_n 3, 1) := dk da_L_set 0 rfl
theorem d_L_set_1 : decode b_L_set 1 = .ok (.iconst 0, 1) := dk da_L_set 1 rfl
theorem d_L_set_2 : decode b_L_set 2 = .ok (.aload_n 0, 1) := dk da_L_set 2 rfl
theorem d_L_set_3 : decode b_L_set 3 = .ok (.iload_n 1, 1) := dk da_L_set 3 rfl
theorem d_L_set_4 : decode b_L_set 4 = .ok (.iload_n 2, 1) := dk da_L_set 4 rfl
theorem d_L_set_5 : decode b_L_set 5 = .ok (.invokevirtual 30, 3) := dk da_L_set 5 rfl
theorem d_L_set_8 : decode b_L_set 8 = .ok (.i2l, 1) := dk da_L_set 6 rfl
theorem d_L_set_9 : decode b_L_set 9 = .ok (.lastore, 1) := dk da_L_set 7 rfl
theorem d_L_set_10 : decode b_L_set 10 = .ok (.goto 7, 3) := dk da_L_set 8 rfl
theorem d_L_set_13 : decode b_L_set 13 = .ok (.astore 4, 2) := dk da_L_set 9 rfl
theorem d_L_set_15 : decode b_L_set 15 = .ok (.iconst 1, 1) := dk da_L_set 10 rfl
theorem d_L_set_16 : decode b_L_set 16 = .ok (.ireturn, 1) := dk da_L_set 11 rfl
theorem d_L_set_17 : decode b_L_set 17 = .ok (.iconst 0, 1) := dk da_L_set 12 rfl
theorem d_L_set_18 : decode b_L_set 18 = .ok (.ireturn, 1) := dk da_L_set 13 rfl
def dl_L_turn : List (Nat × Instr × Nat) := [(0, .aload_n 3, 1), (1, .iconst 0, 1), (2, .aload_n 0, 1), (3, .iload_n 1, 1), (4, .iload_n 2, 1), (5, .invokevirtual 34, 3), (8, .i2l, 1), (9, .lastore, 1), (10, .goto 7, 3), (13, .astore 4, 2), (15, .iconst 1, 1), (16, .ireturn, 1), (17, .iconst 0, 1), (18, .ireturn, 1)]
set_option maxRecDepth 100000 in
theorem da_L_turn : (dl_L_turn.all fun q => decide (decode b_L_turn q.1 = .ok q.2)) = true := by decide +kernel
theorem d_L_turn_0 : decode b_L_turn 0 = .ok (.aload_n 3, 1) := dk da_L_turn 0 rfl
theorem d_L_turn_1 : decode b_L_turn 1 = .ok (.iconst 0, 1) := dk da_L_turn 1 rfl
theorem d_L_turn_2 : decode b_L_turn 2 = .ok (.aload_n 0, 1) := dk da_L_turn 2 rfl
theorem d_L_turn_3 : decode b_L_turn 3 = .ok (.iload_n 1, 1) := dk da_L_turn 3 rfl
theorem d_L_turn_4 : decode b_L_turn 4 = .ok (.iload_n 2, 1) := dk da_L_turn 4 rfl
theorem d_L_turn_5 : decode b_L_turn 5 = .ok (.invokevirtual 34, 3) := dk da_L_turn 5 rfl
theorem d_L_turn_8 : decode b_L_turn 8 = .ok (.i2l, 1) := dk da_L_turn 6 rfl
theorem d_L_turn_9 : decode b_L_turn 9 = .ok (.lastore, 1) := dk da_L_turn 7 rfl
theorem d_L_turn_10 : decode b_L_turn 10 = .ok (.goto 7, 3) := dk da_L_turn 8 rfl
theorem d_L_turn_13 : decode b_L_turn 13 = .ok (.astore 4, 2) := dk da_L_turn 9 rfl
theorem d_L_turn_15 : decode b_L_turn 15 = .ok (.iconst 1, 1) := dk da_L_turn 10 rfl
theorem d_L_turn_16 : decode b_L_turn 16 = .ok (.ireturn, 1) := dk da_L_turn 11 rfl
theorem d_L_turn_17 : decode b_L_turn 17 = .ok (.iconst 0, 1) := dk da_L_turn 12 rfl
theorem d_L_turn_18 : decode b_L_turn 18 = .ok (.ireturn, 1) := dk da_L_turn 13 rfl
def dl_L_upTo : List (Nat × Instr × Nat) := [(0, .aload 4, 2), (2, .iconst 0, 1), (3, .aload_n 0, 1), (4, .iload_n 1, 1), (5, .iload_n 2, 1), (6, .iload_n 3, 1), (7, .invokevirtual 37, 3), (10, .i2l, 1), (11, .lastore, 1), (12, .goto 7, 3), (15, .astore 5, 2), (17, .iconst 1, 1), (18, .ireturn, 1), (19, .iconst 0, 1), (20, .ireturn, 1)]
set_option maxRecDepth 100000 in
theorem da_L_upTo : (dl_L_upTo.all fun q => decide (decode b_L_upTo q.1 = .ok q.2)) = true := by decide +kernel
theorem d_L_upTo_0 : decode b_L_upTo 0 = .ok (.aload 4, 2) := dk da_L_upTo 0 rfl
theorem d_L_upTo_2 : decode b_L_upTo 2 = .ok (.iconst 0, 1) := dk da_L_upTo 1 rfl
theorem d_L_upTo_3 : decode b_L_upTo 3 = .ok (.aload_n 0, 1) := dk da_L_upTo 2 rfl
theorem d_L_upTo_4 : decode b_L_upTo 4 = .ok (.iload_n 1, 1) := dk da_L_upTo 3 rfl
theorem d_L_upTo_5 : decode b_L_upTo 5 = .ok (.iload_n 2, 1) := dk da_L_upTo 4 rfl
theorem d_L_upTo_6 : decode b_L_upTo 6 = .ok (.iload_n 3, 1) := dk da_L_upTo 5 rfl
theorem d_L_upTo_7 : decode b_L_upTo 7 = .ok (.invokevirtual 37, 3) := dk da_L_upTo 6 rfl
theorem d_L_upTo_10 : decode b_L_upTo 10 = .ok (.i2l, 1) := dk da_L_upTo 7 rfl
theorem d_L_upTo_11 : decode b_L_upTo 11 = .ok (.lastore, 1) := dk da_L_upTo 8 rfl
theorem d_L_upTo_12 : decode b_L_upTo 12 = .ok (.goto 7, 3) := dk da_L_upTo 9 rfl
theorem d_L_upTo_15 : decode b_L_upTo 15 = .ok (.astore 5, 2) := dk da_L_upTo 10 rfl
theorem d_L_upTo_17 : decode b_L_upTo 17 = .ok (.iconst 1, 1) := dk da_L_upTo 11 rfl
theorem d_L_upTo_18 : decode b_L_upTo 18 = .ok (.ireturn, 1) := dk da_L_upTo 12 rfl
theorem d_L_upTo_19 : decode b_L_upTo 19 = .ok (.iconst 0, 1) := dk da_L_upTo 13 rfl
theorem d_L_upTo_20 : decode b_L_upTo 20 = .ok (.ireturn, 1) := dk da_L_upTo 14 rfl
