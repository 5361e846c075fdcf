set_option maxRecDepth 100000
def tX10_init_c0 : List dqE := [(0, .aload_n 0, 1, [42]), (1, .invokespecial 1, 3, [183, 0, 1]), (4, .aload_n 0, 1, [42]), (5, .bipush 64, 2, [16, 64]), (7, .newarray .int, 2, [188, 10]), (9, .putfield 7, 3, [181, 0, 7]), (12, .return_, 1, [177])]
def tX10_init : List (List dqE) := [tX10_init_c0]
theorem tX10_init_ok : dchk tX10_init.flatten 0 (prog_12_method_1_code).data.toList = true := by decide +kernel
theorem kX10_init_c0 : dconj prog_12_method_1_code tX10_init_c0 := dchk_c tX10_init_ok 0 rfl
def tX10_clear_c0 : List dqE := [(0, .aload_n 0, 1, [42]), (1, .iconst 0, 1, [3]), (2, .putfield 13, 3, [181, 0, 13]), (5, .return_, 1, [177])]
def tX10_clear : List (List dqE) := [tX10_clear_c0]
theorem tX10_clear_ok : dchk tX10_clear.flatten 0 (prog_12_method_2_code).data.toList = true := by decide +kernel
theorem kX10_clear_c0 : dconj prog_12_method_2_code tX10_clear_c0 := dchk_c tX10_clear_ok 0 rfl
def tX10_add_c0 : List dqE := [(0, .aload_n 0, 1, [42]), (1, .getfield 13, 3, [180, 0, 13]), (4, .aload_n 0, 1, [42]), (5, .getfield 7, 3, [180, 0, 7]), (8, .arraylength, 1, [190]), (9, .if_icmp .ne 31, 3, [160, 0, 31]), (12, .iconst 2, 1, [5]), (13, .aload_n 0, 1, [42])]
def tX10_add_c1 : List dqE := [(14, .getfield 13, 3, [180, 0, 13]), (17, .imul, 1, [104]), (18, .newarray .int, 2, [188, 10]), (20, .astore_n 2, 1, [77]), (21, .aload_n 0, 1, [42]), (22, .getfield 7, 3, [180, 0, 7]), (25, .iconst 0, 1, [3]), (26, .aload_n 2, 1, [44])]
def tX10_add_c2 : List dqE := [(27, .iconst 0, 1, [3]), (28, .aload_n 0, 1, [42]), (29, .getfield 13, 3, [180, 0, 13]), (32, .invokestatic 17, 3, [184, 0, 17]), (35, .aload_n 0, 1, [42]), (36, .aload_n 2, 1, [44]), (37, .putfield 7, 3, [181, 0, 7]), (40, .aload_n 0, 1, [42])]
def tX10_add_c3 : List dqE := [(41, .getfield 7, 3, [180, 0, 7]), (44, .aload_n 0, 1, [42]), (45, .dup, 1, [89]), (46, .getfield 13, 3, [180, 0, 13]), (49, .dup_x1, 1, [90]), (50, .iconst 1, 1, [4]), (51, .iadd, 1, [96]), (52, .putfield 13, 3, [181, 0, 13])]
def tX10_add_c4 : List dqE := [(55, .iload_n 1, 1, [27]), (56, .iastore, 1, [79]), (57, .return_, 1, [177])]
def tX10_add : List (List dqE) := [tX10_add_c0, tX10_add_c1, tX10_add_c2, tX10_add_c3, tX10_add_c4]
theorem tX10_add_ok : dchk tX10_add.flatten 0 (prog_12_method_3_code).data.toList = true := by decide +kernel
theorem kX10_add_c0 : dconj prog_12_method_3_code tX10_add_c0 := dchk_c tX10_add_ok 0 rfl
theorem kX10_add_c1 : dconj prog_12_method_3_code tX10_add_c1 := dchk_c tX10_add_ok 1 rfl
theorem kX10_add_c2 : dconj prog_12_method_3_code tX10_add_c2 := dchk_c tX10_add_ok 2 rfl
theorem kX10_add_c3 : dconj prog_12_method_3_code tX10_add_c3 := dchk_c tX10_add_ok 3 rfl
theorem kX10_add_c4 : dconj prog_12_method_3_code tX10_add_c4 := dchk_c tX10_add_ok 4 rfl
def tX10_set_c0 : List dqE := [(0, .aload_n 0, 1, [42]), (1, .getfield 7, 3, [180, 0, 7]), (4, .iload_n 1, 1, [27]), (5, .iload_n 2, 1, [28]), (6, .iastore, 1, [79]), (7, .return_, 1, [177])]
def tX10_set : List (List dqE) := [tX10_set_c0]
theorem tX10_set_ok : dchk tX10_set.flatten 0 (prog_12_method_5_code).data.toList = true := by decide +kernel
theorem kX10_set_c0 : dconj prog_12_method_5_code tX10_set_c0 := dchk_c tX10_set_ok 0 rfl
def tX10_get_c0 : List dqE := [(0, .aload_n 0, 1, [42]), (1, .getfield 7, 3, [180, 0, 7]), (4, .iload_n 1, 1, [27]), (5, .iaload, 1, [46]), (6, .ireturn, 1, [172])]
def tX10_get : List (List dqE) := [tX10_get_c0]
theorem tX10_get_ok : dchk tX10_get.flatten 0 (prog_12_method_4_code).data.toList = true := by decide +kernel
theorem kX10_get_c0 : dconj prog_12_method_4_code tX10_get_c0 := dchk_c tX10_get_ok 0 rfl
def tX12_init_c0 : List dqE := [(0, .aload_n 0, 1, [42]), (1, .invokespecial 3, 3, [183, 0, 3]), (4, .aload_n 0, 1, [42]), (5, .sipush 1024, 3, [17, 4, 0]), (8, .newarray .int, 2, [188, 10]), (10, .putfield 9, 3, [181, 0, 9]), (13, .aload_n 0, 1, [42]), (14, .bipush 64, 2, [16, 64])]
def tX12_init_c1 : List dqE := [(16, .newarray .int, 2, [188, 10]), (18, .putfield 15, 3, [181, 0, 15]), (21, .aload_n 0, 1, [42]), (22, .bipush 64, 2, [16, 64]), (24, .newarray .int, 2, [188, 10]), (26, .putfield 18, 3, [181, 0, 18]), (29, .aload_n 0, 1, [42]), (30, .bipush 64, 2, [16, 64])]
def tX12_init_c2 : List dqE := [(32, .newarray .int, 2, [188, 10]), (34, .putfield 21, 3, [181, 0, 21]), (37, .aload_n 0, 1, [42]), (38, .bipush 64, 2, [16, 64]), (40, .newarray .int, 2, [188, 10]), (42, .putfield 24, 3, [181, 0, 24]), (45, .aload_n 0, 1, [42]), (46, .sipush 128, 3, [17, 0, 128])]
def tX12_init_c3 : List dqE := [(49, .newarray .int, 2, [188, 10]), (51, .putfield 27, 3, [181, 0, 27]), (54, .aload_n 0, 1, [42]), (55, .bipush 64, 2, [16, 64]), (57, .newarray .int, 2, [188, 10]), (59, .putfield 30, 3, [181, 0, 30]), (62, .return_, 1, [177])]
def tX12_init : List (List dqE) := [tX12_init_c0, tX12_init_c1, tX12_init_c2, tX12_init_c3]
theorem tX12_init_ok : dchk tX12_init.flatten 0 (prog_6_method_1_code).data.toList = true := by decide +kernel
theorem kX12_init_c0 : dconj prog_6_method_1_code tX12_init_c0 := dchk_c tX12_init_ok 0 rfl
theorem kX12_init_c1 : dconj prog_6_method_1_code tX12_init_c1 := dchk_c tX12_init_ok 1 rfl
theorem kX12_init_c2 : dconj prog_6_method_1_code tX12_init_c2 := dchk_c tX12_init_ok 2 rfl
theorem kX12_init_c3 : dconj prog_6_method_1_code tX12_init_c3 := dchk_c tX12_init_ok 3 rfl
def tX12_set_c0 : List dqE := [(0, .aload_n 0, 1, [42]), (1, .getfield 9, 3, [180, 0, 9]), (4, .aload_n 0, 1, [42]), (5, .getfield 15, 3, [180, 0, 15]), (8, .iload_n 1, 1, [27]), (9, .bipush 13, 2, [16, 13]), (11, .ishr, 1, [122]), (12, .iaload, 1, [46])]
def tX12_set_c1 : List dqE := [(13, .iload_n 1, 1, [27]), (14, .sipush 8191, 3, [17, 31, 255]), (17, .iand, 1, [126]), (18, .iadd, 1, [96]), (19, .iload_n 2, 1, [28]), (20, .iastore, 1, [79]), (21, .return_, 1, [177])]
def tX12_set : List (List dqE) := [tX12_set_c0, tX12_set_c1]
theorem tX12_set_ok : dchk tX12_set.flatten 0 (prog_6_method_8_code).data.toList = true := by decide +kernel
theorem kX12_set_c0 : dconj prog_6_method_8_code tX12_set_c0 := dchk_c tX12_set_ok 0 rfl
theorem kX12_set_c1 : dconj prog_6_method_8_code tX12_set_c1 := dchk_c tX12_set_ok 1 rfl
def tX12_slot_c0 : List dqE := [(0, .aload_n 0, 1, [42]), (1, .getfield 9, 3, [180, 0, 9]), (4, .aload_n 0, 1, [42]), (5, .getfield 15, 3, [180, 0, 15]), (8, .iload_n 1, 1, [27]), (9, .iaload, 1, [46]), (10, .iload_n 2, 1, [28]), (11, .iadd, 1, [96])]
def tX12_slot_c1 : List dqE := [(12, .iaload, 1, [46]), (13, .ireturn, 1, [172])]
def tX12_slot : List (List dqE) := [tX12_slot_c0, tX12_slot_c1]
theorem tX12_slot_ok : dchk tX12_slot.flatten 0 (prog_6_method_9_code).data.toList = true := by decide +kernel
theorem kX12_slot_c0 : dconj prog_6_method_9_code tX12_slot_c0 := dchk_c tX12_slot_ok 0 rfl
theorem kX12_slot_c1 : dconj prog_6_method_9_code tX12_slot_c1 := dchk_c tX12_slot_ok 1 rfl
def tX12_free_c0 : List dqE := [(0, .aload_n 0, 1, [42]), (1, .dup, 1, [89]), (2, .getfield 46, 3, [180, 0, 46]), (5, .aload_n 0, 1, [42]), (6, .getfield 18, 3, [180, 0, 18]), (9, .iload_n 1, 1, [27]), (10, .iaload, 1, [46]), (11, .isub, 1, [100])]
def tX12_free_c1 : List dqE := [(12, .putfield 46, 3, [181, 0, 46]), (15, .aload_n 0, 1, [42]), (16, .getfield 27, 3, [180, 0, 27]), (19, .aload_n 0, 1, [42]), (20, .getfield 24, 3, [180, 0, 24]), (23, .iload_n 1, 1, [27]), (24, .iaload, 1, [46]), (25, .iconst (-1), 1, [2])]
def tX12_free_c2 : List dqE := [(26, .iastore, 1, [79]), (27, .aload_n 0, 1, [42]), (28, .getfield 30, 3, [180, 0, 30]), (31, .aload_n 0, 1, [42]), (32, .dup, 1, [89]), (33, .getfield 43, 3, [180, 0, 43]), (36, .dup_x1, 1, [90]), (37, .iconst 1, 1, [4])]
def tX12_free_c3 : List dqE := [(38, .iadd, 1, [96]), (39, .putfield 43, 3, [181, 0, 43]), (42, .iload_n 1, 1, [27]), (43, .iastore, 1, [79]), (44, .return_, 1, [177])]
def tX12_free : List (List dqE) := [tX12_free_c0, tX12_free_c1, tX12_free_c2, tX12_free_c3]
theorem tX12_free_ok : dchk tX12_free.flatten 0 (prog_6_method_5_code).data.toList = true := by decide +kernel
theorem kX12_free_c0 : dconj prog_6_method_5_code tX12_free_c0 := dchk_c tX12_free_ok 0 rfl
theorem kX12_free_c1 : dconj prog_6_method_5_code tX12_free_c1 := dchk_c tX12_free_ok 1 rfl
theorem kX12_free_c2 : dconj prog_6_method_5_code tX12_free_c2 := dchk_c tX12_free_ok 2 rfl
theorem kX12_free_c3 : dconj prog_6_method_5_code tX12_free_c3 := dchk_c tX12_free_ok 3 rfl
def tX12_get_c0 : List dqE := [(0, .aload_n 0, 1, [42]), (1, .getfield 9, 3, [180, 0, 9]), (4, .aload_n 0, 1, [42]), (5, .getfield 15, 3, [180, 0, 15]), (8, .iload_n 1, 1, [27]), (9, .bipush 13, 2, [16, 13]), (11, .ishr, 1, [122]), (12, .iaload, 1, [46])]
def tX12_get_c1 : List dqE := [(13, .iload_n 1, 1, [27]), (14, .sipush 8191, 3, [17, 31, 255]), (17, .iand, 1, [126]), (18, .iadd, 1, [96]), (19, .iaload, 1, [46]), (20, .ireturn, 1, [172])]
def tX12_get : List (List dqE) := [tX12_get_c0, tX12_get_c1]
theorem tX12_get_ok : dchk tX12_get.flatten 0 (prog_6_method_7_code).data.toList = true := by decide +kernel
theorem kX12_get_c0 : dconj prog_6_method_7_code tX12_get_c0 := dchk_c tX12_get_ok 0 rfl
theorem kX12_get_c1 : dconj prog_6_method_7_code tX12_get_c1 := dchk_c tX12_get_ok 1 rfl
def tX12_make_c0 : List dqE := [(0, .aload_n 0, 1, [42]), (1, .getfield 33, 3, [180, 0, 33]), (4, .iload_n 1, 1, [27]), (5, .iadd, 1, [96]), (6, .aload_n 0, 1, [42]), (7, .getfield 9, 3, [180, 0, 9]), (10, .arraylength, 1, [190]), (11, .if_icmp .gt 15, 3, [163, 0, 15])]
def tX12_make_c1 : List dqE := [(14, .aload_n 0, 1, [42]), (15, .getfield 40, 3, [180, 0, 40]), (18, .aload_n 0, 1, [42]), (19, .getfield 27, 3, [180, 0, 27]), (22, .arraylength, 1, [190]), (23, .if_icmp .ne 8, 3, [160, 0, 8]), (26, .aload_n 0, 1, [42]), (27, .iload_n 1, 1, [27])]
def tX12_make_c2 : List dqE := [(28, .invokevirtual 55, 3, [182, 0, 55]), (31, .aload_n 0, 1, [42]), (32, .getfield 43, 3, [180, 0, 43]), (35, .ifCond .le 22, 3, [158, 0, 22]), (38, .aload_n 0, 1, [42]), (39, .getfield 30, 3, [180, 0, 30]), (42, .aload_n 0, 1, [42]), (43, .dup, 1, [89])]
def tX12_make_c3 : List dqE := [(44, .getfield 43, 3, [180, 0, 43]), (47, .iconst 1, 1, [4]), (48, .isub, 1, [100]), (49, .dup_x1, 1, [90]), (50, .putfield 43, 3, [181, 0, 43]), (53, .iaload, 1, [46]), (54, .goto 14, 3, [167, 0, 14]), (57, .aload_n 0, 1, [42])]
def tX12_make_c4 : List dqE := [(58, .dup, 1, [89]), (59, .getfield 37, 3, [180, 0, 37]), (62, .dup_x1, 1, [90]), (63, .iconst 1, 1, [4]), (64, .iadd, 1, [96]), (65, .putfield 37, 3, [181, 0, 37]), (68, .istore_n 3, 1, [62]), (69, .iload_n 3, 1, [29])]
def tX12_make_c5 : List dqE := [(70, .aload_n 0, 1, [42]), (71, .getfield 15, 3, [180, 0, 15]), (74, .arraylength, 1, [190]), (75, .if_icmp .ne 66, 3, [160, 0, 66]), (78, .aload_n 0, 1, [42]), (79, .aload_n 0, 1, [42]), (80, .getfield 15, 3, [180, 0, 15]), (83, .iload_n 3, 1, [29])]
def tX12_make_c6 : List dqE := [(84, .invokestatic 59, 3, [184, 0, 59]), (87, .putfield 15, 3, [181, 0, 15]), (90, .aload_n 0, 1, [42]), (91, .aload_n 0, 1, [42]), (92, .getfield 18, 3, [180, 0, 18]), (95, .iload_n 3, 1, [29]), (96, .invokestatic 59, 3, [184, 0, 59]), (99, .putfield 18, 3, [181, 0, 18])]
def tX12_make_c7 : List dqE := [(102, .aload_n 0, 1, [42]), (103, .aload_n 0, 1, [42]), (104, .getfield 21, 3, [180, 0, 21]), (107, .iload_n 3, 1, [29]), (108, .invokestatic 59, 3, [184, 0, 59]), (111, .putfield 21, 3, [181, 0, 21]), (114, .aload_n 0, 1, [42]), (115, .aload_n 0, 1, [42])]
def tX12_make_c8 : List dqE := [(116, .getfield 24, 3, [180, 0, 24]), (119, .iload_n 3, 1, [29]), (120, .invokestatic 59, 3, [184, 0, 59]), (123, .putfield 24, 3, [181, 0, 24]), (126, .aload_n 0, 1, [42]), (127, .aload_n 0, 1, [42]), (128, .getfield 30, 3, [180, 0, 30]), (131, .aload_n 0, 1, [42])]
def tX12_make_c9 : List dqE := [(132, .getfield 43, 3, [180, 0, 43]), (135, .invokestatic 59, 3, [184, 0, 59]), (138, .putfield 30, 3, [181, 0, 30]), (141, .aload_n 0, 1, [42]), (142, .getfield 15, 3, [180, 0, 15]), (145, .iload_n 3, 1, [29]), (146, .aload_n 0, 1, [42]), (147, .getfield 33, 3, [180, 0, 33])]
def tX12_make_c10 : List dqE := [(150, .iastore, 1, [79]), (151, .aload_n 0, 1, [42]), (152, .getfield 18, 3, [180, 0, 18]), (155, .iload_n 3, 1, [29]), (156, .iload_n 1, 1, [27]), (157, .iastore, 1, [79]), (158, .aload_n 0, 1, [42]), (159, .getfield 21, 3, [180, 0, 21])]
def tX12_make_c11 : List dqE := [(162, .iload_n 3, 1, [29]), (163, .iload_n 2, 1, [28]), (164, .iastore, 1, [79]), (165, .aload_n 0, 1, [42]), (166, .getfield 24, 3, [180, 0, 24]), (169, .iload_n 3, 1, [29]), (170, .aload_n 0, 1, [42]), (171, .getfield 40, 3, [180, 0, 40])]
def tX12_make_c12 : List dqE := [(174, .iastore, 1, [79]), (175, .aload_n 0, 1, [42]), (176, .getfield 27, 3, [180, 0, 27]), (179, .aload_n 0, 1, [42]), (180, .dup, 1, [89]), (181, .getfield 40, 3, [180, 0, 40]), (184, .dup_x1, 1, [90]), (185, .iconst 1, 1, [4])]
def tX12_make_c13 : List dqE := [(186, .iadd, 1, [96]), (187, .putfield 40, 3, [181, 0, 40]), (190, .iload_n 3, 1, [29]), (191, .iastore, 1, [79]), (192, .iconst 0, 1, [3]), (193, .istore 4, 2, [54, 4]), (195, .iload 4, 2, [21, 4]), (197, .iload_n 1, 1, [27])]
def tX12_make_c14 : List dqE := [(198, .if_icmp .ge 22, 3, [162, 0, 22]), (201, .aload_n 0, 1, [42]), (202, .getfield 9, 3, [180, 0, 9]), (205, .aload_n 0, 1, [42]), (206, .getfield 33, 3, [180, 0, 33]), (209, .iload 4, 2, [21, 4]), (211, .iadd, 1, [96]), (212, .iconst 0, 1, [3])]
def tX12_make_c15 : List dqE := [(213, .iastore, 1, [79]), (214, .iinc 4 1, 3, [132, 4, 1]), (217, .goto (-22), 3, [167, 255, 234]), (220, .aload_n 0, 1, [42]), (221, .dup, 1, [89]), (222, .getfield 33, 3, [180, 0, 33]), (225, .iload_n 1, 1, [27]), (226, .iadd, 1, [96])]
def tX12_make_c16 : List dqE := [(227, .putfield 33, 3, [181, 0, 33]), (230, .aload_n 0, 1, [42]), (231, .dup, 1, [89]), (232, .getfield 46, 3, [180, 0, 46]), (235, .iload_n 1, 1, [27]), (236, .iadd, 1, [96]), (237, .putfield 46, 3, [181, 0, 46]), (240, .iload_n 3, 1, [29])]
def tX12_make_c17 : List dqE := [(241, .ireturn, 1, [172])]
def tX12_make : List (List dqE) := [tX12_make_c0, tX12_make_c1, tX12_make_c2, tX12_make_c3, tX12_make_c4, tX12_make_c5, tX12_make_c6, tX12_make_c7, tX12_make_c8, tX12_make_c9, tX12_make_c10, tX12_make_c11, tX12_make_c12, tX12_make_c13, tX12_make_c14, tX12_make_c15, tX12_make_c16, tX12_make_c17]
theorem tX12_make_ok : dchk tX12_make.flatten 0 (prog_6_method_4_code).data.toList = true := by decide +kernel
theorem kX12_make_c0 : dconj prog_6_method_4_code tX12_make_c0 := dchk_c tX12_make_ok 0 rfl
theorem kX12_make_c1 : dconj prog_6_method_4_code tX12_make_c1 := dchk_c tX12_make_ok 1 rfl
theorem kX12_make_c2 : dconj prog_6_method_4_code tX12_make_c2 := dchk_c tX12_make_ok 2 rfl
theorem kX12_make_c3 : dconj prog_6_method_4_code tX12_make_c3 := dchk_c tX12_make_ok 3 rfl
theorem kX12_make_c4 : dconj prog_6_method_4_code tX12_make_c4 := dchk_c tX12_make_ok 4 rfl
theorem kX12_make_c5 : dconj prog_6_method_4_code tX12_make_c5 := dchk_c tX12_make_ok 5 rfl
theorem kX12_make_c6 : dconj prog_6_method_4_code tX12_make_c6 := dchk_c tX12_make_ok 6 rfl
theorem kX12_make_c7 : dconj prog_6_method_4_code tX12_make_c7 := dchk_c tX12_make_ok 7 rfl
theorem kX12_make_c8 : dconj prog_6_method_4_code tX12_make_c8 := dchk_c tX12_make_ok 8 rfl
theorem kX12_make_c9 : dconj prog_6_method_4_code tX12_make_c9 := dchk_c tX12_make_ok 9 rfl
theorem kX12_make_c10 : dconj prog_6_method_4_code tX12_make_c10 := dchk_c tX12_make_ok 10 rfl
theorem kX12_make_c11 : dconj prog_6_method_4_code tX12_make_c11 := dchk_c tX12_make_ok 11 rfl
theorem kX12_make_c12 : dconj prog_6_method_4_code tX12_make_c12 := dchk_c tX12_make_ok 12 rfl
theorem kX12_make_c13 : dconj prog_6_method_4_code tX12_make_c13 := dchk_c tX12_make_ok 13 rfl
theorem kX12_make_c14 : dconj prog_6_method_4_code tX12_make_c14 := dchk_c tX12_make_ok 14 rfl
theorem kX12_make_c15 : dconj prog_6_method_4_code tX12_make_c15 := dchk_c tX12_make_ok 15 rfl
theorem kX12_make_c16 : dconj prog_6_method_4_code tX12_make_c16 := dchk_c tX12_make_ok 16 rfl
theorem kX12_make_c17 : dconj prog_6_method_4_code tX12_make_c17 := dchk_c tX12_make_ok 17 rfl
def tX12_compact_c0 : List dqE := [(0, .iconst 0, 1, [3]), (1, .istore_n 2, 1, [61]), (2, .iconst 0, 1, [3]), (3, .istore_n 3, 1, [62]), (4, .iconst 0, 1, [3]), (5, .istore 4, 2, [54, 4]), (7, .iload 4, 2, [21, 4]), (9, .aload_n 0, 1, [42])]
def tX12_compact_c1 : List dqE := [(10, .getfield 40, 3, [180, 0, 40]), (13, .if_icmp .ge 90, 3, [162, 0, 90]), (16, .aload_n 0, 1, [42]), (17, .getfield 27, 3, [180, 0, 27]), (20, .iload 4, 2, [21, 4]), (22, .iaload, 1, [46]), (23, .istore 5, 2, [54, 5]), (25, .iload 5, 2, [21, 5])]
def tX12_compact_c2 : List dqE := [(27, .iconst (-1), 1, [2]), (28, .if_icmp .ne 6, 3, [160, 0, 6]), (31, .goto 66, 3, [167, 0, 66]), (34, .aload_n 0, 1, [42]), (35, .getfield 9, 3, [180, 0, 9]), (38, .aload_n 0, 1, [42]), (39, .getfield 15, 3, [180, 0, 15]), (42, .iload 5, 2, [21, 5])]
def tX12_compact_c3 : List dqE := [(44, .iaload, 1, [46]), (45, .aload_n 0, 1, [42]), (46, .getfield 9, 3, [180, 0, 9]), (49, .iload_n 2, 1, [28]), (50, .aload_n 0, 1, [42]), (51, .getfield 18, 3, [180, 0, 18]), (54, .iload 5, 2, [21, 5]), (56, .iaload, 1, [46])]
def tX12_compact_c4 : List dqE := [(57, .invokestatic 49, 3, [184, 0, 49]), (60, .aload_n 0, 1, [42]), (61, .getfield 15, 3, [180, 0, 15]), (64, .iload 5, 2, [21, 5]), (66, .iload_n 2, 1, [28]), (67, .iastore, 1, [79]), (68, .iload_n 2, 1, [28]), (69, .aload_n 0, 1, [42])]
def tX12_compact_c5 : List dqE := [(70, .getfield 18, 3, [180, 0, 18]), (73, .iload 5, 2, [21, 5]), (75, .iaload, 1, [46]), (76, .iadd, 1, [96]), (77, .istore_n 2, 1, [61]), (78, .aload_n 0, 1, [42]), (79, .getfield 24, 3, [180, 0, 24]), (82, .iload 5, 2, [21, 5])]
def tX12_compact_c6 : List dqE := [(84, .iload_n 3, 1, [29]), (85, .iastore, 1, [79]), (86, .aload_n 0, 1, [42]), (87, .getfield 27, 3, [180, 0, 27]), (90, .iload_n 3, 1, [29]), (91, .iinc 3 1, 3, [132, 3, 1]), (94, .iload 5, 2, [21, 5]), (96, .iastore, 1, [79])]
def tX12_compact_c7 : List dqE := [(97, .iinc 4 1, 3, [132, 4, 1]), (100, .goto (-93), 3, [167, 255, 163]), (103, .aload_n 0, 1, [42]), (104, .iload_n 2, 1, [28]), (105, .putfield 33, 3, [181, 0, 33]), (108, .aload_n 0, 1, [42]), (109, .iload_n 3, 1, [29]), (110, .putfield 40, 3, [181, 0, 40])]
def tX12_compact_c8 : List dqE := [(113, .iconst 2, 1, [5]), (114, .aload_n 0, 1, [42]), (115, .getfield 40, 3, [180, 0, 40]), (118, .imul, 1, [104]), (119, .aload_n 0, 1, [42]), (120, .getfield 27, 3, [180, 0, 27]), (123, .arraylength, 1, [190]), (124, .if_icmp .le 18, 3, [164, 0, 18])]
def tX12_compact_c9 : List dqE := [(127, .aload_n 0, 1, [42]), (128, .aload_n 0, 1, [42]), (129, .getfield 27, 3, [180, 0, 27]), (132, .aload_n 0, 1, [42]), (133, .getfield 40, 3, [180, 0, 40]), (136, .invokestatic 59, 3, [184, 0, 59]), (139, .putfield 27, 3, [181, 0, 27]), (142, .bipush 8, 2, [16, 8])]
def tX12_compact_c10 : List dqE := [(144, .aload_n 0, 1, [42]), (145, .getfield 33, 3, [180, 0, 33]), (148, .iload_n 1, 1, [27]), (149, .iadd, 1, [96]), (150, .imul, 1, [104]), (151, .bipush 7, 2, [16, 7]), (153, .aload_n 0, 1, [42]), (154, .getfield 9, 3, [180, 0, 9])]
def tX12_compact_c11 : List dqE := [(157, .arraylength, 1, [190]), (158, .imul, 1, [104]), (159, .if_icmp .le 21, 3, [164, 0, 21]), (162, .aload_n 0, 1, [42]), (163, .aload_n 0, 1, [42]), (164, .getfield 9, 3, [180, 0, 9]), (167, .aload_n 0, 1, [42]), (168, .getfield 33, 3, [180, 0, 33])]
def tX12_compact_c12 : List dqE := [(171, .invokestatic 59, 3, [184, 0, 59]), (174, .putfield 9, 3, [181, 0, 9]), (177, .goto (-35), 3, [167, 255, 221]), (180, .return_, 1, [177])]
def tX12_compact : List (List dqE) := [tX12_compact_c0, tX12_compact_c1, tX12_compact_c2, tX12_compact_c3, tX12_compact_c4, tX12_compact_c5, tX12_compact_c6, tX12_compact_c7, tX12_compact_c8, tX12_compact_c9, tX12_compact_c10, tX12_compact_c11, tX12_compact_c12]
theorem tX12_compact_ok : dchk tX12_compact.flatten 0 (prog_6_method_6_code).data.toList = true := by decide +kernel
theorem kX12_compact_c0 : dconj prog_6_method_6_code tX12_compact_c0 := dchk_c tX12_compact_ok 0 rfl
theorem kX12_compact_c1 : dconj prog_6_method_6_code tX12_compact_c1 := dchk_c tX12_compact_ok 1 rfl
theorem kX12_compact_c2 : dconj prog_6_method_6_code tX12_compact_c2 := dchk_c tX12_compact_ok 2 rfl
theorem kX12_compact_c3 : dconj prog_6_method_6_code tX12_compact_c3 := dchk_c tX12_compact_ok 3 rfl
theorem kX12_compact_c4 : dconj prog_6_method_6_code tX12_compact_c4 := dchk_c tX12_compact_ok 4 rfl
theorem kX12_compact_c5 : dconj prog_6_method_6_code tX12_compact_c5 := dchk_c tX12_compact_ok 5 rfl
theorem kX12_compact_c6 : dconj prog_6_method_6_code tX12_compact_c6 := dchk_c tX12_compact_ok 6 rfl
theorem kX12_compact_c7 : dconj prog_6_method_6_code tX12_compact_c7 := dchk_c tX12_compact_ok 7 rfl
theorem kX12_compact_c8 : dconj prog_6_method_6_code tX12_compact_c8 := dchk_c tX12_compact_ok 8 rfl
theorem kX12_compact_c9 : dconj prog_6_method_6_code tX12_compact_c9 := dchk_c tX12_compact_ok 9 rfl
theorem kX12_compact_c10 : dconj prog_6_method_6_code tX12_compact_c10 := dchk_c tX12_compact_ok 10 rfl
theorem kX12_compact_c11 : dconj prog_6_method_6_code tX12_compact_c11 := dchk_c tX12_compact_ok 11 rfl
theorem kX12_compact_c12 : dconj prog_6_method_6_code tX12_compact_c12 := dchk_c tX12_compact_ok 12 rfl
def tX12_grown_c0 : List dqE := [(0, .iconst 2, 1, [5]), (1, .aload_n 0, 1, [42]), (2, .arraylength, 1, [190]), (3, .imul, 1, [104]), (4, .newarray .int, 2, [188, 10]), (6, .astore_n 2, 1, [77]), (7, .aload_n 0, 1, [42]), (8, .iconst 0, 1, [3])]
def tX12_grown_c1 : List dqE := [(9, .aload_n 2, 1, [44]), (10, .iconst 0, 1, [3]), (11, .iload_n 1, 1, [27]), (12, .invokestatic 49, 3, [184, 0, 49]), (15, .aload_n 2, 1, [44]), (16, .areturn, 1, [176])]
def tX12_grown : List (List dqE) := [tX12_grown_c0, tX12_grown_c1]
theorem tX12_grown_ok : dchk tX12_grown.flatten 0 (prog_6_method_3_code).data.toList = true := by decide +kernel
theorem kX12_grown_c0 : dconj prog_6_method_3_code tX12_grown_c0 := dchk_c tX12_grown_ok 0 rfl
theorem kX12_grown_c1 : dconj prog_6_method_3_code tX12_grown_c1 := dchk_c tX12_grown_ok 1 rfl
def tX12_setSlot_c0 : List dqE := [(0, .aload_n 0, 1, [42]), (1, .getfield 9, 3, [180, 0, 9]), (4, .aload_n 0, 1, [42]), (5, .getfield 15, 3, [180, 0, 15]), (8, .iload_n 1, 1, [27]), (9, .iaload, 1, [46]), (10, .iload_n 2, 1, [28]), (11, .iadd, 1, [96])]
def tX12_setSlot_c1 : List dqE := [(12, .iload_n 3, 1, [29]), (13, .iastore, 1, [79]), (14, .return_, 1, [177])]
def tX12_setSlot : List (List dqE) := [tX12_setSlot_c0, tX12_setSlot_c1]
theorem tX12_setSlot_ok : dchk tX12_setSlot.flatten 0 (prog_6_method_10_code).data.toList = true := by decide +kernel
theorem kX12_setSlot_c0 : dconj prog_6_method_10_code tX12_setSlot_c0 := dchk_c tX12_setSlot_ok 0 rfl
theorem kX12_setSlot_c1 : dconj prog_6_method_10_code tX12_setSlot_c1 := dchk_c tX12_setSlot_ok 1 rfl
def tX12_move_c0 : List dqE := [(0, .aload_n 0, 1, [42]), (1, .getfield 9, 3, [180, 0, 9]), (4, .aload_n 0, 1, [42]), (5, .getfield 15, 3, [180, 0, 15]), (8, .iload_n 2, 1, [28]), (9, .bipush 13, 2, [16, 13]), (11, .ishr, 1, [122]), (12, .iaload, 1, [46])]
def tX12_move_c1 : List dqE := [(13, .iload_n 2, 1, [28]), (14, .sipush 8191, 3, [17, 31, 255]), (17, .iand, 1, [126]), (18, .iadd, 1, [96]), (19, .aload_n 0, 1, [42]), (20, .getfield 9, 3, [180, 0, 9]), (23, .aload_n 0, 1, [42]), (24, .getfield 15, 3, [180, 0, 15])]
def tX12_move_c2 : List dqE := [(27, .iload_n 1, 1, [27]), (28, .bipush 13, 2, [16, 13]), (30, .ishr, 1, [122]), (31, .iaload, 1, [46]), (32, .iload_n 1, 1, [27]), (33, .sipush 8191, 3, [17, 31, 255]), (36, .iand, 1, [126]), (37, .iadd, 1, [96])]
def tX12_move_c3 : List dqE := [(38, .iload_n 3, 1, [29]), (39, .invokestatic 49, 3, [184, 0, 49]), (42, .return_, 1, [177])]
def tX12_move : List (List dqE) := [tX12_move_c0, tX12_move_c1, tX12_move_c2, tX12_move_c3]
theorem tX12_move_ok : dchk tX12_move.flatten 0 (prog_6_method_11_code).data.toList = true := by decide +kernel
theorem kX12_move_c0 : dconj prog_6_method_11_code tX12_move_c0 := dchk_c tX12_move_ok 0 rfl
theorem kX12_move_c1 : dconj prog_6_method_11_code tX12_move_c1 := dchk_c tX12_move_ok 1 rfl
theorem kX12_move_c2 : dconj prog_6_method_11_code tX12_move_c2 := dchk_c tX12_move_ok 2 rfl
theorem kX12_move_c3 : dconj prog_6_method_11_code tX12_move_c3 := dchk_c tX12_move_ok 3 rfl
def tX12_clear_c0 : List dqE := [(0, .aload_n 0, 1, [42]), (1, .iconst 0, 1, [3]), (2, .putfield 33, 3, [181, 0, 33]), (5, .aload_n 0, 1, [42]), (6, .iconst 1, 1, [4]), (7, .putfield 37, 3, [181, 0, 37]), (10, .aload_n 0, 1, [42]), (11, .iconst 0, 1, [3])]
def tX12_clear_c1 : List dqE := [(12, .putfield 40, 3, [181, 0, 40]), (15, .aload_n 0, 1, [42]), (16, .iconst 0, 1, [3]), (17, .putfield 43, 3, [181, 0, 43]), (20, .aload_n 0, 1, [42]), (21, .iconst 0, 1, [3]), (22, .putfield 46, 3, [181, 0, 46]), (25, .return_, 1, [177])]
def tX12_clear : List (List dqE) := [tX12_clear_c0, tX12_clear_c1]
theorem tX12_clear_ok : dchk tX12_clear.flatten 0 (prog_6_method_2_code).data.toList = true := by decide +kernel
theorem kX12_clear_c0 : dconj prog_6_method_2_code tX12_clear_c0 := dchk_c tX12_clear_ok 0 rfl
theorem kX12_clear_c1 : dconj prog_6_method_2_code tX12_clear_c1 := dchk_c tX12_clear_ok 1 rfl
def tX16_init_c0 : List dqE := [(0, .aload_n 0, 1, [42]), (1, .invokespecial 3, 3, [183, 0, 3]), (4, .return_, 1, [177])]
def tX16_init : List (List dqE) := [tX16_init_c0]
theorem tX16_init_ok : dchk tX16_init.flatten 0 (prog_8_method_1_code).data.toList = true := by decide +kernel
theorem kX16_init_c0 : dconj prog_8_method_1_code tX16_init_c0 := dchk_c tX16_init_ok 0 rfl
def tX16_begin_c0 : List dqE := [(0, .aload_n 0, 1, [42]), (1, .aload_n 1, 1, [43]), (2, .putfield 9, 3, [181, 0, 9]), (5, .aload_n 0, 1, [42]), (6, .iload_n 2, 1, [28]), (7, .putfield 15, 3, [181, 0, 15]), (10, .aload_n 0, 1, [42]), (11, .iload_n 3, 1, [29])]
def tX16_begin_c1 : List dqE := [(12, .putfield 19, 3, [181, 0, 19]), (15, .aload_n 0, 1, [42]), (16, .aconst_null, 1, [1]), (17, .putfield 22, 3, [181, 0, 22]), (20, .aload_n 0, 1, [42]), (21, .aconst_null, 1, [1]), (22, .putfield 26, 3, [181, 0, 26]), (25, .aload_n 0, 1, [42])]
def tX16_begin_c2 : List dqE := [(26, .aconst_null, 1, [1]), (27, .putfield 29, 3, [181, 0, 29]), (30, .aload_n 0, 1, [42]), (31, .aconst_null, 1, [1]), (32, .putfield 32, 3, [181, 0, 32]), (35, .aload_n 0, 1, [42]), (36, .aconst_null, 1, [1]), (37, .putfield 35, 3, [181, 0, 35])]
def tX16_begin_c3 : List dqE := [(40, .aload_n 0, 1, [42]), (41, .iconst (-1), 1, [2]), (42, .putfield 38, 3, [181, 0, 38]), (45, .aload_n 0, 1, [42]), (46, .iconst (-1), 1, [2]), (47, .putfield 41, 3, [181, 0, 41]), (50, .aload_n 0, 1, [42]), (51, .iconst 0, 1, [3])]
def tX16_begin_c4 : List dqE := [(52, .putfield 44, 3, [181, 0, 44]), (55, .aload_n 0, 1, [42]), (56, .iconst 0, 1, [3]), (57, .putfield 47, 3, [181, 0, 47]), (60, .aload_n 0, 1, [42]), (61, .iconst 0, 1, [3]), (62, .putfield 51, 3, [181, 0, 51]), (65, .aload_n 0, 1, [42])]
def tX16_begin_c5 : List dqE := [(66, .iconst 0, 1, [3]), (67, .putfield 54, 3, [181, 0, 54]), (70, .aload_n 0, 1, [42]), (71, .iconst 0, 1, [3]), (72, .putfield 57, 3, [181, 0, 57]), (75, .aload_n 0, 1, [42]), (76, .iconst 0, 1, [3]), (77, .putfield 60, 3, [181, 0, 60])]
def tX16_begin_c6 : List dqE := [(80, .aload_n 0, 1, [42]), (81, .aconst_null, 1, [1]), (82, .putfield 63, 3, [181, 0, 63]), (85, .aload_n 0, 1, [42]), (86, .iconst 0, 1, [3]), (87, .putfield 67, 3, [181, 0, 67]), (90, .aload_n 0, 1, [42]), (91, .iconst (-1), 1, [2])]
def tX16_begin_c7 : List dqE := [(92, .putfield 70, 3, [181, 0, 70]), (95, .aload_n 0, 1, [42]), (96, .iconst 0, 1, [3]), (97, .putfield 73, 3, [181, 0, 73]), (100, .aload_n 0, 1, [42]), (101, .iconst 0, 1, [3]), (102, .putfield 76, 3, [181, 0, 76]), (105, .aload_n 0, 1, [42])]
def tX16_begin_c8 : List dqE := [(106, .iconst 0, 1, [3]), (107, .putfield 79, 3, [181, 0, 79]), (110, .aload_n 0, 1, [42]), (111, .areturn, 1, [176])]
def tX16_begin : List (List dqE) := [tX16_begin_c0, tX16_begin_c1, tX16_begin_c2, tX16_begin_c3, tX16_begin_c4, tX16_begin_c5, tX16_begin_c6, tX16_begin_c7, tX16_begin_c8]
theorem tX16_begin_ok : dchk tX16_begin.flatten 0 (prog_8_method_2_code).data.toList = true := by decide +kernel
theorem kX16_begin_c0 : dconj prog_8_method_2_code tX16_begin_c0 := dchk_c tX16_begin_ok 0 rfl
theorem kX16_begin_c1 : dconj prog_8_method_2_code tX16_begin_c1 := dchk_c tX16_begin_ok 1 rfl
theorem kX16_begin_c2 : dconj prog_8_method_2_code tX16_begin_c2 := dchk_c tX16_begin_ok 2 rfl
theorem kX16_begin_c3 : dconj prog_8_method_2_code tX16_begin_c3 := dchk_c tX16_begin_ok 3 rfl
theorem kX16_begin_c4 : dconj prog_8_method_2_code tX16_begin_c4 := dchk_c tX16_begin_ok 4 rfl
theorem kX16_begin_c5 : dconj prog_8_method_2_code tX16_begin_c5 := dchk_c tX16_begin_ok 5 rfl
theorem kX16_begin_c6 : dconj prog_8_method_2_code tX16_begin_c6 := dchk_c tX16_begin_ok 6 rfl
theorem kX16_begin_c7 : dconj prog_8_method_2_code tX16_begin_c7 := dchk_c tX16_begin_ok 7 rfl
theorem kX16_begin_c8 : dconj prog_8_method_2_code tX16_begin_c8 := dchk_c tX16_begin_ok 8 rfl
