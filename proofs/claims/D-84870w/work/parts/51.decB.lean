set_option maxRecDepth 100000
def tX17_init_c0 : List dqE := [(0, .aload_n 0, 1, [42]), (1, .invokespecial 3, 3, [183, 0, 3]), (4, .return_, 1, [177])]
def tX17_init : List (List dqE) := [tX17_init_c0]
theorem tX17_init_ok : dchk tX17_init.flatten 0 (prog_16_method_1_code).data.toList = true := by decide +kernel
theorem kX17_init_c0 : dconj prog_16_method_1_code tX17_init_c0 := dchk_c tX17_init_ok 0 rfl
def tX17_begin_c0 : List dqE := [(0, .aload_n 0, 1, [42]), (1, .aload_n 1, 1, [43]), (2, .putfield 9, 3, [181, 0, 9]), (5, .aload_n 0, 1, [42]), (6, .iload_n 2, 1, [28]), (7, .putfield 15, 3, [181, 0, 15]), (10, .aload_n 0, 1, [42]), (11, .iload_n 3, 1, [29])]
def tX17_begin_c1 : List dqE := [(12, .putfield 19, 3, [181, 0, 19]), (15, .aload_n 0, 1, [42]), (16, .iconst 0, 1, [3]), (17, .putfield 22, 3, [181, 0, 22]), (20, .aload_n 0, 1, [42]), (21, .aconst_null, 1, [1]), (22, .putfield 25, 3, [181, 0, 25]), (25, .aload_n 0, 1, [42])]
def tX17_begin_c2 : List dqE := [(26, .iconst 0, 1, [3]), (27, .putfield 29, 3, [181, 0, 29]), (30, .aload_n 0, 1, [42]), (31, .iconst (-1), 1, [2]), (32, .putfield 32, 3, [181, 0, 32]), (35, .aload_n 0, 1, [42]), (36, .iconst 0, 1, [3]), (37, .putfield 35, 3, [181, 0, 35])]
def tX17_begin_c3 : List dqE := [(40, .aload_n 0, 1, [42]), (41, .iconst 0, 1, [3]), (42, .putfield 38, 3, [181, 0, 38]), (45, .aload_n 0, 1, [42]), (46, .iconst 0, 1, [3]), (47, .putfield 41, 3, [181, 0, 41]), (50, .aload_n 0, 1, [42]), (51, .iconst 0, 1, [3])]
def tX17_begin_c4 : List dqE := [(52, .putfield 45, 3, [181, 0, 45]), (55, .aload_n 0, 1, [42]), (56, .iconst 0, 1, [3]), (57, .putfield 48, 3, [181, 0, 48]), (60, .aload_n 0, 1, [42]), (61, .iconst 0, 1, [3]), (62, .putfield 51, 3, [181, 0, 51]), (65, .aload_n 0, 1, [42])]
def tX17_begin_c5 : List dqE := [(66, .iconst 0, 1, [3]), (67, .putfield 54, 3, [181, 0, 54]), (70, .aload_n 0, 1, [42]), (71, .iconst 0, 1, [3]), (72, .putfield 57, 3, [181, 0, 57]), (75, .aload_n 0, 1, [42]), (76, .aconst_null, 1, [1]), (77, .putfield 60, 3, [181, 0, 60])]
def tX17_begin_c6 : List dqE := [(80, .aload_n 0, 1, [42]), (81, .iconst 0, 1, [3]), (82, .putfield 63, 3, [181, 0, 63]), (85, .aload_n 0, 1, [42]), (86, .aconst_null, 1, [1]), (87, .putfield 66, 3, [181, 0, 66]), (90, .aload_n 0, 1, [42]), (91, .aconst_null, 1, [1])]
def tX17_begin_c7 : List dqE := [(92, .putfield 70, 3, [181, 0, 70]), (95, .aload_n 0, 1, [42]), (96, .aconst_null, 1, [1]), (97, .putfield 73, 3, [181, 0, 73]), (100, .aload_n 0, 1, [42]), (101, .aconst_null, 1, [1]), (102, .putfield 76, 3, [181, 0, 76]), (105, .aload_n 0, 1, [42])]
def tX17_begin_c8 : List dqE := [(106, .iconst 0, 1, [3]), (107, .putfield 80, 3, [181, 0, 80]), (110, .aload_n 0, 1, [42]), (111, .iconst 0, 1, [3]), (112, .putfield 83, 3, [181, 0, 83]), (115, .aload_n 0, 1, [42]), (116, .iconst 0, 1, [3]), (117, .putfield 86, 3, [181, 0, 86])]
def tX17_begin_c9 : List dqE := [(120, .aload_n 0, 1, [42]), (121, .iconst 0, 1, [3]), (122, .putfield 89, 3, [181, 0, 89]), (125, .aload_n 0, 1, [42]), (126, .iconst 0, 1, [3]), (127, .putfield 92, 3, [181, 0, 92]), (130, .aload_n 0, 1, [42]), (131, .iconst 0, 1, [3])]
def tX17_begin_c10 : List dqE := [(132, .putfield 95, 3, [181, 0, 95]), (135, .aload_n 0, 1, [42]), (136, .iconst 0, 1, [3]), (137, .putfield 98, 3, [181, 0, 98]), (140, .aload_n 0, 1, [42]), (141, .iconst 0, 1, [3]), (142, .putfield 101, 3, [181, 0, 101]), (145, .aload_n 0, 1, [42])]
def tX17_begin_c11 : List dqE := [(146, .iconst (-1), 1, [2]), (147, .putfield 104, 3, [181, 0, 104]), (150, .aload_n 0, 1, [42]), (151, .iconst 0, 1, [3]), (152, .putfield 107, 3, [181, 0, 107]), (155, .aload_n 0, 1, [42]), (156, .areturn, 1, [176])]
def tX17_begin : List (List dqE) := [tX17_begin_c0, tX17_begin_c1, tX17_begin_c2, tX17_begin_c3, tX17_begin_c4, tX17_begin_c5, tX17_begin_c6, tX17_begin_c7, tX17_begin_c8, tX17_begin_c9, tX17_begin_c10, tX17_begin_c11]
theorem tX17_begin_ok : dchk tX17_begin.flatten 0 (prog_16_method_2_code).data.toList = true := by decide +kernel
theorem kX17_begin_c0 : dconj prog_16_method_2_code tX17_begin_c0 := dchk_c tX17_begin_ok 0 rfl
theorem kX17_begin_c1 : dconj prog_16_method_2_code tX17_begin_c1 := dchk_c tX17_begin_ok 1 rfl
theorem kX17_begin_c2 : dconj prog_16_method_2_code tX17_begin_c2 := dchk_c tX17_begin_ok 2 rfl
theorem kX17_begin_c3 : dconj prog_16_method_2_code tX17_begin_c3 := dchk_c tX17_begin_ok 3 rfl
theorem kX17_begin_c4 : dconj prog_16_method_2_code tX17_begin_c4 := dchk_c tX17_begin_ok 4 rfl
theorem kX17_begin_c5 : dconj prog_16_method_2_code tX17_begin_c5 := dchk_c tX17_begin_ok 5 rfl
theorem kX17_begin_c6 : dconj prog_16_method_2_code tX17_begin_c6 := dchk_c tX17_begin_ok 6 rfl
theorem kX17_begin_c7 : dconj prog_16_method_2_code tX17_begin_c7 := dchk_c tX17_begin_ok 7 rfl
theorem kX17_begin_c8 : dconj prog_16_method_2_code tX17_begin_c8 := dchk_c tX17_begin_ok 8 rfl
theorem kX17_begin_c9 : dconj prog_16_method_2_code tX17_begin_c9 := dchk_c tX17_begin_ok 9 rfl
theorem kX17_begin_c10 : dconj prog_16_method_2_code tX17_begin_c10 := dchk_c tX17_begin_ok 10 rfl
theorem kX17_begin_c11 : dconj prog_16_method_2_code tX17_begin_c11 := dchk_c tX17_begin_ok 11 rfl
def tX19_init_c0 : List dqE := [(0, .aload_n 0, 1, [42]), (1, .invokespecial 3, 3, [183, 0, 3]), (4, .return_, 1, [177])]
def tX19_init : List (List dqE) := [tX19_init_c0]
theorem tX19_init_ok : dchk tX19_init.flatten 0 (prog_20_method_1_code).data.toList = true := by decide +kernel
theorem kX19_init_c0 : dconj prog_20_method_1_code tX19_init_c0 := dchk_c tX19_init_ok 0 rfl
def tX19_begin_c0 : List dqE := [(0, .aload_n 0, 1, [42]), (1, .aload_n 1, 1, [43]), (2, .putfield 9, 3, [181, 0, 9]), (5, .aload_n 0, 1, [42]), (6, .aload_n 1, 1, [43]), (7, .ifnonnull 7, 3, [199, 0, 7]), (10, .iconst 0, 1, [3]), (11, .goto 9, 3, [167, 0, 9])]
def tX19_begin_c1 : List dqE := [(14, .aload_n 1, 1, [43]), (15, .getfield 15, 3, [180, 0, 15]), (18, .iconst 1, 1, [4]), (19, .iadd, 1, [96]), (20, .putfield 15, 3, [181, 0, 15]), (23, .aload_n 0, 1, [42]), (24, .iconst 4, 1, [7]), (25, .putfield 19, 3, [181, 0, 19])]
def tX19_begin_c2 : List dqE := [(28, .aload_n 0, 1, [42]), (29, .iconst (-1), 1, [2]), (30, .putfield 22, 3, [181, 0, 22]), (33, .aload_n 0, 1, [42]), (34, .iload_n 2, 1, [28]), (35, .putfield 25, 3, [181, 0, 25]), (38, .aload_n 0, 1, [42]), (39, .iconst 0, 1, [3])]
def tX19_begin_c3 : List dqE := [(40, .putfield 28, 3, [181, 0, 28]), (43, .aload_n 0, 1, [42]), (44, .iconst (-1), 1, [2]), (45, .putfield 31, 3, [181, 0, 31]), (48, .aload_n 0, 1, [42]), (49, .areturn, 1, [176])]
def tX19_begin : List (List dqE) := [tX19_begin_c0, tX19_begin_c1, tX19_begin_c2, tX19_begin_c3]
theorem tX19_begin_ok : dchk tX19_begin.flatten 0 (prog_20_method_2_code).data.toList = true := by decide +kernel
theorem kX19_begin_c0 : dconj prog_20_method_2_code tX19_begin_c0 := dchk_c tX19_begin_ok 0 rfl
theorem kX19_begin_c1 : dconj prog_20_method_2_code tX19_begin_c1 := dchk_c tX19_begin_ok 1 rfl
theorem kX19_begin_c2 : dconj prog_20_method_2_code tX19_begin_c2 := dchk_c tX19_begin_ok 2 rfl
theorem kX19_begin_c3 : dconj prog_20_method_2_code tX19_begin_c3 := dchk_c tX19_begin_ok 3 rfl
def tX3_init_c0 : List dqE := [(0, .aload_n 0, 1, [42]), (1, .invokespecial 1, 3, [183, 0, 1]), (4, .aload_n 0, 1, [42]), (5, .new 7, 3, [187, 0, 7]), (8, .dup, 1, [89]), (9, .invokespecial 9, 3, [183, 0, 9]), (12, .putfield 10, 3, [181, 0, 10]), (15, .return_, 1, [177])]
def tX3_init : List (List dqE) := [tX3_init_c0]
theorem tX3_init_ok : dchk tX3_init.flatten 0 (prog_3_method_1_code).data.toList = true := by decide +kernel
theorem kX3_init_c0 : dconj prog_3_method_1_code tX3_init_c0 := dchk_c tX3_init_ok 0 rfl
def tX3_clear_c0 : List dqE := [(0, .aload_n 0, 1, [42]), (1, .iconst 0, 1, [3]), (2, .putfield 16, 3, [181, 0, 16]), (5, .return_, 1, [177])]
def tX3_clear : List (List dqE) := [tX3_clear_c0]
theorem tX3_clear_ok : dchk tX3_clear.flatten 0 (prog_3_method_2_code).data.toList = true := by decide +kernel
theorem kX3_clear_c0 : dconj prog_3_method_2_code tX3_clear_c0 := dchk_c tX3_clear_ok 0 rfl
def tX3_first_c0 : List dqE := [(0, .aload_n 0, 1, [42]), (1, .iload_n 1, 1, [27]), (2, .putfield 16, 3, [181, 0, 16]), (5, .aload_n 0, 1, [42]), (6, .iload_n 2, 1, [28]), (7, .putfield 20, 3, [181, 0, 20]), (10, .aload_n 0, 1, [42]), (11, .getfield 10, 3, [180, 0, 10])]
def tX3_first_c1 : List dqE := [(14, .athrow, 1, [191])]
def tX3_first : List (List dqE) := [tX3_first_c0, tX3_first_c1]
theorem tX3_first_ok : dchk tX3_first.flatten 0 (prog_3_method_3_code).data.toList = true := by decide +kernel
theorem kX3_first_c0 : dconj prog_3_method_3_code tX3_first_c0 := dchk_c tX3_first_ok 0 rfl
theorem kX3_first_c1 : dconj prog_3_method_3_code tX3_first_c1 := dchk_c tX3_first_ok 1 rfl
def tX3_rule_c0 : List dqE := [(0, .aload_n 0, 1, [42]), (1, .getfield 16, 3, [180, 0, 16]), (4, .ifCond .eq 28, 3, [153, 0, 28]), (7, .iload_n 2, 1, [28]), (8, .aload_n 0, 1, [42]), (9, .getfield 20, 3, [180, 0, 20]), (12, .if_icmp .gt 19, 3, [163, 0, 19]), (15, .iload_n 2, 1, [28])]
def tX3_rule_c1 : List dqE := [(16, .aload_n 0, 1, [42]), (17, .getfield 20, 3, [180, 0, 20]), (20, .if_icmp .ne 12, 3, [160, 0, 12]), (23, .iload_n 1, 1, [27]), (24, .aload_n 0, 1, [42]), (25, .getfield 16, 3, [180, 0, 16]), (28, .if_icmp .lt 4, 3, [161, 0, 4]), (31, .return_, 1, [177])]
def tX3_rule_c2 : List dqE := [(32, .aload_n 0, 1, [42]), (33, .iload_n 1, 1, [27]), (34, .putfield 16, 3, [181, 0, 16]), (37, .aload_n 0, 1, [42]), (38, .iload_n 2, 1, [28]), (39, .putfield 20, 3, [181, 0, 20]), (42, .return_, 1, [177])]
def tX3_rule : List (List dqE) := [tX3_rule_c0, tX3_rule_c1, tX3_rule_c2]
theorem tX3_rule_ok : dchk tX3_rule.flatten 0 (prog_3_method_4_code).data.toList = true := by decide +kernel
theorem kX3_rule_c0 : dconj prog_3_method_4_code tX3_rule_c0 := dchk_c tX3_rule_ok 0 rfl
theorem kX3_rule_c1 : dconj prog_3_method_4_code tX3_rule_c1 := dchk_c tX3_rule_ok 1 rfl
theorem kX3_rule_c2 : dconj prog_3_method_4_code tX3_rule_c2 := dchk_c tX3_rule_ok 2 rfl
