set_option maxRecDepth 100000
/-! ===== decoding by tables (printed by tools/gen_dec2.py) ===== -/
def d1t : List (UInt8 × Instr) := [(42, .aload_n 0), (46, .iaload), (27, .iload_n 1), (28, .iload_n 2), (43, .aload_n 1), (3, .iconst 0), (4, .iconst 1), (29, .iload_n 3), (172, .ireturn), (177, .return_), (96, .iadd), (44, .aload_n 2), (79, .iastore), (2, .iconst (-1)), (45, .aload_n 3), (62, .istore_n 3), (61, .istore_n 2), (89, .dup), (5, .iconst 2), (1, .aconst_null), (6, .iconst 3), (7, .iconst 4), (8, .iconst 5), (9, .lconst 0), (10, .lconst 1), (26, .iload_n 0), (30, .lload_n 0), (31, .lload_n 1), (32, .lload_n 2), (33, .lload_n 3), (47, .laload), (50, .aaload), (51, .baload), (60, .istore_n 1), (64, .lstore_n 1), (65, .lstore_n 2), (66, .lstore_n 3), (76, .astore_n 1), (77, .astore_n 2), (78, .astore_n 3), (80, .lastore), (83, .aastore), (84, .bastore), (87, .pop), (90, .dup_x1), (92, .dup2), (97, .ladd), (100, .isub), (101, .lsub), (104, .imul), (105, .lmul), (108, .idiv), (109, .ldiv), (112, .irem), (113, .lrem), (116, .ineg), (117, .lneg), (120, .ishl), (121, .lshl), (122, .ishr), (124, .iushr), (126, .iand), (127, .land), (128, .ior), (129, .lor), (130, .ixor), (133, .i2l), (136, .l2i), (145, .i2b), (146, .i2c), (148, .lcmp), (173, .lreturn), (176, .areturn), (190, .arraylength), (191, .athrow)]
theorem d1t_ok : ∀ p ∈ d1t, ∀ (code : ByteArray) (pc : Nat), DkAt code pc [p.1] → decode code pc = .ok (p.2, 1) := List.forall_mem_cons.mpr ⟨fun _ _ h => dk_42 h, List.forall_mem_cons.mpr ⟨fun _ _ h => dk_46 h, List.forall_mem_cons.mpr ⟨fun _ _ h => dk_27 h, List.forall_mem_cons.mpr ⟨fun _ _ h => dk_28 h, List.forall_mem_cons.mpr ⟨fun _ _ h => dk_43 h, List.forall_mem_cons.mpr ⟨fun _ _ h => dk_3 h, List.forall_mem_cons.mpr ⟨fun _ _ h => dk_4 h, List.forall_mem_cons.mpr ⟨fun _ _ h => dk_29 h, List.forall_mem_cons.mpr ⟨fun _ _ h => dk_172 h, List.forall_mem_cons.mpr ⟨fun _ _ h => dk_177 h, List.forall_mem_cons.mpr ⟨fun _ _ h => dk_96 h, List.forall_mem_cons.mpr ⟨fun _ _ h => dk_44 h, List.forall_mem_cons.mpr ⟨fun _ _ h => dk_79 h, List.forall_mem_cons.mpr ⟨fun _ _ h => dk_2 h, List.forall_mem_cons.mpr ⟨fun _ _ h => dk_45 h, List.forall_mem_cons.mpr ⟨fun _ _ h => dk_62 h, List.forall_mem_cons.mpr ⟨fun _ _ h => dk_61 h, List.forall_mem_cons.mpr ⟨fun _ _ h => dk_89 h, List.forall_mem_cons.mpr ⟨fun _ _ h => dk_5 h, List.forall_mem_cons.mpr ⟨fun _ _ h => dk_1 h, List.forall_mem_cons.mpr ⟨fun _ _ h => dk_6 h, List.forall_mem_cons.mpr ⟨fun _ _ h => dk_7 h, List.forall_mem_cons.mpr ⟨fun _ _ h => dk_8 h, List.forall_mem_cons.mpr ⟨fun _ _ h => dk_9 h, List.forall_mem_cons.mpr ⟨fun _ _ h => dk_10 h, List.forall_mem_cons.mpr ⟨fun _ _ h => dk_26 h, List.forall_mem_cons.mpr ⟨fun _ _ h => dk_30 h, List.forall_mem_cons.mpr ⟨fun _ _ h => dk_31 h, List.forall_mem_cons.mpr ⟨fun _ _ h => dk_32 h, List.forall_mem_cons.mpr ⟨fun _ _ h => dk_33 h, List.forall_mem_cons.mpr ⟨fun _ _ h => dk_47 h, List.forall_mem_cons.mpr ⟨fun _ _ h => dk_50 h, List.forall_mem_cons.mpr ⟨fun _ _ h => dk_51 h, List.forall_mem_cons.mpr ⟨fun _ _ h => dk_60 h, List.forall_mem_cons.mpr ⟨fun _ _ h => dk_64 h, List.forall_mem_cons.mpr ⟨fun _ _ h => dk_65 h, List.forall_mem_cons.mpr ⟨fun _ _ h => dk_66 h, List.forall_mem_cons.mpr ⟨fun _ _ h => dk_76 h, List.forall_mem_cons.mpr ⟨fun _ _ h => dk_77 h, List.forall_mem_cons.mpr ⟨fun _ _ h => dk_78 h, List.forall_mem_cons.mpr ⟨fun _ _ h => dk_80 h, List.forall_mem_cons.mpr ⟨fun _ _ h => dk_83 h, List.forall_mem_cons.mpr ⟨fun _ _ h => dk_84 h, List.forall_mem_cons.mpr ⟨fun _ _ h => dk_87 h, List.forall_mem_cons.mpr ⟨fun _ _ h => dk_90 h, List.forall_mem_cons.mpr ⟨fun _ _ h => dk_92 h, List.forall_mem_cons.mpr ⟨fun _ _ h => dk_97 h, List.forall_mem_cons.mpr ⟨fun _ _ h => dk_100 h, List.forall_mem_cons.mpr ⟨fun _ _ h => dk_101 h, List.forall_mem_cons.mpr ⟨fun _ _ h => dk_104 h, List.forall_mem_cons.mpr ⟨fun _ _ h => dk_105 h, List.forall_mem_cons.mpr ⟨fun _ _ h => dk_108 h, List.forall_mem_cons.mpr ⟨fun _ _ h => dk_109 h, List.forall_mem_cons.mpr ⟨fun _ _ h => dk_112 h, List.forall_mem_cons.mpr ⟨fun _ _ h => dk_113 h, List.forall_mem_cons.mpr ⟨fun _ _ h => dk_116 h, List.forall_mem_cons.mpr ⟨fun _ _ h => dk_117 h, List.forall_mem_cons.mpr ⟨fun _ _ h => dk_120 h, List.forall_mem_cons.mpr ⟨fun _ _ h => dk_121 h, List.forall_mem_cons.mpr ⟨fun _ _ h => dk_122 h, List.forall_mem_cons.mpr ⟨fun _ _ h => dk_124 h, List.forall_mem_cons.mpr ⟨fun _ _ h => dk_126 h, List.forall_mem_cons.mpr ⟨fun _ _ h => dk_127 h, List.forall_mem_cons.mpr ⟨fun _ _ h => dk_128 h, List.forall_mem_cons.mpr ⟨fun _ _ h => dk_129 h, List.forall_mem_cons.mpr ⟨fun _ _ h => dk_130 h, List.forall_mem_cons.mpr ⟨fun _ _ h => dk_133 h, List.forall_mem_cons.mpr ⟨fun _ _ h => dk_136 h, List.forall_mem_cons.mpr ⟨fun _ _ h => dk_145 h, List.forall_mem_cons.mpr ⟨fun _ _ h => dk_146 h, List.forall_mem_cons.mpr ⟨fun _ _ h => dk_148 h, List.forall_mem_cons.mpr ⟨fun _ _ h => dk_173 h, List.forall_mem_cons.mpr ⟨fun _ _ h => dk_176 h, List.forall_mem_cons.mpr ⟨fun _ _ h => dk_190 h, List.forall_mem_cons.mpr ⟨fun _ _ h => dk_191 h, (fun _ h => absurd h List.not_mem_nil)⟩⟩⟩⟩⟩⟩⟩⟩⟩⟩⟩⟩⟩⟩⟩⟩⟩⟩⟩⟩⟩⟩⟩⟩⟩⟩⟩⟩⟩⟩⟩⟩⟩⟩⟩⟩⟩⟩⟩⟩⟩⟩⟩⟩⟩⟩⟩⟩⟩⟩⟩⟩⟩⟩⟩⟩⟩⟩⟩⟩⟩⟩⟩⟩⟩⟩⟩⟩⟩⟩⟩⟩⟩⟩⟩
def d2t (x y : UInt8) : Option Instr :=
  bif x == 21 then some (.iload y.toNat) else
  bif x == 16 then some (.bipush (Reader.signed 8 y.toNat)) else
  bif x == 54 then some (.istore y.toNat) else
  bif x == 25 then some (.aload y.toNat) else
  bif x == 18 then some (.ldc y.toNat) else
  bif x == 22 then some (.lload y.toNat) else
  bif x == 55 then some (.lstore y.toNat) else
  bif x == 58 then some (.astore y.toNat) else
  bif x == 188 && y == 4 then some (.newarray .boolean) else
  bif x == 188 && y == 8 then some (.newarray .byte) else
  bif x == 188 && y == 10 then some (.newarray .int) else
  bif x == 188 && y == 11 then some (.newarray .long) else
  none
theorem d2t_ok {x y : UInt8} {i : Instr} (h : d2t x y = some i) {code : ByteArray} {pc : Nat} (hd : DkAt code pc [x, y]) : decode code pc = .ok (i, 2) := by
  unfold d2t at h
  rw [Bool.cond_eq_ite] at h
  split at h
  · rename_i hc
    simp only [Bool.and_eq_true, beq_iff_eq] at hc
    cases h
    subst hc
    exact dk_21 y hd
  rw [Bool.cond_eq_ite] at h
  split at h
  · rename_i hc
    simp only [Bool.and_eq_true, beq_iff_eq] at hc
    cases h
    subst hc
    exact dk_16 y hd
  rw [Bool.cond_eq_ite] at h
  split at h
  · rename_i hc
    simp only [Bool.and_eq_true, beq_iff_eq] at hc
    cases h
    subst hc
    exact dk_54 y hd
  rw [Bool.cond_eq_ite] at h
  split at h
  · rename_i hc
    simp only [Bool.and_eq_true, beq_iff_eq] at hc
    cases h
    subst hc
    exact dk_25 y hd
  rw [Bool.cond_eq_ite] at h
  split at h
  · rename_i hc
    simp only [Bool.and_eq_true, beq_iff_eq] at hc
    cases h
    subst hc
    exact dk_18 y hd
  rw [Bool.cond_eq_ite] at h
  split at h
  · rename_i hc
    simp only [Bool.and_eq_true, beq_iff_eq] at hc
    cases h
    subst hc
    exact dk_22 y hd
  rw [Bool.cond_eq_ite] at h
  split at h
  · rename_i hc
    simp only [Bool.and_eq_true, beq_iff_eq] at hc
    cases h
    subst hc
    exact dk_55 y hd
  rw [Bool.cond_eq_ite] at h
  split at h
  · rename_i hc
    simp only [Bool.and_eq_true, beq_iff_eq] at hc
    cases h
    subst hc
    exact dk_58 y hd
  rw [Bool.cond_eq_ite] at h
  split at h
  · rename_i hc
    simp only [Bool.and_eq_true, beq_iff_eq] at hc
    cases h
    obtain ⟨hc, hc2⟩ := hc
    subst hc
    subst hc2
    exact dk_188_4  hd
  rw [Bool.cond_eq_ite] at h
  split at h
  · rename_i hc
    simp only [Bool.and_eq_true, beq_iff_eq] at hc
    cases h
    obtain ⟨hc, hc2⟩ := hc
    subst hc
    subst hc2
    exact dk_188_8  hd
  rw [Bool.cond_eq_ite] at h
  split at h
  · rename_i hc
    simp only [Bool.and_eq_true, beq_iff_eq] at hc
    cases h
    obtain ⟨hc, hc2⟩ := hc
    subst hc
    subst hc2
    exact dk_188_10  hd
  rw [Bool.cond_eq_ite] at h
  split at h
  · rename_i hc
    simp only [Bool.and_eq_true, beq_iff_eq] at hc
    cases h
    obtain ⟨hc, hc2⟩ := hc
    subst hc
    subst hc2
    exact dk_188_11  hd
  cases h
def d3t (x y z : UInt8) : Option Instr :=
  bif x == 180 then some (.getfield (y.toNat * 256 + z.toNat)) else
  bif x == 182 then some (.invokevirtual (y.toNat * 256 + z.toNat)) else
  bif x == 167 then some (.goto (Reader.signed 16 (y.toNat * 256 + z.toNat))) else
  bif x == 181 then some (.putfield (y.toNat * 256 + z.toNat)) else
  bif x == 153 then some (.ifCond .eq (Reader.signed 16 (y.toNat * 256 + z.toNat))) else
  bif x == 160 then some (.if_icmp .ne (Reader.signed 16 (y.toNat * 256 + z.toNat))) else
  bif x == 154 then some (.ifCond .ne (Reader.signed 16 (y.toNat * 256 + z.toNat))) else
  bif x == 155 then some (.ifCond .lt (Reader.signed 16 (y.toNat * 256 + z.toNat))) else
  bif x == 159 then some (.if_icmp .eq (Reader.signed 16 (y.toNat * 256 + z.toNat))) else
  bif x == 178 then some (.getstatic (y.toNat * 256 + z.toNat)) else
  bif x == 132 then some (.iinc y.toNat (Reader.signed 8 z.toNat)) else
  bif x == 162 then some (.if_icmp .ge (Reader.signed 16 (y.toNat * 256 + z.toNat))) else
  bif x == 198 then some (.ifnull (Reader.signed 16 (y.toNat * 256 + z.toNat))) else
  bif x == 17 then some (.sipush (Reader.signed 16 (y.toNat * 256 + z.toNat))) else
  bif x == 19 then some (.ldc_w (y.toNat * 256 + z.toNat)) else
  bif x == 20 then some (.ldc2_w (y.toNat * 256 + z.toNat)) else
  bif x == 156 then some (.ifCond .ge (Reader.signed 16 (y.toNat * 256 + z.toNat))) else
  bif x == 157 then some (.ifCond .gt (Reader.signed 16 (y.toNat * 256 + z.toNat))) else
  bif x == 158 then some (.ifCond .le (Reader.signed 16 (y.toNat * 256 + z.toNat))) else
  bif x == 161 then some (.if_icmp .lt (Reader.signed 16 (y.toNat * 256 + z.toNat))) else
  bif x == 163 then some (.if_icmp .gt (Reader.signed 16 (y.toNat * 256 + z.toNat))) else
  bif x == 164 then some (.if_icmp .le (Reader.signed 16 (y.toNat * 256 + z.toNat))) else
  bif x == 165 then some (.if_acmp .eq (Reader.signed 16 (y.toNat * 256 + z.toNat))) else
  bif x == 166 then some (.if_acmp .ne (Reader.signed 16 (y.toNat * 256 + z.toNat))) else
  bif x == 183 then some (.invokespecial (y.toNat * 256 + z.toNat)) else
  bif x == 184 then some (.invokestatic (y.toNat * 256 + z.toNat)) else
  bif x == 187 then some (.new (y.toNat * 256 + z.toNat)) else
  bif x == 189 then some (.anewarray (y.toNat * 256 + z.toNat)) else
  bif x == 199 then some (.ifnonnull (Reader.signed 16 (y.toNat * 256 + z.toNat))) else
  none
theorem d3t_ok {x y z : UInt8} {i : Instr} (h : d3t x y z = some i) {code : ByteArray} {pc : Nat} (hd : DkAt code pc [x, y, z]) : decode code pc = .ok (i, 3) := by
  unfold d3t at h
  rw [Bool.cond_eq_ite] at h
  split at h
  · rename_i hc
    simp only [Bool.and_eq_true, beq_iff_eq] at hc
    cases h
    subst hc
    exact dk_180 y z hd
  rw [Bool.cond_eq_ite] at h
  split at h
  · rename_i hc
    simp only [Bool.and_eq_true, beq_iff_eq] at hc
    cases h
    subst hc
    exact dk_182 y z hd
  rw [Bool.cond_eq_ite] at h
  split at h
  · rename_i hc
    simp only [Bool.and_eq_true, beq_iff_eq] at hc
    cases h
    subst hc
    exact dk_167 y z hd
  rw [Bool.cond_eq_ite] at h
  split at h
  · rename_i hc
    simp only [Bool.and_eq_true, beq_iff_eq] at hc
    cases h
    subst hc
    exact dk_181 y z hd
  rw [Bool.cond_eq_ite] at h
  split at h
  · rename_i hc
    simp only [Bool.and_eq_true, beq_iff_eq] at hc
    cases h
    subst hc
    exact dk_153 y z hd
  rw [Bool.cond_eq_ite] at h
  split at h
  · rename_i hc
    simp only [Bool.and_eq_true, beq_iff_eq] at hc
    cases h
    subst hc
    exact dk_160 y z hd
  rw [Bool.cond_eq_ite] at h
  split at h
  · rename_i hc
    simp only [Bool.and_eq_true, beq_iff_eq] at hc
    cases h
    subst hc
    exact dk_154 y z hd
  rw [Bool.cond_eq_ite] at h
  split at h
  · rename_i hc
    simp only [Bool.and_eq_true, beq_iff_eq] at hc
    cases h
    subst hc
    exact dk_155 y z hd
  rw [Bool.cond_eq_ite] at h
  split at h
  · rename_i hc
    simp only [Bool.and_eq_true, beq_iff_eq] at hc
    cases h
    subst hc
    exact dk_159 y z hd
  rw [Bool.cond_eq_ite] at h
  split at h
  · rename_i hc
    simp only [Bool.and_eq_true, beq_iff_eq] at hc
    cases h
    subst hc
    exact dk_178 y z hd
  rw [Bool.cond_eq_ite] at h
  split at h
  · rename_i hc
    simp only [Bool.and_eq_true, beq_iff_eq] at hc
    cases h
    subst hc
    exact dk_132 y z hd
  rw [Bool.cond_eq_ite] at h
  split at h
  · rename_i hc
    simp only [Bool.and_eq_true, beq_iff_eq] at hc
    cases h
    subst hc
    exact dk_162 y z hd
  rw [Bool.cond_eq_ite] at h
  split at h
  · rename_i hc
    simp only [Bool.and_eq_true, beq_iff_eq] at hc
    cases h
    subst hc
    exact dk_198 y z hd
  rw [Bool.cond_eq_ite] at h
  split at h
  · rename_i hc
    simp only [Bool.and_eq_true, beq_iff_eq] at hc
    cases h
    subst hc
    exact dk_17 y z hd
  rw [Bool.cond_eq_ite] at h
  split at h
  · rename_i hc
    simp only [Bool.and_eq_true, beq_iff_eq] at hc
    cases h
    subst hc
    exact dk_19 y z hd
  rw [Bool.cond_eq_ite] at h
  split at h
  · rename_i hc
    simp only [Bool.and_eq_true, beq_iff_eq] at hc
    cases h
    subst hc
    exact dk_20 y z hd
  rw [Bool.cond_eq_ite] at h
  split at h
  · rename_i hc
    simp only [Bool.and_eq_true, beq_iff_eq] at hc
    cases h
    subst hc
    exact dk_156 y z hd
  rw [Bool.cond_eq_ite] at h
  split at h
  · rename_i hc
    simp only [Bool.and_eq_true, beq_iff_eq] at hc
    cases h
    subst hc
    exact dk_157 y z hd
  rw [Bool.cond_eq_ite] at h
  split at h
  · rename_i hc
    simp only [Bool.and_eq_true, beq_iff_eq] at hc
    cases h
    subst hc
    exact dk_158 y z hd
  rw [Bool.cond_eq_ite] at h
  split at h
  · rename_i hc
    simp only [Bool.and_eq_true, beq_iff_eq] at hc
    cases h
    subst hc
    exact dk_161 y z hd
  rw [Bool.cond_eq_ite] at h
  split at h
  · rename_i hc
    simp only [Bool.and_eq_true, beq_iff_eq] at hc
    cases h
    subst hc
    exact dk_163 y z hd
  rw [Bool.cond_eq_ite] at h
  split at h
  · rename_i hc
    simp only [Bool.and_eq_true, beq_iff_eq] at hc
    cases h
    subst hc
    exact dk_164 y z hd
  rw [Bool.cond_eq_ite] at h
  split at h
  · rename_i hc
    simp only [Bool.and_eq_true, beq_iff_eq] at hc
    cases h
    subst hc
    exact dk_165 y z hd
  rw [Bool.cond_eq_ite] at h
  split at h
  · rename_i hc
    simp only [Bool.and_eq_true, beq_iff_eq] at hc
    cases h
    subst hc
    exact dk_166 y z hd
  rw [Bool.cond_eq_ite] at h
  split at h
  · rename_i hc
    simp only [Bool.and_eq_true, beq_iff_eq] at hc
    cases h
    subst hc
    exact dk_183 y z hd
  rw [Bool.cond_eq_ite] at h
  split at h
  · rename_i hc
    simp only [Bool.and_eq_true, beq_iff_eq] at hc
    cases h
    subst hc
    exact dk_184 y z hd
  rw [Bool.cond_eq_ite] at h
  split at h
  · rename_i hc
    simp only [Bool.and_eq_true, beq_iff_eq] at hc
    cases h
    subst hc
    exact dk_187 y z hd
  rw [Bool.cond_eq_ite] at h
  split at h
  · rename_i hc
    simp only [Bool.and_eq_true, beq_iff_eq] at hc
    cases h
    subst hc
    exact dk_189 y z hd
  rw [Bool.cond_eq_ite] at h
  split at h
  · rename_i hc
    simp only [Bool.and_eq_true, beq_iff_eq] at hc
    cases h
    subst hc
    exact dk_199 y z hd
  cases h
def dq1 (raw : List UInt8) : Option Instr := match raw with
  | [x] => (d1t.find? (fun p => p.1 == x)).map (·.2)
  | [x, y] => d2t x y
  | [x, y, z] => d3t x y z
  | _ => none
theorem dq1_ok {raw : List UInt8} {i : Instr} (h : dq1 raw = some i) {code : ByteArray} {pc : Nat} (hd : DkAt code pc raw) : decode code pc = .ok (i, raw.length) := by
  match raw, h, hd with
  | [x], h, hd =>
    obtain ⟨p, h1, h2⟩ := Option.map_eq_some_iff.mp h
    have h3 := List.mem_of_find?_eq_some h1
    have h4 := List.find?_some h1
    have h5 : p.1 = x := by simpa using h4
    subst h5
    subst h2
    exact d1t_ok p h3 code pc hd
  | [x, y], h, hd => exact d2t_ok h hd
  | [x, y, z], h, hd => exact d3t_ok h hd
abbrev dqE : Type := Nat × Instr × Nat × List UInt8
/-- the rows are the bytes; short ones decode so -/
def dchk : List dqE → Nat → List UInt8 → Bool
  | [], _, _ => true
  | e :: r, s, l => Nat.beq e.1 s && (decide (l.take e.2.2.1 = e.2.2.2) && ((Nat.ble 4 e.2.2.1 || (Nat.beq e.2.2.2.length e.2.2.1 && decide (dq1 e.2.2.2 = some e.2.1))) && dchk r (s + e.2.2.1) (l.drop e.2.2.1)))
theorem dchk_ok {code : ByteArray} : ∀ (L : List dqE) (s : Nat) (l : List UInt8), dchk L s l = true → code.data.toList.drop s = l → ∀ e ∈ L, e.2.2.1 < 4 → decode code e.1 = .ok (e.2.1, e.2.2.1)
  | [], _, _, _, _, e, he, _ => absurd he List.not_mem_nil
  | e0 :: r, s, l, h, hl, e, he, h4 => by
    simp only [dchk, Bool.and_eq_true, Bool.or_eq_true, decide_eq_true_eq] at h
    obtain ⟨h1, h2, h3, h5⟩ := h
    rcases List.mem_cons.mp he with rfl | he
    · have e1 : e.1 = s := Nat.eq_of_beq_eq_true h1
      rcases h3 with h3 | ⟨h3, h6⟩
      · have := Nat.le_of_ble_eq_true h3
        omega
      · have e2 : e.2.2.2.length = e.2.2.1 := Nat.eq_of_beq_eq_true h3
        have hd : DkAt code e.1 e.2.2.2 := by
          intro j b hj
          rw [e1]
          have h7 : j < e.2.2.2.length := (List.getElem?_eq_some_iff.mp hj).1
          rw [← h2, List.getElem?_take, if_pos (by omega), ← hl, List.getElem?_drop] at hj
          exact hj
        have h8 := dq1_ok h6 hd
        rw [e2] at h8
        exact h8
    · exact dchk_ok r (s + e0.2.2.1) (l.drop e0.2.2.1) h5 (by rw [← hl, List.drop_drop]) e he h4
theorem dchk_at {code : ByteArray} {L : List dqE} (h : dchk L 0 code.data.toList = true) (i : Nat) {pc len : Nat} {ins : Instr} {raw : List UInt8} (hi : L[i]? = some (pc, ins, len, raw)) (h4 : Nat.blt len 4 = true) : decode code pc = .ok (ins, len) := by
  have h1 : (pc, ins, len, raw) ∈ L := List.mem_of_getElem? hi
  have h2 : len < 4 := Nat.le_of_ble_eq_true h4
  have h3 := dchk_ok (code := code) L 0 code.data.toList h List.drop_zero _ h1 h2
  exact h3
def dconj (code : ByteArray) : List dqE → Prop
  | [] => True
  | e :: r => (bif Nat.blt e.2.2.1 4 then decode code e.1 = .ok (e.2.1, e.2.2.1) else True) ∧ dconj code r
theorem dconj_ok {code : ByteArray} : ∀ (c : List dqE), (∀ e ∈ c, e.2.2.1 < 4 → decode code e.1 = .ok (e.2.1, e.2.2.1)) → dconj code c
  | [], _ => trivial
  | e :: r, h => by
    refine ⟨?_, dconj_ok r (fun x hx => h x (List.mem_cons_of_mem _ hx))⟩
    cases hb : Nat.blt e.2.2.1 4 with
    | false => trivial
    | true => exact h e List.mem_cons_self (Nat.le_of_ble_eq_true hb)
theorem dchk_c {code : ByteArray} {Ls : List (List dqE)} (h : dchk Ls.flatten 0 code.data.toList = true) (i : Nat) {c : List dqE} (hi : Ls[i]? = some c) : dconj code c := dconj_ok c (fun e he h4 => dchk_ok (code := code) Ls.flatten 0 code.data.toList h List.drop_zero e (List.mem_flatten.mpr ⟨c, List.mem_of_getElem? hi, he⟩) h4)
theorem dk_look {code : ByteArray} {pc n : Nat} {i : Instr} (h : (match decode code pc with
  | .ok (i', n') => decide (i' = i ∧ n' = n)
  | _ => false) = true) : decode code pc = .ok (i, n) := by
  split at h
  · rename_i i' n' he
    have := of_decide_eq_true h
    rw [he, this.1, this.2]
  · cases h
