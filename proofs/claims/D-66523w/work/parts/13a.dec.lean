/-! methods: names, decoded instructions; printed by tools/gen_sites.py -/
def y_Box_init : MethodName := ⟨"BubbleBox", "<init>", "()V"⟩
abbrev b_Box_init : ByteArray := prog_1_method_4_code
def dl_Box_init : List (Nat × Instr × Nat) := [(0, .aload_n 0, 1), (1, .invokespecial 12, 3), (4, .aload_n 0, 1), (5, .new 15, 3), (8, .dup, 1), (9, .invokespecial 17, 3), (12, .putfield 18, 3), (15, .aload_n 0, 1), (16, .new 22, 3), (19, .dup, 1), (20, .aload_n 0, 1), (21, .getfield 18, 3), (24, .invokespecial 24, 3), (27, .putfield 27, 3), (30, .aload_n 0, 1), (31, .new 31, 3), (34, .dup, 1), (35, .invokespecial 33, 3), (38, .putfield 34, 3), (41, .aload_n 0, 1), (42, .iconst 2, 1), (43, .anewarray 38, 3), (46, .dup, 1), (47, .iconst 0, 1), (48, .new 38, 3), (51, .dup, 1), (52, .invokespecial 40, 3), (55, .aastore, 1), (56, .dup, 1), (57, .iconst 1, 1), (58, .new 38, 3), (61, .dup, 1), (62, .invokespecial 40, 3), (65, .aastore, 1), (66, .putfield 41, 3), (69, .aload_n 0, 1), (70, .new 45, 3), (73, .dup, 1), (74, .invokespecial 47, 3), (77, .putfield 48, 3), (80, .aload_n 0, 1), (81, .new 45, 3), (84, .dup, 1), (85, .invokespecial 47, 3), (88, .putfield 52, 3), (91, .return_, 1)]
theorem D_Box_init : ∀ q ∈ dl_Box_init, decode b_Box_init q.1 = .ok q.2 := by decide +kernel
def y_Chip_init : MethodName := ⟨"BubbleBox$Chip", "<init>", "()V"⟩
abbrev b_Chip_init : ByteArray := prog_2_method_1_code
def dl_Chip_init : List (Nat × Instr × Nat) := [(0, .aload_n 0, 1), (1, .invokespecial 3, 3), (4, .aload_n 0, 1), (5, .bipush 69, 2), (7, .anewarray 9, 3), (10, .putfield 11, 3), (13, .aload_n 0, 1), (14, .bipush 64, 2), (16, .newarray .int, 2), (18, .putfield 17, 3), (21, .iconst 0, 1), (22, .istore_n 1, 1), (23, .iload_n 1, 1), (24, .bipush 69, 2), (26, .if_icmp .ge 22, 3), (29, .aload_n 0, 1), (30, .getfield 11, 3), (33, .iload_n 1, 1), (34, .new 9, 3), (37, .dup, 1), (38, .invokespecial 21, 3), (41, .aastore, 1), (42, .iinc 1 1, 3), (45, .goto (-22), 3), (48, .return_, 1)]
theorem D_Chip_init : ∀ q ∈ dl_Chip_init, decode b_Chip_init q.1 = .ok q.2 := by decide +kernel
def y_Loop_init : MethodName := ⟨"BubbleBox$Loop", "<init>", "()V"⟩
abbrev b_Loop_init : ByteArray := prog_6_method_1_code
def dl_Loop_init : List (Nat × Instr × Nat) := [(0, .aload_n 0, 1), (1, .invokespecial 1, 3), (4, .aload_n 0, 1), (5, .iconst 2, 1), (6, .newarray .long, 2), (8, .putfield 7, 3), (11, .return_, 1)]
theorem D_Loop_init : ∀ q ∈ dl_Loop_init, decode b_Loop_init q.1 = .ok q.2 := by decide +kernel
def y_Ctl_init : MethodName := ⟨"BubbleBox$Controller", "<init>", "(LBubbleBox$Chip;)V"⟩
abbrev b_Ctl_init : ByteArray := prog_3_method_1_code
def dl_Ctl_init : List (Nat × Instr × Nat) := [(0, .aload_n 0, 1), (1, .invokespecial 3, 3), (4, .aload_n 0, 1), (5, .iconst (-1), 1), (6, .putfield 9, 3), (9, .aload_n 0, 1), (10, .iconst 1, 1), (11, .putfield 15, 3), (14, .aload_n 0, 1), (15, .aload_n 1, 1), (16, .putfield 19, 3), (19, .return_, 1)]
theorem D_Ctl_init : ∀ q ∈ dl_Ctl_init, decode b_Ctl_init q.1 = .ok q.2 := by decide +kernel
def y_Dir_init : MethodName := ⟨"BubbleBox$Directory", "<init>", "()V"⟩
abbrev b_Dir_init : ByteArray := prog_4_method_1_code
def dl_Dir_init : List (Nat × Instr × Nat) := [(0, .aload_n 0, 1), (1, .invokespecial 3, 3), (4, .aload_n 0, 1), (5, .bipush 8, 2), (7, .anewarray 9, 3), (10, .putfield 11, 3), (13, .aload_n 0, 1), (14, .bipush 101, 2), (16, .newarray .int, 2), (18, .putfield 17, 3), (21, .aload_n 0, 1), (22, .bipush 101, 2), (24, .newarray .boolean, 2), (26, .putfield 21, 3), (29, .aload_n 0, 1), (30, .bipush 101, 2), (32, .newarray .boolean, 2), (34, .putfield 25, 3), (37, .return_, 1)]
theorem D_Dir_init : ∀ q ∈ dl_Dir_init, decode b_Dir_init q.1 = .ok q.2 := by decide +kernel
def y_Img_init : MethodName := ⟨"BubbleBox$Image", "<init>", "()V"⟩
abbrev b_Img_init : ByteArray := prog_5_method_1_code
def dl_Img_init : List (Nat × Instr × Nat) := [(0, .aload_n 0, 1), (1, .invokespecial 3, 3), (4, .aload_n 0, 1), (5, .sipush 160, 3), (8, .newarray .int, 2), (10, .putfield 9, 3), (13, .return_, 1)]
theorem D_Img_init : ∀ q ∈ dl_Img_init, decode b_Img_init q.1 = .ok q.2 := by decide +kernel
def y_AL_init : MethodName := ⟨"java/util/ArrayList", "<init>", "()V"⟩
abbrev b_AL_init : ByteArray := prog_27_method_2_code
def dl_AL_init : List (Nat × Instr × Nat) := [(0, .aload_n 0, 1), (1, .invokespecial 1, 3), (4, .aload_n 0, 1), (5, .getstatic 39, 3), (8, .putfield 9, 3), (11, .return_, 1)]
theorem D_AL_init : ∀ q ∈ dl_AL_init, decode b_AL_init q.1 = .ok q.2 := by decide +kernel
def y_AbL_init : MethodName := ⟨"java/util/AbstractList", "<init>", "()V"⟩
abbrev b_AbL_init : ByteArray := prog_26_method_1_code
def dl_AbL_init : List (Nat × Instr × Nat) := [(0, .aload_n 0, 1), (1, .invokespecial 1, 3), (4, .aload_n 0, 1), (5, .iconst 0, 1), (6, .putfield 7, 3), (9, .return_, 1)]
theorem D_AbL_init : ∀ q ∈ dl_AbL_init, decode b_AbL_init q.1 = .ok q.2 := by decide +kernel
def y_AbC_init : MethodName := ⟨"java/util/AbstractCollection", "<init>", "()V"⟩
abbrev b_AbC_init : ByteArray := prog_25_method_1_code
def dl_AbC_init : List (Nat × Instr × Nat) := [(0, .aload_n 0, 1), (1, .invokespecial 1, 3), (4, .return_, 1)]
theorem D_AbC_init : ∀ q ∈ dl_AbC_init, decode b_AbC_init q.1 = .ok q.2 := by decide +kernel
def y_Box_power : MethodName := ⟨"BubbleBox", "power", "(I)V"⟩
abbrev b_Box_power : ByteArray := prog_1_method_8_code
def dl_Box_power : List (Nat × Instr × Nat) := [(0, .aload_n 0, 1), (1, .getfield 27, 3), (4, .getfield 59, 3), (7, .ifCond .eq 19, 3), (10, .aload_n 0, 1), (11, .getfield 27, 3), (14, .iload_n 1, 1), (15, .ifCond .ge 7, 3), (18, .iconst (-1), 1), (19, .goto 4, 3), (22, .iload_n 1, 1), (23, .putfield 93, 3), (26, .return_, 1)]
theorem D_Box_power : ∀ q ∈ dl_Box_power, decode b_Box_power q.1 = .ok q.2 := by decide +kernel
def y_Box_state : MethodName := ⟨"BubbleBox", "state", "()I"⟩
abbrev b_Box_state : ByteArray := prog_1_method_9_code
def dl_Box_state : List (Nat × Instr × Nat) := [(0, .aload_n 0, 1), (1, .getfield 27, 3), (4, .getfield 59, 3), (7, .ifCond .ne 7, 3), (10, .iconst 0, 1), (11, .goto 15, 3), (14, .aload_n 0, 1), (15, .getfield 55, 3), (18, .ifCond .eq 7, 3), (21, .iconst 2, 1), (22, .goto 4, 3), (25, .iconst 1, 1), (26, .ireturn, 1)]
theorem D_Box_state : ∀ q ∈ dl_Box_state, decode b_Box_state q.1 = .ok q.2 := by decide +kernel
def y_Box_steps : MethodName := ⟨"BubbleBox", "steps", "()J"⟩
abbrev b_Box_steps : ByteArray := prog_1_method_10_code
def dl_Box_steps : List (Nat × Instr × Nat) := [(0, .aload_n 0, 1), (1, .getfield 18, 3), (4, .getfield 97, 3), (7, .lreturn, 1)]
theorem D_Box_steps : ∀ q ∈ dl_Box_steps, decode b_Box_steps q.1 = .ok q.2 := by decide +kernel
def y_Box_mount : MethodName := ⟨"BubbleBox", "mount", "()Z"⟩
abbrev b_Box_mount : ByteArray := prog_1_method_13_code
def dl_Box_mount : List (Nat × Instr × Nat) := [(0, .aload_n 0, 1), (1, .getfield 27, 3), (4, .iconst 1, 1), (5, .putfield 59, 3), (8, .aload_n 0, 1), (9, .getfield 27, 3), (12, .iconst (-1), 1), (13, .putfield 93, 3), (16, .aload_n 0, 1), (17, .invokevirtual 108, 3), (20, .aload_n 0, 1), (21, .getfield 18, 3), (24, .getfield 81, 3), (27, .ifCond .ne 5, 3), (30, .iconst 0, 1), (31, .ireturn, 1), (32, .aload_n 0, 1), (33, .getfield 18, 3), (36, .iconst 0, 1), (37, .invokevirtual 121, 3), (40, .aload_n 0, 1), (41, .getfield 41, 3), (44, .iconst 0, 1), (45, .aaload, 1), (46, .aload_n 0, 1), (47, .getfield 27, 3), (50, .iconst 0, 1), (51, .invokevirtual 124, 3), (54, .aload_n 0, 1), (55, .getfield 41, 3), (58, .iconst 1, 1), (59, .aaload, 1), (60, .aload_n 0, 1), (61, .getfield 27, 3), (64, .iconst 1, 1), (65, .invokevirtual 124, 3), (68, .aload_n 0, 1), (69, .getfield 41, 3), (72, .iconst 0, 1), (73, .aaload, 1), (74, .invokevirtual 128, 3), (77, .istore_n 1, 1), (78, .aload_n 0, 1), (79, .getfield 41, 3), (82, .iconst 1, 1), (83, .aaload, 1), (84, .invokevirtual 128, 3), (87, .istore_n 2, 1), (88, .iload_n 1, 1), (89, .ifCond .ne 9, 3), (92, .iload_n 2, 1), (93, .ifCond .ne 5, 3), (96, .iconst 0, 1), (97, .ireturn, 1), (98, .aload_n 0, 1), (99, .getfield 41, 3), (102, .iconst 1, 1), (103, .aaload, 1), (104, .iconst 0, 1), (105, .iconst 1, 1), (106, .invokevirtual 131, 3), (109, .aload_n 0, 1), (110, .getfield 41, 3), (113, .iconst 0, 1), (114, .aaload, 1), (115, .iconst 0, 1), (116, .iconst 1, 1), (117, .invokevirtual 131, 3), (120, .isub, 1), (121, .sipush 255, 3), (124, .iand, 1), (125, .istore_n 3, 1), (126, .aload_n 0, 1), (127, .getfield 34, 3), (130, .iload_n 1, 1), (131, .ifCond .eq 17, 3), (134, .iload_n 2, 1), (135, .ifCond .eq 17, 3), (138, .iload_n 3, 1), (139, .iconst 1, 1), (140, .bipush 127, 2), (142, .invokestatic 70, 3), (145, .ifCond .eq 7, 3), (148, .iconst 1, 1), (149, .goto 4, 3), (152, .iconst 0, 1), (153, .putfield 111, 3), (156, .aload_n 0, 1), (157, .getfield 41, 3), (160, .aload_n 0, 1), (161, .getfield 34, 3), (164, .getfield 111, 3), (167, .aaload, 1), (168, .aload_n 0, 1), (169, .getfield 34, 3), (172, .invokevirtual 135, 3), (175, .aload_n 0, 1), (176, .iconst 1, 1), (177, .putfield 55, 3), (180, .iconst 1, 1), (181, .ireturn, 1)]
theorem D_Box_mount : ∀ q ∈ dl_Box_mount, decode b_Box_mount q.1 = .ok q.2 := by decide +kernel
def y_Box_forget : MethodName := ⟨"BubbleBox", "forget", "()V"⟩
abbrev b_Box_forget : ByteArray := prog_1_method_11_code
def dl_Box_forget : List (Nat × Instr × Nat) := [(0, .aload_n 0, 1), (1, .iconst 0, 1), (2, .putfield 55, 3), (5, .aload_n 0, 1), (6, .getfield 34, 3), (9, .invokevirtual 101, 3), (12, .aload_n 0, 1), (13, .getfield 48, 3), (16, .invokevirtual 104, 3), (19, .aload_n 0, 1), (20, .getfield 52, 3), (23, .invokevirtual 104, 3), (26, .return_, 1)]
theorem D_Box_forget : ∀ q ∈ dl_Box_forget, decode b_Box_forget q.1 = .ok q.2 := by decide +kernel
def y_Dir_clear : MethodName := ⟨"BubbleBox$Directory", "clear", "()V"⟩
abbrev b_Dir_clear : ByteArray := prog_4_method_2_code
def dl_Dir_clear : List (Nat × Instr × Nat) := [(0, .iconst 0, 1), (1, .istore_n 1, 1), (2, .iload_n 1, 1), (3, .bipush 8, 2), (5, .if_icmp .ge 16, 3), (8, .aload_n 0, 1), (9, .getfield 11, 3), (12, .iload_n 1, 1), (13, .aconst_null, 1), (14, .aastore, 1), (15, .iinc 1 1, 3), (18, .goto (-16), 3), (21, .iconst 0, 1), (22, .istore_n 1, 1), (23, .iload_n 1, 1), (24, .bipush 101, 2), (26, .if_icmp .ge 30, 3), (29, .aload_n 0, 1), (30, .getfield 17, 3), (33, .iload_n 1, 1), (34, .iconst 0, 1), (35, .iastore, 1), (36, .aload_n 0, 1), (37, .getfield 21, 3), (40, .iload_n 1, 1), (41, .iconst 0, 1), (42, .bastore, 1), (43, .aload_n 0, 1), (44, .getfield 25, 3), (47, .iload_n 1, 1), (48, .iconst 0, 1), (49, .bastore, 1), (50, .iinc 1 1, 3), (53, .goto (-30), 3), (56, .return_, 1)]
theorem D_Dir_clear : ∀ q ∈ dl_Dir_clear, decode b_Dir_clear q.1 = .ok q.2 := by decide +kernel
def y_AL_clear : MethodName := ⟨"java/util/ArrayList", "clear", "()V"⟩
abbrev b_AL_clear : ByteArray := prog_27_method_40_code
def dl_AL_clear : List (Nat × Instr × Nat) := [(0, .aload_n 0, 1), (1, .dup, 1), (2, .getfield 63, 3), (5, .iconst 1, 1), (6, .iadd, 1), (7, .putfield 63, 3), (10, .aload_n 0, 1), (11, .getfield 9, 3), (14, .astore_n 1, 1), (15, .aload_n 0, 1), (16, .getfield 48, 3), (19, .istore_n 2, 1), (20, .aload_n 0, 1), (21, .iconst 0, 1), (22, .dup_x1, 1), (23, .putfield 48, 3), (26, .istore_n 3, 1), (27, .iload_n 3, 1), (28, .iload_n 2, 1), (29, .if_icmp .ge 13, 3), (32, .aload_n 1, 1), (33, .iload_n 3, 1), (34, .aconst_null, 1), (35, .aastore, 1), (36, .iinc 3 1, 3), (39, .goto (-12), 3), (42, .return_, 1)]
theorem D_AL_clear : ∀ q ∈ dl_AL_clear, decode b_AL_clear q.1 = .ok q.2 := by decide +kernel
def y_Chip_turnTo : MethodName := ⟨"BubbleBox$Chip", "turnTo", "(I)V"⟩
abbrev b_Chip_turnTo : ByteArray := prog_2_method_2_code
def dl_Chip_turnTo : List (Nat × Instr × Nat) := [(0, .iload_n 1, 1), (1, .aload_n 0, 1), (2, .getfield 22, 3), (5, .isub, 1), (6, .istore_n 2, 1), (7, .aload_n 0, 1), (8, .dup, 1), (9, .getfield 26, 3), (12, .iload_n 2, 1), (13, .ifCond .ge 11, 3), (16, .iload_n 2, 1), (17, .bipush 101, 2), (19, .iadd, 1), (20, .i2l, 1), (21, .goto 5, 3), (24, .iload_n 2, 1), (25, .i2l, 1), (26, .ladd, 1), (27, .putfield 26, 3), (30, .aload_n 0, 1), (31, .iload_n 1, 1), (32, .putfield 22, 3), (35, .return_, 1)]
theorem D_Chip_turnTo : ∀ q ∈ dl_Chip_turnTo, decode b_Chip_turnTo q.1 = .ok q.2 := by decide +kernel
def y_Img_read : MethodName := ⟨"BubbleBox$Image", "read", "(LBubbleBox$Controller;I)V"⟩
abbrev b_Img_read : ByteArray := prog_5_method_9_code
def dl_Img_read : List (Nat × Instr × Nat) := [(0, .iconst 0, 1), (1, .istore_n 3, 1), (2, .iload_n 3, 1), (3, .bipush 20, 2), (5, .if_icmp .ge 29, 3), (8, .aload_n 0, 1), (9, .bipush 8, 2), (11, .iload_n 3, 1), (12, .imul, 1), (13, .aload_n 1, 1), (14, .bipush 20, 2), (16, .iload_n 2, 1), (17, .imul, 1), (18, .iload_n 3, 1), (19, .iadd, 1), (20, .invokevirtual 78, 3), (23, .bipush 8, 2), (25, .invokevirtual 24, 3), (28, .iinc 3 1, 3), (31, .goto (-29), 3), (34, .return_, 1)]
theorem D_Img_read : ∀ q ∈ dl_Img_read, decode b_Img_read q.1 = .ok q.2 := by decide +kernel
def y_Ctl_read : MethodName := ⟨"BubbleBox$Controller", "read", "(I)J"⟩
abbrev b_Ctl_read : ByteArray := prog_3_method_3_code
def dl_Ctl_read : List (Nat × Instr × Nat) := [(0, .aload_n 0, 1), (1, .invokevirtual 27, 3), (4, .aload_n 0, 1), (5, .getfield 19, 3), (8, .iload_n 1, 1), (9, .invokevirtual 30, 3), (12, .lreturn, 1)]
theorem D_Ctl_read : ∀ q ∈ dl_Ctl_read, decode b_Ctl_read q.1 = .ok q.2 := by decide +kernel
def y_Ctl_spend : MethodName := ⟨"BubbleBox$Controller", "spend", "()V"⟩
abbrev b_Ctl_spend : ByteArray := prog_3_method_2_code
def dl_Ctl_spend : List (Nat × Instr × Nat) := [(0, .aload_n 0, 1), (1, .aload_n 0, 1), (2, .getfield 9, 3), (5, .ifCond .eq 7, 3), (8, .iconst 1, 1), (9, .goto 4, 3), (12, .iconst 0, 1), (13, .putfield 15, 3), (16, .aload_n 0, 1), (17, .getfield 15, 3), (20, .invokestatic 23, 3), (23, .aload_n 0, 1), (24, .aload_n 0, 1), (25, .getfield 9, 3), (28, .ifCond .le 12, 3), (31, .aload_n 0, 1), (32, .getfield 9, 3), (35, .iconst 1, 1), (36, .isub, 1), (37, .goto 7, 3), (40, .aload_n 0, 1), (41, .getfield 9, 3), (44, .putfield 9, 3), (47, .return_, 1)]
theorem D_Ctl_spend : ∀ q ∈ dl_Ctl_spend, decode b_Ctl_spend q.1 = .ok q.2 := by decide +kernel
def y_Box_want : MethodName := ⟨"BubbleBox", "want", "(Z)V"⟩
abbrev b_Box_want : ByteArray := prog_1_method_2_code
def dl_Box_want : List (Nat × Instr × Nat) := [(0, .iload_n 0, 1), (1, .ifCond .ne 11, 3), (4, .new 9, 3), (7, .dup, 1), (8, .invokespecial 11, 3), (11, .athrow, 1), (12, .return_, 1)]
theorem D_Box_want : ∀ q ∈ dl_Box_want, decode b_Box_want q.1 = .ok q.2 := by decide +kernel
def y_Chip_read : MethodName := ⟨"BubbleBox$Chip", "read", "(I)J"⟩
abbrev b_Chip_read : ByteArray := prog_2_method_4_code
def dl_Chip_read : List (Nat × Instr × Nat) := [(0, .aload_n 0, 1), (1, .iload_n 1, 1), (2, .invokevirtual 30, 3), (5, .lconst 0, 1), (6, .lstore_n 2, 1), (7, .iconst 0, 1), (8, .istore 4, 2), (10, .iload 4, 2), (12, .bipush 64, 2), (14, .if_icmp .ge 32, 3), (17, .lload_n 2, 1), (18, .aload_n 0, 1), (19, .getfield 11, 3), (22, .aload_n 0, 1), (23, .getfield 17, 3), (26, .iload 4, 2), (28, .iaload, 1), (29, .aaload, 1), (30, .iload_n 1, 1), (31, .invokevirtual 34, 3), (34, .i2l, 1), (35, .iload 4, 2), (37, .lshl, 1), (38, .lor, 1), (39, .lstore_n 2, 1), (40, .iinc 4 1, 3), (43, .goto (-33), 3), (46, .lload_n 2, 1), (47, .lreturn, 1)]
theorem D_Chip_read : ∀ q ∈ dl_Chip_read, decode b_Chip_read q.1 = .ok q.2 := by decide +kernel
def y_Stuck_get : MethodName := ⟨"BubbleBox$StuckLoop", "get", "(I)I"⟩
abbrev b_Stuck_get : ByteArray := prog_9_method_2_code
def dl_Stuck_get : List (Nat × Instr × Nat) := [(0, .aload_n 0, 1), (1, .getfield 7, 3), (4, .ireturn, 1)]
theorem D_Stuck_get : ∀ q ∈ dl_Stuck_get, decode b_Stuck_get q.1 = .ok q.2 := by decide +kernel
def y_Loop_get : MethodName := ⟨"BubbleBox$Loop", "get", "(I)I"⟩
abbrev b_Loop_get : ByteArray := prog_6_method_2_code
def dl_Loop_get : List (Nat × Instr × Nat) := [(0, .aload_n 0, 1), (1, .getfield 7, 3), (4, .iload_n 1, 1), (5, .bipush 6, 2), (7, .ishr, 1), (8, .laload, 1), (9, .iload_n 1, 1), (10, .lushr, 1), (11, .l2i, 1), (12, .iconst 1, 1), (13, .iand, 1), (14, .ireturn, 1)]
theorem D_Loop_get : ∀ q ∈ dl_Loop_get, decode b_Loop_get q.1 = .ok q.2 := by decide +kernel
def y_Img_put : MethodName := ⟨"BubbleBox$Image", "put", "(IJI)V"⟩
abbrev b_Img_put : ByteArray := prog_5_method_2_code
def dl_Img_put : List (Nat × Instr × Nat) := [(0, .iconst 0, 1), (1, .istore 5, 2), (3, .iload 5, 2), (5, .iload 4, 2), (7, .if_icmp .ge 30, 3), (10, .aload_n 0, 1), (11, .getfield 9, 3), (14, .iload_n 1, 1), (15, .iload 5, 2), (17, .iadd, 1), (18, .lload_n 2, 1), (19, .bipush 8, 2), (21, .iload 5, 2), (23, .imul, 1), (24, .lushr, 1), (25, .l2i, 1), (26, .sipush 255, 3), (29, .iand, 1), (30, .iastore, 1), (31, .iinc 5 1, 3), (34, .goto (-31), 3), (37, .return_, 1)]
theorem D_Img_put : ∀ q ∈ dl_Img_put, decode b_Img_put q.1 = .ok q.2 := by decide +kernel
def y_Img_isValid : MethodName := ⟨"BubbleBox$Image", "isValid", "()Z"⟩
abbrev b_Img_isValid : ByteArray := prog_5_method_5_code
def dl_Img_isValid : List (Nat × Instr × Nat) := [(0, .aload_n 0, 1), (1, .sipush 158, 3), (4, .iconst 2, 1), (5, .invokevirtual 16, 3), (8, .aload_n 0, 1), (9, .invokevirtual 20, 3), (12, .if_icmp .ne 7, 3), (15, .iconst 1, 1), (16, .goto 4, 3), (19, .iconst 0, 1), (20, .ireturn, 1)]
theorem D_Img_isValid : ∀ q ∈ dl_Img_isValid, decode b_Img_isValid q.1 = .ok q.2 := by decide +kernel
def y_Img_get : MethodName := ⟨"BubbleBox$Image", "get", "(II)I"⟩
abbrev b_Img_get : ByteArray := prog_5_method_3_code
def dl_Img_get : List (Nat × Instr × Nat) := [(0, .iconst 0, 1), (1, .istore_n 3, 1), (2, .iload_n 2, 1), (3, .iconst 1, 1), (4, .isub, 1), (5, .istore 4, 2), (7, .iload 4, 2), (9, .ifCond .lt 24, 3), (12, .iload_n 3, 1), (13, .bipush 8, 2), (15, .ishl, 1), (16, .aload_n 0, 1), (17, .getfield 9, 3), (20, .iload_n 1, 1), (21, .iload 4, 2), (23, .iadd, 1), (24, .iaload, 1), (25, .ior, 1), (26, .istore_n 3, 1), (27, .iinc 4 (-1), 3), (30, .goto (-23), 3), (33, .iload_n 3, 1), (34, .ireturn, 1)]
theorem D_Img_get : ∀ q ∈ dl_Img_get, decode b_Img_get q.1 = .ok q.2 := by decide +kernel
def y_Img_sum : MethodName := ⟨"BubbleBox$Image", "sum", "()I"⟩
abbrev b_Img_sum : ByteArray := prog_5_method_4_code
def dl_Img_sum : List (Nat × Instr × Nat) := [(0, .iconst 1, 1), (1, .istore_n 1, 1), (2, .iconst 0, 1), (3, .istore_n 2, 1), (4, .iload_n 2, 1), (5, .sipush 158, 3), (8, .if_icmp .ge 18, 3), (11, .iload_n 1, 1), (12, .aload_n 0, 1), (13, .getfield 9, 3), (16, .iload_n 2, 1), (17, .iaload, 1), (18, .iadd, 1), (19, .istore_n 1, 1), (20, .iinc 2 1, 3), (23, .goto (-19), 3), (26, .iload_n 1, 1), (27, .ldc 15, 2), (29, .iand, 1), (30, .ireturn, 1)]
theorem D_Img_sum : ∀ q ∈ dl_Img_sum, decode b_Img_sum q.1 = .ok q.2 := by decide +kernel
def y_Box_within : MethodName := ⟨"BubbleBox", "within", "(III)Z"⟩
abbrev b_Box_within : ByteArray := prog_1_method_3_code
def dl_Box_within : List (Nat × Instr × Nat) := [(0, .iload_n 0, 1), (1, .iload_n 1, 1), (2, .if_icmp .lt 12, 3), (5, .iload_n 0, 1), (6, .iload_n 2, 1), (7, .if_icmp .gt 7, 3), (10, .iconst 1, 1), (11, .goto 4, 3), (14, .iconst 0, 1), (15, .ireturn, 1)]
theorem D_Box_within : ∀ q ∈ dl_Box_within, decode b_Box_within q.1 = .ok q.2 := by decide +kernel
def y_Img_unpack : MethodName := ⟨"BubbleBox$Image", "unpack", "(LBubbleBox$Directory;)V"⟩
abbrev b_Img_unpack : ByteArray := prog_5_method_7_code
def dl_Img_unpack : List (Nat × Instr × Nat) := [(0, .aload_n 1, 1), (1, .invokevirtual 49, 3), (4, .aload_n 1, 1), (5, .aload_n 0, 1), (6, .iconst 0, 1), (7, .iconst 1, 1), (8, .invokevirtual 16, 3), (11, .putfield 52, 3), (14, .iconst 0, 1), (15, .istore_n 2, 1), (16, .iload_n 2, 1), (17, .bipush 101, 2), (19, .if_icmp .ge 24, 3), (22, .aload_n 1, 1), (23, .getfield 46, 3), (26, .iload_n 2, 1), (27, .aload_n 0, 1), (28, .getfield 9, 3), (31, .bipush 57, 2), (33, .iload_n 2, 1), (34, .iadd, 1), (35, .iaload, 1), (36, .iastore, 1), (37, .iinc 2 1, 3), (40, .goto (-24), 3), (43, .iconst 0, 1), (44, .istore_n 2, 1), (45, .iload_n 2, 1), (46, .bipush 8, 2), (48, .if_icmp .ge 110, 3), (51, .iconst 1, 1), (52, .bipush 7, 2), (54, .iload_n 2, 1), (55, .imul, 1), (56, .iadd, 1), (57, .istore_n 3, 1), (58, .aload_n 0, 1), (59, .iload_n 3, 1), (60, .iconst 4, 1), (61, .invokevirtual 16, 3), (64, .ifCond .ne 6, 3), (67, .goto 85, 3), (70, .new 35, 3), (73, .dup, 1), (74, .aload_n 0, 1), (75, .iload_n 3, 1), (76, .iconst 4, 1), (77, .invokevirtual 16, 3), (80, .invokespecial 55, 3), (83, .astore 4, 2), (85, .aload 4, 2), (87, .aload_n 0, 1), (88, .iload_n 3, 1), (89, .iconst 4, 1), (90, .iadd, 1), (91, .iconst 1, 1), (92, .invokevirtual 16, 3), (95, .putfield 40, 3), (98, .aload 4, 2), (100, .aload_n 0, 1), (101, .iload_n 3, 1), (102, .iconst 5, 1), (103, .iadd, 1), (104, .iconst 2, 1), (105, .invokevirtual 16, 3), (108, .putfield 43, 3), (111, .aload_n 1, 1), (112, .getfield 28, 3), (115, .iload_n 2, 1), (116, .aload 4, 2), (118, .aastore, 1), (119, .iconst 0, 1), (120, .istore 5, 2), (122, .iload 5, 2), (124, .aload 4, 2), (126, .invokevirtual 58, 3), (129, .if_icmp .ge 23, 3), (132, .aload_n 1, 1), (133, .getfield 61, 3), (136, .aload_n 1, 1), (137, .aload 4, 2), (139, .iload 5, 2), (141, .invokevirtual 65, 3), (144, .iconst 1, 1), (145, .bastore, 1), (146, .iinc 5 1, 3), (149, .goto (-27), 3), (152, .iinc 2 1, 3), (155, .goto (-110), 3), (158, .aload_n 1, 1), (159, .invokevirtual 69, 3), (162, .return_, 1)]
theorem D_Img_unpack : ∀ q ∈ dl_Img_unpack, decode b_Img_unpack q.1 = .ok q.2 := by decide +kernel
def y_File_init : MethodName := ⟨"BubbleBox$StoredFile", "<init>", "(I)V"⟩
abbrev b_File_init : ByteArray := prog_8_method_1_code
def dl_File_init : List (Nat × Instr × Nat) := [(0, .aload_n 0, 1), (1, .invokespecial 3, 3), (4, .aload_n 0, 1), (5, .new 9, 3), (8, .dup, 1), (9, .invokespecial 11, 3), (12, .putfield 12, 3), (15, .aload_n 0, 1), (16, .iload_n 1, 1), (17, .putfield 18, 3), (20, .return_, 1)]
theorem D_File_init : ∀ q ∈ dl_File_init, decode b_File_init q.1 = .ok q.2 := by decide +kernel
def y_Win_init : MethodName := ⟨"BubbleBox$Window", "<init>", "()V"⟩
abbrev b_Win_init : ByteArray := prog_10_method_1_code
def dl_Win_init : List (Nat × Instr × Nat) := [(0, .aload_n 0, 1), (1, .invokespecial 3, 3), (4, .aload_n 0, 1), (5, .iconst (-1), 1), (6, .putfield 9, 3), (9, .return_, 1)]
theorem D_Win_init : ∀ q ∈ dl_Win_init, decode b_Win_init q.1 = .ok q.2 := by decide +kernel
def y_File_pages : MethodName := ⟨"BubbleBox$StoredFile", "pages", "()I"⟩
abbrev b_File_pages : ByteArray := prog_8_method_2_code
def dl_File_pages : List (Nat × Instr × Nat) := [(0, .aload_n 0, 1), (1, .getfield 22, 3), (4, .bipush 8, 2), (6, .iadd, 1), (7, .iconst 1, 1), (8, .isub, 1), (9, .bipush 8, 2), (11, .idiv, 1), (12, .ireturn, 1)]
theorem D_File_pages : ∀ q ∈ dl_File_pages, decode b_File_pages q.1 = .ok q.2 := by decide +kernel
def y_Dir_pageOf : MethodName := ⟨"BubbleBox$Directory", "pageOf", "(LBubbleBox$StoredFile;I)I"⟩
abbrev b_Dir_pageOf : ByteArray := prog_4_method_5_code
def dl_Dir_pageOf : List (Nat × Instr × Nat) := [(0, .aload_n 1, 1), (1, .getfield 32, 3), (4, .istore_n 3, 1), (5, .iconst 0, 1), (6, .istore 4, 2), (8, .iload 4, 2), (10, .iload_n 2, 1), (11, .if_icmp .ge 16, 3), (14, .aload_n 0, 1), (15, .getfield 17, 3), (18, .iload_n 3, 1), (19, .iaload, 1), (20, .istore_n 3, 1), (21, .iinc 4 1, 3), (24, .goto (-16), 3), (27, .iload_n 3, 1), (28, .ireturn, 1)]
theorem D_Dir_pageOf : ∀ q ∈ dl_Dir_pageOf, decode b_Dir_pageOf q.1 = .ok q.2 := by decide +kernel
def y_Dir_hold : MethodName := ⟨"BubbleBox$Directory", "hold", "()V"⟩
abbrev b_Dir_hold : ByteArray := prog_4_method_8_code
def dl_Dir_hold : List (Nat × Instr × Nat) := [(0, .iconst 0, 1), (1, .istore_n 1, 1), (2, .iload_n 1, 1), (3, .bipush 101, 2), (5, .if_icmp .ge 21, 3), (8, .aload_n 0, 1), (9, .getfield 25, 3), (12, .iload_n 1, 1), (13, .aload_n 0, 1), (14, .getfield 21, 3), (17, .iload_n 1, 1), (18, .baload, 1), (19, .bastore, 1), (20, .iinc 1 1, 3), (23, .goto (-21), 3), (26, .return_, 1)]
theorem D_Dir_hold : ∀ q ∈ dl_Dir_hold, decode b_Dir_hold q.1 = .ok q.2 := by decide +kernel
def y_Box_stuck : MethodName := ⟨"BubbleBox", "stuck", "(II)V"⟩
abbrev b_Box_stuck : ByteArray := prog_1_method_7_code
def dl_Box_stuck : List (Nat × Instr × Nat) := [(0, .iload_n 1, 1), (1, .iconst 0, 1), (2, .bipush 68, 2), (4, .invokestatic 70, 3), (7, .ifCond .eq 16, 3), (10, .iload_n 2, 1), (11, .iconst 0, 1), (12, .iconst 1, 1), (13, .invokestatic 70, 3), (16, .ifCond .eq 7, 3), (19, .iconst 1, 1), (20, .goto 4, 3), (23, .iconst 0, 1), (24, .invokestatic 78, 3), (27, .aload_n 0, 1), (28, .getfield 18, 3), (31, .getfield 81, 3), (34, .ifCond .ne 7, 3), (37, .iconst 1, 1), (38, .goto 4, 3), (41, .iconst 0, 1), (42, .invokestatic 66, 3), (45, .aload_n 0, 1), (46, .getfield 18, 3), (49, .getfield 84, 3), (52, .iload_n 1, 1), (53, .new 88, 3), (56, .dup, 1), (57, .iload_n 2, 1), (58, .invokespecial 90, 3), (61, .aastore, 1), (62, .return_, 1)]
theorem D_Box_stuck : ∀ q ∈ dl_Box_stuck, decode b_Box_stuck q.1 = .ok q.2 := by decide +kernel
def y_Box_argue : MethodName := ⟨"BubbleBox", "argue", "(Z)V"⟩
abbrev b_Box_argue : ByteArray := prog_1_method_1_code
def dl_Box_argue : List (Nat × Instr × Nat) := [(0, .iload_n 0, 1), (1, .ifCond .ne 11, 3), (4, .new 3, 3), (7, .dup, 1), (8, .invokespecial 5, 3), (11, .athrow, 1), (12, .return_, 1)]
theorem D_Box_argue : ∀ q ∈ dl_Box_argue, decode b_Box_argue q.1 = .ok q.2 := by decide +kernel
def y_Stuck_init : MethodName := ⟨"BubbleBox$StuckLoop", "<init>", "(I)V"⟩
abbrev b_Stuck_init : ByteArray := prog_9_method_1_code
def dl_Stuck_init : List (Nat × Instr × Nat) := [(0, .aload_n 0, 1), (1, .invokespecial 1, 3), (4, .aload_n 0, 1), (5, .iload_n 1, 1), (6, .putfield 7, 3), (9, .return_, 1)]
theorem D_Stuck_init : ∀ q ∈ dl_Stuck_init, decode b_Stuck_init q.1 = .ok q.2 := by decide +kernel
def y_Box_format : MethodName := ⟨"BubbleBox", "format", "()Z"⟩
abbrev b_Box_format : ByteArray := prog_1_method_12_code
def dl_Box_format : List (Nat × Instr × Nat) := [(0, .aload_n 0, 1), (1, .getfield 27, 3), (4, .getfield 59, 3), (7, .invokestatic 66, 3), (10, .aload_n 0, 1), (11, .getfield 18, 3), (14, .invokevirtual 105, 3), (17, .ifCond .ne 5, 3), (20, .iconst 0, 1), (21, .ireturn, 1), (22, .aload_n 0, 1), (23, .invokevirtual 108, 3), (26, .aload_n 0, 1), (27, .getfield 34, 3), (30, .iconst 1, 1), (31, .putfield 111, 3), (34, .aload_n 0, 1), (35, .getfield 34, 3), (38, .sipush 255, 3), (41, .putfield 114, 3), (44, .aload_n 0, 1), (45, .iconst 1, 1), (46, .putfield 55, 3), (49, .aload_n 0, 1), (50, .invokevirtual 117, 3), (53, .pop, 1), (54, .iconst 1, 1), (55, .ireturn, 1)]
theorem D_Box_format : ∀ q ∈ dl_Box_format, decode b_Box_format q.1 = .ok q.2 := by decide +kernel
def y_Chip_test : MethodName := ⟨"BubbleBox$Chip", "test", "()Z"⟩
abbrev b_Chip_test : ByteArray := prog_2_method_6_code
def dl_Chip_test : List (Nat × Instr × Nat) := [(0, .iconst 0, 1), (1, .istore_n 1, 1), (2, .iconst 0, 1), (3, .istore_n 2, 1), (4, .iload_n 2, 1), (5, .bipush 69, 2), (7, .if_icmp .ge 29, 3), (10, .iload_n 1, 1), (11, .aload_n 0, 1), (12, .getfield 11, 3), (15, .iload_n 2, 1), (16, .aaload, 1), (17, .instanceof 42, 3), (20, .ifCond .eq 7, 3), (23, .iconst 0, 1), (24, .goto 4, 3), (27, .iconst 1, 1), (28, .iadd, 1), (29, .istore_n 1, 1), (30, .iinc 2 1, 3), (33, .goto (-29), 3), (36, .iload_n 1, 1), (37, .bipush 64, 2), (39, .if_icmp .ge 5, 3), (42, .iconst 0, 1), (43, .ireturn, 1), (44, .iconst 0, 1), (45, .istore_n 2, 1), (46, .iconst 0, 1), (47, .istore_n 3, 1), (48, .iload_n 3, 1), (49, .bipush 69, 2), (51, .if_icmp .ge 65, 3), (54, .iconst 1, 1), (55, .istore 4, 2), (57, .iconst 0, 1), (58, .istore 5, 2), (60, .iload 5, 2), (62, .bipush 101, 2), (64, .if_icmp .ge 25, 3), (67, .iload 4, 2), (69, .aload_n 0, 1), (70, .getfield 11, 3), (73, .iload_n 3, 1), (74, .aaload, 1), (75, .iload 5, 2), (77, .invokevirtual 44, 3), (80, .iand, 1), (81, .istore 4, 2), (83, .iinc 5 1, 3), (86, .goto (-26), 3), (89, .iload 4, 2), (91, .ifCond .eq 19, 3), (94, .iload_n 2, 1), (95, .bipush 64, 2), (97, .if_icmp .ge 13, 3), (100, .aload_n 0, 1), (101, .getfield 17, 3), (104, .iload_n 2, 1), (105, .iinc 2 1, 3), (108, .iload_n 3, 1), (109, .iastore, 1), (110, .iinc 3 1, 3), (113, .goto (-65), 3), (116, .aload_n 0, 1), (117, .dup, 1), (118, .getfield 26, 3), (121, .ldc2_w 48, 3), (124, .ladd, 1), (125, .putfield 26, 3), (128, .aload_n 0, 1), (129, .iconst 1, 1), (130, .putfield 50, 3), (133, .iconst 1, 1), (134, .ireturn, 1)]
theorem D_Chip_test : ∀ q ∈ dl_Chip_test, decode b_Chip_test q.1 = .ok q.2 := by decide +kernel
def y_Loop_tests : MethodName := ⟨"BubbleBox$Loop", "tests", "(I)Z"⟩
abbrev b_Loop_tests : ByteArray := prog_6_method_4_code
def dl_Loop_tests : List (Nat × Instr × Nat) := [(0, .aload_n 0, 1), (1, .iload_n 1, 1), (2, .iconst 1, 1), (3, .invokevirtual 15, 3), (6, .aload_n 0, 1), (7, .iload_n 1, 1), (8, .invokevirtual 19, 3), (11, .iconst 1, 1), (12, .if_icmp .ne 7, 3), (15, .iconst 1, 1), (16, .goto 4, 3), (19, .iconst 0, 1), (20, .istore_n 2, 1), (21, .aload_n 0, 1), (22, .iload_n 1, 1), (23, .iconst 0, 1), (24, .invokevirtual 15, 3), (27, .iload_n 2, 1), (28, .ifCond .eq 15, 3), (31, .aload_n 0, 1), (32, .iload_n 1, 1), (33, .invokevirtual 19, 3), (36, .ifCond .ne 7, 3), (39, .iconst 1, 1), (40, .goto 4, 3), (43, .iconst 0, 1), (44, .ireturn, 1)]
theorem D_Loop_tests : ∀ q ∈ dl_Loop_tests, decode b_Loop_tests q.1 = .ok q.2 := by decide +kernel
def y_Loop_set : MethodName := ⟨"BubbleBox$Loop", "set", "(II)V"⟩
abbrev b_Loop_set : ByteArray := prog_6_method_3_code
def dl_Loop_set : List (Nat × Instr × Nat) := [(0, .aload_n 0, 1), (1, .getfield 7, 3), (4, .iload_n 1, 1), (5, .bipush 6, 2), (7, .ishr, 1), (8, .aload_n 0, 1), (9, .getfield 7, 3), (12, .iload_n 1, 1), (13, .bipush 6, 2), (15, .ishr, 1), (16, .laload, 1), (17, .lconst 1, 1), (18, .iload_n 1, 1), (19, .lshl, 1), (20, .ldc2_w 13, 3), (23, .lxor, 1), (24, .land, 1), (25, .iload_n 2, 1), (26, .i2l, 1), (27, .iload_n 1, 1), (28, .lshl, 1), (29, .lor, 1), (30, .lastore, 1), (31, .return_, 1)]
theorem D_Loop_set : ∀ q ∈ dl_Loop_set, decode b_Loop_set q.1 = .ok q.2 := by decide +kernel
def y_Box_sync : MethodName := ⟨"BubbleBox", "sync", "()I"⟩
abbrev b_Box_sync : ByteArray := prog_1_method_22_code
def dl_Box_sync : List (Nat × Instr × Nat) := [(0, .aload_n 0, 1), (1, .invokevirtual 62, 3), (4, .invokestatic 66, 3), (7, .aload_n 0, 1), (8, .getfield 18, 3), (11, .getfield 97, 3), (14, .lstore_n 1, 1), (15, .iconst 0, 1), (16, .istore_n 3, 1), (17, .iload_n 3, 1), (18, .bipush 8, 2), (20, .if_icmp .ge 40, 3), (23, .aload_n 0, 1), (24, .getfield 34, 3), (27, .getfield 74, 3), (30, .iload_n 3, 1), (31, .aaload, 1), (32, .ifnull 22, 3), (35, .aload_n 0, 1), (36, .getfield 34, 3), (39, .getfield 74, 3), (42, .iload_n 3, 1), (43, .aaload, 1), (44, .getfield 159, 3), (47, .aload_n 0, 1), (48, .getfield 27, 3), (51, .invokevirtual 174, 3), (54, .iinc 3 1, 3), (57, .goto (-40), 3), (60, .iconst 1, 1), (61, .aload_n 0, 1), (62, .getfield 34, 3), (65, .getfield 111, 3), (68, .isub, 1), (69, .istore_n 3, 1), (70, .aload_n 0, 1), (71, .getfield 34, 3), (74, .getfield 114, 3), (77, .iconst 1, 1), (78, .iadd, 1), (79, .sipush 256, 3), (82, .irem, 1), (83, .istore 4, 2), (85, .aload_n 0, 1), (86, .getfield 41, 3), (89, .iload_n 3, 1), (90, .aaload, 1), (91, .aload_n 0, 1), (92, .getfield 34, 3), (95, .iload 4, 2), (97, .invokevirtual 202, 3), (100, .aload_n 0, 1), (101, .getfield 41, 3), (104, .iload_n 3, 1), (105, .aaload, 1), (106, .aload_n 0, 1), (107, .getfield 27, 3), (110, .iload_n 3, 1), (111, .invokevirtual 206, 3), (114, .aload_n 0, 1), (115, .getfield 34, 3), (118, .iload_n 3, 1), (119, .putfield 111, 3), (122, .aload_n 0, 1), (123, .getfield 34, 3), (126, .iload 4, 2), (128, .putfield 114, 3), (131, .aload_n 0, 1), (132, .getfield 34, 3), (135, .invokevirtual 209, 3), (138, .aload_n 0, 1), (139, .getfield 18, 3), (142, .getfield 97, 3), (145, .lload_n 1, 1), (146, .lsub, 1), (147, .l2i, 1), (148, .ireturn, 1)]
theorem D_Box_sync : ∀ q ∈ dl_Box_sync, decode b_Box_sync q.1 = .ok q.2 := by decide +kernel
def y_Box_isMounted : MethodName := ⟨"BubbleBox", "isMounted", "()Z"⟩
abbrev b_Box_isMounted : ByteArray := prog_1_method_5_code
def dl_Box_isMounted : List (Nat × Instr × Nat) := [(0, .aload_n 0, 1), (1, .getfield 55, 3), (4, .ifCond .eq 17, 3), (7, .aload_n 0, 1), (8, .getfield 27, 3), (11, .getfield 59, 3), (14, .ifCond .eq 7, 3), (17, .iconst 1, 1), (18, .goto 4, 3), (21, .iconst 0, 1), (22, .ireturn, 1)]
theorem D_Box_isMounted : ∀ q ∈ dl_Box_isMounted, decode b_Box_isMounted q.1 = .ok q.2 := by decide +kernel
def y_Win_save : MethodName := ⟨"BubbleBox$Window", "save", "(LBubbleBox$Controller;)V"⟩
abbrev b_Win_save : ByteArray := prog_10_method_2_code
def dl_Win_save : List (Nat × Instr × Nat) := [(0, .aload_n 0, 1), (1, .getfield 15, 3), (4, .ifCond .ne 4, 3), (7, .return_, 1), (8, .aload_n 1, 1), (9, .aload_n 0, 1), (10, .getfield 9, 3), (13, .aload_n 0, 1), (14, .getfield 19, 3), (17, .invokevirtual 23, 3), (20, .aload_n 0, 1), (21, .iconst 0, 1), (22, .putfield 15, 3), (25, .return_, 1)]
theorem D_Win_save : ∀ q ∈ dl_Win_save, decode b_Win_save q.1 = .ok q.2 := by decide +kernel
def y_Ctl_write : MethodName := ⟨"BubbleBox$Controller", "write", "(IJ)V"⟩
abbrev b_Ctl_write : ByteArray := prog_3_method_4_code
def dl_Ctl_write : List (Nat × Instr × Nat) := [(0, .aload_n 0, 1), (1, .invokevirtual 27, 3), (4, .aload_n 0, 1), (5, .getfield 19, 3), (8, .iload_n 1, 1), (9, .lload_n 2, 1), (10, .invokevirtual 36, 3), (13, .return_, 1)]
theorem D_Ctl_write : ∀ q ∈ dl_Ctl_write, decode b_Ctl_write q.1 = .ok q.2 := by decide +kernel
def y_Chip_write : MethodName := ⟨"BubbleBox$Chip", "write", "(IJ)V"⟩
abbrev b_Chip_write : ByteArray := prog_2_method_5_code
def dl_Chip_write : List (Nat × Instr × Nat) := [(0, .aload_n 0, 1), (1, .iload_n 1, 1), (2, .invokevirtual 30, 3), (5, .iconst 0, 1), (6, .istore 4, 2), (8, .iload 4, 2), (10, .bipush 64, 2), (12, .if_icmp .ge 32, 3), (15, .aload_n 0, 1), (16, .getfield 11, 3), (19, .aload_n 0, 1), (20, .getfield 17, 3), (23, .iload 4, 2), (25, .iaload, 1), (26, .aaload, 1), (27, .iload_n 1, 1), (28, .lload_n 2, 1), (29, .iload 4, 2), (31, .lushr, 1), (32, .l2i, 1), (33, .iconst 1, 1), (34, .iand, 1), (35, .invokevirtual 38, 3), (38, .iinc 4 1, 3), (41, .goto (-33), 3), (44, .return_, 1)]
theorem D_Chip_write : ∀ q ∈ dl_Chip_write, decode b_Chip_write q.1 = .ok q.2 := by decide +kernel
def y_Img_pack : MethodName := ⟨"BubbleBox$Image", "pack", "(LBubbleBox$Directory;I)V"⟩
abbrev b_Img_pack : ByteArray := prog_5_method_6_code
def dl_Img_pack : List (Nat × Instr × Nat) := [(0, .aload_n 0, 1), (1, .iconst 0, 1), (2, .iload_n 2, 1), (3, .i2l, 1), (4, .iconst 1, 1), (5, .invokevirtual 24, 3), (8, .iconst 0, 1), (9, .istore_n 3, 1), (10, .iload_n 3, 1), (11, .bipush 8, 2), (13, .if_icmp .ge 95, 3), (16, .aload_n 1, 1), (17, .getfield 28, 3), (20, .iload_n 3, 1), (21, .aaload, 1), (22, .astore 4, 2), (24, .iconst 1, 1), (25, .bipush 7, 2), (27, .iload_n 3, 1), (28, .imul, 1), (29, .iadd, 1), (30, .istore 5, 2), (32, .aload_n 0, 1), (33, .iload 5, 2), (35, .aload 4, 2), (37, .ifnonnull 7, 3), (40, .lconst 0, 1), (41, .goto 9, 3), (44, .aload 4, 2), (46, .getfield 34, 3), (49, .i2l, 1), (50, .iconst 4, 1), (51, .invokevirtual 24, 3), (54, .aload_n 0, 1), (55, .iload 5, 2), (57, .iconst 4, 1), (58, .iadd, 1), (59, .aload 4, 2), (61, .ifnonnull 7, 3), (64, .lconst 0, 1), (65, .goto 9, 3), (68, .aload 4, 2), (70, .getfield 40, 3), (73, .i2l, 1), (74, .iconst 1, 1), (75, .invokevirtual 24, 3), (78, .aload_n 0, 1), (79, .iload 5, 2), (81, .iconst 5, 1), (82, .iadd, 1), (83, .aload 4, 2), (85, .ifnonnull 7, 3), (88, .lconst 0, 1), (89, .goto 9, 3), (92, .aload 4, 2), (94, .getfield 43, 3), (97, .i2l, 1), (98, .iconst 2, 1), (99, .invokevirtual 24, 3), (102, .iinc 3 1, 3), (105, .goto (-95), 3), (108, .iconst 0, 1), (109, .istore_n 3, 1), (110, .iload_n 3, 1), (111, .bipush 101, 2), (113, .if_icmp .ge 25, 3), (116, .aload_n 0, 1), (117, .bipush 57, 2), (119, .iload_n 3, 1), (120, .iadd, 1), (121, .aload_n 1, 1), (122, .getfield 46, 3), (125, .iload_n 3, 1), (126, .iaload, 1), (127, .i2l, 1), (128, .iconst 1, 1), (129, .invokevirtual 24, 3), (132, .iinc 3 1, 3), (135, .goto (-25), 3), (138, .aload_n 0, 1), (139, .sipush 158, 3), (142, .aload_n 0, 1), (143, .invokevirtual 20, 3), (146, .i2l, 1), (147, .iconst 2, 1), (148, .invokevirtual 24, 3), (151, .return_, 1)]
theorem D_Img_pack : ∀ q ∈ dl_Img_pack, decode b_Img_pack q.1 = .ok q.2 := by decide +kernel
def y_Img_write : MethodName := ⟨"BubbleBox$Image", "write", "(LBubbleBox$Controller;I)V"⟩
abbrev b_Img_write : ByteArray := prog_5_method_8_code
def dl_Img_write : List (Nat × Instr × Nat) := [(0, .iconst 1, 1), (1, .istore_n 3, 1), (2, .iload_n 3, 1), (3, .bipush 20, 2), (5, .if_icmp .gt 68, 3), (8, .iload_n 3, 1), (9, .bipush 20, 2), (11, .irem, 1), (12, .istore 4, 2), (14, .lconst 0, 1), (15, .lstore 5, 2), (17, .bipush 7, 2), (19, .istore 7, 2), (21, .iload 7, 2), (23, .ifCond .lt 31, 3), (26, .lload 5, 2), (28, .bipush 8, 2), (30, .lshl, 1), (31, .aload_n 0, 1), (32, .getfield 9, 3), (35, .bipush 8, 2), (37, .iload 4, 2), (39, .imul, 1), (40, .iload 7, 2), (42, .iadd, 1), (43, .iaload, 1), (44, .i2l, 1), (45, .lor, 1), (46, .lstore 5, 2), (48, .iinc 7 (-1), 3), (51, .goto (-30), 3), (54, .aload_n 1, 1), (55, .bipush 20, 2), (57, .iload_n 2, 1), (58, .imul, 1), (59, .iload 4, 2), (61, .iadd, 1), (62, .lload 5, 2), (64, .invokevirtual 72, 3), (67, .iinc 3 1, 3), (70, .goto (-68), 3), (73, .return_, 1)]
theorem D_Img_write : ∀ q ∈ dl_Img_write, decode b_Img_write q.1 = .ok q.2 := by decide +kernel
def y_Box_create : MethodName := ⟨"BubbleBox", "create", "(I)I"⟩
abbrev b_Box_create : ByteArray := prog_1_method_15_code
def dl_Box_create : List (Nat × Instr × Nat) := [(0, .aload_n 0, 1), (1, .invokevirtual 62, 3), (4, .invokestatic 66, 3), (7, .iload_n 1, 1), (8, .ifCond .eq 15, 3), (11, .aload_n 0, 1), (12, .iload_n 1, 1), (13, .invokevirtual 144, 3), (16, .ifCond .ge 7, 3), (19, .iconst 1, 1), (20, .goto 4, 3), (23, .iconst 0, 1), (24, .invokestatic 78, 3), (27, .iconst 0, 1), (28, .istore_n 2, 1), (29, .iload_n 2, 1), (30, .bipush 8, 2), (32, .if_icmp .ge 21, 3), (35, .aload_n 0, 1), (36, .getfield 34, 3), (39, .getfield 74, 3), (42, .iload_n 2, 1), (43, .aaload, 1), (44, .ifnull 9, 3), (47, .iinc 2 1, 3), (50, .goto (-21), 3), (53, .iload_n 2, 1), (54, .bipush 8, 2), (56, .if_icmp .ne 11, 3), (59, .new 148, 3), (62, .dup, 1), (63, .invokespecial 150, 3), (66, .athrow, 1), (67, .aload_n 0, 1), (68, .getfield 34, 3), (71, .getfield 74, 3), (74, .iload_n 2, 1), (75, .new 140, 3), (78, .dup, 1), (79, .iload_n 1, 1), (80, .invokespecial 151, 3), (83, .aastore, 1), (84, .iload_n 2, 1), (85, .ireturn, 1)]
theorem D_Box_create : ∀ q ∈ dl_Box_create, decode b_Box_create q.1 = .ok q.2 := by decide +kernel
def y_Box_numberOf : MethodName := ⟨"BubbleBox", "numberOf", "(I)I"⟩
abbrev b_Box_numberOf : ByteArray := prog_1_method_14_code
def dl_Box_numberOf : List (Nat × Instr × Nat) := [(0, .iconst (-1), 1), (1, .istore_n 2, 1), (2, .bipush 7, 2), (4, .istore_n 3, 1), (5, .iload_n 3, 1), (6, .ifCond .lt 43, 3), (9, .aload_n 0, 1), (10, .getfield 34, 3), (13, .getfield 74, 3), (16, .iload_n 3, 1), (17, .aaload, 1), (18, .ifnull 23, 3), (21, .aload_n 0, 1), (22, .getfield 34, 3), (25, .getfield 74, 3), (28, .iload_n 3, 1), (29, .aaload, 1), (30, .getfield 139, 3), (33, .iload_n 1, 1), (34, .if_icmp .ne 7, 3), (37, .iload_n 3, 1), (38, .goto 4, 3), (41, .iload_n 2, 1), (42, .istore_n 2, 1), (43, .iinc 3 (-1), 3), (46, .goto (-41), 3), (49, .iload_n 2, 1), (50, .ireturn, 1)]
theorem D_Box_numberOf : ∀ q ∈ dl_Box_numberOf, decode b_Box_numberOf q.1 = .ok q.2 := by decide +kernel
def y_Box_find : MethodName := ⟨"BubbleBox", "find", "(I)I"⟩
abbrev b_Box_find : ByteArray := prog_1_method_16_code
def dl_Box_find : List (Nat × Instr × Nat) := [(0, .aload_n 0, 1), (1, .invokevirtual 62, 3), (4, .invokestatic 66, 3), (7, .aload_n 0, 1), (8, .iload_n 1, 1), (9, .invokevirtual 144, 3), (12, .ireturn, 1)]
theorem D_Box_find : ∀ q ∈ dl_Box_find, decode b_Box_find q.1 = .ok q.2 := by decide +kernel
def y_Box_length : MethodName := ⟨"BubbleBox", "length", "(I)I"⟩
abbrev b_Box_length : ByteArray := prog_1_method_17_code
def dl_Box_length : List (Nat × Instr × Nat) := [(0, .aload_n 0, 1), (1, .iload_n 1, 1), (2, .invokevirtual 152, 3), (5, .getfield 156, 3), (8, .ireturn, 1)]
theorem D_Box_length : ∀ q ∈ dl_Box_length, decode b_Box_length q.1 = .ok q.2 := by decide +kernel
def y_Box_fileAt : MethodName := ⟨"BubbleBox", "fileAt", "(I)LBubbleBox$StoredFile;"⟩
abbrev b_Box_fileAt : ByteArray := prog_1_method_6_code
def dl_Box_fileAt : List (Nat × Instr × Nat) := [(0, .aload_n 0, 1), (1, .invokevirtual 62, 3), (4, .invokestatic 66, 3), (7, .iload_n 1, 1), (8, .iconst 0, 1), (9, .bipush 7, 2), (11, .invokestatic 70, 3), (14, .ifCond .eq 19, 3), (17, .aload_n 0, 1), (18, .getfield 34, 3), (21, .getfield 74, 3), (24, .iload_n 1, 1), (25, .aaload, 1), (26, .ifnull 7, 3), (29, .iconst 1, 1), (30, .goto 4, 3), (33, .iconst 0, 1), (34, .invokestatic 78, 3), (37, .aload_n 0, 1), (38, .getfield 34, 3), (41, .getfield 74, 3), (44, .iload_n 1, 1), (45, .aaload, 1), (46, .areturn, 1)]
theorem D_Box_fileAt : ∀ q ∈ dl_Box_fileAt, decode b_Box_fileAt q.1 = .ok q.2 := by decide +kernel
def y_Box_append : MethodName := ⟨"BubbleBox", "append", "(II)I"⟩
abbrev b_Box_append : ByteArray := prog_1_method_18_code
def dl_Box_append : List (Nat × Instr × Nat) := [(0, .aload_n 0, 1), (1, .iload_n 1, 1), (2, .invokevirtual 152, 3), (5, .astore_n 3, 1), (6, .aload_n 3, 1), (7, .getfield 159, 3), (10, .astore 4, 2), (12, .aload_n 3, 1), (13, .getfield 156, 3), (16, .bipush 8, 2), (18, .idiv, 1), (19, .istore 5, 2), (21, .aload_n 3, 1), (22, .getfield 156, 3), (25, .bipush 8, 2), (27, .irem, 1), (28, .ifCond .ne 7, 3), (31, .iconst 1, 1), (32, .goto 4, 3), (35, .iconst 0, 1), (36, .istore 6, 2), (38, .iload 6, 2), (40, .ifCond .eq 7, 3), (43, .iconst (-1), 1), (44, .goto 13, 3), (47, .aload_n 0, 1), (48, .getfield 34, 3), (51, .aload_n 3, 1), (52, .iload 5, 2), (54, .invokevirtual 163, 3), (57, .istore 7, 2), (59, .iload 6, 2), (61, .ifCond .ne 16, 3), (64, .aload_n 0, 1), (65, .getfield 34, 3), (68, .getfield 167, 3), (71, .iload 7, 2), (73, .baload, 1), (74, .ifCond .eq 7, 3), (77, .iconst 1, 1), (78, .goto 4, 3), (81, .iconst 0, 1), (82, .istore 8, 2), (84, .iload 8, 2), (86, .ifCond .eq 13, 3), (89, .aload_n 0, 1), (90, .getfield 34, 3), (93, .invokevirtual 171, 3), (96, .goto 4, 3), (99, .iconst (-1), 1), (100, .istore 9, 2), (102, .iload 8, 2), (104, .ifCond .eq 16, 3), (107, .iload 9, 2), (109, .ifCond .ge 11, 3), (112, .new 148, 3), (115, .dup, 1), (116, .invokespecial 150, 3), (119, .athrow, 1), (120, .iload 6, 2), (122, .ifCond .eq 21, 3), (125, .aload 4, 2), (127, .aload_n 0, 1), (128, .getfield 27, 3), (131, .invokevirtual 174, 3), (134, .aload 4, 2), (136, .lconst 0, 1), (137, .putfield 180, 3), (140, .goto 14, 3), (143, .aload 4, 2), (145, .aload_n 0, 1), (146, .getfield 27, 3), (149, .iload 7, 2), (151, .invokevirtual 183, 3), (154, .iload 8, 2), (156, .ifCond .eq 22, 3), (159, .aload_n 0, 1), (160, .getfield 34, 3), (163, .aload_n 3, 1), (164, .iload 5, 2), (166, .iload 9, 2), (168, .invokevirtual 186, 3), (171, .aload 4, 2), (173, .iload 9, 2), (175, .putfield 190, 3), (178, .aload 4, 2), (180, .aload_n 3, 1), (181, .getfield 156, 3), (184, .bipush 8, 2), (186, .irem, 1), (187, .iload_n 2, 1), (188, .invokevirtual 193, 3), (191, .aload_n 3, 1), (192, .dup, 1), (193, .getfield 156, 3), (196, .iconst 1, 1), (197, .iadd, 1), (198, .putfield 156, 3), (201, .aload_n 3, 1), (202, .getfield 156, 3), (205, .ireturn, 1)]
theorem D_Box_append : ∀ q ∈ dl_Box_append, decode b_Box_append q.1 = .ok q.2 := by decide +kernel
def y_Dir_free : MethodName := ⟨"BubbleBox$Directory", "free", "()I"⟩
abbrev b_Dir_free : ByteArray := prog_4_method_4_code
def dl_Dir_free : List (Nat × Instr × Nat) := [(0, .bipush 40, 2), (2, .istore_n 1, 1), (3, .iload_n 1, 1), (4, .bipush 101, 2), (6, .if_icmp .ge 17, 3), (9, .aload_n 0, 1), (10, .iload_n 1, 1), (11, .invokevirtual 28, 3), (14, .ifCond .ne 9, 3), (17, .iinc 1 1, 3), (20, .goto (-17), 3), (23, .iload_n 1, 1), (24, .bipush 101, 2), (26, .if_icmp .ge 7, 3), (29, .iload_n 1, 1), (30, .goto 4, 3), (33, .iconst (-1), 1), (34, .ireturn, 1)]
theorem D_Dir_free : ∀ q ∈ dl_Dir_free, decode b_Dir_free q.1 = .ok q.2 := by decide +kernel
def y_Dir_isFree : MethodName := ⟨"BubbleBox$Directory", "isFree", "(I)Z"⟩
abbrev b_Dir_isFree : ByteArray := prog_4_method_3_code
def dl_Dir_isFree : List (Nat × Instr × Nat) := [(0, .iload_n 1, 1), (1, .bipush 40, 2), (3, .if_icmp .lt 25, 3), (6, .aload_n 0, 1), (7, .getfield 21, 3), (10, .iload_n 1, 1), (11, .baload, 1), (12, .ifCond .ne 16, 3), (15, .aload_n 0, 1), (16, .getfield 25, 3), (19, .iload_n 1, 1), (20, .baload, 1), (21, .ifCond .ne 7, 3), (24, .iconst 1, 1), (25, .goto 4, 3), (28, .iconst 0, 1), (29, .ireturn, 1)]
theorem D_Dir_isFree : ∀ q ∈ dl_Dir_isFree, decode b_Dir_isFree q.1 = .ok q.2 := by decide +kernel
def y_Win_load : MethodName := ⟨"BubbleBox$Window", "load", "(LBubbleBox$Controller;I)V"⟩
abbrev b_Win_load : ByteArray := prog_10_method_3_code
def dl_Win_load : List (Nat × Instr × Nat) := [(0, .aload_n 0, 1), (1, .getfield 9, 3), (4, .iload_n 2, 1), (5, .if_icmp .ne 4, 3), (8, .return_, 1), (9, .aload_n 0, 1), (10, .aload_n 1, 1), (11, .invokevirtual 29, 3), (14, .aload_n 0, 1), (15, .aload_n 1, 1), (16, .iload_n 2, 1), (17, .invokevirtual 33, 3), (20, .putfield 19, 3), (23, .aload_n 0, 1), (24, .iload_n 2, 1), (25, .putfield 9, 3), (28, .return_, 1)]
theorem D_Win_load : ∀ q ∈ dl_Win_load, decode b_Win_load q.1 = .ok q.2 := by decide +kernel
def y_Dir_put : MethodName := ⟨"BubbleBox$Directory", "put", "(LBubbleBox$StoredFile;II)V"⟩
abbrev b_Dir_put : ByteArray := prog_4_method_6_code
def dl_Dir_put : List (Nat × Instr × Nat) := [(0, .iload_n 2, 1), (1, .aload_n 1, 1), (2, .invokevirtual 36, 3), (5, .if_icmp .ge 12, 3), (8, .aload_n 0, 1), (9, .aload_n 1, 1), (10, .iload_n 2, 1), (11, .invokevirtual 40, 3), (14, .goto 4, 3), (17, .iconst 0, 1), (18, .istore 4, 2), (20, .iload 4, 2), (22, .ifCond .le 32, 3), (25, .aload_n 0, 1), (26, .getfield 17, 3), (29, .iload_n 3, 1), (30, .aload_n 0, 1), (31, .getfield 17, 3), (34, .iload 4, 2), (36, .iaload, 1), (37, .iastore, 1), (38, .aload_n 0, 1), (39, .getfield 17, 3), (42, .iload 4, 2), (44, .iconst 0, 1), (45, .iastore, 1), (46, .aload_n 0, 1), (47, .getfield 21, 3), (50, .iload 4, 2), (52, .iconst 0, 1), (53, .bastore, 1), (54, .aload_n 0, 1), (55, .getfield 21, 3), (58, .iload_n 3, 1), (59, .iconst 1, 1), (60, .bastore, 1), (61, .iload_n 2, 1), (62, .ifCond .ne 11, 3), (65, .aload_n 1, 1), (66, .iload_n 3, 1), (67, .putfield 32, 3), (70, .goto 17, 3), (73, .aload_n 0, 1), (74, .getfield 17, 3), (77, .aload_n 0, 1), (78, .aload_n 1, 1), (79, .iload_n 2, 1), (80, .iconst 1, 1), (81, .isub, 1), (82, .invokevirtual 40, 3), (85, .iload_n 3, 1), (86, .iastore, 1), (87, .return_, 1)]
theorem D_Dir_put : ∀ q ∈ dl_Dir_put, decode b_Dir_put q.1 = .ok q.2 := by decide +kernel
def y_Win_put : MethodName := ⟨"BubbleBox$Window", "put", "(II)V"⟩
abbrev b_Win_put : ByteArray := prog_10_method_5_code
def dl_Win_put : List (Nat × Instr × Nat) := [(0, .aload_n 0, 1), (1, .aload_n 0, 1), (2, .getfield 19, 3), (5, .ldc2_w 37, 3), (8, .bipush 8, 2), (10, .iload_n 1, 1), (11, .imul, 1), (12, .lshl, 1), (13, .ldc2_w 39, 3), (16, .lxor, 1), (17, .land, 1), (18, .iload_n 2, 1), (19, .i2l, 1), (20, .ldc2_w 37, 3), (23, .land, 1), (24, .bipush 8, 2), (26, .iload_n 1, 1), (27, .imul, 1), (28, .lshl, 1), (29, .lor, 1), (30, .putfield 19, 3), (33, .aload_n 0, 1), (34, .iconst 1, 1), (35, .putfield 15, 3), (38, .return_, 1)]
theorem D_Win_put : ∀ q ∈ dl_Win_put, decode b_Win_put q.1 = .ok q.2 := by decide +kernel
def y_Box_byteAt : MethodName := ⟨"BubbleBox", "byteAt", "(II)I"⟩
abbrev b_Box_byteAt : ByteArray := prog_1_method_19_code
def dl_Box_byteAt : List (Nat × Instr × Nat) := [(0, .aload_n 0, 1), (1, .iload_n 1, 1), (2, .invokevirtual 152, 3), (5, .astore_n 3, 1), (6, .iload_n 2, 1), (7, .iconst 0, 1), (8, .aload_n 3, 1), (9, .getfield 156, 3), (12, .iconst 1, 1), (13, .isub, 1), (14, .invokestatic 70, 3), (17, .ifCond .ne 11, 3), (20, .new 196, 3), (23, .dup, 1), (24, .invokespecial 198, 3), (27, .athrow, 1), (28, .aload_n 3, 1), (29, .getfield 159, 3), (32, .aload_n 0, 1), (33, .getfield 27, 3), (36, .aload_n 0, 1), (37, .getfield 34, 3), (40, .aload_n 3, 1), (41, .iload_n 2, 1), (42, .bipush 8, 2), (44, .idiv, 1), (45, .invokevirtual 163, 3), (48, .invokevirtual 183, 3), (51, .aload_n 3, 1), (52, .getfield 159, 3), (55, .getfield 180, 3), (58, .bipush 8, 2), (60, .iload_n 2, 1), (61, .bipush 8, 2), (63, .irem, 1), (64, .imul, 1), (65, .lushr, 1), (66, .l2i, 1), (67, .sipush 255, 3), (70, .iand, 1), (71, .ireturn, 1)]
theorem D_Box_byteAt : ∀ q ∈ dl_Box_byteAt, decode b_Box_byteAt q.1 = .ok q.2 := by decide +kernel
def y_Box_truncate : MethodName := ⟨"BubbleBox", "truncate", "(II)I"⟩
abbrev b_Box_truncate : ByteArray := prog_1_method_20_code
def dl_Box_truncate : List (Nat × Instr × Nat) := [(0, .aload_n 0, 1), (1, .iload_n 1, 1), (2, .invokevirtual 152, 3), (5, .astore_n 3, 1), (6, .iload_n 2, 1), (7, .iconst 0, 1), (8, .aload_n 3, 1), (9, .getfield 156, 3), (12, .invokestatic 70, 3), (15, .invokestatic 78, 3), (18, .aload_n 0, 1), (19, .getfield 34, 3), (22, .aload_n 3, 1), (23, .iload_n 2, 1), (24, .bipush 8, 2), (26, .iadd, 1), (27, .iconst 1, 1), (28, .isub, 1), (29, .bipush 8, 2), (31, .idiv, 1), (32, .invokevirtual 199, 3), (35, .istore 4, 2), (37, .aload_n 3, 1), (38, .iload_n 2, 1), (39, .putfield 156, 3), (42, .iload 4, 2), (44, .ireturn, 1)]
theorem D_Box_truncate : ∀ q ∈ dl_Box_truncate, decode b_Box_truncate q.1 = .ok q.2 := by decide +kernel
def y_Dir_cut : MethodName := ⟨"BubbleBox$Directory", "cut", "(LBubbleBox$StoredFile;I)I"⟩
abbrev b_Dir_cut : ByteArray := prog_4_method_7_code
def dl_Dir_cut : List (Nat × Instr × Nat) := [(0, .aload_n 1, 1), (1, .invokevirtual 36, 3), (4, .istore_n 3, 1), (5, .iload_n 2, 1), (6, .iload_n 3, 1), (7, .if_icmp .ge 12, 3), (10, .aload_n 0, 1), (11, .aload_n 1, 1), (12, .iload_n 2, 1), (13, .invokevirtual 40, 3), (16, .goto 4, 3), (19, .iconst 0, 1), (20, .istore 4, 2), (22, .iload_n 2, 1), (23, .ifCond .le 22, 3), (26, .iload_n 2, 1), (27, .iload_n 3, 1), (28, .if_icmp .ge 17, 3), (31, .aload_n 0, 1), (32, .getfield 17, 3), (35, .aload_n 0, 1), (36, .aload_n 1, 1), (37, .iload_n 2, 1), (38, .iconst 1, 1), (39, .isub, 1), (40, .invokevirtual 40, 3), (43, .iconst 0, 1), (44, .iastore, 1), (45, .iload_n 2, 1), (46, .ifCond .ne 8, 3), (49, .aload_n 1, 1), (50, .iconst 0, 1), (51, .putfield 32, 3), (54, .iload_n 2, 1), (55, .istore 5, 2), (57, .iload 5, 2), (59, .iload_n 3, 1), (60, .if_icmp .ge 57, 3), (63, .aload_n 0, 1), (64, .getfield 17, 3), (67, .iload 4, 2), (69, .iaload, 1), (70, .istore 6, 2), (72, .aload_n 1, 1), (73, .getfield 44, 3), (76, .getfield 48, 3), (79, .iload 4, 2), (81, .if_icmp .ne 10, 3), (84, .aload_n 1, 1), (85, .getfield 44, 3), (88, .invokevirtual 53, 3), (91, .aload_n 0, 1), (92, .getfield 17, 3), (95, .iload 4, 2), (97, .iconst 0, 1), (98, .iastore, 1), (99, .aload_n 0, 1), (100, .getfield 21, 3), (103, .iload 4, 2), (105, .iconst 0, 1), (106, .bastore, 1), (107, .iload 6, 2), (109, .istore 4, 2), (111, .iinc 5 1, 3), (114, .goto (-57), 3), (117, .iconst 0, 1), (118, .iload_n 3, 1), (119, .iload_n 2, 1), (120, .isub, 1), (121, .invokestatic 56, 3), (124, .ireturn, 1)]
theorem D_Dir_cut : ∀ q ∈ dl_Dir_cut, decode b_Dir_cut q.1 = .ok q.2 := by decide +kernel
def y_Win_empty : MethodName := ⟨"BubbleBox$Window", "empty", "()V"⟩
abbrev b_Win_empty : ByteArray := prog_10_method_4_code
def dl_Win_empty : List (Nat × Instr × Nat) := [(0, .aload_n 0, 1), (1, .iconst (-1), 1), (2, .putfield 9, 3), (5, .aload_n 0, 1), (6, .iconst 0, 1), (7, .putfield 15, 3), (10, .return_, 1)]
theorem D_Win_empty : ∀ q ∈ dl_Win_empty, decode b_Win_empty q.1 = .ok q.2 := by decide +kernel
def y_Math_max : MethodName := ⟨"java/lang/Math", "max", "(II)I"⟩
abbrev b_Math_max : ByteArray := prog_20_method_65_code
def dl_Math_max : List (Nat × Instr × Nat) := [(0, .iload_n 0, 1), (1, .iload_n 1, 1), (2, .if_icmp .lt 7, 3), (5, .iload_n 0, 1), (6, .goto 4, 3), (9, .iload_n 1, 1), (10, .ireturn, 1)]
theorem D_Math_max : ∀ q ∈ dl_Math_max, decode b_Math_max q.1 = .ok q.2 := by decide +kernel
def y_Box_remove : MethodName := ⟨"BubbleBox", "remove", "(I)I"⟩
abbrev b_Box_remove : ByteArray := prog_1_method_21_code
def dl_Box_remove : List (Nat × Instr × Nat) := [(0, .aload_n 0, 1), (1, .getfield 34, 3), (4, .aload_n 0, 1), (5, .iload_n 1, 1), (6, .invokevirtual 152, 3), (9, .iconst 0, 1), (10, .invokevirtual 199, 3), (13, .istore_n 2, 1), (14, .aload_n 0, 1), (15, .getfield 34, 3), (18, .getfield 74, 3), (21, .iload_n 1, 1), (22, .aconst_null, 1), (23, .aastore, 1), (24, .iload_n 2, 1), (25, .ireturn, 1)]
theorem D_Box_remove : ∀ q ∈ dl_Box_remove, decode b_Box_remove q.1 = .ok q.2 := by decide +kernel
def y_Box_free : MethodName := ⟨"BubbleBox", "free", "()I"⟩
abbrev b_Box_free : ByteArray := prog_1_method_23_code
def dl_Box_free : List (Nat × Instr × Nat) := [(0, .aload_n 0, 1), (1, .invokevirtual 62, 3), (4, .invokestatic 66, 3), (7, .iconst 0, 1), (8, .istore_n 1, 1), (9, .iconst 0, 1), (10, .istore_n 2, 1), (11, .iload_n 2, 1), (12, .bipush 101, 2), (14, .if_icmp .ge 28, 3), (17, .iload_n 1, 1), (18, .aload_n 0, 1), (19, .getfield 34, 3), (22, .iload_n 2, 1), (23, .invokevirtual 212, 3), (26, .ifCond .eq 7, 3), (29, .iconst 1, 1), (30, .goto 4, 3), (33, .iconst 0, 1), (34, .iadd, 1), (35, .istore_n 1, 1), (36, .iinc 2 1, 3), (39, .goto (-28), 3), (42, .iload_n 1, 1), (43, .ireturn, 1)]
theorem D_Box_free : ∀ q ∈ dl_Box_free, decode b_Box_free q.1 = .ok q.2 := by decide +kernel
def y_Box_pageOf : MethodName := ⟨"BubbleBox", "pageOf", "(II)I"⟩
abbrev b_Box_pageOf : ByteArray := prog_1_method_24_code
def dl_Box_pageOf : List (Nat × Instr × Nat) := [(0, .aload_n 0, 1), (1, .iload_n 1, 1), (2, .invokevirtual 152, 3), (5, .astore_n 3, 1), (6, .iload_n 2, 1), (7, .iconst 0, 1), (8, .aload_n 3, 1), (9, .invokevirtual 216, 3), (12, .iconst 1, 1), (13, .isub, 1), (14, .invokestatic 70, 3), (17, .ifCond .eq 15, 3), (20, .aload_n 0, 1), (21, .getfield 34, 3), (24, .aload_n 3, 1), (25, .iload_n 2, 1), (26, .invokevirtual 163, 3), (29, .goto 4, 3), (32, .iconst (-1), 1), (33, .ireturn, 1)]
theorem D_Box_pageOf : ∀ q ∈ dl_Box_pageOf, decode b_Box_pageOf q.1 = .ok q.2 := by decide +kernel
def y_Box_queue : MethodName := ⟨"BubbleBox", "queue", "(IZJ)I"⟩
abbrev b_Box_queue : ByteArray := prog_1_method_25_code
def dl_Box_queue : List (Nat × Instr × Nat) := [(0, .aload_n 0, 1), (1, .invokevirtual 62, 3), (4, .invokestatic 66, 3), (7, .iload_n 1, 1), (8, .iconst 0, 1), (9, .bipush 100, 2), (11, .invokestatic 70, 3), (14, .invokestatic 78, 3), (17, .aload_n 0, 1), (18, .getfield 48, 3), (21, .invokevirtual 219, 3), (24, .bipush 16, 2), (26, .if_icmp .ne 11, 3), (29, .new 148, 3), (32, .dup, 1), (33, .invokespecial 150, 3), (36, .athrow, 1), (37, .aload_n 0, 1), (38, .getfield 48, 3), (41, .new 222, 3), (44, .dup, 1), (45, .iload_n 1, 1), (46, .iload_n 2, 1), (47, .lload_n 3, 1), (48, .invokespecial 224, 3), (51, .invokevirtual 227, 3), (54, .pop, 1), (55, .aload_n 0, 1), (56, .getfield 48, 3), (59, .invokevirtual 219, 3), (62, .iconst 1, 1), (63, .isub, 1), (64, .ireturn, 1)]
theorem D_Box_queue : ∀ q ∈ dl_Box_queue, decode b_Box_queue q.1 = .ok q.2 := by decide +kernel
def y_AL_size : MethodName := ⟨"java/util/ArrayList", "size", "()I"⟩
abbrev b_AL_size : ByteArray := prog_27_method_8_code
def dl_AL_size : List (Nat × Instr × Nat) := [(0, .aload_n 0, 1), (1, .getfield 48, 3), (4, .ireturn, 1)]
theorem D_AL_size : ∀ q ∈ dl_AL_size, decode b_AL_size q.1 = .ok q.2 := by decide +kernel
def y_Req_init : MethodName := ⟨"BubbleBox$Request", "<init>", "(IZJ)V"⟩
abbrev b_Req_init : ByteArray := prog_7_method_1_code
def dl_Req_init : List (Nat × Instr × Nat) := [(0, .aload_n 0, 1), (1, .invokespecial 1, 3), (4, .aload_n 0, 1), (5, .iload_n 1, 1), (6, .putfield 7, 3), (9, .aload_n 0, 1), (10, .iload_n 2, 1), (11, .putfield 13, 3), (14, .aload_n 0, 1), (15, .lload_n 3, 1), (16, .putfield 17, 3), (19, .return_, 1)]
theorem D_Req_init : ∀ q ∈ dl_Req_init, decode b_Req_init q.1 = .ok q.2 := by decide +kernel
def y_AL_add_1 : MethodName := ⟨"java/util/ArrayList", "add", "(Ljava/lang/Object;)Z"⟩
abbrev b_AL_add_1 : ByteArray := prog_27_method_25_code
def dl_AL_add_1 : List (Nat × Instr × Nat) := [(0, .aload_n 0, 1), (1, .dup, 1), (2, .getfield 63, 3), (5, .iconst 1, 1), (6, .iadd, 1), (7, .putfield 63, 3), (10, .aload_n 0, 1), (11, .aload_n 1, 1), (12, .aload_n 0, 1), (13, .getfield 9, 3), (16, .aload_n 0, 1), (17, .getfield 48, 3), (20, .invokevirtual 131, 3), (23, .iconst 1, 1), (24, .ireturn, 1)]
theorem D_AL_add_1 : ∀ q ∈ dl_AL_add_1, decode b_AL_add_1 q.1 = .ok q.2 := by decide +kernel
def y_AL_add_3 : MethodName := ⟨"java/util/ArrayList", "add", "(Ljava/lang/Object;[Ljava/lang/Object;I)V"⟩
abbrev b_AL_add_3 : ByteArray := prog_27_method_24_code
def dl_AL_add_3 : List (Nat × Instr × Nat) := [(0, .iload_n 3, 1), (1, .aload_n 2, 1), (2, .arraylength, 1), (3, .if_icmp .ne 8, 3), (6, .aload_n 0, 1), (7, .invokevirtual 129, 3), (10, .astore_n 2, 1), (11, .aload_n 2, 1), (12, .iload_n 3, 1), (13, .aload_n 1, 1), (14, .aastore, 1), (15, .aload_n 0, 1), (16, .iload_n 3, 1), (17, .iconst 1, 1), (18, .iadd, 1), (19, .putfield 48, 3), (22, .return_, 1)]
theorem D_AL_add_3 : ∀ q ∈ dl_AL_add_3, decode b_AL_add_3 q.1 = .ok q.2 := by decide +kernel
def y_AL_grow_0 : MethodName := ⟨"java/util/ArrayList", "grow", "()[Ljava/lang/Object;"⟩
abbrev b_AL_grow_0 : ByteArray := prog_27_method_7_code
def dl_AL_grow_0 : List (Nat × Instr × Nat) := [(0, .aload_n 0, 1), (1, .aload_n 0, 1), (2, .getfield 48, 3), (5, .iconst 1, 1), (6, .iadd, 1), (7, .invokevirtual 69, 3), (10, .areturn, 1)]
theorem D_AL_grow_0 : ∀ q ∈ dl_AL_grow_0, decode b_AL_grow_0 q.1 = .ok q.2 := by decide +kernel
def y_AL_grow_1 : MethodName := ⟨"java/util/ArrayList", "grow", "(I)[Ljava/lang/Object;"⟩
abbrev b_AL_grow_1 : ByteArray := prog_27_method_6_code
def dl_AL_grow_1 : List (Nat × Instr × Nat) := [(0, .aload_n 0, 1), (1, .getfield 9, 3), (4, .arraylength, 1), (5, .istore_n 2, 1), (6, .iload_n 2, 1), (7, .ifCond .gt 13, 3), (10, .aload_n 0, 1), (11, .getfield 9, 3), (14, .getstatic 39, 3), (17, .if_acmp .eq 28, 3), (20, .iload_n 2, 1), (21, .iload_n 1, 1), (22, .iload_n 2, 1), (23, .isub, 1), (24, .iload_n 2, 1), (25, .iconst 1, 1), (26, .ishr, 1), (27, .invokestatic 73, 3), (30, .istore_n 3, 1), (31, .aload_n 0, 1), (32, .aload_n 0, 1), (33, .getfield 9, 3), (36, .iload_n 3, 1), (37, .invokestatic 66, 3), (40, .dup_x1, 1), (41, .putfield 9, 3), (44, .areturn, 1), (45, .aload_n 0, 1), (46, .bipush 10, 2), (48, .iload_n 1, 1), (49, .invokestatic 79, 3), (52, .anewarray 7, 3), (55, .dup_x1, 1), (56, .putfield 9, 3), (59, .areturn, 1)]
theorem D_AL_grow_1 : ∀ q ∈ dl_AL_grow_1, decode b_AL_grow_1 q.1 = .ok q.2 := by decide +kernel
def y_ASup_newLength : MethodName := ⟨"jdk/internal/util/ArraysSupport", "newLength", "(III)I"⟩
abbrev b_ASup_newLength : ByteArray := prog_34_method_27_code
def dl_ASup_newLength : List (Nat × Instr × Nat) := [(0, .iload_n 0, 1), (1, .iload_n 1, 1), (2, .iload_n 2, 1), (3, .invokestatic 194, 3), (6, .iadd, 1), (7, .istore_n 3, 1), (8, .iconst 0, 1), (9, .iload_n 3, 1), (10, .if_icmp .ge 11, 3), (13, .iload_n 3, 1), (14, .ldc 200, 2), (16, .if_icmp .gt 5, 3), (19, .iload_n 3, 1), (20, .ireturn, 1), (21, .iload_n 0, 1), (22, .iload_n 1, 1), (23, .invokestatic 201, 3), (26, .ireturn, 1)]
theorem D_ASup_newLength : ∀ q ∈ dl_ASup_newLength, decode b_ASup_newLength q.1 = .ok q.2 := by decide +kernel
def y_ASup_hugeLength : MethodName := ⟨"jdk/internal/util/ArraysSupport", "hugeLength", "(II)I"⟩
abbrev b_ASup_hugeLength : ByteArray := prog_34_method_28_code
def dl_ASup_hugeLength : List (Nat × Instr × Nat) := [(0, .iload_n 0, 1), (1, .iload_n 1, 1), (2, .iadd, 1), (3, .istore_n 2, 1), (4, .iload_n 2, 1), (5, .ifCond .ge 44, 3), (8, .new 204, 3), (11, .dup, 1), (12, .new 89, 3), (15, .dup, 1), (16, .invokespecial 91, 3), (19, .ldc 206, 2), (21, .invokevirtual 94, 3), (24, .iload_n 0, 1), (25, .invokevirtual 98, 3), (28, .ldc 208, 2), (30, .invokevirtual 94, 3), (33, .iload_n 1, 1), (34, .invokevirtual 98, 3), (37, .ldc 210, 2), (39, .invokevirtual 94, 3), (42, .invokevirtual 101, 3), (45, .invokespecial 212, 3), (48, .athrow, 1), (49, .iload_n 2, 1), (50, .ldc 200, 2), (52, .if_icmp .gt 6, 3), (55, .ldc 200, 2), (57, .ireturn, 1), (58, .iload_n 2, 1), (59, .ireturn, 1)]
theorem D_ASup_hugeLength : ∀ q ∈ dl_ASup_hugeLength, decode b_ASup_hugeLength q.1 = .ok q.2 := by decide +kernel
def y_Arrays_copyOf_2 : MethodName := ⟨"java/util/Arrays", "copyOf", "([Ljava/lang/Object;I)[Ljava/lang/Object;"⟩
abbrev b_Arrays_copyOf_2 : ByteArray := prog_28_method_119_code
def dl_Arrays_copyOf_2 : List (Nat × Instr × Nat) := [(0, .aload_n 0, 1), (1, .iload_n 1, 1), (2, .aload_n 0, 1), (3, .invokevirtual 86, 3), (6, .invokestatic 300, 3), (9, .areturn, 1)]
theorem D_Arrays_copyOf_2 : ∀ q ∈ dl_Arrays_copyOf_2, decode b_Arrays_copyOf_2 q.1 = .ok q.2 := by decide +kernel
def y_Arrays_copyOf_3 : MethodName := ⟨"java/util/Arrays", "copyOf", "([Ljava/lang/Object;ILjava/lang/Class;)[Ljava/lang/Object;"⟩
abbrev b_Arrays_copyOf_3 : ByteArray := prog_28_method_120_code
def dl_Arrays_copyOf_3 : List (Nat × Instr × Nat) := [(0, .aload_n 2, 1), (1, .ldc 110, 2), (3, .if_acmp .ne 10, 3), (6, .iload_n 1, 1), (7, .anewarray 2, 3), (10, .goto 14, 3), (13, .aload_n 2, 1), (14, .invokevirtual 90, 3), (17, .iload_n 1, 1), (18, .invokestatic 95, 3), (21, .checkcast 110, 3), (24, .astore_n 3, 1), (25, .aload_n 0, 1), (26, .iconst 0, 1), (27, .aload_n 3, 1), (28, .iconst 0, 1), (29, .aload_n 0, 1), (30, .arraylength, 1), (31, .iload_n 1, 1), (32, .invokestatic 304, 3), (35, .invokestatic 150, 3), (38, .aload_n 3, 1), (39, .areturn, 1)]
theorem D_Arrays_copyOf_3 : ∀ q ∈ dl_Arrays_copyOf_3, decode b_Arrays_copyOf_3 q.1 = .ok q.2 := by decide +kernel
def y_Math_min : MethodName := ⟨"java/lang/Math", "min", "(II)I"⟩
abbrev b_Math_min : ByteArray := prog_20_method_69_code
def dl_Math_min : List (Nat × Instr × Nat) := [(0, .iload_n 0, 1), (1, .iload_n 1, 1), (2, .if_icmp .gt 7, 3), (5, .iload_n 0, 1), (6, .goto 4, 3), (9, .iload_n 1, 1), (10, .ireturn, 1)]
theorem D_Math_min : ∀ q ∈ dl_Math_min, decode b_Math_min q.1 = .ok q.2 := by decide +kernel
def y_Box_serve : MethodName := ⟨"BubbleBox", "serve", "()I"⟩
abbrev b_Box_serve : ByteArray := prog_1_method_27_code
def dl_Box_serve : List (Nat × Instr × Nat) := [(0, .aload_n 0, 1), (1, .invokevirtual 62, 3), (4, .invokestatic 66, 3), (7, .aload_n 0, 1), (8, .getfield 18, 3), (11, .getfield 97, 3), (14, .lstore_n 1, 1), (15, .aload_n 0, 1), (16, .invokevirtual 240, 3), (19, .astore_n 3, 1), (20, .aload_n 3, 1), (21, .ifnull 70, 3), (24, .aload_n 3, 1), (25, .getfield 244, 3), (28, .ifCond .ne 21, 3), (31, .aload_n 3, 1), (32, .aload_n 0, 1), (33, .getfield 27, 3), (36, .aload_n 3, 1), (37, .getfield 236, 3), (40, .invokevirtual 247, 3), (43, .putfield 250, 3), (46, .goto 32, 3), (49, .aload_n 0, 1), (50, .getfield 34, 3), (53, .aload_n 3, 1), (54, .getfield 236, 3), (57, .invokevirtual 212, 3), (60, .ifCond .eq 18, 3), (63, .aload_n 0, 1), (64, .getfield 27, 3), (67, .aload_n 3, 1), (68, .getfield 236, 3), (71, .aload_n 3, 1), (72, .getfield 253, 3), (75, .invokevirtual 254, 3), (78, .aload_n 3, 1), (79, .iconst 1, 1), (80, .putfield 234, 3), (83, .aload_n 0, 1), (84, .invokevirtual 240, 3), (87, .astore_n 3, 1), (88, .goto (-68), 3), (91, .aload_n 0, 1), (92, .getfield 52, 3), (95, .invokevirtual 104, 3), (98, .iconst 0, 1), (99, .istore_n 3, 1), (100, .iload_n 3, 1), (101, .aload_n 0, 1), (102, .getfield 48, 3), (105, .invokevirtual 219, 3), (108, .if_icmp .ge 28, 3), (111, .aload_n 0, 1), (112, .getfield 52, 3), (115, .aload_n 0, 1), (116, .getfield 48, 3), (119, .iload_n 3, 1), (120, .invokevirtual 231, 3), (123, .checkcast 222, 3), (126, .invokevirtual 227, 3), (129, .pop, 1), (130, .iinc 3 1, 3), (133, .goto (-33), 3), (136, .aload_n 0, 1), (137, .getfield 48, 3), (140, .invokevirtual 104, 3), (143, .aload_n 0, 1), (144, .getfield 18, 3), (147, .getfield 97, 3), (150, .lload_n 1, 1), (151, .lsub, 1), (152, .l2i, 1), (153, .ireturn, 1)]
theorem D_Box_serve : ∀ q ∈ dl_Box_serve, decode b_Box_serve q.1 = .ok q.2 := by decide +kernel
def y_Box_nearest : MethodName := ⟨"BubbleBox", "nearest", "()LBubbleBox$Request;"⟩
abbrev b_Box_nearest : ByteArray := prog_1_method_26_code
def dl_Box_nearest : List (Nat × Instr × Nat) := [(0, .aconst_null, 1), (1, .astore_n 1, 1), (2, .iconst 0, 1), (3, .istore_n 2, 1), (4, .iload_n 2, 1), (5, .aload_n 0, 1), (6, .getfield 48, 3), (9, .invokevirtual 219, 3), (12, .if_icmp .ge 59, 3), (15, .aload_n 0, 1), (16, .getfield 48, 3), (19, .iload_n 2, 1), (20, .invokevirtual 231, 3), (23, .checkcast 222, 3), (26, .astore_n 3, 1), (27, .aload_n 3, 1), (28, .getfield 234, 3), (31, .ifCond .ne 34, 3), (34, .aload_n 1, 1), (35, .ifnull 28, 3), (38, .aload_n 0, 1), (39, .getfield 18, 3), (42, .aload_n 3, 1), (43, .getfield 236, 3), (46, .invokevirtual 237, 3), (49, .aload_n 0, 1), (50, .getfield 18, 3), (53, .aload_n 1, 1), (54, .getfield 236, 3), (57, .invokevirtual 237, 3), (60, .if_icmp .ge 5, 3), (63, .aload_n 3, 1), (64, .astore_n 1, 1), (65, .iinc 2 1, 3), (68, .goto (-64), 3), (71, .aload_n 1, 1), (72, .areturn, 1)]
theorem D_Box_nearest : ∀ q ∈ dl_Box_nearest, decode b_Box_nearest q.1 = .ok q.2 := by decide +kernel
def y_AL_get : MethodName := ⟨"java/util/ArrayList", "get", "(I)Ljava/lang/Object;"⟩
abbrev b_AL_get : ByteArray := prog_27_method_20_code
def dl_AL_get : List (Nat × Instr × Nat) := [(0, .iload_n 1, 1), (1, .aload_n 0, 1), (2, .getfield 48, 3), (5, .invokestatic 118, 3), (8, .pop, 1), (9, .aload_n 0, 1), (10, .iload_n 1, 1), (11, .invokevirtual 123, 3), (14, .areturn, 1)]
theorem D_AL_get : ∀ q ∈ dl_AL_get, decode b_AL_get q.1 = .ok q.2 := by decide +kernel
def y_Objects_checkIndex : MethodName := ⟨"java/util/Objects", "checkIndex", "(II)I"⟩
abbrev b_Objects_checkIndex : ByteArray := prog_31_method_17_code
def dl_Objects_checkIndex : List (Nat × Instr × Nat) := [(0, .iload_n 0, 1), (1, .iload_n 1, 1), (2, .aconst_null, 1), (3, .invokestatic 105, 3), (6, .ireturn, 1)]
theorem D_Objects_checkIndex : ∀ q ∈ dl_Objects_checkIndex, decode b_Objects_checkIndex q.1 = .ok q.2 := by decide +kernel
def y_Pre_checkIndex : MethodName := ⟨"jdk/internal/util/Preconditions", "checkIndex", "(IILjava/util/function/BiFunction;)I"⟩
abbrev b_Pre_checkIndex : ByteArray := prog_35_method_11_code
def dl_Pre_checkIndex : List (Nat × Instr × Nat) := [(0, .iload_n 0, 1), (1, .ifCond .lt 8, 3), (4, .iload_n 0, 1), (5, .iload_n 1, 1), (6, .if_icmp .lt 10, 3), (9, .aload_n 2, 1), (10, .iload_n 0, 1), (11, .iload_n 1, 1), (12, .invokestatic 95, 3), (15, .athrow, 1), (16, .iload_n 0, 1), (17, .ireturn, 1)]
theorem D_Pre_checkIndex : ∀ q ∈ dl_Pre_checkIndex, decode b_Pre_checkIndex q.1 = .ok q.2 := by decide +kernel
def y_AL_elementData : MethodName := ⟨"java/util/ArrayList", "elementData", "(I)Ljava/lang/Object;"⟩
abbrev b_AL_elementData : ByteArray := prog_27_method_18_code
def dl_AL_elementData : List (Nat × Instr × Nat) := [(0, .aload_n 0, 1), (1, .getfield 9, 3), (4, .iload_n 1, 1), (5, .aaload, 1), (6, .areturn, 1)]
theorem D_AL_elementData : ∀ q ∈ dl_AL_elementData, decode b_AL_elementData q.1 = .ok q.2 := by decide +kernel
def y_Chip_far : MethodName := ⟨"BubbleBox$Chip", "far", "(I)I"⟩
abbrev b_Chip_far : ByteArray := prog_2_method_3_code
def dl_Chip_far : List (Nat × Instr × Nat) := [(0, .iload_n 1, 1), (1, .aload_n 0, 1), (2, .getfield 22, 3), (5, .if_icmp .ge 15, 3), (8, .iload_n 1, 1), (9, .aload_n 0, 1), (10, .getfield 22, 3), (13, .isub, 1), (14, .bipush 101, 2), (16, .iadd, 1), (17, .goto 9, 3), (20, .iload_n 1, 1), (21, .aload_n 0, 1), (22, .getfield 22, 3), (25, .isub, 1), (26, .ireturn, 1)]
theorem D_Chip_far : ∀ q ∈ dl_Chip_far, decode b_Chip_far q.1 = .ok q.2 := by decide +kernel
def y_Box_served : MethodName := ⟨"BubbleBox", "served", "(I)J"⟩
abbrev b_Box_served : ByteArray := prog_1_method_28_code
def dl_Box_served : List (Nat × Instr × Nat) := [(0, .aload_n 0, 1), (1, .invokevirtual 62, 3), (4, .invokestatic 66, 3), (7, .iload_n 1, 1), (8, .iconst 0, 1), (9, .aload_n 0, 1), (10, .getfield 52, 3), (13, .invokevirtual 219, 3), (16, .iconst 1, 1), (17, .isub, 1), (18, .invokestatic 70, 3), (21, .ifCond .ne 11, 3), (24, .new 196, 3), (27, .dup, 1), (28, .invokespecial 198, 3), (31, .athrow, 1), (32, .aload_n 0, 1), (33, .getfield 52, 3), (36, .iload_n 1, 1), (37, .invokevirtual 231, 3), (40, .checkcast 222, 3), (43, .getfield 250, 3), (46, .lreturn, 1)]
theorem D_Box_served : ∀ q ∈ dl_Box_served, decode b_Box_served q.1 = .ok q.2 := by decide +kernel
