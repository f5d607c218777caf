def ltI (σ : Sg) (d b : Nat) : Int32 := if whl σ (720 * d + b) = false then (if whl σ (720 * d + (b + 5)) = true then nI (b + 5) else -1) else if whl σ (720 * d + (b + 5)) = true then (if σ 1 (720 * d + (b + 5)) ≤ σ 1 (720 * d + b) then nI b else nI (b + 5)) else nI b
theorem up2_comm {σ : Sg} {a b i j : Nat} {x y : Int32} (h : a ≠ b) : up2 (up2 σ a i x) b j y = up2 (up2 σ b j y) a i x := by
  funext k
  by_cases h1 : k = a
  · subst h1; rw [u2_n h, u2_a, u2_a, u2_n h]
  · by_cases h2 : k = b
    · subst h2; rw [u2_a, u2_n h1, u2_n h1, u2_a]
    · rw [u2_n h2, u2_n h1, u2_n h1, u2_n h2]
abbrev b_Da_init : ByteArray := prog_1_method_7_code
abbrev y_Da_init : MethodName := ⟨"DiskArbiters", "<init>", "()V"⟩
abbrev b_Dk_init : ByteArray := prog_3_method_1_code
abbrev y_Dk_init : MethodName := ⟨"DiskArbiters$Disk", "<init>", "()V"⟩
abbrev b_Ct_init : ByteArray := prog_2_method_1_code
abbrev y_Ct_init : MethodName := ⟨"DiskArbiters$Controller", "<init>", "(I)V"⟩
abbrev b_Al_init : ByteArray := prog_25_method_2_code
abbrev y_Al_init : MethodName := ⟨"java/util/ArrayList", "<init>", "()V"⟩
abbrev b_Lb_init : ByteArray := prog_5_method_1_code
abbrev y_Lb_init : MethodName := ⟨"DiskArbiters$Library", "<init>", "()V"⟩
abbrev b_Dr_init : ByteArray := prog_4_method_1_code
abbrev y_Dr_init : MethodName := ⟨"DiskArbiters$Drive", "<init>", "()V"⟩
abbrev b_Da_want : ByteArray := prog_1_method_12_code
abbrev y_Da_want : MethodName := ⟨"DiskArbiters", "want", "(IIIII)I"⟩
abbrev b_Da_found : ByteArray := prog_1_method_9_code
abbrev y_Da_found : MethodName := ⟨"DiskArbiters", "found", "(I)LDiskArbiters$Controller;"⟩
abbrev b_Da_index : ByteArray := prog_1_method_8_code
abbrev y_Da_index : MethodName := ⟨"DiskArbiters", "index", "(II)I"⟩
abbrev b_Da_within : ByteArray := prog_1_method_10_code
abbrev y_Da_within : MethodName := ⟨"DiskArbiters", "within", "(II)Z"⟩
abbrev b_Al_size : ByteArray := prog_25_method_8_code
abbrev y_Al_size : MethodName := ⟨"java/util/ArrayList", "size", "()I"⟩
abbrev b_Ct_waitingCount : ByteArray := prog_2_method_4_code
abbrev y_Ct_waitingCount : MethodName := ⟨"DiskArbiters$Controller", "waitingCount", "()I"⟩
abbrev b_Al_iterator : ByteArray := prog_25_method_55_code
abbrev y_Al_iterator : MethodName := ⟨"java/util/ArrayList", "iterator", "()Ljava/util/Iterator;"⟩
abbrev b_It_init : ByteArray := prog_26_method_1_code
abbrev y_It_init : MethodName := ⟨"java/util/ArrayList$Itr", "<init>", "(Ljava/util/ArrayList;)V"⟩
abbrev b_It_hasNext : ByteArray := prog_26_method_2_code
abbrev y_It_hasNext : MethodName := ⟨"java/util/ArrayList$Itr", "hasNext", "()Z"⟩
abbrev b_It_next : ByteArray := prog_26_method_3_code
abbrev y_It_next : MethodName := ⟨"java/util/ArrayList$Itr", "next", "()Ljava/lang/Object;"⟩
abbrev b_It_checkForComodification : ByteArray := prog_26_method_6_code
abbrev y_It_checkForComodification : MethodName := ⟨"java/util/ArrayList$Itr", "checkForComodification", "()V"⟩
abbrev b_Wi_init : ByteArray := prog_6_method_1_code
abbrev y_Wi_init : MethodName := ⟨"DiskArbiters$Wish", "<init>", "(I)V"⟩
abbrev b_Al_add : ByteArray := prog_25_method_25_code
abbrev y_Al_add : MethodName := ⟨"java/util/ArrayList", "add", "(Ljava/lang/Object;)Z"⟩
abbrev b_Al_add2 : ByteArray := prog_25_method_24_code
abbrev y_Al_add2 : MethodName := ⟨"java/util/ArrayList", "add", "(Ljava/lang/Object;[Ljava/lang/Object;I)V"⟩
abbrev b_Al_grow : ByteArray := prog_25_method_7_code
abbrev y_Al_grow : MethodName := ⟨"java/util/ArrayList", "grow", "()[Ljava/lang/Object;"⟩
abbrev b_Al_grow2 : ByteArray := prog_25_method_6_code
abbrev y_Al_grow2 : MethodName := ⟨"java/util/ArrayList", "grow", "(I)[Ljava/lang/Object;"⟩
abbrev b_As_newLength : ByteArray := prog_35_method_27_code
abbrev y_As_newLength : MethodName := ⟨"jdk/internal/util/ArraysSupport", "newLength", "(III)I"⟩
abbrev b_Ma_max : ByteArray := prog_17_method_65_code
abbrev y_Ma_max : MethodName := ⟨"java/lang/Math", "max", "(II)I"⟩
abbrev b_As_hugeLength : ByteArray := prog_35_method_28_code
abbrev y_As_hugeLength : MethodName := ⟨"jdk/internal/util/ArraysSupport", "hugeLength", "(II)I"⟩
abbrev b_Ar_copyOf : ByteArray := prog_27_method_119_code
abbrev y_Ar_copyOf : MethodName := ⟨"java/util/Arrays", "copyOf", "([Ljava/lang/Object;I)[Ljava/lang/Object;"⟩
abbrev b_Ar_copyOf2 : ByteArray := prog_27_method_120_code
abbrev y_Ar_copyOf2 : MethodName := ⟨"java/util/Arrays", "copyOf", "([Ljava/lang/Object;ILjava/lang/Class;)[Ljava/lang/Object;"⟩
abbrev b_Ma_min : ByteArray := prog_17_method_69_code
abbrev y_Ma_min : MethodName := ⟨"java/lang/Math", "min", "(II)I"⟩
abbrev b_Da_step : ByteArray := prog_1_method_13_code
abbrev y_Da_step : MethodName := ⟨"DiskArbiters", "step", "(I)I"⟩
abbrev b_Da_needUp : ByteArray := prog_1_method_11_code
abbrev y_Da_needUp : MethodName := ⟨"DiskArbiters", "needUp", "(LDiskArbiters$Controller;)V"⟩
abbrev b_Ct_go : ByteArray := prog_2_method_13_code
abbrev y_Ct_go : MethodName := ⟨"DiskArbiters$Controller", "go", "([LDiskArbiters$Disk;)I"⟩
abbrev b_Ct_idle : ByteArray := prog_2_method_6_code
abbrev y_Ct_idle : MethodName := ⟨"DiskArbiters$Controller", "idle", "()I"⟩
abbrev b_Ct_waiting : ByteArray := prog_2_method_3_code
abbrev y_Ct_waiting : MethodName := ⟨"DiskArbiters$Controller", "waiting", "()LDiskArbiters$Wish;"⟩
abbrev b_Lb_allows : ByteArray := prog_5_method_2_code
abbrev y_Lb_allows : MethodName := ⟨"DiskArbiters$Library", "allows", "(I)Z"⟩
abbrev b_Da_drive : ByteArray := prog_1_method_3_code
abbrev y_Da_drive : MethodName := ⟨"DiskArbiters", "drive", "(I)I"⟩
abbrev b_Da_cartridge : ByteArray := prog_1_method_2_code
abbrev y_Da_cartridge : MethodName := ⟨"DiskArbiters", "cartridge", "(I)I"⟩
abbrev b_Da_kind : ByteArray := prog_1_method_1_code
abbrev y_Da_kind : MethodName := ⟨"DiskArbiters", "kind", "(I)I"⟩
abbrev b_Da_client : ByteArray := prog_1_method_4_code
abbrev y_Da_client : MethodName := ⟨"DiskArbiters", "client", "(I)I"⟩
abbrev b_Dr_serves : ByteArray := prog_4_method_2_code
abbrev y_Dr_serves : MethodName := ⟨"DiskArbiters$Drive", "serves", "(I)Z"⟩
abbrev b_Ct_begin : ByteArray := prog_2_method_5_code
abbrev y_Ct_begin : MethodName := ⟨"DiskArbiters$Controller", "begin", "(I)V"⟩
abbrev b_Ct_nextDisk : ByteArray := prog_2_method_7_code
abbrev y_Ct_nextDisk : MethodName := ⟨"DiskArbiters$Controller", "nextDisk", "()V"⟩
abbrev b_Ct_write : ByteArray := prog_2_method_8_code
abbrev y_Ct_write : MethodName := ⟨"DiskArbiters$Controller", "write", "(LDiskArbiters$Disk;I)V"⟩
abbrev b_Dk_block : ByteArray := prog_3_method_2_code
abbrev y_Dk_block : MethodName := ⟨"DiskArbiters$Disk", "block", "(II)I"⟩
abbrev b_Dk_write : ByteArray := prog_3_method_5_code
abbrev y_Dk_write : MethodName := ⟨"DiskArbiters$Disk", "write", "(IIIII)V"⟩
abbrev b_Dk_latest : ByteArray := prog_3_method_4_code
abbrev y_Dk_latest : MethodName := ⟨"DiskArbiters$Disk", "latest", "(I)I"⟩
abbrev b_Dk_isWhole : ByteArray := prog_3_method_3_code
abbrev y_Dk_isWhole : MethodName := ⟨"DiskArbiters$Disk", "isWhole", "(I)Z"⟩
abbrev b_Ct_read : ByteArray := prog_2_method_9_code
abbrev y_Ct_read : MethodName := ⟨"DiskArbiters$Controller", "read", "(LDiskArbiters$Disk;)Z"⟩
abbrev b_Ct_goOn : ByteArray := prog_2_method_11_code
abbrev y_Ct_goOn : MethodName := ⟨"DiskArbiters$Controller", "goOn", "()I"⟩
abbrev b_Ct_decide : ByteArray := prog_2_method_10_code
abbrev y_Ct_decide : MethodName := ⟨"DiskArbiters$Controller", "decide", "()I"⟩
abbrev b_Lb_apply : ByteArray := prog_5_method_3_code
abbrev y_Lb_apply : MethodName := ⟨"DiskArbiters$Library", "apply", "(I)V"⟩
abbrev b_Da_owner : ByteArray := prog_1_method_5_code
abbrev y_Da_owner : MethodName := ⟨"DiskArbiters", "owner", "(I)I"⟩
abbrev b_Da_wish : ByteArray := prog_1_method_6_code
abbrev y_Da_wish : MethodName := ⟨"DiskArbiters", "wish", "(I)I"⟩
abbrev b_Al_get : ByteArray := prog_25_method_20_code
abbrev y_Al_get : MethodName := ⟨"java/util/ArrayList", "get", "(I)Ljava/lang/Object;"⟩
abbrev b_Ob_checkIndex : ByteArray := prog_32_method_17_code
abbrev y_Ob_checkIndex : MethodName := ⟨"java/util/Objects", "checkIndex", "(II)I"⟩
abbrev b_Pr_checkIndex : ByteArray := prog_36_method_11_code
abbrev y_Pr_checkIndex : MethodName := ⟨"jdk/internal/util/Preconditions", "checkIndex", "(IILjava/util/function/BiFunction;)I"⟩
abbrev b_Al_elementData : ByteArray := prog_25_method_18_code
abbrev y_Al_elementData : MethodName := ⟨"java/util/ArrayList", "elementData", "(I)Ljava/lang/Object;"⟩
abbrev b_Da_disk : ByteArray := prog_1_method_14_code
abbrev y_Da_disk : MethodName := ⟨"DiskArbiters", "disk", "(IZ)Z"⟩
abbrev b_Da_tear : ByteArray := prog_1_method_15_code
abbrev y_Da_tear : MethodName := ⟨"DiskArbiters", "tear", "(II)Z"⟩
abbrev b_Ct_writesNext : ByteArray := prog_2_method_12_code
abbrev y_Ct_writesNext : MethodName := ⟨"DiskArbiters$Controller", "writesNext", "([LDiskArbiters$Disk;)Z"⟩
abbrev b_Da_crash : ByteArray := prog_1_method_16_code
abbrev y_Da_crash : MethodName := ⟨"DiskArbiters", "crash", "(I)Z"⟩
abbrev b_Da_restart : ByteArray := prog_1_method_17_code
abbrev y_Da_restart : MethodName := ⟨"DiskArbiters", "restart", "(I)Z"⟩
abbrev b_Ct_comeUp : ByteArray := prog_2_method_2_code
abbrev y_Ct_comeUp : MethodName := ⟨"DiskArbiters$Controller", "comeUp", "()V"⟩
abbrev b_Da_log : ByteArray := prog_1_method_18_code
abbrev y_Da_log : MethodName := ⟨"DiskArbiters", "log", "(I)I"⟩
abbrev b_Da_entry : ByteArray := prog_1_method_19_code
abbrev y_Da_entry : MethodName := ⟨"DiskArbiters", "entry", "(II)I"⟩
abbrev b_Da_outcome : ByteArray := prog_1_method_20_code
abbrev y_Da_outcome : MethodName := ⟨"DiskArbiters", "outcome", "(II)I"⟩
abbrev b_Da_holds : ByteArray := prog_1_method_22_code
abbrev y_Da_holds : MethodName := ⟨"DiskArbiters", "holds", "(II)I"⟩
abbrev b_Da_driveOf : ByteArray := prog_1_method_21_code
abbrev y_Da_driveOf : MethodName := ⟨"DiskArbiters", "driveOf", "(II)LDiskArbiters$Drive;"⟩
abbrev b_Da_where : ByteArray := prog_1_method_23_code
abbrev y_Da_where : MethodName := ⟨"DiskArbiters", "where", "(II)I"⟩
abbrev b_Da_reserved : ByteArray := prog_1_method_24_code
abbrev y_Da_reserved : MethodName := ⟨"DiskArbiters", "reserved", "(II)I"⟩
abbrev b_Da_phase : ByteArray := prog_1_method_25_code
abbrev y_Da_phase : MethodName := ⟨"DiskArbiters", "phase", "(I)I"⟩
abbrev b_Da_round : ByteArray := prog_1_method_26_code
abbrev y_Da_round : MethodName := ⟨"DiskArbiters", "round", "(I)I"⟩
abbrev b_Da_vote : ByteArray := prog_1_method_27_code
abbrev y_Da_vote : MethodName := ⟨"DiskArbiters", "vote", "(IZ)I"⟩
abbrev b_Da_word : ByteArray := prog_1_method_28_code
abbrev y_Da_word : MethodName := ⟨"DiskArbiters", "word", "(IIII)I"⟩
abbrev b_Da_accesses : ByteArray := prog_1_method_29_code
abbrev y_Da_accesses : MethodName := ⟨"DiskArbiters", "accesses", "(I)I"⟩
theorem v_Da_18 : CI "DiskArbiters" 18 y_Ct_init b_Ct_init 2 1 := ⟨⟨List.mem_of_getElem? (i := 88) (by decide +kernel), List.mem_of_getElem? (i := 31) (by decide +kernel), List.mem_of_getElem? (i := 86) (by decide +kernel)⟩, ⟨List.mem_of_getElem? (i := 87) (by decide +kernel), rfl⟩, by decide, by decide, by decide +kernel⟩
theorem v_Ct_17 : CI "DiskArbiters$Controller" 17 y_Al_init b_Al_init 1 0 := ⟨⟨List.mem_of_getElem? (i := 94) (by decide +kernel), List.mem_of_getElem? (i := 34) (by decide +kernel), List.mem_of_getElem? (i := 92) (by decide +kernel)⟩, ⟨List.mem_of_getElem? (i := 93) (by decide +kernel), rfl⟩, by decide, by decide, by decide +kernel⟩
theorem v_Ct_24 : CI "DiskArbiters$Controller" 24 y_Lb_init b_Lb_init 2 0 := ⟨⟨List.mem_of_getElem? (i := 123) (by decide +kernel), List.mem_of_getElem? (i := 35) (by decide +kernel), List.mem_of_getElem? (i := 121) (by decide +kernel)⟩, ⟨List.mem_of_getElem? (i := 122) (by decide +kernel), rfl⟩, by decide, by decide, by decide +kernel⟩
theorem v_Da_39 : CV "DiskArbiters" 39 y_Da_found b_Da_found 2 (some (.object "DiskArbiters$Controller")) 1 := ⟨⟨List.mem_of_getElem? (i := 317) (by decide +kernel), List.mem_of_getElem? (i := 29) (by decide +kernel), List.mem_of_getElem? (i := 314) (by decide +kernel)⟩, ⟨List.mem_of_getElem? (i := 316) (by decide +kernel), List.mem_of_getElem? (i := 1) (by decide +kernel)⟩, by decide, by decide, by decide +kernel⟩
theorem v_Da_28 : CS "DiskArbiters" 28 y_Da_index b_Da_index 2 (some .int) 2 := ⟨⟨List.mem_of_getElem? (i := 320) (by decide +kernel), List.mem_of_getElem? (i := 29) (by decide +kernel), List.mem_of_getElem? (i := 318) (by decide +kernel)⟩, List.mem_of_getElem? (i := 319) (by decide +kernel), by decide, by decide, by decide +kernel⟩
theorem v_Da_43 : CS "DiskArbiters" 43 y_Da_within b_Da_within 2 (some .boolean) 2 := ⟨⟨List.mem_of_getElem? (i := 344) (by decide +kernel), List.mem_of_getElem? (i := 29) (by decide +kernel), List.mem_of_getElem? (i := 342) (by decide +kernel)⟩, List.mem_of_getElem? (i := 343) (by decide +kernel), by decide, by decide, by decide +kernel⟩
theorem v_Da_54 : CV "DiskArbiters" 54 y_Al_size b_Al_size 1 (some .int) 0 := ⟨⟨List.mem_of_getElem? (i := 363) (by decide +kernel), List.mem_of_getElem? (i := 34) (by decide +kernel), List.mem_of_getElem? (i := 360) (by decide +kernel)⟩, ⟨List.mem_of_getElem? (i := 361) (by decide +kernel), List.mem_of_getElem? (i := 362) (by decide +kernel)⟩, by decide, by decide, by decide +kernel⟩
theorem v_Da_60 : CV "DiskArbiters" 60 y_Ct_waitingCount b_Ct_waitingCount 4 (some .int) 0 := ⟨⟨List.mem_of_getElem? (i := 367) (by decide +kernel), List.mem_of_getElem? (i := 31) (by decide +kernel), List.mem_of_getElem? (i := 364) (by decide +kernel)⟩, ⟨List.mem_of_getElem? (i := 365) (by decide +kernel), List.mem_of_getElem? (i := 366) (by decide +kernel)⟩, by decide, by decide, by decide +kernel⟩
theorem v_Ct_43 : CV "DiskArbiters$Controller" 43 y_Al_iterator b_Al_iterator 1 (some (.object "java/util/Iterator")) 0 := ⟨⟨List.mem_of_getElem? (i := 371) (by decide +kernel), List.mem_of_getElem? (i := 34) (by decide +kernel), List.mem_of_getElem? (i := 368) (by decide +kernel)⟩, ⟨List.mem_of_getElem? (i := 369) (by decide +kernel), List.mem_of_getElem? (i := 370) (by decide +kernel)⟩, by decide, by decide, by decide +kernel⟩
theorem v_Al_269 : CI "java/util/ArrayList" 269 y_It_init b_It_init 2 1 := ⟨⟨List.mem_of_getElem? (i := 376) (by decide +kernel), List.mem_of_getElem? (i := 45) (by decide +kernel), List.mem_of_getElem? (i := 374) (by decide +kernel)⟩, ⟨List.mem_of_getElem? (i := 375) (by decide +kernel), rfl⟩, by decide, by decide, by decide +kernel⟩
theorem v_It_31 : CV "java/util/ArrayList$Itr" 31 y_It_checkForComodification b_It_checkForComodification 1 none 0 := ⟨⟨List.mem_of_getElem? (i := 413) (by decide +kernel), List.mem_of_getElem? (i := 45) (by decide +kernel), List.mem_of_getElem? (i := 410) (by decide +kernel)⟩, ⟨List.mem_of_getElem? (i := 411) (by decide +kernel), List.mem_of_getElem? (i := 412) (by decide +kernel)⟩, by decide, by decide, by decide +kernel⟩
theorem v_Da_68 : CI "DiskArbiters" 68 y_Wi_init b_Wi_init 2 1 := ⟨⟨List.mem_of_getElem? (i := 449) (by decide +kernel), List.mem_of_getElem? (i := 48) (by decide +kernel), List.mem_of_getElem? (i := 447) (by decide +kernel)⟩, ⟨List.mem_of_getElem? (i := 448) (by decide +kernel), rfl⟩, by decide, by decide, by decide +kernel⟩
theorem v_Da_69 : CV "DiskArbiters" 69 y_Al_add b_Al_add 2 (some .boolean) 1 := ⟨⟨List.mem_of_getElem? (i := 463) (by decide +kernel), List.mem_of_getElem? (i := 34) (by decide +kernel), List.mem_of_getElem? (i := 460) (by decide +kernel)⟩, ⟨List.mem_of_getElem? (i := 461) (by decide +kernel), List.mem_of_getElem? (i := 462) (by decide +kernel)⟩, by decide, by decide, by decide +kernel⟩
theorem v_Al_131 : CV "java/util/ArrayList" 131 y_Al_add2 b_Al_add2 4 none 3 := ⟨⟨List.mem_of_getElem? (i := 467) (by decide +kernel), List.mem_of_getElem? (i := 34) (by decide +kernel), List.mem_of_getElem? (i := 464) (by decide +kernel)⟩, ⟨List.mem_of_getElem? (i := 466) (by decide +kernel), List.mem_of_getElem? (i := 2) (by decide +kernel)⟩, by decide, by decide, by decide +kernel⟩
theorem v_Al_129 : CV "java/util/ArrayList" 129 y_Al_grow b_Al_grow 1 (some (.array (.object "java/lang/Object"))) 0 := ⟨⟨List.mem_of_getElem? (i := 471) (by decide +kernel), List.mem_of_getElem? (i := 34) (by decide +kernel), List.mem_of_getElem? (i := 468) (by decide +kernel)⟩, ⟨List.mem_of_getElem? (i := 470) (by decide +kernel), List.mem_of_getElem? (i := 3) (by decide +kernel)⟩, by decide, by decide, by decide +kernel⟩
theorem v_Al_69 : CV "java/util/ArrayList" 69 y_Al_grow2 b_Al_grow2 4 (some (.array (.object "java/lang/Object"))) 1 := ⟨⟨List.mem_of_getElem? (i := 475) (by decide +kernel), List.mem_of_getElem? (i := 34) (by decide +kernel), List.mem_of_getElem? (i := 472) (by decide +kernel)⟩, ⟨List.mem_of_getElem? (i := 474) (by decide +kernel), List.mem_of_getElem? (i := 4) (by decide +kernel)⟩, by decide, by decide, by decide +kernel⟩
theorem v_Al_73 : CS "java/util/ArrayList" 73 y_As_newLength b_As_newLength 4 (some .int) 3 := ⟨⟨List.mem_of_getElem? (i := 478) (by decide +kernel), List.mem_of_getElem? (i := 49) (by decide +kernel), List.mem_of_getElem? (i := 476) (by decide +kernel)⟩, List.mem_of_getElem? (i := 477) (by decide +kernel), by decide, by decide, by decide +kernel⟩
theorem v_Al_66 : CS "java/util/ArrayList" 66 y_Ar_copyOf b_Ar_copyOf 2 (some (.array (.object "java/lang/Object"))) 2 := ⟨⟨List.mem_of_getElem? (i := 488) (by decide +kernel), List.mem_of_getElem? (i := 51) (by decide +kernel), List.mem_of_getElem? (i := 486) (by decide +kernel)⟩, List.mem_of_getElem? (i := 487) (by decide +kernel), by decide, by decide, by decide +kernel⟩
theorem v_Al_79 : CS "java/util/ArrayList" 79 y_Ma_max b_Ma_max 2 (some .int) 2 := ⟨⟨List.mem_of_getElem? (i := 481) (by decide +kernel), List.mem_of_getElem? (i := 50) (by decide +kernel), List.mem_of_getElem? (i := 520) (by decide +kernel)⟩, List.mem_of_getElem? (i := 480) (by decide +kernel), by decide, by decide, by decide +kernel⟩
theorem v_Da_73 : CS "DiskArbiters" 73 y_Da_needUp b_Da_needUp 1 none 1 := ⟨⟨List.mem_of_getElem? (i := 533) (by decide +kernel), List.mem_of_getElem? (i := 29) (by decide +kernel), List.mem_of_getElem? (i := 531) (by decide +kernel)⟩, List.mem_of_getElem? (i := 532) (by decide +kernel), by decide, by decide, by decide +kernel⟩
theorem v_Da_84 : CV "DiskArbiters" 84 y_Ct_go b_Ct_go 3 (some .int) 1 := ⟨⟨List.mem_of_getElem? (i := 554) (by decide +kernel), List.mem_of_getElem? (i := 31) (by decide +kernel), List.mem_of_getElem? (i := 551) (by decide +kernel)⟩, ⟨List.mem_of_getElem? (i := 552) (by decide +kernel), List.mem_of_getElem? (i := 553) (by decide +kernel)⟩, by decide, by decide, by decide +kernel⟩
theorem v_Ct_149 : CV "DiskArbiters$Controller" 149 y_Ct_idle b_Ct_idle 3 (some .int) 0 := ⟨⟨List.mem_of_getElem? (i := 558) (by decide +kernel), List.mem_of_getElem? (i := 31) (by decide +kernel), List.mem_of_getElem? (i := 555) (by decide +kernel)⟩, ⟨List.mem_of_getElem? (i := 557) (by decide +kernel), List.mem_of_getElem? (i := 5) (by decide +kernel)⟩, by decide, by decide, by decide +kernel⟩
theorem v_Ct_71 : CV "DiskArbiters$Controller" 71 y_Ct_waiting b_Ct_waiting 3 (some (.object "DiskArbiters$Wish")) 0 := ⟨⟨List.mem_of_getElem? (i := 562) (by decide +kernel), List.mem_of_getElem? (i := 31) (by decide +kernel), List.mem_of_getElem? (i := 559) (by decide +kernel)⟩, ⟨List.mem_of_getElem? (i := 560) (by decide +kernel), List.mem_of_getElem? (i := 561) (by decide +kernel)⟩, by decide, by decide, by decide +kernel⟩
theorem v_Ct_78 : CV "DiskArbiters$Controller" 78 y_Lb_allows b_Lb_allows 4 (some .boolean) 1 := ⟨⟨List.mem_of_getElem? (i := 566) (by decide +kernel), List.mem_of_getElem? (i := 35) (by decide +kernel), List.mem_of_getElem? (i := 563) (by decide +kernel)⟩, ⟨List.mem_of_getElem? (i := 564) (by decide +kernel), List.mem_of_getElem? (i := 565) (by decide +kernel)⟩, by decide, by decide, by decide +kernel⟩
theorem v_Lb_43 : CV "DiskArbiters$Library" 43 y_Dr_serves b_Dr_serves 2 (some .boolean) 1 := ⟨⟨List.mem_of_getElem? (i := 582) (by decide +kernel), List.mem_of_getElem? (i := 36) (by decide +kernel), List.mem_of_getElem? (i := 579) (by decide +kernel)⟩, ⟨List.mem_of_getElem? (i := 580) (by decide +kernel), List.mem_of_getElem? (i := 581) (by decide +kernel)⟩, by decide, by decide, by decide +kernel⟩
theorem v_Ct_85 : CS "DiskArbiters$Controller" 85 y_Ma_max b_Ma_max 2 (some .int) 2 := ⟨⟨List.mem_of_getElem? (i := 481) (by decide +kernel), List.mem_of_getElem? (i := 50) (by decide +kernel), List.mem_of_getElem? (i := 583) (by decide +kernel)⟩, List.mem_of_getElem? (i := 480) (by decide +kernel), by decide, by decide, by decide +kernel⟩
theorem v_Ct_103 : CV "DiskArbiters$Controller" 103 y_Ct_begin b_Ct_begin 2 none 1 := ⟨⟨List.mem_of_getElem? (i := 587) (by decide +kernel), List.mem_of_getElem? (i := 31) (by decide +kernel), List.mem_of_getElem? (i := 584) (by decide +kernel)⟩, ⟨List.mem_of_getElem? (i := 586) (by decide +kernel), List.mem_of_getElem? (i := 6) (by decide +kernel)⟩, by decide, by decide, by decide +kernel⟩
theorem v_Ct_152 : CV "DiskArbiters$Controller" 152 y_Ct_nextDisk b_Ct_nextDisk 1 none 0 := ⟨⟨List.mem_of_getElem? (i := 591) (by decide +kernel), List.mem_of_getElem? (i := 31) (by decide +kernel), List.mem_of_getElem? (i := 588) (by decide +kernel)⟩, ⟨List.mem_of_getElem? (i := 590) (by decide +kernel), List.mem_of_getElem? (i := 7) (by decide +kernel)⟩, by decide, by decide, by decide +kernel⟩
theorem v_Ct_155 : CV "DiskArbiters$Controller" 155 y_Ct_write b_Ct_write 3 none 2 := ⟨⟨List.mem_of_getElem? (i := 595) (by decide +kernel), List.mem_of_getElem? (i := 31) (by decide +kernel), List.mem_of_getElem? (i := 592) (by decide +kernel)⟩, ⟨List.mem_of_getElem? (i := 594) (by decide +kernel), List.mem_of_getElem? (i := 8) (by decide +kernel)⟩, by decide, by decide, by decide +kernel⟩
theorem v_Ct_113 : CS "DiskArbiters$Controller" 113 y_Dk_block b_Dk_block 2 (some .int) 2 := ⟨⟨List.mem_of_getElem? (i := 598) (by decide +kernel), List.mem_of_getElem? (i := 30) (by decide +kernel), List.mem_of_getElem? (i := 596) (by decide +kernel)⟩, List.mem_of_getElem? (i := 597) (by decide +kernel), by decide, by decide, by decide +kernel⟩
theorem v_Ct_118 : CV "DiskArbiters$Controller" 118 y_Dk_write b_Dk_write 10 none 5 := ⟨⟨List.mem_of_getElem? (i := 602) (by decide +kernel), List.mem_of_getElem? (i := 30) (by decide +kernel), List.mem_of_getElem? (i := 599) (by decide +kernel)⟩, ⟨List.mem_of_getElem? (i := 600) (by decide +kernel), List.mem_of_getElem? (i := 601) (by decide +kernel)⟩, by decide, by decide, by decide +kernel⟩
theorem v_Dk_23 : CV "DiskArbiters$Disk" 23 y_Dk_latest b_Dk_latest 3 (some .int) 1 := ⟨⟨List.mem_of_getElem? (i := 606) (by decide +kernel), List.mem_of_getElem? (i := 30) (by decide +kernel), List.mem_of_getElem? (i := 603) (by decide +kernel)⟩, ⟨List.mem_of_getElem? (i := 604) (by decide +kernel), List.mem_of_getElem? (i := 605) (by decide +kernel)⟩, by decide, by decide, by decide +kernel⟩
theorem v_Dk_19 : CV "DiskArbiters$Disk" 19 y_Dk_isWhole b_Dk_isWhole 2 (some .boolean) 1 := ⟨⟨List.mem_of_getElem? (i := 610) (by decide +kernel), List.mem_of_getElem? (i := 30) (by decide +kernel), List.mem_of_getElem? (i := 607) (by decide +kernel)⟩, ⟨List.mem_of_getElem? (i := 609) (by decide +kernel), List.mem_of_getElem? (i := 9) (by decide +kernel)⟩, by decide, by decide, by decide +kernel⟩
theorem v_Ct_158 : CV "DiskArbiters$Controller" 158 y_Ct_read b_Ct_read 4 (some .boolean) 1 := ⟨⟨List.mem_of_getElem? (i := 616) (by decide +kernel), List.mem_of_getElem? (i := 31) (by decide +kernel), List.mem_of_getElem? (i := 613) (by decide +kernel)⟩, ⟨List.mem_of_getElem? (i := 615) (by decide +kernel), List.mem_of_getElem? (i := 10) (by decide +kernel)⟩, by decide, by decide, by decide +kernel⟩
theorem v_Ct_122 : CV "DiskArbiters$Controller" 122 y_Dk_latest b_Dk_latest 3 (some .int) 1 := ⟨⟨List.mem_of_getElem? (i := 606) (by decide +kernel), List.mem_of_getElem? (i := 30) (by decide +kernel), List.mem_of_getElem? (i := 617) (by decide +kernel)⟩, ⟨List.mem_of_getElem? (i := 604) (by decide +kernel), List.mem_of_getElem? (i := 605) (by decide +kernel)⟩, by decide, by decide, by decide +kernel⟩
theorem v_Ct_162 : CV "DiskArbiters$Controller" 162 y_Ct_goOn b_Ct_goOn 2 (some .int) 0 := ⟨⟨List.mem_of_getElem? (i := 621) (by decide +kernel), List.mem_of_getElem? (i := 31) (by decide +kernel), List.mem_of_getElem? (i := 618) (by decide +kernel)⟩, ⟨List.mem_of_getElem? (i := 620) (by decide +kernel), List.mem_of_getElem? (i := 11) (by decide +kernel)⟩, by decide, by decide, by decide +kernel⟩
theorem v_Ct_142 : CV "DiskArbiters$Controller" 142 y_Ct_decide b_Ct_decide 2 (some .int) 0 := ⟨⟨List.mem_of_getElem? (i := 625) (by decide +kernel), List.mem_of_getElem? (i := 31) (by decide +kernel), List.mem_of_getElem? (i := 622) (by decide +kernel)⟩, ⟨List.mem_of_getElem? (i := 624) (by decide +kernel), List.mem_of_getElem? (i := 12) (by decide +kernel)⟩, by decide, by decide, by decide +kernel⟩
theorem v_Ct_129 : CV "DiskArbiters$Controller" 129 y_Lb_apply b_Lb_apply 3 none 1 := ⟨⟨List.mem_of_getElem? (i := 629) (by decide +kernel), List.mem_of_getElem? (i := 35) (by decide +kernel), List.mem_of_getElem? (i := 626) (by decide +kernel)⟩, ⟨List.mem_of_getElem? (i := 627) (by decide +kernel), List.mem_of_getElem? (i := 628) (by decide +kernel)⟩, by decide, by decide, by decide +kernel⟩
theorem v_Ct_138 : CV "DiskArbiters$Controller" 138 y_Al_get b_Al_get 2 (some (.object "java/lang/Object")) 1 := ⟨⟨List.mem_of_getElem? (i := 639) (by decide +kernel), List.mem_of_getElem? (i := 34) (by decide +kernel), List.mem_of_getElem? (i := 636) (by decide +kernel)⟩, ⟨List.mem_of_getElem? (i := 637) (by decide +kernel), List.mem_of_getElem? (i := 638) (by decide +kernel)⟩, by decide, by decide, by decide +kernel⟩
theorem v_Al_118 : CS "java/util/ArrayList" 118 y_Ob_checkIndex b_Ob_checkIndex 2 (some .int) 2 := ⟨⟨List.mem_of_getElem? (i := 642) (by decide +kernel), List.mem_of_getElem? (i := 54) (by decide +kernel), List.mem_of_getElem? (i := 640) (by decide +kernel)⟩, List.mem_of_getElem? (i := 641) (by decide +kernel), by decide, by decide, by decide +kernel⟩
theorem v_Al_123 : CV "java/util/ArrayList" 123 y_Al_elementData b_Al_elementData 2 (some (.object "java/lang/Object")) 1 := ⟨⟨List.mem_of_getElem? (i := 649) (by decide +kernel), List.mem_of_getElem? (i := 34) (by decide +kernel), List.mem_of_getElem? (i := 646) (by decide +kernel)⟩, ⟨List.mem_of_getElem? (i := 647) (by decide +kernel), List.mem_of_getElem? (i := 648) (by decide +kernel)⟩, by decide, by decide, by decide +kernel⟩
theorem v_Da_91 : CV "DiskArbiters" 91 y_Ct_writesNext b_Ct_writesNext 2 (some .boolean) 1 := ⟨⟨List.mem_of_getElem? (i := 667) (by decide +kernel), List.mem_of_getElem? (i := 31) (by decide +kernel), List.mem_of_getElem? (i := 664) (by decide +kernel)⟩, ⟨List.mem_of_getElem? (i := 665) (by decide +kernel), List.mem_of_getElem? (i := 666) (by decide +kernel)⟩, by decide, by decide, by decide +kernel⟩
theorem v_Da_102 : CV "DiskArbiters" 102 y_Ct_comeUp b_Ct_comeUp 1 none 0 := ⟨⟨List.mem_of_getElem? (i := 686) (by decide +kernel), List.mem_of_getElem? (i := 31) (by decide +kernel), List.mem_of_getElem? (i := 683) (by decide +kernel)⟩, ⟨List.mem_of_getElem? (i := 684) (by decide +kernel), List.mem_of_getElem? (i := 685) (by decide +kernel)⟩, by decide, by decide, by decide +kernel⟩
theorem v_Da_109 : CV "DiskArbiters" 109 y_Al_get b_Al_get 2 (some (.object "java/lang/Object")) 1 := ⟨⟨List.mem_of_getElem? (i := 639) (by decide +kernel), List.mem_of_getElem? (i := 34) (by decide +kernel), List.mem_of_getElem? (i := 708) (by decide +kernel)⟩, ⟨List.mem_of_getElem? (i := 637) (by decide +kernel), List.mem_of_getElem? (i := 638) (by decide +kernel)⟩, by decide, by decide, by decide +kernel⟩
theorem v_Da_126 : CV "DiskArbiters" 126 y_Da_driveOf b_Da_driveOf 3 (some (.object "DiskArbiters$Drive")) 2 := ⟨⟨List.mem_of_getElem? (i := 719) (by decide +kernel), List.mem_of_getElem? (i := 29) (by decide +kernel), List.mem_of_getElem? (i := 716) (by decide +kernel)⟩, ⟨List.mem_of_getElem? (i := 718) (by decide +kernel), List.mem_of_getElem? (i := 13) (by decide +kernel)⟩, by decide, by decide, by decide +kernel⟩
theorem v_Da_156 : CS "DiskArbiters" 156 y_Dk_block b_Dk_block 2 (some .int) 2 := ⟨⟨List.mem_of_getElem? (i := 598) (by decide +kernel), List.mem_of_getElem? (i := 30) (by decide +kernel), List.mem_of_getElem? (i := 762) (by decide +kernel)⟩, List.mem_of_getElem? (i := 597) (by decide +kernel), by decide, by decide, by decide +kernel⟩
theorem v_Da_9 : CIN "DiskArbiters" 9 y_Dk_init b_Dk_init 1 0 := ⟨⟨List.mem_of_getElem? (i := 69) (by decide +kernel), List.mem_of_getElem? (i := 30) (by decide +kernel), List.mem_of_getElem? (i := 67) (by decide +kernel)⟩, ⟨List.mem_of_getElem? (i := 68) (by decide +kernel), rfl⟩, by decide, by decide, by decide +kernel⟩
theorem v_Lb_17 : CIN "DiskArbiters$Library" 17 y_Dr_init b_Dr_init 1 0 := ⟨⟨List.mem_of_getElem? (i := 130) (by decide +kernel), List.mem_of_getElem? (i := 36) (by decide +kernel), List.mem_of_getElem? (i := 128) (by decide +kernel)⟩, ⟨List.mem_of_getElem? (i := 129) (by decide +kernel), rfl⟩, by decide, by decide, by decide +kernel⟩
theorem v_Lb_22 : CSN "DiskArbiters$Library" 22 y_Da_drive b_Da_drive 1 (some .int) 1 := ⟨⟨List.mem_of_getElem? (i := 569) (by decide +kernel), List.mem_of_getElem? (i := 29) (by decide +kernel), List.mem_of_getElem? (i := 567) (by decide +kernel)⟩, List.mem_of_getElem? (i := 568) (by decide +kernel), by decide, by decide, by decide +kernel⟩
theorem v_Lb_26 : CSN "DiskArbiters$Library" 26 y_Da_cartridge b_Da_cartridge 1 (some .int) 1 := ⟨⟨List.mem_of_getElem? (i := 572) (by decide +kernel), List.mem_of_getElem? (i := 29) (by decide +kernel), List.mem_of_getElem? (i := 570) (by decide +kernel)⟩, List.mem_of_getElem? (i := 571) (by decide +kernel), by decide, by decide, by decide +kernel⟩
theorem v_Lb_29 : CSN "DiskArbiters$Library" 29 y_Da_kind b_Da_kind 1 (some .int) 1 := ⟨⟨List.mem_of_getElem? (i := 575) (by decide +kernel), List.mem_of_getElem? (i := 29) (by decide +kernel), List.mem_of_getElem? (i := 573) (by decide +kernel)⟩, List.mem_of_getElem? (i := 574) (by decide +kernel), by decide, by decide, by decide +kernel⟩
theorem v_Lb_40 : CSN "DiskArbiters$Library" 40 y_Da_client b_Da_client 1 (some .int) 1 := ⟨⟨List.mem_of_getElem? (i := 578) (by decide +kernel), List.mem_of_getElem? (i := 29) (by decide +kernel), List.mem_of_getElem? (i := 576) (by decide +kernel)⟩, List.mem_of_getElem? (i := 577) (by decide +kernel), by decide, by decide, by decide +kernel⟩
theorem v_Ct_132 : CSN "DiskArbiters$Controller" 132 y_Da_owner b_Da_owner 1 (some .int) 1 := ⟨⟨List.mem_of_getElem? (i := 632) (by decide +kernel), List.mem_of_getElem? (i := 29) (by decide +kernel), List.mem_of_getElem? (i := 630) (by decide +kernel)⟩, List.mem_of_getElem? (i := 631) (by decide +kernel), by decide, by decide, by decide +kernel⟩
theorem v_Ct_135 : CSN "DiskArbiters$Controller" 135 y_Da_wish b_Da_wish 1 (some .int) 1 := ⟨⟨List.mem_of_getElem? (i := 635) (by decide +kernel), List.mem_of_getElem? (i := 29) (by decide +kernel), List.mem_of_getElem? (i := 633) (by decide +kernel)⟩, List.mem_of_getElem? (i := 634) (by decide +kernel), by decide, by decide, by decide +kernel⟩
theorem v_Da_98 : CVN "DiskArbiters" 98 y_Ct_write b_Ct_write 3 none 2 := ⟨⟨List.mem_of_getElem? (i := 595) (by decide +kernel), List.mem_of_getElem? (i := 31) (by decide +kernel), List.mem_of_getElem? (i := 668) (by decide +kernel)⟩, ⟨List.mem_of_getElem? (i := 594) (by decide +kernel), List.mem_of_getElem? (i := 8) (by decide +kernel)⟩, by decide, by decide, by decide +kernel⟩
theorem d_Da_kind_0 : decode b_Da_kind 0 = .ok (.iload_n 0, 1) := by decide +kernel
theorem d_Da_kind_1 : decode b_Da_kind 1 = .ok (.bipush 7, 2) := by decide +kernel
theorem d_Da_kind_3 : decode b_Da_kind 3 = .ok (.iand, 1) := by decide +kernel
theorem d_Da_kind_4 : decode b_Da_kind 4 = .ok (.ireturn, 1) := by decide +kernel
set_option maxHeartbeats 4000000 in
set_option maxRecDepth 100000 in
theorem c_Da_kind {l : Launch} {G : Gx} {s0 : State} (C : Cx G s0) {B D0 ea : Nat} (hB : s0.heap.size ≤ B) (σ : Sg) (τ : Tt) (x : Int32) : Ct l s0 (FC B D0) 0 0 0 y_Da_kind b_Da_kind 1 (some .int) [.int (x)] (RepC G B D0 ea σ τ) (pI (fun r H => r = eK x ∧ RepC G B D0 ea σ τ H)) := by
  refine Ct.of C (by decide) (Nat.le_of_ble_eq_true rfl) ?_
  intro pg ev s mm below meth cd V hr hlk hn hR ls hl
  have hx := V.1
  have hb := V.2.1
  have hS : va_S (FC B D0) s.heap s.heap [] := va_S.rf
  have hF : ∀ q, FC B D0 q → FC B D0 q := fun _ h => h
  have hA : ∀ q, FC B D0 q → s0.heap.size ≤ q := fun q h => by have := hR.1; rcases h with h | h <;> omega
  have hl : lv_has ls 1 [(0, .int (x))] := hl
  refine lv_iload_n hx hb d_Da_kind_0 rfl (lv_at hl 0 rfl) ?_
  refine lv_bipush (v := 7) hx hb d_Da_kind_1 (by decide) ?_
  refine lv_iand hx hb d_Da_kind_3 ?_
  exact e_i V hr hlk hS (Nat.le_refl _) (Nat.le_refl _) d_Da_kind_4 ⟨_, rfl, rfl, hR⟩
theorem d_Da_cartridge_0 : decode b_Da_cartridge 0 = .ok (.iload_n 0, 1) := by decide +kernel
theorem d_Da_cartridge_1 : decode b_Da_cartridge 1 = .ok (.iconst 3, 1) := by decide +kernel
theorem d_Da_cartridge_2 : decode b_Da_cartridge 2 = .ok (.ishr, 1) := by decide +kernel
theorem d_Da_cartridge_3 : decode b_Da_cartridge 3 = .ok (.bipush 7, 2) := by decide +kernel
theorem d_Da_cartridge_5 : decode b_Da_cartridge 5 = .ok (.iand, 1) := by decide +kernel
theorem d_Da_cartridge_6 : decode b_Da_cartridge 6 = .ok (.ireturn, 1) := by decide +kernel
set_option maxHeartbeats 4000000 in
set_option maxRecDepth 100000 in
theorem c_Da_cartridge {l : Launch} {G : Gx} {s0 : State} (C : Cx G s0) {B D0 ea : Nat} (hB : s0.heap.size ≤ B) (σ : Sg) (τ : Tt) (x : Int32) : Ct l s0 (FC B D0) 0 0 0 y_Da_cartridge b_Da_cartridge 1 (some .int) [.int (x)] (RepC G B D0 ea σ τ) (pI (fun r H => r = eC x ∧ RepC G B D0 ea σ τ H)) := by
  refine Ct.of C (by decide) (Nat.le_of_ble_eq_true rfl) ?_
  intro pg ev s mm below meth cd V hr hlk hn hR ls hl
  have hx := V.1
  have hb := V.2.1
  have hS : va_S (FC B D0) s.heap s.heap [] := va_S.rf
  have hF : ∀ q, FC B D0 q → FC B D0 q := fun _ h => h
  have hA : ∀ q, FC B D0 q → s0.heap.size ≤ q := fun q h => by have := hR.1; rcases h with h | h <;> omega
  have hl : lv_has ls 1 [(0, .int (x))] := hl
  refine lv_iload_n hx hb d_Da_cartridge_0 rfl (lv_at hl 0 rfl) ?_
  refine lv_iconst (v := 3) hx hb d_Da_cartridge_1 (by decide) ?_
  refine lv_ishr hx hb d_Da_cartridge_2 ?_
  refine lv_bipush (v := 7) hx hb d_Da_cartridge_3 (by decide) ?_
  refine lv_iand hx hb d_Da_cartridge_5 ?_
  exact e_i V hr hlk hS (Nat.le_refl _) (Nat.le_refl _) d_Da_cartridge_6 ⟨_, rfl, rfl, hR⟩
theorem d_Da_drive_0 : decode b_Da_drive 0 = .ok (.iload_n 0, 1) := by decide +kernel
theorem d_Da_drive_1 : decode b_Da_drive 1 = .ok (.bipush 6, 2) := by decide +kernel
theorem d_Da_drive_3 : decode b_Da_drive 3 = .ok (.ishr, 1) := by decide +kernel
theorem d_Da_drive_4 : decode b_Da_drive 4 = .ok (.iconst 3, 1) := by decide +kernel
theorem d_Da_drive_5 : decode b_Da_drive 5 = .ok (.iand, 1) := by decide +kernel
theorem d_Da_drive_6 : decode b_Da_drive 6 = .ok (.ireturn, 1) := by decide +kernel
set_option maxHeartbeats 4000000 in
set_option maxRecDepth 100000 in
theorem c_Da_drive {l : Launch} {G : Gx} {s0 : State} (C : Cx G s0) {B D0 ea : Nat} (hB : s0.heap.size ≤ B) (σ : Sg) (τ : Tt) (x : Int32) : Ct l s0 (FC B D0) 0 0 0 y_Da_drive b_Da_drive 1 (some .int) [.int (x)] (RepC G B D0 ea σ τ) (pI (fun r H => r = eD x ∧ RepC G B D0 ea σ τ H)) := by
  refine Ct.of C (by decide) (Nat.le_of_ble_eq_true rfl) ?_
  intro pg ev s mm below meth cd V hr hlk hn hR ls hl
  have hx := V.1
  have hb := V.2.1
  have hS : va_S (FC B D0) s.heap s.heap [] := va_S.rf
  have hF : ∀ q, FC B D0 q → FC B D0 q := fun _ h => h
  have hA : ∀ q, FC B D0 q → s0.heap.size ≤ q := fun q h => by have := hR.1; rcases h with h | h <;> omega
  have hl : lv_has ls 1 [(0, .int (x))] := hl
  refine lv_iload_n hx hb d_Da_drive_0 rfl (lv_at hl 0 rfl) ?_
  refine lv_bipush (v := 6) hx hb d_Da_drive_1 (by decide) ?_
  refine lv_ishr hx hb d_Da_drive_3 ?_
  refine lv_iconst (v := 3) hx hb d_Da_drive_4 (by decide) ?_
  refine lv_iand hx hb d_Da_drive_5 ?_
  exact e_i V hr hlk hS (Nat.le_refl _) (Nat.le_refl _) d_Da_drive_6 ⟨_, rfl, rfl, hR⟩
theorem d_Da_client_0 : decode b_Da_client 0 = .ok (.iload_n 0, 1) := by decide +kernel
theorem d_Da_client_1 : decode b_Da_client 1 = .ok (.bipush 8, 2) := by decide +kernel
theorem d_Da_client_3 : decode b_Da_client 3 = .ok (.ishr, 1) := by decide +kernel
theorem d_Da_client_4 : decode b_Da_client 4 = .ok (.iconst 3, 1) := by decide +kernel
theorem d_Da_client_5 : decode b_Da_client 5 = .ok (.iand, 1) := by decide +kernel
theorem d_Da_client_6 : decode b_Da_client 6 = .ok (.ireturn, 1) := by decide +kernel
set_option maxHeartbeats 4000000 in
set_option maxRecDepth 100000 in
theorem c_Da_client {l : Launch} {G : Gx} {s0 : State} (C : Cx G s0) {B D0 ea : Nat} (hB : s0.heap.size ≤ B) (σ : Sg) (τ : Tt) (x : Int32) : Ct l s0 (FC B D0) 0 0 0 y_Da_client b_Da_client 1 (some .int) [.int (x)] (RepC G B D0 ea σ τ) (pI (fun r H => r = eL x ∧ RepC G B D0 ea σ τ H)) := by
  refine Ct.of C (by decide) (Nat.le_of_ble_eq_true rfl) ?_
  intro pg ev s mm below meth cd V hr hlk hn hR ls hl
  have hx := V.1
  have hb := V.2.1
  have hS : va_S (FC B D0) s.heap s.heap [] := va_S.rf
  have hF : ∀ q, FC B D0 q → FC B D0 q := fun _ h => h
  have hA : ∀ q, FC B D0 q → s0.heap.size ≤ q := fun q h => by have := hR.1; rcases h with h | h <;> omega
  have hl : lv_has ls 1 [(0, .int (x))] := hl
  refine lv_iload_n hx hb d_Da_client_0 rfl (lv_at hl 0 rfl) ?_
  refine lv_bipush (v := 8) hx hb d_Da_client_1 (by decide) ?_
  refine lv_ishr hx hb d_Da_client_3 ?_
  refine lv_iconst (v := 3) hx hb d_Da_client_4 (by decide) ?_
  refine lv_iand hx hb d_Da_client_5 ?_
  exact e_i V hr hlk hS (Nat.le_refl _) (Nat.le_refl _) d_Da_client_6 ⟨_, rfl, rfl, hR⟩
theorem d_Da_owner_0 : decode b_Da_owner 0 = .ok (.iload_n 0, 1) := by decide +kernel
theorem d_Da_owner_1 : decode b_Da_owner 1 = .ok (.bipush 10, 2) := by decide +kernel
theorem d_Da_owner_3 : decode b_Da_owner 3 = .ok (.ishr, 1) := by decide +kernel
theorem d_Da_owner_4 : decode b_Da_owner 4 = .ok (.iconst 3, 1) := by decide +kernel
theorem d_Da_owner_5 : decode b_Da_owner 5 = .ok (.iand, 1) := by decide +kernel
theorem d_Da_owner_6 : decode b_Da_owner 6 = .ok (.ireturn, 1) := by decide +kernel
set_option maxHeartbeats 4000000 in
set_option maxRecDepth 100000 in
theorem c_Da_owner {l : Launch} {G : Gx} {s0 : State} (C : Cx G s0) {B D0 ea : Nat} (hB : s0.heap.size ≤ B) (σ : Sg) (τ : Tt) (x : Int32) : Ct l s0 (FC B D0) 0 0 0 y_Da_owner b_Da_owner 1 (some .int) [.int (x)] (RepC G B D0 ea σ τ) (pI (fun r H => r = eO x ∧ RepC G B D0 ea σ τ H)) := by
  refine Ct.of C (by decide) (Nat.le_of_ble_eq_true rfl) ?_
  intro pg ev s mm below meth cd V hr hlk hn hR ls hl
  have hx := V.1
  have hb := V.2.1
  have hS : va_S (FC B D0) s.heap s.heap [] := va_S.rf
  have hF : ∀ q, FC B D0 q → FC B D0 q := fun _ h => h
  have hA : ∀ q, FC B D0 q → s0.heap.size ≤ q := fun q h => by have := hR.1; rcases h with h | h <;> omega
  have hl : lv_has ls 1 [(0, .int (x))] := hl
  refine lv_iload_n hx hb d_Da_owner_0 rfl (lv_at hl 0 rfl) ?_
  refine lv_bipush (v := 10) hx hb d_Da_owner_1 (by decide) ?_
  refine lv_ishr hx hb d_Da_owner_3 ?_
  refine lv_iconst (v := 3) hx hb d_Da_owner_4 (by decide) ?_
  refine lv_iand hx hb d_Da_owner_5 ?_
  exact e_i V hr hlk hS (Nat.le_refl _) (Nat.le_refl _) d_Da_owner_6 ⟨_, rfl, rfl, hR⟩
theorem d_Da_wish_0 : decode b_Da_wish 0 = .ok (.iload_n 0, 1) := by decide +kernel
theorem d_Da_wish_1 : decode b_Da_wish 1 = .ok (.bipush 12, 2) := by decide +kernel
theorem d_Da_wish_3 : decode b_Da_wish 3 = .ok (.ishr, 1) := by decide +kernel
theorem d_Da_wish_4 : decode b_Da_wish 4 = .ok (.ireturn, 1) := by decide +kernel
set_option maxHeartbeats 4000000 in
set_option maxRecDepth 100000 in
theorem c_Da_wish {l : Launch} {G : Gx} {s0 : State} (C : Cx G s0) {B D0 ea : Nat} (hB : s0.heap.size ≤ B) (σ : Sg) (τ : Tt) (x : Int32) : Ct l s0 (FC B D0) 0 0 0 y_Da_wish b_Da_wish 1 (some .int) [.int (x)] (RepC G B D0 ea σ τ) (pI (fun r H => r = eW x ∧ RepC G B D0 ea σ τ H)) := by
  refine Ct.of C (by decide) (Nat.le_of_ble_eq_true rfl) ?_
  intro pg ev s mm below meth cd V hr hlk hn hR ls hl
  have hx := V.1
  have hb := V.2.1
  have hS : va_S (FC B D0) s.heap s.heap [] := va_S.rf
  have hF : ∀ q, FC B D0 q → FC B D0 q := fun _ h => h
  have hA : ∀ q, FC B D0 q → s0.heap.size ≤ q := fun q h => by have := hR.1; rcases h with h | h <;> omega
  have hl : lv_has ls 1 [(0, .int (x))] := hl
  refine lv_iload_n hx hb d_Da_wish_0 rfl (lv_at hl 0 rfl) ?_
  refine lv_bipush (v := 12) hx hb d_Da_wish_1 (by decide) ?_
  refine lv_ishr hx hb d_Da_wish_3 ?_
  exact e_i V hr hlk hS (Nat.le_refl _) (Nat.le_refl _) d_Da_wish_4 ⟨_, rfl, rfl, hR⟩
theorem d_Da_within_0 : decode b_Da_within 0 = .ok (.iload_n 0, 1) := by decide +kernel
theorem d_Da_within_1 : decode b_Da_within 1 = .ok (.ifCond .lt 12, 3) := by decide +kernel
theorem d_Da_within_4 : decode b_Da_within 4 = .ok (.iload_n 0, 1) := by decide +kernel
theorem d_Da_within_5 : decode b_Da_within 5 = .ok (.iload_n 1, 1) := by decide +kernel
theorem d_Da_within_6 : decode b_Da_within 6 = .ok (.if_icmp .ge 7, 3) := by decide +kernel
theorem d_Da_within_9 : decode b_Da_within 9 = .ok (.iconst 1, 1) := by decide +kernel
theorem d_Da_within_10 : decode b_Da_within 10 = .ok (.goto 4, 3) := by decide +kernel
theorem d_Da_within_13 : decode b_Da_within 13 = .ok (.iconst 0, 1) := by decide +kernel
theorem d_Da_within_14 : decode b_Da_within 14 = .ok (.ireturn, 1) := by decide +kernel
set_option maxHeartbeats 4000000 in
set_option maxRecDepth 100000 in
theorem c_Da_within {l : Launch} {G : Gx} {s0 : State} (C : Cx G s0) {B D0 ea : Nat} (hB : s0.heap.size ≤ B) (σ : Sg) (τ : Tt) (x y : Int32) : Ct l s0 (FC B D0) 0 0 0 y_Da_within b_Da_within 2 (some .boolean) [.int (x), .int (y)] (RepC G B D0 ea σ τ) (pI (fun r H => r = bI (!decide (x < 0) && !decide (y ≤ x)) ∧ RepC G B D0 ea σ τ H)) := by
  refine Ct.of C (by decide) (Nat.le_of_ble_eq_true rfl) ?_
  intro pg ev s mm below meth cd V hr hlk hn hR ls hl
  have hx := V.1
  have hb := V.2.1
  have hS : va_S (FC B D0) s.heap s.heap [] := va_S.rf
  have hF : ∀ q, FC B D0 q → FC B D0 q := fun _ h => h
  have hA : ∀ q, FC B D0 q → s0.heap.size ≤ q := fun q h => by have := hR.1; rcases h with h | h <;> omega
  have hl : lv_has ls 2 [(0, .int (x)), (1, .int (y))] := hl
  refine lv_iload_n hx hb d_Da_within_0 rfl (lv_at hl 0 rfl) ?_
  refine lv_if_lt (tgt := 13) hx hb d_Da_within_1 (by decide) (fun h1 => ?_) (fun h1 => ?_)
  · refine lv_iconst (v := 0) hx hb d_Da_within_13 (by decide) ?_
    exact e_z V hr hlk hS (Nat.le_refl _) (Nat.le_refl _) d_Da_within_14 (by decide) ⟨_, rfl, by simp [bI, h1], hR⟩
  · refine lv_iload_n hx hb d_Da_within_4 rfl (lv_at hl 0 rfl) ?_
    refine lv_iload_n hx hb d_Da_within_5 rfl (lv_at hl 1 rfl) ?_
    refine lv_icmp_ge (tgt := 13) hx hb d_Da_within_6 (by decide) (fun h6 => ?_) (fun h6 => ?_)
    · refine lv_iconst (v := 0) hx hb d_Da_within_13 (by decide) ?_
      exact e_z V hr hlk hS (Nat.le_refl _) (Nat.le_refl _) d_Da_within_14 (by decide) ⟨_, rfl, by simp [bI, h1, h6], hR⟩
    · refine lv_iconst (v := 1) hx hb d_Da_within_9 (by decide) ?_
      refine lv_goto (tgt := 14) hx hb d_Da_within_10 (by decide) ?_
      exact e_z V hr hlk hS (Nat.le_refl _) (Nat.le_refl _) d_Da_within_14 (by decide) ⟨_, rfl, by simp [bI, h1, h6], hR⟩
theorem d_Dk_block_0 : decode b_Dk_block 0 = .ok (.bipush 10, 2) := by decide +kernel
theorem d_Dk_block_2 : decode b_Dk_block 2 = .ok (.bipush 24, 2) := by decide +kernel
theorem d_Dk_block_4 : decode b_Dk_block 4 = .ok (.iload_n 0, 1) := by decide +kernel
theorem d_Dk_block_5 : decode b_Dk_block 5 = .ok (.imul, 1) := by decide +kernel
theorem d_Dk_block_6 : decode b_Dk_block 6 = .ok (.iload_n 1, 1) := by decide +kernel
theorem d_Dk_block_7 : decode b_Dk_block 7 = .ok (.iadd, 1) := by decide +kernel
theorem d_Dk_block_8 : decode b_Dk_block 8 = .ok (.imul, 1) := by decide +kernel
theorem d_Dk_block_9 : decode b_Dk_block 9 = .ok (.ireturn, 1) := by decide +kernel
set_option maxHeartbeats 4000000 in
set_option maxRecDepth 100000 in
theorem c_Dk_block {l : Launch} {G : Gx} {s0 : State} (C : Cx G s0) {B D0 ea : Nat} (hB : s0.heap.size ≤ B) (σ : Sg) (τ : Tt) (c q : Nat) : Ct l s0 (FC B D0) 0 0 0 y_Dk_block b_Dk_block 2 (some .int) [.int (nI c), .int (nI q)] (RepC G B D0 ea σ τ) (pI (fun r H => r = nI (10 * (24 * c + q)) ∧ RepC G B D0 ea σ τ H)) := by
  refine Ct.of C (by decide) (Nat.le_of_ble_eq_true rfl) ?_
  intro pg ev s mm below meth cd V hr hlk hn hR ls hl
  have hx := V.1
  have hb := V.2.1
  have hS : va_S (FC B D0) s.heap s.heap [] := va_S.rf
  have hF : ∀ q, FC B D0 q → FC B D0 q := fun _ h => h
  have hA : ∀ q, FC B D0 q → s0.heap.size ≤ q := fun q h => by have := hR.1; rcases h with h | h <;> omega
  have hl : lv_has ls 2 [(0, .int (nI c)), (1, .int (nI q))] := hl
  refine lv_bipush (v := 10) hx hb d_Dk_block_0 (by decide) ?_
  refine lv_bipush (v := 24) hx hb d_Dk_block_2 (by decide) ?_
  refine lv_iload_n hx hb d_Dk_block_4 rfl (lv_at hl 0 rfl) ?_
  refine lv_imul hx hb d_Dk_block_5 ?_
  refine lv_tope (y := nI (24 * c)) (mu_e (a := 24) (b := c) (rfl : (24 : Int32) = nI 24) rfl) ?_
  refine lv_iload_n hx hb d_Dk_block_6 rfl (lv_at hl 1 rfl) ?_
  refine lv_iadd hx hb d_Dk_block_7 ?_
  refine lv_tope (y := nI (24 * c + q)) (ad_e (a := 24 * c) (b := q) rfl rfl) ?_
  refine lv_imul hx hb d_Dk_block_8 ?_
  refine lv_tope (y := nI (10 * (24 * c + q))) (mu_e (a := 10) (b := 24 * c + q) (rfl : (10 : Int32) = nI 10) rfl) ?_
  exact e_i V hr hlk hS (Nat.le_refl _) (Nat.le_refl _) d_Dk_block_9 ⟨_, rfl, rfl, hR⟩
theorem d_Dk_isWhole_0 : decode b_Dk_isWhole 0 = .ok (.aload_n 0, 1) := by decide +kernel
theorem d_Dk_isWhole_1 : decode b_Dk_isWhole 1 = .ok (.getfield 15, 3) := by decide +kernel
theorem d_Dk_isWhole_4 : decode b_Dk_isWhole 4 = .ok (.iload_n 1, 1) := by decide +kernel
theorem d_Dk_isWhole_5 : decode b_Dk_isWhole 5 = .ok (.iconst 0, 1) := by decide +kernel
theorem d_Dk_isWhole_6 : decode b_Dk_isWhole 6 = .ok (.iadd, 1) := by decide +kernel
theorem d_Dk_isWhole_7 : decode b_Dk_isWhole 7 = .ok (.iaload, 1) := by decide +kernel
theorem d_Dk_isWhole_8 : decode b_Dk_isWhole 8 = .ok (.ifCond .eq 26, 3) := by decide +kernel
theorem d_Dk_isWhole_11 : decode b_Dk_isWhole 11 = .ok (.aload_n 0, 1) := by decide +kernel
theorem d_Dk_isWhole_12 : decode b_Dk_isWhole 12 = .ok (.getfield 15, 3) := by decide +kernel
theorem d_Dk_isWhole_15 : decode b_Dk_isWhole 15 = .ok (.iload_n 1, 1) := by decide +kernel
theorem d_Dk_isWhole_16 : decode b_Dk_isWhole 16 = .ok (.iconst 0, 1) := by decide +kernel
theorem d_Dk_isWhole_17 : decode b_Dk_isWhole 17 = .ok (.iadd, 1) := by decide +kernel
theorem d_Dk_isWhole_18 : decode b_Dk_isWhole 18 = .ok (.iaload, 1) := by decide +kernel
theorem d_Dk_isWhole_19 : decode b_Dk_isWhole 19 = .ok (.aload_n 0, 1) := by decide +kernel
theorem d_Dk_isWhole_20 : decode b_Dk_isWhole 20 = .ok (.getfield 15, 3) := by decide +kernel
theorem d_Dk_isWhole_23 : decode b_Dk_isWhole 23 = .ok (.iload_n 1, 1) := by decide +kernel
theorem d_Dk_isWhole_24 : decode b_Dk_isWhole 24 = .ok (.iconst 4, 1) := by decide +kernel
theorem d_Dk_isWhole_25 : decode b_Dk_isWhole 25 = .ok (.iadd, 1) := by decide +kernel
theorem d_Dk_isWhole_26 : decode b_Dk_isWhole 26 = .ok (.iaload, 1) := by decide +kernel
theorem d_Dk_isWhole_27 : decode b_Dk_isWhole 27 = .ok (.if_icmp .ne 7, 3) := by decide +kernel
theorem d_Dk_isWhole_30 : decode b_Dk_isWhole 30 = .ok (.iconst 1, 1) := by decide +kernel
theorem d_Dk_isWhole_31 : decode b_Dk_isWhole 31 = .ok (.goto 4, 3) := by decide +kernel
theorem d_Dk_isWhole_34 : decode b_Dk_isWhole 34 = .ok (.iconst 0, 1) := by decide +kernel
theorem d_Dk_isWhole_35 : decode b_Dk_isWhole 35 = .ok (.ireturn, 1) := by decide +kernel
set_option maxHeartbeats 4000000 in
set_option maxRecDepth 100000 in
theorem c_Dk_isWhole {l : Launch} {G : Gx} {s0 : State} (C : Cx G s0) {B D0 ea : Nat} (hB : s0.heap.size ≤ B) (σ : Sg) (τ : Tt) (d : Nat) (hd : d < 3) (t : Nat) (ht : t + 4 < 720) : Ct l s0 (FC B D0) 0 0 0 y_Dk_isWhole b_Dk_isWhole 2 (some .boolean) [.ref (B + (2 + 2 * d)), .int (nI t)] (RepC G B D0 ea σ τ) (pI (fun r H => r = bI (whl σ (720 * d + t)) ∧ RepC G B D0 ea σ τ H)) := by
  refine Ct.of C (by decide) (Nat.le_of_ble_eq_true rfl) ?_
  intro pg ev s mm below meth cd V hr hlk hn hR ls hl
  have hx := V.1
  have hb := V.2.1
  have hS : va_S (FC B D0) s.heap s.heap [] := va_S.rf
  have hF : ∀ q, FC B D0 q → FC B D0 q := fun _ h => h
  have hA : ∀ q, FC B D0 q → s0.heap.size ≤ q := fun q h => by have := hR.1; rcases h with h | h <;> omega
  have hl : lv_has ls 2 [(0, .ref (B + (2 + 2 * d))), (1, .int (nI t))] := hl
  refine lv_aload_n hx hb d_Dk_isWhole_0 rfl (lv_at hl 0 rfl) ?_
  refine g_Dk_15 V (hR.2.2.1 _ hd).1 rfl d_Dk_isWhole_1 ?_
  refine lv_iload_n hx hb d_Dk_isWhole_4 rfl (lv_at hl 1 rfl) ?_
  refine lv_iconst (v := 0) hx hb d_Dk_isWhole_5 (by decide) ?_
  refine lv_iadd hx hb d_Dk_isWhole_6 ?_
  refine lv_tope (y := nI (t)) (ad_e (a := t) (b := 0) rfl (rfl : (0 : Int32) = nI 0)) ?_
  refine c_wld V hR hd (t) rfl (by omega) d_Dk_isWhole_7 ?_
  refine lv_if_eq (tgt := 34) hx hb d_Dk_isWhole_8 (by decide) (fun h8 => ?_) (fun h8 => ?_)
  · refine lv_iconst (v := 0) hx hb d_Dk_isWhole_34 (by decide) ?_
    exact e_z V hr hlk hS (Nat.le_refl _) (Nat.le_refl _) d_Dk_isWhole_35 (by decide) ⟨_, rfl, by simp [whl, bI, Nat.add_assoc, h8], hR⟩
  · refine lv_aload_n hx hb d_Dk_isWhole_11 rfl (lv_at hl 0 rfl) ?_
    refine g_Dk_15 V (hR.2.2.1 _ hd).1 rfl d_Dk_isWhole_12 ?_
    refine lv_iload_n hx hb d_Dk_isWhole_15 rfl (lv_at hl 1 rfl) ?_
    refine lv_iconst (v := 0) hx hb d_Dk_isWhole_16 (by decide) ?_
    refine lv_iadd hx hb d_Dk_isWhole_17 ?_
    refine lv_tope (y := nI (t)) (ad_e (a := t) (b := 0) rfl (rfl : (0 : Int32) = nI 0)) ?_
    refine c_wld V hR hd (t) rfl (by omega) d_Dk_isWhole_18 ?_
    refine lv_aload_n hx hb d_Dk_isWhole_19 rfl (lv_at hl 0 rfl) ?_
    refine g_Dk_15 V (hR.2.2.1 _ hd).1 rfl d_Dk_isWhole_20 ?_
    refine lv_iload_n hx hb d_Dk_isWhole_23 rfl (lv_at hl 1 rfl) ?_
    refine lv_iconst (v := 4) hx hb d_Dk_isWhole_24 (by decide) ?_
    refine lv_iadd hx hb d_Dk_isWhole_25 ?_
    refine lv_tope (y := nI (t + 4)) (ad_e (a := t) (b := 4) rfl (rfl : (4 : Int32) = nI 4)) ?_
    refine c_wld V hR hd (t + 4) rfl (by omega) d_Dk_isWhole_26 ?_
    refine lv_icmp_ne (tgt := 34) hx hb d_Dk_isWhole_27 (by decide) (fun h27 => ?_) (fun h27 => ?_)
    · refine lv_iconst (v := 0) hx hb d_Dk_isWhole_34 (by decide) ?_
      exact e_z V hr hlk hS (Nat.le_refl _) (Nat.le_refl _) d_Dk_isWhole_35 (by decide) ⟨_, rfl, by simp [whl, bI, Nat.add_assoc, h8, h27], hR⟩
    · refine lv_iconst (v := 1) hx hb d_Dk_isWhole_30 (by decide) ?_
      refine lv_goto (tgt := 35) hx hb d_Dk_isWhole_31 (by decide) ?_
      exact e_z V hr hlk hS (Nat.le_refl _) (Nat.le_refl _) d_Dk_isWhole_35 (by decide) ⟨_, rfl, by simp [whl, bI, Nat.add_assoc, h8, ← h27], hR⟩
theorem d_Dk_latest_0 : decode b_Dk_latest 0 = .ok (.iload_n 1, 1) := by decide +kernel
theorem d_Dk_latest_1 : decode b_Dk_latest 1 = .ok (.iconst 5, 1) := by decide +kernel
theorem d_Dk_latest_2 : decode b_Dk_latest 2 = .ok (.iadd, 1) := by decide +kernel
theorem d_Dk_latest_3 : decode b_Dk_latest 3 = .ok (.istore_n 2, 1) := by decide +kernel
theorem d_Dk_latest_4 : decode b_Dk_latest 4 = .ok (.aload_n 0, 1) := by decide +kernel
theorem d_Dk_latest_5 : decode b_Dk_latest 5 = .ok (.iload_n 1, 1) := by decide +kernel
theorem d_Dk_latest_6 : decode b_Dk_latest 6 = .ok (.invokevirtual 19, 3) := by decide +kernel
theorem d_Dk_latest_9 : decode b_Dk_latest 9 = .ok (.ifCond .ne 17, 3) := by decide +kernel
theorem d_Dk_latest_12 : decode b_Dk_latest 12 = .ok (.aload_n 0, 1) := by decide +kernel
theorem d_Dk_latest_13 : decode b_Dk_latest 13 = .ok (.iload_n 2, 1) := by decide +kernel
theorem d_Dk_latest_14 : decode b_Dk_latest 14 = .ok (.invokevirtual 19, 3) := by decide +kernel
theorem d_Dk_latest_17 : decode b_Dk_latest 17 = .ok (.ifCond .eq 7, 3) := by decide +kernel
theorem d_Dk_latest_20 : decode b_Dk_latest 20 = .ok (.iload_n 2, 1) := by decide +kernel
theorem d_Dk_latest_21 : decode b_Dk_latest 21 = .ok (.goto 4, 3) := by decide +kernel
theorem d_Dk_latest_24 : decode b_Dk_latest 24 = .ok (.iconst (-1), 1) := by decide +kernel
theorem d_Dk_latest_25 : decode b_Dk_latest 25 = .ok (.ireturn, 1) := by decide +kernel
theorem d_Dk_latest_26 : decode b_Dk_latest 26 = .ok (.aload_n 0, 1) := by decide +kernel
theorem d_Dk_latest_27 : decode b_Dk_latest 27 = .ok (.iload_n 2, 1) := by decide +kernel
theorem d_Dk_latest_28 : decode b_Dk_latest 28 = .ok (.invokevirtual 19, 3) := by decide +kernel
theorem d_Dk_latest_31 : decode b_Dk_latest 31 = .ok (.ifCond .eq 26, 3) := by decide +kernel
theorem d_Dk_latest_34 : decode b_Dk_latest 34 = .ok (.aload_n 0, 1) := by decide +kernel
theorem d_Dk_latest_35 : decode b_Dk_latest 35 = .ok (.getfield 15, 3) := by decide +kernel
theorem d_Dk_latest_38 : decode b_Dk_latest 38 = .ok (.iload_n 2, 1) := by decide +kernel
theorem d_Dk_latest_39 : decode b_Dk_latest 39 = .ok (.iconst 0, 1) := by decide +kernel
theorem d_Dk_latest_40 : decode b_Dk_latest 40 = .ok (.iadd, 1) := by decide +kernel
theorem d_Dk_latest_41 : decode b_Dk_latest 41 = .ok (.iaload, 1) := by decide +kernel
theorem d_Dk_latest_42 : decode b_Dk_latest 42 = .ok (.aload_n 0, 1) := by decide +kernel
theorem d_Dk_latest_43 : decode b_Dk_latest 43 = .ok (.getfield 15, 3) := by decide +kernel
theorem d_Dk_latest_46 : decode b_Dk_latest 46 = .ok (.iload_n 1, 1) := by decide +kernel
theorem d_Dk_latest_47 : decode b_Dk_latest 47 = .ok (.iconst 0, 1) := by decide +kernel
theorem d_Dk_latest_48 : decode b_Dk_latest 48 = .ok (.iadd, 1) := by decide +kernel
theorem d_Dk_latest_49 : decode b_Dk_latest 49 = .ok (.iaload, 1) := by decide +kernel
theorem d_Dk_latest_50 : decode b_Dk_latest 50 = .ok (.if_icmp .le 7, 3) := by decide +kernel
theorem d_Dk_latest_53 : decode b_Dk_latest 53 = .ok (.iload_n 2, 1) := by decide +kernel
theorem d_Dk_latest_54 : decode b_Dk_latest 54 = .ok (.goto 4, 3) := by decide +kernel
theorem d_Dk_latest_57 : decode b_Dk_latest 57 = .ok (.iload_n 1, 1) := by decide +kernel
theorem d_Dk_latest_58 : decode b_Dk_latest 58 = .ok (.ireturn, 1) := by decide +kernel
set_option maxHeartbeats 4000000 in
set_option maxRecDepth 100000 in
theorem c_Dk_latest {l : Launch} {G : Gx} {s0 : State} (C : Cx G s0) {B D0 ea : Nat} (hB : s0.heap.size ≤ B) (σ : Sg) (τ : Tt) (d : Nat) (hd : d < 3) (b : Nat) (hb9 : b + 9 < 720) : Ct l s0 (FC B D0) 1 0 0 y_Dk_latest b_Dk_latest 3 (some .int) [.ref (B + (2 + 2 * d)), .int (nI b)] (RepC G B D0 ea σ τ) (pI (fun r H => r = ltI σ d b ∧ RepC G B D0 ea σ τ H)) := by
  refine Ct.of C (by decide) (Nat.le_of_ble_eq_true rfl) ?_
  intro pg ev s mm below meth cd V hr hlk hn hR ls hl
  have hx := V.1
  have hb := V.2.1
  have hS : va_S (FC B D0) s.heap s.heap [] := va_S.rf
  have hF : ∀ q, FC B D0 q → FC B D0 q := fun _ h => h
  have hA : ∀ q, FC B D0 q → s0.heap.size ≤ q := fun q h => by have := hR.1; rcases h with h | h <;> omega
  have hl : lv_has ls 3 [(0, .ref (B + (2 + 2 * d))), (1, .int (nI b))] := hl
  refine lv_iload_n hx hb d_Dk_latest_0 rfl (lv_at hl 1 rfl) ?_
  refine lv_iconst (v := 5) hx hb d_Dk_latest_1 (by decide) ?_
  refine lv_iadd hx hb d_Dk_latest_2 ?_
  refine lv_tope (y := nI (b + 5)) (ad_e (a := b) (b := 5) rfl (rfl : (5 : Int32) = nI 5)) ?_
  refine lv_istore_n (lv' := [(2, .int (nI (b + 5))), (0, .ref (B + (2 + 2 * d))), (1, .int (nI b))]) hx hb d_Dk_latest_3 rfl hl (by decide) rfl (fun ls hl => ?_)
  refine lv_aload_n hx hb d_Dk_latest_4 rfl (lv_at hl 1 rfl) ?_
  refine lv_iload_n hx hb d_Dk_latest_5 rfl (lv_at hl 2 rfl) ?_
  refine g_callV (As := [.int (nI b)]) (rest := []) (A0 := FC B D0) V (c_Dk_isWhole C hB σ τ d hd (b) (by omega)) v_Dk_19 (hR.rDk V.2.2.2.2.2.1 hd) hR hS hA (fun _ h => h) ⟨by decide, by decide⟩ rfl hl (Nat.le_of_ble_eq_true rfl) d_Dk_latest_6 ⟨Nat.le_refl _, Nat.le_refl _⟩ (kI (fun r6 H locs hQ _ hS => ?_))
  obtain ⟨rfl, hR⟩ := hQ
  refine lv_if_ne (tgt := 26) hx hb d_Dk_latest_9 (by decide) (fun h9 => ?_) (fun h9 => ?_)
  · have h9 := bI_n0.mp h9
    refine lv_aload_n hx hb d_Dk_latest_26 rfl (lv_at hl 1 rfl) ?_
    refine lv_iload_n hx hb d_Dk_latest_27 rfl (lv_at hl 0 rfl) ?_
    refine g_callV (As := [.int (nI (b + 5))]) (rest := []) (A0 := FC B D0) V (c_Dk_isWhole C hB σ τ d hd (b + 5) (by omega)) v_Dk_19 (hR.rDk V.2.2.2.2.2.1 hd) hR hS hA (fun _ h => h) ⟨by decide, by decide⟩ rfl hl (Nat.le_of_ble_eq_true rfl) d_Dk_latest_28 ⟨Nat.le_refl _, Nat.le_refl _⟩ (kI (fun r28 H locs hQ _ hS => ?_))
    obtain ⟨rfl, hR⟩ := hQ
    refine lv_if_eq (tgt := 57) hx hb d_Dk_latest_31 (by decide) (fun h31 => ?_) (fun h31 => ?_)
    · have h31 := bI_0.mp h31
      refine lv_iload_n hx hb d_Dk_latest_57 rfl (lv_at hl 2 rfl) ?_
      exact e_i V hr hlk hS (Nat.le_refl _) (Nat.le_refl _) d_Dk_latest_58 ⟨_, rfl, by simp [ltI, h9, h31], hR⟩
    · have h31 := bI_n0.mp h31
      refine lv_aload_n hx hb d_Dk_latest_34 rfl (lv_at hl 1 rfl) ?_
      refine g_Dk_15 V (hR.2.2.1 _ hd).1 rfl d_Dk_latest_35 ?_
      refine lv_iload_n hx hb d_Dk_latest_38 rfl (lv_at hl 0 rfl) ?_
      refine lv_iconst (v := 0) hx hb d_Dk_latest_39 (by decide) ?_
      refine lv_iadd hx hb d_Dk_latest_40 ?_
      refine lv_tope (y := nI (b + 5)) (ad_e (a := b + 5) (b := 0) rfl (rfl : (0 : Int32) = nI 0)) ?_
      refine c_wld V hR hd (b + 5) rfl (by omega) d_Dk_latest_41 ?_
      refine lv_aload_n hx hb d_Dk_latest_42 rfl (lv_at hl 1 rfl) ?_
      refine g_Dk_15 V (hR.2.2.1 _ hd).1 rfl d_Dk_latest_43 ?_
      refine lv_iload_n hx hb d_Dk_latest_46 rfl (lv_at hl 2 rfl) ?_
      refine lv_iconst (v := 0) hx hb d_Dk_latest_47 (by decide) ?_
      refine lv_iadd hx hb d_Dk_latest_48 ?_
      refine lv_tope (y := nI (b)) (ad_e (a := b) (b := 0) rfl (rfl : (0 : Int32) = nI 0)) ?_
      refine c_wld V hR hd (b) rfl (by omega) d_Dk_latest_49 ?_
      refine lv_icmp_le (tgt := 57) hx hb d_Dk_latest_50 (by decide) (fun h50 => ?_) (fun h50 => ?_)
      · refine lv_iload_n hx hb d_Dk_latest_57 rfl (lv_at hl 2 rfl) ?_
        exact e_i V hr hlk hS (Nat.le_refl _) (Nat.le_refl _) d_Dk_latest_58 ⟨_, rfl, by simp [ltI, h9, h31, h50], hR⟩
      · refine lv_iload_n hx hb d_Dk_latest_53 rfl (lv_at hl 0 rfl) ?_
        refine lv_goto (tgt := 58) hx hb d_Dk_latest_54 (by decide) ?_
        exact e_i V hr hlk hS (Nat.le_refl _) (Nat.le_refl _) d_Dk_latest_58 ⟨_, rfl, by simp [ltI, h9, h31, h50], hR⟩
  · have h9 := bI_0.mp h9
    refine lv_aload_n hx hb d_Dk_latest_12 rfl (lv_at hl 1 rfl) ?_
    refine lv_iload_n hx hb d_Dk_latest_13 rfl (lv_at hl 0 rfl) ?_
    refine g_callV (As := [.int (nI (b + 5))]) (rest := []) (A0 := FC B D0) V (c_Dk_isWhole C hB σ τ d hd (b + 5) (by omega)) v_Dk_19 (hR.rDk V.2.2.2.2.2.1 hd) hR hS hA (fun _ h => h) ⟨by decide, by decide⟩ rfl hl (Nat.le_of_ble_eq_true rfl) d_Dk_latest_14 ⟨Nat.le_refl _, Nat.le_refl _⟩ (kI (fun r14 H locs hQ _ hS => ?_))
    obtain ⟨rfl, hR⟩ := hQ
    refine lv_if_eq (tgt := 24) hx hb d_Dk_latest_17 (by decide) (fun h17 => ?_) (fun h17 => ?_)
    · have h17 := bI_0.mp h17
      refine lv_iconst (v := -1) hx hb d_Dk_latest_24 (by decide) ?_
      exact e_i V hr hlk hS (Nat.le_refl _) (Nat.le_refl _) d_Dk_latest_25 ⟨_, rfl, by simp [ltI, h9, h17], hR⟩
    · have h17 := bI_n0.mp h17
      refine lv_iload_n hx hb d_Dk_latest_20 rfl (lv_at hl 0 rfl) ?_
      refine lv_goto (tgt := 25) hx hb d_Dk_latest_21 (by decide) ?_
      exact e_i V hr hlk hS (Nat.le_refl _) (Nat.le_refl _) d_Dk_latest_25 ⟨_, rfl, by simp [ltI, h9, h17], hR⟩
theorem d_Dr_serves_0 : decode b_Dr_serves 0 = .ok (.aload_n 0, 1) := by decide +kernel
theorem d_Dr_serves_1 : decode b_Dr_serves 1 = .ok (.getfield 15, 3) := by decide +kernel
theorem d_Dr_serves_4 : decode b_Dr_serves 4 = .ok (.iconst (-1), 1) := by decide +kernel
theorem d_Dr_serves_5 : decode b_Dr_serves 5 = .ok (.if_icmp .eq 11, 3) := by decide +kernel
theorem d_Dr_serves_8 : decode b_Dr_serves 8 = .ok (.aload_n 0, 1) := by decide +kernel
theorem d_Dr_serves_9 : decode b_Dr_serves 9 = .ok (.getfield 15, 3) := by decide +kernel
theorem d_Dr_serves_12 : decode b_Dr_serves 12 = .ok (.iload_n 1, 1) := by decide +kernel
theorem d_Dr_serves_13 : decode b_Dr_serves 13 = .ok (.if_icmp .ne 7, 3) := by decide +kernel
theorem d_Dr_serves_16 : decode b_Dr_serves 16 = .ok (.iconst 1, 1) := by decide +kernel
theorem d_Dr_serves_17 : decode b_Dr_serves 17 = .ok (.goto 4, 3) := by decide +kernel
theorem d_Dr_serves_20 : decode b_Dr_serves 20 = .ok (.iconst 0, 1) := by decide +kernel
theorem d_Dr_serves_21 : decode b_Dr_serves 21 = .ok (.ireturn, 1) := by decide +kernel
set_option maxHeartbeats 4000000 in
set_option maxRecDepth 100000 in
theorem c_Dr_serves {l : Launch} {G : Gx} {s0 : State} (C : Cx G s0) {B D0 ea : Nat} (hB : s0.heap.size ≤ B) (σ : Sg) (τ : Tt) (c : Nat) (hc : c < 3) (d : Nat) (hd : d < 3) (cl : Int32) : Ct l s0 (FC B D0) 0 0 0 y_Dr_serves b_Dr_serves 2 (some .boolean) [.ref (B + (15 + 9 * c + d)), .int (cl)] (RepC G B D0 ea σ τ) (pI (fun r H => r = bI (fr σ (3 * c + d) cl) ∧ RepC G B D0 ea σ τ H)) := by
  refine Ct.of C (by decide) (Nat.le_of_ble_eq_true rfl) ?_
  intro pg ev s mm below meth cd V hr hlk hn hR ls hl
  have hx := V.1
  have hb := V.2.1
  have hS : va_S (FC B D0) s.heap s.heap [] := va_S.rf
  have hF : ∀ q, FC B D0 q → FC B D0 q := fun _ h => h
  have hA : ∀ q, FC B D0 q → s0.heap.size ≤ q := fun q h => by have := hR.1; rcases h with h | h <;> omega
  have hl : lv_has ls 2 [(0, .ref (B + (15 + 9 * c + d))), (1, .int (cl))] := hl
  refine lv_aload_n hx hb d_Dr_serves_0 rfl (lv_at hl 0 rfl) ?_
  refine g_Dr_15 V ((hR.2.2.2 _ hc).2.2.1.2.2.2 _ hd) rfl d_Dr_serves_1 ?_
  refine lv_iconst (v := -1) hx hb d_Dr_serves_4 (by decide) ?_
  refine lv_icmp_eq (tgt := 16) hx hb d_Dr_serves_5 (by decide) (fun h5 => ?_) (fun h5 => ?_)
  · refine lv_iconst (v := 1) hx hb d_Dr_serves_16 (by decide) ?_
    refine lv_goto (tgt := 21) hx hb d_Dr_serves_17 (by decide) ?_
    exact e_z V hr hlk hS (Nat.le_refl _) (Nat.le_refl _) d_Dr_serves_21 (by decide) ⟨_, rfl, by simp [fr, bI, h5], hR⟩
  · refine lv_aload_n hx hb d_Dr_serves_8 rfl (lv_at hl 0 rfl) ?_
    refine g_Dr_15 V ((hR.2.2.2 _ hc).2.2.1.2.2.2 _ hd) rfl d_Dr_serves_9 ?_
    refine lv_iload_n hx hb d_Dr_serves_12 rfl (lv_at hl 1 rfl) ?_
    refine lv_icmp_ne (tgt := 20) hx hb d_Dr_serves_13 (by decide) (fun h13 => ?_) (fun h13 => ?_)
    · refine lv_iconst (v := 0) hx hb d_Dr_serves_20 (by decide) ?_
      exact e_z V hr hlk hS (Nat.le_refl _) (Nat.le_refl _) d_Dr_serves_21 (by decide) ⟨_, rfl, by simp [fr, bI, h5, h13], hR⟩
    · refine lv_iconst (v := 1) hx hb d_Dr_serves_16 (by decide) ?_
      refine lv_goto (tgt := 21) hx hb d_Dr_serves_17 (by decide) ?_
      exact e_z V hr hlk hS (Nat.le_refl _) (Nat.le_refl _) d_Dr_serves_21 (by decide) ⟨_, rfl, by simp [fr, bI, h5, ← h13], hR⟩
theorem d_Lb_allows_0 : decode b_Lb_allows 0 = .ok (.aload_n 0, 1) := by decide +kernel
theorem d_Lb_allows_1 : decode b_Lb_allows 1 = .ok (.getfield 18, 3) := by decide +kernel
theorem d_Lb_allows_4 : decode b_Lb_allows 4 = .ok (.iload_n 1, 1) := by decide +kernel
theorem d_Lb_allows_5 : decode b_Lb_allows 5 = .ok (.invokestatic 22, 3) := by decide +kernel
theorem d_Lb_allows_8 : decode b_Lb_allows 8 = .ok (.aaload, 1) := by decide +kernel
theorem d_Lb_allows_9 : decode b_Lb_allows 9 = .ok (.astore_n 2, 1) := by decide +kernel
theorem d_Lb_allows_10 : decode b_Lb_allows 10 = .ok (.aload_n 0, 1) := by decide +kernel
theorem d_Lb_allows_11 : decode b_Lb_allows 11 = .ok (.getfield 9, 3) := by decide +kernel
theorem d_Lb_allows_14 : decode b_Lb_allows 14 = .ok (.iload_n 1, 1) := by decide +kernel
theorem d_Lb_allows_15 : decode b_Lb_allows 15 = .ok (.invokestatic 26, 3) := by decide +kernel
theorem d_Lb_allows_18 : decode b_Lb_allows 18 = .ok (.iaload, 1) := by decide +kernel
theorem d_Lb_allows_19 : decode b_Lb_allows 19 = .ok (.istore_n 3, 1) := by decide +kernel
theorem d_Lb_allows_20 : decode b_Lb_allows 20 = .ok (.iload_n 1, 1) := by decide +kernel
theorem d_Lb_allows_21 : decode b_Lb_allows 21 = .ok (.invokestatic 29, 3) := by decide +kernel
theorem d_Lb_allows_24 : decode b_Lb_allows 24 = .ok (.tableswitch 168 0 6 #[44, 81, 106, 117, 128, 149, 154], 44) := by decide +kernel
theorem d_Lb_allows_68 : decode b_Lb_allows 68 = .ok (.iload_n 3, 1) := by decide +kernel
theorem d_Lb_allows_69 : decode b_Lb_allows 69 = .ok (.iconst 3, 1) := by decide +kernel
theorem d_Lb_allows_70 : decode b_Lb_allows 70 = .ok (.if_icmp .ne 33, 3) := by decide +kernel
theorem d_Lb_allows_73 : decode b_Lb_allows 73 = .ok (.aload_n 2, 1) := by decide +kernel
theorem d_Lb_allows_74 : decode b_Lb_allows 74 = .ok (.getfield 32, 3) := by decide +kernel
theorem d_Lb_allows_77 : decode b_Lb_allows 77 = .ok (.iconst (-1), 1) := by decide +kernel
theorem d_Lb_allows_78 : decode b_Lb_allows 78 = .ok (.if_icmp .ne 25, 3) := by decide +kernel
theorem d_Lb_allows_81 : decode b_Lb_allows 81 = .ok (.aload_n 2, 1) := by decide +kernel
theorem d_Lb_allows_82 : decode b_Lb_allows 82 = .ok (.getfield 36, 3) := by decide +kernel
theorem d_Lb_allows_85 : decode b_Lb_allows 85 = .ok (.ifCond .ne 18, 3) := by decide +kernel
theorem d_Lb_allows_88 : decode b_Lb_allows 88 = .ok (.aload_n 2, 1) := by decide +kernel
theorem d_Lb_allows_89 : decode b_Lb_allows 89 = .ok (.iload_n 1, 1) := by decide +kernel
theorem d_Lb_allows_90 : decode b_Lb_allows 90 = .ok (.invokestatic 40, 3) := by decide +kernel
theorem d_Lb_allows_93 : decode b_Lb_allows 93 = .ok (.invokevirtual 43, 3) := by decide +kernel
theorem d_Lb_allows_96 : decode b_Lb_allows 96 = .ok (.ifCond .eq 7, 3) := by decide +kernel
theorem d_Lb_allows_99 : decode b_Lb_allows 99 = .ok (.iconst 1, 1) := by decide +kernel
theorem d_Lb_allows_100 : decode b_Lb_allows 100 = .ok (.goto 4, 3) := by decide +kernel
theorem d_Lb_allows_103 : decode b_Lb_allows 103 = .ok (.iconst 0, 1) := by decide +kernel
theorem d_Lb_allows_104 : decode b_Lb_allows 104 = .ok (.ireturn, 1) := by decide +kernel
theorem d_Lb_allows_105 : decode b_Lb_allows 105 = .ok (.aload_n 2, 1) := by decide +kernel
theorem d_Lb_allows_106 : decode b_Lb_allows 106 = .ok (.getfield 32, 3) := by decide +kernel
theorem d_Lb_allows_109 : decode b_Lb_allows 109 = .ok (.iconst (-1), 1) := by decide +kernel
theorem d_Lb_allows_110 : decode b_Lb_allows 110 = .ok (.if_icmp .eq 18, 3) := by decide +kernel
theorem d_Lb_allows_113 : decode b_Lb_allows 113 = .ok (.aload_n 2, 1) := by decide +kernel
theorem d_Lb_allows_114 : decode b_Lb_allows 114 = .ok (.iload_n 1, 1) := by decide +kernel
theorem d_Lb_allows_115 : decode b_Lb_allows 115 = .ok (.invokestatic 40, 3) := by decide +kernel
theorem d_Lb_allows_118 : decode b_Lb_allows 118 = .ok (.invokevirtual 43, 3) := by decide +kernel
theorem d_Lb_allows_121 : decode b_Lb_allows 121 = .ok (.ifCond .eq 7, 3) := by decide +kernel
theorem d_Lb_allows_124 : decode b_Lb_allows 124 = .ok (.iconst 1, 1) := by decide +kernel
theorem d_Lb_allows_125 : decode b_Lb_allows 125 = .ok (.goto 4, 3) := by decide +kernel
theorem d_Lb_allows_128 : decode b_Lb_allows 128 = .ok (.iconst 0, 1) := by decide +kernel
theorem d_Lb_allows_129 : decode b_Lb_allows 129 = .ok (.ireturn, 1) := by decide +kernel
theorem d_Lb_allows_130 : decode b_Lb_allows 130 = .ok (.iload_n 3, 1) := by decide +kernel
theorem d_Lb_allows_131 : decode b_Lb_allows 131 = .ok (.iconst 3, 1) := by decide +kernel
theorem d_Lb_allows_132 : decode b_Lb_allows 132 = .ok (.if_icmp .ne 7, 3) := by decide +kernel
theorem d_Lb_allows_135 : decode b_Lb_allows 135 = .ok (.iconst 1, 1) := by decide +kernel
theorem d_Lb_allows_136 : decode b_Lb_allows 136 = .ok (.goto 4, 3) := by decide +kernel
theorem d_Lb_allows_139 : decode b_Lb_allows 139 = .ok (.iconst 0, 1) := by decide +kernel
theorem d_Lb_allows_140 : decode b_Lb_allows 140 = .ok (.ireturn, 1) := by decide +kernel
theorem d_Lb_allows_141 : decode b_Lb_allows 141 = .ok (.iload_n 3, 1) := by decide +kernel
theorem d_Lb_allows_142 : decode b_Lb_allows 142 = .ok (.iconst 4, 1) := by decide +kernel
theorem d_Lb_allows_143 : decode b_Lb_allows 143 = .ok (.if_icmp .ne 7, 3) := by decide +kernel
theorem d_Lb_allows_146 : decode b_Lb_allows 146 = .ok (.iconst 1, 1) := by decide +kernel
theorem d_Lb_allows_147 : decode b_Lb_allows 147 = .ok (.goto 4, 3) := by decide +kernel
theorem d_Lb_allows_150 : decode b_Lb_allows 150 = .ok (.iconst 0, 1) := by decide +kernel
theorem d_Lb_allows_151 : decode b_Lb_allows 151 = .ok (.ireturn, 1) := by decide +kernel
theorem d_Lb_allows_152 : decode b_Lb_allows 152 = .ok (.aload_n 2, 1) := by decide +kernel
theorem d_Lb_allows_153 : decode b_Lb_allows 153 = .ok (.getfield 36, 3) := by decide +kernel
theorem d_Lb_allows_156 : decode b_Lb_allows 156 = .ok (.ifCond .ne 15, 3) := by decide +kernel
theorem d_Lb_allows_159 : decode b_Lb_allows 159 = .ok (.aload_n 2, 1) := by decide +kernel
theorem d_Lb_allows_160 : decode b_Lb_allows 160 = .ok (.getfield 32, 3) := by decide +kernel
theorem d_Lb_allows_163 : decode b_Lb_allows 163 = .ok (.iconst (-1), 1) := by decide +kernel
theorem d_Lb_allows_164 : decode b_Lb_allows 164 = .ok (.if_icmp .ne 7, 3) := by decide +kernel
theorem d_Lb_allows_167 : decode b_Lb_allows 167 = .ok (.iconst 1, 1) := by decide +kernel
theorem d_Lb_allows_168 : decode b_Lb_allows 168 = .ok (.goto 4, 3) := by decide +kernel
theorem d_Lb_allows_171 : decode b_Lb_allows 171 = .ok (.iconst 0, 1) := by decide +kernel
theorem d_Lb_allows_172 : decode b_Lb_allows 172 = .ok (.ireturn, 1) := by decide +kernel
theorem d_Lb_allows_173 : decode b_Lb_allows 173 = .ok (.aload_n 2, 1) := by decide +kernel
theorem d_Lb_allows_174 : decode b_Lb_allows 174 = .ok (.getfield 36, 3) := by decide +kernel
theorem d_Lb_allows_177 : decode b_Lb_allows 177 = .ok (.ireturn, 1) := by decide +kernel
theorem d_Lb_allows_178 : decode b_Lb_allows 178 = .ok (.aload_n 2, 1) := by decide +kernel
theorem d_Lb_allows_179 : decode b_Lb_allows 179 = .ok (.getfield 47, 3) := by decide +kernel
theorem d_Lb_allows_182 : decode b_Lb_allows 182 = .ok (.iconst (-1), 1) := by decide +kernel
theorem d_Lb_allows_183 : decode b_Lb_allows 183 = .ok (.if_icmp .ne 7, 3) := by decide +kernel
theorem d_Lb_allows_186 : decode b_Lb_allows 186 = .ok (.iconst 1, 1) := by decide +kernel
theorem d_Lb_allows_187 : decode b_Lb_allows 187 = .ok (.goto 4, 3) := by decide +kernel
theorem d_Lb_allows_190 : decode b_Lb_allows 190 = .ok (.iconst 0, 1) := by decide +kernel
theorem d_Lb_allows_191 : decode b_Lb_allows 191 = .ok (.ireturn, 1) := by decide +kernel
theorem d_Lb_allows_192 : decode b_Lb_allows 192 = .ok (.aload_n 2, 1) := by decide +kernel
theorem d_Lb_allows_193 : decode b_Lb_allows 193 = .ok (.getfield 47, 3) := by decide +kernel
theorem d_Lb_allows_196 : decode b_Lb_allows 196 = .ok (.iload_n 1, 1) := by decide +kernel
theorem d_Lb_allows_197 : decode b_Lb_allows 197 = .ok (.invokestatic 40, 3) := by decide +kernel
theorem d_Lb_allows_200 : decode b_Lb_allows 200 = .ok (.if_icmp .ne 7, 3) := by decide +kernel
theorem d_Lb_allows_203 : decode b_Lb_allows 203 = .ok (.iconst 1, 1) := by decide +kernel
theorem d_Lb_allows_204 : decode b_Lb_allows 204 = .ok (.goto 4, 3) := by decide +kernel
theorem d_Lb_allows_207 : decode b_Lb_allows 207 = .ok (.iconst 0, 1) := by decide +kernel
theorem d_Lb_allows_208 : decode b_Lb_allows 208 = .ok (.ireturn, 1) := by decide +kernel
set_option maxHeartbeats 4000000 in
set_option maxRecDepth 100000 in
theorem c_Lb_allows {l : Launch} {G : Gx} {s0 : State} (C : Cx G s0) {B D0 ea : Nat} (hB : s0.heap.size ≤ B) (σ : Sg) (τ : Tt) (c : Nat) (hc : c < 3) (e : Int32) (hd : dN e < 3) (hz : σ 23 (3 * c + dN e) = 0 ∨ σ 23 (3 * c + dN e) = 1) : Ct l s0 (FC B D0) 1 0 0 y_Lb_allows b_Lb_allows 4 (some .boolean) [.ref (B + (12 + 9 * c)), .int (e)] (RepC G B D0 ea σ τ) (pI (fun r H => r = bI (alw σ c e) ∧ RepC G B D0 ea σ τ H)) := by
  refine Ct.of C (by decide) (Nat.le_of_ble_eq_true rfl) ?_
  intro pg ev s mm below meth cd V hr hlk hn hR ls hl
  have hx := V.1
  have hb := V.2.1
  have hS : va_S (FC B D0) s.heap s.heap [] := va_S.rf
  have hF : ∀ q, FC B D0 q → FC B D0 q := fun _ h => h
  have hA : ∀ q, FC B D0 q → s0.heap.size ≤ q := fun q h => by have := hR.1; rcases h with h | h <;> omega
  have hl : lv_has ls 4 [(0, .ref (B + (12 + 9 * c))), (1, .int (e))] := hl
  have hcn := cN_lt e
  refine lv_aload_n hx hb d_Lb_allows_0 rfl (lv_at hl 0 rfl) ?_
  refine g_Lb_18 V (hR.2.2.2 _ hc).2.2.1.1 rfl d_Lb_allows_1 ?_
  refine lv_iload_n hx hb d_Lb_allows_4 rfl (lv_at hl 1 rfl) ?_
  refine g_callSN (As := [.int (e)]) (rest := [.ref (B + (14 + 9 * c))]) (A0 := FC B D0) V (c_Da_drive C hB σ τ (e)) v_Lb_22 hR hS hA (fun _ h => h) ⟨by decide, by decide⟩ rfl hl (Nat.le_of_ble_eq_true rfl) d_Lb_allows_5 ⟨Nat.le_refl _, Nat.le_refl _⟩ (kI (fun r5 H locs hQ _ hS => ?_))
  obtain ⟨rfl, hR⟩ := hQ
  refine lv_tope (y := nI (dN e)) (eD_n e) ?_
  refine c_drv V hR hc (dN e) rfl hd d_Lb_allows_8 ?_
  refine lv_astore_n (lv' := [(2, .ref (B + (15 + 9 * c + dN e))), (0, .ref (B + (12 + 9 * c))), (1, .int (e))]) hx hb d_Lb_allows_9 rfl hl (by decide) rfl (fun ls hl => ?_)
  refine lv_aload_n hx hb d_Lb_allows_10 rfl (lv_at hl 1 rfl) ?_
  refine g_Lb_9 V (hR.2.2.2 _ hc).2.2.1.1 rfl d_Lb_allows_11 ?_
  refine lv_iload_n hx hb d_Lb_allows_14 rfl (lv_at hl 2 rfl) ?_
  refine g_callSN (As := [.int (e)]) (rest := [.ref (B + (13 + 9 * c))]) (A0 := FC B D0) V (c_Da_cartridge C hB σ τ (e)) v_Lb_26 hR hS hA (fun _ h => h) ⟨by decide, by decide⟩ rfl hl (Nat.le_of_ble_eq_true rfl) d_Lb_allows_15 ⟨Nat.le_refl _, Nat.le_refl _⟩ (kI (fun r15 H locs hQ _ hS => ?_))
  obtain ⟨rfl, hR⟩ := hQ
  refine lv_tope (y := nI (cN e)) (eC_n e) ?_
  refine c_hld V hR hc (cN e) rfl (by omega) d_Lb_allows_18 ?_
  refine lv_istore_n (lv' := [(3, .int (σ 21 (8 * c + cN e))), (2, .ref (B + (15 + 9 * c + dN e))), (0, .ref (B + (12 + 9 * c))), (1, .int (e))]) hx hb d_Lb_allows_19 rfl hl (by decide) rfl (fun ls hl => ?_)
  refine lv_iload_n hx hb d_Lb_allows_20 rfl (lv_at hl 3 rfl) ?_
  refine g_callSN (As := [.int (e)]) (rest := []) (A0 := FC B D0) V (c_Da_kind C hB σ τ (e)) v_Lb_29 hR hS hA (fun _ h => h) ⟨by decide, by decide⟩ rfl hl (Nat.le_of_ble_eq_true rfl) d_Lb_allows_21 ⟨Nat.le_refl _, Nat.le_refl _⟩ (kI (fun r21 H locs hQ _ hS => ?_))
  obtain ⟨rfl, hR⟩ := hQ
  rcases eK_c e with hk | hk | hk | hk | hk | hk | hk | hk
  · refine lv_tope hk ?_
    refine lv_tableIn (off := 44) (tgt := 68) hx hb d_Lb_allows_24 (by decide) (by decide) (by decide) (by decide) ?_
    refine lv_iload_n hx hb d_Lb_allows_68 rfl (lv_at hl 0 rfl) ?_
    refine lv_iconst (v := 3) hx hb d_Lb_allows_69 (by decide) ?_
    refine lv_icmp_ne (tgt := 103) hx hb d_Lb_allows_70 (by decide) (fun h70 => ?_) (fun h70 => ?_)
    · refine lv_iconst (v := 0) hx hb d_Lb_allows_103 (by decide) ?_
      exact e_z V hr hlk hS (Nat.le_refl _) (Nat.le_refl _) d_Lb_allows_104 (by decide) ⟨_, rfl, by simp [alw, bI, hk, h70], hR⟩
    · refine lv_aload_n hx hb d_Lb_allows_73 rfl (lv_at hl 1 rfl) ?_
      refine g_Lb_32 V ((hR.2.2.2 _ hc).2.2.1.2.2.2 _ hd) rfl d_Lb_allows_74 ?_
      refine lv_iconst (v := -1) hx hb d_Lb_allows_77 (by decide) ?_
      refine lv_icmp_ne (tgt := 103) hx hb d_Lb_allows_78 (by decide) (fun h78 => ?_) (fun h78 => ?_)
      · refine lv_iconst (v := 0) hx hb d_Lb_allows_103 (by decide) ?_
        exact e_z V hr hlk hS (Nat.le_refl _) (Nat.le_refl _) d_Lb_allows_104 (by decide) ⟨_, rfl, by simp [alw, bI, hk, h70, h78], hR⟩
      · refine lv_aload_n hx hb d_Lb_allows_81 rfl (lv_at hl 1 rfl) ?_
        refine g_Lb_36 V ((hR.2.2.2 _ hc).2.2.1.2.2.2 _ hd) rfl d_Lb_allows_82 ?_
        refine lv_if_ne (tgt := 103) hx hb d_Lb_allows_85 (by decide) (fun h85 => ?_) (fun h85 => ?_)
        · refine lv_iconst (v := 0) hx hb d_Lb_allows_103 (by decide) ?_
          exact e_z V hr hlk hS (Nat.le_refl _) (Nat.le_refl _) d_Lb_allows_104 (by decide) ⟨_, rfl, by simp [alw, bI, hk, h70, h78, h85], hR⟩
        · refine lv_aload_n hx hb d_Lb_allows_88 rfl (lv_at hl 1 rfl) ?_
          refine lv_iload_n hx hb d_Lb_allows_89 rfl (lv_at hl 3 rfl) ?_
          refine g_callSN (As := [.int (e)]) (rest := [.ref (B + (15 + 9 * c + dN e))]) (A0 := FC B D0) V (c_Da_client C hB σ τ (e)) v_Lb_40 hR hS hA (fun _ h => h) ⟨by decide, by decide⟩ rfl hl (Nat.le_of_ble_eq_true rfl) d_Lb_allows_90 ⟨Nat.le_refl _, Nat.le_refl _⟩ (kI (fun r90 H locs hQ _ hS => ?_))
          obtain ⟨rfl, hR⟩ := hQ
          refine g_callV (As := [.int (eL e)]) (rest := []) (A0 := FC B D0) V (c_Dr_serves C hB σ τ c hc (dN e) hd (eL e)) v_Lb_43 (hR.rDr V.2.2.2.2.2.1 hc hd) hR hS hA (fun _ h => h) ⟨by decide, by decide⟩ rfl hl (Nat.le_of_ble_eq_true rfl) d_Lb_allows_93 ⟨Nat.le_refl _, Nat.le_refl _⟩ (kI (fun r93 H locs hQ _ hS => ?_))
          obtain ⟨rfl, hR⟩ := hQ
          refine lv_if_eq (tgt := 103) hx hb d_Lb_allows_96 (by decide) (fun h96 => ?_) (fun h96 => ?_)
          · have h96 := bI_0.mp h96
            refine lv_iconst (v := 0) hx hb d_Lb_allows_103 (by decide) ?_
            exact e_z V hr hlk hS (Nat.le_refl _) (Nat.le_refl _) d_Lb_allows_104 (by decide) ⟨_, rfl, by simp [alw, bI, hk, h70, h78, h85, h96], hR⟩
          · have h96 := bI_n0.mp h96
            refine lv_iconst (v := 1) hx hb d_Lb_allows_99 (by decide) ?_
            refine lv_goto (tgt := 104) hx hb d_Lb_allows_100 (by decide) ?_
            exact e_z V hr hlk hS (Nat.le_refl _) (Nat.le_refl _) d_Lb_allows_104 (by decide) ⟨_, rfl, by simp [alw, bI, hk, h70, h78, h85, h96], hR⟩
  · refine lv_tope hk ?_
    refine lv_tableIn (off := 81) (tgt := 105) hx hb d_Lb_allows_24 (by decide) (by decide) (by decide) (by decide) ?_
    refine lv_aload_n hx hb d_Lb_allows_105 rfl (lv_at hl 1 rfl) ?_
    refine g_Lb_32 V ((hR.2.2.2 _ hc).2.2.1.2.2.2 _ hd) rfl d_Lb_allows_106 ?_
    refine lv_iconst (v := -1) hx hb d_Lb_allows_109 (by decide) ?_
    refine lv_icmp_eq (tgt := 128) hx hb d_Lb_allows_110 (by decide) (fun h110 => ?_) (fun h110 => ?_)
    · refine lv_iconst (v := 0) hx hb d_Lb_allows_128 (by decide) ?_
      exact e_z V hr hlk hS (Nat.le_refl _) (Nat.le_refl _) d_Lb_allows_129 (by decide) ⟨_, rfl, by simp [alw, bI, hk, h110], hR⟩
    · refine lv_aload_n hx hb d_Lb_allows_113 rfl (lv_at hl 1 rfl) ?_
      refine lv_iload_n hx hb d_Lb_allows_114 rfl (lv_at hl 3 rfl) ?_
      refine g_callSN (As := [.int (e)]) (rest := [.ref (B + (15 + 9 * c + dN e))]) (A0 := FC B D0) V (c_Da_client C hB σ τ (e)) v_Lb_40 hR hS hA (fun _ h => h) ⟨by decide, by decide⟩ rfl hl (Nat.le_of_ble_eq_true rfl) d_Lb_allows_115 ⟨Nat.le_refl _, Nat.le_refl _⟩ (kI (fun r115 H locs hQ _ hS => ?_))
      obtain ⟨rfl, hR⟩ := hQ
      refine g_callV (As := [.int (eL e)]) (rest := []) (A0 := FC B D0) V (c_Dr_serves C hB σ τ c hc (dN e) hd (eL e)) v_Lb_43 (hR.rDr V.2.2.2.2.2.1 hc hd) hR hS hA (fun _ h => h) ⟨by decide, by decide⟩ rfl hl (Nat.le_of_ble_eq_true rfl) d_Lb_allows_118 ⟨Nat.le_refl _, Nat.le_refl _⟩ (kI (fun r118 H locs hQ _ hS => ?_))
      obtain ⟨rfl, hR⟩ := hQ
      refine lv_if_eq (tgt := 128) hx hb d_Lb_allows_121 (by decide) (fun h121 => ?_) (fun h121 => ?_)
      · have h121 := bI_0.mp h121
        refine lv_iconst (v := 0) hx hb d_Lb_allows_128 (by decide) ?_
        exact e_z V hr hlk hS (Nat.le_refl _) (Nat.le_refl _) d_Lb_allows_129 (by decide) ⟨_, rfl, by simp [alw, bI, hk, h110, h121], hR⟩
      · have h121 := bI_n0.mp h121
        refine lv_iconst (v := 1) hx hb d_Lb_allows_124 (by decide) ?_
        refine lv_goto (tgt := 129) hx hb d_Lb_allows_125 (by decide) ?_
        exact e_z V hr hlk hS (Nat.le_refl _) (Nat.le_refl _) d_Lb_allows_129 (by decide) ⟨_, rfl, by simp [alw, bI, hk, h110, h121], hR⟩
  · refine lv_tope hk ?_
    refine lv_tableIn (off := 106) (tgt := 130) hx hb d_Lb_allows_24 (by decide) (by decide) (by decide) (by decide) ?_
    refine lv_iload_n hx hb d_Lb_allows_130 rfl (lv_at hl 0 rfl) ?_
    refine lv_iconst (v := 3) hx hb d_Lb_allows_131 (by decide) ?_
    refine lv_icmp_ne (tgt := 139) hx hb d_Lb_allows_132 (by decide) (fun h132 => ?_) (fun h132 => ?_)
    · refine lv_iconst (v := 0) hx hb d_Lb_allows_139 (by decide) ?_
      exact e_z V hr hlk hS (Nat.le_refl _) (Nat.le_refl _) d_Lb_allows_140 (by decide) ⟨_, rfl, by simp [alw, bI, hk, h132], hR⟩
    · refine lv_iconst (v := 1) hx hb d_Lb_allows_135 (by decide) ?_
      refine lv_goto (tgt := 140) hx hb d_Lb_allows_136 (by decide) ?_
      exact e_z V hr hlk hS (Nat.le_refl _) (Nat.le_refl _) d_Lb_allows_140 (by decide) ⟨_, rfl, by simp [alw, bI, hk, h132], hR⟩
  · refine lv_tope hk ?_
    refine lv_tableIn (off := 117) (tgt := 141) hx hb d_Lb_allows_24 (by decide) (by decide) (by decide) (by decide) ?_
    refine lv_iload_n hx hb d_Lb_allows_141 rfl (lv_at hl 0 rfl) ?_
    refine lv_iconst (v := 4) hx hb d_Lb_allows_142 (by decide) ?_
    refine lv_icmp_ne (tgt := 150) hx hb d_Lb_allows_143 (by decide) (fun h143 => ?_) (fun h143 => ?_)
    · refine lv_iconst (v := 0) hx hb d_Lb_allows_150 (by decide) ?_
      exact e_z V hr hlk hS (Nat.le_refl _) (Nat.le_refl _) d_Lb_allows_151 (by decide) ⟨_, rfl, by simp [alw, bI, hk, h143], hR⟩
    · refine lv_iconst (v := 1) hx hb d_Lb_allows_146 (by decide) ?_
      refine lv_goto (tgt := 151) hx hb d_Lb_allows_147 (by decide) ?_
      exact e_z V hr hlk hS (Nat.le_refl _) (Nat.le_refl _) d_Lb_allows_151 (by decide) ⟨_, rfl, by simp [alw, bI, hk, h143], hR⟩
  · refine lv_tope hk ?_
    refine lv_tableIn (off := 128) (tgt := 152) hx hb d_Lb_allows_24 (by decide) (by decide) (by decide) (by decide) ?_
    refine lv_aload_n hx hb d_Lb_allows_152 rfl (lv_at hl 1 rfl) ?_
    refine g_Lb_36 V ((hR.2.2.2 _ hc).2.2.1.2.2.2 _ hd) rfl d_Lb_allows_153 ?_
    refine lv_if_ne (tgt := 171) hx hb d_Lb_allows_156 (by decide) (fun h156 => ?_) (fun h156 => ?_)
    · refine lv_iconst (v := 0) hx hb d_Lb_allows_171 (by decide) ?_
      exact e_z V hr hlk hS (Nat.le_refl _) (Nat.le_refl _) d_Lb_allows_172 (by decide) ⟨_, rfl, by simp [alw, bI, hk, h156], hR⟩
    · refine lv_aload_n hx hb d_Lb_allows_159 rfl (lv_at hl 1 rfl) ?_
      refine g_Lb_32 V ((hR.2.2.2 _ hc).2.2.1.2.2.2 _ hd) rfl d_Lb_allows_160 ?_
      refine lv_iconst (v := -1) hx hb d_Lb_allows_163 (by decide) ?_
      refine lv_icmp_ne (tgt := 171) hx hb d_Lb_allows_164 (by decide) (fun h164 => ?_) (fun h164 => ?_)
      · refine lv_iconst (v := 0) hx hb d_Lb_allows_171 (by decide) ?_
        exact e_z V hr hlk hS (Nat.le_refl _) (Nat.le_refl _) d_Lb_allows_172 (by decide) ⟨_, rfl, by simp [alw, bI, hk, h156, h164], hR⟩
      · refine lv_iconst (v := 1) hx hb d_Lb_allows_167 (by decide) ?_
        refine lv_goto (tgt := 172) hx hb d_Lb_allows_168 (by decide) ?_
        exact e_z V hr hlk hS (Nat.le_refl _) (Nat.le_refl _) d_Lb_allows_172 (by decide) ⟨_, rfl, by simp [alw, bI, hk, h156, h164], hR⟩
  · refine lv_tope hk ?_
    refine lv_tableIn (off := 149) (tgt := 173) hx hb d_Lb_allows_24 (by decide) (by decide) (by decide) (by decide) ?_
    refine lv_aload_n hx hb d_Lb_allows_173 rfl (lv_at hl 1 rfl) ?_
    refine g_Lb_36 V ((hR.2.2.2 _ hc).2.2.1.2.2.2 _ hd) rfl d_Lb_allows_174 ?_
    exact e_z V hr hlk hS (Nat.le_refl _) (Nat.le_refl _) d_Lb_allows_177 hz ⟨_, rfl, by rcases hz with hz | hz <;> simp [alw, hk, bI, hz], hR⟩
  · refine lv_tope hk ?_
    refine lv_tableIn (off := 154) (tgt := 178) hx hb d_Lb_allows_24 (by decide) (by decide) (by decide) (by decide) ?_
    refine lv_aload_n hx hb d_Lb_allows_178 rfl (lv_at hl 1 rfl) ?_
    refine g_Lb_47 V ((hR.2.2.2 _ hc).2.2.1.2.2.2 _ hd) rfl d_Lb_allows_179 ?_
    refine lv_iconst (v := -1) hx hb d_Lb_allows_182 (by decide) ?_
    refine lv_icmp_ne (tgt := 190) hx hb d_Lb_allows_183 (by decide) (fun h183 => ?_) (fun h183 => ?_)
    · refine lv_iconst (v := 0) hx hb d_Lb_allows_190 (by decide) ?_
      exact e_z V hr hlk hS (Nat.le_refl _) (Nat.le_refl _) d_Lb_allows_191 (by decide) ⟨_, rfl, by simp [alw, bI, hk, h183], hR⟩
    · refine lv_iconst (v := 1) hx hb d_Lb_allows_186 (by decide) ?_
      refine lv_goto (tgt := 191) hx hb d_Lb_allows_187 (by decide) ?_
      exact e_z V hr hlk hS (Nat.le_refl _) (Nat.le_refl _) d_Lb_allows_191 (by decide) ⟨_, rfl, by simp [alw, bI, hk, h183], hR⟩
  · refine lv_tope hk ?_
    refine lv_tableOut (tgt := 192) hx hb d_Lb_allows_24 (by decide) (by decide) ?_
    refine lv_aload_n hx hb d_Lb_allows_192 rfl (lv_at hl 1 rfl) ?_
    refine g_Lb_47 V ((hR.2.2.2 _ hc).2.2.1.2.2.2 _ hd) rfl d_Lb_allows_193 ?_
    refine lv_iload_n hx hb d_Lb_allows_196 rfl (lv_at hl 3 rfl) ?_
    refine g_callSN (As := [.int (e)]) (rest := [.int (σ 24 (3 * c + dN e))]) (A0 := FC B D0) V (c_Da_client C hB σ τ (e)) v_Lb_40 hR hS hA (fun _ h => h) ⟨by decide, by decide⟩ rfl hl (Nat.le_of_ble_eq_true rfl) d_Lb_allows_197 ⟨Nat.le_refl _, Nat.le_refl _⟩ (kI (fun r197 H locs hQ _ hS => ?_))
    obtain ⟨rfl, hR⟩ := hQ
    refine lv_icmp_ne (tgt := 207) hx hb d_Lb_allows_200 (by decide) (fun h200 => ?_) (fun h200 => ?_)
    · refine lv_iconst (v := 0) hx hb d_Lb_allows_207 (by decide) ?_
      exact e_z V hr hlk hS (Nat.le_refl _) (Nat.le_refl _) d_Lb_allows_208 (by decide) ⟨_, rfl, by simp [alw, bI, hk, h200], hR⟩
    · refine lv_iconst (v := 1) hx hb d_Lb_allows_203 (by decide) ?_
      refine lv_goto (tgt := 208) hx hb d_Lb_allows_204 (by decide) ?_
      exact e_z V hr hlk hS (Nat.le_refl _) (Nat.le_refl _) d_Lb_allows_208 (by decide) ⟨_, rfl, by simp [alw, bI, hk, ← h200], hR⟩
theorem d_Lb_apply_0 : decode b_Lb_apply 0 = .ok (.aload_n 0, 1) := by decide +kernel
theorem d_Lb_apply_1 : decode b_Lb_apply 1 = .ok (.getfield 18, 3) := by decide +kernel
theorem d_Lb_apply_4 : decode b_Lb_apply 4 = .ok (.iload_n 1, 1) := by decide +kernel
theorem d_Lb_apply_5 : decode b_Lb_apply 5 = .ok (.invokestatic 22, 3) := by decide +kernel
theorem d_Lb_apply_8 : decode b_Lb_apply 8 = .ok (.aaload, 1) := by decide +kernel
theorem d_Lb_apply_9 : decode b_Lb_apply 9 = .ok (.astore_n 2, 1) := by decide +kernel
theorem d_Lb_apply_10 : decode b_Lb_apply 10 = .ok (.iload_n 1, 1) := by decide +kernel
theorem d_Lb_apply_11 : decode b_Lb_apply 11 = .ok (.invokestatic 29, 3) := by decide +kernel
theorem d_Lb_apply_14 : decode b_Lb_apply 14 = .ok (.tableswitch 126 0 5 #[38, 62, 80, 93, 106, 106], 38) := by decide +kernel
theorem d_Lb_apply_52 : decode b_Lb_apply 52 = .ok (.aload_n 2, 1) := by decide +kernel
theorem d_Lb_apply_53 : decode b_Lb_apply 53 = .ok (.iload_n 1, 1) := by decide +kernel
theorem d_Lb_apply_54 : decode b_Lb_apply 54 = .ok (.invokestatic 26, 3) := by decide +kernel
theorem d_Lb_apply_57 : decode b_Lb_apply 57 = .ok (.putfield 32, 3) := by decide +kernel
theorem d_Lb_apply_60 : decode b_Lb_apply 60 = .ok (.aload_n 0, 1) := by decide +kernel
theorem d_Lb_apply_61 : decode b_Lb_apply 61 = .ok (.getfield 9, 3) := by decide +kernel
theorem d_Lb_apply_64 : decode b_Lb_apply 64 = .ok (.aload_n 2, 1) := by decide +kernel
theorem d_Lb_apply_65 : decode b_Lb_apply 65 = .ok (.getfield 32, 3) := by decide +kernel
theorem d_Lb_apply_68 : decode b_Lb_apply 68 = .ok (.iload_n 1, 1) := by decide +kernel
theorem d_Lb_apply_69 : decode b_Lb_apply 69 = .ok (.invokestatic 22, 3) := by decide +kernel
theorem d_Lb_apply_72 : decode b_Lb_apply 72 = .ok (.iastore, 1) := by decide +kernel
theorem d_Lb_apply_73 : decode b_Lb_apply 73 = .ok (.goto 88, 3) := by decide +kernel
theorem d_Lb_apply_76 : decode b_Lb_apply 76 = .ok (.aload_n 0, 1) := by decide +kernel
theorem d_Lb_apply_77 : decode b_Lb_apply 77 = .ok (.getfield 9, 3) := by decide +kernel
theorem d_Lb_apply_80 : decode b_Lb_apply 80 = .ok (.aload_n 2, 1) := by decide +kernel
theorem d_Lb_apply_81 : decode b_Lb_apply 81 = .ok (.getfield 32, 3) := by decide +kernel
theorem d_Lb_apply_84 : decode b_Lb_apply 84 = .ok (.iconst 3, 1) := by decide +kernel
theorem d_Lb_apply_85 : decode b_Lb_apply 85 = .ok (.iastore, 1) := by decide +kernel
theorem d_Lb_apply_86 : decode b_Lb_apply 86 = .ok (.aload_n 2, 1) := by decide +kernel
theorem d_Lb_apply_87 : decode b_Lb_apply 87 = .ok (.iconst (-1), 1) := by decide +kernel
theorem d_Lb_apply_88 : decode b_Lb_apply 88 = .ok (.putfield 32, 3) := by decide +kernel
theorem d_Lb_apply_91 : decode b_Lb_apply 91 = .ok (.goto 70, 3) := by decide +kernel
theorem d_Lb_apply_94 : decode b_Lb_apply 94 = .ok (.aload_n 0, 1) := by decide +kernel
theorem d_Lb_apply_95 : decode b_Lb_apply 95 = .ok (.getfield 9, 3) := by decide +kernel
theorem d_Lb_apply_98 : decode b_Lb_apply 98 = .ok (.iload_n 1, 1) := by decide +kernel
theorem d_Lb_apply_99 : decode b_Lb_apply 99 = .ok (.invokestatic 26, 3) := by decide +kernel
theorem d_Lb_apply_102 : decode b_Lb_apply 102 = .ok (.iconst 4, 1) := by decide +kernel
theorem d_Lb_apply_103 : decode b_Lb_apply 103 = .ok (.iastore, 1) := by decide +kernel
theorem d_Lb_apply_104 : decode b_Lb_apply 104 = .ok (.goto 57, 3) := by decide +kernel
theorem d_Lb_apply_107 : decode b_Lb_apply 107 = .ok (.aload_n 0, 1) := by decide +kernel
theorem d_Lb_apply_108 : decode b_Lb_apply 108 = .ok (.getfield 9, 3) := by decide +kernel
theorem d_Lb_apply_111 : decode b_Lb_apply 111 = .ok (.iload_n 1, 1) := by decide +kernel
theorem d_Lb_apply_112 : decode b_Lb_apply 112 = .ok (.invokestatic 26, 3) := by decide +kernel
theorem d_Lb_apply_115 : decode b_Lb_apply 115 = .ok (.iconst 3, 1) := by decide +kernel
theorem d_Lb_apply_116 : decode b_Lb_apply 116 = .ok (.iastore, 1) := by decide +kernel
theorem d_Lb_apply_117 : decode b_Lb_apply 117 = .ok (.goto 44, 3) := by decide +kernel
theorem d_Lb_apply_120 : decode b_Lb_apply 120 = .ok (.aload_n 2, 1) := by decide +kernel
theorem d_Lb_apply_121 : decode b_Lb_apply 121 = .ok (.iload_n 1, 1) := by decide +kernel
theorem d_Lb_apply_122 : decode b_Lb_apply 122 = .ok (.invokestatic 29, 3) := by decide +kernel
theorem d_Lb_apply_125 : decode b_Lb_apply 125 = .ok (.iconst 4, 1) := by decide +kernel
theorem d_Lb_apply_126 : decode b_Lb_apply 126 = .ok (.if_icmp .ne 7, 3) := by decide +kernel
theorem d_Lb_apply_129 : decode b_Lb_apply 129 = .ok (.iconst 1, 1) := by decide +kernel
theorem d_Lb_apply_130 : decode b_Lb_apply 130 = .ok (.goto 4, 3) := by decide +kernel
theorem d_Lb_apply_133 : decode b_Lb_apply 133 = .ok (.iconst 0, 1) := by decide +kernel
theorem d_Lb_apply_134 : decode b_Lb_apply 134 = .ok (.putfield 36, 3) := by decide +kernel
theorem d_Lb_apply_137 : decode b_Lb_apply 137 = .ok (.goto 24, 3) := by decide +kernel
theorem d_Lb_apply_140 : decode b_Lb_apply 140 = .ok (.aload_n 2, 1) := by decide +kernel
theorem d_Lb_apply_141 : decode b_Lb_apply 141 = .ok (.iload_n 1, 1) := by decide +kernel
theorem d_Lb_apply_142 : decode b_Lb_apply 142 = .ok (.invokestatic 29, 3) := by decide +kernel
theorem d_Lb_apply_145 : decode b_Lb_apply 145 = .ok (.bipush 6, 2) := by decide +kernel
theorem d_Lb_apply_147 : decode b_Lb_apply 147 = .ok (.if_icmp .ne 10, 3) := by decide +kernel
theorem d_Lb_apply_150 : decode b_Lb_apply 150 = .ok (.iload_n 1, 1) := by decide +kernel
theorem d_Lb_apply_151 : decode b_Lb_apply 151 = .ok (.invokestatic 40, 3) := by decide +kernel
theorem d_Lb_apply_154 : decode b_Lb_apply 154 = .ok (.goto 4, 3) := by decide +kernel
theorem d_Lb_apply_157 : decode b_Lb_apply 157 = .ok (.iconst (-1), 1) := by decide +kernel
theorem d_Lb_apply_158 : decode b_Lb_apply 158 = .ok (.putfield 47, 3) := by decide +kernel
theorem d_Lb_apply_161 : decode b_Lb_apply 161 = .ok (.return_, 1) := by decide +kernel
set_option maxHeartbeats 4000000 in
set_option maxRecDepth 100000 in
theorem c_Lb_apply {l : Launch} {G : Gx} {s0 : State} (C : Cx G s0) {B D0 ea : Nat} (hB : s0.heap.size ≤ B) (σ : Sg) (τ : Tt) (c : Nat) (hc : c < 3) (e : Int32) (hd : dN e < 3) (hk1 : eK e = 1 → ∃ h, h < 8 ∧ σ 22 (3 * c + dN e) = nI h) : Ct l s0 (FC B D0) 1 0 0 y_Lb_apply b_Lb_apply 3 none [.ref (B + (12 + 9 * c)), .int (e)] (RepC G B D0 ea σ τ) (pV (RepC G B D0 ea (prf σ c e) τ)) := by
  refine Ct.of C (by decide) (Nat.le_of_ble_eq_true rfl) ?_
  intro pg ev s mm below meth cd V hr hlk hn hR ls hl
  have hx := V.1
  have hb := V.2.1
  have hS : va_S (FC B D0) s.heap s.heap [] := va_S.rf
  have hF : ∀ q, FC B D0 q → FC B D0 q := fun _ h => h
  have hA : ∀ q, FC B D0 q → s0.heap.size ≤ q := fun q h => by have := hR.1; rcases h with h | h <;> omega
  have hl : lv_has ls 3 [(0, .ref (B + (12 + 9 * c))), (1, .int (e))] := hl
  have hcn := cN_lt e
  refine lv_aload_n hx hb d_Lb_apply_0 rfl (lv_at hl 0 rfl) ?_
  refine g_Lb_18 V (hR.2.2.2 _ hc).2.2.1.1 rfl d_Lb_apply_1 ?_
  refine lv_iload_n hx hb d_Lb_apply_4 rfl (lv_at hl 1 rfl) ?_
  refine g_callSN (As := [.int (e)]) (rest := [.ref (B + (14 + 9 * c))]) (A0 := FC B D0) V (c_Da_drive C hB σ τ (e)) v_Lb_22 hR hS hA (fun _ h => h) ⟨by decide, by decide⟩ rfl hl (Nat.le_of_ble_eq_true rfl) d_Lb_apply_5 ⟨Nat.le_refl _, Nat.le_refl _⟩ (kI (fun r5 H locs hQ _ hS => ?_))
  obtain ⟨rfl, hR⟩ := hQ
  refine lv_tope (y := nI (dN e)) (eD_n e) ?_
  refine c_drv V hR hc (dN e) rfl hd d_Lb_apply_8 ?_
  refine lv_astore_n (lv' := [(2, .ref (B + (15 + 9 * c + dN e))), (0, .ref (B + (12 + 9 * c))), (1, .int (e))]) hx hb d_Lb_apply_9 rfl hl (by decide) rfl (fun ls hl => ?_)
  refine lv_iload_n hx hb d_Lb_apply_10 rfl (lv_at hl 2 rfl) ?_
  refine g_callSN (As := [.int (e)]) (rest := []) (A0 := FC B D0) V (c_Da_kind C hB σ τ (e)) v_Lb_29 hR hS hA (fun _ h => h) ⟨by decide, by decide⟩ rfl hl (Nat.le_of_ble_eq_true rfl) d_Lb_apply_11 ⟨Nat.le_refl _, Nat.le_refl _⟩ (kI (fun r11 H locs hQ _ hS => ?_))
  obtain ⟨rfl, hR⟩ := hQ
  rcases eK_c e with hk | hk | hk | hk | hk | hk | hk | hk
  · refine lv_tope hk ?_
    refine lv_tableIn (off := 38) (tgt := 52) hx hb d_Lb_apply_14 (by decide) (by decide) (by decide) (by decide) ?_
    refine lv_aload_n hx hb d_Lb_apply_52 rfl (lv_at hl 0 rfl) ?_
    refine lv_iload_n hx hb d_Lb_apply_53 rfl (lv_at hl 2 rfl) ?_
    refine g_callSN (As := [.int (e)]) (rest := [.ref (B + (15 + 9 * c + dN e))]) (A0 := FC B D0) V (c_Da_cartridge C hB σ τ (e)) v_Lb_26 hR hS hA (fun _ h => h) ⟨by decide, by decide⟩ rfl hl (Nat.le_of_ble_eq_true rfl) d_Lb_apply_54 ⟨Nat.le_refl _, Nat.le_refl _⟩ (kI (fun r54 H locs hQ _ hS => ?_))
    obtain ⟨rfl, hR⟩ := hQ
    refine lv_tope (y := nI (cN e)) (eC_n e) ?_
    refine q_Lb_32 V hR hS hF hc hd d_Lb_apply_57 (fun H locs hR hS => ?_)
    refine lv_aload_n hx hb d_Lb_apply_60 rfl (lv_at hl 1 rfl) ?_
    refine g_Lb_9 V (hR.2.2.2 _ hc).2.2.1.1 rfl d_Lb_apply_61 ?_
    refine lv_aload_n hx hb d_Lb_apply_64 rfl (lv_at hl 0 rfl) ?_
    refine g_Lb_32 V ((hR.2.2.2 _ hc).2.2.1.2.2.2 _ hd) rfl d_Lb_apply_65 ?_
    refine lv_tope (y := nI (cN e)) (by simp [up2, upd]) ?_
    refine lv_iload_n hx hb d_Lb_apply_68 rfl (lv_at hl 2 rfl) ?_
    refine g_callSN (As := [.int (e)]) (rest := [.int (nI (cN e)), .ref (B + (13 + 9 * c))]) (A0 := FC B D0) V (c_Da_drive C hB (up2 σ 22 (3 * c + dN e) (nI (cN e))) τ (e)) v_Lb_22 hR hS hA (fun _ h => h) ⟨by decide, by decide⟩ rfl hl (Nat.le_of_ble_eq_true rfl) d_Lb_apply_69 ⟨Nat.le_refl _, Nat.le_refl _⟩ (kI (fun r69 H locs hQ _ hS => ?_))
    obtain ⟨rfl, hR⟩ := hQ
    refine lv_tope (y := nI (dN e)) (eD_n e) ?_
    refine c_hst V hR hS hF hc (cN e) rfl (by omega) d_Lb_apply_72 (fun H locs hR hS => ?_)
    refine lv_goto (tgt := 161) hx hb d_Lb_apply_73 (by decide) ?_
    exact e_v V hr hlk hS (Nat.le_refl _) (Nat.le_refl _) d_Lb_apply_161 ⟨rfl, by rw [show prf σ c e = (up2 (up2 σ 22 (3 * c + dN e) (nI (cN e))) 21 (8 * c + cN e) (nI (dN e))) from by simp only [prf, hk, if_true]; exact up2_comm (by decide)]; exact hR⟩
  · refine lv_tope hk ?_
    refine lv_tableIn (off := 62) (tgt := 76) hx hb d_Lb_apply_14 (by decide) (by decide) (by decide) (by decide) ?_
    obtain ⟨h, h8, he⟩ := hk1 hk
    refine lv_aload_n hx hb d_Lb_apply_76 rfl (lv_at hl 1 rfl) ?_
    refine g_Lb_9 V (hR.2.2.2 _ hc).2.2.1.1 rfl d_Lb_apply_77 ?_
    refine lv_aload_n hx hb d_Lb_apply_80 rfl (lv_at hl 0 rfl) ?_
    refine g_Lb_32 V ((hR.2.2.2 _ hc).2.2.1.2.2.2 _ hd) rfl d_Lb_apply_81 ?_
    refine lv_tope (y := nI h) he ?_
    refine lv_iconst (v := 3) hx hb d_Lb_apply_84 (by decide) ?_
    refine c_hst V hR hS hF hc (h) rfl (by omega) d_Lb_apply_85 (fun H locs hR hS => ?_)
    refine lv_aload_n hx hb d_Lb_apply_86 rfl (lv_at hl 0 rfl) ?_
    refine lv_iconst (v := -1) hx hb d_Lb_apply_87 (by decide) ?_
    refine q_Lb_32 V hR hS hF hc hd d_Lb_apply_88 (fun H locs hR hS => ?_)
    refine lv_goto (tgt := 161) hx hb d_Lb_apply_91 (by decide) ?_
    exact e_v V hr hlk hS (Nat.le_refl _) (Nat.le_refl _) d_Lb_apply_161 ⟨rfl, by rw [show prf σ c e = (up2 (up2 σ 21 (8 * c + h) (3)) 22 (3 * c + dN e) (-1)) from by simp [prf, hN, he, hk, nI_clamp (show h < 2 ^ 31 by omega)]]; exact hR⟩
  · refine lv_tope hk ?_
    refine lv_tableIn (off := 80) (tgt := 94) hx hb d_Lb_apply_14 (by decide) (by decide) (by decide) (by decide) ?_
    refine lv_aload_n hx hb d_Lb_apply_94 rfl (lv_at hl 1 rfl) ?_
    refine g_Lb_9 V (hR.2.2.2 _ hc).2.2.1.1 rfl d_Lb_apply_95 ?_
    refine lv_iload_n hx hb d_Lb_apply_98 rfl (lv_at hl 2 rfl) ?_
    refine g_callSN (As := [.int (e)]) (rest := [.ref (B + (13 + 9 * c))]) (A0 := FC B D0) V (c_Da_cartridge C hB σ τ (e)) v_Lb_26 hR hS hA (fun _ h => h) ⟨by decide, by decide⟩ rfl hl (Nat.le_of_ble_eq_true rfl) d_Lb_apply_99 ⟨Nat.le_refl _, Nat.le_refl _⟩ (kI (fun r99 H locs hQ _ hS => ?_))
    obtain ⟨rfl, hR⟩ := hQ
    refine lv_tope (y := nI (cN e)) (eC_n e) ?_
    refine lv_iconst (v := 4) hx hb d_Lb_apply_102 (by decide) ?_
    refine c_hst V hR hS hF hc (cN e) rfl (by omega) d_Lb_apply_103 (fun H locs hR hS => ?_)
    refine lv_goto (tgt := 161) hx hb d_Lb_apply_104 (by decide) ?_
    exact e_v V hr hlk hS (Nat.le_refl _) (Nat.le_refl _) d_Lb_apply_161 ⟨rfl, by rw [show prf σ c e = (up2 σ 21 (8 * c + cN e) (4)) from by simp [prf, hk]]; exact hR⟩
  · refine lv_tope hk ?_
    refine lv_tableIn (off := 93) (tgt := 107) hx hb d_Lb_apply_14 (by decide) (by decide) (by decide) (by decide) ?_
    refine lv_aload_n hx hb d_Lb_apply_107 rfl (lv_at hl 1 rfl) ?_
    refine g_Lb_9 V (hR.2.2.2 _ hc).2.2.1.1 rfl d_Lb_apply_108 ?_
    refine lv_iload_n hx hb d_Lb_apply_111 rfl (lv_at hl 2 rfl) ?_
    refine g_callSN (As := [.int (e)]) (rest := [.ref (B + (13 + 9 * c))]) (A0 := FC B D0) V (c_Da_cartridge C hB σ τ (e)) v_Lb_26 hR hS hA (fun _ h => h) ⟨by decide, by decide⟩ rfl hl (Nat.le_of_ble_eq_true rfl) d_Lb_apply_112 ⟨Nat.le_refl _, Nat.le_refl _⟩ (kI (fun r112 H locs hQ _ hS => ?_))
    obtain ⟨rfl, hR⟩ := hQ
    refine lv_tope (y := nI (cN e)) (eC_n e) ?_
    refine lv_iconst (v := 3) hx hb d_Lb_apply_115 (by decide) ?_
    refine c_hst V hR hS hF hc (cN e) rfl (by omega) d_Lb_apply_116 (fun H locs hR hS => ?_)
    refine lv_goto (tgt := 161) hx hb d_Lb_apply_117 (by decide) ?_
    exact e_v V hr hlk hS (Nat.le_refl _) (Nat.le_refl _) d_Lb_apply_161 ⟨rfl, by rw [show prf σ c e = (up2 σ 21 (8 * c + cN e) (3)) from by simp [prf, hk]]; exact hR⟩
  · refine lv_tope hk ?_
    refine lv_tableIn (off := 106) (tgt := 120) hx hb d_Lb_apply_14 (by decide) (by decide) (by decide) (by decide) ?_
    refine lv_aload_n hx hb d_Lb_apply_120 rfl (lv_at hl 0 rfl) ?_
    refine lv_iload_n hx hb d_Lb_apply_121 rfl (lv_at hl 2 rfl) ?_
    refine g_callSN (As := [.int (e)]) (rest := [.ref (B + (15 + 9 * c + dN e))]) (A0 := FC B D0) V (c_Da_kind C hB σ τ (e)) v_Lb_29 hR hS hA (fun _ h => h) ⟨by decide, by decide⟩ rfl hl (Nat.le_of_ble_eq_true rfl) d_Lb_apply_122 ⟨Nat.le_refl _, Nat.le_refl _⟩ (kI (fun r122 H locs hQ _ hS => ?_))
    obtain ⟨rfl, hR⟩ := hQ
    refine lv_iconst (v := 4) hx hb d_Lb_apply_125 (by decide) ?_
    refine lv_icmp_ne (tgt := 133) hx hb d_Lb_apply_126 (by decide) (fun h126 => ?_) (fun h126 => ?_)
    · exact absurd hk h126
    · refine lv_iconst (v := 1) hx hb d_Lb_apply_129 (by decide) ?_
      refine lv_goto (tgt := 134) hx hb d_Lb_apply_130 (by decide) ?_
      refine q_Lb_36 V hR hS hF hc hd (by decide) d_Lb_apply_134 (fun H locs hR hS => ?_)
      refine lv_goto (tgt := 161) hx hb d_Lb_apply_137 (by decide) ?_
      exact e_v V hr hlk hS (Nat.le_refl _) (Nat.le_refl _) d_Lb_apply_161 ⟨rfl, by rw [show prf σ c e = (up2 σ 23 (3 * c + dN e) (1)) from by simp [prf, hk, h126]]; exact hR⟩
  · refine lv_tope hk ?_
    refine lv_tableIn (off := 106) (tgt := 120) hx hb d_Lb_apply_14 (by decide) (by decide) (by decide) (by decide) ?_
    refine lv_aload_n hx hb d_Lb_apply_120 rfl (lv_at hl 0 rfl) ?_
    refine lv_iload_n hx hb d_Lb_apply_121 rfl (lv_at hl 2 rfl) ?_
    refine g_callSN (As := [.int (e)]) (rest := [.ref (B + (15 + 9 * c + dN e))]) (A0 := FC B D0) V (c_Da_kind C hB σ τ (e)) v_Lb_29 hR hS hA (fun _ h => h) ⟨by decide, by decide⟩ rfl hl (Nat.le_of_ble_eq_true rfl) d_Lb_apply_122 ⟨Nat.le_refl _, Nat.le_refl _⟩ (kI (fun r122 H locs hQ _ hS => ?_))
    obtain ⟨rfl, hR⟩ := hQ
    refine lv_iconst (v := 4) hx hb d_Lb_apply_125 (by decide) ?_
    refine lv_icmp_ne (tgt := 133) hx hb d_Lb_apply_126 (by decide) (fun h126 => ?_) (fun h126 => ?_)
    · refine lv_iconst (v := 0) hx hb d_Lb_apply_133 (by decide) ?_
      refine q_Lb_36 V hR hS hF hc hd (by decide) d_Lb_apply_134 (fun H locs hR hS => ?_)
      refine lv_goto (tgt := 161) hx hb d_Lb_apply_137 (by decide) ?_
      exact e_v V hr hlk hS (Nat.le_refl _) (Nat.le_refl _) d_Lb_apply_161 ⟨rfl, by rw [show prf σ c e = (up2 σ 23 (3 * c + dN e) (0)) from by simp [prf, hk, h126]]; exact hR⟩
    · exact absurd (hk.symm.trans h126) (by decide)
  · refine lv_tope hk ?_
    refine lv_tableOut (tgt := 140) hx hb d_Lb_apply_14 (by decide) (by decide) ?_
    refine lv_aload_n hx hb d_Lb_apply_140 rfl (lv_at hl 0 rfl) ?_
    refine lv_iload_n hx hb d_Lb_apply_141 rfl (lv_at hl 2 rfl) ?_
    refine g_callSN (As := [.int (e)]) (rest := [.ref (B + (15 + 9 * c + dN e))]) (A0 := FC B D0) V (c_Da_kind C hB σ τ (e)) v_Lb_29 hR hS hA (fun _ h => h) ⟨by decide, by decide⟩ rfl hl (Nat.le_of_ble_eq_true rfl) d_Lb_apply_142 ⟨Nat.le_refl _, Nat.le_refl _⟩ (kI (fun r142 H locs hQ _ hS => ?_))
    obtain ⟨rfl, hR⟩ := hQ
    refine lv_bipush (v := 6) hx hb d_Lb_apply_145 (by decide) ?_
    refine lv_icmp_ne (tgt := 157) hx hb d_Lb_apply_147 (by decide) (fun h147 => ?_) (fun h147 => ?_)
    · exact absurd hk h147
    · refine lv_iload_n hx hb d_Lb_apply_150 rfl (lv_at hl 2 rfl) ?_
      refine g_callSN (As := [.int (e)]) (rest := [.ref (B + (15 + 9 * c + dN e))]) (A0 := FC B D0) V (c_Da_client C hB σ τ (e)) v_Lb_40 hR hS hA (fun _ h => h) ⟨by decide, by decide⟩ rfl hl (Nat.le_of_ble_eq_true rfl) d_Lb_apply_151 ⟨Nat.le_refl _, Nat.le_refl _⟩ (kI (fun r151 H locs hQ _ hS => ?_))
      obtain ⟨rfl, hR⟩ := hQ
      refine lv_goto (tgt := 158) hx hb d_Lb_apply_154 (by decide) ?_
      refine q_Lb_47 V hR hS hF hc hd d_Lb_apply_158 (fun H locs hR hS => ?_)
      exact e_v V hr hlk hS (Nat.le_refl _) (Nat.le_refl _) d_Lb_apply_161 ⟨rfl, by rw [show prf σ c e = (up2 σ 24 (3 * c + dN e) (eL e)) from by simp [prf, hk, h147]]; exact hR⟩
  · refine lv_tope hk ?_
    refine lv_tableOut (tgt := 140) hx hb d_Lb_apply_14 (by decide) (by decide) ?_
    refine lv_aload_n hx hb d_Lb_apply_140 rfl (lv_at hl 0 rfl) ?_
    refine lv_iload_n hx hb d_Lb_apply_141 rfl (lv_at hl 2 rfl) ?_
    refine g_callSN (As := [.int (e)]) (rest := [.ref (B + (15 + 9 * c + dN e))]) (A0 := FC B D0) V (c_Da_kind C hB σ τ (e)) v_Lb_29 hR hS hA (fun _ h => h) ⟨by decide, by decide⟩ rfl hl (Nat.le_of_ble_eq_true rfl) d_Lb_apply_142 ⟨Nat.le_refl _, Nat.le_refl _⟩ (kI (fun r142 H locs hQ _ hS => ?_))
    obtain ⟨rfl, hR⟩ := hQ
    refine lv_bipush (v := 6) hx hb d_Lb_apply_145 (by decide) ?_
    refine lv_icmp_ne (tgt := 157) hx hb d_Lb_apply_147 (by decide) (fun h147 => ?_) (fun h147 => ?_)
    · refine lv_iconst (v := -1) hx hb d_Lb_apply_157 (by decide) ?_
      refine q_Lb_47 V hR hS hF hc hd d_Lb_apply_158 (fun H locs hR hS => ?_)
      exact e_v V hr hlk hS (Nat.le_refl _) (Nat.le_refl _) d_Lb_apply_161 ⟨rfl, by rw [show prf σ c e = (up2 σ 24 (3 * c + dN e) (-1)) from by simp [prf, hk, h147]]; exact hR⟩
    · exact absurd (hk.symm.trans h147) (by decide)
