abbrev b_Mo_init : ByteArray := prog_8_method_1_code
abbrev y_Mo_init : MethodName := ⟨"DiskArbitersModel", "<init>", "()V"⟩
abbrev b_Mo_thrown : ByteArray := prog_8_method_2_code
abbrev y_Mo_thrown : MethodName := ⟨"DiskArbitersModel", "thrown", "()I"⟩
abbrev b_Mo_want : ByteArray := prog_8_method_10_code
abbrev y_Mo_want : MethodName := ⟨"DiskArbitersModel", "want", "(IIIII)I"⟩
abbrev b_Mo_isOne : ByteArray := prog_8_method_3_code
abbrev y_Mo_isOne : MethodName := ⟨"DiskArbitersModel", "isOne", "(I)Z"⟩
abbrev b_Mo_waiting : ByteArray := prog_8_method_8_code
abbrev y_Mo_waiting : MethodName := ⟨"DiskArbitersModel", "waiting", "(I)I"⟩
abbrev b_Mo_step : ByteArray := prog_8_method_21_code
abbrev y_Mo_step : MethodName := ⟨"DiskArbitersModel", "step", "(I)I"⟩
abbrev b_Mo_begin : ByteArray := prog_8_method_17_code
abbrev y_Mo_begin : MethodName := ⟨"DiskArbitersModel", "begin", "(I)I"⟩
abbrev b_Mo_firstWish : ByteArray := prog_8_method_9_code
abbrev y_Mo_firstWish : MethodName := ⟨"DiskArbitersModel", "firstWish", "(I)I"⟩
abbrev b_Mo_isAllowed : ByteArray := prog_8_method_6_code
abbrev y_Mo_isAllowed : MethodName := ⟨"DiskArbitersModel", "isAllowed", "(II)Z"⟩
abbrev b_Mo_kindOf : ByteArray := prog_8_method_4_code
abbrev y_Mo_kindOf : MethodName := ⟨"DiskArbitersModel", "kindOf", "(I)I"⟩
abbrev b_Mo_isFree : ByteArray := prog_8_method_5_code
abbrev y_Mo_isFree : MethodName := ⟨"DiskArbitersModel", "isFree", "(II)Z"⟩
abbrev b_Mo_enter : ByteArray := prog_8_method_15_code
abbrev y_Mo_enter : MethodName := ⟨"DiskArbitersModel", "enter", "(II)V"⟩
abbrev b_Mo_goOn : ByteArray := prog_8_method_16_code
abbrev y_Mo_goOn : MethodName := ⟨"DiskArbitersModel", "goOn", "(I)V"⟩
abbrev b_Mo_write : ByteArray := prog_8_method_14_code
abbrev y_Mo_write : MethodName := ⟨"DiskArbitersModel", "write", "(II)V"⟩
abbrev b_Mo_block : ByteArray := prog_8_method_11_code
abbrev y_Mo_block : MethodName := ⟨"DiskArbitersModel", "block", "(III)I"⟩
abbrev b_Mo_newest : ByteArray := prog_8_method_13_code
abbrev y_Mo_newest : MethodName := ⟨"DiskArbitersModel", "newest", "(I)I"⟩
abbrev b_Mo_isWhole : ByteArray := prog_8_method_12_code
abbrev y_Mo_isWhole : MethodName := ⟨"DiskArbitersModel", "isWhole", "(I)Z"⟩
abbrev b_Mo_readNext : ByteArray := prog_8_method_18_code
abbrev y_Mo_readNext : MethodName := ⟨"DiskArbitersModel", "readNext", "(I)I"⟩
abbrev b_Mo_choose : ByteArray := prog_8_method_19_code
abbrev y_Mo_choose : MethodName := ⟨"DiskArbitersModel", "choose", "(I)I"⟩
abbrev b_Mo_put : ByteArray := prog_8_method_20_code
abbrev y_Mo_put : MethodName := ⟨"DiskArbitersModel", "put", "(I)I"⟩
abbrev b_Mo_perform : ByteArray := prog_8_method_7_code
abbrev y_Mo_perform : MethodName := ⟨"DiskArbitersModel", "perform", "(II)V"⟩
abbrev b_Mo_disk : ByteArray := prog_8_method_22_code
abbrev y_Mo_disk : MethodName := ⟨"DiskArbitersModel", "disk", "(IZ)Z"⟩
abbrev b_Mo_tear : ByteArray := prog_8_method_23_code
abbrev y_Mo_tear : MethodName := ⟨"DiskArbitersModel", "tear", "(II)Z"⟩
abbrev b_Mo_crash : ByteArray := prog_8_method_24_code
abbrev y_Mo_crash : MethodName := ⟨"DiskArbitersModel", "crash", "(I)Z"⟩
abbrev b_Mo_restart : ByteArray := prog_8_method_25_code
abbrev y_Mo_restart : MethodName := ⟨"DiskArbitersModel", "restart", "(I)Z"⟩
abbrev b_Mo_log : ByteArray := prog_8_method_26_code
abbrev y_Mo_log : MethodName := ⟨"DiskArbitersModel", "log", "(I)I"⟩
abbrev b_Mo_entry : ByteArray := prog_8_method_27_code
abbrev y_Mo_entry : MethodName := ⟨"DiskArbitersModel", "entry", "(II)I"⟩
abbrev b_Mo_outcome : ByteArray := prog_8_method_28_code
abbrev y_Mo_outcome : MethodName := ⟨"DiskArbitersModel", "outcome", "(II)I"⟩
abbrev b_Mo_holds : ByteArray := prog_8_method_29_code
abbrev y_Mo_holds : MethodName := ⟨"DiskArbitersModel", "holds", "(II)I"⟩
abbrev b_Mo_where : ByteArray := prog_8_method_30_code
abbrev y_Mo_where : MethodName := ⟨"DiskArbitersModel", "where", "(II)I"⟩
abbrev b_Mo_reserved : ByteArray := prog_8_method_31_code
abbrev y_Mo_reserved : MethodName := ⟨"DiskArbitersModel", "reserved", "(II)I"⟩
abbrev b_Mo_phase : ByteArray := prog_8_method_32_code
abbrev y_Mo_phase : MethodName := ⟨"DiskArbitersModel", "phase", "(I)I"⟩
abbrev b_Mo_round : ByteArray := prog_8_method_33_code
abbrev y_Mo_round : MethodName := ⟨"DiskArbitersModel", "round", "(I)I"⟩
abbrev b_Mo_vote : ByteArray := prog_8_method_34_code
abbrev y_Mo_vote : MethodName := ⟨"DiskArbitersModel", "vote", "(IZ)I"⟩
abbrev b_Mo_word : ByteArray := prog_8_method_35_code
abbrev y_Mo_word : MethodName := ⟨"DiskArbitersModel", "word", "(IIII)I"⟩
abbrev b_Mo_accesses : ByteArray := prog_8_method_36_code
abbrev y_Mo_accesses : MethodName := ⟨"DiskArbitersModel", "accesses", "(I)I"⟩
theorem v_Mo_95 : CS "DiskArbitersModel" 95 y_Mo_isOne b_Mo_isOne 1 (some .boolean) 1 := ⟨⟨List.mem_of_getElem? (i := 863) (by decide +kernel), List.mem_of_getElem? (i := 37) (by decide +kernel), List.mem_of_getElem? (i := 861) (by decide +kernel)⟩, List.mem_of_getElem? (i := 862) (by decide +kernel), by decide, by decide, by decide +kernel⟩
theorem v_Mo_99 : CV "DiskArbitersModel" 99 y_Mo_waiting b_Mo_waiting 4 (some .int) 1 := ⟨⟨List.mem_of_getElem? (i := 867) (by decide +kernel), List.mem_of_getElem? (i := 37) (by decide +kernel), List.mem_of_getElem? (i := 864) (by decide +kernel)⟩, ⟨List.mem_of_getElem? (i := 866) (by decide +kernel), List.mem_of_getElem? (i := 14) (by decide +kernel)⟩, by decide, by decide, by decide +kernel⟩
theorem v_Mo_135 : CV "DiskArbitersModel" 135 y_Mo_begin b_Mo_begin 5 (some .int) 1 := ⟨⟨List.mem_of_getElem? (i := 875) (by decide +kernel), List.mem_of_getElem? (i := 37) (by decide +kernel), List.mem_of_getElem? (i := 872) (by decide +kernel)⟩, ⟨List.mem_of_getElem? (i := 874) (by decide +kernel), List.mem_of_getElem? (i := 15) (by decide +kernel)⟩, by decide, by decide, by decide +kernel⟩
theorem v_Mo_112 : CV "DiskArbitersModel" 112 y_Mo_firstWish b_Mo_firstWish 3 (some .int) 1 := ⟨⟨List.mem_of_getElem? (i := 879) (by decide +kernel), List.mem_of_getElem? (i := 37) (by decide +kernel), List.mem_of_getElem? (i := 876) (by decide +kernel)⟩, ⟨List.mem_of_getElem? (i := 878) (by decide +kernel), List.mem_of_getElem? (i := 16) (by decide +kernel)⟩, by decide, by decide, by decide +kernel⟩
theorem v_Mo_115 : CV "DiskArbitersModel" 115 y_Mo_isAllowed b_Mo_isAllowed 6 (some .boolean) 2 := ⟨⟨List.mem_of_getElem? (i := 883) (by decide +kernel), List.mem_of_getElem? (i := 37) (by decide +kernel), List.mem_of_getElem? (i := 880) (by decide +kernel)⟩, ⟨List.mem_of_getElem? (i := 882) (by decide +kernel), List.mem_of_getElem? (i := 17) (by decide +kernel)⟩, by decide, by decide, by decide +kernel⟩
theorem v_Mo_87 : CS "DiskArbitersModel" 87 y_Mo_kindOf b_Mo_kindOf 1 (some .int) 1 := ⟨⟨List.mem_of_getElem? (i := 886) (by decide +kernel), List.mem_of_getElem? (i := 37) (by decide +kernel), List.mem_of_getElem? (i := 884) (by decide +kernel)⟩, List.mem_of_getElem? (i := 885) (by decide +kernel), by decide, by decide, by decide +kernel⟩
theorem v_Mo_91 : CV "DiskArbitersModel" 91 y_Mo_isFree b_Mo_isFree 3 (some .boolean) 2 := ⟨⟨List.mem_of_getElem? (i := 890) (by decide +kernel), List.mem_of_getElem? (i := 37) (by decide +kernel), List.mem_of_getElem? (i := 887) (by decide +kernel)⟩, ⟨List.mem_of_getElem? (i := 889) (by decide +kernel), List.mem_of_getElem? (i := 18) (by decide +kernel)⟩, by decide, by decide, by decide +kernel⟩
theorem v_Mo_118 : CV "DiskArbitersModel" 118 y_Mo_enter b_Mo_enter 3 none 2 := ⟨⟨List.mem_of_getElem? (i := 894) (by decide +kernel), List.mem_of_getElem? (i := 37) (by decide +kernel), List.mem_of_getElem? (i := 891) (by decide +kernel)⟩, ⟨List.mem_of_getElem? (i := 893) (by decide +kernel), List.mem_of_getElem? (i := 19) (by decide +kernel)⟩, by decide, by decide, by decide +kernel⟩
theorem v_Mo_128 : CV "DiskArbitersModel" 128 y_Mo_goOn b_Mo_goOn 2 none 1 := ⟨⟨List.mem_of_getElem? (i := 898) (by decide +kernel), List.mem_of_getElem? (i := 37) (by decide +kernel), List.mem_of_getElem? (i := 895) (by decide +kernel)⟩, ⟨List.mem_of_getElem? (i := 897) (by decide +kernel), List.mem_of_getElem? (i := 20) (by decide +kernel)⟩, by decide, by decide, by decide +kernel⟩
theorem v_Mo_138 : CV "DiskArbitersModel" 138 y_Mo_write b_Mo_write 8 none 2 := ⟨⟨List.mem_of_getElem? (i := 902) (by decide +kernel), List.mem_of_getElem? (i := 37) (by decide +kernel), List.mem_of_getElem? (i := 899) (by decide +kernel)⟩, ⟨List.mem_of_getElem? (i := 901) (by decide +kernel), List.mem_of_getElem? (i := 21) (by decide +kernel)⟩, by decide, by decide, by decide +kernel⟩
theorem v_Mo_105 : CS "DiskArbitersModel" 105 y_Mo_block b_Mo_block 3 (some .int) 3 := ⟨⟨List.mem_of_getElem? (i := 905) (by decide +kernel), List.mem_of_getElem? (i := 37) (by decide +kernel), List.mem_of_getElem? (i := 903) (by decide +kernel)⟩, List.mem_of_getElem? (i := 904) (by decide +kernel), by decide, by decide, by decide +kernel⟩
theorem v_Mo_109 : CV "DiskArbitersModel" 109 y_Mo_newest b_Mo_newest 4 (some .int) 1 := ⟨⟨List.mem_of_getElem? (i := 909) (by decide +kernel), List.mem_of_getElem? (i := 37) (by decide +kernel), List.mem_of_getElem? (i := 906) (by decide +kernel)⟩, ⟨List.mem_of_getElem? (i := 908) (by decide +kernel), List.mem_of_getElem? (i := 22) (by decide +kernel)⟩, by decide, by decide, by decide +kernel⟩
theorem v_Mo_102 : CV "DiskArbitersModel" 102 y_Mo_isWhole b_Mo_isWhole 2 (some .boolean) 1 := ⟨⟨List.mem_of_getElem? (i := 913) (by decide +kernel), List.mem_of_getElem? (i := 37) (by decide +kernel), List.mem_of_getElem? (i := 910) (by decide +kernel)⟩, ⟨List.mem_of_getElem? (i := 912) (by decide +kernel), List.mem_of_getElem? (i := 23) (by decide +kernel)⟩, by decide, by decide, by decide +kernel⟩
theorem v_Mo_141 : CV "DiskArbitersModel" 141 y_Mo_readNext b_Mo_readNext 6 (some .int) 1 := ⟨⟨List.mem_of_getElem? (i := 917) (by decide +kernel), List.mem_of_getElem? (i := 37) (by decide +kernel), List.mem_of_getElem? (i := 914) (by decide +kernel)⟩, ⟨List.mem_of_getElem? (i := 916) (by decide +kernel), List.mem_of_getElem? (i := 24) (by decide +kernel)⟩, by decide, by decide, by decide +kernel⟩
theorem v_Mo_122 : CV "DiskArbitersModel" 122 y_Mo_choose b_Mo_choose 2 (some .int) 1 := ⟨⟨List.mem_of_getElem? (i := 921) (by decide +kernel), List.mem_of_getElem? (i := 37) (by decide +kernel), List.mem_of_getElem? (i := 918) (by decide +kernel)⟩, ⟨List.mem_of_getElem? (i := 920) (by decide +kernel), List.mem_of_getElem? (i := 25) (by decide +kernel)⟩, by decide, by decide, by decide +kernel⟩
theorem v_Mo_125 : CV "DiskArbitersModel" 125 y_Mo_put b_Mo_put 3 (some .int) 1 := ⟨⟨List.mem_of_getElem? (i := 925) (by decide +kernel), List.mem_of_getElem? (i := 37) (by decide +kernel), List.mem_of_getElem? (i := 922) (by decide +kernel)⟩, ⟨List.mem_of_getElem? (i := 924) (by decide +kernel), List.mem_of_getElem? (i := 26) (by decide +kernel)⟩, by decide, by decide, by decide +kernel⟩
theorem v_Mo_132 : CV "DiskArbitersModel" 132 y_Mo_perform b_Mo_perform 7 none 2 := ⟨⟨List.mem_of_getElem? (i := 929) (by decide +kernel), List.mem_of_getElem? (i := 37) (by decide +kernel), List.mem_of_getElem? (i := 926) (by decide +kernel)⟩, ⟨List.mem_of_getElem? (i := 928) (by decide +kernel), List.mem_of_getElem? (i := 27) (by decide +kernel)⟩, by decide, by decide, by decide +kernel⟩
theorem d_Mo_isOne_0 : decode b_Mo_isOne 0 = .ok (.iload_n 0, 1) := by decide +kernel
theorem d_Mo_isOne_1 : decode b_Mo_isOne 1 = .ok (.ifCond .lt 12, 3) := by decide +kernel
theorem d_Mo_isOne_4 : decode b_Mo_isOne 4 = .ok (.iload_n 0, 1) := by decide +kernel
theorem d_Mo_isOne_5 : decode b_Mo_isOne 5 = .ok (.iconst 3, 1) := by decide +kernel
theorem d_Mo_isOne_6 : decode b_Mo_isOne 6 = .ok (.if_icmp .ge 7, 3) := by decide +kernel
theorem d_Mo_isOne_9 : decode b_Mo_isOne 9 = .ok (.iconst 1, 1) := by decide +kernel
theorem d_Mo_isOne_10 : decode b_Mo_isOne 10 = .ok (.goto 4, 3) := by decide +kernel
theorem d_Mo_isOne_13 : decode b_Mo_isOne 13 = .ok (.iconst 0, 1) := by decide +kernel
theorem d_Mo_isOne_14 : decode b_Mo_isOne 14 = .ok (.ireturn, 1) := by decide +kernel
set_option maxHeartbeats 4000000 in
set_option maxRecDepth 100000 in
theorem c_Mo_isOne {l : Launch} {G : Gx} {s0 : State} (C : Cx G s0) {o : Nat} (ho : s0.heap.size ≤ o) (σ : Sg) (x : Int32) : Ct l s0 (FM o) 0 0 0 y_Mo_isOne b_Mo_isOne 1 (some .boolean) [.int (x)] (RepM G o σ) (pI (fun r H => r = bI (one x) ∧ RepM G o σ H)) := by
  refine Ct.of C (by decide) (Nat.le_of_ble_eq_true rfl) ?_
  intro pg ev s mm below meth cd V hr hlk hn hR ls hl
  have hx := V.1
  have hb := V.2.1
  have hS : va_S (FM o) s.heap s.heap [] := va_S.rf
  have hF : ∀ q, FM o q → FM o q := fun _ h => h
  have hA : ∀ q, FM o q → s0.heap.size ≤ q := fun _ h => Nat.le_trans ho h.1
  have hl : lv_has ls 1 [(0, .int (x))] := hl
  refine lv_iload_n hx hb d_Mo_isOne_0 rfl (lv_at hl 0 rfl) ?_
  refine lv_if_lt (tgt := 13) hx hb d_Mo_isOne_1 (by decide) (fun h1 => ?_) (fun h1 => ?_)
  · refine lv_iconst (v := 0) hx hb d_Mo_isOne_13 (by decide) ?_
    exact e_z V hr hlk hS (Nat.le_refl _) (Nat.le_refl _) d_Mo_isOne_14 (by decide) ⟨_, rfl, by simp [one, bI, h1], hR⟩
  · refine lv_iload_n hx hb d_Mo_isOne_4 rfl (lv_at hl 0 rfl) ?_
    refine lv_iconst (v := 3) hx hb d_Mo_isOne_5 (by decide) ?_
    refine lv_icmp_ge (tgt := 13) hx hb d_Mo_isOne_6 (by decide) (fun h6 => ?_) (fun h6 => ?_)
    · refine lv_iconst (v := 0) hx hb d_Mo_isOne_13 (by decide) ?_
      exact e_z V hr hlk hS (Nat.le_refl _) (Nat.le_refl _) d_Mo_isOne_14 (by decide) ⟨_, rfl, by simp [one, bI, h1, h6], hR⟩
    · refine lv_iconst (v := 1) hx hb d_Mo_isOne_9 (by decide) ?_
      refine lv_goto (tgt := 14) hx hb d_Mo_isOne_10 (by decide) ?_
      exact e_z V hr hlk hS (Nat.le_refl _) (Nat.le_refl _) d_Mo_isOne_14 (by decide) ⟨_, rfl, by simp [one, bI, h1, h6], hR⟩
theorem d_Mo_kindOf_0 : decode b_Mo_kindOf 0 = .ok (.iload_n 0, 1) := by decide +kernel
theorem d_Mo_kindOf_1 : decode b_Mo_kindOf 1 = .ok (.bipush 7, 2) := by decide +kernel
theorem d_Mo_kindOf_3 : decode b_Mo_kindOf 3 = .ok (.iand, 1) := by decide +kernel
theorem d_Mo_kindOf_4 : decode b_Mo_kindOf 4 = .ok (.ireturn, 1) := by decide +kernel
set_option maxHeartbeats 4000000 in
set_option maxRecDepth 100000 in
theorem c_Mo_kindOf {l : Launch} {G : Gx} {s0 : State} (C : Cx G s0) {o : Nat} (ho : s0.heap.size ≤ o) (σ : Sg) (x : Int32) : Ct l s0 (FM o) 0 0 0 y_Mo_kindOf b_Mo_kindOf 1 (some .int) [.int (x)] (RepM G o σ) (pI (fun r H => r = eK x ∧ RepM G o σ H)) := by
  refine Ct.of C (by decide) (Nat.le_of_ble_eq_true rfl) ?_
  intro pg ev s mm below meth cd V hr hlk hn hR ls hl
  have hx := V.1
  have hb := V.2.1
  have hS : va_S (FM o) s.heap s.heap [] := va_S.rf
  have hF : ∀ q, FM o q → FM o q := fun _ h => h
  have hA : ∀ q, FM o q → s0.heap.size ≤ q := fun _ h => Nat.le_trans ho h.1
  have hl : lv_has ls 1 [(0, .int (x))] := hl
  refine lv_iload_n hx hb d_Mo_kindOf_0 rfl (lv_at hl 0 rfl) ?_
  refine lv_bipush (v := 7) hx hb d_Mo_kindOf_1 (by decide) ?_
  refine lv_iand hx hb d_Mo_kindOf_3 ?_
  exact e_i V hr hlk hS (Nat.le_refl _) (Nat.le_refl _) d_Mo_kindOf_4 ⟨_, rfl, rfl, hR⟩
theorem d_Mo_isFree_0 : decode b_Mo_isFree 0 = .ok (.aload_n 0, 1) := by decide +kernel
theorem d_Mo_isFree_1 : decode b_Mo_isFree 1 = .ok (.getfield 80, 3) := by decide +kernel
theorem d_Mo_isFree_4 : decode b_Mo_isFree 4 = .ok (.iload_n 1, 1) := by decide +kernel
theorem d_Mo_isFree_5 : decode b_Mo_isFree 5 = .ok (.iaload, 1) := by decide +kernel
theorem d_Mo_isFree_6 : decode b_Mo_isFree 6 = .ok (.iconst (-1), 1) := by decide +kernel
theorem d_Mo_isFree_7 : decode b_Mo_isFree 7 = .ok (.if_icmp .eq 13, 3) := by decide +kernel
theorem d_Mo_isFree_10 : decode b_Mo_isFree 10 = .ok (.aload_n 0, 1) := by decide +kernel
theorem d_Mo_isFree_11 : decode b_Mo_isFree 11 = .ok (.getfield 80, 3) := by decide +kernel
theorem d_Mo_isFree_14 : decode b_Mo_isFree 14 = .ok (.iload_n 1, 1) := by decide +kernel
theorem d_Mo_isFree_15 : decode b_Mo_isFree 15 = .ok (.iaload, 1) := by decide +kernel
theorem d_Mo_isFree_16 : decode b_Mo_isFree 16 = .ok (.iload_n 2, 1) := by decide +kernel
theorem d_Mo_isFree_17 : decode b_Mo_isFree 17 = .ok (.if_icmp .ne 7, 3) := by decide +kernel
theorem d_Mo_isFree_20 : decode b_Mo_isFree 20 = .ok (.iconst 1, 1) := by decide +kernel
theorem d_Mo_isFree_21 : decode b_Mo_isFree 21 = .ok (.goto 4, 3) := by decide +kernel
theorem d_Mo_isFree_24 : decode b_Mo_isFree 24 = .ok (.iconst 0, 1) := by decide +kernel
theorem d_Mo_isFree_25 : decode b_Mo_isFree 25 = .ok (.ireturn, 1) := by decide +kernel
set_option maxHeartbeats 4000000 in
set_option maxRecDepth 100000 in
theorem c_Mo_isFree {l : Launch} {G : Gx} {s0 : State} (C : Cx G s0) {o : Nat} (ho : s0.heap.size ≤ o) (σ : Sg) (d : Nat) (hd : d < 9) (cl : Int32) : Ct l s0 (FM o) 0 0 0 y_Mo_isFree b_Mo_isFree 3 (some .boolean) [.ref (o), .int (nI d), .int (cl)] (RepM G o σ) (pI (fun r H => r = bI (fr σ d cl) ∧ RepM G o σ H)) := by
  refine Ct.of C (by decide) (Nat.le_of_ble_eq_true rfl) ?_
  intro pg ev s mm below meth cd V hr hlk hn hR ls hl
  have hx := V.1
  have hb := V.2.1
  have hS : va_S (FM o) s.heap s.heap [] := va_S.rf
  have hF : ∀ q, FM o q → FM o q := fun _ h => h
  have hA : ∀ q, FM o q → s0.heap.size ≤ q := fun _ h => Nat.le_trans ho h.1
  have hl : lv_has ls 3 [(0, .ref (o)), (1, .int (nI d)), (2, .int (cl))] := hl
  refine lv_aload_n hx hb d_Mo_isFree_0 rfl (lv_at hl 0 rfl) ?_
  refine rm_ga V hR 24 (by decide) (by decide) d_Mo_isFree_1 ?_
  refine lv_iload_n hx hb d_Mo_isFree_4 rfl (lv_at hl 1 rfl) ?_
  refine rm_ld V hR 24 ⟨by decide, by decide, rfl⟩ (n := 9) ⟨rfl, by decide⟩ (d) rfl (by omega) d_Mo_isFree_5 ?_
  refine lv_iconst (v := -1) hx hb d_Mo_isFree_6 (by decide) ?_
  refine lv_icmp_eq (tgt := 20) hx hb d_Mo_isFree_7 (by decide) (fun h7 => ?_) (fun h7 => ?_)
  · refine lv_iconst (v := 1) hx hb d_Mo_isFree_20 (by decide) ?_
    refine lv_goto (tgt := 25) hx hb d_Mo_isFree_21 (by decide) ?_
    exact e_z V hr hlk hS (Nat.le_refl _) (Nat.le_refl _) d_Mo_isFree_25 (by decide) ⟨_, rfl, by simp [fr, bI, h7], hR⟩
  · refine lv_aload_n hx hb d_Mo_isFree_10 rfl (lv_at hl 0 rfl) ?_
    refine rm_ga V hR 24 (by decide) (by decide) d_Mo_isFree_11 ?_
    refine lv_iload_n hx hb d_Mo_isFree_14 rfl (lv_at hl 1 rfl) ?_
    refine rm_ld V hR 24 ⟨by decide, by decide, rfl⟩ (n := 9) ⟨rfl, by decide⟩ (d) rfl (by omega) d_Mo_isFree_15 ?_
    refine lv_iload_n hx hb d_Mo_isFree_16 rfl (lv_at hl 2 rfl) ?_
    refine lv_icmp_ne (tgt := 24) hx hb d_Mo_isFree_17 (by decide) (fun h17 => ?_) (fun h17 => ?_)
    · refine lv_iconst (v := 0) hx hb d_Mo_isFree_24 (by decide) ?_
      exact e_z V hr hlk hS (Nat.le_refl _) (Nat.le_refl _) d_Mo_isFree_25 (by decide) ⟨_, rfl, by simp [fr, bI, h7, h17], hR⟩
    · refine lv_iconst (v := 1) hx hb d_Mo_isFree_20 (by decide) ?_
      refine lv_goto (tgt := 25) hx hb d_Mo_isFree_21 (by decide) ?_
      exact e_z V hr hlk hS (Nat.le_refl _) (Nat.le_refl _) d_Mo_isFree_25 (by decide) ⟨_, rfl, by simp [fr, bI, h7, ← h17], hR⟩
theorem d_Mo_block_0 : decode b_Mo_block 0 = .ok (.bipush 10, 2) := by decide +kernel
theorem d_Mo_block_2 : decode b_Mo_block 2 = .ok (.bipush 24, 2) := by decide +kernel
theorem d_Mo_block_4 : decode b_Mo_block 4 = .ok (.iconst 3, 1) := by decide +kernel
theorem d_Mo_block_5 : decode b_Mo_block 5 = .ok (.iload_n 0, 1) := by decide +kernel
theorem d_Mo_block_6 : decode b_Mo_block 6 = .ok (.imul, 1) := by decide +kernel
theorem d_Mo_block_7 : decode b_Mo_block 7 = .ok (.iload_n 1, 1) := by decide +kernel
theorem d_Mo_block_8 : decode b_Mo_block 8 = .ok (.iadd, 1) := by decide +kernel
theorem d_Mo_block_9 : decode b_Mo_block 9 = .ok (.imul, 1) := by decide +kernel
theorem d_Mo_block_10 : decode b_Mo_block 10 = .ok (.iload_n 2, 1) := by decide +kernel
theorem d_Mo_block_11 : decode b_Mo_block 11 = .ok (.iadd, 1) := by decide +kernel
theorem d_Mo_block_12 : decode b_Mo_block 12 = .ok (.imul, 1) := by decide +kernel
theorem d_Mo_block_13 : decode b_Mo_block 13 = .ok (.ireturn, 1) := by decide +kernel
set_option maxHeartbeats 4000000 in
set_option maxRecDepth 100000 in
theorem c_Mo_block {l : Launch} {G : Gx} {s0 : State} (C : Cx G s0) {o : Nat} (ho : s0.heap.size ≤ o) (σ : Sg) (a b q : Nat) : Ct l s0 (FM o) 0 0 0 y_Mo_block b_Mo_block 3 (some .int) [.int (nI a), .int (nI b), .int (nI q)] (RepM G o σ) (pI (fun r H => r = nI (10 * (24 * (3 * a + b) + q)) ∧ RepM G o σ H)) := by
  refine Ct.of C (by decide) (Nat.le_of_ble_eq_true rfl) ?_
  intro pg ev s mm below meth cd V hr hlk hn hR ls hl
  have hx := V.1
  have hb := V.2.1
  have hS : va_S (FM o) s.heap s.heap [] := va_S.rf
  have hF : ∀ q, FM o q → FM o q := fun _ h => h
  have hA : ∀ q, FM o q → s0.heap.size ≤ q := fun _ h => Nat.le_trans ho h.1
  have hl : lv_has ls 3 [(0, .int (nI a)), (1, .int (nI b)), (2, .int (nI q))] := hl
  refine lv_bipush (v := 10) hx hb d_Mo_block_0 (by decide) ?_
  refine lv_bipush (v := 24) hx hb d_Mo_block_2 (by decide) ?_
  refine lv_iconst (v := 3) hx hb d_Mo_block_4 (by decide) ?_
  refine lv_iload_n hx hb d_Mo_block_5 rfl (lv_at hl 0 rfl) ?_
  refine lv_imul hx hb d_Mo_block_6 ?_
  refine lv_tope (y := nI (3 * a)) (mu_e (rfl : (3 : Int32) = nI 3) rfl) ?_
  refine lv_iload_n hx hb d_Mo_block_7 rfl (lv_at hl 1 rfl) ?_
  refine lv_iadd hx hb d_Mo_block_8 ?_
  refine lv_tope (y := nI (3 * a + b)) (ad_e rfl rfl) ?_
  refine lv_imul hx hb d_Mo_block_9 ?_
  refine lv_tope (y := nI (24 * (3 * a + b))) (mu_e (rfl : (24 : Int32) = nI 24) rfl) ?_
  refine lv_iload_n hx hb d_Mo_block_10 rfl (lv_at hl 2 rfl) ?_
  refine lv_iadd hx hb d_Mo_block_11 ?_
  refine lv_tope (y := nI (24 * (3 * a + b) + q)) (ad_e rfl rfl) ?_
  refine lv_imul hx hb d_Mo_block_12 ?_
  refine lv_tope (y := nI (10 * (24 * (3 * a + b) + q))) (mu_e (rfl : (10 : Int32) = nI 10) rfl) ?_
  exact e_i V hr hlk hS (Nat.le_refl _) (Nat.le_refl _) d_Mo_block_13 ⟨_, rfl, rfl, hR⟩
theorem d_Mo_isWhole_0 : decode b_Mo_isWhole 0 = .ok (.aload_n 0, 1) := by decide +kernel
theorem d_Mo_isWhole_1 : decode b_Mo_isWhole 1 = .ok (.getfield 7, 3) := by decide +kernel
theorem d_Mo_isWhole_4 : decode b_Mo_isWhole 4 = .ok (.iload_n 1, 1) := by decide +kernel
theorem d_Mo_isWhole_5 : decode b_Mo_isWhole 5 = .ok (.iaload, 1) := by decide +kernel
theorem d_Mo_isWhole_6 : decode b_Mo_isWhole 6 = .ok (.aload_n 0, 1) := by decide +kernel
theorem d_Mo_isWhole_7 : decode b_Mo_isWhole 7 = .ok (.getfield 7, 3) := by decide +kernel
theorem d_Mo_isWhole_10 : decode b_Mo_isWhole 10 = .ok (.iload_n 1, 1) := by decide +kernel
theorem d_Mo_isWhole_11 : decode b_Mo_isWhole 11 = .ok (.iconst 4, 1) := by decide +kernel
theorem d_Mo_isWhole_12 : decode b_Mo_isWhole 12 = .ok (.iadd, 1) := by decide +kernel
theorem d_Mo_isWhole_13 : decode b_Mo_isWhole 13 = .ok (.iaload, 1) := by decide +kernel
theorem d_Mo_isWhole_14 : decode b_Mo_isWhole 14 = .ok (.if_icmp .ne 16, 3) := by decide +kernel
theorem d_Mo_isWhole_17 : decode b_Mo_isWhole 17 = .ok (.aload_n 0, 1) := by decide +kernel
theorem d_Mo_isWhole_18 : decode b_Mo_isWhole 18 = .ok (.getfield 7, 3) := by decide +kernel
theorem d_Mo_isWhole_21 : decode b_Mo_isWhole 21 = .ok (.iload_n 1, 1) := by decide +kernel
theorem d_Mo_isWhole_22 : decode b_Mo_isWhole 22 = .ok (.iaload, 1) := by decide +kernel
theorem d_Mo_isWhole_23 : decode b_Mo_isWhole 23 = .ok (.ifCond .eq 7, 3) := by decide +kernel
theorem d_Mo_isWhole_26 : decode b_Mo_isWhole 26 = .ok (.iconst 1, 1) := by decide +kernel
theorem d_Mo_isWhole_27 : decode b_Mo_isWhole 27 = .ok (.goto 4, 3) := by decide +kernel
theorem d_Mo_isWhole_30 : decode b_Mo_isWhole 30 = .ok (.iconst 0, 1) := by decide +kernel
theorem d_Mo_isWhole_31 : decode b_Mo_isWhole 31 = .ok (.ireturn, 1) := by decide +kernel
set_option maxHeartbeats 4000000 in
set_option maxRecDepth 100000 in
theorem c_Mo_isWhole {l : Launch} {G : Gx} {s0 : State} (C : Cx G s0) {o : Nat} (ho : s0.heap.size ≤ o) (σ : Sg) (t : Nat) (ht : t + 4 < 2160) : Ct l s0 (FM o) 0 0 0 y_Mo_isWhole b_Mo_isWhole 2 (some .boolean) [.ref (o), .int (nI t)] (RepM G o σ) (pI (fun r H => r = bI (whl σ t) ∧ RepM G o σ H)) := by
  refine Ct.of C (by decide) (Nat.le_of_ble_eq_true rfl) ?_
  intro pg ev s mm below meth cd V hr hlk hn hR ls hl
  have hx := V.1
  have hb := V.2.1
  have hS : va_S (FM o) s.heap s.heap [] := va_S.rf
  have hF : ∀ q, FM o q → FM o q := fun _ h => h
  have hA : ∀ q, FM o q → s0.heap.size ≤ q := fun _ h => Nat.le_trans ho h.1
  have hl : lv_has ls 2 [(0, .ref (o)), (1, .int (nI t))] := hl
  refine lv_aload_n hx hb d_Mo_isWhole_0 rfl (lv_at hl 0 rfl) ?_
  refine rm_ga V hR 1 (by decide) (by decide) d_Mo_isWhole_1 ?_
  refine lv_iload_n hx hb d_Mo_isWhole_4 rfl (lv_at hl 1 rfl) ?_
  refine rm_ld V hR 1 ⟨by decide, by decide, rfl⟩ (n := 2160) ⟨rfl, by decide⟩ (t) rfl (by omega) d_Mo_isWhole_5 ?_
  refine lv_aload_n hx hb d_Mo_isWhole_6 rfl (lv_at hl 0 rfl) ?_
  refine rm_ga V hR 1 (by decide) (by decide) d_Mo_isWhole_7 ?_
  refine lv_iload_n hx hb d_Mo_isWhole_10 rfl (lv_at hl 1 rfl) ?_
  refine lv_iconst (v := 4) hx hb d_Mo_isWhole_11 (by decide) ?_
  refine lv_iadd hx hb d_Mo_isWhole_12 ?_
  refine lv_tope (y := nI (t + 4)) (ad_e rfl (rfl : (4 : Int32) = nI 4)) ?_
  refine rm_ld V hR 1 ⟨by decide, by decide, rfl⟩ (n := 2160) ⟨rfl, by decide⟩ (t + 4) rfl (by omega) d_Mo_isWhole_13 ?_
  refine lv_icmp_ne (tgt := 30) hx hb d_Mo_isWhole_14 (by decide) (fun h14 => ?_) (fun h14 => ?_)
  · refine lv_iconst (v := 0) hx hb d_Mo_isWhole_30 (by decide) ?_
    exact e_z V hr hlk hS (Nat.le_refl _) (Nat.le_refl _) d_Mo_isWhole_31 (by decide) ⟨_, rfl, by simp [whl, bI, h14], hR⟩
  · refine lv_aload_n hx hb d_Mo_isWhole_17 rfl (lv_at hl 0 rfl) ?_
    refine rm_ga V hR 1 (by decide) (by decide) d_Mo_isWhole_18 ?_
    refine lv_iload_n hx hb d_Mo_isWhole_21 rfl (lv_at hl 1 rfl) ?_
    refine rm_ld V hR 1 ⟨by decide, by decide, rfl⟩ (n := 2160) ⟨rfl, by decide⟩ (t) rfl (by omega) d_Mo_isWhole_22 ?_
    refine lv_if_eq (tgt := 30) hx hb d_Mo_isWhole_23 (by decide) (fun h23 => ?_) (fun h23 => ?_)
    · refine lv_iconst (v := 0) hx hb d_Mo_isWhole_30 (by decide) ?_
      exact e_z V hr hlk hS (Nat.le_refl _) (Nat.le_refl _) d_Mo_isWhole_31 (by decide) ⟨_, rfl, by simp [whl, bI, ← h14, h23], hR⟩
    · refine lv_iconst (v := 1) hx hb d_Mo_isWhole_26 (by decide) ?_
      refine lv_goto (tgt := 31) hx hb d_Mo_isWhole_27 (by decide) ?_
      exact e_z V hr hlk hS (Nat.le_refl _) (Nat.le_refl _) d_Mo_isWhole_31 (by decide) ⟨_, rfl, by simp [whl, bI, ← h14, h23], hR⟩
theorem d_Mo_enter_0 : decode b_Mo_enter 0 = .ok (.aload_n 0, 1) := by decide +kernel
theorem d_Mo_enter_1 : decode b_Mo_enter 1 = .ok (.getfield 44, 3) := by decide +kernel
theorem d_Mo_enter_4 : decode b_Mo_enter 4 = .ok (.iload_n 1, 1) := by decide +kernel
theorem d_Mo_enter_5 : decode b_Mo_enter 5 = .ok (.iload_n 2, 1) := by decide +kernel
theorem d_Mo_enter_6 : decode b_Mo_enter 6 = .ok (.iastore, 1) := by decide +kernel
theorem d_Mo_enter_7 : decode b_Mo_enter 7 = .ok (.aload_n 0, 1) := by decide +kernel
theorem d_Mo_enter_8 : decode b_Mo_enter 8 = .ok (.getfield 50, 3) := by decide +kernel
theorem d_Mo_enter_11 : decode b_Mo_enter 11 = .ok (.iload_n 1, 1) := by decide +kernel
theorem d_Mo_enter_12 : decode b_Mo_enter 12 = .ok (.iconst 0, 1) := by decide +kernel
theorem d_Mo_enter_13 : decode b_Mo_enter 13 = .ok (.iastore, 1) := by decide +kernel
theorem d_Mo_enter_14 : decode b_Mo_enter 14 = .ok (.aload_n 0, 1) := by decide +kernel
theorem d_Mo_enter_15 : decode b_Mo_enter 15 = .ok (.getfield 59, 3) := by decide +kernel
theorem d_Mo_enter_18 : decode b_Mo_enter 18 = .ok (.iload_n 1, 1) := by decide +kernel
theorem d_Mo_enter_19 : decode b_Mo_enter 19 = .ok (.iconst 0, 1) := by decide +kernel
theorem d_Mo_enter_20 : decode b_Mo_enter 20 = .ok (.iastore, 1) := by decide +kernel
theorem d_Mo_enter_21 : decode b_Mo_enter 21 = .ok (.aload_n 0, 1) := by decide +kernel
theorem d_Mo_enter_22 : decode b_Mo_enter 22 = .ok (.getfield 53, 3) := by decide +kernel
theorem d_Mo_enter_25 : decode b_Mo_enter 25 = .ok (.iload_n 1, 1) := by decide +kernel
theorem d_Mo_enter_26 : decode b_Mo_enter 26 = .ok (.iconst 0, 1) := by decide +kernel
theorem d_Mo_enter_27 : decode b_Mo_enter 27 = .ok (.bastore, 1) := by decide +kernel
theorem d_Mo_enter_28 : decode b_Mo_enter 28 = .ok (.aload_n 0, 1) := by decide +kernel
theorem d_Mo_enter_29 : decode b_Mo_enter 29 = .ok (.getfield 56, 3) := by decide +kernel
theorem d_Mo_enter_32 : decode b_Mo_enter 32 = .ok (.iload_n 1, 1) := by decide +kernel
theorem d_Mo_enter_33 : decode b_Mo_enter 33 = .ok (.iconst 0, 1) := by decide +kernel
theorem d_Mo_enter_34 : decode b_Mo_enter 34 = .ok (.iastore, 1) := by decide +kernel
theorem d_Mo_enter_35 : decode b_Mo_enter 35 = .ok (.return_, 1) := by decide +kernel
set_option maxHeartbeats 4000000 in
set_option maxRecDepth 100000 in
theorem c_Mo_enter {l : Launch} {G : Gx} {s0 : State} (C : Cx G s0) {o : Nat} (ho : s0.heap.size ≤ o) (σ : Sg) (c : Nat) (hc : c < 3) (to : Int32) : Ct l s0 (FM o) 0 0 0 y_Mo_enter b_Mo_enter 3 none [.ref (o), .int (nI c), .int (to)] (RepM G o σ) (pV (RepM G o (ent σ c to))) := by
  refine Ct.of C (by decide) (Nat.le_of_ble_eq_true rfl) ?_
  intro pg ev s mm below meth cd V hr hlk hn hR ls hl
  have hx := V.1
  have hb := V.2.1
  have hS : va_S (FM o) s.heap s.heap [] := va_S.rf
  have hF : ∀ q, FM o q → FM o q := fun _ h => h
  have hA : ∀ q, FM o q → s0.heap.size ≤ q := fun _ h => Nat.le_trans ho h.1
  have hl : lv_has ls 3 [(0, .ref (o)), (1, .int (nI c)), (2, .int (to))] := hl
  refine lv_aload_n hx hb d_Mo_enter_0 rfl (lv_at hl 0 rfl) ?_
  refine rm_ga V hR 12 (by decide) (by decide) d_Mo_enter_1 ?_
  refine lv_iload_n hx hb d_Mo_enter_4 rfl (lv_at hl 1 rfl) ?_
  refine lv_iload_n hx hb d_Mo_enter_5 rfl (lv_at hl 2 rfl) ?_
  refine rm_st V hR hS hF 12 ⟨by decide, by decide, rfl⟩ (n := 3) ⟨rfl, by decide⟩ (c) rfl (by omega) d_Mo_enter_6 (fun H locs hR hS => ?_)
  refine lv_aload_n hx hb d_Mo_enter_7 rfl (lv_at hl 0 rfl) ?_
  refine rm_ga V hR 14 (by decide) (by decide) d_Mo_enter_8 ?_
  refine lv_iload_n hx hb d_Mo_enter_11 rfl (lv_at hl 1 rfl) ?_
  refine lv_iconst (v := 0) hx hb d_Mo_enter_12 (by decide) ?_
  refine rm_st V hR hS hF 14 ⟨by decide, by decide, rfl⟩ (n := 3) ⟨rfl, by decide⟩ (c) rfl (by omega) d_Mo_enter_13 (fun H locs hR hS => ?_)
  refine lv_aload_n hx hb d_Mo_enter_14 rfl (lv_at hl 0 rfl) ?_
  refine rm_ga V hR 17 (by decide) (by decide) d_Mo_enter_15 ?_
  refine lv_iload_n hx hb d_Mo_enter_18 rfl (lv_at hl 1 rfl) ?_
  refine lv_iconst (v := 0) hx hb d_Mo_enter_19 (by decide) ?_
  refine rm_st V hR hS hF 17 ⟨by decide, by decide, rfl⟩ (n := 3) ⟨rfl, by decide⟩ (c) rfl (by omega) d_Mo_enter_20 (fun H locs hR hS => ?_)
  refine lv_aload_n hx hb d_Mo_enter_21 rfl (lv_at hl 0 rfl) ?_
  refine rm_ga V hR 15 (by decide) (by decide) d_Mo_enter_22 ?_
  refine lv_iload_n hx hb d_Mo_enter_25 rfl (lv_at hl 1 rfl) ?_
  refine lv_iconst (v := 0) hx hb d_Mo_enter_26 (by decide) ?_
  refine rm_sz V hR hS hF 15 ⟨by decide, by decide, rfl⟩ (n := 3) ⟨rfl, by decide⟩ (c) rfl (by omega) (by decide) d_Mo_enter_27 (fun H locs hR hS => ?_)
  refine lv_aload_n hx hb d_Mo_enter_28 rfl (lv_at hl 0 rfl) ?_
  refine rm_ga V hR 16 (by decide) (by decide) d_Mo_enter_29 ?_
  refine lv_iload_n hx hb d_Mo_enter_32 rfl (lv_at hl 1 rfl) ?_
  refine lv_iconst (v := 0) hx hb d_Mo_enter_33 (by decide) ?_
  refine rm_st V hR hS hF 16 ⟨by decide, by decide, rfl⟩ (n := 3) ⟨rfl, by decide⟩ (c) rfl (by omega) d_Mo_enter_34 (fun H locs hR hS => ?_)
  exact e_v V hr hlk hS (Nat.le_refl _) (Nat.le_refl _) d_Mo_enter_35 ⟨rfl, hR⟩
