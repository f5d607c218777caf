abbrev b_La_want : ByteArray := method_3_code
abbrev y_La_want : MethodName := ⟨"DiskArbitersLaw", "want", "(LDiskArbiters;IIIII[J)I"⟩
abbrev b_La_step : ByteArray := method_4_code
abbrev y_La_step : MethodName := ⟨"DiskArbitersLaw", "step", "(LDiskArbiters;I[J)I"⟩
abbrev b_La_disk : ByteArray := method_5_code
abbrev y_La_disk : MethodName := ⟨"DiskArbitersLaw", "disk", "(LDiskArbiters;IZ[J)I"⟩
abbrev b_La_tear : ByteArray := method_6_code
abbrev y_La_tear : MethodName := ⟨"DiskArbitersLaw", "tear", "(LDiskArbiters;II[J)I"⟩
abbrev b_La_crash : ByteArray := method_7_code
abbrev y_La_crash : MethodName := ⟨"DiskArbitersLaw", "crash", "(LDiskArbiters;I[J)I"⟩
abbrev b_La_restart : ByteArray := method_8_code
abbrev y_La_restart : MethodName := ⟨"DiskArbitersLaw", "restart", "(LDiskArbiters;I[J)I"⟩
abbrev b_La_log : ByteArray := method_9_code
abbrev y_La_log : MethodName := ⟨"DiskArbitersLaw", "log", "(LDiskArbiters;I[J)I"⟩
abbrev b_La_entry : ByteArray := method_10_code
abbrev y_La_entry : MethodName := ⟨"DiskArbitersLaw", "entry", "(LDiskArbiters;II[J)I"⟩
abbrev b_La_outcome : ByteArray := method_11_code
abbrev y_La_outcome : MethodName := ⟨"DiskArbitersLaw", "outcome", "(LDiskArbiters;II[J)I"⟩
abbrev b_La_holds : ByteArray := method_12_code
abbrev y_La_holds : MethodName := ⟨"DiskArbitersLaw", "holds", "(LDiskArbiters;II[J)I"⟩
abbrev b_La_where : ByteArray := method_13_code
abbrev y_La_where : MethodName := ⟨"DiskArbitersLaw", "where", "(LDiskArbiters;II[J)I"⟩
abbrev b_La_reserved : ByteArray := method_14_code
abbrev y_La_reserved : MethodName := ⟨"DiskArbitersLaw", "reserved", "(LDiskArbiters;II[J)I"⟩
abbrev b_La_phase : ByteArray := method_15_code
abbrev y_La_phase : MethodName := ⟨"DiskArbitersLaw", "phase", "(LDiskArbiters;I[J)I"⟩
abbrev b_La_round : ByteArray := method_16_code
abbrev y_La_round : MethodName := ⟨"DiskArbitersLaw", "round", "(LDiskArbiters;I[J)I"⟩
abbrev b_La_vote : ByteArray := method_17_code
abbrev y_La_vote : MethodName := ⟨"DiskArbitersLaw", "vote", "(LDiskArbiters;IZ[J)I"⟩
abbrev b_La_word : ByteArray := method_18_code
abbrev y_La_word : MethodName := ⟨"DiskArbitersLaw", "word", "(LDiskArbiters;IIII[J)I"⟩
abbrev b_La_accesses : ByteArray := method_19_code
abbrev y_La_accesses : MethodName := ⟨"DiskArbitersLaw", "accesses", "(LDiskArbiters;I[J)I"⟩
def bl (r : Int32) : Int64 := if r = 0 then 0 else 1
theorem v_La_7 : CV "DiskArbitersLaw" 7 y_Da_want b_Da_want 8 (some .int) 5 := ⟨⟨List.mem_of_getElem? (i := 313) (by decide +kernel), List.mem_of_getElem? (i := 29) (by decide +kernel), List.mem_of_getElem? (i := 310) (by decide +kernel)⟩, ⟨List.mem_of_getElem? (i := 311) (by decide +kernel), List.mem_of_getElem? (i := 312) (by decide +kernel)⟩, by decide, by decide, by decide +kernel⟩
theorem v_La_19 : CV "DiskArbitersLaw" 19 y_Da_step b_Da_step 3 (some .int) 1 := ⟨⟨List.mem_of_getElem? (i := 530) (by decide +kernel), List.mem_of_getElem? (i := 29) (by decide +kernel), List.mem_of_getElem? (i := 527) (by decide +kernel)⟩, ⟨List.mem_of_getElem? (i := 528) (by decide +kernel), List.mem_of_getElem? (i := 529) (by decide +kernel)⟩, by decide, by decide, by decide +kernel⟩
theorem v_La_27 : CV "DiskArbitersLaw" 27 y_Da_disk b_Da_disk 5 (some .boolean) 2 := ⟨⟨List.mem_of_getElem? (i := 656) (by decide +kernel), List.mem_of_getElem? (i := 29) (by decide +kernel), List.mem_of_getElem? (i := 653) (by decide +kernel)⟩, ⟨List.mem_of_getElem? (i := 654) (by decide +kernel), List.mem_of_getElem? (i := 655) (by decide +kernel)⟩, by decide, by decide, by decide +kernel⟩
theorem v_La_35 : CV "DiskArbitersLaw" 35 y_Da_crash b_Da_crash 4 (some .boolean) 1 := ⟨⟨List.mem_of_getElem? (i := 675) (by decide +kernel), List.mem_of_getElem? (i := 29) (by decide +kernel), List.mem_of_getElem? (i := 672) (by decide +kernel)⟩, ⟨List.mem_of_getElem? (i := 673) (by decide +kernel), List.mem_of_getElem? (i := 674) (by decide +kernel)⟩, by decide, by decide, by decide +kernel⟩
theorem v_La_39 : CV "DiskArbitersLaw" 39 y_Da_restart b_Da_restart 3 (some .boolean) 1 := ⟨⟨List.mem_of_getElem? (i := 682) (by decide +kernel), List.mem_of_getElem? (i := 29) (by decide +kernel), List.mem_of_getElem? (i := 679) (by decide +kernel)⟩, ⟨List.mem_of_getElem? (i := 680) (by decide +kernel), List.mem_of_getElem? (i := 681) (by decide +kernel)⟩, by decide, by decide, by decide +kernel⟩
theorem v_La_42 : CV "DiskArbitersLaw" 42 y_Da_log b_Da_log 2 (some .int) 1 := ⟨⟨List.mem_of_getElem? (i := 693) (by decide +kernel), List.mem_of_getElem? (i := 29) (by decide +kernel), List.mem_of_getElem? (i := 690) (by decide +kernel)⟩, ⟨List.mem_of_getElem? (i := 691) (by decide +kernel), List.mem_of_getElem? (i := 692) (by decide +kernel)⟩, by decide, by decide, by decide +kernel⟩
theorem v_La_45 : CV "DiskArbitersLaw" 45 y_Da_entry b_Da_entry 4 (some .int) 2 := ⟨⟨List.mem_of_getElem? (i := 700) (by decide +kernel), List.mem_of_getElem? (i := 29) (by decide +kernel), List.mem_of_getElem? (i := 697) (by decide +kernel)⟩, ⟨List.mem_of_getElem? (i := 698) (by decide +kernel), List.mem_of_getElem? (i := 699) (by decide +kernel)⟩, by decide, by decide, by decide +kernel⟩
theorem v_La_49 : CV "DiskArbitersLaw" 49 y_Da_outcome b_Da_outcome 4 (some .int) 2 := ⟨⟨List.mem_of_getElem? (i := 707) (by decide +kernel), List.mem_of_getElem? (i := 29) (by decide +kernel), List.mem_of_getElem? (i := 704) (by decide +kernel)⟩, ⟨List.mem_of_getElem? (i := 705) (by decide +kernel), List.mem_of_getElem? (i := 706) (by decide +kernel)⟩, by decide, by decide, by decide +kernel⟩
theorem v_La_52 : CV "DiskArbitersLaw" 52 y_Da_holds b_Da_holds 3 (some .int) 2 := ⟨⟨List.mem_of_getElem? (i := 715) (by decide +kernel), List.mem_of_getElem? (i := 29) (by decide +kernel), List.mem_of_getElem? (i := 712) (by decide +kernel)⟩, ⟨List.mem_of_getElem? (i := 713) (by decide +kernel), List.mem_of_getElem? (i := 714) (by decide +kernel)⟩, by decide, by decide, by decide +kernel⟩
theorem v_La_55 : CV "DiskArbitersLaw" 55 y_Da_where b_Da_where 3 (some .int) 2 := ⟨⟨List.mem_of_getElem? (i := 726) (by decide +kernel), List.mem_of_getElem? (i := 29) (by decide +kernel), List.mem_of_getElem? (i := 723) (by decide +kernel)⟩, ⟨List.mem_of_getElem? (i := 724) (by decide +kernel), List.mem_of_getElem? (i := 725) (by decide +kernel)⟩, by decide, by decide, by decide +kernel⟩
theorem v_La_58 : CV "DiskArbitersLaw" 58 y_Da_reserved b_Da_reserved 4 (some .int) 2 := ⟨⟨List.mem_of_getElem? (i := 733) (by decide +kernel), List.mem_of_getElem? (i := 29) (by decide +kernel), List.mem_of_getElem? (i := 730) (by decide +kernel)⟩, ⟨List.mem_of_getElem? (i := 731) (by decide +kernel), List.mem_of_getElem? (i := 732) (by decide +kernel)⟩, by decide, by decide, by decide +kernel⟩
theorem v_La_61 : CV "DiskArbitersLaw" 61 y_Da_phase b_Da_phase 3 (some .int) 1 := ⟨⟨List.mem_of_getElem? (i := 740) (by decide +kernel), List.mem_of_getElem? (i := 29) (by decide +kernel), List.mem_of_getElem? (i := 737) (by decide +kernel)⟩, ⟨List.mem_of_getElem? (i := 738) (by decide +kernel), List.mem_of_getElem? (i := 739) (by decide +kernel)⟩, by decide, by decide, by decide +kernel⟩
theorem v_La_64 : CV "DiskArbitersLaw" 64 y_Da_round b_Da_round 2 (some .int) 1 := ⟨⟨List.mem_of_getElem? (i := 747) (by decide +kernel), List.mem_of_getElem? (i := 29) (by decide +kernel), List.mem_of_getElem? (i := 744) (by decide +kernel)⟩, ⟨List.mem_of_getElem? (i := 745) (by decide +kernel), List.mem_of_getElem? (i := 746) (by decide +kernel)⟩, by decide, by decide, by decide +kernel⟩
theorem v_La_67 : CV "DiskArbitersLaw" 67 y_Da_vote b_Da_vote 4 (some .int) 2 := ⟨⟨List.mem_of_getElem? (i := 754) (by decide +kernel), List.mem_of_getElem? (i := 29) (by decide +kernel), List.mem_of_getElem? (i := 751) (by decide +kernel)⟩, ⟨List.mem_of_getElem? (i := 752) (by decide +kernel), List.mem_of_getElem? (i := 753) (by decide +kernel)⟩, by decide, by decide, by decide +kernel⟩
theorem v_La_71 : CV "DiskArbitersLaw" 71 y_Da_word b_Da_word 7 (some .int) 4 := ⟨⟨List.mem_of_getElem? (i := 761) (by decide +kernel), List.mem_of_getElem? (i := 29) (by decide +kernel), List.mem_of_getElem? (i := 758) (by decide +kernel)⟩, ⟨List.mem_of_getElem? (i := 759) (by decide +kernel), List.mem_of_getElem? (i := 760) (by decide +kernel)⟩, by decide, by decide, by decide +kernel⟩
theorem v_La_75 : CV "DiskArbitersLaw" 75 y_Da_accesses b_Da_accesses 2 (some .int) 1 := ⟨⟨List.mem_of_getElem? (i := 769) (by decide +kernel), List.mem_of_getElem? (i := 29) (by decide +kernel), List.mem_of_getElem? (i := 766) (by decide +kernel)⟩, ⟨List.mem_of_getElem? (i := 767) (by decide +kernel), List.mem_of_getElem? (i := 768) (by decide +kernel)⟩, by decide, by decide, by decide +kernel⟩
theorem d_La_log_0 : decode b_La_log 0 = .ok (.aload_n 2, 1) := by decide +kernel
theorem d_La_log_1 : decode b_La_log 1 = .ok (.iconst 0, 1) := by decide +kernel
theorem d_La_log_2 : decode b_La_log 2 = .ok (.aload_n 0, 1) := by decide +kernel
theorem d_La_log_3 : decode b_La_log 3 = .ok (.iload_n 1, 1) := by decide +kernel
theorem d_La_log_4 : decode b_La_log 4 = .ok (.invokevirtual 42, 3) := by decide +kernel
theorem d_La_log_12 : decode b_La_log 12 = .ok (.astore_n 3, 1) := by decide +kernel
theorem d_La_log_13 : decode b_La_log 13 = .ok (.iconst 1, 1) := by decide +kernel
theorem d_La_log_14 : decode b_La_log 14 = .ok (.ireturn, 1) := by decide +kernel
set_option maxHeartbeats 4000000 in
set_option maxRecDepth 100000 in
theorem w_log_bad {l : Launch} {G : Gx} {s0 : State} (hfl : l.flags = pinnedFlags ++ [noTraceFlag]) (C : Cx G s0) (C0 : Ts0 s0) (N : N0 s0) {B D0 ea mi oa : Nat} (E : Es0 s0 ea mi) (hB : s0.heap.size ≤ B) (σ : Sg) (τ : Tt) (v : Int64) (x : Int32) (hx1 : one x = false) : CtR l s0 (FW B D0 oa) 7 4 320 y_La_log (.codeWith y_La_log b_La_log 4 (some .int) [(0, 9, 12, 13)]) [.ref (B), .int (x), .ref (oa)] (JC G B D0 ea oa σ τ v) (pI (fun r H => r = 1 ∧ ∃ τ1, JC G B D0 ea oa σ τ1 (v) H)) := by
  refine CtR.of C cdw_with (by decide) (Nat.le_of_ble_eq_true rfl) ?_
  intro pg ev s mm below meth cd V hr hlk ht hJ ls hl
  obtain ⟨hR, hD, hO, hb1, hb2⟩ := hJ
  have hx := V.1
  have hb := V.2.1
  have hS : va_S (FW B D0 oa) s.heap s.heap [] := va_S.rf
  have hA : ∀ q, FW B D0 oa q → s0.heap.size ≤ q := fun q h => by have := hR.1; rcases h with (h | h) | h <;> omega
  have hl : lv_has ls 4 [(0, .ref (B)), (1, .int (x)), (2, .ref (oa))] := hl
  refine lv_aload_n hx hb d_La_log_0 rfl (lv_at hl 2 rfl) ?_
  refine lv_iconst (v := 0) hx hb d_La_log_1 (by decide) ?_
  refine lv_aload_n hx hb d_La_log_2 rfl (lv_at hl 0 rfl) ?_
  refine lv_iload_n hx hb d_La_log_3 rfl (lv_at hl 1 rfl) ?_
  refine t_callV (n := 1) (As := [.int (x)]) (rest := [.int (0), .ref (oa)]) (A0 := FW B D0 oa) V (t_Da_log_bad hfl C C0 hB σ τ x hx1) cdw_code ⟨List.mem_of_getElem? (i := 693) (by decide +kernel), rfl⟩ (List.mem_of_getElem? (i := 29) (by decide +kernel)) (List.mem_of_getElem? (i := 690) (by decide +kernel)) ⟨List.mem_of_getElem? (i := 691) (by decide +kernel), List.mem_of_getElem? (i := 692) (by decide +kernel)⟩ ⟨by decide, by decide, by decide +kernel⟩ (hR.rDa V.2.2.2.2.2.1) hR hS hA (fun _ h => Or.inl h) ⟨by decide, by decide⟩ rfl hl (Nat.le_of_ble_eq_true rfl) d_La_log_4 ⟨by decide, by decide⟩ (fun xe H locs hex hR hk hS => ?_)
  have hO := hO.kept (hk.2 _ hO.lt (by show ¬ ((B ≤ oa ∧ oa < B + 36) ∨ D0 ≤ oa); omega))
  have hD := Nat.le_trans hD hk.1
  refine wt_c0 (Y := "java/lang/IndexOutOfBoundsException") V ht ⟨by decide, by decide⟩ (by decide) (List.mem_of_getElem? (i := 229) (by decide +kernel)) hex  (isa_t C (List.mem_of_getElem? (i := 323) (by decide +kernel))) ?_
  refine lv_astore_n (lv' := [(3, .ref (xe)), (0, .ref (B)), (1, .int (x)), (2, .ref (oa))]) hx hb d_La_log_12 rfl hl (by decide) rfl (fun ls hl => ?_)
  refine lv_iconst (v := 1) hx hb d_La_log_13 (by decide) ?_
  exact e_i V hr hlk hS (by decide) (by decide) d_La_log_14 ⟨_, rfl, rfl, ⟨_, hR, hD, hO, hb1, hb2⟩⟩
theorem d_La_log_7 : decode b_La_log 7 = .ok (.i2l, 1) := by decide +kernel
theorem d_La_log_8 : decode b_La_log 8 = .ok (.lastore, 1) := by decide +kernel
theorem d_La_log_9 : decode b_La_log 9 = .ok (.goto 6, 3) := by decide +kernel
theorem d_La_log_15 : decode b_La_log 15 = .ok (.iconst 0, 1) := by decide +kernel
theorem d_La_log_16 : decode b_La_log 16 = .ok (.ireturn, 1) := by decide +kernel
set_option maxHeartbeats 4000000 in
set_option maxRecDepth 100000 in
theorem w_log {l : Launch} {G : Gx} {s0 : State} (hfl : l.flags = pinnedFlags ++ [noTraceFlag]) (C : Cx G s0) (C0 : Ts0 s0) (N : N0 s0) {B D0 ea mi oa : Nat} (E : Es0 s0 ea mi) (hB : s0.heap.size ≤ B) (σ : Sg) (τ : Tt) (v : Int64) (c : Nat) (hc : c < 3) : CtR l s0 (FW B D0 oa) 7 4 320 y_La_log (.codeWith y_La_log b_La_log 4 (some .int) [(0, 9, 12, 13)]) [.ref (B), .int (nI c), .ref (oa)] (JC G B D0 ea oa σ τ v) (pI (fun r H => r = 0 ∧ ∃ τ1, JC G B D0 ea oa σ τ1 ((σ 4 c : Int32).toInt64) H)) := by
  refine CtR.of C cdw_with (by decide) (Nat.le_of_ble_eq_true rfl) ?_
  intro pg ev s mm below meth cd V hr hlk ht hJ ls hl
  obtain ⟨hR, hD, hO, hb1, hb2⟩ := hJ
  have hx := V.1
  have hb := V.2.1
  have hS : va_S (FW B D0 oa) s.heap s.heap [] := va_S.rf
  have hA : ∀ q, FW B D0 oa q → s0.heap.size ≤ q := fun q h => by have := hR.1; rcases h with (h | h) | h <;> omega
  have hl : lv_has ls 4 [(0, .ref (B)), (1, .int (nI c)), (2, .ref (oa))] := hl
  refine lv_aload_n hx hb d_La_log_0 rfl (lv_at hl 2 rfl) ?_
  refine lv_iconst (v := 0) hx hb d_La_log_1 (by decide) ?_
  refine lv_aload_n hx hb d_La_log_2 rfl (lv_at hl 0 rfl) ?_
  refine lv_iload_n hx hb d_La_log_3 rfl (lv_at hl 1 rfl) ?_
  refine g_callV (As := [.int (nI c)]) (rest := [.int (0), .ref (oa)]) (A0 := FW B D0 oa) V (c_Da_log C hB σ τ c hc) v_La_42 (hR.rDa V.2.2.2.2.2.1) hR hS hA (fun _ h => Or.inl h) ⟨by decide, by decide⟩ rfl hl (Nat.le_of_ble_eq_true rfl) d_La_log_4 ⟨by decide, by decide⟩ (kI (fun r H locs hQ hk hS => ?_))
  obtain ⟨rfl, hR⟩ := hQ
  have hO := hO.kept (hk.2 _ hO.lt (by show ¬ ((B ≤ oa ∧ oa < B + 36) ∨ D0 ≤ oa); omega))
  have hD := Nat.le_trans hD hk.1
  refine lv_i2l (v := (σ 4 c : Int32).toInt64) hx hb d_La_log_7 rfl ?_
  refine x_ost V hO d_La_log_8 (fun H i hO z oq => ?_)
  have hS := hS.put (k := i) z oq (Or.inr rfl)
  have hR := hR.kept (fun q hq hF => oq q (by intro e; subst e; rcases hF with hF | hF <;> omega))
  have hD : D0 ≤ H.size := by rw [z]; exact hD
  refine lv_goto (tgt := 15) hx hb d_La_log_9 (by decide) ?_
  refine lv_iconst (v := 0) hx hb d_La_log_15 (by decide) ?_
  exact e_i V hr hlk hS (by decide) (by decide) d_La_log_16 ⟨_, rfl, rfl, ⟨_, hR, hD, hO, hb1, hb2⟩⟩
theorem d_La_round_0 : decode b_La_round 0 = .ok (.aload_n 2, 1) := by decide +kernel
theorem d_La_round_1 : decode b_La_round 1 = .ok (.iconst 0, 1) := by decide +kernel
theorem d_La_round_2 : decode b_La_round 2 = .ok (.aload_n 0, 1) := by decide +kernel
theorem d_La_round_3 : decode b_La_round 3 = .ok (.iload_n 1, 1) := by decide +kernel
theorem d_La_round_4 : decode b_La_round 4 = .ok (.invokevirtual 64, 3) := by decide +kernel
theorem d_La_round_12 : decode b_La_round 12 = .ok (.astore_n 3, 1) := by decide +kernel
theorem d_La_round_13 : decode b_La_round 13 = .ok (.iconst 1, 1) := by decide +kernel
theorem d_La_round_14 : decode b_La_round 14 = .ok (.ireturn, 1) := by decide +kernel
set_option maxHeartbeats 4000000 in
set_option maxRecDepth 100000 in
theorem w_round_bad {l : Launch} {G : Gx} {s0 : State} (hfl : l.flags = pinnedFlags ++ [noTraceFlag]) (C : Cx G s0) (C0 : Ts0 s0) (N : N0 s0) {B D0 ea mi oa : Nat} (E : Es0 s0 ea mi) (hB : s0.heap.size ≤ B) (σ : Sg) (τ : Tt) (v : Int64) (x : Int32) (hx1 : one x = false) : CtR l s0 (FW B D0 oa) 7 4 320 y_La_round (.codeWith y_La_round b_La_round 4 (some .int) [(0, 9, 12, 13)]) [.ref (B), .int (x), .ref (oa)] (JC G B D0 ea oa σ τ v) (pI (fun r H => r = 1 ∧ ∃ τ1, JC G B D0 ea oa σ τ1 (v) H)) := by
  refine CtR.of C cdw_with (by decide) (Nat.le_of_ble_eq_true rfl) ?_
  intro pg ev s mm below meth cd V hr hlk ht hJ ls hl
  obtain ⟨hR, hD, hO, hb1, hb2⟩ := hJ
  have hx := V.1
  have hb := V.2.1
  have hS : va_S (FW B D0 oa) s.heap s.heap [] := va_S.rf
  have hA : ∀ q, FW B D0 oa q → s0.heap.size ≤ q := fun q h => by have := hR.1; rcases h with (h | h) | h <;> omega
  have hl : lv_has ls 4 [(0, .ref (B)), (1, .int (x)), (2, .ref (oa))] := hl
  refine lv_aload_n hx hb d_La_round_0 rfl (lv_at hl 2 rfl) ?_
  refine lv_iconst (v := 0) hx hb d_La_round_1 (by decide) ?_
  refine lv_aload_n hx hb d_La_round_2 rfl (lv_at hl 0 rfl) ?_
  refine lv_iload_n hx hb d_La_round_3 rfl (lv_at hl 1 rfl) ?_
  refine t_callV (n := 1) (As := [.int (x)]) (rest := [.int (0), .ref (oa)]) (A0 := FW B D0 oa) V (t_Da_round_bad hfl C C0 hB σ τ x hx1) cdw_code ⟨List.mem_of_getElem? (i := 747) (by decide +kernel), rfl⟩ (List.mem_of_getElem? (i := 29) (by decide +kernel)) (List.mem_of_getElem? (i := 744) (by decide +kernel)) ⟨List.mem_of_getElem? (i := 745) (by decide +kernel), List.mem_of_getElem? (i := 746) (by decide +kernel)⟩ ⟨by decide, by decide, by decide +kernel⟩ (hR.rDa V.2.2.2.2.2.1) hR hS hA (fun _ h => Or.inl h) ⟨by decide, by decide⟩ rfl hl (Nat.le_of_ble_eq_true rfl) d_La_round_4 ⟨by decide, by decide⟩ (fun xe H locs hex hR hk hS => ?_)
  have hO := hO.kept (hk.2 _ hO.lt (by show ¬ ((B ≤ oa ∧ oa < B + 36) ∨ D0 ≤ oa); omega))
  have hD := Nat.le_trans hD hk.1
  refine wt_c0 (Y := "java/lang/IndexOutOfBoundsException") V ht ⟨by decide, by decide⟩ (by decide) (List.mem_of_getElem? (i := 229) (by decide +kernel)) hex  (isa_t C (List.mem_of_getElem? (i := 323) (by decide +kernel))) ?_
  refine lv_astore_n (lv' := [(3, .ref (xe)), (0, .ref (B)), (1, .int (x)), (2, .ref (oa))]) hx hb d_La_round_12 rfl hl (by decide) rfl (fun ls hl => ?_)
  refine lv_iconst (v := 1) hx hb d_La_round_13 (by decide) ?_
  exact e_i V hr hlk hS (by decide) (by decide) d_La_round_14 ⟨_, rfl, rfl, ⟨_, hR, hD, hO, hb1, hb2⟩⟩
theorem d_La_round_7 : decode b_La_round 7 = .ok (.i2l, 1) := by decide +kernel
theorem d_La_round_8 : decode b_La_round 8 = .ok (.lastore, 1) := by decide +kernel
theorem d_La_round_9 : decode b_La_round 9 = .ok (.goto 6, 3) := by decide +kernel
theorem d_La_round_15 : decode b_La_round 15 = .ok (.iconst 0, 1) := by decide +kernel
theorem d_La_round_16 : decode b_La_round 16 = .ok (.ireturn, 1) := by decide +kernel
set_option maxHeartbeats 4000000 in
set_option maxRecDepth 100000 in
theorem w_round {l : Launch} {G : Gx} {s0 : State} (hfl : l.flags = pinnedFlags ++ [noTraceFlag]) (C : Cx G s0) (C0 : Ts0 s0) (N : N0 s0) {B D0 ea mi oa : Nat} (E : Es0 s0 ea mi) (hB : s0.heap.size ≤ B) (σ : Sg) (τ : Tt) (v : Int64) (c : Nat) (hc : c < 3) : CtR l s0 (FW B D0 oa) 7 4 320 y_La_round (.codeWith y_La_round b_La_round 4 (some .int) [(0, 9, 12, 13)]) [.ref (B), .int (nI c), .ref (oa)] (JC G B D0 ea oa σ τ v) (pI (fun r H => r = 0 ∧ ∃ τ1, JC G B D0 ea oa σ τ1 ((σ 8 c : Int32).toInt64) H)) := by
  refine CtR.of C cdw_with (by decide) (Nat.le_of_ble_eq_true rfl) ?_
  intro pg ev s mm below meth cd V hr hlk ht hJ ls hl
  obtain ⟨hR, hD, hO, hb1, hb2⟩ := hJ
  have hx := V.1
  have hb := V.2.1
  have hS : va_S (FW B D0 oa) s.heap s.heap [] := va_S.rf
  have hA : ∀ q, FW B D0 oa q → s0.heap.size ≤ q := fun q h => by have := hR.1; rcases h with (h | h) | h <;> omega
  have hl : lv_has ls 4 [(0, .ref (B)), (1, .int (nI c)), (2, .ref (oa))] := hl
  refine lv_aload_n hx hb d_La_round_0 rfl (lv_at hl 2 rfl) ?_
  refine lv_iconst (v := 0) hx hb d_La_round_1 (by decide) ?_
  refine lv_aload_n hx hb d_La_round_2 rfl (lv_at hl 0 rfl) ?_
  refine lv_iload_n hx hb d_La_round_3 rfl (lv_at hl 1 rfl) ?_
  refine g_callV (As := [.int (nI c)]) (rest := [.int (0), .ref (oa)]) (A0 := FW B D0 oa) V (c_Da_round C hB σ τ c hc) v_La_64 (hR.rDa V.2.2.2.2.2.1) hR hS hA (fun _ h => Or.inl h) ⟨by decide, by decide⟩ rfl hl (Nat.le_of_ble_eq_true rfl) d_La_round_4 ⟨by decide, by decide⟩ (kI (fun r H locs hQ hk hS => ?_))
  obtain ⟨rfl, hR⟩ := hQ
  have hO := hO.kept (hk.2 _ hO.lt (by show ¬ ((B ≤ oa ∧ oa < B + 36) ∨ D0 ≤ oa); omega))
  have hD := Nat.le_trans hD hk.1
  refine lv_i2l (v := (σ 8 c : Int32).toInt64) hx hb d_La_round_7 rfl ?_
  refine x_ost V hO d_La_round_8 (fun H i hO z oq => ?_)
  have hS := hS.put (k := i) z oq (Or.inr rfl)
  have hR := hR.kept (fun q hq hF => oq q (by intro e; subst e; rcases hF with hF | hF <;> omega))
  have hD : D0 ≤ H.size := by rw [z]; exact hD
  refine lv_goto (tgt := 15) hx hb d_La_round_9 (by decide) ?_
  refine lv_iconst (v := 0) hx hb d_La_round_15 (by decide) ?_
  exact e_i V hr hlk hS (by decide) (by decide) d_La_round_16 ⟨_, rfl, rfl, ⟨_, hR, hD, hO, hb1, hb2⟩⟩
theorem d_La_accesses_0 : decode b_La_accesses 0 = .ok (.aload_n 2, 1) := by decide +kernel
theorem d_La_accesses_1 : decode b_La_accesses 1 = .ok (.iconst 0, 1) := by decide +kernel
theorem d_La_accesses_2 : decode b_La_accesses 2 = .ok (.aload_n 0, 1) := by decide +kernel
theorem d_La_accesses_3 : decode b_La_accesses 3 = .ok (.iload_n 1, 1) := by decide +kernel
theorem d_La_accesses_4 : decode b_La_accesses 4 = .ok (.invokevirtual 75, 3) := by decide +kernel
theorem d_La_accesses_12 : decode b_La_accesses 12 = .ok (.astore_n 3, 1) := by decide +kernel
theorem d_La_accesses_13 : decode b_La_accesses 13 = .ok (.iconst 1, 1) := by decide +kernel
theorem d_La_accesses_14 : decode b_La_accesses 14 = .ok (.ireturn, 1) := by decide +kernel
set_option maxHeartbeats 4000000 in
set_option maxRecDepth 100000 in
theorem w_accesses_bad {l : Launch} {G : Gx} {s0 : State} (hfl : l.flags = pinnedFlags ++ [noTraceFlag]) (C : Cx G s0) (C0 : Ts0 s0) (N : N0 s0) {B D0 ea mi oa : Nat} (E : Es0 s0 ea mi) (hB : s0.heap.size ≤ B) (σ : Sg) (τ : Tt) (v : Int64) (x : Int32) (hx1 : one x = false) : CtR l s0 (FW B D0 oa) 7 4 320 y_La_accesses (.codeWith y_La_accesses b_La_accesses 4 (some .int) [(0, 9, 12, 13)]) [.ref (B), .int (x), .ref (oa)] (JC G B D0 ea oa σ τ v) (pI (fun r H => r = 1 ∧ ∃ τ1, JC G B D0 ea oa σ τ1 (v) H)) := by
  refine CtR.of C cdw_with (by decide) (Nat.le_of_ble_eq_true rfl) ?_
  intro pg ev s mm below meth cd V hr hlk ht hJ ls hl
  obtain ⟨hR, hD, hO, hb1, hb2⟩ := hJ
  have hx := V.1
  have hb := V.2.1
  have hS : va_S (FW B D0 oa) s.heap s.heap [] := va_S.rf
  have hA : ∀ q, FW B D0 oa q → s0.heap.size ≤ q := fun q h => by have := hR.1; rcases h with (h | h) | h <;> omega
  have hl : lv_has ls 4 [(0, .ref (B)), (1, .int (x)), (2, .ref (oa))] := hl
  refine lv_aload_n hx hb d_La_accesses_0 rfl (lv_at hl 2 rfl) ?_
  refine lv_iconst (v := 0) hx hb d_La_accesses_1 (by decide) ?_
  refine lv_aload_n hx hb d_La_accesses_2 rfl (lv_at hl 0 rfl) ?_
  refine lv_iload_n hx hb d_La_accesses_3 rfl (lv_at hl 1 rfl) ?_
  refine t_callV (n := 1) (As := [.int (x)]) (rest := [.int (0), .ref (oa)]) (A0 := FW B D0 oa) V (t_Da_accesses_bad hfl C C0 hB σ τ x hx1) cdw_code ⟨List.mem_of_getElem? (i := 769) (by decide +kernel), rfl⟩ (List.mem_of_getElem? (i := 29) (by decide +kernel)) (List.mem_of_getElem? (i := 766) (by decide +kernel)) ⟨List.mem_of_getElem? (i := 767) (by decide +kernel), List.mem_of_getElem? (i := 768) (by decide +kernel)⟩ ⟨by decide, by decide, by decide +kernel⟩ (hR.rDa V.2.2.2.2.2.1) hR hS hA (fun _ h => Or.inl h) ⟨by decide, by decide⟩ rfl hl (Nat.le_of_ble_eq_true rfl) d_La_accesses_4 ⟨by decide, by decide⟩ (fun xe H locs hex hR hk hS => ?_)
  have hO := hO.kept (hk.2 _ hO.lt (by show ¬ ((B ≤ oa ∧ oa < B + 36) ∨ D0 ≤ oa); omega))
  have hD := Nat.le_trans hD hk.1
  refine wt_c0 (Y := "java/lang/IndexOutOfBoundsException") V ht ⟨by decide, by decide⟩ (by decide) (List.mem_of_getElem? (i := 229) (by decide +kernel)) hex  (isa_t C (List.mem_of_getElem? (i := 323) (by decide +kernel))) ?_
  refine lv_astore_n (lv' := [(3, .ref (xe)), (0, .ref (B)), (1, .int (x)), (2, .ref (oa))]) hx hb d_La_accesses_12 rfl hl (by decide) rfl (fun ls hl => ?_)
  refine lv_iconst (v := 1) hx hb d_La_accesses_13 (by decide) ?_
  exact e_i V hr hlk hS (by decide) (by decide) d_La_accesses_14 ⟨_, rfl, rfl, ⟨_, hR, hD, hO, hb1, hb2⟩⟩
theorem d_La_accesses_7 : decode b_La_accesses 7 = .ok (.i2l, 1) := by decide +kernel
theorem d_La_accesses_8 : decode b_La_accesses 8 = .ok (.lastore, 1) := by decide +kernel
theorem d_La_accesses_9 : decode b_La_accesses 9 = .ok (.goto 6, 3) := by decide +kernel
theorem d_La_accesses_15 : decode b_La_accesses 15 = .ok (.iconst 0, 1) := by decide +kernel
theorem d_La_accesses_16 : decode b_La_accesses 16 = .ok (.ireturn, 1) := by decide +kernel
set_option maxHeartbeats 4000000 in
set_option maxRecDepth 100000 in
theorem w_accesses {l : Launch} {G : Gx} {s0 : State} (hfl : l.flags = pinnedFlags ++ [noTraceFlag]) (C : Cx G s0) (C0 : Ts0 s0) (N : N0 s0) {B D0 ea mi oa : Nat} (E : Es0 s0 ea mi) (hB : s0.heap.size ≤ B) (σ : Sg) (τ : Tt) (v : Int64) (c : Nat) (hc : c < 3) : CtR l s0 (FW B D0 oa) 7 4 320 y_La_accesses (.codeWith y_La_accesses b_La_accesses 4 (some .int) [(0, 9, 12, 13)]) [.ref (B), .int (nI c), .ref (oa)] (JC G B D0 ea oa σ τ v) (pI (fun r H => r = 0 ∧ ∃ τ1, JC G B D0 ea oa σ τ1 ((σ 20 c : Int32).toInt64) H)) := by
  refine CtR.of C cdw_with (by decide) (Nat.le_of_ble_eq_true rfl) ?_
  intro pg ev s mm below meth cd V hr hlk ht hJ ls hl
  obtain ⟨hR, hD, hO, hb1, hb2⟩ := hJ
  have hx := V.1
  have hb := V.2.1
  have hS : va_S (FW B D0 oa) s.heap s.heap [] := va_S.rf
  have hA : ∀ q, FW B D0 oa q → s0.heap.size ≤ q := fun q h => by have := hR.1; rcases h with (h | h) | h <;> omega
  have hl : lv_has ls 4 [(0, .ref (B)), (1, .int (nI c)), (2, .ref (oa))] := hl
  refine lv_aload_n hx hb d_La_accesses_0 rfl (lv_at hl 2 rfl) ?_
  refine lv_iconst (v := 0) hx hb d_La_accesses_1 (by decide) ?_
  refine lv_aload_n hx hb d_La_accesses_2 rfl (lv_at hl 0 rfl) ?_
  refine lv_iload_n hx hb d_La_accesses_3 rfl (lv_at hl 1 rfl) ?_
  refine g_callV (As := [.int (nI c)]) (rest := [.int (0), .ref (oa)]) (A0 := FW B D0 oa) V (c_Da_accesses C hB σ τ c hc) v_La_75 (hR.rDa V.2.2.2.2.2.1) hR hS hA (fun _ h => Or.inl h) ⟨by decide, by decide⟩ rfl hl (Nat.le_of_ble_eq_true rfl) d_La_accesses_4 ⟨by decide, by decide⟩ (kI (fun r H locs hQ hk hS => ?_))
  obtain ⟨rfl, hR⟩ := hQ
  have hO := hO.kept (hk.2 _ hO.lt (by show ¬ ((B ≤ oa ∧ oa < B + 36) ∨ D0 ≤ oa); omega))
  have hD := Nat.le_trans hD hk.1
  refine lv_i2l (v := (σ 20 c : Int32).toInt64) hx hb d_La_accesses_7 rfl ?_
  refine x_ost V hO d_La_accesses_8 (fun H i hO z oq => ?_)
  have hS := hS.put (k := i) z oq (Or.inr rfl)
  have hR := hR.kept (fun q hq hF => oq q (by intro e; subst e; rcases hF with hF | hF <;> omega))
  have hD : D0 ≤ H.size := by rw [z]; exact hD
  refine lv_goto (tgt := 15) hx hb d_La_accesses_9 (by decide) ?_
  refine lv_iconst (v := 0) hx hb d_La_accesses_15 (by decide) ?_
  exact e_i V hr hlk hS (by decide) (by decide) d_La_accesses_16 ⟨_, rfl, rfl, ⟨_, hR, hD, hO, hb1, hb2⟩⟩
theorem d_La_phase_0 : decode b_La_phase 0 = .ok (.aload_n 2, 1) := by decide +kernel
theorem d_La_phase_1 : decode b_La_phase 1 = .ok (.iconst 0, 1) := by decide +kernel
theorem d_La_phase_2 : decode b_La_phase 2 = .ok (.aload_n 0, 1) := by decide +kernel
theorem d_La_phase_3 : decode b_La_phase 3 = .ok (.iload_n 1, 1) := by decide +kernel
theorem d_La_phase_4 : decode b_La_phase 4 = .ok (.invokevirtual 61, 3) := by decide +kernel
theorem d_La_phase_12 : decode b_La_phase 12 = .ok (.astore_n 3, 1) := by decide +kernel
theorem d_La_phase_13 : decode b_La_phase 13 = .ok (.iconst 1, 1) := by decide +kernel
theorem d_La_phase_14 : decode b_La_phase 14 = .ok (.ireturn, 1) := by decide +kernel
set_option maxHeartbeats 4000000 in
set_option maxRecDepth 100000 in
theorem w_phase_bad {l : Launch} {G : Gx} {s0 : State} (hfl : l.flags = pinnedFlags ++ [noTraceFlag]) (C : Cx G s0) (C0 : Ts0 s0) (N : N0 s0) {B D0 ea mi oa : Nat} (E : Es0 s0 ea mi) (hB : s0.heap.size ≤ B) (σ : Sg) (τ : Tt) (v : Int64) (x : Int32) (hx1 : one x = false) : CtR l s0 (FW B D0 oa) 7 4 320 y_La_phase (.codeWith y_La_phase b_La_phase 4 (some .int) [(0, 9, 12, 13)]) [.ref (B), .int (x), .ref (oa)] (JC G B D0 ea oa σ τ v) (pI (fun r H => r = 1 ∧ ∃ τ1, JC G B D0 ea oa σ τ1 (v) H)) := by
  refine CtR.of C cdw_with (by decide) (Nat.le_of_ble_eq_true rfl) ?_
  intro pg ev s mm below meth cd V hr hlk ht hJ ls hl
  obtain ⟨hR, hD, hO, hb1, hb2⟩ := hJ
  have hx := V.1
  have hb := V.2.1
  have hS : va_S (FW B D0 oa) s.heap s.heap [] := va_S.rf
  have hA : ∀ q, FW B D0 oa q → s0.heap.size ≤ q := fun q h => by have := hR.1; rcases h with (h | h) | h <;> omega
  have hl : lv_has ls 4 [(0, .ref (B)), (1, .int (x)), (2, .ref (oa))] := hl
  refine lv_aload_n hx hb d_La_phase_0 rfl (lv_at hl 2 rfl) ?_
  refine lv_iconst (v := 0) hx hb d_La_phase_1 (by decide) ?_
  refine lv_aload_n hx hb d_La_phase_2 rfl (lv_at hl 0 rfl) ?_
  refine lv_iload_n hx hb d_La_phase_3 rfl (lv_at hl 1 rfl) ?_
  refine t_callV (n := 1) (As := [.int (x)]) (rest := [.int (0), .ref (oa)]) (A0 := FW B D0 oa) V (t_Da_phase_bad hfl C C0 hB σ τ x hx1) cdw_code ⟨List.mem_of_getElem? (i := 740) (by decide +kernel), rfl⟩ (List.mem_of_getElem? (i := 29) (by decide +kernel)) (List.mem_of_getElem? (i := 737) (by decide +kernel)) ⟨List.mem_of_getElem? (i := 738) (by decide +kernel), List.mem_of_getElem? (i := 739) (by decide +kernel)⟩ ⟨by decide, by decide, by decide +kernel⟩ (hR.rDa V.2.2.2.2.2.1) hR hS hA (fun _ h => Or.inl h) ⟨by decide, by decide⟩ rfl hl (Nat.le_of_ble_eq_true rfl) d_La_phase_4 ⟨by decide, by decide⟩ (fun xe H locs hex hR hk hS => ?_)
  have hO := hO.kept (hk.2 _ hO.lt (by show ¬ ((B ≤ oa ∧ oa < B + 36) ∨ D0 ≤ oa); omega))
  have hD := Nat.le_trans hD hk.1
  refine wt_c0 (Y := "java/lang/IndexOutOfBoundsException") V ht ⟨by decide, by decide⟩ (by decide) (List.mem_of_getElem? (i := 229) (by decide +kernel)) hex  (isa_t C (List.mem_of_getElem? (i := 323) (by decide +kernel))) ?_
  refine lv_astore_n (lv' := [(3, .ref (xe)), (0, .ref (B)), (1, .int (x)), (2, .ref (oa))]) hx hb d_La_phase_12 rfl hl (by decide) rfl (fun ls hl => ?_)
  refine lv_iconst (v := 1) hx hb d_La_phase_13 (by decide) ?_
  exact e_i V hr hlk hS (by decide) (by decide) d_La_phase_14 ⟨_, rfl, rfl, ⟨_, hR, hD, hO, hb1, hb2⟩⟩
theorem d_La_phase_7 : decode b_La_phase 7 = .ok (.i2l, 1) := by decide +kernel
theorem d_La_phase_8 : decode b_La_phase 8 = .ok (.lastore, 1) := by decide +kernel
theorem d_La_phase_9 : decode b_La_phase 9 = .ok (.goto 6, 3) := by decide +kernel
theorem d_La_phase_15 : decode b_La_phase 15 = .ok (.iconst 0, 1) := by decide +kernel
theorem d_La_phase_16 : decode b_La_phase 16 = .ok (.ireturn, 1) := by decide +kernel
set_option maxHeartbeats 4000000 in
set_option maxRecDepth 100000 in
theorem w_phase {l : Launch} {G : Gx} {s0 : State} (hfl : l.flags = pinnedFlags ++ [noTraceFlag]) (C : Cx G s0) (C0 : Ts0 s0) (N : N0 s0) {B D0 ea mi oa : Nat} (E : Es0 s0 ea mi) (hB : s0.heap.size ≤ B) (σ : Sg) (τ : Tt) (v : Int64) (c : Nat) (hc : c < 3) : CtR l s0 (FW B D0 oa) 7 4 320 y_La_phase (.codeWith y_La_phase b_La_phase 4 (some .int) [(0, 9, 12, 13)]) [.ref (B), .int (nI c), .ref (oa)] (JC G B D0 ea oa σ τ v) (pI (fun r H => r = 0 ∧ ∃ τ1, JC G B D0 ea oa σ τ1 ((if σ 26 c = 0 then -1 else σ 12 c : Int32).toInt64) H)) := by
  refine CtR.of C cdw_with (by decide) (Nat.le_of_ble_eq_true rfl) ?_
  intro pg ev s mm below meth cd V hr hlk ht hJ ls hl
  obtain ⟨hR, hD, hO, hb1, hb2⟩ := hJ
  have hx := V.1
  have hb := V.2.1
  have hS : va_S (FW B D0 oa) s.heap s.heap [] := va_S.rf
  have hA : ∀ q, FW B D0 oa q → s0.heap.size ≤ q := fun q h => by have := hR.1; rcases h with (h | h) | h <;> omega
  have hl : lv_has ls 4 [(0, .ref (B)), (1, .int (nI c)), (2, .ref (oa))] := hl
  refine lv_aload_n hx hb d_La_phase_0 rfl (lv_at hl 2 rfl) ?_
  refine lv_iconst (v := 0) hx hb d_La_phase_1 (by decide) ?_
  refine lv_aload_n hx hb d_La_phase_2 rfl (lv_at hl 0 rfl) ?_
  refine lv_iload_n hx hb d_La_phase_3 rfl (lv_at hl 1 rfl) ?_
  refine g_callV (As := [.int (nI c)]) (rest := [.int (0), .ref (oa)]) (A0 := FW B D0 oa) V (c_Da_phase C hB σ τ c hc) v_La_61 (hR.rDa V.2.2.2.2.2.1) hR hS hA (fun _ h => Or.inl h) ⟨by decide, by decide⟩ rfl hl (Nat.le_of_ble_eq_true rfl) d_La_phase_4 ⟨by decide, by decide⟩ (kI (fun r H locs hQ hk hS => ?_))
  obtain ⟨rfl, hR⟩ := hQ
  have hO := hO.kept (hk.2 _ hO.lt (by show ¬ ((B ≤ oa ∧ oa < B + 36) ∨ D0 ≤ oa); omega))
  have hD := Nat.le_trans hD hk.1
  refine lv_i2l (v := (if σ 26 c = 0 then -1 else σ 12 c : Int32).toInt64) hx hb d_La_phase_7 rfl ?_
  refine x_ost V hO d_La_phase_8 (fun H i hO z oq => ?_)
  have hS := hS.put (k := i) z oq (Or.inr rfl)
  have hR := hR.kept (fun q hq hF => oq q (by intro e; subst e; rcases hF with hF | hF <;> omega))
  have hD : D0 ≤ H.size := by rw [z]; exact hD
  refine lv_goto (tgt := 15) hx hb d_La_phase_9 (by decide) ?_
  refine lv_iconst (v := 0) hx hb d_La_phase_15 (by decide) ?_
  exact e_i V hr hlk hS (by decide) (by decide) d_La_phase_16 ⟨_, rfl, rfl, ⟨_, hR, hD, hO, hb1, hb2⟩⟩
theorem d_La_vote_0 : decode b_La_vote 0 = .ok (.aload_n 3, 1) := by decide +kernel
theorem d_La_vote_1 : decode b_La_vote 1 = .ok (.iconst 0, 1) := by decide +kernel
theorem d_La_vote_2 : decode b_La_vote 2 = .ok (.aload_n 0, 1) := by decide +kernel
theorem d_La_vote_3 : decode b_La_vote 3 = .ok (.iload_n 1, 1) := by decide +kernel
theorem d_La_vote_4 : decode b_La_vote 4 = .ok (.iload_n 2, 1) := by decide +kernel
theorem d_La_vote_5 : decode b_La_vote 5 = .ok (.invokevirtual 67, 3) := by decide +kernel
theorem d_La_vote_13 : decode b_La_vote 13 = .ok (.astore 4, 2) := by decide +kernel
theorem d_La_vote_15 : decode b_La_vote 15 = .ok (.iconst 1, 1) := by decide +kernel
theorem d_La_vote_16 : decode b_La_vote 16 = .ok (.ireturn, 1) := by decide +kernel
set_option maxHeartbeats 4000000 in
set_option maxRecDepth 100000 in
theorem w_vote_bad {l : Launch} {G : Gx} {s0 : State} (hfl : l.flags = pinnedFlags ++ [noTraceFlag]) (C : Cx G s0) (C0 : Ts0 s0) (N : N0 s0) {B D0 ea mi oa : Nat} (E : Es0 s0 ea mi) (hB : s0.heap.size ≤ B) (σ : Sg) (τ : Tt) (v : Int64) (x : Int32) (hx1 : one x = false) (b : Int32) : CtR l s0 (FW B D0 oa) 7 4 320 y_La_vote (.codeWith y_La_vote b_La_vote 5 (some .int) [(0, 10, 13, 13)]) [.ref (B), .int (x), .int (b), .ref (oa)] (JC G B D0 ea oa σ τ v) (pI (fun r H => r = 1 ∧ ∃ τ1, JC G B D0 ea oa σ τ1 (v) H)) := by
  refine CtR.of C cdw_with (by decide) (Nat.le_of_ble_eq_true rfl) ?_
  intro pg ev s mm below meth cd V hr hlk ht hJ ls hl
  obtain ⟨hR, hD, hO, hb1, hb2⟩ := hJ
  have hx := V.1
  have hb := V.2.1
  have hS : va_S (FW B D0 oa) s.heap s.heap [] := va_S.rf
  have hA : ∀ q, FW B D0 oa q → s0.heap.size ≤ q := fun q h => by have := hR.1; rcases h with (h | h) | h <;> omega
  have hl : lv_has ls 5 [(0, .ref (B)), (1, .int (x)), (2, .int (b)), (3, .ref (oa))] := hl
  refine lv_aload_n hx hb d_La_vote_0 rfl (lv_at hl 3 rfl) ?_
  refine lv_iconst (v := 0) hx hb d_La_vote_1 (by decide) ?_
  refine lv_aload_n hx hb d_La_vote_2 rfl (lv_at hl 0 rfl) ?_
  refine lv_iload_n hx hb d_La_vote_3 rfl (lv_at hl 1 rfl) ?_
  refine lv_iload_n hx hb d_La_vote_4 rfl (lv_at hl 2 rfl) ?_
  refine t_callV (n := 2) (As := [.int (x), .int (b)]) (rest := [.int (0), .ref (oa)]) (A0 := FW B D0 oa) V (t_Da_vote_bad hfl C C0 hB σ τ x hx1 b) cdw_code ⟨List.mem_of_getElem? (i := 754) (by decide +kernel), rfl⟩ (List.mem_of_getElem? (i := 29) (by decide +kernel)) (List.mem_of_getElem? (i := 751) (by decide +kernel)) ⟨List.mem_of_getElem? (i := 752) (by decide +kernel), List.mem_of_getElem? (i := 753) (by decide +kernel)⟩ ⟨by decide, by decide, by decide +kernel⟩ (hR.rDa V.2.2.2.2.2.1) hR hS hA (fun _ h => Or.inl h) ⟨by decide, by decide⟩ rfl hl (Nat.le_of_ble_eq_true rfl) d_La_vote_5 ⟨by decide, by decide⟩ (fun xe H locs hex hR hk hS => ?_)
  have hO := hO.kept (hk.2 _ hO.lt (by show ¬ ((B ≤ oa ∧ oa < B + 36) ∨ D0 ≤ oa); omega))
  have hD := Nat.le_trans hD hk.1
  refine wt_c0 (Y := "java/lang/IndexOutOfBoundsException") V ht ⟨by decide, by decide⟩ (by decide) (List.mem_of_getElem? (i := 229) (by decide +kernel)) hex  (isa_t C (List.mem_of_getElem? (i := 323) (by decide +kernel))) ?_
  refine lv_astore (lv' := [(4, .ref (xe)), (0, .ref (B)), (1, .int (x)), (2, .int (b)), (3, .ref (oa))]) hx hb d_La_vote_13 hl (by decide) rfl (fun ls hl => ?_)
  refine lv_iconst (v := 1) hx hb d_La_vote_15 (by decide) ?_
  exact e_i V hr hlk hS (by decide) (by decide) d_La_vote_16 ⟨_, rfl, rfl, ⟨_, hR, hD, hO, hb1, hb2⟩⟩
theorem d_La_vote_8 : decode b_La_vote 8 = .ok (.i2l, 1) := by decide +kernel
theorem d_La_vote_9 : decode b_La_vote 9 = .ok (.lastore, 1) := by decide +kernel
theorem d_La_vote_10 : decode b_La_vote 10 = .ok (.goto 7, 3) := by decide +kernel
theorem d_La_vote_17 : decode b_La_vote 17 = .ok (.iconst 0, 1) := by decide +kernel
theorem d_La_vote_18 : decode b_La_vote 18 = .ok (.ireturn, 1) := by decide +kernel
set_option maxHeartbeats 4000000 in
set_option maxRecDepth 100000 in
theorem w_vote {l : Launch} {G : Gx} {s0 : State} (hfl : l.flags = pinnedFlags ++ [noTraceFlag]) (C : Cx G s0) (C0 : Ts0 s0) (N : N0 s0) {B D0 ea mi oa : Nat} (E : Es0 s0 ea mi) (hB : s0.heap.size ≤ B) (σ : Sg) (τ : Tt) (v : Int64) (c : Nat) (hc : c < 3) (b : Int32) : CtR l s0 (FW B D0 oa) 7 4 320 y_La_vote (.codeWith y_La_vote b_La_vote 5 (some .int) [(0, 10, 13, 13)]) [.ref (B), .int (nI c), .int (b), .ref (oa)] (JC G B D0 ea oa σ τ v) (pI (fun r H => r = 0 ∧ ∃ τ1, JC G B D0 ea oa σ τ1 ((if b = 0 then σ 9 c else σ 10 c : Int32).toInt64) H)) := by
  refine CtR.of C cdw_with (by decide) (Nat.le_of_ble_eq_true rfl) ?_
  intro pg ev s mm below meth cd V hr hlk ht hJ ls hl
  obtain ⟨hR, hD, hO, hb1, hb2⟩ := hJ
  have hx := V.1
  have hb := V.2.1
  have hS : va_S (FW B D0 oa) s.heap s.heap [] := va_S.rf
  have hA : ∀ q, FW B D0 oa q → s0.heap.size ≤ q := fun q h => by have := hR.1; rcases h with (h | h) | h <;> omega
  have hl : lv_has ls 5 [(0, .ref (B)), (1, .int (nI c)), (2, .int (b)), (3, .ref (oa))] := hl
  refine lv_aload_n hx hb d_La_vote_0 rfl (lv_at hl 3 rfl) ?_
  refine lv_iconst (v := 0) hx hb d_La_vote_1 (by decide) ?_
  refine lv_aload_n hx hb d_La_vote_2 rfl (lv_at hl 0 rfl) ?_
  refine lv_iload_n hx hb d_La_vote_3 rfl (lv_at hl 1 rfl) ?_
  refine lv_iload_n hx hb d_La_vote_4 rfl (lv_at hl 2 rfl) ?_
  refine g_callV (As := [.int (nI c), .int (b)]) (rest := [.int (0), .ref (oa)]) (A0 := FW B D0 oa) V (c_Da_vote C hB σ τ c hc b) v_La_67 (hR.rDa V.2.2.2.2.2.1) hR hS hA (fun _ h => Or.inl h) ⟨by decide, by decide⟩ rfl hl (Nat.le_of_ble_eq_true rfl) d_La_vote_5 ⟨by decide, by decide⟩ (kI (fun r H locs hQ hk hS => ?_))
  obtain ⟨rfl, hR⟩ := hQ
  have hO := hO.kept (hk.2 _ hO.lt (by show ¬ ((B ≤ oa ∧ oa < B + 36) ∨ D0 ≤ oa); omega))
  have hD := Nat.le_trans hD hk.1
  refine lv_i2l (v := (if b = 0 then σ 9 c else σ 10 c : Int32).toInt64) hx hb d_La_vote_8 rfl ?_
  refine x_ost V hO d_La_vote_9 (fun H i hO z oq => ?_)
  have hS := hS.put (k := i) z oq (Or.inr rfl)
  have hR := hR.kept (fun q hq hF => oq q (by intro e; subst e; rcases hF with hF | hF <;> omega))
  have hD : D0 ≤ H.size := by rw [z]; exact hD
  refine lv_goto (tgt := 17) hx hb d_La_vote_10 (by decide) ?_
  refine lv_iconst (v := 0) hx hb d_La_vote_17 (by decide) ?_
  exact e_i V hr hlk hS (by decide) (by decide) d_La_vote_18 ⟨_, rfl, rfl, ⟨_, hR, hD, hO, hb1, hb2⟩⟩
theorem d_La_crash_0 : decode b_La_crash 0 = .ok (.aload_n 2, 1) := by decide +kernel
theorem d_La_crash_1 : decode b_La_crash 1 = .ok (.iconst 0, 1) := by decide +kernel
theorem d_La_crash_2 : decode b_La_crash 2 = .ok (.aload_n 0, 1) := by decide +kernel
theorem d_La_crash_3 : decode b_La_crash 3 = .ok (.iload_n 1, 1) := by decide +kernel
theorem d_La_crash_4 : decode b_La_crash 4 = .ok (.invokevirtual 35, 3) := by decide +kernel
theorem d_La_crash_19 : decode b_La_crash 19 = .ok (.astore_n 3, 1) := by decide +kernel
theorem d_La_crash_20 : decode b_La_crash 20 = .ok (.iconst 1, 1) := by decide +kernel
theorem d_La_crash_21 : decode b_La_crash 21 = .ok (.ireturn, 1) := by decide +kernel
set_option maxHeartbeats 4000000 in
set_option maxRecDepth 100000 in
theorem w_crash_bad {l : Launch} {G : Gx} {s0 : State} (hfl : l.flags = pinnedFlags ++ [noTraceFlag]) (C : Cx G s0) (C0 : Ts0 s0) (N : N0 s0) {B D0 ea mi oa : Nat} (E : Es0 s0 ea mi) (hB : s0.heap.size ≤ B) (σ : Sg) (τ : Tt) (v : Int64) (x : Int32) (hx1 : one x = false) : CtR l s0 (FW B D0 oa) 7 4 320 y_La_crash (.codeWith y_La_crash b_La_crash 4 (some .int) [(0, 16, 19, 13)]) [.ref (B), .int (x), .ref (oa)] (JC G B D0 ea oa σ τ v) (pI (fun r H => r = 1 ∧ ∃ τ1, JC G B D0 ea oa σ τ1 (v) H)) := by
  refine CtR.of C cdw_with (by decide) (Nat.le_of_ble_eq_true rfl) ?_
  intro pg ev s mm below meth cd V hr hlk ht hJ ls hl
  obtain ⟨hR, hD, hO, hb1, hb2⟩ := hJ
  have hx := V.1
  have hb := V.2.1
  have hS : va_S (FW B D0 oa) s.heap s.heap [] := va_S.rf
  have hA : ∀ q, FW B D0 oa q → s0.heap.size ≤ q := fun q h => by have := hR.1; rcases h with (h | h) | h <;> omega
  have hl : lv_has ls 4 [(0, .ref (B)), (1, .int (x)), (2, .ref (oa))] := hl
  refine lv_aload_n hx hb d_La_crash_0 rfl (lv_at hl 2 rfl) ?_
  refine lv_iconst (v := 0) hx hb d_La_crash_1 (by decide) ?_
  refine lv_aload_n hx hb d_La_crash_2 rfl (lv_at hl 0 rfl) ?_
  refine lv_iload_n hx hb d_La_crash_3 rfl (lv_at hl 1 rfl) ?_
  refine t_callV (n := 1) (As := [.int (x)]) (rest := [.int (0), .ref (oa)]) (A0 := FW B D0 oa) V (t_Da_crash_bad hfl C C0 hB σ τ x hx1) cdw_code ⟨List.mem_of_getElem? (i := 675) (by decide +kernel), rfl⟩ (List.mem_of_getElem? (i := 29) (by decide +kernel)) (List.mem_of_getElem? (i := 672) (by decide +kernel)) ⟨List.mem_of_getElem? (i := 673) (by decide +kernel), List.mem_of_getElem? (i := 674) (by decide +kernel)⟩ ⟨by decide, by decide, by decide +kernel⟩ (hR.rDa V.2.2.2.2.2.1) hR hS hA (fun _ h => Or.inl h) ⟨by decide, by decide⟩ rfl hl (Nat.le_of_ble_eq_true rfl) d_La_crash_4 ⟨by decide, by decide⟩ (fun xe H locs hex hR hk hS => ?_)
  have hO := hO.kept (hk.2 _ hO.lt (by show ¬ ((B ≤ oa ∧ oa < B + 36) ∨ D0 ≤ oa); omega))
  have hD := Nat.le_trans hD hk.1
  refine wt_c0 (Y := "java/lang/IndexOutOfBoundsException") V ht ⟨by decide, by decide⟩ (by decide) (List.mem_of_getElem? (i := 229) (by decide +kernel)) hex  (isa_t C (List.mem_of_getElem? (i := 323) (by decide +kernel))) ?_
  refine lv_astore_n (lv' := [(3, .ref (xe)), (0, .ref (B)), (1, .int (x)), (2, .ref (oa))]) hx hb d_La_crash_19 rfl hl (by decide) rfl (fun ls hl => ?_)
  refine lv_iconst (v := 1) hx hb d_La_crash_20 (by decide) ?_
  exact e_i V hr hlk hS (by decide) (by decide) d_La_crash_21 ⟨_, rfl, rfl, ⟨_, hR, hD, hO, hb1, hb2⟩⟩
theorem d_La_crash_7 : decode b_La_crash 7 = .ok (.ifCond .eq 7, 3) := by decide +kernel
theorem d_La_crash_10 : decode b_La_crash 10 = .ok (.lconst 1, 1) := by decide +kernel
theorem d_La_crash_11 : decode b_La_crash 11 = .ok (.goto 4, 3) := by decide +kernel
theorem d_La_crash_14 : decode b_La_crash 14 = .ok (.lconst 0, 1) := by decide +kernel
theorem d_La_crash_15 : decode b_La_crash 15 = .ok (.lastore, 1) := by decide +kernel
theorem d_La_crash_16 : decode b_La_crash 16 = .ok (.goto 6, 3) := by decide +kernel
theorem d_La_crash_22 : decode b_La_crash 22 = .ok (.iconst 0, 1) := by decide +kernel
theorem d_La_crash_23 : decode b_La_crash 23 = .ok (.ireturn, 1) := by decide +kernel
set_option maxHeartbeats 4000000 in
set_option maxRecDepth 100000 in
theorem w_crash {l : Launch} {G : Gx} {s0 : State} (hfl : l.flags = pinnedFlags ++ [noTraceFlag]) (C : Cx G s0) (C0 : Ts0 s0) (N : N0 s0) {B D0 ea mi oa : Nat} (E : Es0 s0 ea mi) (hB : s0.heap.size ≤ B) (σ : Sg) (τ : Tt) (v : Int64) (c : Nat) (hc : c < 3) (hu : σ 26 c = 0 ∨ σ 26 c = 1) : CtR l s0 (FW B D0 oa) 7 4 320 y_La_crash (.codeWith y_La_crash b_La_crash 4 (some .int) [(0, 16, 19, 13)]) [.ref (B), .int (nI c), .ref (oa)] (JC G B D0 ea oa σ τ v) (pI (fun r H => r = 0 ∧ ∃ τ1, JC G B D0 ea oa (up2 σ 26 c 0) τ1 (bl (σ 26 c)) H)) := by
  refine CtR.of C cdw_with (by decide) (Nat.le_of_ble_eq_true rfl) ?_
  intro pg ev s mm below meth cd V hr hlk ht hJ ls hl
  obtain ⟨hR, hD, hO, hb1, hb2⟩ := hJ
  have hx := V.1
  have hb := V.2.1
  have hS : va_S (FW B D0 oa) s.heap s.heap [] := va_S.rf
  have hA : ∀ q, FW B D0 oa q → s0.heap.size ≤ q := fun q h => by have := hR.1; rcases h with (h | h) | h <;> omega
  have hl : lv_has ls 4 [(0, .ref (B)), (1, .int (nI c)), (2, .ref (oa))] := hl
  refine lv_aload_n hx hb d_La_crash_0 rfl (lv_at hl 2 rfl) ?_
  refine lv_iconst (v := 0) hx hb d_La_crash_1 (by decide) ?_
  refine lv_aload_n hx hb d_La_crash_2 rfl (lv_at hl 0 rfl) ?_
  refine lv_iload_n hx hb d_La_crash_3 rfl (lv_at hl 1 rfl) ?_
  refine g_callV (As := [.int (nI c)]) (rest := [.int (0), .ref (oa)]) (A0 := FW B D0 oa) V (c_Da_crash C hB σ τ c hc hu) v_La_35 (hR.rDa V.2.2.2.2.2.1) hR hS hA (fun _ h => Or.inl h) ⟨by decide, by decide⟩ rfl hl (Nat.le_of_ble_eq_true rfl) d_La_crash_4 ⟨by decide, by decide⟩ (kI (fun r H locs hQ hk hS => ?_))
  obtain ⟨rfl, hR⟩ := hQ
  have hO := hO.kept (hk.2 _ hO.lt (by show ¬ ((B ≤ oa ∧ oa < B + 36) ∨ D0 ≤ oa); omega))
  have hD := Nat.le_trans hD hk.1
  refine lv_if_eq (tgt := 14) hx hb d_La_crash_7 (by decide) (fun h7 => ?_) (fun h7 => ?_)
  · refine lv_lconst (v := 0) hx hb d_La_crash_14 (by decide) ?_
    refine x_ost V hO d_La_crash_15 (fun H i hO z oq => ?_)
    have hS := hS.put (k := i) z oq (Or.inr rfl)
    have hR := hR.kept (fun q hq hF => oq q (by intro e; subst e; rcases hF with hF | hF <;> omega))
    have hD : D0 ≤ H.size := by rw [z]; exact hD
    refine lv_goto (tgt := 22) hx hb d_La_crash_16 (by decide) ?_
    refine lv_iconst (v := 0) hx hb d_La_crash_22 (by decide) ?_
    exact e_i V hr hlk hS (by decide) (by decide) d_La_crash_23 ⟨_, rfl, rfl, ⟨_, hR, hD, by rw [show bl (σ 26 c) = 0 from if_pos h7]; exact hO, hb1, hb2⟩⟩
  · refine lv_lconst (v := 1) hx hb d_La_crash_10 (by decide) ?_
    refine lv_goto (tgt := 15) hx hb d_La_crash_11 (by decide) ?_
    refine x_ost V hO d_La_crash_15 (fun H i hO z oq => ?_)
    have hS := hS.put (k := i) z oq (Or.inr rfl)
    have hR := hR.kept (fun q hq hF => oq q (by intro e; subst e; rcases hF with hF | hF <;> omega))
    have hD : D0 ≤ H.size := by rw [z]; exact hD
    refine lv_goto (tgt := 22) hx hb d_La_crash_16 (by decide) ?_
    refine lv_iconst (v := 0) hx hb d_La_crash_22 (by decide) ?_
    exact e_i V hr hlk hS (by decide) (by decide) d_La_crash_23 ⟨_, rfl, rfl, ⟨_, hR, hD, by rw [show bl (σ 26 c) = 1 from if_neg h7]; exact hO, hb1, hb2⟩⟩
theorem d_La_restart_0 : decode b_La_restart 0 = .ok (.aload_n 2, 1) := by decide +kernel
theorem d_La_restart_1 : decode b_La_restart 1 = .ok (.iconst 0, 1) := by decide +kernel
theorem d_La_restart_2 : decode b_La_restart 2 = .ok (.aload_n 0, 1) := by decide +kernel
theorem d_La_restart_3 : decode b_La_restart 3 = .ok (.iload_n 1, 1) := by decide +kernel
theorem d_La_restart_4 : decode b_La_restart 4 = .ok (.invokevirtual 39, 3) := by decide +kernel
theorem d_La_restart_19 : decode b_La_restart 19 = .ok (.astore_n 3, 1) := by decide +kernel
theorem d_La_restart_20 : decode b_La_restart 20 = .ok (.iconst 1, 1) := by decide +kernel
theorem d_La_restart_21 : decode b_La_restart 21 = .ok (.ireturn, 1) := by decide +kernel
set_option maxHeartbeats 4000000 in
set_option maxRecDepth 100000 in
theorem w_restart_bad {l : Launch} {G : Gx} {s0 : State} (hfl : l.flags = pinnedFlags ++ [noTraceFlag]) (C : Cx G s0) (C0 : Ts0 s0) (N : N0 s0) {B D0 ea mi oa : Nat} (E : Es0 s0 ea mi) (hB : s0.heap.size ≤ B) (σ : Sg) (τ : Tt) (v : Int64) (x : Int32) (hx1 : one x = false) : CtR l s0 (FW B D0 oa) 7 4 320 y_La_restart (.codeWith y_La_restart b_La_restart 4 (some .int) [(0, 16, 19, 13)]) [.ref (B), .int (x), .ref (oa)] (JC G B D0 ea oa σ τ v) (pI (fun r H => r = 1 ∧ ∃ τ1, JC G B D0 ea oa σ τ1 (v) H)) := by
  refine CtR.of C cdw_with (by decide) (Nat.le_of_ble_eq_true rfl) ?_
  intro pg ev s mm below meth cd V hr hlk ht hJ ls hl
  obtain ⟨hR, hD, hO, hb1, hb2⟩ := hJ
  have hx := V.1
  have hb := V.2.1
  have hS : va_S (FW B D0 oa) s.heap s.heap [] := va_S.rf
  have hA : ∀ q, FW B D0 oa q → s0.heap.size ≤ q := fun q h => by have := hR.1; rcases h with (h | h) | h <;> omega
  have hl : lv_has ls 4 [(0, .ref (B)), (1, .int (x)), (2, .ref (oa))] := hl
  refine lv_aload_n hx hb d_La_restart_0 rfl (lv_at hl 2 rfl) ?_
  refine lv_iconst (v := 0) hx hb d_La_restart_1 (by decide) ?_
  refine lv_aload_n hx hb d_La_restart_2 rfl (lv_at hl 0 rfl) ?_
  refine lv_iload_n hx hb d_La_restart_3 rfl (lv_at hl 1 rfl) ?_
  refine t_callV (n := 1) (As := [.int (x)]) (rest := [.int (0), .ref (oa)]) (A0 := FW B D0 oa) V (t_Da_restart_bad hfl C C0 hB σ τ x hx1) cdw_code ⟨List.mem_of_getElem? (i := 682) (by decide +kernel), rfl⟩ (List.mem_of_getElem? (i := 29) (by decide +kernel)) (List.mem_of_getElem? (i := 679) (by decide +kernel)) ⟨List.mem_of_getElem? (i := 680) (by decide +kernel), List.mem_of_getElem? (i := 681) (by decide +kernel)⟩ ⟨by decide, by decide, by decide +kernel⟩ (hR.rDa V.2.2.2.2.2.1) hR hS hA (fun _ h => Or.inl h) ⟨by decide, by decide⟩ rfl hl (Nat.le_of_ble_eq_true rfl) d_La_restart_4 ⟨by decide, by decide⟩ (fun xe H locs hex hR hk hS => ?_)
  have hO := hO.kept (hk.2 _ hO.lt (by show ¬ ((B ≤ oa ∧ oa < B + 36) ∨ D0 ≤ oa); omega))
  have hD := Nat.le_trans hD hk.1
  refine wt_c0 (Y := "java/lang/IndexOutOfBoundsException") V ht ⟨by decide, by decide⟩ (by decide) (List.mem_of_getElem? (i := 229) (by decide +kernel)) hex  (isa_t C (List.mem_of_getElem? (i := 323) (by decide +kernel))) ?_
  refine lv_astore_n (lv' := [(3, .ref (xe)), (0, .ref (B)), (1, .int (x)), (2, .ref (oa))]) hx hb d_La_restart_19 rfl hl (by decide) rfl (fun ls hl => ?_)
  refine lv_iconst (v := 1) hx hb d_La_restart_20 (by decide) ?_
  exact e_i V hr hlk hS (by decide) (by decide) d_La_restart_21 ⟨_, rfl, rfl, ⟨_, hR, hD, hO, hb1, hb2⟩⟩
theorem d_La_restart_7 : decode b_La_restart 7 = .ok (.ifCond .eq 7, 3) := by decide +kernel
theorem d_La_restart_10 : decode b_La_restart 10 = .ok (.lconst 1, 1) := by decide +kernel
theorem d_La_restart_11 : decode b_La_restart 11 = .ok (.goto 4, 3) := by decide +kernel
theorem d_La_restart_14 : decode b_La_restart 14 = .ok (.lconst 0, 1) := by decide +kernel
theorem d_La_restart_15 : decode b_La_restart 15 = .ok (.lastore, 1) := by decide +kernel
theorem d_La_restart_16 : decode b_La_restart 16 = .ok (.goto 6, 3) := by decide +kernel
theorem d_La_restart_22 : decode b_La_restart 22 = .ok (.iconst 0, 1) := by decide +kernel
theorem d_La_restart_23 : decode b_La_restart 23 = .ok (.ireturn, 1) := by decide +kernel
set_option maxHeartbeats 4000000 in
set_option maxRecDepth 100000 in
theorem w_restart {l : Launch} {G : Gx} {s0 : State} (hfl : l.flags = pinnedFlags ++ [noTraceFlag]) (C : Cx G s0) (C0 : Ts0 s0) (N : N0 s0) {B D0 ea mi oa : Nat} (E : Es0 s0 ea mi) (hB : s0.heap.size ≤ B) (σ : Sg) (τ : Tt) (v : Int64) (c : Nat) (hc : c < 3) : CtR l s0 (FW B D0 oa) 7 4 320 y_La_restart (.codeWith y_La_restart b_La_restart 4 (some .int) [(0, 16, 19, 13)]) [.ref (B), .int (nI c), .ref (oa)] (JC G B D0 ea oa σ τ v) (pI (fun r H => r = 0 ∧ ∃ τ1, JC G B D0 ea oa (if σ 26 c = 0 then cup σ c else σ) τ1 (bl (if σ 26 c = 0 then 1 else 0)) H)) := by
  refine CtR.of C cdw_with (by decide) (Nat.le_of_ble_eq_true rfl) ?_
  intro pg ev s mm below meth cd V hr hlk ht hJ ls hl
  obtain ⟨hR, hD, hO, hb1, hb2⟩ := hJ
  have hx := V.1
  have hb := V.2.1
  have hS : va_S (FW B D0 oa) s.heap s.heap [] := va_S.rf
  have hA : ∀ q, FW B D0 oa q → s0.heap.size ≤ q := fun q h => by have := hR.1; rcases h with (h | h) | h <;> omega
  have hl : lv_has ls 4 [(0, .ref (B)), (1, .int (nI c)), (2, .ref (oa))] := hl
  refine lv_aload_n hx hb d_La_restart_0 rfl (lv_at hl 2 rfl) ?_
  refine lv_iconst (v := 0) hx hb d_La_restart_1 (by decide) ?_
  refine lv_aload_n hx hb d_La_restart_2 rfl (lv_at hl 0 rfl) ?_
  refine lv_iload_n hx hb d_La_restart_3 rfl (lv_at hl 1 rfl) ?_
  refine g_callV (As := [.int (nI c)]) (rest := [.int (0), .ref (oa)]) (A0 := FW B D0 oa) V (c_Da_restart C hB σ τ c hc) v_La_39 (hR.rDa V.2.2.2.2.2.1) hR hS hA (fun _ h => Or.inl h) ⟨by decide, by decide⟩ rfl hl (Nat.le_of_ble_eq_true rfl) d_La_restart_4 ⟨by decide, by decide⟩ (kI (fun r H locs hQ hk hS => ?_))
  obtain ⟨rfl, hR⟩ := hQ
  have hO := hO.kept (hk.2 _ hO.lt (by show ¬ ((B ≤ oa ∧ oa < B + 36) ∨ D0 ≤ oa); omega))
  have hD := Nat.le_trans hD hk.1
  refine lv_if_eq (tgt := 14) hx hb d_La_restart_7 (by decide) (fun h7 => ?_) (fun h7 => ?_)
  · refine lv_lconst (v := 0) hx hb d_La_restart_14 (by decide) ?_
    refine x_ost V hO d_La_restart_15 (fun H i hO z oq => ?_)
    have hS := hS.put (k := i) z oq (Or.inr rfl)
    have hR := hR.kept (fun q hq hF => oq q (by intro e; subst e; rcases hF with hF | hF <;> omega))
    have hD : D0 ≤ H.size := by rw [z]; exact hD
    refine lv_goto (tgt := 22) hx hb d_La_restart_16 (by decide) ?_
    refine lv_iconst (v := 0) hx hb d_La_restart_22 (by decide) ?_
    exact e_i V hr hlk hS (by decide) (by decide) d_La_restart_23 ⟨_, rfl, rfl, ⟨_, hR, hD, by rw [show bl (if σ 26 c = 0 then 1 else 0) = 0 from if_pos h7]; exact hO, hb1, hb2⟩⟩
  · refine lv_lconst (v := 1) hx hb d_La_restart_10 (by decide) ?_
    refine lv_goto (tgt := 15) hx hb d_La_restart_11 (by decide) ?_
    refine x_ost V hO d_La_restart_15 (fun H i hO z oq => ?_)
    have hS := hS.put (k := i) z oq (Or.inr rfl)
    have hR := hR.kept (fun q hq hF => oq q (by intro e; subst e; rcases hF with hF | hF <;> omega))
    have hD : D0 ≤ H.size := by rw [z]; exact hD
    refine lv_goto (tgt := 22) hx hb d_La_restart_16 (by decide) ?_
    refine lv_iconst (v := 0) hx hb d_La_restart_22 (by decide) ?_
    exact e_i V hr hlk hS (by decide) (by decide) d_La_restart_23 ⟨_, rfl, rfl, ⟨_, hR, hD, by rw [show bl (if σ 26 c = 0 then 1 else 0) = 1 from if_neg h7]; exact hO, hb1, hb2⟩⟩
theorem d_La_disk_0 : decode b_La_disk 0 = .ok (.aload_n 3, 1) := by decide +kernel
theorem d_La_disk_1 : decode b_La_disk 1 = .ok (.iconst 0, 1) := by decide +kernel
theorem d_La_disk_2 : decode b_La_disk 2 = .ok (.aload_n 0, 1) := by decide +kernel
theorem d_La_disk_3 : decode b_La_disk 3 = .ok (.iload_n 1, 1) := by decide +kernel
theorem d_La_disk_4 : decode b_La_disk 4 = .ok (.iload_n 2, 1) := by decide +kernel
theorem d_La_disk_5 : decode b_La_disk 5 = .ok (.invokevirtual 27, 3) := by decide +kernel
theorem d_La_disk_20 : decode b_La_disk 20 = .ok (.astore 4, 2) := by decide +kernel
theorem d_La_disk_22 : decode b_La_disk 22 = .ok (.iconst 1, 1) := by decide +kernel
theorem d_La_disk_23 : decode b_La_disk 23 = .ok (.ireturn, 1) := by decide +kernel
set_option maxHeartbeats 4000000 in
set_option maxRecDepth 100000 in
theorem w_disk_bad {l : Launch} {G : Gx} {s0 : State} (hfl : l.flags = pinnedFlags ++ [noTraceFlag]) (C : Cx G s0) (C0 : Ts0 s0) (N : N0 s0) {B D0 ea mi oa : Nat} (E : Es0 s0 ea mi) (hB : s0.heap.size ≤ B) (σ : Sg) (τ : Tt) (v : Int64) (x : Int32) (hx1 : one x = false) (b : Int32) : CtR l s0 (FW B D0 oa) 7 4 320 y_La_disk (.codeWith y_La_disk b_La_disk 5 (some .int) [(0, 17, 20, 13)]) [.ref (B), .int (x), .int (b), .ref (oa)] (JC G B D0 ea oa σ τ v) (pI (fun r H => r = 1 ∧ ∃ τ1, JC G B D0 ea oa σ τ1 (v) H)) := by
  refine CtR.of C cdw_with (by decide) (Nat.le_of_ble_eq_true rfl) ?_
  intro pg ev s mm below meth cd V hr hlk ht hJ ls hl
  obtain ⟨hR, hD, hO, hb1, hb2⟩ := hJ
  have hx := V.1
  have hb := V.2.1
  have hS : va_S (FW B D0 oa) s.heap s.heap [] := va_S.rf
  have hA : ∀ q, FW B D0 oa q → s0.heap.size ≤ q := fun q h => by have := hR.1; rcases h with (h | h) | h <;> omega
  have hl : lv_has ls 5 [(0, .ref (B)), (1, .int (x)), (2, .int (b)), (3, .ref (oa))] := hl
  refine lv_aload_n hx hb d_La_disk_0 rfl (lv_at hl 3 rfl) ?_
  refine lv_iconst (v := 0) hx hb d_La_disk_1 (by decide) ?_
  refine lv_aload_n hx hb d_La_disk_2 rfl (lv_at hl 0 rfl) ?_
  refine lv_iload_n hx hb d_La_disk_3 rfl (lv_at hl 1 rfl) ?_
  refine lv_iload_n hx hb d_La_disk_4 rfl (lv_at hl 2 rfl) ?_
  refine t_callV (n := 2) (As := [.int (x), .int (b)]) (rest := [.int (0), .ref (oa)]) (A0 := FW B D0 oa) V (t_Da_disk_bad hfl C C0 hB σ τ x hx1 b) cdw_code ⟨List.mem_of_getElem? (i := 656) (by decide +kernel), rfl⟩ (List.mem_of_getElem? (i := 29) (by decide +kernel)) (List.mem_of_getElem? (i := 653) (by decide +kernel)) ⟨List.mem_of_getElem? (i := 654) (by decide +kernel), List.mem_of_getElem? (i := 655) (by decide +kernel)⟩ ⟨by decide, by decide, by decide +kernel⟩ (hR.rDa V.2.2.2.2.2.1) hR hS hA (fun _ h => Or.inl h) ⟨by decide, by decide⟩ rfl hl (Nat.le_of_ble_eq_true rfl) d_La_disk_5 ⟨by decide, by decide⟩ (fun xe H locs hex hR hk hS => ?_)
  have hO := hO.kept (hk.2 _ hO.lt (by show ¬ ((B ≤ oa ∧ oa < B + 36) ∨ D0 ≤ oa); omega))
  have hD := Nat.le_trans hD hk.1
  refine wt_c0 (Y := "java/lang/IndexOutOfBoundsException") V ht ⟨by decide, by decide⟩ (by decide) (List.mem_of_getElem? (i := 229) (by decide +kernel)) hex  (isa_t C (List.mem_of_getElem? (i := 323) (by decide +kernel))) ?_
  refine lv_astore (lv' := [(4, .ref (xe)), (0, .ref (B)), (1, .int (x)), (2, .int (b)), (3, .ref (oa))]) hx hb d_La_disk_20 hl (by decide) rfl (fun ls hl => ?_)
  refine lv_iconst (v := 1) hx hb d_La_disk_22 (by decide) ?_
  exact e_i V hr hlk hS (by decide) (by decide) d_La_disk_23 ⟨_, rfl, rfl, ⟨_, hR, hD, hO, hb1, hb2⟩⟩
theorem d_La_disk_8 : decode b_La_disk 8 = .ok (.ifCond .eq 7, 3) := by decide +kernel
theorem d_La_disk_11 : decode b_La_disk 11 = .ok (.lconst 1, 1) := by decide +kernel
theorem d_La_disk_12 : decode b_La_disk 12 = .ok (.goto 4, 3) := by decide +kernel
theorem d_La_disk_15 : decode b_La_disk 15 = .ok (.lconst 0, 1) := by decide +kernel
theorem d_La_disk_16 : decode b_La_disk 16 = .ok (.lastore, 1) := by decide +kernel
theorem d_La_disk_17 : decode b_La_disk 17 = .ok (.goto 7, 3) := by decide +kernel
theorem d_La_disk_24 : decode b_La_disk 24 = .ok (.iconst 0, 1) := by decide +kernel
theorem d_La_disk_25 : decode b_La_disk 25 = .ok (.ireturn, 1) := by decide +kernel
set_option maxHeartbeats 4000000 in
set_option maxRecDepth 100000 in
theorem w_disk {l : Launch} {G : Gx} {s0 : State} (hfl : l.flags = pinnedFlags ++ [noTraceFlag]) (C : Cx G s0) (C0 : Ts0 s0) (N : N0 s0) {B D0 ea mi oa : Nat} (E : Es0 s0 ea mi) (hB : s0.heap.size ≤ B) (σ : Sg) (τ : Tt) (v : Int64) (d : Nat) (hd : d < 3) (b : Int32) (hb9 : b = 0 ∨ b = 1) : CtR l s0 (FW B D0 oa) 7 4 320 y_La_disk (.codeWith y_La_disk b_La_disk 5 (some .int) [(0, 17, 20, 13)]) [.ref (B), .int (nI d), .int (b), .ref (oa)] (JC G B D0 ea oa σ τ v) (pI (fun r H => r = 0 ∧ ∃ τ1, JC G B D0 ea oa (up2 σ 27 d b) τ1 (bl (if σ 27 d = b then 0 else 1)) H)) := by
  refine CtR.of C cdw_with (by decide) (Nat.le_of_ble_eq_true rfl) ?_
  intro pg ev s mm below meth cd V hr hlk ht hJ ls hl
  obtain ⟨hR, hD, hO, hb1, hb2⟩ := hJ
  have hx := V.1
  have hb := V.2.1
  have hS : va_S (FW B D0 oa) s.heap s.heap [] := va_S.rf
  have hA : ∀ q, FW B D0 oa q → s0.heap.size ≤ q := fun q h => by have := hR.1; rcases h with (h | h) | h <;> omega
  have hl : lv_has ls 5 [(0, .ref (B)), (1, .int (nI d)), (2, .int (b)), (3, .ref (oa))] := hl
  refine lv_aload_n hx hb d_La_disk_0 rfl (lv_at hl 3 rfl) ?_
  refine lv_iconst (v := 0) hx hb d_La_disk_1 (by decide) ?_
  refine lv_aload_n hx hb d_La_disk_2 rfl (lv_at hl 0 rfl) ?_
  refine lv_iload_n hx hb d_La_disk_3 rfl (lv_at hl 1 rfl) ?_
  refine lv_iload_n hx hb d_La_disk_4 rfl (lv_at hl 2 rfl) ?_
  refine g_callV (As := [.int (nI d), .int (b)]) (rest := [.int (0), .ref (oa)]) (A0 := FW B D0 oa) V (c_Da_disk C hB σ τ d hd b hb9) v_La_27 (hR.rDa V.2.2.2.2.2.1) hR hS hA (fun _ h => Or.inl h) ⟨by decide, by decide⟩ rfl hl (Nat.le_of_ble_eq_true rfl) d_La_disk_5 ⟨by decide, by decide⟩ (kI (fun r H locs hQ hk hS => ?_))
  obtain ⟨rfl, hR⟩ := hQ
  have hO := hO.kept (hk.2 _ hO.lt (by show ¬ ((B ≤ oa ∧ oa < B + 36) ∨ D0 ≤ oa); omega))
  have hD := Nat.le_trans hD hk.1
  refine lv_if_eq (tgt := 15) hx hb d_La_disk_8 (by decide) (fun h8 => ?_) (fun h8 => ?_)
  · refine lv_lconst (v := 0) hx hb d_La_disk_15 (by decide) ?_
    refine x_ost V hO d_La_disk_16 (fun H i hO z oq => ?_)
    have hS := hS.put (k := i) z oq (Or.inr rfl)
    have hR := hR.kept (fun q hq hF => oq q (by intro e; subst e; rcases hF with hF | hF <;> omega))
    have hD : D0 ≤ H.size := by rw [z]; exact hD
    refine lv_goto (tgt := 24) hx hb d_La_disk_17 (by decide) ?_
    refine lv_iconst (v := 0) hx hb d_La_disk_24 (by decide) ?_
    exact e_i V hr hlk hS (by decide) (by decide) d_La_disk_25 ⟨_, rfl, rfl, ⟨_, hR, hD, by rw [show bl (if σ 27 d = b then 0 else 1) = 0 from if_pos h8]; exact hO, hb1, hb2⟩⟩
  · refine lv_lconst (v := 1) hx hb d_La_disk_11 (by decide) ?_
    refine lv_goto (tgt := 16) hx hb d_La_disk_12 (by decide) ?_
    refine x_ost V hO d_La_disk_16 (fun H i hO z oq => ?_)
    have hS := hS.put (k := i) z oq (Or.inr rfl)
    have hR := hR.kept (fun q hq hF => oq q (by intro e; subst e; rcases hF with hF | hF <;> omega))
    have hD : D0 ≤ H.size := by rw [z]; exact hD
    refine lv_goto (tgt := 24) hx hb d_La_disk_17 (by decide) ?_
    refine lv_iconst (v := 0) hx hb d_La_disk_24 (by decide) ?_
    exact e_i V hr hlk hS (by decide) (by decide) d_La_disk_25 ⟨_, rfl, rfl, ⟨_, hR, hD, by rw [show bl (if σ 27 d = b then 0 else 1) = 1 from if_neg h8]; exact hO, hb1, hb2⟩⟩
theorem d_La_entry_0 : decode b_La_entry 0 = .ok (.aload_n 3, 1) := by decide +kernel
theorem d_La_entry_1 : decode b_La_entry 1 = .ok (.iconst 0, 1) := by decide +kernel
theorem d_La_entry_2 : decode b_La_entry 2 = .ok (.aload_n 0, 1) := by decide +kernel
theorem d_La_entry_3 : decode b_La_entry 3 = .ok (.iload_n 1, 1) := by decide +kernel
theorem d_La_entry_4 : decode b_La_entry 4 = .ok (.iload_n 2, 1) := by decide +kernel
theorem d_La_entry_5 : decode b_La_entry 5 = .ok (.invokevirtual 45, 3) := by decide +kernel
theorem d_La_entry_13 : decode b_La_entry 13 = .ok (.astore 4, 2) := by decide +kernel
theorem d_La_entry_15 : decode b_La_entry 15 = .ok (.iconst 1, 1) := by decide +kernel
theorem d_La_entry_16 : decode b_La_entry 16 = .ok (.ireturn, 1) := by decide +kernel
set_option maxHeartbeats 4000000 in
set_option maxRecDepth 100000 in
theorem w_entry_bad {l : Launch} {G : Gx} {s0 : State} (hfl : l.flags = pinnedFlags ++ [noTraceFlag]) (C : Cx G s0) (C0 : Ts0 s0) (N : N0 s0) {B D0 ea mi oa : Nat} (E : Es0 s0 ea mi) (hB : s0.heap.size ≤ B) (σ : Sg) (τ : Tt) (v : Int64) (x : Int32) (hx1 : one x = false) (y : Int32) : CtR l s0 (FW B D0 oa) 7 4 320 y_La_entry (.codeWith y_La_entry b_La_entry 5 (some .int) [(0, 10, 13, 13), (0, 10, 17, 25)]) [.ref (B), .int (x), .int (y), .ref (oa)] (JC G B D0 ea oa σ τ v) (pI (fun r H => r = 1 ∧ ∃ τ1, JC G B D0 ea oa σ τ1 (v) H)) := by
  refine CtR.of C cdw_with (by decide) (Nat.le_of_ble_eq_true rfl) ?_
  intro pg ev s mm below meth cd V hr hlk ht hJ ls hl
  obtain ⟨hR, hD, hO, hb1, hb2⟩ := hJ
  have hx := V.1
  have hb := V.2.1
  have hS : va_S (FW B D0 oa) s.heap s.heap [] := va_S.rf
  have hA : ∀ q, FW B D0 oa q → s0.heap.size ≤ q := fun q h => by have := hR.1; rcases h with (h | h) | h <;> omega
  have hl : lv_has ls 5 [(0, .ref (B)), (1, .int (x)), (2, .int (y)), (3, .ref (oa))] := hl
  refine lv_aload_n hx hb d_La_entry_0 rfl (lv_at hl 3 rfl) ?_
  refine lv_iconst (v := 0) hx hb d_La_entry_1 (by decide) ?_
  refine lv_aload_n hx hb d_La_entry_2 rfl (lv_at hl 0 rfl) ?_
  refine lv_iload_n hx hb d_La_entry_3 rfl (lv_at hl 1 rfl) ?_
  refine lv_iload_n hx hb d_La_entry_4 rfl (lv_at hl 2 rfl) ?_
  refine t_callV (n := 2) (As := [.int (x), .int (y)]) (rest := [.int (0), .ref (oa)]) (A0 := FW B D0 oa) V (t_Da_entry_bad hfl C C0 hB σ τ x hx1 y) cdw_code ⟨List.mem_of_getElem? (i := 700) (by decide +kernel), rfl⟩ (List.mem_of_getElem? (i := 29) (by decide +kernel)) (List.mem_of_getElem? (i := 697) (by decide +kernel)) ⟨List.mem_of_getElem? (i := 698) (by decide +kernel), List.mem_of_getElem? (i := 699) (by decide +kernel)⟩ ⟨by decide, by decide, by decide +kernel⟩ (hR.rDa V.2.2.2.2.2.1) hR hS hA (fun _ h => Or.inl h) ⟨by decide, by decide⟩ rfl hl (Nat.le_of_ble_eq_true rfl) d_La_entry_5 ⟨by decide, by decide⟩ (fun xe H locs hex hR hk hS => ?_)
  have hO := hO.kept (hk.2 _ hO.lt (by show ¬ ((B ≤ oa ∧ oa < B + 36) ∨ D0 ≤ oa); omega))
  have hD := Nat.le_trans hD hk.1
  refine wt_c0 (Y := "java/lang/IndexOutOfBoundsException") V ht ⟨by decide, by decide⟩ (by decide) (List.mem_of_getElem? (i := 229) (by decide +kernel)) hex  (isa_t C (List.mem_of_getElem? (i := 323) (by decide +kernel))) ?_
  refine lv_astore (lv' := [(4, .ref (xe)), (0, .ref (B)), (1, .int (x)), (2, .int (y)), (3, .ref (oa))]) hx hb d_La_entry_13 hl (by decide) rfl (fun ls hl => ?_)
  refine lv_iconst (v := 1) hx hb d_La_entry_15 (by decide) ?_
  exact e_i V hr hlk hS (by decide) (by decide) d_La_entry_16 ⟨_, rfl, rfl, ⟨_, hR, hD, hO, hb1, hb2⟩⟩
set_option maxHeartbeats 4000000 in
set_option maxRecDepth 100000 in
theorem w_entry_bad2 {l : Launch} {G : Gx} {s0 : State} (hfl : l.flags = pinnedFlags ++ [noTraceFlag]) (C : Cx G s0) (C0 : Ts0 s0) (N : N0 s0) {B D0 ea mi oa : Nat} (E : Es0 s0 ea mi) (hB : s0.heap.size ≤ B) (σ : Sg) (τ : Tt) (v : Int64) (c : Nat) (hc : c < 3) (y : Int32) (hy1 : y < 0 ∨ ¬ y < nI 24) : CtR l s0 (FW B D0 oa) 7 4 320 y_La_entry (.codeWith y_La_entry b_La_entry 5 (some .int) [(0, 10, 13, 13), (0, 10, 17, 25)]) [.ref (B), .int (nI c), .int (y), .ref (oa)] (JC G B D0 ea oa σ τ v) (pI (fun r H => r = 1 ∧ ∃ τ1, JC G B D0 ea oa σ τ1 (v) H)) := by
  refine CtR.of C cdw_with (by decide) (Nat.le_of_ble_eq_true rfl) ?_
  intro pg ev s mm below meth cd V hr hlk ht hJ ls hl
  obtain ⟨hR, hD, hO, hb1, hb2⟩ := hJ
  have hx := V.1
  have hb := V.2.1
  have hS : va_S (FW B D0 oa) s.heap s.heap [] := va_S.rf
  have hA : ∀ q, FW B D0 oa q → s0.heap.size ≤ q := fun q h => by have := hR.1; rcases h with (h | h) | h <;> omega
  have hl : lv_has ls 5 [(0, .ref (B)), (1, .int (nI c)), (2, .int (y)), (3, .ref (oa))] := hl
  refine lv_aload_n hx hb d_La_entry_0 rfl (lv_at hl 3 rfl) ?_
  refine lv_iconst (v := 0) hx hb d_La_entry_1 (by decide) ?_
  refine lv_aload_n hx hb d_La_entry_2 rfl (lv_at hl 0 rfl) ?_
  refine lv_iload_n hx hb d_La_entry_3 rfl (lv_at hl 1 rfl) ?_
  refine lv_iload_n hx hb d_La_entry_4 rfl (lv_at hl 2 rfl) ?_
  refine t_callV (n := 2) (As := [.int (nI c), .int (y)]) (rest := [.int (0), .ref (oa)]) (A0 := FW B D0 oa) V (t_Da_entry_bad2 hfl C C0 hB σ τ c hc y hy1) cdw_code ⟨List.mem_of_getElem? (i := 700) (by decide +kernel), rfl⟩ (List.mem_of_getElem? (i := 29) (by decide +kernel)) (List.mem_of_getElem? (i := 697) (by decide +kernel)) ⟨List.mem_of_getElem? (i := 698) (by decide +kernel), List.mem_of_getElem? (i := 699) (by decide +kernel)⟩ ⟨by decide, by decide, by decide +kernel⟩ (hR.rDa V.2.2.2.2.2.1) hR hS hA (fun _ h => Or.inl h) ⟨by decide, by decide⟩ rfl hl (Nat.le_of_ble_eq_true rfl) d_La_entry_5 ⟨by decide, by decide⟩ (fun xe H locs hex hR hk hS => ?_)
  have hO := hO.kept (hk.2 _ hO.lt (by show ¬ ((B ≤ oa ∧ oa < B + 36) ∨ D0 ≤ oa); omega))
  have hD := Nat.le_trans hD hk.1
  refine wt_c0 (Y := "java/lang/IndexOutOfBoundsException") V ht ⟨by decide, by decide⟩ (by decide) (List.mem_of_getElem? (i := 229) (by decide +kernel)) hex  (isa_t C (List.mem_of_getElem? (i := 323) (by decide +kernel))) ?_
  refine lv_astore (lv' := [(4, .ref (xe)), (0, .ref (B)), (1, .int (nI c)), (2, .int (y)), (3, .ref (oa))]) hx hb d_La_entry_13 hl (by decide) rfl (fun ls hl => ?_)
  refine lv_iconst (v := 1) hx hb d_La_entry_15 (by decide) ?_
  exact e_i V hr hlk hS (by decide) (by decide) d_La_entry_16 ⟨_, rfl, rfl, ⟨_, hR, hD, hO, hb1, hb2⟩⟩
theorem d_La_entry_17 : decode b_La_entry 17 = .ok (.astore 4, 2) := by decide +kernel
theorem d_La_entry_19 : decode b_La_entry 19 = .ok (.iconst 2, 1) := by decide +kernel
theorem d_La_entry_20 : decode b_La_entry 20 = .ok (.ireturn, 1) := by decide +kernel
set_option maxHeartbeats 4000000 in
set_option maxRecDepth 100000 in
theorem w_entry_bad3 {l : Launch} {G : Gx} {s0 : State} (hfl : l.flags = pinnedFlags ++ [noTraceFlag]) (C : Cx G s0) (C0 : Ts0 s0) (N : N0 s0) {B D0 ea mi oa : Nat} (E : Es0 s0 ea mi) (hB : s0.heap.size ≤ B) (σ : Sg) (τ : Tt) (v : Int64) (c : Nat) (hc : c < 3) (j : Nat) (hj : j < 24) (hjl : ¬ nI j < σ 4 c) : CtR l s0 (FW B D0 oa) 7 4 320 y_La_entry (.codeWith y_La_entry b_La_entry 5 (some .int) [(0, 10, 13, 13), (0, 10, 17, 25)]) [.ref (B), .int (nI c), .int (nI j), .ref (oa)] (JC G B D0 ea oa σ τ v) (pI (fun r H => r = 2 ∧ ∃ τ1, JC G B D0 ea oa σ τ1 (v) H)) := by
  refine CtR.of C cdw_with (by decide) (Nat.le_of_ble_eq_true rfl) ?_
  intro pg ev s mm below meth cd V hr hlk ht hJ ls hl
  obtain ⟨hR, hD, hO, hb1, hb2⟩ := hJ
  have hx := V.1
  have hb := V.2.1
  have hS : va_S (FW B D0 oa) s.heap s.heap [] := va_S.rf
  have hA : ∀ q, FW B D0 oa q → s0.heap.size ≤ q := fun q h => by have := hR.1; rcases h with (h | h) | h <;> omega
  have hl : lv_has ls 5 [(0, .ref (B)), (1, .int (nI c)), (2, .int (nI j)), (3, .ref (oa))] := hl
  refine lv_aload_n hx hb d_La_entry_0 rfl (lv_at hl 3 rfl) ?_
  refine lv_iconst (v := 0) hx hb d_La_entry_1 (by decide) ?_
  refine lv_aload_n hx hb d_La_entry_2 rfl (lv_at hl 0 rfl) ?_
  refine lv_iload_n hx hb d_La_entry_3 rfl (lv_at hl 1 rfl) ?_
  refine lv_iload_n hx hb d_La_entry_4 rfl (lv_at hl 2 rfl) ?_
  refine t_callV (n := 2) (As := [.int (nI c), .int (nI j)]) (rest := [.int (0), .ref (oa)]) (A0 := FW B D0 oa) V (t_Da_entry_bad3 hfl C C0 hB σ τ c hc j hj hjl) cdw_code ⟨List.mem_of_getElem? (i := 700) (by decide +kernel), rfl⟩ (List.mem_of_getElem? (i := 29) (by decide +kernel)) (List.mem_of_getElem? (i := 697) (by decide +kernel)) ⟨List.mem_of_getElem? (i := 698) (by decide +kernel), List.mem_of_getElem? (i := 699) (by decide +kernel)⟩ ⟨by decide, by decide, by decide +kernel⟩ (hR.rDa V.2.2.2.2.2.1) hR hS hA (fun _ h => Or.inl h) ⟨by decide, by decide⟩ rfl hl (Nat.le_of_ble_eq_true rfl) d_La_entry_5 ⟨by decide, by decide⟩ (fun xe H locs hex hR hk hS => ?_)
  have hO := hO.kept (hk.2 _ hO.lt (by show ¬ ((B ≤ oa ∧ oa < B + 36) ∨ D0 ≤ oa); omega))
  have hD := Nat.le_trans hD hk.1
  refine wt_c1 (Y1 := "java/lang/IndexOutOfBoundsException") (Y2 := "java/util/NoSuchElementException") V ht ⟨⟨by decide, by decide⟩, by decide, by decide⟩ ⟨by decide, by decide⟩ (List.mem_of_getElem? (i := 229) (by decide +kernel)) (List.mem_of_getElem? (i := 526) (by decide +kernel)) hex N.2.2.2.2.1 (isa_t C (List.mem_of_getElem? (i := 416) (by decide +kernel))) ?_
  refine lv_astore (lv' := [(4, .ref (xe)), (0, .ref (B)), (1, .int (nI c)), (2, .int (nI j)), (3, .ref (oa))]) hx hb d_La_entry_17 hl (by decide) rfl (fun ls hl => ?_)
  refine lv_iconst (v := 2) hx hb d_La_entry_19 (by decide) ?_
  exact e_i V hr hlk hS (by decide) (by decide) d_La_entry_20 ⟨_, rfl, rfl, ⟨_, hR, hD, hO, hb1, hb2⟩⟩
theorem d_La_entry_8 : decode b_La_entry 8 = .ok (.i2l, 1) := by decide +kernel
theorem d_La_entry_9 : decode b_La_entry 9 = .ok (.lastore, 1) := by decide +kernel
theorem d_La_entry_10 : decode b_La_entry 10 = .ok (.goto 11, 3) := by decide +kernel
theorem d_La_entry_21 : decode b_La_entry 21 = .ok (.iconst 0, 1) := by decide +kernel
theorem d_La_entry_22 : decode b_La_entry 22 = .ok (.ireturn, 1) := by decide +kernel
set_option maxHeartbeats 4000000 in
set_option maxRecDepth 100000 in
theorem w_entry {l : Launch} {G : Gx} {s0 : State} (hfl : l.flags = pinnedFlags ++ [noTraceFlag]) (C : Cx G s0) (C0 : Ts0 s0) (N : N0 s0) {B D0 ea mi oa : Nat} (E : Es0 s0 ea mi) (hB : s0.heap.size ≤ B) (σ : Sg) (τ : Tt) (v : Int64) (c : Nat) (hc : c < 3) (j : Nat) (hj : j < 24) (hjl : nI j < σ 4 c) : CtR l s0 (FW B D0 oa) 7 4 320 y_La_entry (.codeWith y_La_entry b_La_entry 5 (some .int) [(0, 10, 13, 13), (0, 10, 17, 25)]) [.ref (B), .int (nI c), .int (nI j), .ref (oa)] (JC G B D0 ea oa σ τ v) (pI (fun r H => r = 0 ∧ ∃ τ1, JC G B D0 ea oa σ τ1 ((σ 3 (24 * c + j) : Int32).toInt64) H)) := by
  refine CtR.of C cdw_with (by decide) (Nat.le_of_ble_eq_true rfl) ?_
  intro pg ev s mm below meth cd V hr hlk ht hJ ls hl
  obtain ⟨hR, hD, hO, hb1, hb2⟩ := hJ
  have hx := V.1
  have hb := V.2.1
  have hS : va_S (FW B D0 oa) s.heap s.heap [] := va_S.rf
  have hA : ∀ q, FW B D0 oa q → s0.heap.size ≤ q := fun q h => by have := hR.1; rcases h with (h | h) | h <;> omega
  have hl : lv_has ls 5 [(0, .ref (B)), (1, .int (nI c)), (2, .int (nI j)), (3, .ref (oa))] := hl
  refine lv_aload_n hx hb d_La_entry_0 rfl (lv_at hl 3 rfl) ?_
  refine lv_iconst (v := 0) hx hb d_La_entry_1 (by decide) ?_
  refine lv_aload_n hx hb d_La_entry_2 rfl (lv_at hl 0 rfl) ?_
  refine lv_iload_n hx hb d_La_entry_3 rfl (lv_at hl 1 rfl) ?_
  refine lv_iload_n hx hb d_La_entry_4 rfl (lv_at hl 2 rfl) ?_
  refine g_callV (As := [.int (nI c), .int (nI j)]) (rest := [.int (0), .ref (oa)]) (A0 := FW B D0 oa) V (c_Da_entry C hB σ τ c hc j hj hjl) v_La_45 (hR.rDa V.2.2.2.2.2.1) hR hS hA (fun _ h => Or.inl h) ⟨by decide, by decide⟩ rfl hl (Nat.le_of_ble_eq_true rfl) d_La_entry_5 ⟨by decide, by decide⟩ (kI (fun r H locs hQ hk hS => ?_))
  obtain ⟨rfl, hR⟩ := hQ
  have hO := hO.kept (hk.2 _ hO.lt (by show ¬ ((B ≤ oa ∧ oa < B + 36) ∨ D0 ≤ oa); omega))
  have hD := Nat.le_trans hD hk.1
  refine lv_i2l (v := (σ 3 (24 * c + j) : Int32).toInt64) hx hb d_La_entry_8 rfl ?_
  refine x_ost V hO d_La_entry_9 (fun H i hO z oq => ?_)
  have hS := hS.put (k := i) z oq (Or.inr rfl)
  have hR := hR.kept (fun q hq hF => oq q (by intro e; subst e; rcases hF with hF | hF <;> omega))
  have hD : D0 ≤ H.size := by rw [z]; exact hD
  refine lv_goto (tgt := 21) hx hb d_La_entry_10 (by decide) ?_
  refine lv_iconst (v := 0) hx hb d_La_entry_21 (by decide) ?_
  exact e_i V hr hlk hS (by decide) (by decide) d_La_entry_22 ⟨_, rfl, rfl, ⟨_, hR, hD, hO, hb1, hb2⟩⟩
theorem d_La_outcome_0 : decode b_La_outcome 0 = .ok (.aload_n 3, 1) := by decide +kernel
theorem d_La_outcome_1 : decode b_La_outcome 1 = .ok (.iconst 0, 1) := by decide +kernel
theorem d_La_outcome_2 : decode b_La_outcome 2 = .ok (.aload_n 0, 1) := by decide +kernel
theorem d_La_outcome_3 : decode b_La_outcome 3 = .ok (.iload_n 1, 1) := by decide +kernel
theorem d_La_outcome_4 : decode b_La_outcome 4 = .ok (.iload_n 2, 1) := by decide +kernel
theorem d_La_outcome_5 : decode b_La_outcome 5 = .ok (.invokevirtual 49, 3) := by decide +kernel
theorem d_La_outcome_13 : decode b_La_outcome 13 = .ok (.astore 4, 2) := by decide +kernel
theorem d_La_outcome_15 : decode b_La_outcome 15 = .ok (.iconst 1, 1) := by decide +kernel
theorem d_La_outcome_16 : decode b_La_outcome 16 = .ok (.ireturn, 1) := by decide +kernel
set_option maxHeartbeats 4000000 in
set_option maxRecDepth 100000 in
theorem w_outcome_bad {l : Launch} {G : Gx} {s0 : State} (hfl : l.flags = pinnedFlags ++ [noTraceFlag]) (C : Cx G s0) (C0 : Ts0 s0) (N : N0 s0) {B D0 ea mi oa : Nat} (E : Es0 s0 ea mi) (hB : s0.heap.size ≤ B) (σ : Sg) (τ : Tt) (v : Int64) (x : Int32) (hx1 : one x = false) (y : Int32) : CtR l s0 (FW B D0 oa) 7 4 320 y_La_outcome (.codeWith y_La_outcome b_La_outcome 5 (some .int) [(0, 10, 13, 13), (0, 10, 17, 25)]) [.ref (B), .int (x), .int (y), .ref (oa)] (JC G B D0 ea oa σ τ v) (pI (fun r H => r = 1 ∧ ∃ τ1, JC G B D0 ea oa σ τ1 (v) H)) := by
  refine CtR.of C cdw_with (by decide) (Nat.le_of_ble_eq_true rfl) ?_
  intro pg ev s mm below meth cd V hr hlk ht hJ ls hl
  obtain ⟨hR, hD, hO, hb1, hb2⟩ := hJ
  have hx := V.1
  have hb := V.2.1
  have hS : va_S (FW B D0 oa) s.heap s.heap [] := va_S.rf
  have hA : ∀ q, FW B D0 oa q → s0.heap.size ≤ q := fun q h => by have := hR.1; rcases h with (h | h) | h <;> omega
  have hl : lv_has ls 5 [(0, .ref (B)), (1, .int (x)), (2, .int (y)), (3, .ref (oa))] := hl
  refine lv_aload_n hx hb d_La_outcome_0 rfl (lv_at hl 3 rfl) ?_
  refine lv_iconst (v := 0) hx hb d_La_outcome_1 (by decide) ?_
  refine lv_aload_n hx hb d_La_outcome_2 rfl (lv_at hl 0 rfl) ?_
  refine lv_iload_n hx hb d_La_outcome_3 rfl (lv_at hl 1 rfl) ?_
  refine lv_iload_n hx hb d_La_outcome_4 rfl (lv_at hl 2 rfl) ?_
  refine t_callV (n := 2) (As := [.int (x), .int (y)]) (rest := [.int (0), .ref (oa)]) (A0 := FW B D0 oa) V (t_Da_outcome_bad hfl C C0 hB σ τ x hx1 y) cdw_code ⟨List.mem_of_getElem? (i := 707) (by decide +kernel), rfl⟩ (List.mem_of_getElem? (i := 29) (by decide +kernel)) (List.mem_of_getElem? (i := 704) (by decide +kernel)) ⟨List.mem_of_getElem? (i := 705) (by decide +kernel), List.mem_of_getElem? (i := 706) (by decide +kernel)⟩ ⟨by decide, by decide, by decide +kernel⟩ (hR.rDa V.2.2.2.2.2.1) hR hS hA (fun _ h => Or.inl h) ⟨by decide, by decide⟩ rfl hl (Nat.le_of_ble_eq_true rfl) d_La_outcome_5 ⟨by decide, by decide⟩ (fun xe H locs hex hR hk hS => ?_)
  have hO := hO.kept (hk.2 _ hO.lt (by show ¬ ((B ≤ oa ∧ oa < B + 36) ∨ D0 ≤ oa); omega))
  have hD := Nat.le_trans hD hk.1
  refine wt_c0 (Y := "java/lang/IndexOutOfBoundsException") V ht ⟨by decide, by decide⟩ (by decide) (List.mem_of_getElem? (i := 229) (by decide +kernel)) hex  (isa_t C (List.mem_of_getElem? (i := 323) (by decide +kernel))) ?_
  refine lv_astore (lv' := [(4, .ref (xe)), (0, .ref (B)), (1, .int (x)), (2, .int (y)), (3, .ref (oa))]) hx hb d_La_outcome_13 hl (by decide) rfl (fun ls hl => ?_)
  refine lv_iconst (v := 1) hx hb d_La_outcome_15 (by decide) ?_
  exact e_i V hr hlk hS (by decide) (by decide) d_La_outcome_16 ⟨_, rfl, rfl, ⟨_, hR, hD, hO, hb1, hb2⟩⟩
theorem d_La_outcome_17 : decode b_La_outcome 17 = .ok (.astore 4, 2) := by decide +kernel
theorem d_La_outcome_19 : decode b_La_outcome 19 = .ok (.iconst 2, 1) := by decide +kernel
theorem d_La_outcome_20 : decode b_La_outcome 20 = .ok (.ireturn, 1) := by decide +kernel
set_option maxHeartbeats 4000000 in
set_option maxRecDepth 100000 in
theorem w_outcome_bad2 {l : Launch} {G : Gx} {s0 : State} (hfl : l.flags = pinnedFlags ++ [noTraceFlag]) (C : Cx G s0) (C0 : Ts0 s0) (N : N0 s0) {B D0 ea mi oa : Nat} (E : Es0 s0 ea mi) (hB : s0.heap.size ≤ B) (σ : Sg) (τ : Tt) (v : Int64) (c : Nat) (hc : c < 3) (y : Int32) (hy1 : (!decide (y < 0) && !decide (σ 7 c ≤ y)) = false) : CtR l s0 (FW B D0 oa) 7 4 320 y_La_outcome (.codeWith y_La_outcome b_La_outcome 5 (some .int) [(0, 10, 13, 13), (0, 10, 17, 25)]) [.ref (B), .int (nI c), .int (y), .ref (oa)] (JC G B D0 ea oa σ τ v) (pI (fun r H => r = 2 ∧ ∃ τ1, JC G B D0 ea oa σ τ1 (v) H)) := by
  refine CtR.of C cdw_with (by decide) (Nat.le_of_ble_eq_true rfl) ?_
  intro pg ev s mm below meth cd V hr hlk ht hJ ls hl
  obtain ⟨hR, hD, hO, hb1, hb2⟩ := hJ
  have hx := V.1
  have hb := V.2.1
  have hS : va_S (FW B D0 oa) s.heap s.heap [] := va_S.rf
  have hA : ∀ q, FW B D0 oa q → s0.heap.size ≤ q := fun q h => by have := hR.1; rcases h with (h | h) | h <;> omega
  have hl : lv_has ls 5 [(0, .ref (B)), (1, .int (nI c)), (2, .int (y)), (3, .ref (oa))] := hl
  refine lv_aload_n hx hb d_La_outcome_0 rfl (lv_at hl 3 rfl) ?_
  refine lv_iconst (v := 0) hx hb d_La_outcome_1 (by decide) ?_
  refine lv_aload_n hx hb d_La_outcome_2 rfl (lv_at hl 0 rfl) ?_
  refine lv_iload_n hx hb d_La_outcome_3 rfl (lv_at hl 1 rfl) ?_
  refine lv_iload_n hx hb d_La_outcome_4 rfl (lv_at hl 2 rfl) ?_
  refine t_callV (n := 2) (As := [.int (nI c), .int (y)]) (rest := [.int (0), .ref (oa)]) (A0 := FW B D0 oa) V (t_Da_outcome_bad2 hfl C C0 hB σ τ c hc y hy1) cdw_code ⟨List.mem_of_getElem? (i := 707) (by decide +kernel), rfl⟩ (List.mem_of_getElem? (i := 29) (by decide +kernel)) (List.mem_of_getElem? (i := 704) (by decide +kernel)) ⟨List.mem_of_getElem? (i := 705) (by decide +kernel), List.mem_of_getElem? (i := 706) (by decide +kernel)⟩ ⟨by decide, by decide, by decide +kernel⟩ (hR.rDa V.2.2.2.2.2.1) hR hS hA (fun _ h => Or.inl h) ⟨by decide, by decide⟩ rfl hl (Nat.le_of_ble_eq_true rfl) d_La_outcome_5 ⟨by decide, by decide⟩ (fun xe H locs hex hR hk hS => ?_)
  have hO := hO.kept (hk.2 _ hO.lt (by show ¬ ((B ≤ oa ∧ oa < B + 36) ∨ D0 ≤ oa); omega))
  have hD := Nat.le_trans hD hk.1
  refine wt_c1 (Y1 := "java/lang/IndexOutOfBoundsException") (Y2 := "java/util/NoSuchElementException") V ht ⟨⟨by decide, by decide⟩, by decide, by decide⟩ ⟨by decide, by decide⟩ (List.mem_of_getElem? (i := 229) (by decide +kernel)) (List.mem_of_getElem? (i := 526) (by decide +kernel)) hex N.2.2.2.2.1 (isa_t C (List.mem_of_getElem? (i := 416) (by decide +kernel))) ?_
  refine lv_astore (lv' := [(4, .ref (xe)), (0, .ref (B)), (1, .int (nI c)), (2, .int (y)), (3, .ref (oa))]) hx hb d_La_outcome_17 hl (by decide) rfl (fun ls hl => ?_)
  refine lv_iconst (v := 2) hx hb d_La_outcome_19 (by decide) ?_
  exact e_i V hr hlk hS (by decide) (by decide) d_La_outcome_20 ⟨_, rfl, rfl, ⟨_, hR, hD, hO, hb1, hb2⟩⟩
theorem d_La_outcome_8 : decode b_La_outcome 8 = .ok (.i2l, 1) := by decide +kernel
theorem d_La_outcome_9 : decode b_La_outcome 9 = .ok (.lastore, 1) := by decide +kernel
theorem d_La_outcome_10 : decode b_La_outcome 10 = .ok (.goto 11, 3) := by decide +kernel
theorem d_La_outcome_21 : decode b_La_outcome 21 = .ok (.iconst 0, 1) := by decide +kernel
theorem d_La_outcome_22 : decode b_La_outcome 22 = .ok (.ireturn, 1) := by decide +kernel
set_option maxHeartbeats 4000000 in
set_option maxRecDepth 100000 in
theorem w_outcome {l : Launch} {G : Gx} {s0 : State} (hfl : l.flags = pinnedFlags ++ [noTraceFlag]) (C : Cx G s0) (C0 : Ts0 s0) (N : N0 s0) {B D0 ea mi oa : Nat} (E : Es0 s0 ea mi) (hB : s0.heap.size ≤ B) (σ : Sg) (τ : Tt) (v : Int64) (c : Nat) (hc : c < 3) (w : Nat) (hw : σ 7 c = nI w) (hw6 : w ≤ 60) (j : Nat) (hjw : j < w) : CtR l s0 (FW B D0 oa) 7 4 320 y_La_outcome (.codeWith y_La_outcome b_La_outcome 5 (some .int) [(0, 10, 13, 13), (0, 10, 17, 25)]) [.ref (B), .int (nI c), .int (nI j), .ref (oa)] (JC G B D0 ea oa σ τ v) (pI (fun r H => r = 0 ∧ ∃ τ1, JC G B D0 ea oa σ τ1 ((σ 6 (60 * c + j) : Int32).toInt64) H)) := by
  refine CtR.of C cdw_with (by decide) (Nat.le_of_ble_eq_true rfl) ?_
  intro pg ev s mm below meth cd V hr hlk ht hJ ls hl
  obtain ⟨hR, hD, hO, hb1, hb2⟩ := hJ
  have hx := V.1
  have hb := V.2.1
  have hS : va_S (FW B D0 oa) s.heap s.heap [] := va_S.rf
  have hA : ∀ q, FW B D0 oa q → s0.heap.size ≤ q := fun q h => by have := hR.1; rcases h with (h | h) | h <;> omega
  have hl : lv_has ls 5 [(0, .ref (B)), (1, .int (nI c)), (2, .int (nI j)), (3, .ref (oa))] := hl
  refine lv_aload_n hx hb d_La_outcome_0 rfl (lv_at hl 3 rfl) ?_
  refine lv_iconst (v := 0) hx hb d_La_outcome_1 (by decide) ?_
  refine lv_aload_n hx hb d_La_outcome_2 rfl (lv_at hl 0 rfl) ?_
  refine lv_iload_n hx hb d_La_outcome_3 rfl (lv_at hl 1 rfl) ?_
  refine lv_iload_n hx hb d_La_outcome_4 rfl (lv_at hl 2 rfl) ?_
  refine g_callV (As := [.int (nI c), .int (nI j)]) (rest := [.int (0), .ref (oa)]) (A0 := FW B D0 oa) V (c_Da_outcome C hB σ τ c hc w hw hw6 j hjw) v_La_49 (hR.rDa V.2.2.2.2.2.1) hR hS hA (fun _ h => Or.inl h) ⟨by decide, by decide⟩ rfl hl (Nat.le_of_ble_eq_true rfl) d_La_outcome_5 ⟨by decide, by decide⟩ (kI (fun r H locs hQ hk hS => ?_))
  obtain ⟨rfl, hR⟩ := hQ
  have hO := hO.kept (hk.2 _ hO.lt (by show ¬ ((B ≤ oa ∧ oa < B + 36) ∨ D0 ≤ oa); omega))
  have hD := Nat.le_trans hD hk.1
  refine lv_i2l (v := (σ 6 (60 * c + j) : Int32).toInt64) hx hb d_La_outcome_8 rfl ?_
  refine x_ost V hO d_La_outcome_9 (fun H i hO z oq => ?_)
  have hS := hS.put (k := i) z oq (Or.inr rfl)
  have hR := hR.kept (fun q hq hF => oq q (by intro e; subst e; rcases hF with hF | hF <;> omega))
  have hD : D0 ≤ H.size := by rw [z]; exact hD
  refine lv_goto (tgt := 21) hx hb d_La_outcome_10 (by decide) ?_
  refine lv_iconst (v := 0) hx hb d_La_outcome_21 (by decide) ?_
  exact e_i V hr hlk hS (by decide) (by decide) d_La_outcome_22 ⟨_, rfl, rfl, ⟨_, hR, hD, hO, hb1, hb2⟩⟩
theorem d_La_holds_0 : decode b_La_holds 0 = .ok (.aload_n 3, 1) := by decide +kernel
theorem d_La_holds_1 : decode b_La_holds 1 = .ok (.iconst 0, 1) := by decide +kernel
theorem d_La_holds_2 : decode b_La_holds 2 = .ok (.aload_n 0, 1) := by decide +kernel
theorem d_La_holds_3 : decode b_La_holds 3 = .ok (.iload_n 1, 1) := by decide +kernel
theorem d_La_holds_4 : decode b_La_holds 4 = .ok (.iload_n 2, 1) := by decide +kernel
theorem d_La_holds_5 : decode b_La_holds 5 = .ok (.invokevirtual 52, 3) := by decide +kernel
theorem d_La_holds_13 : decode b_La_holds 13 = .ok (.astore 4, 2) := by decide +kernel
theorem d_La_holds_15 : decode b_La_holds 15 = .ok (.iconst 1, 1) := by decide +kernel
theorem d_La_holds_16 : decode b_La_holds 16 = .ok (.ireturn, 1) := by decide +kernel
set_option maxHeartbeats 4000000 in
set_option maxRecDepth 100000 in
theorem w_holds_bad {l : Launch} {G : Gx} {s0 : State} (hfl : l.flags = pinnedFlags ++ [noTraceFlag]) (C : Cx G s0) (C0 : Ts0 s0) (N : N0 s0) {B D0 ea mi oa : Nat} (E : Es0 s0 ea mi) (hB : s0.heap.size ≤ B) (σ : Sg) (τ : Tt) (v : Int64) (x : Int32) (hx1 : one x = false) (y : Int32) : CtR l s0 (FW B D0 oa) 7 4 320 y_La_holds (.codeWith y_La_holds b_La_holds 5 (some .int) [(0, 10, 13, 13)]) [.ref (B), .int (x), .int (y), .ref (oa)] (JC G B D0 ea oa σ τ v) (pI (fun r H => r = 1 ∧ ∃ τ1, JC G B D0 ea oa σ τ1 (v) H)) := by
  refine CtR.of C cdw_with (by decide) (Nat.le_of_ble_eq_true rfl) ?_
  intro pg ev s mm below meth cd V hr hlk ht hJ ls hl
  obtain ⟨hR, hD, hO, hb1, hb2⟩ := hJ
  have hx := V.1
  have hb := V.2.1
  have hS : va_S (FW B D0 oa) s.heap s.heap [] := va_S.rf
  have hA : ∀ q, FW B D0 oa q → s0.heap.size ≤ q := fun q h => by have := hR.1; rcases h with (h | h) | h <;> omega
  have hl : lv_has ls 5 [(0, .ref (B)), (1, .int (x)), (2, .int (y)), (3, .ref (oa))] := hl
  refine lv_aload_n hx hb d_La_holds_0 rfl (lv_at hl 3 rfl) ?_
  refine lv_iconst (v := 0) hx hb d_La_holds_1 (by decide) ?_
  refine lv_aload_n hx hb d_La_holds_2 rfl (lv_at hl 0 rfl) ?_
  refine lv_iload_n hx hb d_La_holds_3 rfl (lv_at hl 1 rfl) ?_
  refine lv_iload_n hx hb d_La_holds_4 rfl (lv_at hl 2 rfl) ?_
  refine t_callV (n := 2) (As := [.int (x), .int (y)]) (rest := [.int (0), .ref (oa)]) (A0 := FW B D0 oa) V (t_Da_holds_bad hfl C C0 hB σ τ x hx1 y) cdw_code ⟨List.mem_of_getElem? (i := 715) (by decide +kernel), rfl⟩ (List.mem_of_getElem? (i := 29) (by decide +kernel)) (List.mem_of_getElem? (i := 712) (by decide +kernel)) ⟨List.mem_of_getElem? (i := 713) (by decide +kernel), List.mem_of_getElem? (i := 714) (by decide +kernel)⟩ ⟨by decide, by decide, by decide +kernel⟩ (hR.rDa V.2.2.2.2.2.1) hR hS hA (fun _ h => Or.inl h) ⟨by decide, by decide⟩ rfl hl (Nat.le_of_ble_eq_true rfl) d_La_holds_5 ⟨by decide, by decide⟩ (fun xe H locs hex hR hk hS => ?_)
  have hO := hO.kept (hk.2 _ hO.lt (by show ¬ ((B ≤ oa ∧ oa < B + 36) ∨ D0 ≤ oa); omega))
  have hD := Nat.le_trans hD hk.1
  refine wt_c0 (Y := "java/lang/IndexOutOfBoundsException") V ht ⟨by decide, by decide⟩ (by decide) (List.mem_of_getElem? (i := 229) (by decide +kernel)) hex  (isa_t C (List.mem_of_getElem? (i := 323) (by decide +kernel))) ?_
  refine lv_astore (lv' := [(4, .ref (xe)), (0, .ref (B)), (1, .int (x)), (2, .int (y)), (3, .ref (oa))]) hx hb d_La_holds_13 hl (by decide) rfl (fun ls hl => ?_)
  refine lv_iconst (v := 1) hx hb d_La_holds_15 (by decide) ?_
  exact e_i V hr hlk hS (by decide) (by decide) d_La_holds_16 ⟨_, rfl, rfl, ⟨_, hR, hD, hO, hb1, hb2⟩⟩
set_option maxHeartbeats 4000000 in
set_option maxRecDepth 100000 in
theorem w_holds_bad2 {l : Launch} {G : Gx} {s0 : State} (hfl : l.flags = pinnedFlags ++ [noTraceFlag]) (C : Cx G s0) (C0 : Ts0 s0) (N : N0 s0) {B D0 ea mi oa : Nat} (E : Es0 s0 ea mi) (hB : s0.heap.size ≤ B) (σ : Sg) (τ : Tt) (v : Int64) (c : Nat) (hc : c < 3) (y : Int32) (hy1 : one y = false) : CtR l s0 (FW B D0 oa) 7 4 320 y_La_holds (.codeWith y_La_holds b_La_holds 5 (some .int) [(0, 10, 13, 13)]) [.ref (B), .int (nI c), .int (y), .ref (oa)] (JC G B D0 ea oa σ τ v) (pI (fun r H => r = 1 ∧ ∃ τ1, JC G B D0 ea oa σ τ1 (v) H)) := by
  refine CtR.of C cdw_with (by decide) (Nat.le_of_ble_eq_true rfl) ?_
  intro pg ev s mm below meth cd V hr hlk ht hJ ls hl
  obtain ⟨hR, hD, hO, hb1, hb2⟩ := hJ
  have hx := V.1
  have hb := V.2.1
  have hS : va_S (FW B D0 oa) s.heap s.heap [] := va_S.rf
  have hA : ∀ q, FW B D0 oa q → s0.heap.size ≤ q := fun q h => by have := hR.1; rcases h with (h | h) | h <;> omega
  have hl : lv_has ls 5 [(0, .ref (B)), (1, .int (nI c)), (2, .int (y)), (3, .ref (oa))] := hl
  refine lv_aload_n hx hb d_La_holds_0 rfl (lv_at hl 3 rfl) ?_
  refine lv_iconst (v := 0) hx hb d_La_holds_1 (by decide) ?_
  refine lv_aload_n hx hb d_La_holds_2 rfl (lv_at hl 0 rfl) ?_
  refine lv_iload_n hx hb d_La_holds_3 rfl (lv_at hl 1 rfl) ?_
  refine lv_iload_n hx hb d_La_holds_4 rfl (lv_at hl 2 rfl) ?_
  refine t_callV (n := 2) (As := [.int (nI c), .int (y)]) (rest := [.int (0), .ref (oa)]) (A0 := FW B D0 oa) V (t_Da_holds_bad2 hfl C C0 hB σ τ c hc y hy1) cdw_code ⟨List.mem_of_getElem? (i := 715) (by decide +kernel), rfl⟩ (List.mem_of_getElem? (i := 29) (by decide +kernel)) (List.mem_of_getElem? (i := 712) (by decide +kernel)) ⟨List.mem_of_getElem? (i := 713) (by decide +kernel), List.mem_of_getElem? (i := 714) (by decide +kernel)⟩ ⟨by decide, by decide, by decide +kernel⟩ (hR.rDa V.2.2.2.2.2.1) hR hS hA (fun _ h => Or.inl h) ⟨by decide, by decide⟩ rfl hl (Nat.le_of_ble_eq_true rfl) d_La_holds_5 ⟨by decide, by decide⟩ (fun xe H locs hex hR hk hS => ?_)
  have hO := hO.kept (hk.2 _ hO.lt (by show ¬ ((B ≤ oa ∧ oa < B + 36) ∨ D0 ≤ oa); omega))
  have hD := Nat.le_trans hD hk.1
  refine wt_c0 (Y := "java/lang/IndexOutOfBoundsException") V ht ⟨by decide, by decide⟩ (by decide) (List.mem_of_getElem? (i := 229) (by decide +kernel)) hex  (isa_t C (List.mem_of_getElem? (i := 323) (by decide +kernel))) ?_
  refine lv_astore (lv' := [(4, .ref (xe)), (0, .ref (B)), (1, .int (nI c)), (2, .int (y)), (3, .ref (oa))]) hx hb d_La_holds_13 hl (by decide) rfl (fun ls hl => ?_)
  refine lv_iconst (v := 1) hx hb d_La_holds_15 (by decide) ?_
  exact e_i V hr hlk hS (by decide) (by decide) d_La_holds_16 ⟨_, rfl, rfl, ⟨_, hR, hD, hO, hb1, hb2⟩⟩
theorem d_La_holds_8 : decode b_La_holds 8 = .ok (.i2l, 1) := by decide +kernel
theorem d_La_holds_9 : decode b_La_holds 9 = .ok (.lastore, 1) := by decide +kernel
theorem d_La_holds_10 : decode b_La_holds 10 = .ok (.goto 7, 3) := by decide +kernel
theorem d_La_holds_17 : decode b_La_holds 17 = .ok (.iconst 0, 1) := by decide +kernel
theorem d_La_holds_18 : decode b_La_holds 18 = .ok (.ireturn, 1) := by decide +kernel
set_option maxHeartbeats 4000000 in
set_option maxRecDepth 100000 in
theorem w_holds {l : Launch} {G : Gx} {s0 : State} (hfl : l.flags = pinnedFlags ++ [noTraceFlag]) (C : Cx G s0) (C0 : Ts0 s0) (N : N0 s0) {B D0 ea mi oa : Nat} (E : Es0 s0 ea mi) (hB : s0.heap.size ≤ B) (σ : Sg) (τ : Tt) (v : Int64) (c : Nat) (hc : c < 3) (d : Nat) (hd : d < 3) : CtR l s0 (FW B D0 oa) 7 4 320 y_La_holds (.codeWith y_La_holds b_La_holds 5 (some .int) [(0, 10, 13, 13)]) [.ref (B), .int (nI c), .int (nI d), .ref (oa)] (JC G B D0 ea oa σ τ v) (pI (fun r H => r = 0 ∧ ∃ τ1, JC G B D0 ea oa σ τ1 ((σ 22 (3 * c + d) : Int32).toInt64) H)) := by
  refine CtR.of C cdw_with (by decide) (Nat.le_of_ble_eq_true rfl) ?_
  intro pg ev s mm below meth cd V hr hlk ht hJ ls hl
  obtain ⟨hR, hD, hO, hb1, hb2⟩ := hJ
  have hx := V.1
  have hb := V.2.1
  have hS : va_S (FW B D0 oa) s.heap s.heap [] := va_S.rf
  have hA : ∀ q, FW B D0 oa q → s0.heap.size ≤ q := fun q h => by have := hR.1; rcases h with (h | h) | h <;> omega
  have hl : lv_has ls 5 [(0, .ref (B)), (1, .int (nI c)), (2, .int (nI d)), (3, .ref (oa))] := hl
  refine lv_aload_n hx hb d_La_holds_0 rfl (lv_at hl 3 rfl) ?_
  refine lv_iconst (v := 0) hx hb d_La_holds_1 (by decide) ?_
  refine lv_aload_n hx hb d_La_holds_2 rfl (lv_at hl 0 rfl) ?_
  refine lv_iload_n hx hb d_La_holds_3 rfl (lv_at hl 1 rfl) ?_
  refine lv_iload_n hx hb d_La_holds_4 rfl (lv_at hl 2 rfl) ?_
  refine g_callV (As := [.int (nI c), .int (nI d)]) (rest := [.int (0), .ref (oa)]) (A0 := FW B D0 oa) V (c_Da_holds C hB σ τ c hc d hd) v_La_52 (hR.rDa V.2.2.2.2.2.1) hR hS hA (fun _ h => Or.inl h) ⟨by decide, by decide⟩ rfl hl (Nat.le_of_ble_eq_true rfl) d_La_holds_5 ⟨by decide, by decide⟩ (kI (fun r H locs hQ hk hS => ?_))
  obtain ⟨rfl, hR⟩ := hQ
  have hO := hO.kept (hk.2 _ hO.lt (by show ¬ ((B ≤ oa ∧ oa < B + 36) ∨ D0 ≤ oa); omega))
  have hD := Nat.le_trans hD hk.1
  refine lv_i2l (v := (σ 22 (3 * c + d) : Int32).toInt64) hx hb d_La_holds_8 rfl ?_
  refine x_ost V hO d_La_holds_9 (fun H i hO z oq => ?_)
  have hS := hS.put (k := i) z oq (Or.inr rfl)
  have hR := hR.kept (fun q hq hF => oq q (by intro e; subst e; rcases hF with hF | hF <;> omega))
  have hD : D0 ≤ H.size := by rw [z]; exact hD
  refine lv_goto (tgt := 17) hx hb d_La_holds_10 (by decide) ?_
  refine lv_iconst (v := 0) hx hb d_La_holds_17 (by decide) ?_
  exact e_i V hr hlk hS (by decide) (by decide) d_La_holds_18 ⟨_, rfl, rfl, ⟨_, hR, hD, hO, hb1, hb2⟩⟩
theorem d_La_reserved_0 : decode b_La_reserved 0 = .ok (.aload_n 3, 1) := by decide +kernel
theorem d_La_reserved_1 : decode b_La_reserved 1 = .ok (.iconst 0, 1) := by decide +kernel
theorem d_La_reserved_2 : decode b_La_reserved 2 = .ok (.aload_n 0, 1) := by decide +kernel
theorem d_La_reserved_3 : decode b_La_reserved 3 = .ok (.iload_n 1, 1) := by decide +kernel
theorem d_La_reserved_4 : decode b_La_reserved 4 = .ok (.iload_n 2, 1) := by decide +kernel
theorem d_La_reserved_5 : decode b_La_reserved 5 = .ok (.invokevirtual 58, 3) := by decide +kernel
theorem d_La_reserved_13 : decode b_La_reserved 13 = .ok (.astore 4, 2) := by decide +kernel
theorem d_La_reserved_15 : decode b_La_reserved 15 = .ok (.iconst 1, 1) := by decide +kernel
theorem d_La_reserved_16 : decode b_La_reserved 16 = .ok (.ireturn, 1) := by decide +kernel
set_option maxHeartbeats 4000000 in
set_option maxRecDepth 100000 in
theorem w_reserved_bad {l : Launch} {G : Gx} {s0 : State} (hfl : l.flags = pinnedFlags ++ [noTraceFlag]) (C : Cx G s0) (C0 : Ts0 s0) (N : N0 s0) {B D0 ea mi oa : Nat} (E : Es0 s0 ea mi) (hB : s0.heap.size ≤ B) (σ : Sg) (τ : Tt) (v : Int64) (x : Int32) (hx1 : one x = false) (y : Int32) : CtR l s0 (FW B D0 oa) 7 4 320 y_La_reserved (.codeWith y_La_reserved b_La_reserved 5 (some .int) [(0, 10, 13, 13)]) [.ref (B), .int (x), .int (y), .ref (oa)] (JC G B D0 ea oa σ τ v) (pI (fun r H => r = 1 ∧ ∃ τ1, JC G B D0 ea oa σ τ1 (v) H)) := by
  refine CtR.of C cdw_with (by decide) (Nat.le_of_ble_eq_true rfl) ?_
  intro pg ev s mm below meth cd V hr hlk ht hJ ls hl
  obtain ⟨hR, hD, hO, hb1, hb2⟩ := hJ
  have hx := V.1
  have hb := V.2.1
  have hS : va_S (FW B D0 oa) s.heap s.heap [] := va_S.rf
  have hA : ∀ q, FW B D0 oa q → s0.heap.size ≤ q := fun q h => by have := hR.1; rcases h with (h | h) | h <;> omega
  have hl : lv_has ls 5 [(0, .ref (B)), (1, .int (x)), (2, .int (y)), (3, .ref (oa))] := hl
  refine lv_aload_n hx hb d_La_reserved_0 rfl (lv_at hl 3 rfl) ?_
  refine lv_iconst (v := 0) hx hb d_La_reserved_1 (by decide) ?_
  refine lv_aload_n hx hb d_La_reserved_2 rfl (lv_at hl 0 rfl) ?_
  refine lv_iload_n hx hb d_La_reserved_3 rfl (lv_at hl 1 rfl) ?_
  refine lv_iload_n hx hb d_La_reserved_4 rfl (lv_at hl 2 rfl) ?_
  refine t_callV (n := 2) (As := [.int (x), .int (y)]) (rest := [.int (0), .ref (oa)]) (A0 := FW B D0 oa) V (t_Da_reserved_bad hfl C C0 hB σ τ x hx1 y) cdw_code ⟨List.mem_of_getElem? (i := 733) (by decide +kernel), rfl⟩ (List.mem_of_getElem? (i := 29) (by decide +kernel)) (List.mem_of_getElem? (i := 730) (by decide +kernel)) ⟨List.mem_of_getElem? (i := 731) (by decide +kernel), List.mem_of_getElem? (i := 732) (by decide +kernel)⟩ ⟨by decide, by decide, by decide +kernel⟩ (hR.rDa V.2.2.2.2.2.1) hR hS hA (fun _ h => Or.inl h) ⟨by decide, by decide⟩ rfl hl (Nat.le_of_ble_eq_true rfl) d_La_reserved_5 ⟨by decide, by decide⟩ (fun xe H locs hex hR hk hS => ?_)
  have hO := hO.kept (hk.2 _ hO.lt (by show ¬ ((B ≤ oa ∧ oa < B + 36) ∨ D0 ≤ oa); omega))
  have hD := Nat.le_trans hD hk.1
  refine wt_c0 (Y := "java/lang/IndexOutOfBoundsException") V ht ⟨by decide, by decide⟩ (by decide) (List.mem_of_getElem? (i := 229) (by decide +kernel)) hex  (isa_t C (List.mem_of_getElem? (i := 323) (by decide +kernel))) ?_
  refine lv_astore (lv' := [(4, .ref (xe)), (0, .ref (B)), (1, .int (x)), (2, .int (y)), (3, .ref (oa))]) hx hb d_La_reserved_13 hl (by decide) rfl (fun ls hl => ?_)
  refine lv_iconst (v := 1) hx hb d_La_reserved_15 (by decide) ?_
  exact e_i V hr hlk hS (by decide) (by decide) d_La_reserved_16 ⟨_, rfl, rfl, ⟨_, hR, hD, hO, hb1, hb2⟩⟩
set_option maxHeartbeats 4000000 in
set_option maxRecDepth 100000 in
theorem w_reserved_bad2 {l : Launch} {G : Gx} {s0 : State} (hfl : l.flags = pinnedFlags ++ [noTraceFlag]) (C : Cx G s0) (C0 : Ts0 s0) (N : N0 s0) {B D0 ea mi oa : Nat} (E : Es0 s0 ea mi) (hB : s0.heap.size ≤ B) (σ : Sg) (τ : Tt) (v : Int64) (c : Nat) (hc : c < 3) (y : Int32) (hy1 : one y = false) : CtR l s0 (FW B D0 oa) 7 4 320 y_La_reserved (.codeWith y_La_reserved b_La_reserved 5 (some .int) [(0, 10, 13, 13)]) [.ref (B), .int (nI c), .int (y), .ref (oa)] (JC G B D0 ea oa σ τ v) (pI (fun r H => r = 1 ∧ ∃ τ1, JC G B D0 ea oa σ τ1 (v) H)) := by
  refine CtR.of C cdw_with (by decide) (Nat.le_of_ble_eq_true rfl) ?_
  intro pg ev s mm below meth cd V hr hlk ht hJ ls hl
  obtain ⟨hR, hD, hO, hb1, hb2⟩ := hJ
  have hx := V.1
  have hb := V.2.1
  have hS : va_S (FW B D0 oa) s.heap s.heap [] := va_S.rf
  have hA : ∀ q, FW B D0 oa q → s0.heap.size ≤ q := fun q h => by have := hR.1; rcases h with (h | h) | h <;> omega
  have hl : lv_has ls 5 [(0, .ref (B)), (1, .int (nI c)), (2, .int (y)), (3, .ref (oa))] := hl
  refine lv_aload_n hx hb d_La_reserved_0 rfl (lv_at hl 3 rfl) ?_
  refine lv_iconst (v := 0) hx hb d_La_reserved_1 (by decide) ?_
  refine lv_aload_n hx hb d_La_reserved_2 rfl (lv_at hl 0 rfl) ?_
  refine lv_iload_n hx hb d_La_reserved_3 rfl (lv_at hl 1 rfl) ?_
  refine lv_iload_n hx hb d_La_reserved_4 rfl (lv_at hl 2 rfl) ?_
  refine t_callV (n := 2) (As := [.int (nI c), .int (y)]) (rest := [.int (0), .ref (oa)]) (A0 := FW B D0 oa) V (t_Da_reserved_bad2 hfl C C0 hB σ τ c hc y hy1) cdw_code ⟨List.mem_of_getElem? (i := 733) (by decide +kernel), rfl⟩ (List.mem_of_getElem? (i := 29) (by decide +kernel)) (List.mem_of_getElem? (i := 730) (by decide +kernel)) ⟨List.mem_of_getElem? (i := 731) (by decide +kernel), List.mem_of_getElem? (i := 732) (by decide +kernel)⟩ ⟨by decide, by decide, by decide +kernel⟩ (hR.rDa V.2.2.2.2.2.1) hR hS hA (fun _ h => Or.inl h) ⟨by decide, by decide⟩ rfl hl (Nat.le_of_ble_eq_true rfl) d_La_reserved_5 ⟨by decide, by decide⟩ (fun xe H locs hex hR hk hS => ?_)
  have hO := hO.kept (hk.2 _ hO.lt (by show ¬ ((B ≤ oa ∧ oa < B + 36) ∨ D0 ≤ oa); omega))
  have hD := Nat.le_trans hD hk.1
  refine wt_c0 (Y := "java/lang/IndexOutOfBoundsException") V ht ⟨by decide, by decide⟩ (by decide) (List.mem_of_getElem? (i := 229) (by decide +kernel)) hex  (isa_t C (List.mem_of_getElem? (i := 323) (by decide +kernel))) ?_
  refine lv_astore (lv' := [(4, .ref (xe)), (0, .ref (B)), (1, .int (nI c)), (2, .int (y)), (3, .ref (oa))]) hx hb d_La_reserved_13 hl (by decide) rfl (fun ls hl => ?_)
  refine lv_iconst (v := 1) hx hb d_La_reserved_15 (by decide) ?_
  exact e_i V hr hlk hS (by decide) (by decide) d_La_reserved_16 ⟨_, rfl, rfl, ⟨_, hR, hD, hO, hb1, hb2⟩⟩
theorem d_La_reserved_8 : decode b_La_reserved 8 = .ok (.i2l, 1) := by decide +kernel
theorem d_La_reserved_9 : decode b_La_reserved 9 = .ok (.lastore, 1) := by decide +kernel
theorem d_La_reserved_10 : decode b_La_reserved 10 = .ok (.goto 7, 3) := by decide +kernel
theorem d_La_reserved_17 : decode b_La_reserved 17 = .ok (.iconst 0, 1) := by decide +kernel
theorem d_La_reserved_18 : decode b_La_reserved 18 = .ok (.ireturn, 1) := by decide +kernel
set_option maxHeartbeats 4000000 in
set_option maxRecDepth 100000 in
theorem w_reserved {l : Launch} {G : Gx} {s0 : State} (hfl : l.flags = pinnedFlags ++ [noTraceFlag]) (C : Cx G s0) (C0 : Ts0 s0) (N : N0 s0) {B D0 ea mi oa : Nat} (E : Es0 s0 ea mi) (hB : s0.heap.size ≤ B) (σ : Sg) (τ : Tt) (v : Int64) (c : Nat) (hc : c < 3) (d : Nat) (hd : d < 3) : CtR l s0 (FW B D0 oa) 7 4 320 y_La_reserved (.codeWith y_La_reserved b_La_reserved 5 (some .int) [(0, 10, 13, 13)]) [.ref (B), .int (nI c), .int (nI d), .ref (oa)] (JC G B D0 ea oa σ τ v) (pI (fun r H => r = 0 ∧ ∃ τ1, JC G B D0 ea oa σ τ1 ((if σ 23 (3 * c + d) = 0 then σ 24 (3 * c + d) else σ 24 (3 * c + d) + 10 : Int32).toInt64) H)) := by
  refine CtR.of C cdw_with (by decide) (Nat.le_of_ble_eq_true rfl) ?_
  intro pg ev s mm below meth cd V hr hlk ht hJ ls hl
  obtain ⟨hR, hD, hO, hb1, hb2⟩ := hJ
  have hx := V.1
  have hb := V.2.1
  have hS : va_S (FW B D0 oa) s.heap s.heap [] := va_S.rf
  have hA : ∀ q, FW B D0 oa q → s0.heap.size ≤ q := fun q h => by have := hR.1; rcases h with (h | h) | h <;> omega
  have hl : lv_has ls 5 [(0, .ref (B)), (1, .int (nI c)), (2, .int (nI d)), (3, .ref (oa))] := hl
  refine lv_aload_n hx hb d_La_reserved_0 rfl (lv_at hl 3 rfl) ?_
  refine lv_iconst (v := 0) hx hb d_La_reserved_1 (by decide) ?_
  refine lv_aload_n hx hb d_La_reserved_2 rfl (lv_at hl 0 rfl) ?_
  refine lv_iload_n hx hb d_La_reserved_3 rfl (lv_at hl 1 rfl) ?_
  refine lv_iload_n hx hb d_La_reserved_4 rfl (lv_at hl 2 rfl) ?_
  refine g_callV (As := [.int (nI c), .int (nI d)]) (rest := [.int (0), .ref (oa)]) (A0 := FW B D0 oa) V (c_Da_reserved C hB σ τ c hc d hd) v_La_58 (hR.rDa V.2.2.2.2.2.1) hR hS hA (fun _ h => Or.inl h) ⟨by decide, by decide⟩ rfl hl (Nat.le_of_ble_eq_true rfl) d_La_reserved_5 ⟨by decide, by decide⟩ (kI (fun r H locs hQ hk hS => ?_))
  obtain ⟨rfl, hR⟩ := hQ
  have hO := hO.kept (hk.2 _ hO.lt (by show ¬ ((B ≤ oa ∧ oa < B + 36) ∨ D0 ≤ oa); omega))
  have hD := Nat.le_trans hD hk.1
  refine lv_i2l (v := (if σ 23 (3 * c + d) = 0 then σ 24 (3 * c + d) else σ 24 (3 * c + d) + 10 : Int32).toInt64) hx hb d_La_reserved_8 rfl ?_
  refine x_ost V hO d_La_reserved_9 (fun H i hO z oq => ?_)
  have hS := hS.put (k := i) z oq (Or.inr rfl)
  have hR := hR.kept (fun q hq hF => oq q (by intro e; subst e; rcases hF with hF | hF <;> omega))
  have hD : D0 ≤ H.size := by rw [z]; exact hD
  refine lv_goto (tgt := 17) hx hb d_La_reserved_10 (by decide) ?_
  refine lv_iconst (v := 0) hx hb d_La_reserved_17 (by decide) ?_
  exact e_i V hr hlk hS (by decide) (by decide) d_La_reserved_18 ⟨_, rfl, rfl, ⟨_, hR, hD, hO, hb1, hb2⟩⟩
theorem d_La_where_0 : decode b_La_where 0 = .ok (.aload_n 3, 1) := by decide +kernel
theorem d_La_where_1 : decode b_La_where 1 = .ok (.iconst 0, 1) := by decide +kernel
theorem d_La_where_2 : decode b_La_where 2 = .ok (.aload_n 0, 1) := by decide +kernel
theorem d_La_where_3 : decode b_La_where 3 = .ok (.iload_n 1, 1) := by decide +kernel
theorem d_La_where_4 : decode b_La_where 4 = .ok (.iload_n 2, 1) := by decide +kernel
theorem d_La_where_5 : decode b_La_where 5 = .ok (.invokevirtual 55, 3) := by decide +kernel
theorem d_La_where_13 : decode b_La_where 13 = .ok (.astore 4, 2) := by decide +kernel
theorem d_La_where_15 : decode b_La_where 15 = .ok (.iconst 1, 1) := by decide +kernel
theorem d_La_where_16 : decode b_La_where 16 = .ok (.ireturn, 1) := by decide +kernel
set_option maxHeartbeats 4000000 in
set_option maxRecDepth 100000 in
theorem w_where_bad {l : Launch} {G : Gx} {s0 : State} (hfl : l.flags = pinnedFlags ++ [noTraceFlag]) (C : Cx G s0) (C0 : Ts0 s0) (N : N0 s0) {B D0 ea mi oa : Nat} (E : Es0 s0 ea mi) (hB : s0.heap.size ≤ B) (σ : Sg) (τ : Tt) (v : Int64) (x : Int32) (hx1 : one x = false) (y : Int32) : CtR l s0 (FW B D0 oa) 7 4 320 y_La_where (.codeWith y_La_where b_La_where 5 (some .int) [(0, 10, 13, 13)]) [.ref (B), .int (x), .int (y), .ref (oa)] (JC G B D0 ea oa σ τ v) (pI (fun r H => r = 1 ∧ ∃ τ1, JC G B D0 ea oa σ τ1 (v) H)) := by
  refine CtR.of C cdw_with (by decide) (Nat.le_of_ble_eq_true rfl) ?_
  intro pg ev s mm below meth cd V hr hlk ht hJ ls hl
  obtain ⟨hR, hD, hO, hb1, hb2⟩ := hJ
  have hx := V.1
  have hb := V.2.1
  have hS : va_S (FW B D0 oa) s.heap s.heap [] := va_S.rf
  have hA : ∀ q, FW B D0 oa q → s0.heap.size ≤ q := fun q h => by have := hR.1; rcases h with (h | h) | h <;> omega
  have hl : lv_has ls 5 [(0, .ref (B)), (1, .int (x)), (2, .int (y)), (3, .ref (oa))] := hl
  refine lv_aload_n hx hb d_La_where_0 rfl (lv_at hl 3 rfl) ?_
  refine lv_iconst (v := 0) hx hb d_La_where_1 (by decide) ?_
  refine lv_aload_n hx hb d_La_where_2 rfl (lv_at hl 0 rfl) ?_
  refine lv_iload_n hx hb d_La_where_3 rfl (lv_at hl 1 rfl) ?_
  refine lv_iload_n hx hb d_La_where_4 rfl (lv_at hl 2 rfl) ?_
  refine t_callV (n := 2) (As := [.int (x), .int (y)]) (rest := [.int (0), .ref (oa)]) (A0 := FW B D0 oa) V (t_Da_where_bad hfl C C0 hB σ τ x hx1 y) cdw_code ⟨List.mem_of_getElem? (i := 726) (by decide +kernel), rfl⟩ (List.mem_of_getElem? (i := 29) (by decide +kernel)) (List.mem_of_getElem? (i := 723) (by decide +kernel)) ⟨List.mem_of_getElem? (i := 724) (by decide +kernel), List.mem_of_getElem? (i := 725) (by decide +kernel)⟩ ⟨by decide, by decide, by decide +kernel⟩ (hR.rDa V.2.2.2.2.2.1) hR hS hA (fun _ h => Or.inl h) ⟨by decide, by decide⟩ rfl hl (Nat.le_of_ble_eq_true rfl) d_La_where_5 ⟨by decide, by decide⟩ (fun xe H locs hex hR hk hS => ?_)
  have hO := hO.kept (hk.2 _ hO.lt (by show ¬ ((B ≤ oa ∧ oa < B + 36) ∨ D0 ≤ oa); omega))
  have hD := Nat.le_trans hD hk.1
  refine wt_c0 (Y := "java/lang/IndexOutOfBoundsException") V ht ⟨by decide, by decide⟩ (by decide) (List.mem_of_getElem? (i := 229) (by decide +kernel)) hex  (isa_t C (List.mem_of_getElem? (i := 323) (by decide +kernel))) ?_
  refine lv_astore (lv' := [(4, .ref (xe)), (0, .ref (B)), (1, .int (x)), (2, .int (y)), (3, .ref (oa))]) hx hb d_La_where_13 hl (by decide) rfl (fun ls hl => ?_)
  refine lv_iconst (v := 1) hx hb d_La_where_15 (by decide) ?_
  exact e_i V hr hlk hS (by decide) (by decide) d_La_where_16 ⟨_, rfl, rfl, ⟨_, hR, hD, hO, hb1, hb2⟩⟩
set_option maxHeartbeats 4000000 in
set_option maxRecDepth 100000 in
theorem w_where_bad2 {l : Launch} {G : Gx} {s0 : State} (hfl : l.flags = pinnedFlags ++ [noTraceFlag]) (C : Cx G s0) (C0 : Ts0 s0) (N : N0 s0) {B D0 ea mi oa : Nat} (E : Es0 s0 ea mi) (hB : s0.heap.size ≤ B) (σ : Sg) (τ : Tt) (v : Int64) (c : Nat) (hc : c < 3) (y : Int32) (hy1 : y < 0 ∨ ¬ y < nI 8) : CtR l s0 (FW B D0 oa) 7 4 320 y_La_where (.codeWith y_La_where b_La_where 5 (some .int) [(0, 10, 13, 13)]) [.ref (B), .int (nI c), .int (y), .ref (oa)] (JC G B D0 ea oa σ τ v) (pI (fun r H => r = 1 ∧ ∃ τ1, JC G B D0 ea oa σ τ1 (v) H)) := by
  refine CtR.of C cdw_with (by decide) (Nat.le_of_ble_eq_true rfl) ?_
  intro pg ev s mm below meth cd V hr hlk ht hJ ls hl
  obtain ⟨hR, hD, hO, hb1, hb2⟩ := hJ
  have hx := V.1
  have hb := V.2.1
  have hS : va_S (FW B D0 oa) s.heap s.heap [] := va_S.rf
  have hA : ∀ q, FW B D0 oa q → s0.heap.size ≤ q := fun q h => by have := hR.1; rcases h with (h | h) | h <;> omega
  have hl : lv_has ls 5 [(0, .ref (B)), (1, .int (nI c)), (2, .int (y)), (3, .ref (oa))] := hl
  refine lv_aload_n hx hb d_La_where_0 rfl (lv_at hl 3 rfl) ?_
  refine lv_iconst (v := 0) hx hb d_La_where_1 (by decide) ?_
  refine lv_aload_n hx hb d_La_where_2 rfl (lv_at hl 0 rfl) ?_
  refine lv_iload_n hx hb d_La_where_3 rfl (lv_at hl 1 rfl) ?_
  refine lv_iload_n hx hb d_La_where_4 rfl (lv_at hl 2 rfl) ?_
  refine t_callV (n := 2) (As := [.int (nI c), .int (y)]) (rest := [.int (0), .ref (oa)]) (A0 := FW B D0 oa) V (t_Da_where_bad2 hfl C C0 hB σ τ c hc y hy1) cdw_code ⟨List.mem_of_getElem? (i := 726) (by decide +kernel), rfl⟩ (List.mem_of_getElem? (i := 29) (by decide +kernel)) (List.mem_of_getElem? (i := 723) (by decide +kernel)) ⟨List.mem_of_getElem? (i := 724) (by decide +kernel), List.mem_of_getElem? (i := 725) (by decide +kernel)⟩ ⟨by decide, by decide, by decide +kernel⟩ (hR.rDa V.2.2.2.2.2.1) hR hS hA (fun _ h => Or.inl h) ⟨by decide, by decide⟩ rfl hl (Nat.le_of_ble_eq_true rfl) d_La_where_5 ⟨by decide, by decide⟩ (fun xe H locs hex hR hk hS => ?_)
  have hO := hO.kept (hk.2 _ hO.lt (by show ¬ ((B ≤ oa ∧ oa < B + 36) ∨ D0 ≤ oa); omega))
  have hD := Nat.le_trans hD hk.1
  refine wt_c0 (Y := "java/lang/IndexOutOfBoundsException") V ht ⟨by decide, by decide⟩ (by decide) (List.mem_of_getElem? (i := 229) (by decide +kernel)) hex  (isa_t C (List.mem_of_getElem? (i := 323) (by decide +kernel))) ?_
  refine lv_astore (lv' := [(4, .ref (xe)), (0, .ref (B)), (1, .int (nI c)), (2, .int (y)), (3, .ref (oa))]) hx hb d_La_where_13 hl (by decide) rfl (fun ls hl => ?_)
  refine lv_iconst (v := 1) hx hb d_La_where_15 (by decide) ?_
  exact e_i V hr hlk hS (by decide) (by decide) d_La_where_16 ⟨_, rfl, rfl, ⟨_, hR, hD, hO, hb1, hb2⟩⟩
theorem d_La_where_8 : decode b_La_where 8 = .ok (.i2l, 1) := by decide +kernel
theorem d_La_where_9 : decode b_La_where 9 = .ok (.lastore, 1) := by decide +kernel
theorem d_La_where_10 : decode b_La_where 10 = .ok (.goto 7, 3) := by decide +kernel
theorem d_La_where_17 : decode b_La_where 17 = .ok (.iconst 0, 1) := by decide +kernel
theorem d_La_where_18 : decode b_La_where 18 = .ok (.ireturn, 1) := by decide +kernel
set_option maxHeartbeats 4000000 in
set_option maxRecDepth 100000 in
theorem w_where {l : Launch} {G : Gx} {s0 : State} (hfl : l.flags = pinnedFlags ++ [noTraceFlag]) (C : Cx G s0) (C0 : Ts0 s0) (N : N0 s0) {B D0 ea mi oa : Nat} (E : Es0 s0 ea mi) (hB : s0.heap.size ≤ B) (σ : Sg) (τ : Tt) (v : Int64) (c : Nat) (hc : c < 3) (j : Nat) (hj : j < 8) : CtR l s0 (FW B D0 oa) 7 4 320 y_La_where (.codeWith y_La_where b_La_where 5 (some .int) [(0, 10, 13, 13)]) [.ref (B), .int (nI c), .int (nI j), .ref (oa)] (JC G B D0 ea oa σ τ v) (pI (fun r H => r = 0 ∧ ∃ τ1, JC G B D0 ea oa σ τ1 ((σ 21 (8 * c + j) : Int32).toInt64) H)) := by
  refine CtR.of C cdw_with (by decide) (Nat.le_of_ble_eq_true rfl) ?_
  intro pg ev s mm below meth cd V hr hlk ht hJ ls hl
  obtain ⟨hR, hD, hO, hb1, hb2⟩ := hJ
  have hx := V.1
  have hb := V.2.1
  have hS : va_S (FW B D0 oa) s.heap s.heap [] := va_S.rf
  have hA : ∀ q, FW B D0 oa q → s0.heap.size ≤ q := fun q h => by have := hR.1; rcases h with (h | h) | h <;> omega
  have hl : lv_has ls 5 [(0, .ref (B)), (1, .int (nI c)), (2, .int (nI j)), (3, .ref (oa))] := hl
  refine lv_aload_n hx hb d_La_where_0 rfl (lv_at hl 3 rfl) ?_
  refine lv_iconst (v := 0) hx hb d_La_where_1 (by decide) ?_
  refine lv_aload_n hx hb d_La_where_2 rfl (lv_at hl 0 rfl) ?_
  refine lv_iload_n hx hb d_La_where_3 rfl (lv_at hl 1 rfl) ?_
  refine lv_iload_n hx hb d_La_where_4 rfl (lv_at hl 2 rfl) ?_
  refine g_callV (As := [.int (nI c), .int (nI j)]) (rest := [.int (0), .ref (oa)]) (A0 := FW B D0 oa) V (c_Da_where C hB σ τ c hc j hj) v_La_55 (hR.rDa V.2.2.2.2.2.1) hR hS hA (fun _ h => Or.inl h) ⟨by decide, by decide⟩ rfl hl (Nat.le_of_ble_eq_true rfl) d_La_where_5 ⟨by decide, by decide⟩ (kI (fun r H locs hQ hk hS => ?_))
  obtain ⟨rfl, hR⟩ := hQ
  have hO := hO.kept (hk.2 _ hO.lt (by show ¬ ((B ≤ oa ∧ oa < B + 36) ∨ D0 ≤ oa); omega))
  have hD := Nat.le_trans hD hk.1
  refine lv_i2l (v := (σ 21 (8 * c + j) : Int32).toInt64) hx hb d_La_where_8 rfl ?_
  refine x_ost V hO d_La_where_9 (fun H i hO z oq => ?_)
  have hS := hS.put (k := i) z oq (Or.inr rfl)
  have hR := hR.kept (fun q hq hF => oq q (by intro e; subst e; rcases hF with hF | hF <;> omega))
  have hD : D0 ≤ H.size := by rw [z]; exact hD
  refine lv_goto (tgt := 17) hx hb d_La_where_10 (by decide) ?_
  refine lv_iconst (v := 0) hx hb d_La_where_17 (by decide) ?_
  exact e_i V hr hlk hS (by decide) (by decide) d_La_where_18 ⟨_, rfl, rfl, ⟨_, hR, hD, hO, hb1, hb2⟩⟩
theorem d_La_word_0 : decode b_La_word 0 = .ok (.aload 5, 2) := by decide +kernel
theorem d_La_word_2 : decode b_La_word 2 = .ok (.iconst 0, 1) := by decide +kernel
theorem d_La_word_3 : decode b_La_word 3 = .ok (.aload_n 0, 1) := by decide +kernel
theorem d_La_word_4 : decode b_La_word 4 = .ok (.iload_n 1, 1) := by decide +kernel
theorem d_La_word_5 : decode b_La_word 5 = .ok (.iload_n 2, 1) := by decide +kernel
theorem d_La_word_6 : decode b_La_word 6 = .ok (.iload_n 3, 1) := by decide +kernel
theorem d_La_word_7 : decode b_La_word 7 = .ok (.iload 4, 2) := by decide +kernel
theorem d_La_word_9 : decode b_La_word 9 = .ok (.invokevirtual 71, 3) := by decide +kernel
theorem d_La_word_17 : decode b_La_word 17 = .ok (.astore 6, 2) := by decide +kernel
theorem d_La_word_19 : decode b_La_word 19 = .ok (.iconst 1, 1) := by decide +kernel
theorem d_La_word_20 : decode b_La_word 20 = .ok (.ireturn, 1) := by decide +kernel
set_option maxHeartbeats 4000000 in
set_option maxRecDepth 100000 in
theorem w_word_bad {l : Launch} {G : Gx} {s0 : State} (hfl : l.flags = pinnedFlags ++ [noTraceFlag]) (C : Cx G s0) (C0 : Ts0 s0) (N : N0 s0) {B D0 ea mi oa : Nat} (E : Es0 s0 ea mi) (hB : s0.heap.size ≤ B) (σ : Sg) (τ : Tt) (v : Int64) (x : Int32) (hx1 : one x = false) (y2 y3 y4 : Int32) : CtR l s0 (FW B D0 oa) 7 4 320 y_La_word (.codeWith y_La_word b_La_word 7 (some .int) [(0, 14, 17, 13), (0, 14, 21, 15)]) [.ref (B), .int (x), .int (y2), .int (y3), .int (y4), .ref (oa)] (JC G B D0 ea oa σ τ v) (pI (fun r H => r = 1 ∧ ∃ τ1, JC G B D0 ea oa σ τ1 (v) H)) := by
  refine CtR.of C cdw_with (by decide) (Nat.le_of_ble_eq_true rfl) ?_
  intro pg ev s mm below meth cd V hr hlk ht hJ ls hl
  obtain ⟨hR, hD, hO, hb1, hb2⟩ := hJ
  have hx := V.1
  have hb := V.2.1
  have hS : va_S (FW B D0 oa) s.heap s.heap [] := va_S.rf
  have hA : ∀ q, FW B D0 oa q → s0.heap.size ≤ q := fun q h => by have := hR.1; rcases h with (h | h) | h <;> omega
  have hl : lv_has ls 7 [(0, .ref (B)), (1, .int (x)), (2, .int (y2)), (3, .int (y3)), (4, .int (y4)), (5, .ref (oa))] := hl
  refine lv_aload hx hb d_La_word_0 (lv_at hl 5 rfl) ?_
  refine lv_iconst (v := 0) hx hb d_La_word_2 (by decide) ?_
  refine lv_aload_n hx hb d_La_word_3 rfl (lv_at hl 0 rfl) ?_
  refine lv_iload_n hx hb d_La_word_4 rfl (lv_at hl 1 rfl) ?_
  refine lv_iload_n hx hb d_La_word_5 rfl (lv_at hl 2 rfl) ?_
  refine lv_iload_n hx hb d_La_word_6 rfl (lv_at hl 3 rfl) ?_
  refine lv_iload hx hb d_La_word_7 (lv_at hl 4 rfl) ?_
  refine t_callV (n := 4) (As := [.int (x), .int (y2), .int (y3), .int (y4)]) (rest := [.int (0), .ref (oa)]) (A0 := FW B D0 oa) V (t_Da_word_bad hfl C C0 hB σ τ x hx1 y2 y3 y4) cdw_code ⟨List.mem_of_getElem? (i := 761) (by decide +kernel), rfl⟩ (List.mem_of_getElem? (i := 29) (by decide +kernel)) (List.mem_of_getElem? (i := 758) (by decide +kernel)) ⟨List.mem_of_getElem? (i := 759) (by decide +kernel), List.mem_of_getElem? (i := 760) (by decide +kernel)⟩ ⟨by decide, by decide, by decide +kernel⟩ (hR.rDa V.2.2.2.2.2.1) hR hS hA (fun _ h => Or.inl h) ⟨by decide, by decide⟩ rfl hl (Nat.le_of_ble_eq_true rfl) d_La_word_9 ⟨by decide, by decide⟩ (fun xe H locs hex hR hk hS => ?_)
  have hO := hO.kept (hk.2 _ hO.lt (by show ¬ ((B ≤ oa ∧ oa < B + 36) ∨ D0 ≤ oa); omega))
  have hD := Nat.le_trans hD hk.1
  refine wt_c0 (Y := "java/lang/IndexOutOfBoundsException") V ht ⟨by decide, by decide⟩ (by decide) (List.mem_of_getElem? (i := 229) (by decide +kernel)) hex  (isa_t C (List.mem_of_getElem? (i := 323) (by decide +kernel))) ?_
  refine lv_astore (lv' := [(6, .ref (xe)), (0, .ref (B)), (1, .int (x)), (2, .int (y2)), (3, .int (y3)), (4, .int (y4)), (5, .ref (oa))]) hx hb d_La_word_17 hl (by decide) rfl (fun ls hl => ?_)
  refine lv_iconst (v := 1) hx hb d_La_word_19 (by decide) ?_
  exact e_i V hr hlk hS (by decide) (by decide) d_La_word_20 ⟨_, rfl, rfl, ⟨_, hR, hD, hO, hb1, hb2⟩⟩
set_option maxHeartbeats 4000000 in
set_option maxRecDepth 100000 in
theorem w_word_bad2 {l : Launch} {G : Gx} {s0 : State} (hfl : l.flags = pinnedFlags ++ [noTraceFlag]) (C : Cx G s0) (C0 : Ts0 s0) (N : N0 s0) {B D0 ea mi oa : Nat} (E : Es0 s0 ea mi) (hB : s0.heap.size ≤ B) (σ : Sg) (τ : Tt) (v : Int64) (d : Nat) (hd : d < 3) (y2 y3 y4 : Int32) (hy2 : one y2 = false) : CtR l s0 (FW B D0 oa) 7 4 320 y_La_word (.codeWith y_La_word b_La_word 7 (some .int) [(0, 14, 17, 13), (0, 14, 21, 15)]) [.ref (B), .int (nI d), .int (y2), .int (y3), .int (y4), .ref (oa)] (JC G B D0 ea oa σ τ v) (pI (fun r H => r = 1 ∧ ∃ τ1, JC G B D0 ea oa σ τ1 (v) H)) := by
  refine CtR.of C cdw_with (by decide) (Nat.le_of_ble_eq_true rfl) ?_
  intro pg ev s mm below meth cd V hr hlk ht hJ ls hl
  obtain ⟨hR, hD, hO, hb1, hb2⟩ := hJ
  have hx := V.1
  have hb := V.2.1
  have hS : va_S (FW B D0 oa) s.heap s.heap [] := va_S.rf
  have hA : ∀ q, FW B D0 oa q → s0.heap.size ≤ q := fun q h => by have := hR.1; rcases h with (h | h) | h <;> omega
  have hl : lv_has ls 7 [(0, .ref (B)), (1, .int (nI d)), (2, .int (y2)), (3, .int (y3)), (4, .int (y4)), (5, .ref (oa))] := hl
  refine lv_aload hx hb d_La_word_0 (lv_at hl 5 rfl) ?_
  refine lv_iconst (v := 0) hx hb d_La_word_2 (by decide) ?_
  refine lv_aload_n hx hb d_La_word_3 rfl (lv_at hl 0 rfl) ?_
  refine lv_iload_n hx hb d_La_word_4 rfl (lv_at hl 1 rfl) ?_
  refine lv_iload_n hx hb d_La_word_5 rfl (lv_at hl 2 rfl) ?_
  refine lv_iload_n hx hb d_La_word_6 rfl (lv_at hl 3 rfl) ?_
  refine lv_iload hx hb d_La_word_7 (lv_at hl 4 rfl) ?_
  refine t_callV (n := 4) (As := [.int (nI d), .int (y2), .int (y3), .int (y4)]) (rest := [.int (0), .ref (oa)]) (A0 := FW B D0 oa) V (t_Da_word_bad2 hfl C C0 hB σ τ d hd y2 y3 y4 hy2) cdw_code ⟨List.mem_of_getElem? (i := 761) (by decide +kernel), rfl⟩ (List.mem_of_getElem? (i := 29) (by decide +kernel)) (List.mem_of_getElem? (i := 758) (by decide +kernel)) ⟨List.mem_of_getElem? (i := 759) (by decide +kernel), List.mem_of_getElem? (i := 760) (by decide +kernel)⟩ ⟨by decide, by decide, by decide +kernel⟩ (hR.rDa V.2.2.2.2.2.1) hR hS hA (fun _ h => Or.inl h) ⟨by decide, by decide⟩ rfl hl (Nat.le_of_ble_eq_true rfl) d_La_word_9 ⟨by decide, by decide⟩ (fun xe H locs hex hR hk hS => ?_)
  have hO := hO.kept (hk.2 _ hO.lt (by show ¬ ((B ≤ oa ∧ oa < B + 36) ∨ D0 ≤ oa); omega))
  have hD := Nat.le_trans hD hk.1
  refine wt_c0 (Y := "java/lang/IndexOutOfBoundsException") V ht ⟨by decide, by decide⟩ (by decide) (List.mem_of_getElem? (i := 229) (by decide +kernel)) hex  (isa_t C (List.mem_of_getElem? (i := 323) (by decide +kernel))) ?_
  refine lv_astore (lv' := [(6, .ref (xe)), (0, .ref (B)), (1, .int (nI d)), (2, .int (y2)), (3, .int (y3)), (4, .int (y4)), (5, .ref (oa))]) hx hb d_La_word_17 hl (by decide) rfl (fun ls hl => ?_)
  refine lv_iconst (v := 1) hx hb d_La_word_19 (by decide) ?_
  exact e_i V hr hlk hS (by decide) (by decide) d_La_word_20 ⟨_, rfl, rfl, ⟨_, hR, hD, hO, hb1, hb2⟩⟩
set_option maxHeartbeats 4000000 in
set_option maxRecDepth 100000 in
theorem w_word_bad3 {l : Launch} {G : Gx} {s0 : State} (hfl : l.flags = pinnedFlags ++ [noTraceFlag]) (C : Cx G s0) (C0 : Ts0 s0) (N : N0 s0) {B D0 ea mi oa : Nat} (E : Es0 s0 ea mi) (hB : s0.heap.size ≤ B) (σ : Sg) (τ : Tt) (v : Int64) (d : Nat) (hd : d < 3) (c : Nat) (hc : c < 3) (y3 y4 : Int32) (hy3 : y3 < 0 ∨ ¬ y3 < nI 24) : CtR l s0 (FW B D0 oa) 7 4 320 y_La_word (.codeWith y_La_word b_La_word 7 (some .int) [(0, 14, 17, 13), (0, 14, 21, 15)]) [.ref (B), .int (nI d), .int (nI c), .int (y3), .int (y4), .ref (oa)] (JC G B D0 ea oa σ τ v) (pI (fun r H => r = 1 ∧ ∃ τ1, JC G B D0 ea oa σ τ1 (v) H)) := by
  refine CtR.of C cdw_with (by decide) (Nat.le_of_ble_eq_true rfl) ?_
  intro pg ev s mm below meth cd V hr hlk ht hJ ls hl
  obtain ⟨hR, hD, hO, hb1, hb2⟩ := hJ
  have hx := V.1
  have hb := V.2.1
  have hS : va_S (FW B D0 oa) s.heap s.heap [] := va_S.rf
  have hA : ∀ q, FW B D0 oa q → s0.heap.size ≤ q := fun q h => by have := hR.1; rcases h with (h | h) | h <;> omega
  have hl : lv_has ls 7 [(0, .ref (B)), (1, .int (nI d)), (2, .int (nI c)), (3, .int (y3)), (4, .int (y4)), (5, .ref (oa))] := hl
  refine lv_aload hx hb d_La_word_0 (lv_at hl 5 rfl) ?_
  refine lv_iconst (v := 0) hx hb d_La_word_2 (by decide) ?_
  refine lv_aload_n hx hb d_La_word_3 rfl (lv_at hl 0 rfl) ?_
  refine lv_iload_n hx hb d_La_word_4 rfl (lv_at hl 1 rfl) ?_
  refine lv_iload_n hx hb d_La_word_5 rfl (lv_at hl 2 rfl) ?_
  refine lv_iload_n hx hb d_La_word_6 rfl (lv_at hl 3 rfl) ?_
  refine lv_iload hx hb d_La_word_7 (lv_at hl 4 rfl) ?_
  refine t_callV (n := 4) (As := [.int (nI d), .int (nI c), .int (y3), .int (y4)]) (rest := [.int (0), .ref (oa)]) (A0 := FW B D0 oa) V (t_Da_word_bad3 hfl C C0 hB σ τ d hd c hc y3 y4 hy3) cdw_code ⟨List.mem_of_getElem? (i := 761) (by decide +kernel), rfl⟩ (List.mem_of_getElem? (i := 29) (by decide +kernel)) (List.mem_of_getElem? (i := 758) (by decide +kernel)) ⟨List.mem_of_getElem? (i := 759) (by decide +kernel), List.mem_of_getElem? (i := 760) (by decide +kernel)⟩ ⟨by decide, by decide, by decide +kernel⟩ (hR.rDa V.2.2.2.2.2.1) hR hS hA (fun _ h => Or.inl h) ⟨by decide, by decide⟩ rfl hl (Nat.le_of_ble_eq_true rfl) d_La_word_9 ⟨by decide, by decide⟩ (fun xe H locs hex hR hk hS => ?_)
  have hO := hO.kept (hk.2 _ hO.lt (by show ¬ ((B ≤ oa ∧ oa < B + 36) ∨ D0 ≤ oa); omega))
  have hD := Nat.le_trans hD hk.1
  refine wt_c0 (Y := "java/lang/IndexOutOfBoundsException") V ht ⟨by decide, by decide⟩ (by decide) (List.mem_of_getElem? (i := 229) (by decide +kernel)) hex  (isa_t C (List.mem_of_getElem? (i := 323) (by decide +kernel))) ?_
  refine lv_astore (lv' := [(6, .ref (xe)), (0, .ref (B)), (1, .int (nI d)), (2, .int (nI c)), (3, .int (y3)), (4, .int (y4)), (5, .ref (oa))]) hx hb d_La_word_17 hl (by decide) rfl (fun ls hl => ?_)
  refine lv_iconst (v := 1) hx hb d_La_word_19 (by decide) ?_
  exact e_i V hr hlk hS (by decide) (by decide) d_La_word_20 ⟨_, rfl, rfl, ⟨_, hR, hD, hO, hb1, hb2⟩⟩
theorem d_La_word_21 : decode b_La_word 21 = .ok (.astore 6, 2) := by decide +kernel
theorem d_La_word_23 : decode b_La_word 23 = .ok (.iconst 2, 1) := by decide +kernel
theorem d_La_word_24 : decode b_La_word 24 = .ok (.ireturn, 1) := by decide +kernel
set_option maxHeartbeats 4000000 in
set_option maxRecDepth 100000 in
theorem w_word_bad4 {l : Launch} {G : Gx} {s0 : State} (hfl : l.flags = pinnedFlags ++ [noTraceFlag]) (C : Cx G s0) (C0 : Ts0 s0) (N : N0 s0) {B D0 ea mi oa : Nat} (E : Es0 s0 ea mi) (hB : s0.heap.size ≤ B) (σ : Sg) (τ : Tt) (v : Int64) (d : Nat) (hd : d < 3) (c : Nat) (hc : c < 3) (q : Nat) (hq4 : q < 24) (y4 : Int32) (hy4 : (!decide (y4 < 0) && !decide (10 ≤ y4)) = false) : CtR l s0 (FW B D0 oa) 7 4 320 y_La_word (.codeWith y_La_word b_La_word 7 (some .int) [(0, 14, 17, 13), (0, 14, 21, 15)]) [.ref (B), .int (nI d), .int (nI c), .int (nI q), .int (y4), .ref (oa)] (JC G B D0 ea oa σ τ v) (pI (fun r H => r = 2 ∧ ∃ τ1, JC G B D0 ea oa σ τ1 (v) H)) := by
  refine CtR.of C cdw_with (by decide) (Nat.le_of_ble_eq_true rfl) ?_
  intro pg ev s mm below meth cd V hr hlk ht hJ ls hl
  obtain ⟨hR, hD, hO, hb1, hb2⟩ := hJ
  have hx := V.1
  have hb := V.2.1
  have hS : va_S (FW B D0 oa) s.heap s.heap [] := va_S.rf
  have hA : ∀ q, FW B D0 oa q → s0.heap.size ≤ q := fun q h => by have := hR.1; rcases h with (h | h) | h <;> omega
  have hl : lv_has ls 7 [(0, .ref (B)), (1, .int (nI d)), (2, .int (nI c)), (3, .int (nI q)), (4, .int (y4)), (5, .ref (oa))] := hl
  refine lv_aload hx hb d_La_word_0 (lv_at hl 5 rfl) ?_
  refine lv_iconst (v := 0) hx hb d_La_word_2 (by decide) ?_
  refine lv_aload_n hx hb d_La_word_3 rfl (lv_at hl 0 rfl) ?_
  refine lv_iload_n hx hb d_La_word_4 rfl (lv_at hl 1 rfl) ?_
  refine lv_iload_n hx hb d_La_word_5 rfl (lv_at hl 2 rfl) ?_
  refine lv_iload_n hx hb d_La_word_6 rfl (lv_at hl 3 rfl) ?_
  refine lv_iload hx hb d_La_word_7 (lv_at hl 4 rfl) ?_
  refine t_callV (n := 4) (As := [.int (nI d), .int (nI c), .int (nI q), .int (y4)]) (rest := [.int (0), .ref (oa)]) (A0 := FW B D0 oa) V (t_Da_word_bad4 hfl C C0 hB σ τ d hd c hc q hq4 y4 hy4) cdw_code ⟨List.mem_of_getElem? (i := 761) (by decide +kernel), rfl⟩ (List.mem_of_getElem? (i := 29) (by decide +kernel)) (List.mem_of_getElem? (i := 758) (by decide +kernel)) ⟨List.mem_of_getElem? (i := 759) (by decide +kernel), List.mem_of_getElem? (i := 760) (by decide +kernel)⟩ ⟨by decide, by decide, by decide +kernel⟩ (hR.rDa V.2.2.2.2.2.1) hR hS hA (fun _ h => Or.inl h) ⟨by decide, by decide⟩ rfl hl (Nat.le_of_ble_eq_true rfl) d_La_word_9 ⟨by decide, by decide⟩ (fun xe H locs hex hR hk hS => ?_)
  have hO := hO.kept (hk.2 _ hO.lt (by show ¬ ((B ≤ oa ∧ oa < B + 36) ∨ D0 ≤ oa); omega))
  have hD := Nat.le_trans hD hk.1
  refine wt_c1 (Y1 := "java/lang/IndexOutOfBoundsException") (Y2 := "java/lang/IllegalArgumentException") V ht ⟨⟨by decide, by decide⟩, by decide, by decide⟩ ⟨by decide, by decide⟩ (List.mem_of_getElem? (i := 229) (by decide +kernel)) (List.mem_of_getElem? (i := 308) (by decide +kernel)) hex N.1 (isa_t C (List.mem_of_getElem? (i := 347) (by decide +kernel))) ?_
  refine lv_astore (lv' := [(6, .ref (xe)), (0, .ref (B)), (1, .int (nI d)), (2, .int (nI c)), (3, .int (nI q)), (4, .int (y4)), (5, .ref (oa))]) hx hb d_La_word_21 hl (by decide) rfl (fun ls hl => ?_)
  refine lv_iconst (v := 2) hx hb d_La_word_23 (by decide) ?_
  exact e_i V hr hlk hS (by decide) (by decide) d_La_word_24 ⟨_, rfl, rfl, ⟨_, hR, hD, hO, hb1, hb2⟩⟩
theorem d_La_word_12 : decode b_La_word 12 = .ok (.i2l, 1) := by decide +kernel
theorem d_La_word_13 : decode b_La_word 13 = .ok (.lastore, 1) := by decide +kernel
theorem d_La_word_14 : decode b_La_word 14 = .ok (.goto 11, 3) := by decide +kernel
theorem d_La_word_25 : decode b_La_word 25 = .ok (.iconst 0, 1) := by decide +kernel
theorem d_La_word_26 : decode b_La_word 26 = .ok (.ireturn, 1) := by decide +kernel
set_option maxHeartbeats 4000000 in
set_option maxRecDepth 100000 in
theorem w_word {l : Launch} {G : Gx} {s0 : State} (hfl : l.flags = pinnedFlags ++ [noTraceFlag]) (C : Cx G s0) (C0 : Ts0 s0) (N : N0 s0) {B D0 ea mi oa : Nat} (E : Es0 s0 ea mi) (hB : s0.heap.size ≤ B) (σ : Sg) (τ : Tt) (v : Int64) (d : Nat) (hd : d < 3) (c : Nat) (hc : c < 3) (q : Nat) (hq4 : q < 24) (j : Nat) (hj : j < 10) : CtR l s0 (FW B D0 oa) 7 4 320 y_La_word (.codeWith y_La_word b_La_word 7 (some .int) [(0, 14, 17, 13), (0, 14, 21, 15)]) [.ref (B), .int (nI d), .int (nI c), .int (nI q), .int (nI j), .ref (oa)] (JC G B D0 ea oa σ τ v) (pI (fun r H => r = 0 ∧ ∃ τ1, JC G B D0 ea oa σ τ1 ((σ 1 (720 * d + (10 * (24 * c + q) + j)) : Int32).toInt64) H)) := by
  refine CtR.of C cdw_with (by decide) (Nat.le_of_ble_eq_true rfl) ?_
  intro pg ev s mm below meth cd V hr hlk ht hJ ls hl
  obtain ⟨hR, hD, hO, hb1, hb2⟩ := hJ
  have hx := V.1
  have hb := V.2.1
  have hS : va_S (FW B D0 oa) s.heap s.heap [] := va_S.rf
  have hA : ∀ q, FW B D0 oa q → s0.heap.size ≤ q := fun q h => by have := hR.1; rcases h with (h | h) | h <;> omega
  have hl : lv_has ls 7 [(0, .ref (B)), (1, .int (nI d)), (2, .int (nI c)), (3, .int (nI q)), (4, .int (nI j)), (5, .ref (oa))] := hl
  refine lv_aload hx hb d_La_word_0 (lv_at hl 5 rfl) ?_
  refine lv_iconst (v := 0) hx hb d_La_word_2 (by decide) ?_
  refine lv_aload_n hx hb d_La_word_3 rfl (lv_at hl 0 rfl) ?_
  refine lv_iload_n hx hb d_La_word_4 rfl (lv_at hl 1 rfl) ?_
  refine lv_iload_n hx hb d_La_word_5 rfl (lv_at hl 2 rfl) ?_
  refine lv_iload_n hx hb d_La_word_6 rfl (lv_at hl 3 rfl) ?_
  refine lv_iload hx hb d_La_word_7 (lv_at hl 4 rfl) ?_
  refine g_callV (As := [.int (nI d), .int (nI c), .int (nI q), .int (nI j)]) (rest := [.int (0), .ref (oa)]) (A0 := FW B D0 oa) V (c_Da_word C hB σ τ d hd c hc q hq4 j hj) v_La_71 (hR.rDa V.2.2.2.2.2.1) hR hS hA (fun _ h => Or.inl h) ⟨by decide, by decide⟩ rfl hl (Nat.le_of_ble_eq_true rfl) d_La_word_9 ⟨by decide, by decide⟩ (kI (fun r H locs hQ hk hS => ?_))
  obtain ⟨rfl, hR⟩ := hQ
  have hO := hO.kept (hk.2 _ hO.lt (by show ¬ ((B ≤ oa ∧ oa < B + 36) ∨ D0 ≤ oa); omega))
  have hD := Nat.le_trans hD hk.1
  refine lv_i2l (v := (σ 1 (720 * d + (10 * (24 * c + q) + j)) : Int32).toInt64) hx hb d_La_word_12 rfl ?_
  refine x_ost V hO d_La_word_13 (fun H i hO z oq => ?_)
  have hS := hS.put (k := i) z oq (Or.inr rfl)
  have hR := hR.kept (fun q hq hF => oq q (by intro e; subst e; rcases hF with hF | hF <;> omega))
  have hD : D0 ≤ H.size := by rw [z]; exact hD
  refine lv_goto (tgt := 25) hx hb d_La_word_14 (by decide) ?_
  refine lv_iconst (v := 0) hx hb d_La_word_25 (by decide) ?_
  exact e_i V hr hlk hS (by decide) (by decide) d_La_word_26 ⟨_, rfl, rfl, ⟨_, hR, hD, hO, hb1, hb2⟩⟩
theorem d_La_step_0 : decode b_La_step 0 = .ok (.aload_n 2, 1) := by decide +kernel
theorem d_La_step_1 : decode b_La_step 1 = .ok (.iconst 0, 1) := by decide +kernel
theorem d_La_step_2 : decode b_La_step 2 = .ok (.aload_n 0, 1) := by decide +kernel
theorem d_La_step_3 : decode b_La_step 3 = .ok (.iload_n 1, 1) := by decide +kernel
theorem d_La_step_4 : decode b_La_step 4 = .ok (.invokevirtual 19, 3) := by decide +kernel
theorem d_La_step_12 : decode b_La_step 12 = .ok (.astore_n 3, 1) := by decide +kernel
theorem d_La_step_13 : decode b_La_step 13 = .ok (.iconst 1, 1) := by decide +kernel
theorem d_La_step_14 : decode b_La_step 14 = .ok (.ireturn, 1) := by decide +kernel
set_option maxHeartbeats 4000000 in
set_option maxRecDepth 100000 in
theorem w_step_bad {l : Launch} {G : Gx} {s0 : State} (hfl : l.flags = pinnedFlags ++ [noTraceFlag]) (C : Cx G s0) (C0 : Ts0 s0) (N : N0 s0) {B D0 ea mi oa : Nat} (E : Es0 s0 ea mi) (hB : s0.heap.size ≤ B) (σ : Sg) (τ : Tt) (v : Int64) (x : Int32) (hx1 : one x = false) : CtR l s0 (FW B D0 oa) 7 4 320 y_La_step (.codeWith y_La_step b_La_step 4 (some .int) [(0, 9, 12, 13), (0, 9, 15, 23), (0, 9, 18, 25)]) [.ref (B), .int (x), .ref (oa)] (JC G B D0 ea oa σ τ v) (pI (fun r H => r = 1 ∧ ∃ τ1, JC G B D0 ea oa σ τ1 (v) H)) := by
  refine CtR.of C cdw_with (by decide) (Nat.le_of_ble_eq_true rfl) ?_
  intro pg ev s mm below meth cd V hr hlk ht hJ ls hl
  obtain ⟨hR, hD, hO, hb1, hb2⟩ := hJ
  have hx := V.1
  have hb := V.2.1
  have hS : va_S (FW B D0 oa) s.heap s.heap [] := va_S.rf
  have hA : ∀ q, FW B D0 oa q → s0.heap.size ≤ q := fun q h => by have := hR.1; rcases h with (h | h) | h <;> omega
  have hl : lv_has ls 4 [(0, .ref (B)), (1, .int (x)), (2, .ref (oa))] := hl
  refine lv_aload_n hx hb d_La_step_0 rfl (lv_at hl 2 rfl) ?_
  refine lv_iconst (v := 0) hx hb d_La_step_1 (by decide) ?_
  refine lv_aload_n hx hb d_La_step_2 rfl (lv_at hl 0 rfl) ?_
  refine lv_iload_n hx hb d_La_step_3 rfl (lv_at hl 1 rfl) ?_
  refine t_callV (n := 1) (As := [.int (x)]) (rest := [.int (0), .ref (oa)]) (A0 := FW B D0 oa) V (t_Da_step_bad hfl C C0 hB σ τ x hx1) cdw_code ⟨List.mem_of_getElem? (i := 530) (by decide +kernel), rfl⟩ (List.mem_of_getElem? (i := 29) (by decide +kernel)) (List.mem_of_getElem? (i := 527) (by decide +kernel)) ⟨List.mem_of_getElem? (i := 528) (by decide +kernel), List.mem_of_getElem? (i := 529) (by decide +kernel)⟩ ⟨by decide, by decide, by decide +kernel⟩ (hR.rDa V.2.2.2.2.2.1) hR hS hA (fun _ h => Or.inl h) ⟨by decide, by decide⟩ rfl hl (Nat.le_of_ble_eq_true rfl) d_La_step_4 ⟨by decide, by decide⟩ (fun xe H locs hex hR hk hS => ?_)
  have hO := hO.kept (hk.2 _ hO.lt (by show ¬ ((B ≤ oa ∧ oa < B + 36) ∨ D0 ≤ oa); omega))
  have hD := Nat.le_trans hD hk.1
  refine wt_c0 (Y := "java/lang/IndexOutOfBoundsException") V ht ⟨by decide, by decide⟩ (by decide) (List.mem_of_getElem? (i := 229) (by decide +kernel)) hex  (isa_t C (List.mem_of_getElem? (i := 323) (by decide +kernel))) ?_
  refine lv_astore_n (lv' := [(3, .ref (xe)), (0, .ref (B)), (1, .int (x)), (2, .ref (oa))]) hx hb d_La_step_12 rfl hl (by decide) rfl (fun ls hl => ?_)
  refine lv_iconst (v := 1) hx hb d_La_step_13 (by decide) ?_
  exact e_i V hr hlk hS (by decide) (by decide) d_La_step_14 ⟨_, rfl, rfl, ⟨_, hR, hD, hO, hb1, hb2⟩⟩
theorem d_La_step_15 : decode b_La_step 15 = .ok (.astore_n 3, 1) := by decide +kernel
theorem d_La_step_16 : decode b_La_step 16 = .ok (.iconst 2, 1) := by decide +kernel
theorem d_La_step_17 : decode b_La_step 17 = .ok (.ireturn, 1) := by decide +kernel
set_option maxHeartbeats 4000000 in
set_option maxRecDepth 100000 in
theorem w_step_bad2 {l : Launch} {G : Gx} {s0 : State} (hfl : l.flags = pinnedFlags ++ [noTraceFlag]) (C : Cx G s0) (C0 : Ts0 s0) (N : N0 s0) {B D0 ea mi oa : Nat} (E : Es0 s0 ea mi) (hB : s0.heap.size ≤ B) (σ : Sg) (τ : Tt) (v : Int64) (c : Nat) (hc : c < 3) (hu : σ 26 c = 0) : CtR l s0 (FW B D0 oa) 7 4 320 y_La_step (.codeWith y_La_step b_La_step 4 (some .int) [(0, 9, 12, 13), (0, 9, 15, 23), (0, 9, 18, 25)]) [.ref (B), .int (nI c), .ref (oa)] (JC G B D0 ea oa σ τ v) (pI (fun r H => r = 2 ∧ ∃ τ1, JC G B D0 ea oa σ τ1 (v) H)) := by
  refine CtR.of C cdw_with (by decide) (Nat.le_of_ble_eq_true rfl) ?_
  intro pg ev s mm below meth cd V hr hlk ht hJ ls hl
  obtain ⟨hR, hD, hO, hb1, hb2⟩ := hJ
  have hx := V.1
  have hb := V.2.1
  have hS : va_S (FW B D0 oa) s.heap s.heap [] := va_S.rf
  have hA : ∀ q, FW B D0 oa q → s0.heap.size ≤ q := fun q h => by have := hR.1; rcases h with (h | h) | h <;> omega
  have hl : lv_has ls 4 [(0, .ref (B)), (1, .int (nI c)), (2, .ref (oa))] := hl
  refine lv_aload_n hx hb d_La_step_0 rfl (lv_at hl 2 rfl) ?_
  refine lv_iconst (v := 0) hx hb d_La_step_1 (by decide) ?_
  refine lv_aload_n hx hb d_La_step_2 rfl (lv_at hl 0 rfl) ?_
  refine lv_iload_n hx hb d_La_step_3 rfl (lv_at hl 1 rfl) ?_
  refine t_callV (n := 1) (As := [.int (nI c)]) (rest := [.int (0), .ref (oa)]) (A0 := FW B D0 oa) V (t_Da_step_bad2 hfl C C0 hB σ τ c hc hu) cdw_code ⟨List.mem_of_getElem? (i := 530) (by decide +kernel), rfl⟩ (List.mem_of_getElem? (i := 29) (by decide +kernel)) (List.mem_of_getElem? (i := 527) (by decide +kernel)) ⟨List.mem_of_getElem? (i := 528) (by decide +kernel), List.mem_of_getElem? (i := 529) (by decide +kernel)⟩ ⟨by decide, by decide, by decide +kernel⟩ (hR.rDa V.2.2.2.2.2.1) hR hS hA (fun _ h => Or.inl h) ⟨by decide, by decide⟩ rfl hl (Nat.le_of_ble_eq_true rfl) d_La_step_4 ⟨by decide, by decide⟩ (fun xe H locs hex hR hk hS => ?_)
  have hO := hO.kept (hk.2 _ hO.lt (by show ¬ ((B ≤ oa ∧ oa < B + 36) ∨ D0 ≤ oa); omega))
  have hD := Nat.le_trans hD hk.1
  refine wt_c1 (Y1 := "java/lang/IndexOutOfBoundsException") (Y2 := "java/lang/IllegalStateException") V ht ⟨⟨by decide, by decide⟩, by decide, by decide⟩ ⟨by decide, by decide⟩ (List.mem_of_getElem? (i := 229) (by decide +kernel)) (List.mem_of_getElem? (i := 525) (by decide +kernel)) hex N.2.2.2.1 (isa_t C (List.mem_of_getElem? (i := 536) (by decide +kernel))) ?_
  refine lv_astore_n (lv' := [(3, .ref (xe)), (0, .ref (B)), (1, .int (nI c)), (2, .ref (oa))]) hx hb d_La_step_15 rfl hl (by decide) rfl (fun ls hl => ?_)
  refine lv_iconst (v := 2) hx hb d_La_step_16 (by decide) ?_
  exact e_i V hr hlk hS (by decide) (by decide) d_La_step_17 ⟨_, rfl, rfl, ⟨_, hR, hD, hO, hb1, hb2⟩⟩
theorem d_La_step_18 : decode b_La_step 18 = .ok (.astore_n 3, 1) := by decide +kernel
theorem d_La_step_19 : decode b_La_step 19 = .ok (.iconst 3, 1) := by decide +kernel
theorem d_La_step_20 : decode b_La_step 20 = .ok (.ireturn, 1) := by decide +kernel
set_option maxHeartbeats 4000000 in
set_option maxRecDepth 100000 in
theorem w_step_bad3 {l : Launch} {G : Gx} {s0 : State} (hfl : l.flags = pinnedFlags ++ [noTraceFlag]) (C : Cx G s0) (C0 : Ts0 s0) (N : N0 s0) {B D0 ea mi oa : Nat} (E : Es0 s0 ea mi) (hB : s0.heap.size ≤ B) (σ : Sg) (τ : Tt) (v : Int64) (c : Nat) (hc : c < 3) (hu : ¬ σ 26 c = 0) (hq : σ 4 c = nI 24) : CtR l s0 (FW B D0 oa) 7 4 320 y_La_step (.codeWith y_La_step b_La_step 4 (some .int) [(0, 9, 12, 13), (0, 9, 15, 23), (0, 9, 18, 25)]) [.ref (B), .int (nI c), .ref (oa)] (JC G B D0 ea oa σ τ v) (pI (fun r H => r = 3 ∧ ∃ τ1, JC G B D0 ea oa σ τ1 (v) H)) := by
  refine CtR.of C cdw_with (by decide) (Nat.le_of_ble_eq_true rfl) ?_
  intro pg ev s mm below meth cd V hr hlk ht hJ ls hl
  obtain ⟨hR, hD, hO, hb1, hb2⟩ := hJ
  have hx := V.1
  have hb := V.2.1
  have hS : va_S (FW B D0 oa) s.heap s.heap [] := va_S.rf
  have hA : ∀ q, FW B D0 oa q → s0.heap.size ≤ q := fun q h => by have := hR.1; rcases h with (h | h) | h <;> omega
  have hl : lv_has ls 4 [(0, .ref (B)), (1, .int (nI c)), (2, .ref (oa))] := hl
  refine lv_aload_n hx hb d_La_step_0 rfl (lv_at hl 2 rfl) ?_
  refine lv_iconst (v := 0) hx hb d_La_step_1 (by decide) ?_
  refine lv_aload_n hx hb d_La_step_2 rfl (lv_at hl 0 rfl) ?_
  refine lv_iload_n hx hb d_La_step_3 rfl (lv_at hl 1 rfl) ?_
  refine t_callV (n := 1) (As := [.int (nI c)]) (rest := [.int (0), .ref (oa)]) (A0 := FW B D0 oa) V (t_Da_step_bad3 hfl C C0 hB σ τ c hc hu hq) cdw_code ⟨List.mem_of_getElem? (i := 530) (by decide +kernel), rfl⟩ (List.mem_of_getElem? (i := 29) (by decide +kernel)) (List.mem_of_getElem? (i := 527) (by decide +kernel)) ⟨List.mem_of_getElem? (i := 528) (by decide +kernel), List.mem_of_getElem? (i := 529) (by decide +kernel)⟩ ⟨by decide, by decide, by decide +kernel⟩ (hR.rDa V.2.2.2.2.2.1) hR hS hA (fun _ h => Or.inl h) ⟨by decide, by decide⟩ rfl hl (Nat.le_of_ble_eq_true rfl) d_La_step_4 ⟨by decide, by decide⟩ (fun xe H locs hex hR hk hS => ?_)
  have hO := hO.kept (hk.2 _ hO.lt (by show ¬ ((B ≤ oa ∧ oa < B + 36) ∨ D0 ≤ oa); omega))
  have hD := Nat.le_trans hD hk.1
  refine wt_c2 (Y1 := "java/lang/IndexOutOfBoundsException") (Y2 := "java/lang/IllegalStateException") (Y3 := "java/util/NoSuchElementException") V ht ⟨⟨by decide, by decide⟩, ⟨by decide, by decide⟩, by decide, by decide⟩ ⟨by decide, by decide, by decide⟩ (List.mem_of_getElem? (i := 229) (by decide +kernel)) (List.mem_of_getElem? (i := 525) (by decide +kernel)) (List.mem_of_getElem? (i := 526) (by decide +kernel)) hex N.2.2.2.2.1 N.2.2.2.2.2.1 (isa_t C (List.mem_of_getElem? (i := 416) (by decide +kernel))) ?_
  refine lv_astore_n (lv' := [(3, .ref (xe)), (0, .ref (B)), (1, .int (nI c)), (2, .ref (oa))]) hx hb d_La_step_18 rfl hl (by decide) rfl (fun ls hl => ?_)
  refine lv_iconst (v := 3) hx hb d_La_step_19 (by decide) ?_
  exact e_i V hr hlk hS (by decide) (by decide) d_La_step_20 ⟨_, rfl, rfl, ⟨_, hR, hD, hO, hb1, hb2⟩⟩
theorem d_La_step_7 : decode b_La_step 7 = .ok (.i2l, 1) := by decide +kernel
theorem d_La_step_8 : decode b_La_step 8 = .ok (.lastore, 1) := by decide +kernel
theorem d_La_step_9 : decode b_La_step 9 = .ok (.goto 12, 3) := by decide +kernel
theorem d_La_step_21 : decode b_La_step 21 = .ok (.iconst 0, 1) := by decide +kernel
theorem d_La_step_22 : decode b_La_step 22 = .ok (.ireturn, 1) := by decide +kernel
set_option maxHeartbeats 4000000 in
set_option maxRecDepth 100000 in
theorem w_step {l : Launch} {G : Gx} {s0 : State} (hfl : l.flags = pinnedFlags ++ [noTraceFlag]) (C : Cx G s0) (C0 : Ts0 s0) (N : N0 s0) {B D0 ea mi oa : Nat} (E : Es0 s0 ea mi) (hB : s0.heap.size ≤ B) (σ : Sg) (τ : Tt) (v : Int64) (c : Nat) (hc : c < 3) (w : Nat) (hw : σ 7 c = nI w) (hw6 : w ≤ 60) (hu : ¬ σ 26 c = 0) (a : Nat) (ha : σ 14 c = nI a) (ha3 : a < 3) (q : Nat) (hq : σ 4 c = nI q) (hq4 : q < 24) (sp : Nat) (hsp : σ 25 c = nI sp) (hs2 : ¬ σ 12 c = 0 → sp ≤ 2) (hI : okI σ c w) (hOk : σ 12 c = 2 → sp = 2 → σ 17 c + 1 = 2 → okD σ c w) : CtR l s0 (FW B D0 oa) 7 4 320 y_La_step (.codeWith y_La_step b_La_step 4 (some .int) [(0, 9, 12, 13), (0, 9, 15, 23), (0, 9, 18, 25)]) [.ref (B), .int (nI c), .ref (oa)] (JC G B D0 ea oa σ τ v) (pI (fun r H => r = 0 ∧ ∃ τ1, JC G B D0 ea oa (cgo σ c w a q sp).2 τ1 (((cgo σ c w a q sp).1 : Int32).toInt64) H)) := by
  refine CtR.of C cdw_with (by decide) (Nat.le_of_ble_eq_true rfl) ?_
  intro pg ev s mm below meth cd V hr hlk ht hJ ls hl
  obtain ⟨hR, hD, hO, hb1, hb2⟩ := hJ
  have hx := V.1
  have hb := V.2.1
  have hS : va_S (FW B D0 oa) s.heap s.heap [] := va_S.rf
  have hA : ∀ q, FW B D0 oa q → s0.heap.size ≤ q := fun q h => by have := hR.1; rcases h with (h | h) | h <;> omega
  have hl : lv_has ls 4 [(0, .ref (B)), (1, .int (nI c)), (2, .ref (oa))] := hl
  refine lv_aload_n hx hb d_La_step_0 rfl (lv_at hl 2 rfl) ?_
  refine lv_iconst (v := 0) hx hb d_La_step_1 (by decide) ?_
  refine lv_aload_n hx hb d_La_step_2 rfl (lv_at hl 0 rfl) ?_
  refine lv_iload_n hx hb d_La_step_3 rfl (lv_at hl 1 rfl) ?_
  refine g_callV (As := [.int (nI c)]) (rest := [.int (0), .ref (oa)]) (A0 := FW B D0 oa) V (c_Da_step C E hB σ τ c hc w hw hw6 hu a ha ha3 q hq hq4 sp hsp hs2 hI hOk) v_La_19 (hR.rDa V.2.2.2.2.2.1) ⟨hR, hD⟩ hS hA (fun _ h => Or.inl h) ⟨by decide, by decide⟩ rfl hl (Nat.le_of_ble_eq_true rfl) d_La_step_4 ⟨by decide, by decide⟩ (kI (fun r H locs hQ hk hS => ?_))
  obtain ⟨rfl, hR⟩ := hQ
  have hO := hO.kept (hk.2 _ hO.lt (by show ¬ ((B ≤ oa ∧ oa < B + 36) ∨ D0 ≤ oa); omega))
  have hD := Nat.le_trans hD hk.1
  refine lv_i2l (v := ((cgo σ c w a q sp).1 : Int32).toInt64) hx hb d_La_step_7 rfl ?_
  refine x_ost V hO d_La_step_8 (fun H i hO z oq => ?_)
  have hS := hS.put (k := i) z oq (Or.inr rfl)
  have hR := hR.kept (fun q hq hF => oq q (by intro e; subst e; rcases hF with hF | hF <;> omega))
  have hD : D0 ≤ H.size := by rw [z]; exact hD
  refine lv_goto (tgt := 21) hx hb d_La_step_9 (by decide) ?_
  refine lv_iconst (v := 0) hx hb d_La_step_21 (by decide) ?_
  exact e_i V hr hlk hS (by decide) (by decide) d_La_step_22 ⟨_, rfl, rfl, ⟨_, hR, hD, hO, hb1, hb2⟩⟩
theorem d_La_tear_0 : decode b_La_tear 0 = .ok (.aload_n 3, 1) := by decide +kernel
theorem d_La_tear_1 : decode b_La_tear 1 = .ok (.iconst 0, 1) := by decide +kernel
theorem d_La_tear_2 : decode b_La_tear 2 = .ok (.aload_n 0, 1) := by decide +kernel
theorem d_La_tear_3 : decode b_La_tear 3 = .ok (.iload_n 1, 1) := by decide +kernel
theorem d_La_tear_4 : decode b_La_tear 4 = .ok (.iload_n 2, 1) := by decide +kernel
theorem d_La_tear_5 : decode b_La_tear 5 = .ok (.invokevirtual 31, 3) := by decide +kernel
theorem d_La_tear_20 : decode b_La_tear 20 = .ok (.astore 4, 2) := by decide +kernel
theorem d_La_tear_22 : decode b_La_tear 22 = .ok (.iconst 1, 1) := by decide +kernel
theorem d_La_tear_23 : decode b_La_tear 23 = .ok (.ireturn, 1) := by decide +kernel
set_option maxHeartbeats 4000000 in
set_option maxRecDepth 100000 in
theorem w_tear_bad {l : Launch} {G : Gx} {s0 : State} (hfl : l.flags = pinnedFlags ++ [noTraceFlag]) (C : Cx G s0) (C0 : Ts0 s0) (N : N0 s0) {B D0 ea mi oa : Nat} (E : Es0 s0 ea mi) (hB : s0.heap.size ≤ B) (σ : Sg) (τ : Tt) (v : Int64) (x : Int32) (hx1 : one x = false) (y : Int32) : CtR l s0 (FW B D0 oa) 7 4 320 y_La_tear (.codeWith y_La_tear b_La_tear 5 (some .int) [(0, 17, 20, 13), (0, 17, 24, 15), (0, 17, 28, 23)]) [.ref (B), .int (x), .int (y), .ref (oa)] (JC G B D0 ea oa σ τ v) (pI (fun r H => r = 1 ∧ ∃ τ1, JC G B D0 ea oa σ τ1 (v) H)) := by
  refine CtR.of C cdw_with (by decide) (Nat.le_of_ble_eq_true rfl) ?_
  intro pg ev s mm below meth cd V hr hlk ht hJ ls hl
  obtain ⟨hR, hD, hO, hb1, hb2⟩ := hJ
  have hx := V.1
  have hb := V.2.1
  have hS : va_S (FW B D0 oa) s.heap s.heap [] := va_S.rf
  have hA : ∀ q, FW B D0 oa q → s0.heap.size ≤ q := fun q h => by have := hR.1; rcases h with (h | h) | h <;> omega
  have hl : lv_has ls 5 [(0, .ref (B)), (1, .int (x)), (2, .int (y)), (3, .ref (oa))] := hl
  refine lv_aload_n hx hb d_La_tear_0 rfl (lv_at hl 3 rfl) ?_
  refine lv_iconst (v := 0) hx hb d_La_tear_1 (by decide) ?_
  refine lv_aload_n hx hb d_La_tear_2 rfl (lv_at hl 0 rfl) ?_
  refine lv_iload_n hx hb d_La_tear_3 rfl (lv_at hl 1 rfl) ?_
  refine lv_iload_n hx hb d_La_tear_4 rfl (lv_at hl 2 rfl) ?_
  refine t_callV (n := 2) (As := [.int (x), .int (y)]) (rest := [.int (0), .ref (oa)]) (A0 := FW B D0 oa) V (t_Da_tear_bad hfl C C0 hB σ τ x hx1 y) cdw_with ⟨List.mem_of_getElem? (i := 663) (by decide +kernel), rfl⟩ (List.mem_of_getElem? (i := 29) (by decide +kernel)) (List.mem_of_getElem? (i := 660) (by decide +kernel)) ⟨List.mem_of_getElem? (i := 661) (by decide +kernel), List.mem_of_getElem? (i := 662) (by decide +kernel)⟩ ⟨by decide, by decide, by decide +kernel⟩ (hR.rDa V.2.2.2.2.2.1) hR hS hA (fun _ h => Or.inl h) ⟨by decide, by decide⟩ rfl hl (Nat.le_of_ble_eq_true rfl) d_La_tear_5 ⟨by decide, by decide⟩ (fun xe H locs hex hR hk hS => ?_)
  have hO := hO.kept (hk.2 _ hO.lt (by show ¬ ((B ≤ oa ∧ oa < B + 36) ∨ D0 ≤ oa); omega))
  have hD := Nat.le_trans hD hk.1
  refine wt_c0 (Y := "java/lang/IndexOutOfBoundsException") V ht ⟨by decide, by decide⟩ (by decide) (List.mem_of_getElem? (i := 229) (by decide +kernel)) hex  (isa_t C (List.mem_of_getElem? (i := 323) (by decide +kernel))) ?_
  refine lv_astore (lv' := [(4, .ref (xe)), (0, .ref (B)), (1, .int (x)), (2, .int (y)), (3, .ref (oa))]) hx hb d_La_tear_20 hl (by decide) rfl (fun ls hl => ?_)
  refine lv_iconst (v := 1) hx hb d_La_tear_22 (by decide) ?_
  exact e_i V hr hlk hS (by decide) (by decide) d_La_tear_23 ⟨_, rfl, rfl, ⟨_, hR, hD, hO, hb1, hb2⟩⟩
theorem d_La_tear_24 : decode b_La_tear 24 = .ok (.astore 4, 2) := by decide +kernel
theorem d_La_tear_26 : decode b_La_tear 26 = .ok (.iconst 2, 1) := by decide +kernel
theorem d_La_tear_27 : decode b_La_tear 27 = .ok (.ireturn, 1) := by decide +kernel
set_option maxHeartbeats 4000000 in
set_option maxRecDepth 100000 in
theorem w_tear_bad2 {l : Launch} {G : Gx} {s0 : State} (hfl : l.flags = pinnedFlags ++ [noTraceFlag]) (C : Cx G s0) (C0 : Ts0 s0) (N : N0 s0) {B D0 ea mi oa : Nat} (E : Es0 s0 ea mi) (hB : s0.heap.size ≤ B) (σ : Sg) (τ : Tt) (v : Int64) (c : Nat) (hc : c < 3) (y : Int32) (hy1 : (!decide (y < 0) && !decide (6 ≤ y)) = false) : CtR l s0 (FW B D0 oa) 7 4 320 y_La_tear (.codeWith y_La_tear b_La_tear 5 (some .int) [(0, 17, 20, 13), (0, 17, 24, 15), (0, 17, 28, 23)]) [.ref (B), .int (nI c), .int (y), .ref (oa)] (JC G B D0 ea oa σ τ v) (pI (fun r H => r = 2 ∧ ∃ τ1, JC G B D0 ea oa σ τ1 (v) H)) := by
  refine CtR.of C cdw_with (by decide) (Nat.le_of_ble_eq_true rfl) ?_
  intro pg ev s mm below meth cd V hr hlk ht hJ ls hl
  obtain ⟨hR, hD, hO, hb1, hb2⟩ := hJ
  have hx := V.1
  have hb := V.2.1
  have hS : va_S (FW B D0 oa) s.heap s.heap [] := va_S.rf
  have hA : ∀ q, FW B D0 oa q → s0.heap.size ≤ q := fun q h => by have := hR.1; rcases h with (h | h) | h <;> omega
  have hl : lv_has ls 5 [(0, .ref (B)), (1, .int (nI c)), (2, .int (y)), (3, .ref (oa))] := hl
  refine lv_aload_n hx hb d_La_tear_0 rfl (lv_at hl 3 rfl) ?_
  refine lv_iconst (v := 0) hx hb d_La_tear_1 (by decide) ?_
  refine lv_aload_n hx hb d_La_tear_2 rfl (lv_at hl 0 rfl) ?_
  refine lv_iload_n hx hb d_La_tear_3 rfl (lv_at hl 1 rfl) ?_
  refine lv_iload_n hx hb d_La_tear_4 rfl (lv_at hl 2 rfl) ?_
  refine t_callV (n := 2) (As := [.int (nI c), .int (y)]) (rest := [.int (0), .ref (oa)]) (A0 := FW B D0 oa) V (t_Da_tear_bad2 hfl C C0 hB σ τ c hc y hy1) cdw_with ⟨List.mem_of_getElem? (i := 663) (by decide +kernel), rfl⟩ (List.mem_of_getElem? (i := 29) (by decide +kernel)) (List.mem_of_getElem? (i := 660) (by decide +kernel)) ⟨List.mem_of_getElem? (i := 661) (by decide +kernel), List.mem_of_getElem? (i := 662) (by decide +kernel)⟩ ⟨by decide, by decide, by decide +kernel⟩ (hR.rDa V.2.2.2.2.2.1) hR hS hA (fun _ h => Or.inl h) ⟨by decide, by decide⟩ rfl hl (Nat.le_of_ble_eq_true rfl) d_La_tear_5 ⟨by decide, by decide⟩ (fun xe H locs hex hR hk hS => ?_)
  have hO := hO.kept (hk.2 _ hO.lt (by show ¬ ((B ≤ oa ∧ oa < B + 36) ∨ D0 ≤ oa); omega))
  have hD := Nat.le_trans hD hk.1
  refine wt_c1 (Y1 := "java/lang/IndexOutOfBoundsException") (Y2 := "java/lang/IllegalArgumentException") V ht ⟨⟨by decide, by decide⟩, by decide, by decide⟩ ⟨by decide, by decide⟩ (List.mem_of_getElem? (i := 229) (by decide +kernel)) (List.mem_of_getElem? (i := 308) (by decide +kernel)) hex N.1 (isa_t C (List.mem_of_getElem? (i := 347) (by decide +kernel))) ?_
  refine lv_astore (lv' := [(4, .ref (xe)), (0, .ref (B)), (1, .int (nI c)), (2, .int (y)), (3, .ref (oa))]) hx hb d_La_tear_24 hl (by decide) rfl (fun ls hl => ?_)
  refine lv_iconst (v := 2) hx hb d_La_tear_26 (by decide) ?_
  exact e_i V hr hlk hS (by decide) (by decide) d_La_tear_27 ⟨_, rfl, rfl, ⟨_, hR, hD, hO, hb1, hb2⟩⟩
theorem d_La_tear_28 : decode b_La_tear 28 = .ok (.astore 4, 2) := by decide +kernel
theorem d_La_tear_30 : decode b_La_tear 30 = .ok (.iconst 3, 1) := by decide +kernel
theorem d_La_tear_31 : decode b_La_tear 31 = .ok (.ireturn, 1) := by decide +kernel
set_option maxHeartbeats 4000000 in
set_option maxRecDepth 100000 in
theorem w_tear_bad3 {l : Launch} {G : Gx} {s0 : State} (hfl : l.flags = pinnedFlags ++ [noTraceFlag]) (C : Cx G s0) (C0 : Ts0 s0) (N : N0 s0) {B D0 ea mi oa : Nat} (E : Es0 s0 ea mi) (hB : s0.heap.size ≤ B) (σ : Sg) (τ : Tt) (v : Int64) (c : Nat) (hc : c < 3) (hu : σ 26 c = 0) (kp : Nat) (hkp : kp < 6) : CtR l s0 (FW B D0 oa) 7 4 320 y_La_tear (.codeWith y_La_tear b_La_tear 5 (some .int) [(0, 17, 20, 13), (0, 17, 24, 15), (0, 17, 28, 23)]) [.ref (B), .int (nI c), .int (nI kp), .ref (oa)] (JC G B D0 ea oa σ τ v) (pI (fun r H => r = 3 ∧ ∃ τ1, JC G B D0 ea oa σ τ1 (v) H)) := by
  refine CtR.of C cdw_with (by decide) (Nat.le_of_ble_eq_true rfl) ?_
  intro pg ev s mm below meth cd V hr hlk ht hJ ls hl
  obtain ⟨hR, hD, hO, hb1, hb2⟩ := hJ
  have hx := V.1
  have hb := V.2.1
  have hS : va_S (FW B D0 oa) s.heap s.heap [] := va_S.rf
  have hA : ∀ q, FW B D0 oa q → s0.heap.size ≤ q := fun q h => by have := hR.1; rcases h with (h | h) | h <;> omega
  have hl : lv_has ls 5 [(0, .ref (B)), (1, .int (nI c)), (2, .int (nI kp)), (3, .ref (oa))] := hl
  refine lv_aload_n hx hb d_La_tear_0 rfl (lv_at hl 3 rfl) ?_
  refine lv_iconst (v := 0) hx hb d_La_tear_1 (by decide) ?_
  refine lv_aload_n hx hb d_La_tear_2 rfl (lv_at hl 0 rfl) ?_
  refine lv_iload_n hx hb d_La_tear_3 rfl (lv_at hl 1 rfl) ?_
  refine lv_iload_n hx hb d_La_tear_4 rfl (lv_at hl 2 rfl) ?_
  refine t_callV (n := 2) (As := [.int (nI c), .int (nI kp)]) (rest := [.int (0), .ref (oa)]) (A0 := FW B D0 oa) V (t_Da_tear_bad3 hfl C C0 hB σ τ c hc hu kp hkp) cdw_with ⟨List.mem_of_getElem? (i := 663) (by decide +kernel), rfl⟩ (List.mem_of_getElem? (i := 29) (by decide +kernel)) (List.mem_of_getElem? (i := 660) (by decide +kernel)) ⟨List.mem_of_getElem? (i := 661) (by decide +kernel), List.mem_of_getElem? (i := 662) (by decide +kernel)⟩ ⟨by decide, by decide, by decide +kernel⟩ (hR.rDa V.2.2.2.2.2.1) hR hS hA (fun _ h => Or.inl h) ⟨by decide, by decide⟩ rfl hl (Nat.le_of_ble_eq_true rfl) d_La_tear_5 ⟨by decide, by decide⟩ (fun xe H locs hex hR hk hS => ?_)
  have hO := hO.kept (hk.2 _ hO.lt (by show ¬ ((B ≤ oa ∧ oa < B + 36) ∨ D0 ≤ oa); omega))
  have hD := Nat.le_trans hD hk.1
  refine wt_c2 (Y1 := "java/lang/IndexOutOfBoundsException") (Y2 := "java/lang/IllegalArgumentException") (Y3 := "java/lang/IllegalStateException") V ht ⟨⟨by decide, by decide⟩, ⟨by decide, by decide⟩, by decide, by decide⟩ ⟨by decide, by decide, by decide⟩ (List.mem_of_getElem? (i := 229) (by decide +kernel)) (List.mem_of_getElem? (i := 308) (by decide +kernel)) (List.mem_of_getElem? (i := 525) (by decide +kernel)) hex N.2.2.2.1 N.2.2.2.2.2.2 (isa_t C (List.mem_of_getElem? (i := 536) (by decide +kernel))) ?_
  refine lv_astore (lv' := [(4, .ref (xe)), (0, .ref (B)), (1, .int (nI c)), (2, .int (nI kp)), (3, .ref (oa))]) hx hb d_La_tear_28 hl (by decide) rfl (fun ls hl => ?_)
  refine lv_iconst (v := 3) hx hb d_La_tear_30 (by decide) ?_
  exact e_i V hr hlk hS (by decide) (by decide) d_La_tear_31 ⟨_, rfl, rfl, ⟨_, hR, hD, hO, hb1, hb2⟩⟩
theorem d_La_tear_8 : decode b_La_tear 8 = .ok (.ifCond .eq 7, 3) := by decide +kernel
theorem d_La_tear_15 : decode b_La_tear 15 = .ok (.lconst 0, 1) := by decide +kernel
theorem d_La_tear_16 : decode b_La_tear 16 = .ok (.lastore, 1) := by decide +kernel
theorem d_La_tear_17 : decode b_La_tear 17 = .ok (.goto 15, 3) := by decide +kernel
theorem d_La_tear_32 : decode b_La_tear 32 = .ok (.iconst 0, 1) := by decide +kernel
theorem d_La_tear_33 : decode b_La_tear 33 = .ok (.ireturn, 1) := by decide +kernel
set_option maxHeartbeats 4000000 in
set_option maxRecDepth 100000 in
theorem w_tear_0 {l : Launch} {G : Gx} {s0 : State} (hfl : l.flags = pinnedFlags ++ [noTraceFlag]) (C : Cx G s0) (C0 : Ts0 s0) (N : N0 s0) {B D0 ea mi oa : Nat} (E : Es0 s0 ea mi) (hB : s0.heap.size ≤ B) (σ : Sg) (τ : Tt) (v : Int64) (c : Nat) (hc : c < 3) (hu : ¬ σ 26 c = 0) (a : Nat) (ha : σ 14 c = nI a) (ha3 : a < 3) (kp : Nat) (hkp : kp < 6) (hn0 : (!decide (σ 12 c ≤ 0) && (!decide (σ 27 a = 0) && decide (σ 25 c = 0))) = false) : CtR l s0 (FW B D0 oa) 7 4 320 y_La_tear (.codeWith y_La_tear b_La_tear 5 (some .int) [(0, 17, 20, 13), (0, 17, 24, 15), (0, 17, 28, 23)]) [.ref (B), .int (nI c), .int (nI kp), .ref (oa)] (JC G B D0 ea oa σ τ v) (pI (fun r H => r = 0 ∧ ∃ τ1, JC G B D0 ea oa σ τ1 (bl (0)) H)) := by
  refine CtR.of C cdw_with (by decide) (Nat.le_of_ble_eq_true rfl) ?_
  intro pg ev s mm below meth cd V hr hlk ht hJ ls hl
  obtain ⟨hR, hD, hO, hb1, hb2⟩ := hJ
  have hx := V.1
  have hb := V.2.1
  have hS : va_S (FW B D0 oa) s.heap s.heap [] := va_S.rf
  have hA : ∀ q, FW B D0 oa q → s0.heap.size ≤ q := fun q h => by have := hR.1; rcases h with (h | h) | h <;> omega
  have hl : lv_has ls 5 [(0, .ref (B)), (1, .int (nI c)), (2, .int (nI kp)), (3, .ref (oa))] := hl
  refine lv_aload_n hx hb d_La_tear_0 rfl (lv_at hl 3 rfl) ?_
  refine lv_iconst (v := 0) hx hb d_La_tear_1 (by decide) ?_
  refine lv_aload_n hx hb d_La_tear_2 rfl (lv_at hl 0 rfl) ?_
  refine lv_iload_n hx hb d_La_tear_3 rfl (lv_at hl 1 rfl) ?_
  refine lv_iload_n hx hb d_La_tear_4 rfl (lv_at hl 2 rfl) ?_
  refine r_callV (n := 2) (As := [.int (nI c), .int (nI kp)]) (rest := [.int (0), .ref (oa)]) (A0 := FW B D0 oa) V (c_Da_tear_0 hfl C C0 hB σ τ c hc hu a ha ha3 kp hkp hn0) (List.mem_of_getElem? (i := 663) (by decide +kernel)) (List.mem_of_getElem? (i := 29) (by decide +kernel)) (List.mem_of_getElem? (i := 660) (by decide +kernel)) ⟨List.mem_of_getElem? (i := 661) (by decide +kernel), List.mem_of_getElem? (i := 662) (by decide +kernel)⟩ ⟨by decide, by decide, by decide +kernel⟩ (hR.rDa V.2.2.2.2.2.1) hR hS hA (fun _ h => Or.inl h) ⟨by decide, by decide⟩ rfl hl (Nat.le_of_ble_eq_true rfl) d_La_tear_5 ⟨by decide, by decide⟩ (kI (fun r H locs hQ hk hS => ?_))
  obtain ⟨rfl, hR⟩ := hQ
  have hO := hO.kept (hk.2 _ hO.lt (by show ¬ ((B ≤ oa ∧ oa < B + 36) ∨ D0 ≤ oa); omega))
  have hD := Nat.le_trans hD hk.1
  refine lv_if_eq (tgt := 15) hx hb d_La_tear_8 (by decide) (fun h8 => ?_) (fun h8 => ?_)
  · refine lv_lconst (v := 0) hx hb d_La_tear_15 (by decide) ?_
    refine x_ost V hO d_La_tear_16 (fun H i hO z oq => ?_)
    have hS := hS.put (k := i) z oq (Or.inr rfl)
    have hR := hR.kept (fun q hq hF => oq q (by intro e; subst e; rcases hF with hF | hF <;> omega))
    have hD : D0 ≤ H.size := by rw [z]; exact hD
    refine lv_goto (tgt := 32) hx hb d_La_tear_17 (by decide) ?_
    refine lv_iconst (v := 0) hx hb d_La_tear_32 (by decide) ?_
    exact e_i V hr hlk hS (by decide) (by decide) d_La_tear_33 ⟨_, rfl, rfl, ⟨_, hR, hD, hO, hb1, hb2⟩⟩
  · exact absurd (by decide) h8
theorem d_La_tear_11 : decode b_La_tear 11 = .ok (.lconst 1, 1) := by decide +kernel
theorem d_La_tear_12 : decode b_La_tear 12 = .ok (.goto 4, 3) := by decide +kernel
set_option maxHeartbeats 4000000 in
set_option maxRecDepth 100000 in
theorem w_tear_1 {l : Launch} {G : Gx} {s0 : State} (hfl : l.flags = pinnedFlags ++ [noTraceFlag]) (C : Cx G s0) (C0 : Ts0 s0) (N : N0 s0) {B D0 ea mi oa : Nat} (E : Es0 s0 ea mi) (hB : s0.heap.size ≤ B) (σ : Sg) (τ : Tt) (v : Int64) (c : Nat) (hc : c < 3) (hu : ¬ σ 26 c = 0) (a : Nat) (ha : σ 14 c = nI a) (ha3 : a < 3) (q : Nat) (hq : σ 4 c = nI q) (hq4 : q < 24) (kp : Nat) (hkp : kp < 5) (hn1 : (!decide (σ 12 c ≤ 0) && (!decide (σ 27 a = 0) && decide (σ 25 c = 0))) = true) : CtR l s0 (FW B D0 oa) 7 4 320 y_La_tear (.codeWith y_La_tear b_La_tear 5 (some .int) [(0, 17, 20, 13), (0, 17, 24, 15), (0, 17, 28, 23)]) [.ref (B), .int (nI c), .int (nI kp), .ref (oa)] (JC G B D0 ea oa σ τ v) (pI (fun r H => r = 0 ∧ ∃ τ1, JC G B D0 ea oa (up2 (up2 (cwr σ c a q kp) 26 c 0) 26 c 0) τ1 (bl (1)) H)) := by
  refine CtR.of C cdw_with (by decide) (Nat.le_of_ble_eq_true rfl) ?_
  intro pg ev s mm below meth cd V hr hlk ht hJ ls hl
  obtain ⟨hR, hD, hO, hb1, hb2⟩ := hJ
  have hx := V.1
  have hb := V.2.1
  have hS : va_S (FW B D0 oa) s.heap s.heap [] := va_S.rf
  have hA : ∀ q, FW B D0 oa q → s0.heap.size ≤ q := fun q h => by have := hR.1; rcases h with (h | h) | h <;> omega
  have hl : lv_has ls 5 [(0, .ref (B)), (1, .int (nI c)), (2, .int (nI kp)), (3, .ref (oa))] := hl
  refine lv_aload_n hx hb d_La_tear_0 rfl (lv_at hl 3 rfl) ?_
  refine lv_iconst (v := 0) hx hb d_La_tear_1 (by decide) ?_
  refine lv_aload_n hx hb d_La_tear_2 rfl (lv_at hl 0 rfl) ?_
  refine lv_iload_n hx hb d_La_tear_3 rfl (lv_at hl 1 rfl) ?_
  refine lv_iload_n hx hb d_La_tear_4 rfl (lv_at hl 2 rfl) ?_
  refine r_callV (n := 2) (As := [.int (nI c), .int (nI kp)]) (rest := [.int (0), .ref (oa)]) (A0 := FW B D0 oa) V (c_Da_tear_1 hfl C C0 hB σ τ c hc hu a ha ha3 q hq hq4 kp hkp hn1) (List.mem_of_getElem? (i := 663) (by decide +kernel)) (List.mem_of_getElem? (i := 29) (by decide +kernel)) (List.mem_of_getElem? (i := 660) (by decide +kernel)) ⟨List.mem_of_getElem? (i := 661) (by decide +kernel), List.mem_of_getElem? (i := 662) (by decide +kernel)⟩ ⟨by decide, by decide, by decide +kernel⟩ (hR.rDa V.2.2.2.2.2.1) hR hS hA (fun _ h => Or.inl h) ⟨by decide, by decide⟩ rfl hl (Nat.le_of_ble_eq_true rfl) d_La_tear_5 ⟨by decide, by decide⟩ (kI (fun r H locs hQ hk hS => ?_))
  obtain ⟨rfl, hR⟩ := hQ
  have hO := hO.kept (hk.2 _ hO.lt (by show ¬ ((B ≤ oa ∧ oa < B + 36) ∨ D0 ≤ oa); omega))
  have hD := Nat.le_trans hD hk.1
  refine lv_if_eq (tgt := 15) hx hb d_La_tear_8 (by decide) (fun h8 => ?_) (fun h8 => ?_)
  · exact absurd h8 (by decide)
  · refine lv_lconst (v := 1) hx hb d_La_tear_11 (by decide) ?_
    refine lv_goto (tgt := 16) hx hb d_La_tear_12 (by decide) ?_
    refine x_ost V hO d_La_tear_16 (fun H i hO z oq => ?_)
    have hS := hS.put (k := i) z oq (Or.inr rfl)
    have hR := hR.kept (fun q hq hF => oq q (by intro e; subst e; rcases hF with hF | hF <;> omega))
    have hD : D0 ≤ H.size := by rw [z]; exact hD
    refine lv_goto (tgt := 32) hx hb d_La_tear_17 (by decide) ?_
    refine lv_iconst (v := 0) hx hb d_La_tear_32 (by decide) ?_
    exact e_i V hr hlk hS (by decide) (by decide) d_La_tear_33 ⟨_, rfl, rfl, ⟨_, hR, hD, hO, hb1, hb2⟩⟩
set_option maxHeartbeats 4000000 in
set_option maxRecDepth 100000 in
theorem w_tear_5 {l : Launch} {G : Gx} {s0 : State} (hfl : l.flags = pinnedFlags ++ [noTraceFlag]) (C : Cx G s0) (C0 : Ts0 s0) (N : N0 s0) {B D0 ea mi oa : Nat} (E : Es0 s0 ea mi) (hB : s0.heap.size ≤ B) (σ : Sg) (τ : Tt) (v : Int64) (c : Nat) (hc : c < 3) (hu : ¬ σ 26 c = 0) (a : Nat) (ha : σ 14 c = nI a) (ha3 : a < 3) (q : Nat) (hq : σ 4 c = nI q) (hq4 : q < 24) (hn1 : (!decide (σ 12 c ≤ 0) && (!decide (σ 27 a = 0) && decide (σ 25 c = 0))) = true) : CtR l s0 (FW B D0 oa) 7 4 320 y_La_tear (.codeWith y_La_tear b_La_tear 5 (some .int) [(0, 17, 20, 13), (0, 17, 24, 15), (0, 17, 28, 23)]) [.ref (B), .int (nI c), .int (5), .ref (oa)] (JC G B D0 ea oa σ τ v) (pI (fun r H => r = 0 ∧ ∃ τ1, JC G B D0 ea oa (up2 (up2 (cwr σ c a q 5) 25 c 1) 26 c 0) τ1 (bl (1)) H)) := by
  refine CtR.of C cdw_with (by decide) (Nat.le_of_ble_eq_true rfl) ?_
  intro pg ev s mm below meth cd V hr hlk ht hJ ls hl
  obtain ⟨hR, hD, hO, hb1, hb2⟩ := hJ
  have hx := V.1
  have hb := V.2.1
  have hS : va_S (FW B D0 oa) s.heap s.heap [] := va_S.rf
  have hA : ∀ q, FW B D0 oa q → s0.heap.size ≤ q := fun q h => by have := hR.1; rcases h with (h | h) | h <;> omega
  have hl : lv_has ls 5 [(0, .ref (B)), (1, .int (nI c)), (2, .int (5)), (3, .ref (oa))] := hl
  refine lv_aload_n hx hb d_La_tear_0 rfl (lv_at hl 3 rfl) ?_
  refine lv_iconst (v := 0) hx hb d_La_tear_1 (by decide) ?_
  refine lv_aload_n hx hb d_La_tear_2 rfl (lv_at hl 0 rfl) ?_
  refine lv_iload_n hx hb d_La_tear_3 rfl (lv_at hl 1 rfl) ?_
  refine lv_iload_n hx hb d_La_tear_4 rfl (lv_at hl 2 rfl) ?_
  refine r_callV (n := 2) (As := [.int (nI c), .int (5)]) (rest := [.int (0), .ref (oa)]) (A0 := FW B D0 oa) V (c_Da_tear_5 hfl C C0 hB σ τ c hc hu a ha ha3 q hq hq4 hn1) (List.mem_of_getElem? (i := 663) (by decide +kernel)) (List.mem_of_getElem? (i := 29) (by decide +kernel)) (List.mem_of_getElem? (i := 660) (by decide +kernel)) ⟨List.mem_of_getElem? (i := 661) (by decide +kernel), List.mem_of_getElem? (i := 662) (by decide +kernel)⟩ ⟨by decide, by decide, by decide +kernel⟩ (hR.rDa V.2.2.2.2.2.1) hR hS hA (fun _ h => Or.inl h) ⟨by decide, by decide⟩ rfl hl (Nat.le_of_ble_eq_true rfl) d_La_tear_5 ⟨by decide, by decide⟩ (kI (fun r H locs hQ hk hS => ?_))
  obtain ⟨rfl, hR⟩ := hQ
  have hO := hO.kept (hk.2 _ hO.lt (by show ¬ ((B ≤ oa ∧ oa < B + 36) ∨ D0 ≤ oa); omega))
  have hD := Nat.le_trans hD hk.1
  refine lv_if_eq (tgt := 15) hx hb d_La_tear_8 (by decide) (fun h8 => ?_) (fun h8 => ?_)
  · exact absurd h8 (by decide)
  · refine lv_lconst (v := 1) hx hb d_La_tear_11 (by decide) ?_
    refine lv_goto (tgt := 16) hx hb d_La_tear_12 (by decide) ?_
    refine x_ost V hO d_La_tear_16 (fun H i hO z oq => ?_)
    have hS := hS.put (k := i) z oq (Or.inr rfl)
    have hR := hR.kept (fun q hq hF => oq q (by intro e; subst e; rcases hF with hF | hF <;> omega))
    have hD : D0 ≤ H.size := by rw [z]; exact hD
    refine lv_goto (tgt := 32) hx hb d_La_tear_17 (by decide) ?_
    refine lv_iconst (v := 0) hx hb d_La_tear_32 (by decide) ?_
    exact e_i V hr hlk hS (by decide) (by decide) d_La_tear_33 ⟨_, rfl, rfl, ⟨_, hR, hD, hO, hb1, hb2⟩⟩
theorem d_La_want_0 : decode b_La_want 0 = .ok (.aload 6, 2) := by decide +kernel
theorem d_La_want_2 : decode b_La_want 2 = .ok (.iconst 0, 1) := by decide +kernel
theorem d_La_want_3 : decode b_La_want 3 = .ok (.aload_n 0, 1) := by decide +kernel
theorem d_La_want_4 : decode b_La_want 4 = .ok (.iload_n 1, 1) := by decide +kernel
theorem d_La_want_5 : decode b_La_want 5 = .ok (.iload_n 2, 1) := by decide +kernel
theorem d_La_want_6 : decode b_La_want 6 = .ok (.iload_n 3, 1) := by decide +kernel
theorem d_La_want_7 : decode b_La_want 7 = .ok (.iload 4, 2) := by decide +kernel
theorem d_La_want_9 : decode b_La_want 9 = .ok (.iload 5, 2) := by decide +kernel
theorem d_La_want_11 : decode b_La_want 11 = .ok (.invokevirtual 7, 3) := by decide +kernel
theorem d_La_want_19 : decode b_La_want 19 = .ok (.astore 7, 2) := by decide +kernel
theorem d_La_want_21 : decode b_La_want 21 = .ok (.iconst 1, 1) := by decide +kernel
theorem d_La_want_22 : decode b_La_want 22 = .ok (.ireturn, 1) := by decide +kernel
set_option maxHeartbeats 4000000 in
set_option maxRecDepth 100000 in
theorem w_want_bad {l : Launch} {G : Gx} {s0 : State} (hfl : l.flags = pinnedFlags ++ [noTraceFlag]) (C : Cx G s0) (C0 : Ts0 s0) (N : N0 s0) {B D0 ea mi oa : Nat} (E : Es0 s0 ea mi) (hB : s0.heap.size ≤ B) (σ : Sg) (τ : Tt) (v : Int64) (x : Int32) (hx1 : one x = false) (k ca d cl : Int32) : CtR l s0 (FW B D0 oa) 7 4 320 y_La_want (.codeWith y_La_want b_La_want 8 (some .int) [(0, 16, 19, 13), (0, 16, 23, 15), (0, 16, 27, 17)]) [.ref (B), .int (x), .int (k), .int (ca), .int (d), .int (cl), .ref (oa)] (JC G B D0 ea oa σ τ v) (pI (fun r H => r = 1 ∧ ∃ τ1, JC G B D0 ea oa σ τ1 (v) H)) := by
  refine CtR.of C cdw_with (by decide) (Nat.le_of_ble_eq_true rfl) ?_
  intro pg ev s mm below meth cd V hr hlk ht hJ ls hl
  obtain ⟨hR, hD, hO, hb1, hb2⟩ := hJ
  have hx := V.1
  have hb := V.2.1
  have hS : va_S (FW B D0 oa) s.heap s.heap [] := va_S.rf
  have hA : ∀ q, FW B D0 oa q → s0.heap.size ≤ q := fun q h => by have := hR.1; rcases h with (h | h) | h <;> omega
  have hl : lv_has ls 8 [(0, .ref (B)), (1, .int (x)), (2, .int (k)), (3, .int (ca)), (4, .int (d)), (5, .int (cl)), (6, .ref (oa))] := hl
  refine lv_aload hx hb d_La_want_0 (lv_at hl 6 rfl) ?_
  refine lv_iconst (v := 0) hx hb d_La_want_2 (by decide) ?_
  refine lv_aload_n hx hb d_La_want_3 rfl (lv_at hl 0 rfl) ?_
  refine lv_iload_n hx hb d_La_want_4 rfl (lv_at hl 1 rfl) ?_
  refine lv_iload_n hx hb d_La_want_5 rfl (lv_at hl 2 rfl) ?_
  refine lv_iload_n hx hb d_La_want_6 rfl (lv_at hl 3 rfl) ?_
  refine lv_iload hx hb d_La_want_7 (lv_at hl 4 rfl) ?_
  refine lv_iload hx hb d_La_want_9 (lv_at hl 5 rfl) ?_
  refine t_callV (n := 5) (As := [.int (x), .int (k), .int (ca), .int (d), .int (cl)]) (rest := [.int (0), .ref (oa)]) (A0 := FW B D0 oa) V (t_Da_want_bad hfl C C0 hB σ τ x hx1 k ca d cl) cdw_code ⟨List.mem_of_getElem? (i := 313) (by decide +kernel), rfl⟩ (List.mem_of_getElem? (i := 29) (by decide +kernel)) (List.mem_of_getElem? (i := 310) (by decide +kernel)) ⟨List.mem_of_getElem? (i := 311) (by decide +kernel), List.mem_of_getElem? (i := 312) (by decide +kernel)⟩ ⟨by decide, by decide, by decide +kernel⟩ (hR.rDa V.2.2.2.2.2.1) hR hS hA (fun _ h => Or.inl h) ⟨by decide, by decide⟩ rfl hl (Nat.le_of_ble_eq_true rfl) d_La_want_11 ⟨by decide, by decide⟩ (fun xe H locs hex hR hk hS => ?_)
  have hO := hO.kept (hk.2 _ hO.lt (by show ¬ ((B ≤ oa ∧ oa < B + 36) ∨ D0 ≤ oa); omega))
  have hD := Nat.le_trans hD hk.1
  refine wt_c0 (Y := "java/lang/IndexOutOfBoundsException") V ht ⟨by decide, by decide⟩ (by decide) (List.mem_of_getElem? (i := 229) (by decide +kernel)) hex  (isa_t C (List.mem_of_getElem? (i := 323) (by decide +kernel))) ?_
  refine lv_astore (lv' := [(7, .ref (xe)), (0, .ref (B)), (1, .int (x)), (2, .int (k)), (3, .int (ca)), (4, .int (d)), (5, .int (cl)), (6, .ref (oa))]) hx hb d_La_want_19 hl (by decide) rfl (fun ls hl => ?_)
  refine lv_iconst (v := 1) hx hb d_La_want_21 (by decide) ?_
  exact e_i V hr hlk hS (by decide) (by decide) d_La_want_22 ⟨_, rfl, rfl, ⟨_, hR, hD, hO, hb1, hb2⟩⟩
theorem d_La_want_23 : decode b_La_want 23 = .ok (.astore 7, 2) := by decide +kernel
theorem d_La_want_25 : decode b_La_want 25 = .ok (.iconst 2, 1) := by decide +kernel
theorem d_La_want_26 : decode b_La_want 26 = .ok (.ireturn, 1) := by decide +kernel
set_option maxHeartbeats 4000000 in
set_option maxRecDepth 100000 in
theorem w_want_bad2 {l : Launch} {G : Gx} {s0 : State} (hfl : l.flags = pinnedFlags ++ [noTraceFlag]) (C : Cx G s0) (C0 : Ts0 s0) (N : N0 s0) {B D0 ea mi oa : Nat} (E : Es0 s0 ea mi) (hB : s0.heap.size ≤ B) (σ : Sg) (τ : Tt) (v : Int64) (c : Nat) (hc : c < 3) (k ca d cl : Int32) (hr0 : ((!decide (k < 0) && !decide (8 ≤ k)) && ((!decide (ca < 0) && !decide (8 ≤ ca)) && ((!decide (d < 0) && !decide (3 ≤ d)) && (!decide (cl < 0) && !decide (3 ≤ cl))))) = false) : CtR l s0 (FW B D0 oa) 7 4 320 y_La_want (.codeWith y_La_want b_La_want 8 (some .int) [(0, 16, 19, 13), (0, 16, 23, 15), (0, 16, 27, 17)]) [.ref (B), .int (nI c), .int (k), .int (ca), .int (d), .int (cl), .ref (oa)] (JC G B D0 ea oa σ τ v) (pI (fun r H => r = 2 ∧ ∃ τ1, JC G B D0 ea oa σ τ1 (v) H)) := by
  refine CtR.of C cdw_with (by decide) (Nat.le_of_ble_eq_true rfl) ?_
  intro pg ev s mm below meth cd V hr hlk ht hJ ls hl
  obtain ⟨hR, hD, hO, hb1, hb2⟩ := hJ
  have hx := V.1
  have hb := V.2.1
  have hS : va_S (FW B D0 oa) s.heap s.heap [] := va_S.rf
  have hA : ∀ q, FW B D0 oa q → s0.heap.size ≤ q := fun q h => by have := hR.1; rcases h with (h | h) | h <;> omega
  have hl : lv_has ls 8 [(0, .ref (B)), (1, .int (nI c)), (2, .int (k)), (3, .int (ca)), (4, .int (d)), (5, .int (cl)), (6, .ref (oa))] := hl
  refine lv_aload hx hb d_La_want_0 (lv_at hl 6 rfl) ?_
  refine lv_iconst (v := 0) hx hb d_La_want_2 (by decide) ?_
  refine lv_aload_n hx hb d_La_want_3 rfl (lv_at hl 0 rfl) ?_
  refine lv_iload_n hx hb d_La_want_4 rfl (lv_at hl 1 rfl) ?_
  refine lv_iload_n hx hb d_La_want_5 rfl (lv_at hl 2 rfl) ?_
  refine lv_iload_n hx hb d_La_want_6 rfl (lv_at hl 3 rfl) ?_
  refine lv_iload hx hb d_La_want_7 (lv_at hl 4 rfl) ?_
  refine lv_iload hx hb d_La_want_9 (lv_at hl 5 rfl) ?_
  refine t_callV (n := 5) (As := [.int (nI c), .int (k), .int (ca), .int (d), .int (cl)]) (rest := [.int (0), .ref (oa)]) (A0 := FW B D0 oa) V (t_Da_want_bad2 hfl C C0 hB σ τ c hc k ca d cl hr0) cdw_code ⟨List.mem_of_getElem? (i := 313) (by decide +kernel), rfl⟩ (List.mem_of_getElem? (i := 29) (by decide +kernel)) (List.mem_of_getElem? (i := 310) (by decide +kernel)) ⟨List.mem_of_getElem? (i := 311) (by decide +kernel), List.mem_of_getElem? (i := 312) (by decide +kernel)⟩ ⟨by decide, by decide, by decide +kernel⟩ (hR.rDa V.2.2.2.2.2.1) hR hS hA (fun _ h => Or.inl h) ⟨by decide, by decide⟩ rfl hl (Nat.le_of_ble_eq_true rfl) d_La_want_11 ⟨by decide, by decide⟩ (fun xe H locs hex hR hk hS => ?_)
  have hO := hO.kept (hk.2 _ hO.lt (by show ¬ ((B ≤ oa ∧ oa < B + 36) ∨ D0 ≤ oa); omega))
  have hD := Nat.le_trans hD hk.1
  refine wt_c1 (Y1 := "java/lang/IndexOutOfBoundsException") (Y2 := "java/lang/IllegalArgumentException") V ht ⟨⟨by decide, by decide⟩, by decide, by decide⟩ ⟨by decide, by decide⟩ (List.mem_of_getElem? (i := 229) (by decide +kernel)) (List.mem_of_getElem? (i := 308) (by decide +kernel)) hex N.1 (isa_t C (List.mem_of_getElem? (i := 347) (by decide +kernel))) ?_
  refine lv_astore (lv' := [(7, .ref (xe)), (0, .ref (B)), (1, .int (nI c)), (2, .int (k)), (3, .int (ca)), (4, .int (d)), (5, .int (cl)), (6, .ref (oa))]) hx hb d_La_want_23 hl (by decide) rfl (fun ls hl => ?_)
  refine lv_iconst (v := 2) hx hb d_La_want_25 (by decide) ?_
  exact e_i V hr hlk hS (by decide) (by decide) d_La_want_26 ⟨_, rfl, rfl, ⟨_, hR, hD, hO, hb1, hb2⟩⟩
theorem d_La_want_27 : decode b_La_want 27 = .ok (.astore 7, 2) := by decide +kernel
theorem d_La_want_29 : decode b_La_want 29 = .ok (.iconst 3, 1) := by decide +kernel
theorem d_La_want_30 : decode b_La_want 30 = .ok (.ireturn, 1) := by decide +kernel
set_option maxHeartbeats 4000000 in
set_option maxRecDepth 100000 in
theorem w_want_bad3 {l : Launch} {G : Gx} {s0 : State} (hfl : l.flags = pinnedFlags ++ [noTraceFlag]) (C : Cx G s0) (C0 : Ts0 s0) (N : N0 s0) {B D0 ea mi oa : Nat} (E : Es0 s0 ea mi) (hB : s0.heap.size ≤ B) (σ : Sg) (τ : Tt) (v : Int64) (c : Nat) (hc : c < 3) (w : Nat) (hw : σ 7 c = nI w) (hw6 : w ≤ 60) (k ca d cl : Nat) (hk8 : k < 8) (hca8 : ca < 8) (hd3 : d < 3) (hcl3 : cl < 3) (hfu : wtn σ c w = 5 ∨ w = 60) : CtR l s0 (FW B D0 oa) 7 4 320 y_La_want (.codeWith y_La_want b_La_want 8 (some .int) [(0, 16, 19, 13), (0, 16, 23, 15), (0, 16, 27, 17)]) [.ref (B), .int (nI c), .int (nI k), .int (nI ca), .int (nI d), .int (nI cl), .ref (oa)] (JC G B D0 ea oa σ τ v) (pI (fun r H => r = 3 ∧ ∃ τ1, JC G B D0 ea oa σ τ1 (v) H)) := by
  refine CtR.of C cdw_with (by decide) (Nat.le_of_ble_eq_true rfl) ?_
  intro pg ev s mm below meth cd V hr hlk ht hJ ls hl
  obtain ⟨hR, hD, hO, hb1, hb2⟩ := hJ
  have hx := V.1
  have hb := V.2.1
  have hS : va_S (FW B D0 oa) s.heap s.heap [] := va_S.rf
  have hA : ∀ q, FW B D0 oa q → s0.heap.size ≤ q := fun q h => by have := hR.1; rcases h with (h | h) | h <;> omega
  have hl : lv_has ls 8 [(0, .ref (B)), (1, .int (nI c)), (2, .int (nI k)), (3, .int (nI ca)), (4, .int (nI d)), (5, .int (nI cl)), (6, .ref (oa))] := hl
  refine lv_aload hx hb d_La_want_0 (lv_at hl 6 rfl) ?_
  refine lv_iconst (v := 0) hx hb d_La_want_2 (by decide) ?_
  refine lv_aload_n hx hb d_La_want_3 rfl (lv_at hl 0 rfl) ?_
  refine lv_iload_n hx hb d_La_want_4 rfl (lv_at hl 1 rfl) ?_
  refine lv_iload_n hx hb d_La_want_5 rfl (lv_at hl 2 rfl) ?_
  refine lv_iload_n hx hb d_La_want_6 rfl (lv_at hl 3 rfl) ?_
  refine lv_iload hx hb d_La_want_7 (lv_at hl 4 rfl) ?_
  refine lv_iload hx hb d_La_want_9 (lv_at hl 5 rfl) ?_
  refine t_callV (n := 5) (As := [.int (nI c), .int (nI k), .int (nI ca), .int (nI d), .int (nI cl)]) (rest := [.int (0), .ref (oa)]) (A0 := FW B D0 oa) V (t_Da_want_bad3 hfl C C0 E hB σ τ c hc w hw hw6 k ca d cl hk8 hca8 hd3 hcl3 hfu) cdw_code ⟨List.mem_of_getElem? (i := 313) (by decide +kernel), rfl⟩ (List.mem_of_getElem? (i := 29) (by decide +kernel)) (List.mem_of_getElem? (i := 310) (by decide +kernel)) ⟨List.mem_of_getElem? (i := 311) (by decide +kernel), List.mem_of_getElem? (i := 312) (by decide +kernel)⟩ ⟨by decide, by decide, by decide +kernel⟩ (hR.rDa V.2.2.2.2.2.1) ⟨hR, hD⟩ hS hA (fun _ h => Or.inl h) ⟨by decide, by decide⟩ rfl hl (Nat.le_of_ble_eq_true rfl) d_La_want_11 ⟨by decide, by decide⟩ (fun xe H locs hex hR hk hS => ?_)
  have hO := hO.kept (hk.2 _ hO.lt (by show ¬ ((B ≤ oa ∧ oa < B + 36) ∨ D0 ≤ oa); omega))
  have hD := Nat.le_trans hD hk.1
  refine wt_c2 (Y1 := "java/lang/IndexOutOfBoundsException") (Y2 := "java/lang/IllegalArgumentException") (Y3 := "java/lang/UnsupportedOperationException") V ht ⟨⟨by decide, by decide⟩, ⟨by decide, by decide⟩, by decide, by decide⟩ ⟨by decide, by decide, by decide⟩ (List.mem_of_getElem? (i := 229) (by decide +kernel)) (List.mem_of_getElem? (i := 308) (by decide +kernel)) (List.mem_of_getElem? (i := 309) (by decide +kernel)) hex N.2.1 N.2.2.1 (isa_t C (List.mem_of_getElem? (i := 432) (by decide +kernel))) ?_
  refine lv_astore (lv' := [(7, .ref (xe)), (0, .ref (B)), (1, .int (nI c)), (2, .int (nI k)), (3, .int (nI ca)), (4, .int (nI d)), (5, .int (nI cl)), (6, .ref (oa))]) hx hb d_La_want_27 hl (by decide) rfl (fun ls hl => ?_)
  refine lv_iconst (v := 3) hx hb d_La_want_29 (by decide) ?_
  exact e_i V hr hlk hS (by decide) (by decide) d_La_want_30 ⟨_, rfl, rfl, ⟨_, hR, hD, hO, hb1, hb2⟩⟩
theorem d_La_want_14 : decode b_La_want 14 = .ok (.i2l, 1) := by decide +kernel
theorem d_La_want_15 : decode b_La_want 15 = .ok (.lastore, 1) := by decide +kernel
theorem d_La_want_16 : decode b_La_want 16 = .ok (.goto 15, 3) := by decide +kernel
theorem d_La_want_31 : decode b_La_want 31 = .ok (.iconst 0, 1) := by decide +kernel
theorem d_La_want_32 : decode b_La_want 32 = .ok (.ireturn, 1) := by decide +kernel
set_option maxHeartbeats 4000000 in
set_option maxRecDepth 100000 in
theorem w_want {l : Launch} {G : Gx} {s0 : State} (hfl : l.flags = pinnedFlags ++ [noTraceFlag]) (C : Cx G s0) (C0 : Ts0 s0) (N : N0 s0) {B D0 ea mi oa : Nat} (E : Es0 s0 ea mi) (hB : s0.heap.size ≤ B) (σ : Sg) (τ : Tt) (v : Int64) (c : Nat) (hc : c < 3) (w : Nat) (hw : σ 7 c = nI w) (hw6 : w ≤ 60) (k ca d cl : Nat) (hk8 : k < 8) (hca8 : ca < 8) (hd3 : d < 3) (hcl3 : cl < 3) (h5 : ¬ wtn σ c w = 5) (h60 : ¬ w = 60) : CtR l s0 (FW B D0 oa) 7 4 320 y_La_want (.codeWith y_La_want b_La_want 8 (some .int) [(0, 16, 19, 13), (0, 16, 23, 15), (0, 16, 27, 17)]) [.ref (B), .int (nI c), .int (nI k), .int (nI ca), .int (nI d), .int (nI cl), .ref (oa)] (JC G B D0 ea oa σ τ v) (pI (fun r H => r = 0 ∧ ∃ τ1, JC G B D0 ea oa (waC σ c w (encC k ca d cl c w)) τ1 ((nI w : Int32).toInt64) H)) := by
  refine CtR.of C cdw_with (by decide) (Nat.le_of_ble_eq_true rfl) ?_
  intro pg ev s mm below meth cd V hr hlk ht hJ ls hl
  obtain ⟨hR, hD, hO, hb1, hb2⟩ := hJ
  have hx := V.1
  have hb := V.2.1
  have hS : va_S (FW B D0 oa) s.heap s.heap [] := va_S.rf
  have hA : ∀ q, FW B D0 oa q → s0.heap.size ≤ q := fun q h => by have := hR.1; rcases h with (h | h) | h <;> omega
  have hl : lv_has ls 8 [(0, .ref (B)), (1, .int (nI c)), (2, .int (nI k)), (3, .int (nI ca)), (4, .int (nI d)), (5, .int (nI cl)), (6, .ref (oa))] := hl
  refine lv_aload hx hb d_La_want_0 (lv_at hl 6 rfl) ?_
  refine lv_iconst (v := 0) hx hb d_La_want_2 (by decide) ?_
  refine lv_aload_n hx hb d_La_want_3 rfl (lv_at hl 0 rfl) ?_
  refine lv_iload_n hx hb d_La_want_4 rfl (lv_at hl 1 rfl) ?_
  refine lv_iload_n hx hb d_La_want_5 rfl (lv_at hl 2 rfl) ?_
  refine lv_iload_n hx hb d_La_want_6 rfl (lv_at hl 3 rfl) ?_
  refine lv_iload hx hb d_La_want_7 (lv_at hl 4 rfl) ?_
  refine lv_iload hx hb d_La_want_9 (lv_at hl 5 rfl) ?_
  refine g_callV (As := [.int (nI c), .int (nI k), .int (nI ca), .int (nI d), .int (nI cl)]) (rest := [.int (0), .ref (oa)]) (A0 := FW B D0 oa) V (c_Da_want C E hB σ τ c hc w hw hw6 k ca d cl hk8 hca8 hd3 hcl3 h5 h60) v_La_7 (hR.rDa V.2.2.2.2.2.1) ⟨hR, hD⟩ hS hA (fun _ h => Or.inl h) ⟨by decide, by decide⟩ rfl hl (Nat.le_of_ble_eq_true rfl) d_La_want_11 ⟨by decide, by decide⟩ (kI (fun r H locs hQ hk hS => ?_))
  obtain ⟨rfl, hR⟩ := hQ
  obtain ⟨τ, hR⟩ := hR
  have hO := hO.kept (hk.2 _ hO.lt (by show ¬ ((B ≤ oa ∧ oa < B + 36) ∨ D0 ≤ oa); omega))
  have hD := Nat.le_trans hD hk.1
  refine lv_i2l (v := (nI w : Int32).toInt64) hx hb d_La_want_14 rfl ?_
  refine x_ost V hO d_La_want_15 (fun H i hO z oq => ?_)
  have hS := hS.put (k := i) z oq (Or.inr rfl)
  have hR := hR.kept (fun q hq hF => oq q (by intro e; subst e; rcases hF with hF | hF <;> omega))
  have hD : D0 ≤ H.size := by rw [z]; exact hD
  refine lv_goto (tgt := 31) hx hb d_La_want_16 (by decide) ?_
  refine lv_iconst (v := 0) hx hb d_La_want_31 (by decide) ?_
  exact e_i V hr hlk hS (by decide) (by decide) d_La_want_32 ⟨_, rfl, rfl, ⟨_, hR, hD, hO, hb1, hb2⟩⟩
