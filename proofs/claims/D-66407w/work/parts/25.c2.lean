theorem one_no {x : Int32} (h : one x = false) : x < 0 ∨ ¬ x < nI 3 := by
  by_cases h0 : x < 0
  · exact Or.inl h0
  · refine Or.inr (fun h1 => ?_)
    obtain ⟨j, h2, rfl⟩ := ix_of (n := 3) rfl h0 h1 (by decide)
    rw [one_nI h2] at h
    cases h
theorem x_Da_25 : CX "DiskArbiters" 25 27 "java/lang/IndexOutOfBoundsException" := ⟨⟨List.mem_of_getElem? (i := 321) (by decide +kernel), List.mem_of_getElem? (i := 322) (by decide +kernel), List.mem_of_getElem? (i := 41) (by decide +kernel)⟩, by decide, by decide +kernel⟩
theorem x_Da_36 : CX "DiskArbiters" 36 38 "java/lang/IllegalStateException" := ⟨⟨List.mem_of_getElem? (i := 534) (by decide +kernel), List.mem_of_getElem? (i := 535) (by decide +kernel), List.mem_of_getElem? (i := 53) (by decide +kernel)⟩, by decide, by decide +kernel⟩
theorem x_Da_47 : CX "DiskArbiters" 47 49 "java/lang/IllegalArgumentException" := ⟨⟨List.mem_of_getElem? (i := 345) (by decide +kernel), List.mem_of_getElem? (i := 346) (by decide +kernel), List.mem_of_getElem? (i := 44) (by decide +kernel)⟩, by decide, by decide +kernel⟩
theorem x_Da_63 : CX "DiskArbiters" 63 65 "java/lang/UnsupportedOperationException" := ⟨⟨List.mem_of_getElem? (i := 430) (by decide +kernel), List.mem_of_getElem? (i := 431) (by decide +kernel), List.mem_of_getElem? (i := 47) (by decide +kernel)⟩, by decide, by decide +kernel⟩
theorem x_Da_81 : CX "DiskArbiters" 81 83 "java/util/NoSuchElementException" := ⟨⟨List.mem_of_getElem? (i := 549) (by decide +kernel), List.mem_of_getElem? (i := 415) (by decide +kernel), List.mem_of_getElem? (i := 46) (by decide +kernel)⟩, by decide, by decide +kernel⟩
theorem x_Dk_27 : CX "DiskArbiters$Disk" 27 29 "java/lang/UnsupportedOperationException" := ⟨⟨List.mem_of_getElem? (i := 611) (by decide +kernel), List.mem_of_getElem? (i := 431) (by decide +kernel), List.mem_of_getElem? (i := 47) (by decide +kernel)⟩, by decide, by decide +kernel⟩
theorem d_Da_index_0 : decode b_Da_index 0 = .ok (.iload_n 0, 1) := by decide +kernel
theorem d_Da_index_1 : decode b_Da_index 1 = .ok (.ifCond .lt 8, 3) := by decide +kernel
theorem d_Da_index_4 : decode b_Da_index 4 = .ok (.iload_n 0, 1) := by decide +kernel
theorem d_Da_index_5 : decode b_Da_index 5 = .ok (.iload_n 1, 1) := by decide +kernel
theorem d_Da_index_6 : decode b_Da_index 6 = .ok (.if_icmp .lt 11, 3) := by decide +kernel
theorem d_Da_index_17 : decode b_Da_index 17 = .ok (.iload_n 0, 1) := by decide +kernel
theorem d_Da_index_18 : decode b_Da_index 18 = .ok (.ireturn, 1) := by decide +kernel
set_option maxHeartbeats 4000000 in
set_option maxRecDepth 100000 in
theorem c_Da_index {l : Launch} {G : Gx} {s0 : State} (C : Cx G s0) {B D0 ea : Nat} (hB : s0.heap.size ≤ B) (σ : Sg) (τ : Tt) (j n : Nat) (hj : j < n) (hn3 : n < 2 ^ 31) : Ct l s0 (FC B D0) 0 0 0 y_Da_index b_Da_index 2 (some .int) [.int (nI j), .int (nI n)] (RepC G B D0 ea σ τ) (pI (fun r H => r = nI j ∧ RepC G B D0 ea σ τ H)) := by
  refine Ct.of C (by decide) (Nat.le_of_ble_eq_true rfl) ?_
  intro pg ev s mm below meth cd V hr hlk hn hR ls hl
  have hx := V.1
  have hb := V.2.1
  have hS : va_S (FC B D0) s.heap s.heap [] := va_S.rf
  have hF : ∀ q, FC B D0 q → FC B D0 q := fun _ h => h
  have hA : ∀ q, FC B D0 q → s0.heap.size ≤ q := fun q h => by have := hR.1; rcases h with h | h <;> omega
  have hl : lv_has ls 2 [(0, .int (nI j)), (1, .int (nI n))] := hl
  refine lv_iload_n hx hb d_Da_index_0 rfl (lv_at hl 0 rfl) ?_
  refine lv_if_lt (tgt := 9) hx hb d_Da_index_1 (by decide) (fun h1 => ?_) (fun h1 => ?_)
  · exact absurd h1 (nI_pos (by omega))
  · refine lv_iload_n hx hb d_Da_index_4 rfl (lv_at hl 0 rfl) ?_
    refine lv_iload_n hx hb d_Da_index_5 rfl (lv_at hl 1 rfl) ?_
    refine lv_icmp_lt (tgt := 17) hx hb d_Da_index_6 (by decide) (fun h6 => ?_) (fun h6 => ?_)
    · refine lv_iload_n hx hb d_Da_index_17 rfl (lv_at hl 0 rfl) ?_
      exact e_i V hr hlk hS (Nat.le_refl _) (Nat.le_refl _) d_Da_index_18 ⟨_, rfl, rfl, hR⟩
    · exact absurd (nI_lt hj hn3) h6
theorem d_Da_index_9 : decode b_Da_index 9 = .ok (.new 25, 3) := by decide +kernel
theorem d_Da_index_12 : decode b_Da_index 12 = .ok (.dup, 1) := by decide +kernel
theorem d_Da_index_13 : decode b_Da_index 13 = .ok (.invokespecial 27, 3) := by decide +kernel
theorem d_Da_index_16 : decode b_Da_index 16 = .ok (.athrow, 1) := by decide +kernel
set_option maxHeartbeats 4000000 in
set_option maxRecDepth 100000 in
theorem t_Da_index {l : Launch} {G : Gx} {s0 : State} (hfl : l.flags = pinnedFlags ++ [noTraceFlag]) (C : Cx G s0) (C0 : Ts0 s0) {B D0 ea : Nat} (hB : s0.heap.size ≤ B) (σ : Sg) (τ : Tt) (x : Int32) (n : Nat) (hxn : x < 0 ∨ ¬ x < nI n) : CtT l s0 (FC B D0) 0 1 6 y_Da_index (.code y_Da_index b_Da_index 2 (some .int)) [.int (x), .int (nI n)] (RepC G B D0 ea σ τ) "java/lang/IndexOutOfBoundsException" (RepC G B D0 ea σ τ) := by
  refine CtT.of C cdw_code (by decide) (Nat.le_of_ble_eq_true rfl) ?_
  intro pg ev s mm below meth cd V hr hlk ht hR ls hl
  have hx := V.1
  have hb := V.2.1
  have hS : va_S (FC B D0) s.heap s.heap [] := va_S.rf
  have hF : ∀ q, FC B D0 q → FC B D0 q := fun _ h => h
  have hA : ∀ q, FC B D0 q → s0.heap.size ≤ q := fun q h => by have := hR.1; rcases h with h | h <;> omega
  have hl : lv_has ls 2 [(0, .int (x)), (1, .int (nI n))] := hl
  refine lv_iload_n hx hb d_Da_index_0 rfl (lv_at hl 0 rfl) ?_
  refine lv_if_lt (tgt := 9) hx hb d_Da_index_1 (by decide) (fun h1 => ?_) (fun h1 => ?_)
  · exact tn V C0 hfl x_Da_25 hlk (out_of ht (by decide)) hl (Nat.le_of_ble_eq_true rfl) ⟨by decide, by decide, by decide, by decide⟩ hS hA (by decide) (by decide) d_Da_index_9 d_Da_index_12 d_Da_index_13 d_Da_index_16 (fun H1 hz hk => hR.grow hk)
  · refine lv_iload_n hx hb d_Da_index_4 rfl (lv_at hl 0 rfl) ?_
    refine lv_iload_n hx hb d_Da_index_5 rfl (lv_at hl 1 rfl) ?_
    refine lv_icmp_lt (tgt := 17) hx hb d_Da_index_6 (by decide) (fun h6 => ?_) (fun h6 => ?_)
    · exact absurd hxn (fun z => z.elim h1 (fun z => z h6))
    · exact tn V C0 hfl x_Da_25 hlk (out_of ht (by decide)) hl (Nat.le_of_ble_eq_true rfl) ⟨by decide, by decide, by decide, by decide⟩ hS hA (by decide) (by decide) d_Da_index_9 d_Da_index_12 d_Da_index_13 d_Da_index_16 (fun H1 hz hk => hR.grow hk)
theorem d_Da_needUp_0 : decode b_Da_needUp 0 = .ok (.aload_n 0, 1) := by decide +kernel
theorem d_Da_needUp_1 : decode b_Da_needUp 1 = .ok (.getfield 32, 3) := by decide +kernel
theorem d_Da_needUp_4 : decode b_Da_needUp 4 = .ok (.ifCond .ne 11, 3) := by decide +kernel
theorem d_Da_needUp_15 : decode b_Da_needUp 15 = .ok (.return_, 1) := by decide +kernel
set_option maxHeartbeats 4000000 in
set_option maxRecDepth 100000 in
theorem c_Da_needUp {l : Launch} {G : Gx} {s0 : State} (C : Cx G s0) {B D0 ea : Nat} (hB : s0.heap.size ≤ B) (σ : Sg) (τ : Tt) (c : Nat) (hc : c < 3) (hu : ¬ σ 26 c = 0) : Ct l s0 (FC B D0) 0 0 0 y_Da_needUp b_Da_needUp 1 none [.ref (B + (9 + 9 * c))] (RepC G B D0 ea σ τ) (pV (RepC G B D0 ea σ τ)) := by
  refine Ct.of C (by decide) (Nat.le_of_ble_eq_true rfl) ?_
  intro pg ev s mm below meth cd V hr hlk hn hR ls hl
  have hx := V.1
  have hb := V.2.1
  have hS : va_S (FC B D0) s.heap s.heap [] := va_S.rf
  have hF : ∀ q, FC B D0 q → FC B D0 q := fun _ h => h
  have hA : ∀ q, FC B D0 q → s0.heap.size ≤ q := fun q h => by have := hR.1; rcases h with h | h <;> omega
  have hl : lv_has ls 1 [(0, .ref (B + (9 + 9 * c)))] := hl
  refine lv_aload_n hx hb d_Da_needUp_0 rfl (lv_at hl 0 rfl) ?_
  refine g_Da_32 V (hR.2.2.2 _ hc).1 rfl d_Da_needUp_1 ?_
  refine lv_if_ne (tgt := 15) hx hb d_Da_needUp_4 (by decide) (fun h4 => ?_) (fun h4 => ?_)
  · exact e_v V hr hlk hS (Nat.le_refl _) (Nat.le_refl _) d_Da_needUp_15 ⟨rfl, hR⟩
  · exact absurd h4 hu
theorem d_Da_needUp_7 : decode b_Da_needUp 7 = .ok (.new 36, 3) := by decide +kernel
theorem d_Da_needUp_10 : decode b_Da_needUp 10 = .ok (.dup, 1) := by decide +kernel
theorem d_Da_needUp_11 : decode b_Da_needUp 11 = .ok (.invokespecial 38, 3) := by decide +kernel
theorem d_Da_needUp_14 : decode b_Da_needUp 14 = .ok (.athrow, 1) := by decide +kernel
set_option maxHeartbeats 4000000 in
set_option maxRecDepth 100000 in
theorem t_Da_needUp {l : Launch} {G : Gx} {s0 : State} (hfl : l.flags = pinnedFlags ++ [noTraceFlag]) (C : Cx G s0) (C0 : Ts0 s0) {B D0 ea : Nat} (hB : s0.heap.size ≤ B) (σ : Sg) (τ : Tt) (c : Nat) (hc : c < 3) (hu : σ 26 c = 0) : CtT l s0 (FC B D0) 0 1 6 y_Da_needUp (.code y_Da_needUp b_Da_needUp 1 none) [.ref (B + (9 + 9 * c))] (RepC G B D0 ea σ τ) "java/lang/IllegalStateException" (RepC G B D0 ea σ τ) := by
  refine CtT.of C cdw_code (by decide) (Nat.le_of_ble_eq_true rfl) ?_
  intro pg ev s mm below meth cd V hr hlk ht hR ls hl
  have hx := V.1
  have hb := V.2.1
  have hS : va_S (FC B D0) s.heap s.heap [] := va_S.rf
  have hF : ∀ q, FC B D0 q → FC B D0 q := fun _ h => h
  have hA : ∀ q, FC B D0 q → s0.heap.size ≤ q := fun q h => by have := hR.1; rcases h with h | h <;> omega
  have hl : lv_has ls 1 [(0, .ref (B + (9 + 9 * c)))] := hl
  refine lv_aload_n hx hb d_Da_needUp_0 rfl (lv_at hl 0 rfl) ?_
  refine g_Da_32 V (hR.2.2.2 _ hc).1 rfl d_Da_needUp_1 ?_
  refine lv_if_ne (tgt := 15) hx hb d_Da_needUp_4 (by decide) (fun h4 => ?_) (fun h4 => ?_)
  · exact absurd hu h4
  · exact tn V C0 hfl x_Da_36 hlk (out_of ht (by decide)) hl (Nat.le_of_ble_eq_true rfl) ⟨by decide, by decide, by decide, by decide⟩ hS hA (by decide) (by decide) d_Da_needUp_7 d_Da_needUp_10 d_Da_needUp_11 d_Da_needUp_14 (fun H1 hz hk => hR.grow hk)
theorem d_Da_found_0 : decode b_Da_found 0 = .ok (.aload_n 0, 1) := by decide +kernel
theorem d_Da_found_1 : decode b_Da_found 1 = .ok (.getfield 21, 3) := by decide +kernel
theorem d_Da_found_4 : decode b_Da_found 4 = .ok (.iload_n 1, 1) := by decide +kernel
theorem d_Da_found_5 : decode b_Da_found 5 = .ok (.iconst 3, 1) := by decide +kernel
theorem d_Da_found_6 : decode b_Da_found 6 = .ok (.invokestatic 28, 3) := by decide +kernel
theorem d_Da_found_9 : decode b_Da_found 9 = .ok (.aaload, 1) := by decide +kernel
theorem d_Da_found_10 : decode b_Da_found 10 = .ok (.areturn, 1) := by decide +kernel
set_option maxHeartbeats 4000000 in
set_option maxRecDepth 100000 in
theorem c_Da_found {l : Launch} {G : Gx} {s0 : State} (C : Cx G s0) {B D0 ea : Nat} (hB : s0.heap.size ≤ B) (σ : Sg) (τ : Tt) (c : Nat) (hc : c < 3) : Ct l s0 (FC B D0) 1 0 0 y_Da_found b_Da_found 2 (some (.object "DiskArbiters$Controller")) [.ref (B), .int (nI c)] (RepC G B D0 ea σ τ) (pA (fun r H => r = B + (9 + 9 * c) ∧ RepC G B D0 ea σ τ H)) := by
  refine Ct.of C (by decide) (Nat.le_of_ble_eq_true rfl) ?_
  intro pg ev s mm below meth cd V hr hlk hn hR ls hl
  have hx := V.1
  have hb := V.2.1
  have hS : va_S (FC B D0) s.heap s.heap [] := va_S.rf
  have hF : ∀ q, FC B D0 q → FC B D0 q := fun _ h => h
  have hA : ∀ q, FC B D0 q → s0.heap.size ≤ q := fun q h => by have := hR.1; rcases h with h | h <;> omega
  have hl : lv_has ls 2 [(0, .ref (B)), (1, .int (nI c))] := hl
  refine lv_aload_n hx hb d_Da_found_0 rfl (lv_at hl 0 rfl) ?_
  refine g_Da_21 V hR.2.1.1 rfl d_Da_found_1 ?_
  refine lv_iload_n hx hb d_Da_found_4 rfl (lv_at hl 1 rfl) ?_
  refine lv_iconst (v := 3) hx hb d_Da_found_5 (by decide) ?_
  refine g_callS (As := [.int (nI c), .int (3)]) (rest := [.ref (B + 8)]) (A0 := FC B D0) V (c_Da_index C hB σ τ (c) (3) (by omega) (by decide)) v_Da_28 hR hS hA (fun _ h => h) ⟨by decide, by decide⟩ rfl hl (Nat.le_of_ble_eq_true rfl) d_Da_found_6 ⟨Nat.le_refl _, Nat.le_refl _⟩ (kI (fun r6 H locs hQ _ hS => ?_))
  obtain ⟨rfl, hR⟩ := hQ
  refine c_ctl V hR (c) rfl hc d_Da_found_9 ?_
  exact e_a V hr hlk hS (Nat.le_refl _) (Nat.le_refl _) d_Da_found_10 ⟨_, rfl, rfl, hR⟩
set_option maxHeartbeats 4000000 in
set_option maxRecDepth 100000 in
theorem t_Da_found {l : Launch} {G : Gx} {s0 : State} (hfl : l.flags = pinnedFlags ++ [noTraceFlag]) (C : Cx G s0) (C0 : Ts0 s0) {B D0 ea : Nat} (hB : s0.heap.size ≤ B) (σ : Sg) (τ : Tt) (x : Int32) (hx1 : one x = false) : CtT l s0 (FC B D0) 1 1 6 y_Da_found (.code y_Da_found b_Da_found 2 (some (.object "DiskArbiters$Controller"))) [.ref (B), .int (x)] (RepC G B D0 ea σ τ) "java/lang/IndexOutOfBoundsException" (RepC G B D0 ea σ τ) := by
  refine CtT.of C cdw_code (by decide) (Nat.le_of_ble_eq_true rfl) ?_
  intro pg ev s mm below meth cd V hr hlk ht hR ls hl
  have hx := V.1
  have hb := V.2.1
  have hS : va_S (FC B D0) s.heap s.heap [] := va_S.rf
  have hF : ∀ q, FC B D0 q → FC B D0 q := fun _ h => h
  have hA : ∀ q, FC B D0 q → s0.heap.size ≤ q := fun q h => by have := hR.1; rcases h with h | h <;> omega
  have hl : lv_has ls 2 [(0, .ref (B)), (1, .int (x))] := hl
  refine lv_aload_n hx hb d_Da_found_0 rfl (lv_at hl 0 rfl) ?_
  refine g_Da_21 V hR.2.1.1 rfl d_Da_found_1 ?_
  refine lv_iload_n hx hb d_Da_found_4 rfl (lv_at hl 1 rfl) ?_
  refine lv_iconst (v := 3) hx hb d_Da_found_5 (by decide) ?_
  refine t_callS (n := 2) (As := [.int (x), .int (3)]) (rest := [.ref (B + 8)]) (A0 := FC B D0) V (t_Da_index hfl C C0 hB σ τ (x) 3 (one_no hx1)) cdw_code ⟨List.mem_of_getElem? (i := 320) (by decide +kernel), rfl⟩ (List.mem_of_getElem? (i := 29) (by decide +kernel)) (List.mem_of_getElem? (i := 318) (by decide +kernel)) (List.mem_of_getElem? (i := 319) (by decide +kernel)) ⟨by decide, by decide, by decide +kernel⟩ hR hS hA (fun _ h => h) ⟨by decide, by decide⟩ rfl hl (Nat.le_of_ble_eq_true rfl) d_Da_found_6 ⟨by decide, by decide⟩ (fun x H locs hex hR _ hS => ?_)
  exact wt_leave hlk (out_of ht (by decide)) hS (by decide) (by decide) hex hR
theorem d_Ct_comeUp_0 : decode b_Ct_comeUp 0 = .ok (.aload_n 0, 1) := by decide +kernel
theorem d_Ct_comeUp_1 : decode b_Ct_comeUp 1 = .ok (.iconst 1, 1) := by decide +kernel
theorem d_Ct_comeUp_2 : decode b_Ct_comeUp 2 = .ok (.putfield 29, 3) := by decide +kernel
theorem d_Ct_comeUp_5 : decode b_Ct_comeUp 5 = .ok (.aload_n 0, 1) := by decide +kernel
theorem d_Ct_comeUp_6 : decode b_Ct_comeUp 6 = .ok (.iconst 0, 1) := by decide +kernel
theorem d_Ct_comeUp_7 : decode b_Ct_comeUp 7 = .ok (.putfield 37, 3) := by decide +kernel
theorem d_Ct_comeUp_10 : decode b_Ct_comeUp 10 = .ok (.aload_n 0, 1) := by decide +kernel
theorem d_Ct_comeUp_11 : decode b_Ct_comeUp 11 = .ok (.iconst 0, 1) := by decide +kernel
theorem d_Ct_comeUp_12 : decode b_Ct_comeUp 12 = .ok (.putfield 40, 3) := by decide +kernel
theorem d_Ct_comeUp_15 : decode b_Ct_comeUp 15 = .ok (.return_, 1) := by decide +kernel
set_option maxHeartbeats 4000000 in
set_option maxRecDepth 100000 in
theorem c_Ct_comeUp {l : Launch} {G : Gx} {s0 : State} (C : Cx G s0) {B D0 ea : Nat} (hB : s0.heap.size ≤ B) (σ : Sg) (τ : Tt) (c : Nat) (hc : c < 3) : Ct l s0 (FC B D0) 0 0 0 y_Ct_comeUp b_Ct_comeUp 1 none [.ref (B + (9 + 9 * c))] (RepC G B D0 ea σ τ) (pV (RepC G B D0 ea (cup σ c) τ)) := by
  refine Ct.of C (by decide) (Nat.le_of_ble_eq_true rfl) ?_
  intro pg ev s mm below meth cd V hr hlk hn hR ls hl
  have hx := V.1
  have hb := V.2.1
  have hS : va_S (FC B D0) s.heap s.heap [] := va_S.rf
  have hF : ∀ q, FC B D0 q → FC B D0 q := fun _ h => h
  have hA : ∀ q, FC B D0 q → s0.heap.size ≤ q := fun q h => by have := hR.1; rcases h with h | h <;> omega
  have hl : lv_has ls 1 [(0, .ref (B + (9 + 9 * c)))] := hl
  refine lv_aload_n hx hb d_Ct_comeUp_0 rfl (lv_at hl 0 rfl) ?_
  refine lv_iconst (v := 1) hx hb d_Ct_comeUp_1 (by decide) ?_
  refine q_Ct_29 V hR hS hF hc (by decide) d_Ct_comeUp_2 (fun H locs hR hS => ?_)
  refine lv_aload_n hx hb d_Ct_comeUp_5 rfl (lv_at hl 0 rfl) ?_
  refine lv_iconst (v := 0) hx hb d_Ct_comeUp_6 (by decide) ?_
  refine q_Ct_37 V hR hS hF hc d_Ct_comeUp_7 (fun H locs hR hS => ?_)
  refine lv_aload_n hx hb d_Ct_comeUp_10 rfl (lv_at hl 0 rfl) ?_
  refine lv_iconst (v := 0) hx hb d_Ct_comeUp_11 (by decide) ?_
  refine q_Ct_40 V hR hS hF hc d_Ct_comeUp_12 (fun H locs hR hS => ?_)
  exact e_v V hr hlk hS (Nat.le_refl _) (Nat.le_refl _) d_Ct_comeUp_15 ⟨rfl, hR⟩
theorem d_Ct_begin_0 : decode b_Ct_begin 0 = .ok (.aload_n 0, 1) := by decide +kernel
theorem d_Ct_begin_1 : decode b_Ct_begin 1 = .ok (.iload_n 1, 1) := by decide +kernel
theorem d_Ct_begin_2 : decode b_Ct_begin 2 = .ok (.putfield 40, 3) := by decide +kernel
theorem d_Ct_begin_5 : decode b_Ct_begin 5 = .ok (.aload_n 0, 1) := by decide +kernel
theorem d_Ct_begin_6 : decode b_Ct_begin 6 = .ok (.iconst 0, 1) := by decide +kernel
theorem d_Ct_begin_7 : decode b_Ct_begin 7 = .ok (.putfield 62, 3) := by decide +kernel
theorem d_Ct_begin_10 : decode b_Ct_begin 10 = .ok (.aload_n 0, 1) := by decide +kernel
theorem d_Ct_begin_11 : decode b_Ct_begin 11 = .ok (.iconst 0, 1) := by decide +kernel
theorem d_Ct_begin_12 : decode b_Ct_begin 12 = .ok (.putfield 65, 3) := by decide +kernel
theorem d_Ct_begin_15 : decode b_Ct_begin 15 = .ok (.aload_n 0, 1) := by decide +kernel
theorem d_Ct_begin_16 : decode b_Ct_begin 16 = .ok (.iconst 0, 1) := by decide +kernel
theorem d_Ct_begin_17 : decode b_Ct_begin 17 = .ok (.putfield 68, 3) := by decide +kernel
theorem d_Ct_begin_20 : decode b_Ct_begin 20 = .ok (.return_, 1) := by decide +kernel
set_option maxHeartbeats 4000000 in
set_option maxRecDepth 100000 in
theorem c_Ct_begin {l : Launch} {G : Gx} {s0 : State} (C : Cx G s0) {B D0 ea : Nat} (hB : s0.heap.size ≤ B) (σ : Sg) (τ : Tt) (c : Nat) (hc : c < 3) (np : Int32) : Ct l s0 (FC B D0) 0 0 0 y_Ct_begin b_Ct_begin 2 none [.ref (B + (9 + 9 * c)), .int (np)] (RepC G B D0 ea σ τ) (pV (RepC G B D0 ea (cbg σ c np) τ)) := by
  refine Ct.of C (by decide) (Nat.le_of_ble_eq_true rfl) ?_
  intro pg ev s mm below meth cd V hr hlk hn hR ls hl
  have hx := V.1
  have hb := V.2.1
  have hS : va_S (FC B D0) s.heap s.heap [] := va_S.rf
  have hF : ∀ q, FC B D0 q → FC B D0 q := fun _ h => h
  have hA : ∀ q, FC B D0 q → s0.heap.size ≤ q := fun q h => by have := hR.1; rcases h with h | h <;> omega
  have hl : lv_has ls 2 [(0, .ref (B + (9 + 9 * c))), (1, .int (np))] := hl
  refine lv_aload_n hx hb d_Ct_begin_0 rfl (lv_at hl 0 rfl) ?_
  refine lv_iload_n hx hb d_Ct_begin_1 rfl (lv_at hl 1 rfl) ?_
  refine q_Ct_40 V hR hS hF hc d_Ct_begin_2 (fun H locs hR hS => ?_)
  refine lv_aload_n hx hb d_Ct_begin_5 rfl (lv_at hl 0 rfl) ?_
  refine lv_iconst (v := 0) hx hb d_Ct_begin_6 (by decide) ?_
  refine q_Ct_62 V hR hS hF hc d_Ct_begin_7 (fun H locs hR hS => ?_)
  refine lv_aload_n hx hb d_Ct_begin_10 rfl (lv_at hl 0 rfl) ?_
  refine lv_iconst (v := 0) hx hb d_Ct_begin_11 (by decide) ?_
  refine q_Ct_65 V hR hS hF hc d_Ct_begin_12 (fun H locs hR hS => ?_)
  refine lv_aload_n hx hb d_Ct_begin_15 rfl (lv_at hl 0 rfl) ?_
  refine lv_iconst (v := 0) hx hb d_Ct_begin_16 (by decide) ?_
  refine q_Ct_68 V hR hS hF hc d_Ct_begin_17 (fun H locs hR hS => ?_)
  exact e_v V hr hlk hS (Nat.le_refl _) (Nat.le_refl _) d_Ct_begin_20 ⟨rfl, hR⟩
theorem d_Ct_nextDisk_0 : decode b_Ct_nextDisk 0 = .ok (.aload_n 0, 1) := by decide +kernel
theorem d_Ct_nextDisk_1 : decode b_Ct_nextDisk 1 = .ok (.iconst 0, 1) := by decide +kernel
theorem d_Ct_nextDisk_2 : decode b_Ct_nextDisk 2 = .ok (.putfield 68, 3) := by decide +kernel
theorem d_Ct_nextDisk_5 : decode b_Ct_nextDisk 5 = .ok (.aload_n 0, 1) := by decide +kernel
theorem d_Ct_nextDisk_6 : decode b_Ct_nextDisk 6 = .ok (.dup, 1) := by decide +kernel
theorem d_Ct_nextDisk_7 : decode b_Ct_nextDisk 7 = .ok (.getfield 62, 3) := by decide +kernel
theorem d_Ct_nextDisk_10 : decode b_Ct_nextDisk 10 = .ok (.iconst 1, 1) := by decide +kernel
theorem d_Ct_nextDisk_11 : decode b_Ct_nextDisk 11 = .ok (.iadd, 1) := by decide +kernel
theorem d_Ct_nextDisk_12 : decode b_Ct_nextDisk 12 = .ok (.putfield 62, 3) := by decide +kernel
theorem d_Ct_nextDisk_15 : decode b_Ct_nextDisk 15 = .ok (.aload_n 0, 1) := by decide +kernel
theorem d_Ct_nextDisk_16 : decode b_Ct_nextDisk 16 = .ok (.getfield 62, 3) := by decide +kernel
theorem d_Ct_nextDisk_19 : decode b_Ct_nextDisk 19 = .ok (.iconst 3, 1) := by decide +kernel
theorem d_Ct_nextDisk_20 : decode b_Ct_nextDisk 20 = .ok (.if_icmp .ne 11, 3) := by decide +kernel
theorem d_Ct_nextDisk_23 : decode b_Ct_nextDisk 23 = .ok (.aload_n 0, 1) := by decide +kernel
theorem d_Ct_nextDisk_24 : decode b_Ct_nextDisk 24 = .ok (.aload_n 0, 1) := by decide +kernel
theorem d_Ct_nextDisk_25 : decode b_Ct_nextDisk 25 = .ok (.getfield 40, 3) := by decide +kernel
theorem d_Ct_nextDisk_28 : decode b_Ct_nextDisk 28 = .ok (.invokevirtual 103, 3) := by decide +kernel
theorem d_Ct_nextDisk_31 : decode b_Ct_nextDisk 31 = .ok (.return_, 1) := by decide +kernel
set_option maxHeartbeats 4000000 in
set_option maxRecDepth 100000 in
theorem c_Ct_nextDisk {l : Launch} {G : Gx} {s0 : State} (C : Cx G s0) {B D0 ea : Nat} (hB : s0.heap.size ≤ B) (σ : Sg) (τ : Tt) (c : Nat) (hc : c < 3) : Ct l s0 (FC B D0) 1 0 0 y_Ct_nextDisk b_Ct_nextDisk 1 none [.ref (B + (9 + 9 * c))] (RepC G B D0 ea σ τ) (pV (RepC G B D0 ea (cnx σ c) τ)) := by
  refine Ct.of C (by decide) (Nat.le_of_ble_eq_true rfl) ?_
  intro pg ev s mm below meth cd V hr hlk hn hR ls hl
  have hx := V.1
  have hb := V.2.1
  have hS : va_S (FC B D0) s.heap s.heap [] := va_S.rf
  have hF : ∀ q, FC B D0 q → FC B D0 q := fun _ h => h
  have hA : ∀ q, FC B D0 q → s0.heap.size ≤ q := fun q h => by have := hR.1; rcases h with h | h <;> omega
  have hl : lv_has ls 1 [(0, .ref (B + (9 + 9 * c)))] := hl
  refine lv_aload_n hx hb d_Ct_nextDisk_0 rfl (lv_at hl 0 rfl) ?_
  refine lv_iconst (v := 0) hx hb d_Ct_nextDisk_1 (by decide) ?_
  refine q_Ct_68 V hR hS hF hc d_Ct_nextDisk_2 (fun H locs hR hS => ?_)
  refine lv_aload_n hx hb d_Ct_nextDisk_5 rfl (lv_at hl 0 rfl) ?_
  refine lv_dup hx hb d_Ct_nextDisk_6 rfl ?_
  refine g_Ct_62 V (hR.2.2.2 _ hc).1 rfl d_Ct_nextDisk_7 ?_
  refine lv_tope (y := σ 14 c) (by simp [up2, upd]) ?_
  refine lv_iconst (v := 1) hx hb d_Ct_nextDisk_10 (by decide) ?_
  refine lv_iadd hx hb d_Ct_nextDisk_11 ?_
  refine q_Ct_62 V hR hS hF hc d_Ct_nextDisk_12 (fun H locs hR hS => ?_)
  refine lv_aload_n hx hb d_Ct_nextDisk_15 rfl (lv_at hl 0 rfl) ?_
  refine g_Ct_62 V (hR.2.2.2 _ hc).1 rfl d_Ct_nextDisk_16 ?_
  refine lv_tope (y := (σ 14 c : Int32) + (1 : Int32)) (by simp [up2, upd]) ?_
  refine lv_iconst (v := 3) hx hb d_Ct_nextDisk_19 (by decide) ?_
  refine lv_icmp_ne (tgt := 31) hx hb d_Ct_nextDisk_20 (by decide) (fun h20 => ?_) (fun h20 => ?_)
  · exact e_v V hr hlk hS (Nat.le_refl _) (Nat.le_refl _) d_Ct_nextDisk_31 ⟨rfl, by rw [show cnx σ c = (up2 (up2 σ 25 c (0)) 14 c ((σ 14 c : Int32) + (1 : Int32))) from by simp [cnx, h20]]; exact hR⟩
  · refine lv_aload_n hx hb d_Ct_nextDisk_23 rfl (lv_at hl 0 rfl) ?_
    refine lv_aload_n hx hb d_Ct_nextDisk_24 rfl (lv_at hl 0 rfl) ?_
    refine g_Ct_40 V (hR.2.2.2 _ hc).1 rfl d_Ct_nextDisk_25 ?_
    refine lv_tope (y := σ 12 c) (by simp [up2, upd]) ?_
    refine g_callV (As := [.int (σ 12 c)]) (rest := []) (A0 := FC B D0) V (c_Ct_begin C hB (up2 (up2 σ 25 c (0)) 14 c ((σ 14 c : Int32) + (1 : Int32))) τ c hc (σ 12 c)) v_Ct_103 (hR.rCt V.2.2.2.2.2.1 hc) hR hS hA (fun _ h => h) ⟨by decide, by decide⟩ rfl hl (Nat.le_of_ble_eq_true rfl) d_Ct_nextDisk_28 ⟨Nat.le_refl _, Nat.le_refl _⟩ (kV (fun H locs hR _ hS => ?_))
    exact e_v V hr hlk hS (Nat.le_refl _) (Nat.le_refl _) d_Ct_nextDisk_31 ⟨rfl, by rw [show cnx σ c = (cbg (up2 (up2 σ 25 c (0)) 14 c ((σ 14 c : Int32) + (1 : Int32))) c (σ 12 c)) from by simp [cnx, h20]]; exact hR⟩
theorem d_Ct_writesNext_0 : decode b_Ct_writesNext 0 = .ok (.aload_n 0, 1) := by decide +kernel
theorem d_Ct_writesNext_1 : decode b_Ct_writesNext 1 = .ok (.getfield 40, 3) := by decide +kernel
theorem d_Ct_writesNext_4 : decode b_Ct_writesNext 4 = .ok (.ifCond .le 26, 3) := by decide +kernel
theorem d_Ct_writesNext_7 : decode b_Ct_writesNext 7 = .ok (.aload_n 1, 1) := by decide +kernel
theorem d_Ct_writesNext_8 : decode b_Ct_writesNext 8 = .ok (.aload_n 0, 1) := by decide +kernel
theorem d_Ct_writesNext_9 : decode b_Ct_writesNext 9 = .ok (.getfield 62, 3) := by decide +kernel
theorem d_Ct_writesNext_12 : decode b_Ct_writesNext 12 = .ok (.aaload, 1) := by decide +kernel
theorem d_Ct_writesNext_13 : decode b_Ct_writesNext 13 = .ok (.getfield 146, 3) := by decide +kernel
theorem d_Ct_writesNext_16 : decode b_Ct_writesNext 16 = .ok (.ifCond .eq 14, 3) := by decide +kernel
theorem d_Ct_writesNext_19 : decode b_Ct_writesNext 19 = .ok (.aload_n 0, 1) := by decide +kernel
theorem d_Ct_writesNext_20 : decode b_Ct_writesNext 20 = .ok (.getfield 68, 3) := by decide +kernel
theorem d_Ct_writesNext_23 : decode b_Ct_writesNext 23 = .ok (.ifCond .ne 7, 3) := by decide +kernel
theorem d_Ct_writesNext_26 : decode b_Ct_writesNext 26 = .ok (.iconst 1, 1) := by decide +kernel
theorem d_Ct_writesNext_27 : decode b_Ct_writesNext 27 = .ok (.goto 4, 3) := by decide +kernel
theorem d_Ct_writesNext_30 : decode b_Ct_writesNext 30 = .ok (.iconst 0, 1) := by decide +kernel
theorem d_Ct_writesNext_31 : decode b_Ct_writesNext 31 = .ok (.ireturn, 1) := by decide +kernel
set_option maxHeartbeats 4000000 in
set_option maxRecDepth 100000 in
theorem c_Ct_writesNext {l : Launch} {G : Gx} {s0 : State} (C : Cx G s0) {B D0 ea : Nat} (hB : s0.heap.size ≤ B) (σ : Sg) (τ : Tt) (c : Nat) (hc : c < 3) (a : Nat) (ha : σ 14 c = nI a) (ha3 : a < 3) : Ct l s0 (FC B D0) 0 0 0 y_Ct_writesNext b_Ct_writesNext 2 (some .boolean) [.ref (B + (9 + 9 * c)), .ref (B + 1)] (RepC G B D0 ea σ τ) (pI (fun r H => r = bI (!decide (σ 12 c ≤ 0) && (!decide (σ 27 a = 0) && decide (σ 25 c = 0))) ∧ RepC G B D0 ea σ τ H)) := by
  refine Ct.of C (by decide) (Nat.le_of_ble_eq_true rfl) ?_
  intro pg ev s mm below meth cd V hr hlk hn hR ls hl
  have hx := V.1
  have hb := V.2.1
  have hS : va_S (FC B D0) s.heap s.heap [] := va_S.rf
  have hF : ∀ q, FC B D0 q → FC B D0 q := fun _ h => h
  have hA : ∀ q, FC B D0 q → s0.heap.size ≤ q := fun q h => by have := hR.1; rcases h with h | h <;> omega
  have hl : lv_has ls 2 [(0, .ref (B + (9 + 9 * c))), (1, .ref (B + 1))] := hl
  refine lv_aload_n hx hb d_Ct_writesNext_0 rfl (lv_at hl 0 rfl) ?_
  refine g_Ct_40 V (hR.2.2.2 _ hc).1 rfl d_Ct_writesNext_1 ?_
  refine lv_if_le (tgt := 30) hx hb d_Ct_writesNext_4 (by decide) (fun h4 => ?_) (fun h4 => ?_)
  · refine lv_iconst (v := 0) hx hb d_Ct_writesNext_30 (by decide) ?_
    exact e_z V hr hlk hS (Nat.le_refl _) (Nat.le_refl _) d_Ct_writesNext_31 (by decide) ⟨_, rfl, by simp [bI, h4], hR⟩
  · refine lv_aload_n hx hb d_Ct_writesNext_7 rfl (lv_at hl 1 rfl) ?_
    refine lv_aload_n hx hb d_Ct_writesNext_8 rfl (lv_at hl 0 rfl) ?_
    refine g_Ct_62 V (hR.2.2.2 _ hc).1 rfl d_Ct_writesNext_9 ?_
    refine lv_tope (y := nI a) ha ?_
    refine c_dsk V hR (a) rfl ha3 d_Ct_writesNext_12 ?_
    refine g_Ct_146 V (hR.2.2.1 _ ha3).1 rfl d_Ct_writesNext_13 ?_
    refine lv_if_eq (tgt := 30) hx hb d_Ct_writesNext_16 (by decide) (fun h16 => ?_) (fun h16 => ?_)
    · refine lv_iconst (v := 0) hx hb d_Ct_writesNext_30 (by decide) ?_
      exact e_z V hr hlk hS (Nat.le_refl _) (Nat.le_refl _) d_Ct_writesNext_31 (by decide) ⟨_, rfl, by simp [bI, h4, h16], hR⟩
    · refine lv_aload_n hx hb d_Ct_writesNext_19 rfl (lv_at hl 0 rfl) ?_
      refine g_Ct_68 V (hR.2.2.2 _ hc).1 rfl d_Ct_writesNext_20 ?_
      refine lv_if_ne (tgt := 30) hx hb d_Ct_writesNext_23 (by decide) (fun h23 => ?_) (fun h23 => ?_)
      · refine lv_iconst (v := 0) hx hb d_Ct_writesNext_30 (by decide) ?_
        exact e_z V hr hlk hS (Nat.le_refl _) (Nat.le_refl _) d_Ct_writesNext_31 (by decide) ⟨_, rfl, by simp [bI, h4, h16, h23], hR⟩
      · refine lv_iconst (v := 1) hx hb d_Ct_writesNext_26 (by decide) ?_
        refine lv_goto (tgt := 31) hx hb d_Ct_writesNext_27 (by decide) ?_
        exact e_z V hr hlk hS (Nat.le_refl _) (Nat.le_refl _) d_Ct_writesNext_31 (by decide) ⟨_, rfl, by simp [bI, h4, h16, h23], hR⟩
