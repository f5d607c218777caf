theorem isa_t {G : Gx} {s0 : State} {X Y : String} (C : Cx G s0) (w : Cond.castable X Y ∈ lw_tbl) : Isa s0 X Y true := by
  intro cx cy h1 h2
  obtain ⟨c0, t0, f1, f2, f3⟩ := Cond.castable_spec (C.1 _ w rfl #[])
  cases h1.symm.trans f1
  cases h2.symm.trans f2
  exact f3
theorem d_Da_step_0 : decode b_Da_step 0 = .ok (.aload_n 0, 1) := by decide +kernel
theorem d_Da_step_1 : decode b_Da_step 1 = .ok (.iload_n 1, 1) := by decide +kernel
theorem d_Da_step_2 : decode b_Da_step 2 = .ok (.invokevirtual 39, 3) := by decide +kernel
set_option maxHeartbeats 4000000 in
set_option maxRecDepth 100000 in
theorem t_Da_step_bad {l : Launch} {G : Gx} {s0 : State} (hfl : l.flags = pinnedFlags ++ [noTraceFlag]) (C : Cx G s0) (C0 : Ts0 s0) {B D0 ea : Nat} (hB : s0.heap.size ≤ B) (σ : Sg) (τ : Tt) (x : Int32) (hx1 : one x = false) : CtT l s0 (FC B D0) 2 1 6 y_Da_step (.code y_Da_step b_Da_step 3 (some .int)) [.ref (B), .int (x)] (RepC G B D0 ea σ τ) "java/lang/IndexOutOfBoundsException" (RepC G B D0 ea σ τ) := by
  refine CtT.of C cdw_code (by decide) (Nat.le_of_ble_eq_true rfl) ?_
  intro pg ev s mm below meth cd V hr hlk ht hR ls hl
  have hx := V.1
  have hb := V.2.1
  have hS : va_S (FC B D0) s.heap s.heap [] := va_S.rf
  have hF : ∀ q, FC B D0 q → FC B D0 q := fun _ h => h
  have hA : ∀ q, FC B D0 q → s0.heap.size ≤ q := fun q h => by have := hR.1; rcases h with h | h <;> omega
  have hl : lv_has ls 3 [(0, .ref (B)), (1, .int (x))] := hl
  refine lv_aload_n hx hb d_Da_step_0 rfl (lv_at hl 0 rfl) ?_
  refine lv_iload_n hx hb d_Da_step_1 rfl (lv_at hl 1 rfl) ?_
  refine t_callV (n := 1) (As := [.int (x)]) (rest := []) (A0 := FC B D0) V (t_Da_found hfl C C0 hB σ τ (x) hx1) cdw_code ⟨List.mem_of_getElem? (i := 317) (by decide +kernel), rfl⟩ (List.mem_of_getElem? (i := 29) (by decide +kernel)) (List.mem_of_getElem? (i := 314) (by decide +kernel)) ⟨List.mem_of_getElem? (i := 316) (by decide +kernel), List.mem_of_getElem? (i := 1) (by decide +kernel)⟩ ⟨by decide, by decide, by decide +kernel⟩ (hR.rDa V.2.2.2.2.2.1) hR hS hA (fun _ h => h) ⟨by decide, by decide⟩ rfl hl (Nat.le_of_ble_eq_true rfl) d_Da_step_2 ⟨by decide, by decide⟩ (fun x H locs hex hR _ hS => ?_)
  exact wt_leave hlk (out_of ht (by decide)) hS (by decide) (by decide) hex hR
theorem d_Da_step_5 : decode b_Da_step 5 = .ok (.astore_n 2, 1) := by decide +kernel
theorem d_Da_step_6 : decode b_Da_step 6 = .ok (.aload_n 2, 1) := by decide +kernel
theorem d_Da_step_7 : decode b_Da_step 7 = .ok (.invokestatic 73, 3) := by decide +kernel
set_option maxHeartbeats 4000000 in
set_option maxRecDepth 100000 in
theorem t_Da_step_bad2 {l : Launch} {G : Gx} {s0 : State} (hfl : l.flags = pinnedFlags ++ [noTraceFlag]) (C : Cx G s0) (C0 : Ts0 s0) {B D0 ea : Nat} (hB : s0.heap.size ≤ B) (σ : Sg) (τ : Tt) (c : Nat) (hc : c < 3) (hu : σ 26 c = 0) : CtT l s0 (FC B D0) 2 1 6 y_Da_step (.code y_Da_step b_Da_step 3 (some .int)) [.ref (B), .int (nI c)] (RepC G B D0 ea σ τ) "java/lang/IllegalStateException" (RepC G B D0 ea σ τ) := by
  refine CtT.of C cdw_code (by decide) (Nat.le_of_ble_eq_true rfl) ?_
  intro pg ev s mm below meth cd V hr hlk ht hR ls hl
  have hx := V.1
  have hb := V.2.1
  have hS : va_S (FC B D0) s.heap s.heap [] := va_S.rf
  have hF : ∀ q, FC B D0 q → FC B D0 q := fun _ h => h
  have hA : ∀ q, FC B D0 q → s0.heap.size ≤ q := fun q h => by have := hR.1; rcases h with h | h <;> omega
  have hl : lv_has ls 3 [(0, .ref (B)), (1, .int (nI c))] := hl
  refine lv_aload_n hx hb d_Da_step_0 rfl (lv_at hl 0 rfl) ?_
  refine lv_iload_n hx hb d_Da_step_1 rfl (lv_at hl 1 rfl) ?_
  refine g_callV (As := [.int (nI c)]) (rest := []) (A0 := FC B D0) V (c_Da_found C hB σ τ c hc) v_Da_39 (hR.rDa V.2.2.2.2.2.1) hR hS hA (fun _ h => h) ⟨by decide, by decide⟩ rfl hl (Nat.le_of_ble_eq_true rfl) d_Da_step_2 ⟨by decide, by decide⟩ (kA (fun r2 H locs hQ _ hS => ?_))
  obtain ⟨rfl, hR⟩ := hQ
  refine lv_astore_n (lv' := [(2, .ref (B + (9 + 9 * c))), (0, .ref (B)), (1, .int (nI c))]) hx hb d_Da_step_5 rfl hl (by decide) rfl (fun ls hl => ?_)
  refine lv_aload_n hx hb d_Da_step_6 rfl (lv_at hl 0 rfl) ?_
  refine t_callS (n := 1) (As := [.ref (B + (9 + 9 * c))]) (rest := []) (A0 := FC B D0) V (t_Da_needUp hfl C C0 hB σ τ c hc hu) cdw_code ⟨List.mem_of_getElem? (i := 533) (by decide +kernel), rfl⟩ (List.mem_of_getElem? (i := 29) (by decide +kernel)) (List.mem_of_getElem? (i := 531) (by decide +kernel)) (List.mem_of_getElem? (i := 532) (by decide +kernel)) ⟨by decide, by decide, by decide +kernel⟩ hR hS hA (fun _ h => h) ⟨by decide, by decide⟩ rfl hl (Nat.le_of_ble_eq_true rfl) d_Da_step_7 ⟨by decide, by decide⟩ (fun x H locs hex hR _ hS => ?_)
  exact wt_leave hlk (out_of ht (by decide)) hS (by decide) (by decide) hex hR
theorem d_Da_step_10 : decode b_Da_step 10 = .ok (.aload_n 2, 1) := by decide +kernel
theorem d_Da_step_11 : decode b_Da_step 11 = .ok (.getfield 77, 3) := by decide +kernel
theorem d_Da_step_14 : decode b_Da_step 14 = .ok (.bipush 24, 2) := by decide +kernel
theorem d_Da_step_16 : decode b_Da_step 16 = .ok (.if_icmp .ne 11, 3) := by decide +kernel
theorem d_Da_step_19 : decode b_Da_step 19 = .ok (.new 81, 3) := by decide +kernel
theorem d_Da_step_22 : decode b_Da_step 22 = .ok (.dup, 1) := by decide +kernel
theorem d_Da_step_23 : decode b_Da_step 23 = .ok (.invokespecial 83, 3) := by decide +kernel
theorem d_Da_step_26 : decode b_Da_step 26 = .ok (.athrow, 1) := by decide +kernel
set_option maxHeartbeats 4000000 in
set_option maxRecDepth 100000 in
theorem t_Da_step_bad3 {l : Launch} {G : Gx} {s0 : State} (hfl : l.flags = pinnedFlags ++ [noTraceFlag]) (C : Cx G s0) (C0 : Ts0 s0) {B D0 ea : Nat} (hB : s0.heap.size ≤ B) (σ : Sg) (τ : Tt) (c : Nat) (hc : c < 3) (hu : ¬ σ 26 c = 0) (hq : σ 4 c = nI 24) : CtT l s0 (FC B D0) 2 1 6 y_Da_step (.code y_Da_step b_Da_step 3 (some .int)) [.ref (B), .int (nI c)] (RepC G B D0 ea σ τ) "java/util/NoSuchElementException" (RepC G B D0 ea σ τ) := by
  refine CtT.of C cdw_code (by decide) (Nat.le_of_ble_eq_true rfl) ?_
  intro pg ev s mm below meth cd V hr hlk ht hR ls hl
  have hx := V.1
  have hb := V.2.1
  have hS : va_S (FC B D0) s.heap s.heap [] := va_S.rf
  have hF : ∀ q, FC B D0 q → FC B D0 q := fun _ h => h
  have hA : ∀ q, FC B D0 q → s0.heap.size ≤ q := fun q h => by have := hR.1; rcases h with h | h <;> omega
  have hl : lv_has ls 3 [(0, .ref (B)), (1, .int (nI c))] := hl
  refine lv_aload_n hx hb d_Da_step_0 rfl (lv_at hl 0 rfl) ?_
  refine lv_iload_n hx hb d_Da_step_1 rfl (lv_at hl 1 rfl) ?_
  refine g_callV (As := [.int (nI c)]) (rest := []) (A0 := FC B D0) V (c_Da_found C hB σ τ c hc) v_Da_39 (hR.rDa V.2.2.2.2.2.1) hR hS hA (fun _ h => h) ⟨by decide, by decide⟩ rfl hl (Nat.le_of_ble_eq_true rfl) d_Da_step_2 ⟨by decide, by decide⟩ (kA (fun r2 H locs hQ _ hS => ?_))
  obtain ⟨rfl, hR⟩ := hQ
  refine lv_astore_n (lv' := [(2, .ref (B + (9 + 9 * c))), (0, .ref (B)), (1, .int (nI c))]) hx hb d_Da_step_5 rfl hl (by decide) rfl (fun ls hl => ?_)
  refine lv_aload_n hx hb d_Da_step_6 rfl (lv_at hl 0 rfl) ?_
  refine g_callS (As := [.ref (B + (9 + 9 * c))]) (rest := []) (A0 := FC B D0) V (c_Da_needUp C hB σ τ c hc hu) v_Da_73 hR hS hA (fun _ h => h) ⟨by decide, by decide⟩ rfl hl (Nat.le_of_ble_eq_true rfl) d_Da_step_7 ⟨by decide, by decide⟩ (kV (fun H locs hR _ hS => ?_))
  refine lv_aload_n hx hb d_Da_step_10 rfl (lv_at hl 0 rfl) ?_
  refine g_Da_77 V (hR.2.2.2 _ hc).1 rfl d_Da_step_11 ?_
  refine lv_bipush (v := 24) hx hb d_Da_step_14 (by decide) ?_
  refine lv_icmp_ne (tgt := 27) hx hb d_Da_step_16 (by decide) (fun h16 => ?_) (fun h16 => ?_)
  · exact absurd hq h16
  · exact tn V C0 hfl x_Da_81 hlk (out_of ht (by decide)) hl (Nat.le_of_ble_eq_true rfl) ⟨by decide, by decide, by decide, by decide⟩ hS hA (by decide) (by decide) d_Da_step_19 d_Da_step_22 d_Da_step_23 d_Da_step_26 (fun H1 hz hk => hR.grow hk)
theorem d_Da_step_27 : decode b_Da_step 27 = .ok (.aload_n 2, 1) := by decide +kernel
theorem d_Da_step_28 : decode b_Da_step 28 = .ok (.aload_n 0, 1) := by decide +kernel
theorem d_Da_step_29 : decode b_Da_step 29 = .ok (.getfield 10, 3) := by decide +kernel
theorem d_Da_step_32 : decode b_Da_step 32 = .ok (.invokevirtual 84, 3) := by decide +kernel
theorem d_Da_step_35 : decode b_Da_step 35 = .ok (.ireturn, 1) := by decide +kernel
set_option maxHeartbeats 4000000 in
set_option maxRecDepth 100000 in
theorem c_Da_step {l : Launch} {G : Gx} {s0 : State} (C : Cx G s0) {B D0 ea : Nat} {mi : Nat} (E : Es0 s0 ea mi) (hB : s0.heap.size ≤ B) (σ : Sg) (τ : Tt) (c : Nat) (hc : c < 3) (w : Nat) (hw : σ 7 c = nI w) (hw6 : w ≤ 60) (hu : ¬ σ 26 c = 0) (a : Nat) (ha : σ 14 c = nI a) (ha3 : a < 3) (q : Nat) (hq : σ 4 c = nI q) (hq4 : q < 24) (sp : Nat) (hsp : σ 25 c = nI sp) (hs2 : ¬ σ 12 c = 0 → sp ≤ 2) (hI : okI σ c w) (hO : σ 12 c = 2 → sp = 2 → σ 17 c + 1 = 2 → okD σ c w) : Ct l s0 (FC B D0) 6 1 4 y_Da_step b_Da_step 3 (some .int) [.ref (B), .int (nI c)] (fun H => RepC G B D0 ea σ τ H ∧ D0 ≤ H.size) (pI (fun r H => r = (cgo σ c w a q sp).1 ∧ RepC G B D0 ea (cgo σ c w a q sp).2 τ H)) := by
  refine Ct.of C (by decide) (Nat.le_of_ble_eq_true rfl) ?_
  intro pg ev s mm below meth cd V hr hlk hn hR0 ls hl
  obtain ⟨hR, hD⟩ := hR0
  have hx := V.1
  have hb := V.2.1
  have hS : va_S (FC B D0) s.heap s.heap [] := va_S.rf
  have hF : ∀ q, FC B D0 q → FC B D0 q := fun _ h => h
  have hA : ∀ q, FC B D0 q → s0.heap.size ≤ q := fun q h => by have := hR.1; rcases h with h | h <;> omega
  have hl : lv_has ls 3 [(0, .ref (B)), (1, .int (nI c))] := hl
  refine lv_aload_n hx hb d_Da_step_0 rfl (lv_at hl 0 rfl) ?_
  refine lv_iload_n hx hb d_Da_step_1 rfl (lv_at hl 1 rfl) ?_
  refine g_callV (As := [.int (nI c)]) (rest := []) (A0 := FC B D0) V (c_Da_found C hB σ τ c hc) v_Da_39 (hR.rDa V.2.2.2.2.2.1) hR hS hA (fun _ h => h) ⟨by decide, by decide⟩ rfl hl (Nat.le_of_ble_eq_true rfl) d_Da_step_2 ⟨by decide, by decide⟩ (kA (fun r2 H locs hQ _ hS => ?_))
  obtain ⟨rfl, hR⟩ := hQ
  refine lv_astore_n (lv' := [(2, .ref (B + (9 + 9 * c))), (0, .ref (B)), (1, .int (nI c))]) hx hb d_Da_step_5 rfl hl (by decide) rfl (fun ls hl => ?_)
  refine lv_aload_n hx hb d_Da_step_6 rfl (lv_at hl 0 rfl) ?_
  refine g_callS (As := [.ref (B + (9 + 9 * c))]) (rest := []) (A0 := FC B D0) V (c_Da_needUp C hB σ τ c hc hu) v_Da_73 hR hS hA (fun _ h => h) ⟨by decide, by decide⟩ rfl hl (Nat.le_of_ble_eq_true rfl) d_Da_step_7 ⟨by decide, by decide⟩ (kV (fun H locs hR _ hS => ?_))
  refine lv_aload_n hx hb d_Da_step_10 rfl (lv_at hl 0 rfl) ?_
  refine g_Da_77 V (hR.2.2.2 _ hc).1 rfl d_Da_step_11 ?_
  refine lv_tope (y := nI q) hq ?_
  refine lv_bipush (v := 24) hx hb d_Da_step_14 (by decide) ?_
  refine lv_icmp_ne (tgt := 27) hx hb d_Da_step_16 (by decide) (fun h16 => ?_) (fun h16 => ?_)
  · refine lv_aload_n hx hb d_Da_step_27 rfl (lv_at hl 0 rfl) ?_
    refine lv_aload_n hx hb d_Da_step_28 rfl (lv_at hl 1 rfl) ?_
    refine g_Da_10 V hR.2.1.1 rfl d_Da_step_29 ?_
    refine g_callV (As := [.ref (B + 1)]) (rest := []) (A0 := FC B D0) V (c_Ct_go C E hB σ τ c hc w hw hw6 a ha ha3 q hq hq4 sp hsp hs2 hI hO) v_Da_84 (hR.rCt V.2.2.2.2.2.1 hc) ⟨hR, Nat.le_trans hD hS.1⟩ hS hA (fun _ h => h) ⟨by decide, by decide⟩ rfl hl (Nat.le_of_ble_eq_true rfl) d_Da_step_32 ⟨by decide, by decide⟩ (kI (fun r H locs hQ _ hS => ?_))
    obtain ⟨rfl, hR⟩ := hQ
    exact e_i V hr hlk hS (by decide) (by decide) d_Da_step_35 ⟨_, rfl, rfl, hR⟩
  · exact absurd ((nI_eq (b := 24) (by omega) (by decide)).mp h16) (by omega)
theorem d_Da_tear_0 : decode b_Da_tear 0 = .ok (.aload_n 0, 1) := by decide +kernel
theorem d_Da_tear_1 : decode b_Da_tear 1 = .ok (.iload_n 1, 1) := by decide +kernel
theorem d_Da_tear_2 : decode b_Da_tear 2 = .ok (.invokevirtual 39, 3) := by decide +kernel
set_option maxHeartbeats 4000000 in
set_option maxRecDepth 100000 in
theorem t_Da_tear_bad {l : Launch} {G : Gx} {s0 : State} (hfl : l.flags = pinnedFlags ++ [noTraceFlag]) (C : Cx G s0) (C0 : Ts0 s0) {B D0 ea : Nat} (hB : s0.heap.size ≤ B) (σ : Sg) (τ : Tt) (x : Int32) (hx1 : one x = false) (y : Int32) : CtT l s0 (FC B D0) 2 1 6 y_Da_tear (.codeWith y_Da_tear b_Da_tear 5 (some .boolean) [(40, 54, 57, 63)]) [.ref (B), .int (x), .int (y)] (RepC G B D0 ea σ τ) "java/lang/IndexOutOfBoundsException" (RepC G B D0 ea σ τ) := by
  refine CtT.of C cdw_with (by decide) (Nat.le_of_ble_eq_true rfl) ?_
  intro pg ev s mm below meth cd V hr hlk ht hR ls hl
  have hx := V.1
  have hb := V.2.1
  have hS : va_S (FC B D0) s.heap s.heap [] := va_S.rf
  have hF : ∀ q, FC B D0 q → FC B D0 q := fun _ h => h
  have hA : ∀ q, FC B D0 q → s0.heap.size ≤ q := fun q h => by have := hR.1; rcases h with h | h <;> omega
  have hl : lv_has ls 5 [(0, .ref (B)), (1, .int (x)), (2, .int (y))] := hl
  refine lv_aload_n hx hb d_Da_tear_0 rfl (lv_at hl 0 rfl) ?_
  refine lv_iload_n hx hb d_Da_tear_1 rfl (lv_at hl 1 rfl) ?_
  refine t_callV (n := 1) (As := [.int (x)]) (rest := []) (A0 := FC B D0) V (t_Da_found hfl C C0 hB σ τ (x) hx1) cdw_code ⟨List.mem_of_getElem? (i := 317) (by decide +kernel), rfl⟩ (List.mem_of_getElem? (i := 29) (by decide +kernel)) (List.mem_of_getElem? (i := 314) (by decide +kernel)) ⟨List.mem_of_getElem? (i := 316) (by decide +kernel), List.mem_of_getElem? (i := 1) (by decide +kernel)⟩ ⟨by decide, by decide, by decide +kernel⟩ (hR.rDa V.2.2.2.2.2.1) hR hS hA (fun _ h => h) ⟨by decide, by decide⟩ rfl hl (Nat.le_of_ble_eq_true rfl) d_Da_tear_2 ⟨by decide, by decide⟩ (fun x H locs hex hR _ hS => ?_)
  exact wt_leave hlk (out_of ht (by decide)) hS (by decide) (by decide) hex hR
theorem d_Da_tear_5 : decode b_Da_tear 5 = .ok (.astore_n 3, 1) := by decide +kernel
theorem d_Da_tear_6 : decode b_Da_tear 6 = .ok (.iload_n 2, 1) := by decide +kernel
theorem d_Da_tear_7 : decode b_Da_tear 7 = .ok (.bipush 6, 2) := by decide +kernel
theorem d_Da_tear_9 : decode b_Da_tear 9 = .ok (.invokestatic 43, 3) := by decide +kernel
theorem d_Da_tear_12 : decode b_Da_tear 12 = .ok (.ifCond .ne 11, 3) := by decide +kernel
theorem d_Da_tear_15 : decode b_Da_tear 15 = .ok (.new 47, 3) := by decide +kernel
theorem d_Da_tear_18 : decode b_Da_tear 18 = .ok (.dup, 1) := by decide +kernel
theorem d_Da_tear_19 : decode b_Da_tear 19 = .ok (.invokespecial 49, 3) := by decide +kernel
theorem d_Da_tear_22 : decode b_Da_tear 22 = .ok (.athrow, 1) := by decide +kernel
set_option maxHeartbeats 4000000 in
set_option maxRecDepth 100000 in
theorem t_Da_tear_bad2 {l : Launch} {G : Gx} {s0 : State} (hfl : l.flags = pinnedFlags ++ [noTraceFlag]) (C : Cx G s0) (C0 : Ts0 s0) {B D0 ea : Nat} (hB : s0.heap.size ≤ B) (σ : Sg) (τ : Tt) (c : Nat) (hc : c < 3) (y : Int32) (hy1 : (!decide (y < 0) && !decide (6 ≤ y)) = false) : CtT l s0 (FC B D0) 2 1 6 y_Da_tear (.codeWith y_Da_tear b_Da_tear 5 (some .boolean) [(40, 54, 57, 63)]) [.ref (B), .int (nI c), .int (y)] (RepC G B D0 ea σ τ) "java/lang/IllegalArgumentException" (RepC G B D0 ea σ τ) := by
  refine CtT.of C cdw_with (by decide) (Nat.le_of_ble_eq_true rfl) ?_
  intro pg ev s mm below meth cd V hr hlk ht hR ls hl
  have hx := V.1
  have hb := V.2.1
  have hS : va_S (FC B D0) s.heap s.heap [] := va_S.rf
  have hF : ∀ q, FC B D0 q → FC B D0 q := fun _ h => h
  have hA : ∀ q, FC B D0 q → s0.heap.size ≤ q := fun q h => by have := hR.1; rcases h with h | h <;> omega
  have hl : lv_has ls 5 [(0, .ref (B)), (1, .int (nI c)), (2, .int (y))] := hl
  refine lv_aload_n hx hb d_Da_tear_0 rfl (lv_at hl 0 rfl) ?_
  refine lv_iload_n hx hb d_Da_tear_1 rfl (lv_at hl 1 rfl) ?_
  refine g_callV (As := [.int (nI c)]) (rest := []) (A0 := FC B D0) V (c_Da_found C hB σ τ c hc) v_Da_39 (hR.rDa V.2.2.2.2.2.1) hR hS hA (fun _ h => h) ⟨by decide, by decide⟩ rfl hl (Nat.le_of_ble_eq_true rfl) d_Da_tear_2 ⟨by decide, by decide⟩ (kA (fun r2 H locs hQ _ hS => ?_))
  obtain ⟨rfl, hR⟩ := hQ
  refine lv_astore_n (lv' := [(3, .ref (B + (9 + 9 * c))), (0, .ref (B)), (1, .int (nI c)), (2, .int (y))]) hx hb d_Da_tear_5 rfl hl (by decide) rfl (fun ls hl => ?_)
  refine lv_iload_n hx hb d_Da_tear_6 rfl (lv_at hl 3 rfl) ?_
  refine lv_bipush (v := 6) hx hb d_Da_tear_7 (by decide) ?_
  refine g_callS (As := [.int (y), .int (6)]) (rest := []) (A0 := FC B D0) V (c_Da_within C hB σ τ (y) (6)) v_Da_43 hR hS hA (fun _ h => h) ⟨by decide, by decide⟩ rfl hl (Nat.le_of_ble_eq_true rfl) d_Da_tear_9 ⟨by decide, by decide⟩ (kI (fun r9 H locs hQ _ hS => ?_))
  obtain ⟨rfl, hR⟩ := hQ
  refine lv_if_ne (tgt := 23) hx hb d_Da_tear_12 (by decide) (fun h12 => ?_) (fun h12 => ?_)
  · exact absurd (hy1.symm.trans (bI_n0.mp h12)) (by decide)
  · have h12 := bI_0.mp h12
    exact tn V C0 hfl x_Da_47 hlk (out_of ht (by decide)) hl (Nat.le_of_ble_eq_true rfl) ⟨by decide, by decide, by decide, by decide⟩ hS hA (by decide) (by decide) d_Da_tear_15 d_Da_tear_18 d_Da_tear_19 d_Da_tear_22 (fun H1 hz hk => hR.grow hk)
theorem d_Da_tear_23 : decode b_Da_tear 23 = .ok (.aload_n 3, 1) := by decide +kernel
theorem d_Da_tear_24 : decode b_Da_tear 24 = .ok (.invokestatic 73, 3) := by decide +kernel
set_option maxHeartbeats 4000000 in
set_option maxRecDepth 100000 in
theorem t_Da_tear_bad3 {l : Launch} {G : Gx} {s0 : State} (hfl : l.flags = pinnedFlags ++ [noTraceFlag]) (C : Cx G s0) (C0 : Ts0 s0) {B D0 ea : Nat} (hB : s0.heap.size ≤ B) (σ : Sg) (τ : Tt) (c : Nat) (hc : c < 3) (hu : σ 26 c = 0) (kp : Nat) (hkp : kp < 6) : CtT l s0 (FC B D0) 2 1 6 y_Da_tear (.codeWith y_Da_tear b_Da_tear 5 (some .boolean) [(40, 54, 57, 63)]) [.ref (B), .int (nI c), .int (nI kp)] (RepC G B D0 ea σ τ) "java/lang/IllegalStateException" (RepC G B D0 ea σ τ) := by
  refine CtT.of C cdw_with (by decide) (Nat.le_of_ble_eq_true rfl) ?_
  intro pg ev s mm below meth cd V hr hlk ht hR ls hl
  have hx := V.1
  have hb := V.2.1
  have hS : va_S (FC B D0) s.heap s.heap [] := va_S.rf
  have hF : ∀ q, FC B D0 q → FC B D0 q := fun _ h => h
  have hA : ∀ q, FC B D0 q → s0.heap.size ≤ q := fun q h => by have := hR.1; rcases h with h | h <;> omega
  have hl : lv_has ls 5 [(0, .ref (B)), (1, .int (nI c)), (2, .int (nI kp))] := hl
  refine lv_aload_n hx hb d_Da_tear_0 rfl (lv_at hl 0 rfl) ?_
  refine lv_iload_n hx hb d_Da_tear_1 rfl (lv_at hl 1 rfl) ?_
  refine g_callV (As := [.int (nI c)]) (rest := []) (A0 := FC B D0) V (c_Da_found C hB σ τ c hc) v_Da_39 (hR.rDa V.2.2.2.2.2.1) hR hS hA (fun _ h => h) ⟨by decide, by decide⟩ rfl hl (Nat.le_of_ble_eq_true rfl) d_Da_tear_2 ⟨by decide, by decide⟩ (kA (fun r2 H locs hQ _ hS => ?_))
  obtain ⟨rfl, hR⟩ := hQ
  refine lv_astore_n (lv' := [(3, .ref (B + (9 + 9 * c))), (0, .ref (B)), (1, .int (nI c)), (2, .int (nI kp))]) hx hb d_Da_tear_5 rfl hl (by decide) rfl (fun ls hl => ?_)
  refine lv_iload_n hx hb d_Da_tear_6 rfl (lv_at hl 3 rfl) ?_
  refine lv_bipush (v := 6) hx hb d_Da_tear_7 (by decide) ?_
  refine g_callS (As := [.int (nI kp), .int (6)]) (rest := []) (A0 := FC B D0) V (c_Da_within C hB σ τ (nI kp) (6)) v_Da_43 hR hS hA (fun _ h => h) ⟨by decide, by decide⟩ rfl hl (Nat.le_of_ble_eq_true rfl) d_Da_tear_9 ⟨by decide, by decide⟩ (kI (fun r9 H locs hQ _ hS => ?_))
  obtain ⟨rfl, hR⟩ := hQ
  refine lv_if_ne (tgt := 23) hx hb d_Da_tear_12 (by decide) (fun h12 => ?_) (fun h12 => ?_)
  · have h12 := bI_n0.mp h12
    refine lv_aload_n hx hb d_Da_tear_23 rfl (lv_at hl 0 rfl) ?_
    refine t_callS (n := 1) (As := [.ref (B + (9 + 9 * c))]) (rest := []) (A0 := FC B D0) V (t_Da_needUp hfl C C0 hB σ τ c hc hu) cdw_code ⟨List.mem_of_getElem? (i := 533) (by decide +kernel), rfl⟩ (List.mem_of_getElem? (i := 29) (by decide +kernel)) (List.mem_of_getElem? (i := 531) (by decide +kernel)) (List.mem_of_getElem? (i := 532) (by decide +kernel)) ⟨by decide, by decide, by decide +kernel⟩ hR hS hA (fun _ h => h) ⟨by decide, by decide⟩ rfl hl (Nat.le_of_ble_eq_true rfl) d_Da_tear_24 ⟨by decide, by decide⟩ (fun x H locs hex hR _ hS => ?_)
    exact wt_leave hlk (out_of ht (by decide)) hS (by decide) (by decide) hex hR
  · exact absurd (bI_0.mp h12) (by simp [nI_pos (show kp < 2 ^ 31 by omega), nI_ge (b := 6) (show kp < 6 by omega) (by decide), show (6 : Int32) = nI 6 from rfl])
theorem d_Da_tear_27 : decode b_Da_tear 27 = .ok (.aload_n 3, 1) := by decide +kernel
theorem d_Da_tear_28 : decode b_Da_tear 28 = .ok (.aload_n 0, 1) := by decide +kernel
theorem d_Da_tear_29 : decode b_Da_tear 29 = .ok (.getfield 10, 3) := by decide +kernel
theorem d_Da_tear_32 : decode b_Da_tear 32 = .ok (.invokevirtual 91, 3) := by decide +kernel
theorem d_Da_tear_35 : decode b_Da_tear 35 = .ok (.ifCond .ne 5, 3) := by decide +kernel
theorem d_Da_tear_38 : decode b_Da_tear 38 = .ok (.iconst 0, 1) := by decide +kernel
theorem d_Da_tear_39 : decode b_Da_tear 39 = .ok (.ireturn, 1) := by decide +kernel
set_option maxHeartbeats 4000000 in
set_option maxRecDepth 100000 in
theorem c_Da_tear_0 {l : Launch} {G : Gx} {s0 : State} (hfl : l.flags = pinnedFlags ++ [noTraceFlag]) (C : Cx G s0) (C0 : Ts0 s0) {B D0 ea : Nat} (hB : s0.heap.size ≤ B) (σ : Sg) (τ : Tt) (c : Nat) (hc : c < 3) (hu : ¬ σ 26 c = 0) (a : Nat) (ha : σ 14 c = nI a) (ha3 : a < 3) (kp : Nat) (hkp : kp < 6) (hn0 : (!decide (σ 12 c ≤ 0) && (!decide (σ 27 a = 0) && decide (σ 25 c = 0))) = false) : CtR l s0 (FC B D0) 4 1 6 y_Da_tear (.codeWith y_Da_tear b_Da_tear 5 (some .boolean) [(40, 54, 57, 63)]) [.ref (B), .int (nI c), .int (nI kp)] (RepC G B D0 ea σ τ) (pI (fun r H => r = 0 ∧ RepC G B D0 ea σ τ H)) := by
  refine CtR.of C cdw_with (by decide) (Nat.le_of_ble_eq_true rfl) ?_
  intro pg ev s mm below meth cd V hr hlk ht hR ls hl
  have hx := V.1
  have hb := V.2.1
  have hS : va_S (FC B D0) s.heap s.heap [] := va_S.rf
  have hF : ∀ q, FC B D0 q → FC B D0 q := fun _ h => h
  have hA : ∀ q, FC B D0 q → s0.heap.size ≤ q := fun q h => by have := hR.1; rcases h with h | h <;> omega
  have hl : lv_has ls 5 [(0, .ref (B)), (1, .int (nI c)), (2, .int (nI kp))] := hl
  refine lv_aload_n hx hb d_Da_tear_0 rfl (lv_at hl 0 rfl) ?_
  refine lv_iload_n hx hb d_Da_tear_1 rfl (lv_at hl 1 rfl) ?_
  refine g_callV (As := [.int (nI c)]) (rest := []) (A0 := FC B D0) V (c_Da_found C hB σ τ c hc) v_Da_39 (hR.rDa V.2.2.2.2.2.1) hR hS hA (fun _ h => h) ⟨by decide, by decide⟩ rfl hl (Nat.le_of_ble_eq_true rfl) d_Da_tear_2 ⟨by decide, by decide⟩ (kA (fun r2 H locs hQ _ hS => ?_))
  obtain ⟨rfl, hR⟩ := hQ
  refine lv_astore_n (lv' := [(3, .ref (B + (9 + 9 * c))), (0, .ref (B)), (1, .int (nI c)), (2, .int (nI kp))]) hx hb d_Da_tear_5 rfl hl (by decide) rfl (fun ls hl => ?_)
  refine lv_iload_n hx hb d_Da_tear_6 rfl (lv_at hl 3 rfl) ?_
  refine lv_bipush (v := 6) hx hb d_Da_tear_7 (by decide) ?_
  refine g_callS (As := [.int (nI kp), .int (6)]) (rest := []) (A0 := FC B D0) V (c_Da_within C hB σ τ (nI kp) (6)) v_Da_43 hR hS hA (fun _ h => h) ⟨by decide, by decide⟩ rfl hl (Nat.le_of_ble_eq_true rfl) d_Da_tear_9 ⟨by decide, by decide⟩ (kI (fun r9 H locs hQ _ hS => ?_))
  obtain ⟨rfl, hR⟩ := hQ
  refine lv_if_ne (tgt := 23) hx hb d_Da_tear_12 (by decide) (fun h12 => ?_) (fun h12 => ?_)
  · have h12 := bI_n0.mp h12
    refine lv_aload_n hx hb d_Da_tear_23 rfl (lv_at hl 0 rfl) ?_
    refine g_callS (As := [.ref (B + (9 + 9 * c))]) (rest := []) (A0 := FC B D0) V (c_Da_needUp C hB σ τ c hc hu) v_Da_73 hR hS hA (fun _ h => h) ⟨by decide, by decide⟩ rfl hl (Nat.le_of_ble_eq_true rfl) d_Da_tear_24 ⟨by decide, by decide⟩ (kV (fun H locs hR _ hS => ?_))
    refine lv_aload_n hx hb d_Da_tear_27 rfl (lv_at hl 0 rfl) ?_
    refine lv_aload_n hx hb d_Da_tear_28 rfl (lv_at hl 1 rfl) ?_
    refine g_Da_10 V hR.2.1.1 rfl d_Da_tear_29 ?_
    refine g_callV (As := [.ref (B + 1)]) (rest := []) (A0 := FC B D0) V (c_Ct_writesNext C hB σ τ c hc a ha ha3) v_Da_91 (hR.rCt V.2.2.2.2.2.1 hc) hR hS hA (fun _ h => h) ⟨by decide, by decide⟩ rfl hl (Nat.le_of_ble_eq_true rfl) d_Da_tear_32 ⟨by decide, by decide⟩ (kI (fun r32 H locs hQ _ hS => ?_))
    obtain ⟨rfl, hR⟩ := hQ
    refine lv_if_ne (tgt := 40) hx hb d_Da_tear_35 (by decide) (fun h35 => ?_) (fun h35 => ?_)
    · exact absurd (hn0.symm.trans (bI_n0.mp h35)) (by decide)
    · have h35 := bI_0.mp h35
      refine lv_iconst (v := 0) hx hb d_Da_tear_38 (by decide) ?_
      exact e_z V hr hlk hS (by decide) (by decide) d_Da_tear_39 (by decide) ⟨_, rfl, rfl, hR⟩
  · exact absurd (bI_0.mp h12) (by simp [nI_pos (show kp < 2 ^ 31 by omega), nI_ge (b := 6) (show kp < 6 by omega) (by decide), show (6 : Int32) = nI 6 from rfl])
theorem d_Da_tear_40 : decode b_Da_tear 40 = .ok (.aload_n 3, 1) := by decide +kernel
theorem d_Da_tear_41 : decode b_Da_tear 41 = .ok (.aload_n 0, 1) := by decide +kernel
theorem d_Da_tear_42 : decode b_Da_tear 42 = .ok (.getfield 10, 3) := by decide +kernel
theorem d_Da_tear_45 : decode b_Da_tear 45 = .ok (.aload_n 3, 1) := by decide +kernel
theorem d_Da_tear_46 : decode b_Da_tear 46 = .ok (.getfield 95, 3) := by decide +kernel
theorem d_Da_tear_49 : decode b_Da_tear 49 = .ok (.aaload, 1) := by decide +kernel
theorem d_Da_tear_50 : decode b_Da_tear 50 = .ok (.iload_n 2, 1) := by decide +kernel
theorem d_Da_tear_51 : decode b_Da_tear 51 = .ok (.invokevirtual 98, 3) := by decide +kernel
theorem d_Da_tear_57 : decode b_Da_tear 57 = .ok (.astore 4, 2) := by decide +kernel
theorem d_Da_tear_59 : decode b_Da_tear 59 = .ok (.aload_n 3, 1) := by decide +kernel
theorem d_Da_tear_60 : decode b_Da_tear 60 = .ok (.iconst 0, 1) := by decide +kernel
theorem d_Da_tear_61 : decode b_Da_tear 61 = .ok (.putfield 32, 3) := by decide +kernel
theorem d_Da_tear_64 : decode b_Da_tear 64 = .ok (.aload_n 3, 1) := by decide +kernel
theorem d_Da_tear_65 : decode b_Da_tear 65 = .ok (.iconst 0, 1) := by decide +kernel
theorem d_Da_tear_66 : decode b_Da_tear 66 = .ok (.putfield 32, 3) := by decide +kernel
theorem d_Da_tear_69 : decode b_Da_tear 69 = .ok (.iconst 1, 1) := by decide +kernel
theorem d_Da_tear_70 : decode b_Da_tear 70 = .ok (.ireturn, 1) := by decide +kernel
set_option maxHeartbeats 4000000 in
set_option maxRecDepth 100000 in
theorem c_Da_tear_1 {l : Launch} {G : Gx} {s0 : State} (hfl : l.flags = pinnedFlags ++ [noTraceFlag]) (C : Cx G s0) (C0 : Ts0 s0) {B D0 ea : Nat} (hB : s0.heap.size ≤ B) (σ : Sg) (τ : Tt) (c : Nat) (hc : c < 3) (hu : ¬ σ 26 c = 0) (a : Nat) (ha : σ 14 c = nI a) (ha3 : a < 3) (q : Nat) (hq : σ 4 c = nI q) (hq4 : q < 24) (kp : Nat) (hkp : kp < 5) (hn1 : (!decide (σ 12 c ≤ 0) && (!decide (σ 27 a = 0) && decide (σ 25 c = 0))) = true) : CtR l s0 (FC B D0) 4 1 6 y_Da_tear (.codeWith y_Da_tear b_Da_tear 5 (some .boolean) [(40, 54, 57, 63)]) [.ref (B), .int (nI c), .int (nI kp)] (RepC G B D0 ea σ τ) (pI (fun r H => r = 1 ∧ RepC G B D0 ea (up2 (up2 (cwr σ c a q kp) 26 c 0) 26 c 0) τ H)) := by
  refine CtR.of C cdw_with (by decide) (Nat.le_of_ble_eq_true rfl) ?_
  intro pg ev s mm below meth cd V hr hlk ht hR ls hl
  have hx := V.1
  have hb := V.2.1
  have hS : va_S (FC B D0) s.heap s.heap [] := va_S.rf
  have hF : ∀ q, FC B D0 q → FC B D0 q := fun _ h => h
  have hA : ∀ q, FC B D0 q → s0.heap.size ≤ q := fun q h => by have := hR.1; rcases h with h | h <;> omega
  have hl : lv_has ls 5 [(0, .ref (B)), (1, .int (nI c)), (2, .int (nI kp))] := hl
  refine lv_aload_n hx hb d_Da_tear_0 rfl (lv_at hl 0 rfl) ?_
  refine lv_iload_n hx hb d_Da_tear_1 rfl (lv_at hl 1 rfl) ?_
  refine g_callV (As := [.int (nI c)]) (rest := []) (A0 := FC B D0) V (c_Da_found C hB σ τ c hc) v_Da_39 (hR.rDa V.2.2.2.2.2.1) hR hS hA (fun _ h => h) ⟨by decide, by decide⟩ rfl hl (Nat.le_of_ble_eq_true rfl) d_Da_tear_2 ⟨by decide, by decide⟩ (kA (fun r2 H locs hQ _ hS => ?_))
  obtain ⟨rfl, hR⟩ := hQ
  refine lv_astore_n (lv' := [(3, .ref (B + (9 + 9 * c))), (0, .ref (B)), (1, .int (nI c)), (2, .int (nI kp))]) hx hb d_Da_tear_5 rfl hl (by decide) rfl (fun ls hl => ?_)
  refine lv_iload_n hx hb d_Da_tear_6 rfl (lv_at hl 3 rfl) ?_
  refine lv_bipush (v := 6) hx hb d_Da_tear_7 (by decide) ?_
  refine g_callS (As := [.int (nI kp), .int (6)]) (rest := []) (A0 := FC B D0) V (c_Da_within C hB σ τ (nI kp) (6)) v_Da_43 hR hS hA (fun _ h => h) ⟨by decide, by decide⟩ rfl hl (Nat.le_of_ble_eq_true rfl) d_Da_tear_9 ⟨by decide, by decide⟩ (kI (fun r9 H locs hQ _ hS => ?_))
  obtain ⟨rfl, hR⟩ := hQ
  refine lv_if_ne (tgt := 23) hx hb d_Da_tear_12 (by decide) (fun h12 => ?_) (fun h12 => ?_)
  · have h12 := bI_n0.mp h12
    refine lv_aload_n hx hb d_Da_tear_23 rfl (lv_at hl 0 rfl) ?_
    refine g_callS (As := [.ref (B + (9 + 9 * c))]) (rest := []) (A0 := FC B D0) V (c_Da_needUp C hB σ τ c hc hu) v_Da_73 hR hS hA (fun _ h => h) ⟨by decide, by decide⟩ rfl hl (Nat.le_of_ble_eq_true rfl) d_Da_tear_24 ⟨by decide, by decide⟩ (kV (fun H locs hR _ hS => ?_))
    refine lv_aload_n hx hb d_Da_tear_27 rfl (lv_at hl 0 rfl) ?_
    refine lv_aload_n hx hb d_Da_tear_28 rfl (lv_at hl 1 rfl) ?_
    refine g_Da_10 V hR.2.1.1 rfl d_Da_tear_29 ?_
    refine g_callV (As := [.ref (B + 1)]) (rest := []) (A0 := FC B D0) V (c_Ct_writesNext C hB σ τ c hc a ha ha3) v_Da_91 (hR.rCt V.2.2.2.2.2.1 hc) hR hS hA (fun _ h => h) ⟨by decide, by decide⟩ rfl hl (Nat.le_of_ble_eq_true rfl) d_Da_tear_32 ⟨by decide, by decide⟩ (kI (fun r32 H locs hQ _ hS => ?_))
    obtain ⟨rfl, hR⟩ := hQ
    refine lv_if_ne (tgt := 40) hx hb d_Da_tear_35 (by decide) (fun h35 => ?_) (fun h35 => ?_)
    · have h35 := bI_n0.mp h35
      refine lv_aload_n hx hb d_Da_tear_40 rfl (lv_at hl 0 rfl) ?_
      refine lv_aload_n hx hb d_Da_tear_41 rfl (lv_at hl 1 rfl) ?_
      refine g_Da_10 V hR.2.1.1 rfl d_Da_tear_42 ?_
      refine lv_aload_n hx hb d_Da_tear_45 rfl (lv_at hl 0 rfl) ?_
      refine g_Da_95 V (hR.2.2.2 _ hc).1 rfl d_Da_tear_46 ?_
      refine lv_tope (y := nI a) ha ?_
      refine c_dsk V hR (a) rfl ha3 d_Da_tear_49 ?_
      refine lv_iload_n hx hb d_Da_tear_50 rfl (lv_at hl 3 rfl) ?_
      refine t_callVN (n := 2) (As := [.ref (B + (2 + 2 * a)), .int (nI kp)]) (rest := []) (A0 := FC B D0) V (t_Ct_write hfl C C0 hB σ τ c hc a ha3 q hq hq4 kp hkp) cdw_code ⟨List.mem_of_getElem? (i := 595) (by decide +kernel), rfl⟩ (List.mem_of_getElem? (i := 31) (by decide +kernel)) (List.mem_of_getElem? (i := 668) (by decide +kernel)) ⟨List.mem_of_getElem? (i := 594) (by decide +kernel), List.mem_of_getElem? (i := 8) (by decide +kernel)⟩ ⟨by decide, by decide, by decide +kernel⟩ (hR.rCt V.2.2.2.2.2.1 hc) hR hS hA (fun _ h => h) ⟨by decide, by decide⟩ rfl hl (Nat.le_of_ble_eq_true rfl) d_Da_tear_51 ⟨by decide, by decide⟩ (fun x H locs hex hR _ hS => ?_)
      refine wt_c0 (Y := "java/lang/UnsupportedOperationException") V ht ⟨by decide, by decide⟩ (by decide) (List.mem_of_getElem? (i := 430) (by decide +kernel)) hex (isa_t C (List.mem_of_getElem? (i := 432) (by decide +kernel))) ?_
      refine lv_astore (lv' := [(4, .ref (x)), (3, .ref (B + (9 + 9 * c))), (0, .ref (B)), (1, .int (nI c)), (2, .int (nI kp))]) hx hb d_Da_tear_57 hl (by decide) rfl (fun ls hl => ?_)
      refine lv_aload_n hx hb d_Da_tear_59 rfl (lv_at hl 1 rfl) ?_
      refine lv_iconst (v := 0) hx hb d_Da_tear_60 (by decide) ?_
      refine q_Da_32 V hR hS hF hc (by decide) d_Da_tear_61 (fun H locs hR hS => ?_)
      refine lv_aload_n hx hb d_Da_tear_64 rfl (lv_at hl 1 rfl) ?_
      refine lv_iconst (v := 0) hx hb d_Da_tear_65 (by decide) ?_
      refine q_Da_32 V hR hS hF hc (by decide) d_Da_tear_66 (fun H locs hR hS => ?_)
      refine lv_iconst (v := 1) hx hb d_Da_tear_69 (by decide) ?_
      exact e_z V hr hlk hS (by decide) (by decide) d_Da_tear_70 (by decide) ⟨_, rfl, rfl, hR⟩
    · exact absurd ((bI_0.mp h35).symm.trans hn1) (by decide)
  · exact absurd (bI_0.mp h12) (by simp [nI_pos (show kp < 2 ^ 31 by omega), nI_ge (b := 6) (show kp < 6 by omega) (by decide), show (6 : Int32) = nI 6 from rfl])
theorem d_Da_tear_54 : decode b_Da_tear 54 = .ok (.goto 10, 3) := by decide +kernel
set_option maxHeartbeats 4000000 in
set_option maxRecDepth 100000 in
theorem c_Da_tear_5 {l : Launch} {G : Gx} {s0 : State} (hfl : l.flags = pinnedFlags ++ [noTraceFlag]) (C : Cx G s0) (C0 : Ts0 s0) {B D0 ea : Nat} (hB : s0.heap.size ≤ B) (σ : Sg) (τ : Tt) (c : Nat) (hc : c < 3) (hu : ¬ σ 26 c = 0) (a : Nat) (ha : σ 14 c = nI a) (ha3 : a < 3) (q : Nat) (hq : σ 4 c = nI q) (hq4 : q < 24) (hn1 : (!decide (σ 12 c ≤ 0) && (!decide (σ 27 a = 0) && decide (σ 25 c = 0))) = true) : CtR l s0 (FC B D0) 4 1 6 y_Da_tear (.codeWith y_Da_tear b_Da_tear 5 (some .boolean) [(40, 54, 57, 63)]) [.ref (B), .int (nI c), .int (5)] (RepC G B D0 ea σ τ) (pI (fun r H => r = 1 ∧ RepC G B D0 ea (up2 (up2 (cwr σ c a q 5) 25 c 1) 26 c 0) τ H)) := by
  refine CtR.of C cdw_with (by decide) (Nat.le_of_ble_eq_true rfl) ?_
  intro pg ev s mm below meth cd V hr hlk ht hR ls hl
  have hx := V.1
  have hb := V.2.1
  have hS : va_S (FC B D0) s.heap s.heap [] := va_S.rf
  have hF : ∀ q, FC B D0 q → FC B D0 q := fun _ h => h
  have hA : ∀ q, FC B D0 q → s0.heap.size ≤ q := fun q h => by have := hR.1; rcases h with h | h <;> omega
  have hl : lv_has ls 5 [(0, .ref (B)), (1, .int (nI c)), (2, .int (5))] := hl
  refine lv_aload_n hx hb d_Da_tear_0 rfl (lv_at hl 0 rfl) ?_
  refine lv_iload_n hx hb d_Da_tear_1 rfl (lv_at hl 1 rfl) ?_
  refine g_callV (As := [.int (nI c)]) (rest := []) (A0 := FC B D0) V (c_Da_found C hB σ τ c hc) v_Da_39 (hR.rDa V.2.2.2.2.2.1) hR hS hA (fun _ h => h) ⟨by decide, by decide⟩ rfl hl (Nat.le_of_ble_eq_true rfl) d_Da_tear_2 ⟨by decide, by decide⟩ (kA (fun r2 H locs hQ _ hS => ?_))
  obtain ⟨rfl, hR⟩ := hQ
  refine lv_astore_n (lv' := [(3, .ref (B + (9 + 9 * c))), (0, .ref (B)), (1, .int (nI c)), (2, .int (5))]) hx hb d_Da_tear_5 rfl hl (by decide) rfl (fun ls hl => ?_)
  refine lv_iload_n hx hb d_Da_tear_6 rfl (lv_at hl 3 rfl) ?_
  refine lv_bipush (v := 6) hx hb d_Da_tear_7 (by decide) ?_
  refine g_callS (As := [.int (5), .int (6)]) (rest := []) (A0 := FC B D0) V (c_Da_within C hB σ τ (5) (6)) v_Da_43 hR hS hA (fun _ h => h) ⟨by decide, by decide⟩ rfl hl (Nat.le_of_ble_eq_true rfl) d_Da_tear_9 ⟨by decide, by decide⟩ (kI (fun r9 H locs hQ _ hS => ?_))
  obtain ⟨rfl, hR⟩ := hQ
  refine lv_if_ne (tgt := 23) hx hb d_Da_tear_12 (by decide) (fun h12 => ?_) (fun h12 => ?_)
  · have h12 := bI_n0.mp h12
    refine lv_aload_n hx hb d_Da_tear_23 rfl (lv_at hl 0 rfl) ?_
    refine g_callS (As := [.ref (B + (9 + 9 * c))]) (rest := []) (A0 := FC B D0) V (c_Da_needUp C hB σ τ c hc hu) v_Da_73 hR hS hA (fun _ h => h) ⟨by decide, by decide⟩ rfl hl (Nat.le_of_ble_eq_true rfl) d_Da_tear_24 ⟨by decide, by decide⟩ (kV (fun H locs hR _ hS => ?_))
    refine lv_aload_n hx hb d_Da_tear_27 rfl (lv_at hl 0 rfl) ?_
    refine lv_aload_n hx hb d_Da_tear_28 rfl (lv_at hl 1 rfl) ?_
    refine g_Da_10 V hR.2.1.1 rfl d_Da_tear_29 ?_
    refine g_callV (As := [.ref (B + 1)]) (rest := []) (A0 := FC B D0) V (c_Ct_writesNext C hB σ τ c hc a ha ha3) v_Da_91 (hR.rCt V.2.2.2.2.2.1 hc) hR hS hA (fun _ h => h) ⟨by decide, by decide⟩ rfl hl (Nat.le_of_ble_eq_true rfl) d_Da_tear_32 ⟨by decide, by decide⟩ (kI (fun r32 H locs hQ _ hS => ?_))
    obtain ⟨rfl, hR⟩ := hQ
    refine lv_if_ne (tgt := 40) hx hb d_Da_tear_35 (by decide) (fun h35 => ?_) (fun h35 => ?_)
    · have h35 := bI_n0.mp h35
      refine lv_aload_n hx hb d_Da_tear_40 rfl (lv_at hl 0 rfl) ?_
      refine lv_aload_n hx hb d_Da_tear_41 rfl (lv_at hl 1 rfl) ?_
      refine g_Da_10 V hR.2.1.1 rfl d_Da_tear_42 ?_
      refine lv_aload_n hx hb d_Da_tear_45 rfl (lv_at hl 0 rfl) ?_
      refine g_Da_95 V (hR.2.2.2 _ hc).1 rfl d_Da_tear_46 ?_
      refine lv_tope (y := nI a) ha ?_
      refine c_dsk V hR (a) rfl ha3 d_Da_tear_49 ?_
      refine lv_iload_n hx hb d_Da_tear_50 rfl (lv_at hl 3 rfl) ?_
      refine g_callVN (As := [.ref (B + (2 + 2 * a)), .int (5)]) (rest := []) (A0 := FC B D0) V (c_Ct_write C hB σ τ c hc a ha3 q hq hq4) v_Da_98 (hR.rCt V.2.2.2.2.2.1 hc) hR hS hA (fun _ h => h) ⟨by decide, by decide⟩ rfl hl (Nat.le_of_ble_eq_true rfl) d_Da_tear_51 ⟨by decide, by decide⟩ (kV (fun H locs hR _ hS => ?_))
      refine lv_goto (tgt := 64) hx hb d_Da_tear_54 (by decide) ?_
      refine lv_aload_n hx hb d_Da_tear_64 rfl (lv_at hl 0 rfl) ?_
      refine lv_iconst (v := 0) hx hb d_Da_tear_65 (by decide) ?_
      refine q_Da_32 V hR hS hF hc (by decide) d_Da_tear_66 (fun H locs hR hS => ?_)
      refine lv_iconst (v := 1) hx hb d_Da_tear_69 (by decide) ?_
      exact e_z V hr hlk hS (by decide) (by decide) d_Da_tear_70 (by decide) ⟨_, rfl, rfl, hR⟩
    · exact absurd ((bI_0.mp h35).symm.trans hn1) (by decide)
  · exact absurd (bI_0.mp h12) (by decide)
