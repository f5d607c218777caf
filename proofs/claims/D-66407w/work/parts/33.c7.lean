theorem d_Da_log_0 : decode b_Da_log 0 = .ok (.aload_n 0, 1) := by decide +kernel
theorem d_Da_log_1 : decode b_Da_log 1 = .ok (.iload_n 1, 1) := by decide +kernel
theorem d_Da_log_2 : decode b_Da_log 2 = .ok (.invokevirtual 39, 3) := by decide +kernel
set_option maxHeartbeats 4000000 in
set_option maxRecDepth 100000 in
theorem t_Da_log_bad {l : Launch} {G : Gx} {s0 : State} (hfl : l.flags = pinnedFlags ++ [noTraceFlag]) (C : Cx G s0) (C0 : Ts0 s0) {B D0 ea : Nat} (hB : s0.heap.size ≤ B) (σ : Sg) (τ : Tt) (x : Int32) (hx1 : one x = false) : CtT l s0 (FC B D0) 2 1 6 y_Da_log (.code y_Da_log b_Da_log 2 (some .int)) [.ref (B), .int (x)] (RepC G B D0 ea σ τ) "java/lang/IndexOutOfBoundsException" (RepC G B D0 ea σ τ) := by
  refine CtT.of C cdw_code (by decide) (Nat.le_of_ble_eq_true rfl) ?_
  intro pg ev s mm below meth cd V hr hlk ht hR ls hl
  have hx := V.1
  have hb := V.2.1
  have hS : va_S (FC B D0) s.heap s.heap [] := va_S.rf
  have hF : ∀ q, FC B D0 q → FC B D0 q := fun _ h => h
  have hA : ∀ q, FC B D0 q → s0.heap.size ≤ q := fun q h => by have := hR.1; rcases h with h | h <;> omega
  have hl : lv_has ls 2 [(0, .ref (B)), (1, .int (x))] := hl
  refine lv_aload_n hx hb d_Da_log_0 rfl (lv_at hl 0 rfl) ?_
  refine lv_iload_n hx hb d_Da_log_1 rfl (lv_at hl 1 rfl) ?_
  refine t_callV (n := 1) (As := [.int (x)]) (rest := []) (A0 := FC B D0) V (t_Da_found hfl C C0 hB σ τ (x) hx1) cdw_code ⟨List.mem_of_getElem? (i := 317) (by decide +kernel), rfl⟩ (List.mem_of_getElem? (i := 29) (by decide +kernel)) (List.mem_of_getElem? (i := 314) (by decide +kernel)) ⟨List.mem_of_getElem? (i := 316) (by decide +kernel), List.mem_of_getElem? (i := 1) (by decide +kernel)⟩ ⟨by decide, by decide, by decide +kernel⟩ (hR.rDa V.2.2.2.2.2.1) hR hS hA (fun _ h => h) ⟨by decide, by decide⟩ rfl hl (Nat.le_of_ble_eq_true rfl) d_Da_log_2 ⟨by decide, by decide⟩ (fun x H locs hex hR _ hS => ?_)
  exact wt_leave hlk (out_of ht (by decide)) hS (by decide) (by decide) hex hR
theorem d_Da_log_5 : decode b_Da_log 5 = .ok (.getfield 77, 3) := by decide +kernel
theorem d_Da_log_8 : decode b_Da_log 8 = .ok (.ireturn, 1) := by decide +kernel
set_option maxHeartbeats 4000000 in
set_option maxRecDepth 100000 in
theorem c_Da_log {l : Launch} {G : Gx} {s0 : State} (C : Cx G s0) {B D0 ea : Nat} (hB : s0.heap.size ≤ B) (σ : Sg) (τ : Tt) (c : Nat) (hc : c < 3) : Ct l s0 (FC B D0) 2 0 0 y_Da_log b_Da_log 2 (some .int) [.ref (B), .int (nI c)] (RepC G B D0 ea σ τ) (pI (fun r H => r = σ 4 c ∧ RepC G B D0 ea σ τ H)) := by
  refine Ct.of C (by decide) (Nat.le_of_ble_eq_true rfl) ?_
  intro pg ev s mm below meth cd V hr hlk hn hR ls hl
  have hx := V.1
  have hb := V.2.1
  have hS : va_S (FC B D0) s.heap s.heap [] := va_S.rf
  have hF : ∀ q, FC B D0 q → FC B D0 q := fun _ h => h
  have hA : ∀ q, FC B D0 q → s0.heap.size ≤ q := fun q h => by have := hR.1; rcases h with h | h <;> omega
  have hl : lv_has ls 2 [(0, .ref (B)), (1, .int (nI c))] := hl
  refine lv_aload_n hx hb d_Da_log_0 rfl (lv_at hl 0 rfl) ?_
  refine lv_iload_n hx hb d_Da_log_1 rfl (lv_at hl 1 rfl) ?_
  refine g_callV (As := [.int (nI c)]) (rest := []) (A0 := FC B D0) V (c_Da_found C hB σ τ c hc) v_Da_39 (hR.rDa V.2.2.2.2.2.1) hR hS hA (fun _ h => h) ⟨by decide, by decide⟩ rfl hl (Nat.le_of_ble_eq_true rfl) d_Da_log_2 ⟨Nat.le_refl _, Nat.le_refl _⟩ (kA (fun r2 H locs hQ _ hS => ?_))
  obtain ⟨rfl, hR⟩ := hQ
  refine g_Da_77 V (hR.2.2.2 _ hc).1 rfl d_Da_log_5 ?_
  exact e_i V hr hlk hS (Nat.le_refl _) (Nat.le_refl _) d_Da_log_8 ⟨_, rfl, rfl, hR⟩
theorem d_Da_round_0 : decode b_Da_round 0 = .ok (.aload_n 0, 1) := by decide +kernel
theorem d_Da_round_1 : decode b_Da_round 1 = .ok (.iload_n 1, 1) := by decide +kernel
theorem d_Da_round_2 : decode b_Da_round 2 = .ok (.invokevirtual 39, 3) := by decide +kernel
set_option maxHeartbeats 4000000 in
set_option maxRecDepth 100000 in
theorem t_Da_round_bad {l : Launch} {G : Gx} {s0 : State} (hfl : l.flags = pinnedFlags ++ [noTraceFlag]) (C : Cx G s0) (C0 : Ts0 s0) {B D0 ea : Nat} (hB : s0.heap.size ≤ B) (σ : Sg) (τ : Tt) (x : Int32) (hx1 : one x = false) : CtT l s0 (FC B D0) 2 1 6 y_Da_round (.code y_Da_round b_Da_round 2 (some .int)) [.ref (B), .int (x)] (RepC G B D0 ea σ τ) "java/lang/IndexOutOfBoundsException" (RepC G B D0 ea σ τ) := by
  refine CtT.of C cdw_code (by decide) (Nat.le_of_ble_eq_true rfl) ?_
  intro pg ev s mm below meth cd V hr hlk ht hR ls hl
  have hx := V.1
  have hb := V.2.1
  have hS : va_S (FC B D0) s.heap s.heap [] := va_S.rf
  have hF : ∀ q, FC B D0 q → FC B D0 q := fun _ h => h
  have hA : ∀ q, FC B D0 q → s0.heap.size ≤ q := fun q h => by have := hR.1; rcases h with h | h <;> omega
  have hl : lv_has ls 2 [(0, .ref (B)), (1, .int (x))] := hl
  refine lv_aload_n hx hb d_Da_round_0 rfl (lv_at hl 0 rfl) ?_
  refine lv_iload_n hx hb d_Da_round_1 rfl (lv_at hl 1 rfl) ?_
  refine t_callV (n := 1) (As := [.int (x)]) (rest := []) (A0 := FC B D0) V (t_Da_found hfl C C0 hB σ τ (x) hx1) cdw_code ⟨List.mem_of_getElem? (i := 317) (by decide +kernel), rfl⟩ (List.mem_of_getElem? (i := 29) (by decide +kernel)) (List.mem_of_getElem? (i := 314) (by decide +kernel)) ⟨List.mem_of_getElem? (i := 316) (by decide +kernel), List.mem_of_getElem? (i := 1) (by decide +kernel)⟩ ⟨by decide, by decide, by decide +kernel⟩ (hR.rDa V.2.2.2.2.2.1) hR hS hA (fun _ h => h) ⟨by decide, by decide⟩ rfl hl (Nat.le_of_ble_eq_true rfl) d_Da_round_2 ⟨by decide, by decide⟩ (fun x H locs hex hR _ hS => ?_)
  exact wt_leave hlk (out_of ht (by decide)) hS (by decide) (by decide) hex hR
theorem d_Da_round_5 : decode b_Da_round 5 = .ok (.getfield 147, 3) := by decide +kernel
theorem d_Da_round_8 : decode b_Da_round 8 = .ok (.ireturn, 1) := by decide +kernel
set_option maxHeartbeats 4000000 in
set_option maxRecDepth 100000 in
theorem c_Da_round {l : Launch} {G : Gx} {s0 : State} (C : Cx G s0) {B D0 ea : Nat} (hB : s0.heap.size ≤ B) (σ : Sg) (τ : Tt) (c : Nat) (hc : c < 3) : Ct l s0 (FC B D0) 2 0 0 y_Da_round b_Da_round 2 (some .int) [.ref (B), .int (nI c)] (RepC G B D0 ea σ τ) (pI (fun r H => r = σ 8 c ∧ RepC G B D0 ea σ τ H)) := by
  refine Ct.of C (by decide) (Nat.le_of_ble_eq_true rfl) ?_
  intro pg ev s mm below meth cd V hr hlk hn hR ls hl
  have hx := V.1
  have hb := V.2.1
  have hS : va_S (FC B D0) s.heap s.heap [] := va_S.rf
  have hF : ∀ q, FC B D0 q → FC B D0 q := fun _ h => h
  have hA : ∀ q, FC B D0 q → s0.heap.size ≤ q := fun q h => by have := hR.1; rcases h with h | h <;> omega
  have hl : lv_has ls 2 [(0, .ref (B)), (1, .int (nI c))] := hl
  refine lv_aload_n hx hb d_Da_round_0 rfl (lv_at hl 0 rfl) ?_
  refine lv_iload_n hx hb d_Da_round_1 rfl (lv_at hl 1 rfl) ?_
  refine g_callV (As := [.int (nI c)]) (rest := []) (A0 := FC B D0) V (c_Da_found C hB σ τ c hc) v_Da_39 (hR.rDa V.2.2.2.2.2.1) hR hS hA (fun _ h => h) ⟨by decide, by decide⟩ rfl hl (Nat.le_of_ble_eq_true rfl) d_Da_round_2 ⟨Nat.le_refl _, Nat.le_refl _⟩ (kA (fun r2 H locs hQ _ hS => ?_))
  obtain ⟨rfl, hR⟩ := hQ
  refine g_Da_147 V (hR.2.2.2 _ hc).1 rfl d_Da_round_5 ?_
  exact e_i V hr hlk hS (Nat.le_refl _) (Nat.le_refl _) d_Da_round_8 ⟨_, rfl, rfl, hR⟩
theorem d_Da_accesses_0 : decode b_Da_accesses 0 = .ok (.aload_n 0, 1) := by decide +kernel
theorem d_Da_accesses_1 : decode b_Da_accesses 1 = .ok (.iload_n 1, 1) := by decide +kernel
theorem d_Da_accesses_2 : decode b_Da_accesses 2 = .ok (.invokevirtual 39, 3) := by decide +kernel
set_option maxHeartbeats 4000000 in
set_option maxRecDepth 100000 in
theorem t_Da_accesses_bad {l : Launch} {G : Gx} {s0 : State} (hfl : l.flags = pinnedFlags ++ [noTraceFlag]) (C : Cx G s0) (C0 : Ts0 s0) {B D0 ea : Nat} (hB : s0.heap.size ≤ B) (σ : Sg) (τ : Tt) (x : Int32) (hx1 : one x = false) : CtT l s0 (FC B D0) 2 1 6 y_Da_accesses (.code y_Da_accesses b_Da_accesses 2 (some .int)) [.ref (B), .int (x)] (RepC G B D0 ea σ τ) "java/lang/IndexOutOfBoundsException" (RepC G B D0 ea σ τ) := by
  refine CtT.of C cdw_code (by decide) (Nat.le_of_ble_eq_true rfl) ?_
  intro pg ev s mm below meth cd V hr hlk ht hR ls hl
  have hx := V.1
  have hb := V.2.1
  have hS : va_S (FC B D0) s.heap s.heap [] := va_S.rf
  have hF : ∀ q, FC B D0 q → FC B D0 q := fun _ h => h
  have hA : ∀ q, FC B D0 q → s0.heap.size ≤ q := fun q h => by have := hR.1; rcases h with h | h <;> omega
  have hl : lv_has ls 2 [(0, .ref (B)), (1, .int (x))] := hl
  refine lv_aload_n hx hb d_Da_accesses_0 rfl (lv_at hl 0 rfl) ?_
  refine lv_iload_n hx hb d_Da_accesses_1 rfl (lv_at hl 1 rfl) ?_
  refine t_callV (n := 1) (As := [.int (x)]) (rest := []) (A0 := FC B D0) V (t_Da_found hfl C C0 hB σ τ (x) hx1) cdw_code ⟨List.mem_of_getElem? (i := 317) (by decide +kernel), rfl⟩ (List.mem_of_getElem? (i := 29) (by decide +kernel)) (List.mem_of_getElem? (i := 314) (by decide +kernel)) ⟨List.mem_of_getElem? (i := 316) (by decide +kernel), List.mem_of_getElem? (i := 1) (by decide +kernel)⟩ ⟨by decide, by decide, by decide +kernel⟩ (hR.rDa V.2.2.2.2.2.1) hR hS hA (fun _ h => h) ⟨by decide, by decide⟩ rfl hl (Nat.le_of_ble_eq_true rfl) d_Da_accesses_2 ⟨by decide, by decide⟩ (fun x H locs hex hR _ hS => ?_)
  exact wt_leave hlk (out_of ht (by decide)) hS (by decide) (by decide) hex hR
theorem d_Da_accesses_5 : decode b_Da_accesses 5 = .ok (.getfield 162, 3) := by decide +kernel
theorem d_Da_accesses_8 : decode b_Da_accesses 8 = .ok (.ireturn, 1) := by decide +kernel
set_option maxHeartbeats 4000000 in
set_option maxRecDepth 100000 in
theorem c_Da_accesses {l : Launch} {G : Gx} {s0 : State} (C : Cx G s0) {B D0 ea : Nat} (hB : s0.heap.size ≤ B) (σ : Sg) (τ : Tt) (c : Nat) (hc : c < 3) : Ct l s0 (FC B D0) 2 0 0 y_Da_accesses b_Da_accesses 2 (some .int) [.ref (B), .int (nI c)] (RepC G B D0 ea σ τ) (pI (fun r H => r = σ 20 c ∧ RepC G B D0 ea σ τ H)) := by
  refine Ct.of C (by decide) (Nat.le_of_ble_eq_true rfl) ?_
  intro pg ev s mm below meth cd V hr hlk hn hR ls hl
  have hx := V.1
  have hb := V.2.1
  have hS : va_S (FC B D0) s.heap s.heap [] := va_S.rf
  have hF : ∀ q, FC B D0 q → FC B D0 q := fun _ h => h
  have hA : ∀ q, FC B D0 q → s0.heap.size ≤ q := fun q h => by have := hR.1; rcases h with h | h <;> omega
  have hl : lv_has ls 2 [(0, .ref (B)), (1, .int (nI c))] := hl
  refine lv_aload_n hx hb d_Da_accesses_0 rfl (lv_at hl 0 rfl) ?_
  refine lv_iload_n hx hb d_Da_accesses_1 rfl (lv_at hl 1 rfl) ?_
  refine g_callV (As := [.int (nI c)]) (rest := []) (A0 := FC B D0) V (c_Da_found C hB σ τ c hc) v_Da_39 (hR.rDa V.2.2.2.2.2.1) hR hS hA (fun _ h => h) ⟨by decide, by decide⟩ rfl hl (Nat.le_of_ble_eq_true rfl) d_Da_accesses_2 ⟨Nat.le_refl _, Nat.le_refl _⟩ (kA (fun r2 H locs hQ _ hS => ?_))
  obtain ⟨rfl, hR⟩ := hQ
  refine g_Da_162 V (hR.2.2.2 _ hc).1 rfl d_Da_accesses_5 ?_
  exact e_i V hr hlk hS (Nat.le_refl _) (Nat.le_refl _) d_Da_accesses_8 ⟨_, rfl, rfl, hR⟩
theorem d_Da_phase_0 : decode b_Da_phase 0 = .ok (.aload_n 0, 1) := by decide +kernel
theorem d_Da_phase_1 : decode b_Da_phase 1 = .ok (.iload_n 1, 1) := by decide +kernel
theorem d_Da_phase_2 : decode b_Da_phase 2 = .ok (.invokevirtual 39, 3) := by decide +kernel
set_option maxHeartbeats 4000000 in
set_option maxRecDepth 100000 in
theorem t_Da_phase_bad {l : Launch} {G : Gx} {s0 : State} (hfl : l.flags = pinnedFlags ++ [noTraceFlag]) (C : Cx G s0) (C0 : Ts0 s0) {B D0 ea : Nat} (hB : s0.heap.size ≤ B) (σ : Sg) (τ : Tt) (x : Int32) (hx1 : one x = false) : CtT l s0 (FC B D0) 2 1 6 y_Da_phase (.code y_Da_phase b_Da_phase 3 (some .int)) [.ref (B), .int (x)] (RepC G B D0 ea σ τ) "java/lang/IndexOutOfBoundsException" (RepC G B D0 ea σ τ) := by
  refine CtT.of C cdw_code (by decide) (Nat.le_of_ble_eq_true rfl) ?_
  intro pg ev s mm below meth cd V hr hlk ht hR ls hl
  have hx := V.1
  have hb := V.2.1
  have hS : va_S (FC B D0) s.heap s.heap [] := va_S.rf
  have hF : ∀ q, FC B D0 q → FC B D0 q := fun _ h => h
  have hA : ∀ q, FC B D0 q → s0.heap.size ≤ q := fun q h => by have := hR.1; rcases h with h | h <;> omega
  have hl : lv_has ls 3 [(0, .ref (B)), (1, .int (x))] := hl
  refine lv_aload_n hx hb d_Da_phase_0 rfl (lv_at hl 0 rfl) ?_
  refine lv_iload_n hx hb d_Da_phase_1 rfl (lv_at hl 1 rfl) ?_
  refine t_callV (n := 1) (As := [.int (x)]) (rest := []) (A0 := FC B D0) V (t_Da_found hfl C C0 hB σ τ (x) hx1) cdw_code ⟨List.mem_of_getElem? (i := 317) (by decide +kernel), rfl⟩ (List.mem_of_getElem? (i := 29) (by decide +kernel)) (List.mem_of_getElem? (i := 314) (by decide +kernel)) ⟨List.mem_of_getElem? (i := 316) (by decide +kernel), List.mem_of_getElem? (i := 1) (by decide +kernel)⟩ ⟨by decide, by decide, by decide +kernel⟩ (hR.rDa V.2.2.2.2.2.1) hR hS hA (fun _ h => h) ⟨by decide, by decide⟩ rfl hl (Nat.le_of_ble_eq_true rfl) d_Da_phase_2 ⟨by decide, by decide⟩ (fun x H locs hex hR _ hS => ?_)
  exact wt_leave hlk (out_of ht (by decide)) hS (by decide) (by decide) hex hR
theorem d_Da_phase_5 : decode b_Da_phase 5 = .ok (.astore_n 2, 1) := by decide +kernel
theorem d_Da_phase_6 : decode b_Da_phase 6 = .ok (.aload_n 2, 1) := by decide +kernel
theorem d_Da_phase_7 : decode b_Da_phase 7 = .ok (.getfield 32, 3) := by decide +kernel
theorem d_Da_phase_10 : decode b_Da_phase 10 = .ok (.ifCond .eq 10, 3) := by decide +kernel
theorem d_Da_phase_13 : decode b_Da_phase 13 = .ok (.aload_n 2, 1) := by decide +kernel
theorem d_Da_phase_14 : decode b_Da_phase 14 = .ok (.getfield 144, 3) := by decide +kernel
theorem d_Da_phase_17 : decode b_Da_phase 17 = .ok (.goto 4, 3) := by decide +kernel
theorem d_Da_phase_20 : decode b_Da_phase 20 = .ok (.iconst (-1), 1) := by decide +kernel
theorem d_Da_phase_21 : decode b_Da_phase 21 = .ok (.ireturn, 1) := by decide +kernel
set_option maxHeartbeats 4000000 in
set_option maxRecDepth 100000 in
theorem c_Da_phase {l : Launch} {G : Gx} {s0 : State} (C : Cx G s0) {B D0 ea : Nat} (hB : s0.heap.size ≤ B) (σ : Sg) (τ : Tt) (c : Nat) (hc : c < 3) : Ct l s0 (FC B D0) 2 0 0 y_Da_phase b_Da_phase 3 (some .int) [.ref (B), .int (nI c)] (RepC G B D0 ea σ τ) (pI (fun r H => r = (if σ 26 c = 0 then -1 else σ 12 c) ∧ RepC G B D0 ea σ τ H)) := by
  refine Ct.of C (by decide) (Nat.le_of_ble_eq_true rfl) ?_
  intro pg ev s mm below meth cd V hr hlk hn hR ls hl
  have hx := V.1
  have hb := V.2.1
  have hS : va_S (FC B D0) s.heap s.heap [] := va_S.rf
  have hF : ∀ q, FC B D0 q → FC B D0 q := fun _ h => h
  have hA : ∀ q, FC B D0 q → s0.heap.size ≤ q := fun q h => by have := hR.1; rcases h with h | h <;> omega
  have hl : lv_has ls 3 [(0, .ref (B)), (1, .int (nI c))] := hl
  refine lv_aload_n hx hb d_Da_phase_0 rfl (lv_at hl 0 rfl) ?_
  refine lv_iload_n hx hb d_Da_phase_1 rfl (lv_at hl 1 rfl) ?_
  refine g_callV (As := [.int (nI c)]) (rest := []) (A0 := FC B D0) V (c_Da_found C hB σ τ c hc) v_Da_39 (hR.rDa V.2.2.2.2.2.1) hR hS hA (fun _ h => h) ⟨by decide, by decide⟩ rfl hl (Nat.le_of_ble_eq_true rfl) d_Da_phase_2 ⟨Nat.le_refl _, Nat.le_refl _⟩ (kA (fun r2 H locs hQ _ hS => ?_))
  obtain ⟨rfl, hR⟩ := hQ
  refine lv_astore_n (lv' := [(2, .ref (B + (9 + 9 * c))), (0, .ref (B)), (1, .int (nI c))]) hx hb d_Da_phase_5 rfl hl (by decide) rfl (fun ls hl => ?_)
  refine lv_aload_n hx hb d_Da_phase_6 rfl (lv_at hl 0 rfl) ?_
  refine g_Da_32 V (hR.2.2.2 _ hc).1 rfl d_Da_phase_7 ?_
  refine lv_if_eq (tgt := 20) hx hb d_Da_phase_10 (by decide) (fun h10 => ?_) (fun h10 => ?_)
  · refine lv_iconst (v := -1) hx hb d_Da_phase_20 (by decide) ?_
    exact e_i V hr hlk hS (Nat.le_refl _) (Nat.le_refl _) d_Da_phase_21 ⟨_, rfl, by simp [h10], hR⟩
  · refine lv_aload_n hx hb d_Da_phase_13 rfl (lv_at hl 0 rfl) ?_
    refine g_Da_144 V (hR.2.2.2 _ hc).1 rfl d_Da_phase_14 ?_
    refine lv_goto (tgt := 21) hx hb d_Da_phase_17 (by decide) ?_
    exact e_i V hr hlk hS (Nat.le_refl _) (Nat.le_refl _) d_Da_phase_21 ⟨_, rfl, by simp [h10], hR⟩
theorem d_Da_vote_0 : decode b_Da_vote 0 = .ok (.aload_n 0, 1) := by decide +kernel
theorem d_Da_vote_1 : decode b_Da_vote 1 = .ok (.iload_n 1, 1) := by decide +kernel
theorem d_Da_vote_2 : decode b_Da_vote 2 = .ok (.invokevirtual 39, 3) := by decide +kernel
set_option maxHeartbeats 4000000 in
set_option maxRecDepth 100000 in
theorem t_Da_vote_bad {l : Launch} {G : Gx} {s0 : State} (hfl : l.flags = pinnedFlags ++ [noTraceFlag]) (C : Cx G s0) (C0 : Ts0 s0) {B D0 ea : Nat} (hB : s0.heap.size ≤ B) (σ : Sg) (τ : Tt) (x : Int32) (hx1 : one x = false) (b : Int32) : CtT l s0 (FC B D0) 2 1 6 y_Da_vote (.code y_Da_vote b_Da_vote 4 (some .int)) [.ref (B), .int (x), .int (b)] (RepC G B D0 ea σ τ) "java/lang/IndexOutOfBoundsException" (RepC G B D0 ea σ τ) := by
  refine CtT.of C cdw_code (by decide) (Nat.le_of_ble_eq_true rfl) ?_
  intro pg ev s mm below meth cd V hr hlk ht hR ls hl
  have hx := V.1
  have hb := V.2.1
  have hS : va_S (FC B D0) s.heap s.heap [] := va_S.rf
  have hF : ∀ q, FC B D0 q → FC B D0 q := fun _ h => h
  have hA : ∀ q, FC B D0 q → s0.heap.size ≤ q := fun q h => by have := hR.1; rcases h with h | h <;> omega
  have hl : lv_has ls 4 [(0, .ref (B)), (1, .int (x)), (2, .int (b))] := hl
  refine lv_aload_n hx hb d_Da_vote_0 rfl (lv_at hl 0 rfl) ?_
  refine lv_iload_n hx hb d_Da_vote_1 rfl (lv_at hl 1 rfl) ?_
  refine t_callV (n := 1) (As := [.int (x)]) (rest := []) (A0 := FC B D0) V (t_Da_found hfl C C0 hB σ τ (x) hx1) cdw_code ⟨List.mem_of_getElem? (i := 317) (by decide +kernel), rfl⟩ (List.mem_of_getElem? (i := 29) (by decide +kernel)) (List.mem_of_getElem? (i := 314) (by decide +kernel)) ⟨List.mem_of_getElem? (i := 316) (by decide +kernel), List.mem_of_getElem? (i := 1) (by decide +kernel)⟩ ⟨by decide, by decide, by decide +kernel⟩ (hR.rDa V.2.2.2.2.2.1) hR hS hA (fun _ h => h) ⟨by decide, by decide⟩ rfl hl (Nat.le_of_ble_eq_true rfl) d_Da_vote_2 ⟨by decide, by decide⟩ (fun x H locs hex hR _ hS => ?_)
  exact wt_leave hlk (out_of ht (by decide)) hS (by decide) (by decide) hex hR
theorem d_Da_vote_5 : decode b_Da_vote 5 = .ok (.astore_n 3, 1) := by decide +kernel
theorem d_Da_vote_6 : decode b_Da_vote 6 = .ok (.iload_n 2, 1) := by decide +kernel
theorem d_Da_vote_7 : decode b_Da_vote 7 = .ok (.ifCond .eq 10, 3) := by decide +kernel
theorem d_Da_vote_10 : decode b_Da_vote 10 = .ok (.aload_n 3, 1) := by decide +kernel
theorem d_Da_vote_11 : decode b_Da_vote 11 = .ok (.getfield 150, 3) := by decide +kernel
theorem d_Da_vote_14 : decode b_Da_vote 14 = .ok (.goto 7, 3) := by decide +kernel
theorem d_Da_vote_17 : decode b_Da_vote 17 = .ok (.aload_n 3, 1) := by decide +kernel
theorem d_Da_vote_18 : decode b_Da_vote 18 = .ok (.getfield 153, 3) := by decide +kernel
theorem d_Da_vote_21 : decode b_Da_vote 21 = .ok (.ireturn, 1) := by decide +kernel
set_option maxHeartbeats 4000000 in
set_option maxRecDepth 100000 in
theorem c_Da_vote {l : Launch} {G : Gx} {s0 : State} (C : Cx G s0) {B D0 ea : Nat} (hB : s0.heap.size ≤ B) (σ : Sg) (τ : Tt) (c : Nat) (hc : c < 3) (b : Int32) : Ct l s0 (FC B D0) 2 0 0 y_Da_vote b_Da_vote 4 (some .int) [.ref (B), .int (nI c), .int (b)] (RepC G B D0 ea σ τ) (pI (fun r H => r = (if b = 0 then σ 9 c else σ 10 c) ∧ RepC G B D0 ea σ τ H)) := by
  refine Ct.of C (by decide) (Nat.le_of_ble_eq_true rfl) ?_
  intro pg ev s mm below meth cd V hr hlk hn hR ls hl
  have hx := V.1
  have hb := V.2.1
  have hS : va_S (FC B D0) s.heap s.heap [] := va_S.rf
  have hF : ∀ q, FC B D0 q → FC B D0 q := fun _ h => h
  have hA : ∀ q, FC B D0 q → s0.heap.size ≤ q := fun q h => by have := hR.1; rcases h with h | h <;> omega
  have hl : lv_has ls 4 [(0, .ref (B)), (1, .int (nI c)), (2, .int (b))] := hl
  refine lv_aload_n hx hb d_Da_vote_0 rfl (lv_at hl 0 rfl) ?_
  refine lv_iload_n hx hb d_Da_vote_1 rfl (lv_at hl 1 rfl) ?_
  refine g_callV (As := [.int (nI c)]) (rest := []) (A0 := FC B D0) V (c_Da_found C hB σ τ c hc) v_Da_39 (hR.rDa V.2.2.2.2.2.1) hR hS hA (fun _ h => h) ⟨by decide, by decide⟩ rfl hl (Nat.le_of_ble_eq_true rfl) d_Da_vote_2 ⟨Nat.le_refl _, Nat.le_refl _⟩ (kA (fun r2 H locs hQ _ hS => ?_))
  obtain ⟨rfl, hR⟩ := hQ
  refine lv_astore_n (lv' := [(3, .ref (B + (9 + 9 * c))), (0, .ref (B)), (1, .int (nI c)), (2, .int (b))]) hx hb d_Da_vote_5 rfl hl (by decide) rfl (fun ls hl => ?_)
  refine lv_iload_n hx hb d_Da_vote_6 rfl (lv_at hl 3 rfl) ?_
  refine lv_if_eq (tgt := 17) hx hb d_Da_vote_7 (by decide) (fun h7 => ?_) (fun h7 => ?_)
  · refine lv_aload_n hx hb d_Da_vote_17 rfl (lv_at hl 0 rfl) ?_
    refine g_Da_153 V (hR.2.2.2 _ hc).1 rfl d_Da_vote_18 ?_
    exact e_i V hr hlk hS (Nat.le_refl _) (Nat.le_refl _) d_Da_vote_21 ⟨_, rfl, by simp [h7], hR⟩
  · refine lv_aload_n hx hb d_Da_vote_10 rfl (lv_at hl 0 rfl) ?_
    refine g_Da_150 V (hR.2.2.2 _ hc).1 rfl d_Da_vote_11 ?_
    refine lv_goto (tgt := 21) hx hb d_Da_vote_14 (by decide) ?_
    exact e_i V hr hlk hS (Nat.le_refl _) (Nat.le_refl _) d_Da_vote_21 ⟨_, rfl, by simp [h7], hR⟩
theorem d_Da_crash_0 : decode b_Da_crash 0 = .ok (.aload_n 0, 1) := by decide +kernel
theorem d_Da_crash_1 : decode b_Da_crash 1 = .ok (.iload_n 1, 1) := by decide +kernel
theorem d_Da_crash_2 : decode b_Da_crash 2 = .ok (.invokevirtual 39, 3) := by decide +kernel
set_option maxHeartbeats 4000000 in
set_option maxRecDepth 100000 in
theorem t_Da_crash_bad {l : Launch} {G : Gx} {s0 : State} (hfl : l.flags = pinnedFlags ++ [noTraceFlag]) (C : Cx G s0) (C0 : Ts0 s0) {B D0 ea : Nat} (hB : s0.heap.size ≤ B) (σ : Sg) (τ : Tt) (x : Int32) (hx1 : one x = false) : CtT l s0 (FC B D0) 2 1 6 y_Da_crash (.code y_Da_crash b_Da_crash 4 (some .boolean)) [.ref (B), .int (x)] (RepC G B D0 ea σ τ) "java/lang/IndexOutOfBoundsException" (RepC G B D0 ea σ τ) := by
  refine CtT.of C cdw_code (by decide) (Nat.le_of_ble_eq_true rfl) ?_
  intro pg ev s mm below meth cd V hr hlk ht hR ls hl
  have hx := V.1
  have hb := V.2.1
  have hS : va_S (FC B D0) s.heap s.heap [] := va_S.rf
  have hF : ∀ q, FC B D0 q → FC B D0 q := fun _ h => h
  have hA : ∀ q, FC B D0 q → s0.heap.size ≤ q := fun q h => by have := hR.1; rcases h with h | h <;> omega
  have hl : lv_has ls 4 [(0, .ref (B)), (1, .int (x))] := hl
  refine lv_aload_n hx hb d_Da_crash_0 rfl (lv_at hl 0 rfl) ?_
  refine lv_iload_n hx hb d_Da_crash_1 rfl (lv_at hl 1 rfl) ?_
  refine t_callV (n := 1) (As := [.int (x)]) (rest := []) (A0 := FC B D0) V (t_Da_found hfl C C0 hB σ τ (x) hx1) cdw_code ⟨List.mem_of_getElem? (i := 317) (by decide +kernel), rfl⟩ (List.mem_of_getElem? (i := 29) (by decide +kernel)) (List.mem_of_getElem? (i := 314) (by decide +kernel)) ⟨List.mem_of_getElem? (i := 316) (by decide +kernel), List.mem_of_getElem? (i := 1) (by decide +kernel)⟩ ⟨by decide, by decide, by decide +kernel⟩ (hR.rDa V.2.2.2.2.2.1) hR hS hA (fun _ h => h) ⟨by decide, by decide⟩ rfl hl (Nat.le_of_ble_eq_true rfl) d_Da_crash_2 ⟨by decide, by decide⟩ (fun x H locs hex hR _ hS => ?_)
  exact wt_leave hlk (out_of ht (by decide)) hS (by decide) (by decide) hex hR
theorem d_Da_crash_5 : decode b_Da_crash 5 = .ok (.astore_n 2, 1) := by decide +kernel
theorem d_Da_crash_6 : decode b_Da_crash 6 = .ok (.aload_n 2, 1) := by decide +kernel
theorem d_Da_crash_7 : decode b_Da_crash 7 = .ok (.getfield 32, 3) := by decide +kernel
theorem d_Da_crash_10 : decode b_Da_crash 10 = .ok (.istore_n 3, 1) := by decide +kernel
theorem d_Da_crash_11 : decode b_Da_crash 11 = .ok (.aload_n 2, 1) := by decide +kernel
theorem d_Da_crash_12 : decode b_Da_crash 12 = .ok (.iconst 0, 1) := by decide +kernel
theorem d_Da_crash_13 : decode b_Da_crash 13 = .ok (.putfield 32, 3) := by decide +kernel
theorem d_Da_crash_16 : decode b_Da_crash 16 = .ok (.iload_n 3, 1) := by decide +kernel
theorem d_Da_crash_17 : decode b_Da_crash 17 = .ok (.ireturn, 1) := by decide +kernel
set_option maxHeartbeats 4000000 in
set_option maxRecDepth 100000 in
theorem c_Da_crash {l : Launch} {G : Gx} {s0 : State} (C : Cx G s0) {B D0 ea : Nat} (hB : s0.heap.size ≤ B) (σ : Sg) (τ : Tt) (c : Nat) (hc : c < 3) (hu : σ 26 c = 0 ∨ σ 26 c = 1) : Ct l s0 (FC B D0) 2 0 0 y_Da_crash b_Da_crash 4 (some .boolean) [.ref (B), .int (nI c)] (RepC G B D0 ea σ τ) (pI (fun r H => r = σ 26 c ∧ RepC G B D0 ea (up2 σ 26 c 0) τ H)) := by
  refine Ct.of C (by decide) (Nat.le_of_ble_eq_true rfl) ?_
  intro pg ev s mm below meth cd V hr hlk hn hR ls hl
  have hx := V.1
  have hb := V.2.1
  have hS : va_S (FC B D0) s.heap s.heap [] := va_S.rf
  have hF : ∀ q, FC B D0 q → FC B D0 q := fun _ h => h
  have hA : ∀ q, FC B D0 q → s0.heap.size ≤ q := fun q h => by have := hR.1; rcases h with h | h <;> omega
  have hl : lv_has ls 4 [(0, .ref (B)), (1, .int (nI c))] := hl
  refine lv_aload_n hx hb d_Da_crash_0 rfl (lv_at hl 0 rfl) ?_
  refine lv_iload_n hx hb d_Da_crash_1 rfl (lv_at hl 1 rfl) ?_
  refine g_callV (As := [.int (nI c)]) (rest := []) (A0 := FC B D0) V (c_Da_found C hB σ τ c hc) v_Da_39 (hR.rDa V.2.2.2.2.2.1) hR hS hA (fun _ h => h) ⟨by decide, by decide⟩ rfl hl (Nat.le_of_ble_eq_true rfl) d_Da_crash_2 ⟨Nat.le_refl _, Nat.le_refl _⟩ (kA (fun r2 H locs hQ _ hS => ?_))
  obtain ⟨rfl, hR⟩ := hQ
  refine lv_astore_n (lv' := [(2, .ref (B + (9 + 9 * c))), (0, .ref (B)), (1, .int (nI c))]) hx hb d_Da_crash_5 rfl hl (by decide) rfl (fun ls hl => ?_)
  refine lv_aload_n hx hb d_Da_crash_6 rfl (lv_at hl 0 rfl) ?_
  refine g_Da_32 V (hR.2.2.2 _ hc).1 rfl d_Da_crash_7 ?_
  refine lv_istore_n (lv' := [(3, .int (σ 26 c)), (2, .ref (B + (9 + 9 * c))), (0, .ref (B)), (1, .int (nI c))]) hx hb d_Da_crash_10 rfl hl (by decide) rfl (fun ls hl => ?_)
  refine lv_aload_n hx hb d_Da_crash_11 rfl (lv_at hl 1 rfl) ?_
  refine lv_iconst (v := 0) hx hb d_Da_crash_12 (by decide) ?_
  refine q_Da_32 V hR hS hF hc (by decide) d_Da_crash_13 (fun H locs hR hS => ?_)
  refine lv_iload_n hx hb d_Da_crash_16 rfl (lv_at hl 0 rfl) ?_
  exact e_z V hr hlk hS (Nat.le_refl _) (Nat.le_refl _) d_Da_crash_17 hu ⟨_, rfl, rfl, hR⟩
theorem d_Da_restart_0 : decode b_Da_restart 0 = .ok (.aload_n 0, 1) := by decide +kernel
theorem d_Da_restart_1 : decode b_Da_restart 1 = .ok (.iload_n 1, 1) := by decide +kernel
theorem d_Da_restart_2 : decode b_Da_restart 2 = .ok (.invokevirtual 39, 3) := by decide +kernel
set_option maxHeartbeats 4000000 in
set_option maxRecDepth 100000 in
theorem t_Da_restart_bad {l : Launch} {G : Gx} {s0 : State} (hfl : l.flags = pinnedFlags ++ [noTraceFlag]) (C : Cx G s0) (C0 : Ts0 s0) {B D0 ea : Nat} (hB : s0.heap.size ≤ B) (σ : Sg) (τ : Tt) (x : Int32) (hx1 : one x = false) : CtT l s0 (FC B D0) 2 1 6 y_Da_restart (.code y_Da_restart b_Da_restart 3 (some .boolean)) [.ref (B), .int (x)] (RepC G B D0 ea σ τ) "java/lang/IndexOutOfBoundsException" (RepC G B D0 ea σ τ) := by
  refine CtT.of C cdw_code (by decide) (Nat.le_of_ble_eq_true rfl) ?_
  intro pg ev s mm below meth cd V hr hlk ht hR ls hl
  have hx := V.1
  have hb := V.2.1
  have hS : va_S (FC B D0) s.heap s.heap [] := va_S.rf
  have hF : ∀ q, FC B D0 q → FC B D0 q := fun _ h => h
  have hA : ∀ q, FC B D0 q → s0.heap.size ≤ q := fun q h => by have := hR.1; rcases h with h | h <;> omega
  have hl : lv_has ls 3 [(0, .ref (B)), (1, .int (x))] := hl
  refine lv_aload_n hx hb d_Da_restart_0 rfl (lv_at hl 0 rfl) ?_
  refine lv_iload_n hx hb d_Da_restart_1 rfl (lv_at hl 1 rfl) ?_
  refine t_callV (n := 1) (As := [.int (x)]) (rest := []) (A0 := FC B D0) V (t_Da_found hfl C C0 hB σ τ (x) hx1) cdw_code ⟨List.mem_of_getElem? (i := 317) (by decide +kernel), rfl⟩ (List.mem_of_getElem? (i := 29) (by decide +kernel)) (List.mem_of_getElem? (i := 314) (by decide +kernel)) ⟨List.mem_of_getElem? (i := 316) (by decide +kernel), List.mem_of_getElem? (i := 1) (by decide +kernel)⟩ ⟨by decide, by decide, by decide +kernel⟩ (hR.rDa V.2.2.2.2.2.1) hR hS hA (fun _ h => h) ⟨by decide, by decide⟩ rfl hl (Nat.le_of_ble_eq_true rfl) d_Da_restart_2 ⟨by decide, by decide⟩ (fun x H locs hex hR _ hS => ?_)
  exact wt_leave hlk (out_of ht (by decide)) hS (by decide) (by decide) hex hR
theorem d_Da_restart_5 : decode b_Da_restart 5 = .ok (.astore_n 2, 1) := by decide +kernel
theorem d_Da_restart_6 : decode b_Da_restart 6 = .ok (.aload_n 2, 1) := by decide +kernel
theorem d_Da_restart_7 : decode b_Da_restart 7 = .ok (.getfield 32, 3) := by decide +kernel
theorem d_Da_restart_10 : decode b_Da_restart 10 = .ok (.ifCond .eq 5, 3) := by decide +kernel
theorem d_Da_restart_13 : decode b_Da_restart 13 = .ok (.iconst 0, 1) := by decide +kernel
theorem d_Da_restart_14 : decode b_Da_restart 14 = .ok (.ireturn, 1) := by decide +kernel
theorem d_Da_restart_15 : decode b_Da_restart 15 = .ok (.aload_n 2, 1) := by decide +kernel
theorem d_Da_restart_16 : decode b_Da_restart 16 = .ok (.invokevirtual 102, 3) := by decide +kernel
theorem d_Da_restart_19 : decode b_Da_restart 19 = .ok (.iconst 1, 1) := by decide +kernel
theorem d_Da_restart_20 : decode b_Da_restart 20 = .ok (.ireturn, 1) := by decide +kernel
set_option maxHeartbeats 4000000 in
set_option maxRecDepth 100000 in
theorem c_Da_restart {l : Launch} {G : Gx} {s0 : State} (C : Cx G s0) {B D0 ea : Nat} (hB : s0.heap.size ≤ B) (σ : Sg) (τ : Tt) (c : Nat) (hc : c < 3) : Ct l s0 (FC B D0) 2 0 0 y_Da_restart b_Da_restart 3 (some .boolean) [.ref (B), .int (nI c)] (RepC G B D0 ea σ τ) (pI (fun r H => r = (if σ 26 c = 0 then 1 else 0) ∧ RepC G B D0 ea (if σ 26 c = 0 then cup σ c else σ) τ H)) := by
  refine Ct.of C (by decide) (Nat.le_of_ble_eq_true rfl) ?_
  intro pg ev s mm below meth cd V hr hlk hn hR ls hl
  have hx := V.1
  have hb := V.2.1
  have hS : va_S (FC B D0) s.heap s.heap [] := va_S.rf
  have hF : ∀ q, FC B D0 q → FC B D0 q := fun _ h => h
  have hA : ∀ q, FC B D0 q → s0.heap.size ≤ q := fun q h => by have := hR.1; rcases h with h | h <;> omega
  have hl : lv_has ls 3 [(0, .ref (B)), (1, .int (nI c))] := hl
  refine lv_aload_n hx hb d_Da_restart_0 rfl (lv_at hl 0 rfl) ?_
  refine lv_iload_n hx hb d_Da_restart_1 rfl (lv_at hl 1 rfl) ?_
  refine g_callV (As := [.int (nI c)]) (rest := []) (A0 := FC B D0) V (c_Da_found C hB σ τ c hc) v_Da_39 (hR.rDa V.2.2.2.2.2.1) hR hS hA (fun _ h => h) ⟨by decide, by decide⟩ rfl hl (Nat.le_of_ble_eq_true rfl) d_Da_restart_2 ⟨Nat.le_refl _, Nat.le_refl _⟩ (kA (fun r2 H locs hQ _ hS => ?_))
  obtain ⟨rfl, hR⟩ := hQ
  refine lv_astore_n (lv' := [(2, .ref (B + (9 + 9 * c))), (0, .ref (B)), (1, .int (nI c))]) hx hb d_Da_restart_5 rfl hl (by decide) rfl (fun ls hl => ?_)
  refine lv_aload_n hx hb d_Da_restart_6 rfl (lv_at hl 0 rfl) ?_
  refine g_Da_32 V (hR.2.2.2 _ hc).1 rfl d_Da_restart_7 ?_
  refine lv_if_eq (tgt := 15) hx hb d_Da_restart_10 (by decide) (fun h10 => ?_) (fun h10 => ?_)
  · refine lv_aload_n hx hb d_Da_restart_15 rfl (lv_at hl 0 rfl) ?_
    refine g_callV (As := []) (rest := []) (A0 := FC B D0) V (c_Ct_comeUp C hB σ τ c hc) v_Da_102 (hR.rCt V.2.2.2.2.2.1 hc) hR hS hA (fun _ h => h) ⟨by decide, by decide⟩ rfl hl (Nat.le_of_ble_eq_true rfl) d_Da_restart_16 ⟨Nat.le_refl _, Nat.le_refl _⟩ (kV (fun H locs hR _ hS => ?_))
    refine lv_iconst (v := 1) hx hb d_Da_restart_19 (by decide) ?_
    exact e_z V hr hlk hS (Nat.le_refl _) (Nat.le_refl _) d_Da_restart_20 (by decide) ⟨_, rfl, by simp [h10], by simp only [h10, if_true, if_false]; exact hR⟩
  · refine lv_iconst (v := 0) hx hb d_Da_restart_13 (by decide) ?_
    exact e_z V hr hlk hS (Nat.le_refl _) (Nat.le_refl _) d_Da_restart_14 (by decide) ⟨_, rfl, by simp [h10], by simp only [h10, if_true, if_false]; exact hR⟩
theorem d_Da_disk_0 : decode b_Da_disk 0 = .ok (.aload_n 0, 1) := by decide +kernel
theorem d_Da_disk_1 : decode b_Da_disk 1 = .ok (.getfield 10, 3) := by decide +kernel
theorem d_Da_disk_4 : decode b_Da_disk 4 = .ok (.iload_n 1, 1) := by decide +kernel
theorem d_Da_disk_5 : decode b_Da_disk 5 = .ok (.iconst 3, 1) := by decide +kernel
theorem d_Da_disk_6 : decode b_Da_disk 6 = .ok (.invokestatic 28, 3) := by decide +kernel
set_option maxHeartbeats 4000000 in
set_option maxRecDepth 100000 in
theorem t_Da_disk_bad {l : Launch} {G : Gx} {s0 : State} (hfl : l.flags = pinnedFlags ++ [noTraceFlag]) (C : Cx G s0) (C0 : Ts0 s0) {B D0 ea : Nat} (hB : s0.heap.size ≤ B) (σ : Sg) (τ : Tt) (x : Int32) (hx1 : one x = false) (b : Int32) : CtT l s0 (FC B D0) 2 1 6 y_Da_disk (.code y_Da_disk b_Da_disk 5 (some .boolean)) [.ref (B), .int (x), .int (b)] (RepC G B D0 ea σ τ) "java/lang/IndexOutOfBoundsException" (RepC G B D0 ea σ τ) := by
  refine CtT.of C cdw_code (by decide) (Nat.le_of_ble_eq_true rfl) ?_
  intro pg ev s mm below meth cd V hr hlk ht hR ls hl
  have hx := V.1
  have hb := V.2.1
  have hS : va_S (FC B D0) s.heap s.heap [] := va_S.rf
  have hF : ∀ q, FC B D0 q → FC B D0 q := fun _ h => h
  have hA : ∀ q, FC B D0 q → s0.heap.size ≤ q := fun q h => by have := hR.1; rcases h with h | h <;> omega
  have hl : lv_has ls 5 [(0, .ref (B)), (1, .int (x)), (2, .int (b))] := hl
  refine lv_aload_n hx hb d_Da_disk_0 rfl (lv_at hl 0 rfl) ?_
  refine g_Da_10 V hR.2.1.1 rfl d_Da_disk_1 ?_
  refine lv_iload_n hx hb d_Da_disk_4 rfl (lv_at hl 1 rfl) ?_
  refine lv_iconst (v := 3) hx hb d_Da_disk_5 (by decide) ?_
  refine t_callS (n := 2) (As := [.int (x), .int (3)]) (rest := [.ref (B + 1)]) (A0 := FC B D0) V (t_Da_index hfl C C0 hB σ τ (x) 3 (one_no hx1)) cdw_code ⟨List.mem_of_getElem? (i := 320) (by decide +kernel), rfl⟩ (List.mem_of_getElem? (i := 29) (by decide +kernel)) (List.mem_of_getElem? (i := 318) (by decide +kernel)) (List.mem_of_getElem? (i := 319) (by decide +kernel)) ⟨by decide, by decide, by decide +kernel⟩ hR hS hA (fun _ h => h) ⟨by decide, by decide⟩ rfl hl (Nat.le_of_ble_eq_true rfl) d_Da_disk_6 ⟨by decide, by decide⟩ (fun x H locs hex hR _ hS => ?_)
  exact wt_leave hlk (out_of ht (by decide)) hS (by decide) (by decide) hex hR
theorem d_Da_disk_9 : decode b_Da_disk 9 = .ok (.aaload, 1) := by decide +kernel
theorem d_Da_disk_10 : decode b_Da_disk 10 = .ok (.astore_n 3, 1) := by decide +kernel
theorem d_Da_disk_11 : decode b_Da_disk 11 = .ok (.aload_n 3, 1) := by decide +kernel
theorem d_Da_disk_12 : decode b_Da_disk 12 = .ok (.getfield 88, 3) := by decide +kernel
theorem d_Da_disk_15 : decode b_Da_disk 15 = .ok (.iload_n 2, 1) := by decide +kernel
theorem d_Da_disk_16 : decode b_Da_disk 16 = .ok (.if_icmp .eq 7, 3) := by decide +kernel
theorem d_Da_disk_19 : decode b_Da_disk 19 = .ok (.iconst 1, 1) := by decide +kernel
theorem d_Da_disk_20 : decode b_Da_disk 20 = .ok (.goto 4, 3) := by decide +kernel
theorem d_Da_disk_23 : decode b_Da_disk 23 = .ok (.iconst 0, 1) := by decide +kernel
theorem d_Da_disk_24 : decode b_Da_disk 24 = .ok (.istore 4, 2) := by decide +kernel
theorem d_Da_disk_26 : decode b_Da_disk 26 = .ok (.aload_n 3, 1) := by decide +kernel
theorem d_Da_disk_27 : decode b_Da_disk 27 = .ok (.iload_n 2, 1) := by decide +kernel
theorem d_Da_disk_28 : decode b_Da_disk 28 = .ok (.putfield 88, 3) := by decide +kernel
theorem d_Da_disk_31 : decode b_Da_disk 31 = .ok (.iload 4, 2) := by decide +kernel
theorem d_Da_disk_33 : decode b_Da_disk 33 = .ok (.ireturn, 1) := by decide +kernel
set_option maxHeartbeats 4000000 in
set_option maxRecDepth 100000 in
theorem c_Da_disk {l : Launch} {G : Gx} {s0 : State} (C : Cx G s0) {B D0 ea : Nat} (hB : s0.heap.size ≤ B) (σ : Sg) (τ : Tt) (d : Nat) (hd : d < 3) (b : Int32) (hb1 : b = 0 ∨ b = 1) : Ct l s0 (FC B D0) 2 0 0 y_Da_disk b_Da_disk 5 (some .boolean) [.ref (B), .int (nI d), .int (b)] (RepC G B D0 ea σ τ) (pI (fun r H => r = (if σ 27 d = b then 0 else 1) ∧ RepC G B D0 ea (up2 σ 27 d b) τ H)) := by
  refine Ct.of C (by decide) (Nat.le_of_ble_eq_true rfl) ?_
  intro pg ev s mm below meth cd V hr hlk hn hR ls hl
  have hx := V.1
  have hb := V.2.1
  have hS : va_S (FC B D0) s.heap s.heap [] := va_S.rf
  have hF : ∀ q, FC B D0 q → FC B D0 q := fun _ h => h
  have hA : ∀ q, FC B D0 q → s0.heap.size ≤ q := fun q h => by have := hR.1; rcases h with h | h <;> omega
  have hl : lv_has ls 5 [(0, .ref (B)), (1, .int (nI d)), (2, .int (b))] := hl
  refine lv_aload_n hx hb d_Da_disk_0 rfl (lv_at hl 0 rfl) ?_
  refine g_Da_10 V hR.2.1.1 rfl d_Da_disk_1 ?_
  refine lv_iload_n hx hb d_Da_disk_4 rfl (lv_at hl 1 rfl) ?_
  refine lv_iconst (v := 3) hx hb d_Da_disk_5 (by decide) ?_
  refine g_callS (As := [.int (nI d), .int (3)]) (rest := [.ref (B + 1)]) (A0 := FC B D0) V (c_Da_index C hB σ τ (d) (3) (by omega) (by decide)) v_Da_28 hR hS hA (fun _ h => h) ⟨by decide, by decide⟩ rfl hl (Nat.le_of_ble_eq_true rfl) d_Da_disk_6 ⟨Nat.le_refl _, Nat.le_refl _⟩ (kI (fun r6 H locs hQ _ hS => ?_))
  obtain ⟨rfl, hR⟩ := hQ
  refine c_dsk V hR (d) rfl hd d_Da_disk_9 ?_
  refine lv_astore_n (lv' := [(3, .ref (B + (2 + 2 * d))), (0, .ref (B)), (1, .int (nI d)), (2, .int (b))]) hx hb d_Da_disk_10 rfl hl (by decide) rfl (fun ls hl => ?_)
  refine lv_aload_n hx hb d_Da_disk_11 rfl (lv_at hl 0 rfl) ?_
  refine g_Da_88 V (hR.2.2.1 _ hd).1 rfl d_Da_disk_12 ?_
  refine lv_iload_n hx hb d_Da_disk_15 rfl (lv_at hl 3 rfl) ?_
  refine lv_icmp_eq (tgt := 23) hx hb d_Da_disk_16 (by decide) (fun h16 => ?_) (fun h16 => ?_)
  · refine lv_iconst (v := 0) hx hb d_Da_disk_23 (by decide) ?_
    refine lv_istore (lv' := [(4, .int (0)), (3, .ref (B + (2 + 2 * d))), (0, .ref (B)), (1, .int (nI d)), (2, .int (b))]) hx hb d_Da_disk_24 hl (by decide) rfl (fun ls hl => ?_)
    refine lv_aload_n hx hb d_Da_disk_26 rfl (lv_at hl 1 rfl) ?_
    refine lv_iload_n hx hb d_Da_disk_27 rfl (lv_at hl 4 rfl) ?_
    refine q_Da_88 V hR hS hF hd hb1 d_Da_disk_28 (fun H locs hR hS => ?_)
    refine lv_iload hx hb d_Da_disk_31 (lv_at hl 0 rfl) ?_
    exact e_z V hr hlk hS (Nat.le_refl _) (Nat.le_refl _) d_Da_disk_33 (by decide) ⟨_, rfl, by simp [← h16], hR⟩
  · refine lv_iconst (v := 1) hx hb d_Da_disk_19 (by decide) ?_
    refine lv_goto (tgt := 24) hx hb d_Da_disk_20 (by decide) ?_
    refine lv_istore (lv' := [(4, .int (1)), (3, .ref (B + (2 + 2 * d))), (0, .ref (B)), (1, .int (nI d)), (2, .int (b))]) hx hb d_Da_disk_24 hl (by decide) rfl (fun ls hl => ?_)
    refine lv_aload_n hx hb d_Da_disk_26 rfl (lv_at hl 1 rfl) ?_
    refine lv_iload_n hx hb d_Da_disk_27 rfl (lv_at hl 4 rfl) ?_
    refine q_Da_88 V hR hS hF hd hb1 d_Da_disk_28 (fun H locs hR hS => ?_)
    refine lv_iload hx hb d_Da_disk_31 (lv_at hl 0 rfl) ?_
    exact e_z V hr hlk hS (Nat.le_refl _) (Nat.le_refl _) d_Da_disk_33 (by decide) ⟨_, rfl, by simp [h16], hR⟩
theorem d_Da_entry_0 : decode b_Da_entry 0 = .ok (.aload_n 0, 1) := by decide +kernel
theorem d_Da_entry_1 : decode b_Da_entry 1 = .ok (.iload_n 1, 1) := by decide +kernel
theorem d_Da_entry_2 : decode b_Da_entry 2 = .ok (.invokevirtual 39, 3) := by decide +kernel
set_option maxHeartbeats 4000000 in
set_option maxRecDepth 100000 in
theorem t_Da_entry_bad {l : Launch} {G : Gx} {s0 : State} (hfl : l.flags = pinnedFlags ++ [noTraceFlag]) (C : Cx G s0) (C0 : Ts0 s0) {B D0 ea : Nat} (hB : s0.heap.size ≤ B) (σ : Sg) (τ : Tt) (x : Int32) (hx1 : one x = false) (y : Int32) : CtT l s0 (FC B D0) 2 1 6 y_Da_entry (.code y_Da_entry b_Da_entry 4 (some .int)) [.ref (B), .int (x), .int (y)] (RepC G B D0 ea σ τ) "java/lang/IndexOutOfBoundsException" (RepC G B D0 ea σ τ) := by
  refine CtT.of C cdw_code (by decide) (Nat.le_of_ble_eq_true rfl) ?_
  intro pg ev s mm below meth cd V hr hlk ht hR ls hl
  have hx := V.1
  have hb := V.2.1
  have hS : va_S (FC B D0) s.heap s.heap [] := va_S.rf
  have hF : ∀ q, FC B D0 q → FC B D0 q := fun _ h => h
  have hA : ∀ q, FC B D0 q → s0.heap.size ≤ q := fun q h => by have := hR.1; rcases h with h | h <;> omega
  have hl : lv_has ls 4 [(0, .ref (B)), (1, .int (x)), (2, .int (y))] := hl
  refine lv_aload_n hx hb d_Da_entry_0 rfl (lv_at hl 0 rfl) ?_
  refine lv_iload_n hx hb d_Da_entry_1 rfl (lv_at hl 1 rfl) ?_
  refine t_callV (n := 1) (As := [.int (x)]) (rest := []) (A0 := FC B D0) V (t_Da_found hfl C C0 hB σ τ (x) hx1) cdw_code ⟨List.mem_of_getElem? (i := 317) (by decide +kernel), rfl⟩ (List.mem_of_getElem? (i := 29) (by decide +kernel)) (List.mem_of_getElem? (i := 314) (by decide +kernel)) ⟨List.mem_of_getElem? (i := 316) (by decide +kernel), List.mem_of_getElem? (i := 1) (by decide +kernel)⟩ ⟨by decide, by decide, by decide +kernel⟩ (hR.rDa V.2.2.2.2.2.1) hR hS hA (fun _ h => h) ⟨by decide, by decide⟩ rfl hl (Nat.le_of_ble_eq_true rfl) d_Da_entry_2 ⟨by decide, by decide⟩ (fun x H locs hex hR _ hS => ?_)
  exact wt_leave hlk (out_of ht (by decide)) hS (by decide) (by decide) hex hR
theorem d_Da_entry_5 : decode b_Da_entry 5 = .ok (.astore_n 3, 1) := by decide +kernel
theorem d_Da_entry_6 : decode b_Da_entry 6 = .ok (.iload_n 2, 1) := by decide +kernel
theorem d_Da_entry_7 : decode b_Da_entry 7 = .ok (.bipush 24, 2) := by decide +kernel
theorem d_Da_entry_9 : decode b_Da_entry 9 = .ok (.invokestatic 28, 3) := by decide +kernel
set_option maxHeartbeats 4000000 in
set_option maxRecDepth 100000 in
theorem t_Da_entry_bad2 {l : Launch} {G : Gx} {s0 : State} (hfl : l.flags = pinnedFlags ++ [noTraceFlag]) (C : Cx G s0) (C0 : Ts0 s0) {B D0 ea : Nat} (hB : s0.heap.size ≤ B) (σ : Sg) (τ : Tt) (c : Nat) (hc : c < 3) (y : Int32) (hy1 : y < 0 ∨ ¬ y < nI 24) : CtT l s0 (FC B D0) 2 1 6 y_Da_entry (.code y_Da_entry b_Da_entry 4 (some .int)) [.ref (B), .int (nI c), .int (y)] (RepC G B D0 ea σ τ) "java/lang/IndexOutOfBoundsException" (RepC G B D0 ea σ τ) := by
  refine CtT.of C cdw_code (by decide) (Nat.le_of_ble_eq_true rfl) ?_
  intro pg ev s mm below meth cd V hr hlk ht hR ls hl
  have hx := V.1
  have hb := V.2.1
  have hS : va_S (FC B D0) s.heap s.heap [] := va_S.rf
  have hF : ∀ q, FC B D0 q → FC B D0 q := fun _ h => h
  have hA : ∀ q, FC B D0 q → s0.heap.size ≤ q := fun q h => by have := hR.1; rcases h with h | h <;> omega
  have hl : lv_has ls 4 [(0, .ref (B)), (1, .int (nI c)), (2, .int (y))] := hl
  refine lv_aload_n hx hb d_Da_entry_0 rfl (lv_at hl 0 rfl) ?_
  refine lv_iload_n hx hb d_Da_entry_1 rfl (lv_at hl 1 rfl) ?_
  refine g_callV (As := [.int (nI c)]) (rest := []) (A0 := FC B D0) V (c_Da_found C hB σ τ c hc) v_Da_39 (hR.rDa V.2.2.2.2.2.1) hR hS hA (fun _ h => h) ⟨by decide, by decide⟩ rfl hl (Nat.le_of_ble_eq_true rfl) d_Da_entry_2 ⟨by decide, by decide⟩ (kA (fun r2 H locs hQ _ hS => ?_))
  obtain ⟨rfl, hR⟩ := hQ
  refine lv_astore_n (lv' := [(3, .ref (B + (9 + 9 * c))), (0, .ref (B)), (1, .int (nI c)), (2, .int (y))]) hx hb d_Da_entry_5 rfl hl (by decide) rfl (fun ls hl => ?_)
  refine lv_iload_n hx hb d_Da_entry_6 rfl (lv_at hl 3 rfl) ?_
  refine lv_bipush (v := 24) hx hb d_Da_entry_7 (by decide) ?_
  refine t_callS (n := 2) (As := [.int (y), .int (24)]) (rest := []) (A0 := FC B D0) V (t_Da_index hfl C C0 hB σ τ (y) 24 hy1) cdw_code ⟨List.mem_of_getElem? (i := 320) (by decide +kernel), rfl⟩ (List.mem_of_getElem? (i := 29) (by decide +kernel)) (List.mem_of_getElem? (i := 318) (by decide +kernel)) (List.mem_of_getElem? (i := 319) (by decide +kernel)) ⟨by decide, by decide, by decide +kernel⟩ hR hS hA (fun _ h => h) ⟨by decide, by decide⟩ rfl hl (Nat.le_of_ble_eq_true rfl) d_Da_entry_9 ⟨by decide, by decide⟩ (fun x H locs hex hR _ hS => ?_)
  exact wt_leave hlk (out_of ht (by decide)) hS (by decide) (by decide) hex hR
theorem d_Da_entry_12 : decode b_Da_entry 12 = .ok (.aload_n 3, 1) := by decide +kernel
theorem d_Da_entry_13 : decode b_Da_entry 13 = .ok (.getfield 77, 3) := by decide +kernel
theorem d_Da_entry_16 : decode b_Da_entry 16 = .ok (.if_icmp .lt 11, 3) := by decide +kernel
theorem d_Da_entry_19 : decode b_Da_entry 19 = .ok (.new 81, 3) := by decide +kernel
theorem d_Da_entry_22 : decode b_Da_entry 22 = .ok (.dup, 1) := by decide +kernel
theorem d_Da_entry_23 : decode b_Da_entry 23 = .ok (.invokespecial 83, 3) := by decide +kernel
theorem d_Da_entry_26 : decode b_Da_entry 26 = .ok (.athrow, 1) := by decide +kernel
set_option maxHeartbeats 4000000 in
set_option maxRecDepth 100000 in
theorem t_Da_entry_bad3 {l : Launch} {G : Gx} {s0 : State} (hfl : l.flags = pinnedFlags ++ [noTraceFlag]) (C : Cx G s0) (C0 : Ts0 s0) {B D0 ea : Nat} (hB : s0.heap.size ≤ B) (σ : Sg) (τ : Tt) (c : Nat) (hc : c < 3) (j : Nat) (hj : j < 24) (hjl : ¬ nI j < σ 4 c) : CtT l s0 (FC B D0) 2 1 6 y_Da_entry (.code y_Da_entry b_Da_entry 4 (some .int)) [.ref (B), .int (nI c), .int (nI j)] (RepC G B D0 ea σ τ) "java/util/NoSuchElementException" (RepC G B D0 ea σ τ) := by
  refine CtT.of C cdw_code (by decide) (Nat.le_of_ble_eq_true rfl) ?_
  intro pg ev s mm below meth cd V hr hlk ht hR ls hl
  have hx := V.1
  have hb := V.2.1
  have hS : va_S (FC B D0) s.heap s.heap [] := va_S.rf
  have hF : ∀ q, FC B D0 q → FC B D0 q := fun _ h => h
  have hA : ∀ q, FC B D0 q → s0.heap.size ≤ q := fun q h => by have := hR.1; rcases h with h | h <;> omega
  have hl : lv_has ls 4 [(0, .ref (B)), (1, .int (nI c)), (2, .int (nI j))] := hl
  refine lv_aload_n hx hb d_Da_entry_0 rfl (lv_at hl 0 rfl) ?_
  refine lv_iload_n hx hb d_Da_entry_1 rfl (lv_at hl 1 rfl) ?_
  refine g_callV (As := [.int (nI c)]) (rest := []) (A0 := FC B D0) V (c_Da_found C hB σ τ c hc) v_Da_39 (hR.rDa V.2.2.2.2.2.1) hR hS hA (fun _ h => h) ⟨by decide, by decide⟩ rfl hl (Nat.le_of_ble_eq_true rfl) d_Da_entry_2 ⟨by decide, by decide⟩ (kA (fun r2 H locs hQ _ hS => ?_))
  obtain ⟨rfl, hR⟩ := hQ
  refine lv_astore_n (lv' := [(3, .ref (B + (9 + 9 * c))), (0, .ref (B)), (1, .int (nI c)), (2, .int (nI j))]) hx hb d_Da_entry_5 rfl hl (by decide) rfl (fun ls hl => ?_)
  refine lv_iload_n hx hb d_Da_entry_6 rfl (lv_at hl 3 rfl) ?_
  refine lv_bipush (v := 24) hx hb d_Da_entry_7 (by decide) ?_
  refine g_callS (As := [.int (nI j), .int (24)]) (rest := []) (A0 := FC B D0) V (c_Da_index C hB σ τ (j) (24) (by omega) (by decide)) v_Da_28 hR hS hA (fun _ h => h) ⟨by decide, by decide⟩ rfl hl (Nat.le_of_ble_eq_true rfl) d_Da_entry_9 ⟨by decide, by decide⟩ (kI (fun r9 H locs hQ _ hS => ?_))
  obtain ⟨rfl, hR⟩ := hQ
  refine lv_aload_n hx hb d_Da_entry_12 rfl (lv_at hl 0 rfl) ?_
  refine g_Da_77 V (hR.2.2.2 _ hc).1 rfl d_Da_entry_13 ?_
  refine lv_icmp_lt (tgt := 27) hx hb d_Da_entry_16 (by decide) (fun h16 => ?_) (fun h16 => ?_)
  · exact absurd h16 hjl
  · exact tn V C0 hfl x_Da_81 hlk (out_of ht (by decide)) hl (Nat.le_of_ble_eq_true rfl) ⟨by decide, by decide, by decide, by decide⟩ hS hA (by decide) (by decide) d_Da_entry_19 d_Da_entry_22 d_Da_entry_23 d_Da_entry_26 (fun H1 hz hk => hR.grow hk)
theorem d_Da_entry_27 : decode b_Da_entry 27 = .ok (.aload_n 3, 1) := by decide +kernel
theorem d_Da_entry_28 : decode b_Da_entry 28 = .ok (.getfield 105, 3) := by decide +kernel
theorem d_Da_entry_31 : decode b_Da_entry 31 = .ok (.iload_n 2, 1) := by decide +kernel
theorem d_Da_entry_32 : decode b_Da_entry 32 = .ok (.iaload, 1) := by decide +kernel
theorem d_Da_entry_33 : decode b_Da_entry 33 = .ok (.ireturn, 1) := by decide +kernel
set_option maxHeartbeats 4000000 in
set_option maxRecDepth 100000 in
theorem c_Da_entry {l : Launch} {G : Gx} {s0 : State} (C : Cx G s0) {B D0 ea : Nat} (hB : s0.heap.size ≤ B) (σ : Sg) (τ : Tt) (c : Nat) (hc : c < 3) (j : Nat) (hj : j < 24) (hjl : nI j < σ 4 c) : Ct l s0 (FC B D0) 2 0 0 y_Da_entry b_Da_entry 4 (some .int) [.ref (B), .int (nI c), .int (nI j)] (RepC G B D0 ea σ τ) (pI (fun r H => r = σ 3 (24 * c + j) ∧ RepC G B D0 ea σ τ H)) := by
  refine Ct.of C (by decide) (Nat.le_of_ble_eq_true rfl) ?_
  intro pg ev s mm below meth cd V hr hlk hn hR ls hl
  have hx := V.1
  have hb := V.2.1
  have hS : va_S (FC B D0) s.heap s.heap [] := va_S.rf
  have hF : ∀ q, FC B D0 q → FC B D0 q := fun _ h => h
  have hA : ∀ q, FC B D0 q → s0.heap.size ≤ q := fun q h => by have := hR.1; rcases h with h | h <;> omega
  have hl : lv_has ls 4 [(0, .ref (B)), (1, .int (nI c)), (2, .int (nI j))] := hl
  refine lv_aload_n hx hb d_Da_entry_0 rfl (lv_at hl 0 rfl) ?_
  refine lv_iload_n hx hb d_Da_entry_1 rfl (lv_at hl 1 rfl) ?_
  refine g_callV (As := [.int (nI c)]) (rest := []) (A0 := FC B D0) V (c_Da_found C hB σ τ c hc) v_Da_39 (hR.rDa V.2.2.2.2.2.1) hR hS hA (fun _ h => h) ⟨by decide, by decide⟩ rfl hl (Nat.le_of_ble_eq_true rfl) d_Da_entry_2 ⟨Nat.le_refl _, Nat.le_refl _⟩ (kA (fun r2 H locs hQ _ hS => ?_))
  obtain ⟨rfl, hR⟩ := hQ
  refine lv_astore_n (lv' := [(3, .ref (B + (9 + 9 * c))), (0, .ref (B)), (1, .int (nI c)), (2, .int (nI j))]) hx hb d_Da_entry_5 rfl hl (by decide) rfl (fun ls hl => ?_)
  refine lv_iload_n hx hb d_Da_entry_6 rfl (lv_at hl 3 rfl) ?_
  refine lv_bipush (v := 24) hx hb d_Da_entry_7 (by decide) ?_
  refine g_callS (As := [.int (nI j), .int (24)]) (rest := []) (A0 := FC B D0) V (c_Da_index C hB σ τ (j) (24) (by omega) (by decide)) v_Da_28 hR hS hA (fun _ h => h) ⟨by decide, by decide⟩ rfl hl (Nat.le_of_ble_eq_true rfl) d_Da_entry_9 ⟨Nat.le_refl _, Nat.le_refl _⟩ (kI (fun r9 H locs hQ _ hS => ?_))
  obtain ⟨rfl, hR⟩ := hQ
  refine lv_aload_n hx hb d_Da_entry_12 rfl (lv_at hl 0 rfl) ?_
  refine g_Da_77 V (hR.2.2.2 _ hc).1 rfl d_Da_entry_13 ?_
  refine lv_icmp_lt (tgt := 27) hx hb d_Da_entry_16 (by decide) (fun h16 => ?_) (fun h16 => ?_)
  · refine lv_aload_n hx hb d_Da_entry_27 rfl (lv_at hl 0 rfl) ?_
    refine g_Da_105 V (hR.2.2.2 _ hc).1 rfl d_Da_entry_28 ?_
    refine lv_iload_n hx hb d_Da_entry_31 rfl (lv_at hl 3 rfl) ?_
    refine c_lld V hR hc (j) rfl (by omega) d_Da_entry_32 ?_
    exact e_i V hr hlk hS (Nat.le_refl _) (Nat.le_refl _) d_Da_entry_33 ⟨_, rfl, rfl, hR⟩
  · exact absurd hjl h16
theorem d_Da_outcome_0 : decode b_Da_outcome 0 = .ok (.aload_n 0, 1) := by decide +kernel
theorem d_Da_outcome_1 : decode b_Da_outcome 1 = .ok (.iload_n 1, 1) := by decide +kernel
theorem d_Da_outcome_2 : decode b_Da_outcome 2 = .ok (.invokevirtual 39, 3) := by decide +kernel
set_option maxHeartbeats 4000000 in
set_option maxRecDepth 100000 in
theorem t_Da_outcome_bad {l : Launch} {G : Gx} {s0 : State} (hfl : l.flags = pinnedFlags ++ [noTraceFlag]) (C : Cx G s0) (C0 : Ts0 s0) {B D0 ea : Nat} (hB : s0.heap.size ≤ B) (σ : Sg) (τ : Tt) (x : Int32) (hx1 : one x = false) (y : Int32) : CtT l s0 (FC B D0) 2 1 6 y_Da_outcome (.code y_Da_outcome b_Da_outcome 4 (some .int)) [.ref (B), .int (x), .int (y)] (RepC G B D0 ea σ τ) "java/lang/IndexOutOfBoundsException" (RepC G B D0 ea σ τ) := by
  refine CtT.of C cdw_code (by decide) (Nat.le_of_ble_eq_true rfl) ?_
  intro pg ev s mm below meth cd V hr hlk ht hR ls hl
  have hx := V.1
  have hb := V.2.1
  have hS : va_S (FC B D0) s.heap s.heap [] := va_S.rf
  have hF : ∀ q, FC B D0 q → FC B D0 q := fun _ h => h
  have hA : ∀ q, FC B D0 q → s0.heap.size ≤ q := fun q h => by have := hR.1; rcases h with h | h <;> omega
  have hl : lv_has ls 4 [(0, .ref (B)), (1, .int (x)), (2, .int (y))] := hl
  refine lv_aload_n hx hb d_Da_outcome_0 rfl (lv_at hl 0 rfl) ?_
  refine lv_iload_n hx hb d_Da_outcome_1 rfl (lv_at hl 1 rfl) ?_
  refine t_callV (n := 1) (As := [.int (x)]) (rest := []) (A0 := FC B D0) V (t_Da_found hfl C C0 hB σ τ (x) hx1) cdw_code ⟨List.mem_of_getElem? (i := 317) (by decide +kernel), rfl⟩ (List.mem_of_getElem? (i := 29) (by decide +kernel)) (List.mem_of_getElem? (i := 314) (by decide +kernel)) ⟨List.mem_of_getElem? (i := 316) (by decide +kernel), List.mem_of_getElem? (i := 1) (by decide +kernel)⟩ ⟨by decide, by decide, by decide +kernel⟩ (hR.rDa V.2.2.2.2.2.1) hR hS hA (fun _ h => h) ⟨by decide, by decide⟩ rfl hl (Nat.le_of_ble_eq_true rfl) d_Da_outcome_2 ⟨by decide, by decide⟩ (fun x H locs hex hR _ hS => ?_)
  exact wt_leave hlk (out_of ht (by decide)) hS (by decide) (by decide) hex hR
theorem d_Da_outcome_5 : decode b_Da_outcome 5 = .ok (.astore_n 3, 1) := by decide +kernel
theorem d_Da_outcome_6 : decode b_Da_outcome 6 = .ok (.iload_n 2, 1) := by decide +kernel
theorem d_Da_outcome_7 : decode b_Da_outcome 7 = .ok (.aload_n 3, 1) := by decide +kernel
theorem d_Da_outcome_8 : decode b_Da_outcome 8 = .ok (.getfield 50, 3) := by decide +kernel
theorem d_Da_outcome_11 : decode b_Da_outcome 11 = .ok (.invokevirtual 54, 3) := by decide +kernel
theorem d_Da_outcome_14 : decode b_Da_outcome 14 = .ok (.invokestatic 43, 3) := by decide +kernel
theorem d_Da_outcome_17 : decode b_Da_outcome 17 = .ok (.ifCond .ne 11, 3) := by decide +kernel
theorem d_Da_outcome_20 : decode b_Da_outcome 20 = .ok (.new 81, 3) := by decide +kernel
theorem d_Da_outcome_23 : decode b_Da_outcome 23 = .ok (.dup, 1) := by decide +kernel
theorem d_Da_outcome_24 : decode b_Da_outcome 24 = .ok (.invokespecial 83, 3) := by decide +kernel
theorem d_Da_outcome_27 : decode b_Da_outcome 27 = .ok (.athrow, 1) := by decide +kernel
set_option maxHeartbeats 4000000 in
set_option maxRecDepth 100000 in
theorem t_Da_outcome_bad2 {l : Launch} {G : Gx} {s0 : State} (hfl : l.flags = pinnedFlags ++ [noTraceFlag]) (C : Cx G s0) (C0 : Ts0 s0) {B D0 ea : Nat} (hB : s0.heap.size ≤ B) (σ : Sg) (τ : Tt) (c : Nat) (hc : c < 3) (y : Int32) (hy1 : (!decide (y < 0) && !decide (σ 7 c ≤ y)) = false) : CtT l s0 (FC B D0) 3 1 6 y_Da_outcome (.code y_Da_outcome b_Da_outcome 4 (some .int)) [.ref (B), .int (nI c), .int (y)] (RepC G B D0 ea σ τ) "java/util/NoSuchElementException" (RepC G B D0 ea σ τ) := by
  refine CtT.of C cdw_code (by decide) (Nat.le_of_ble_eq_true rfl) ?_
  intro pg ev s mm below meth cd V hr hlk ht hR ls hl
  have hx := V.1
  have hb := V.2.1
  have hS : va_S (FC B D0) s.heap s.heap [] := va_S.rf
  have hF : ∀ q, FC B D0 q → FC B D0 q := fun _ h => h
  have hA : ∀ q, FC B D0 q → s0.heap.size ≤ q := fun q h => by have := hR.1; rcases h with h | h <;> omega
  have hl : lv_has ls 4 [(0, .ref (B)), (1, .int (nI c)), (2, .int (y))] := hl
  refine lv_aload_n hx hb d_Da_outcome_0 rfl (lv_at hl 0 rfl) ?_
  refine lv_iload_n hx hb d_Da_outcome_1 rfl (lv_at hl 1 rfl) ?_
  refine g_callV (As := [.int (nI c)]) (rest := []) (A0 := FC B D0) V (c_Da_found C hB σ τ c hc) v_Da_39 (hR.rDa V.2.2.2.2.2.1) hR hS hA (fun _ h => h) ⟨by decide, by decide⟩ rfl hl (Nat.le_of_ble_eq_true rfl) d_Da_outcome_2 ⟨by decide, by decide⟩ (kA (fun r2 H locs hQ _ hS => ?_))
  obtain ⟨rfl, hR⟩ := hQ
  refine lv_astore_n (lv' := [(3, .ref (B + (9 + 9 * c))), (0, .ref (B)), (1, .int (nI c)), (2, .int (y))]) hx hb d_Da_outcome_5 rfl hl (by decide) rfl (fun ls hl => ?_)
  refine lv_iload_n hx hb d_Da_outcome_6 rfl (lv_at hl 3 rfl) ?_
  refine lv_aload_n hx hb d_Da_outcome_7 rfl (lv_at hl 0 rfl) ?_
  refine g_Da_50 V (hR.2.2.2 _ hc).1 rfl d_Da_outcome_8 ?_
  refine g_callV (As := []) (rest := [.int (y)]) (A0 := FC B D0) V (c_Al_size C hB σ τ c hc) v_Da_54 (hR.rAl V.2.2.2.2.2.1 hc) hR hS hA (fun _ h => h) ⟨by decide, by decide⟩ rfl hl (Nat.le_of_ble_eq_true rfl) d_Da_outcome_11 ⟨by decide, by decide⟩ (kI (fun r11 H locs hQ _ hS => ?_))
  obtain ⟨rfl, hR⟩ := hQ
  refine g_callS (As := [.int (y), .int (σ 7 c)]) (rest := []) (A0 := FC B D0) V (c_Da_within C hB σ τ (y) (σ 7 c)) v_Da_43 hR hS hA (fun _ h => h) ⟨by decide, by decide⟩ rfl hl (Nat.le_of_ble_eq_true rfl) d_Da_outcome_14 ⟨by decide, by decide⟩ (kI (fun r14 H locs hQ _ hS => ?_))
  obtain ⟨rfl, hR⟩ := hQ
  refine lv_if_ne (tgt := 28) hx hb d_Da_outcome_17 (by decide) (fun h17 => ?_) (fun h17 => ?_)
  · exact absurd (hy1.symm.trans (bI_n0.mp h17)) (by decide)
  · have h17 := bI_0.mp h17
    exact tn V C0 hfl x_Da_81 hlk (out_of ht (by decide)) hl (Nat.le_of_ble_eq_true rfl) ⟨by decide, by decide, by decide, by decide⟩ hS hA (by decide) (by decide) d_Da_outcome_20 d_Da_outcome_23 d_Da_outcome_24 d_Da_outcome_27 (fun H1 hz hk => hR.grow hk)
theorem d_Da_outcome_28 : decode b_Da_outcome 28 = .ok (.aload_n 3, 1) := by decide +kernel
theorem d_Da_outcome_29 : decode b_Da_outcome 29 = .ok (.getfield 50, 3) := by decide +kernel
theorem d_Da_outcome_32 : decode b_Da_outcome 32 = .ok (.iload_n 2, 1) := by decide +kernel
theorem d_Da_outcome_33 : decode b_Da_outcome 33 = .ok (.invokevirtual 109, 3) := by decide +kernel
theorem d_Da_outcome_36 : decode b_Da_outcome 36 = .ok (.checkcast 66, 3) := by decide +kernel
theorem d_Da_outcome_39 : decode b_Da_outcome 39 = .ok (.getfield 113, 3) := by decide +kernel
theorem d_Da_outcome_42 : decode b_Da_outcome 42 = .ok (.ireturn, 1) := by decide +kernel
set_option maxHeartbeats 4000000 in
set_option maxRecDepth 100000 in
theorem c_Da_outcome {l : Launch} {G : Gx} {s0 : State} (C : Cx G s0) {B D0 ea : Nat} (hB : s0.heap.size ≤ B) (σ : Sg) (τ : Tt) (c : Nat) (hc : c < 3) (w : Nat) (hw : σ 7 c = nI w) (hw6 : w ≤ 60) (j : Nat) (hjw : j < w) : Ct l s0 (FC B D0) 3 0 0 y_Da_outcome b_Da_outcome 4 (some .int) [.ref (B), .int (nI c), .int (nI j)] (RepC G B D0 ea σ τ) (pI (fun r H => r = σ 6 (60 * c + j) ∧ RepC G B D0 ea σ τ H)) := by
  refine Ct.of C (by decide) (Nat.le_of_ble_eq_true rfl) ?_
  intro pg ev s mm below meth cd V hr hlk hn hR ls hl
  have hx := V.1
  have hb := V.2.1
  have hS : va_S (FC B D0) s.heap s.heap [] := va_S.rf
  have hF : ∀ q, FC B D0 q → FC B D0 q := fun _ h => h
  have hA : ∀ q, FC B D0 q → s0.heap.size ≤ q := fun q h => by have := hR.1; rcases h with h | h <;> omega
  have hl : lv_has ls 4 [(0, .ref (B)), (1, .int (nI c)), (2, .int (nI j))] := hl
  refine lv_aload_n hx hb d_Da_outcome_0 rfl (lv_at hl 0 rfl) ?_
  refine lv_iload_n hx hb d_Da_outcome_1 rfl (lv_at hl 1 rfl) ?_
  refine g_callV (As := [.int (nI c)]) (rest := []) (A0 := FC B D0) V (c_Da_found C hB σ τ c hc) v_Da_39 (hR.rDa V.2.2.2.2.2.1) hR hS hA (fun _ h => h) ⟨by decide, by decide⟩ rfl hl (Nat.le_of_ble_eq_true rfl) d_Da_outcome_2 ⟨Nat.le_refl _, Nat.le_refl _⟩ (kA (fun r2 H locs hQ _ hS => ?_))
  obtain ⟨rfl, hR⟩ := hQ
  refine lv_astore_n (lv' := [(3, .ref (B + (9 + 9 * c))), (0, .ref (B)), (1, .int (nI c)), (2, .int (nI j))]) hx hb d_Da_outcome_5 rfl hl (by decide) rfl (fun ls hl => ?_)
  refine lv_iload_n hx hb d_Da_outcome_6 rfl (lv_at hl 3 rfl) ?_
  refine lv_aload_n hx hb d_Da_outcome_7 rfl (lv_at hl 0 rfl) ?_
  refine g_Da_50 V (hR.2.2.2 _ hc).1 rfl d_Da_outcome_8 ?_
  refine g_callV (As := []) (rest := [.int (nI j)]) (A0 := FC B D0) V (c_Al_size C hB σ τ c hc) v_Da_54 (hR.rAl V.2.2.2.2.2.1 hc) hR hS hA (fun _ h => h) ⟨by decide, by decide⟩ rfl hl (Nat.le_of_ble_eq_true rfl) d_Da_outcome_11 ⟨Nat.le_refl _, Nat.le_refl _⟩ (kI (fun r11 H locs hQ _ hS => ?_))
  obtain ⟨rfl, hR⟩ := hQ
  refine lv_tope (y := nI w) hw ?_
  refine g_callS (As := [.int (nI j), .int (nI w)]) (rest := []) (A0 := FC B D0) V (c_Da_within C hB σ τ (nI j) (nI w)) v_Da_43 hR hS hA (fun _ h => h) ⟨by decide, by decide⟩ rfl hl (Nat.le_of_ble_eq_true rfl) d_Da_outcome_14 ⟨Nat.le_refl _, Nat.le_refl _⟩ (kI (fun r14 H locs hQ _ hS => ?_))
  obtain ⟨rfl, hR⟩ := hQ
  refine lv_if_ne (tgt := 28) hx hb d_Da_outcome_17 (by decide) (fun h17 => ?_) (fun h17 => ?_)
  · have h17 := bI_n0.mp h17
    refine lv_aload_n hx hb d_Da_outcome_28 rfl (lv_at hl 0 rfl) ?_
    refine g_Da_50 V (hR.2.2.2 _ hc).1 rfl d_Da_outcome_29 ?_
    refine lv_iload_n hx hb d_Da_outcome_32 rfl (lv_at hl 3 rfl) ?_
    refine g_callV (As := [.int (nI j)]) (rest := []) (A0 := FC B D0) V (c_Al_get C hB σ τ c hc w hw hw6 (j) hjw) v_Da_109 (hR.rAl V.2.2.2.2.2.1 hc) hR hS hA (fun _ h => h) ⟨by decide, by decide⟩ rfl hl (Nat.le_of_ble_eq_true rfl) d_Da_outcome_33 ⟨Nat.le_refl _, Nat.le_refl _⟩ (kA (fun r33 H locs hQ _ hS => ?_))
    obtain ⟨rfl, hR⟩ := hQ
    refine x_cast V (List.mem_of_getElem? (i := 445) (by decide +kernel)) (hR.wsh hc hw hw6 hjw).1 d_Da_outcome_36 ?_
    refine g_Da_113 V (hR.wsh hc hw hw6 hjw).1 rfl d_Da_outcome_39 ?_
    exact e_i V hr hlk hS (Nat.le_refl _) (Nat.le_refl _) d_Da_outcome_42 ⟨_, rfl, rfl, hR⟩
  · exact absurd (bI_0.mp h17) (by simp [nI_pos (show j < 2 ^ 31 by omega), nI_ge hjw (show w < 2 ^ 31 by omega)])
theorem d_Da_driveOf_0 : decode b_Da_driveOf 0 = .ok (.aload_n 0, 1) := by decide +kernel
theorem d_Da_driveOf_1 : decode b_Da_driveOf 1 = .ok (.iload_n 1, 1) := by decide +kernel
theorem d_Da_driveOf_2 : decode b_Da_driveOf 2 = .ok (.invokevirtual 39, 3) := by decide +kernel
set_option maxHeartbeats 4000000 in
set_option maxRecDepth 100000 in
theorem t_Da_driveOf_bad {l : Launch} {G : Gx} {s0 : State} (hfl : l.flags = pinnedFlags ++ [noTraceFlag]) (C : Cx G s0) (C0 : Ts0 s0) {B D0 ea : Nat} (hB : s0.heap.size ≤ B) (σ : Sg) (τ : Tt) (x : Int32) (hx1 : one x = false) (y : Int32) : CtT l s0 (FC B D0) 2 1 6 y_Da_driveOf (.code y_Da_driveOf b_Da_driveOf 3 (some (.object "DiskArbiters$Drive"))) [.ref (B), .int (x), .int (y)] (RepC G B D0 ea σ τ) "java/lang/IndexOutOfBoundsException" (RepC G B D0 ea σ τ) := by
  refine CtT.of C cdw_code (by decide) (Nat.le_of_ble_eq_true rfl) ?_
  intro pg ev s mm below meth cd V hr hlk ht hR ls hl
  have hx := V.1
  have hb := V.2.1
  have hS : va_S (FC B D0) s.heap s.heap [] := va_S.rf
  have hF : ∀ q, FC B D0 q → FC B D0 q := fun _ h => h
  have hA : ∀ q, FC B D0 q → s0.heap.size ≤ q := fun q h => by have := hR.1; rcases h with h | h <;> omega
  have hl : lv_has ls 3 [(0, .ref (B)), (1, .int (x)), (2, .int (y))] := hl
  refine lv_aload_n hx hb d_Da_driveOf_0 rfl (lv_at hl 0 rfl) ?_
  refine lv_iload_n hx hb d_Da_driveOf_1 rfl (lv_at hl 1 rfl) ?_
  refine t_callV (n := 1) (As := [.int (x)]) (rest := []) (A0 := FC B D0) V (t_Da_found hfl C C0 hB σ τ (x) hx1) cdw_code ⟨List.mem_of_getElem? (i := 317) (by decide +kernel), rfl⟩ (List.mem_of_getElem? (i := 29) (by decide +kernel)) (List.mem_of_getElem? (i := 314) (by decide +kernel)) ⟨List.mem_of_getElem? (i := 316) (by decide +kernel), List.mem_of_getElem? (i := 1) (by decide +kernel)⟩ ⟨by decide, by decide, by decide +kernel⟩ (hR.rDa V.2.2.2.2.2.1) hR hS hA (fun _ h => h) ⟨by decide, by decide⟩ rfl hl (Nat.le_of_ble_eq_true rfl) d_Da_driveOf_2 ⟨by decide, by decide⟩ (fun x H locs hex hR _ hS => ?_)
  exact wt_leave hlk (out_of ht (by decide)) hS (by decide) (by decide) hex hR
theorem d_Da_driveOf_5 : decode b_Da_driveOf 5 = .ok (.getfield 116, 3) := by decide +kernel
theorem d_Da_driveOf_8 : decode b_Da_driveOf 8 = .ok (.getfield 120, 3) := by decide +kernel
theorem d_Da_driveOf_11 : decode b_Da_driveOf 11 = .ok (.iload_n 2, 1) := by decide +kernel
theorem d_Da_driveOf_12 : decode b_Da_driveOf 12 = .ok (.iconst 3, 1) := by decide +kernel
theorem d_Da_driveOf_13 : decode b_Da_driveOf 13 = .ok (.invokestatic 28, 3) := by decide +kernel
set_option maxHeartbeats 4000000 in
set_option maxRecDepth 100000 in
theorem t_Da_driveOf_bad2 {l : Launch} {G : Gx} {s0 : State} (hfl : l.flags = pinnedFlags ++ [noTraceFlag]) (C : Cx G s0) (C0 : Ts0 s0) {B D0 ea : Nat} (hB : s0.heap.size ≤ B) (σ : Sg) (τ : Tt) (c : Nat) (hc : c < 3) (y : Int32) (hy1 : one y = false) : CtT l s0 (FC B D0) 2 1 6 y_Da_driveOf (.code y_Da_driveOf b_Da_driveOf 3 (some (.object "DiskArbiters$Drive"))) [.ref (B), .int (nI c), .int (y)] (RepC G B D0 ea σ τ) "java/lang/IndexOutOfBoundsException" (RepC G B D0 ea σ τ) := by
  refine CtT.of C cdw_code (by decide) (Nat.le_of_ble_eq_true rfl) ?_
  intro pg ev s mm below meth cd V hr hlk ht hR ls hl
  have hx := V.1
  have hb := V.2.1
  have hS : va_S (FC B D0) s.heap s.heap [] := va_S.rf
  have hF : ∀ q, FC B D0 q → FC B D0 q := fun _ h => h
  have hA : ∀ q, FC B D0 q → s0.heap.size ≤ q := fun q h => by have := hR.1; rcases h with h | h <;> omega
  have hl : lv_has ls 3 [(0, .ref (B)), (1, .int (nI c)), (2, .int (y))] := hl
  refine lv_aload_n hx hb d_Da_driveOf_0 rfl (lv_at hl 0 rfl) ?_
  refine lv_iload_n hx hb d_Da_driveOf_1 rfl (lv_at hl 1 rfl) ?_
  refine g_callV (As := [.int (nI c)]) (rest := []) (A0 := FC B D0) V (c_Da_found C hB σ τ c hc) v_Da_39 (hR.rDa V.2.2.2.2.2.1) hR hS hA (fun _ h => h) ⟨by decide, by decide⟩ rfl hl (Nat.le_of_ble_eq_true rfl) d_Da_driveOf_2 ⟨by decide, by decide⟩ (kA (fun r2 H locs hQ _ hS => ?_))
  obtain ⟨rfl, hR⟩ := hQ
  refine g_Da_116 V (hR.2.2.2 _ hc).1 rfl d_Da_driveOf_5 ?_
  refine g_Da_120 V (hR.2.2.2 _ hc).2.2.1.1 rfl d_Da_driveOf_8 ?_
  refine lv_iload_n hx hb d_Da_driveOf_11 rfl (lv_at hl 2 rfl) ?_
  refine lv_iconst (v := 3) hx hb d_Da_driveOf_12 (by decide) ?_
  refine t_callS (n := 2) (As := [.int (y), .int (3)]) (rest := [.ref (B + (14 + 9 * c))]) (A0 := FC B D0) V (t_Da_index hfl C C0 hB σ τ (y) 3 (one_no hy1)) cdw_code ⟨List.mem_of_getElem? (i := 320) (by decide +kernel), rfl⟩ (List.mem_of_getElem? (i := 29) (by decide +kernel)) (List.mem_of_getElem? (i := 318) (by decide +kernel)) (List.mem_of_getElem? (i := 319) (by decide +kernel)) ⟨by decide, by decide, by decide +kernel⟩ hR hS hA (fun _ h => h) ⟨by decide, by decide⟩ rfl hl (Nat.le_of_ble_eq_true rfl) d_Da_driveOf_13 ⟨by decide, by decide⟩ (fun x H locs hex hR _ hS => ?_)
  exact wt_leave hlk (out_of ht (by decide)) hS (by decide) (by decide) hex hR
theorem d_Da_driveOf_16 : decode b_Da_driveOf 16 = .ok (.aaload, 1) := by decide +kernel
theorem d_Da_driveOf_17 : decode b_Da_driveOf 17 = .ok (.areturn, 1) := by decide +kernel
set_option maxHeartbeats 4000000 in
set_option maxRecDepth 100000 in
theorem c_Da_driveOf {l : Launch} {G : Gx} {s0 : State} (C : Cx G s0) {B D0 ea : Nat} (hB : s0.heap.size ≤ B) (σ : Sg) (τ : Tt) (c : Nat) (hc : c < 3) (d : Nat) (hd : d < 3) : Ct l s0 (FC B D0) 2 0 0 y_Da_driveOf b_Da_driveOf 3 (some (.object "DiskArbiters$Drive")) [.ref (B), .int (nI c), .int (nI d)] (RepC G B D0 ea σ τ) (pA (fun r H => r = B + (15 + 9 * c + d) ∧ RepC G B D0 ea σ τ H)) := by
  refine Ct.of C (by decide) (Nat.le_of_ble_eq_true rfl) ?_
  intro pg ev s mm below meth cd V hr hlk hn hR ls hl
  have hx := V.1
  have hb := V.2.1
  have hS : va_S (FC B D0) s.heap s.heap [] := va_S.rf
  have hF : ∀ q, FC B D0 q → FC B D0 q := fun _ h => h
  have hA : ∀ q, FC B D0 q → s0.heap.size ≤ q := fun q h => by have := hR.1; rcases h with h | h <;> omega
  have hl : lv_has ls 3 [(0, .ref (B)), (1, .int (nI c)), (2, .int (nI d))] := hl
  refine lv_aload_n hx hb d_Da_driveOf_0 rfl (lv_at hl 0 rfl) ?_
  refine lv_iload_n hx hb d_Da_driveOf_1 rfl (lv_at hl 1 rfl) ?_
  refine g_callV (As := [.int (nI c)]) (rest := []) (A0 := FC B D0) V (c_Da_found C hB σ τ c hc) v_Da_39 (hR.rDa V.2.2.2.2.2.1) hR hS hA (fun _ h => h) ⟨by decide, by decide⟩ rfl hl (Nat.le_of_ble_eq_true rfl) d_Da_driveOf_2 ⟨Nat.le_refl _, Nat.le_refl _⟩ (kA (fun r2 H locs hQ _ hS => ?_))
  obtain ⟨rfl, hR⟩ := hQ
  refine g_Da_116 V (hR.2.2.2 _ hc).1 rfl d_Da_driveOf_5 ?_
  refine g_Da_120 V (hR.2.2.2 _ hc).2.2.1.1 rfl d_Da_driveOf_8 ?_
  refine lv_iload_n hx hb d_Da_driveOf_11 rfl (lv_at hl 2 rfl) ?_
  refine lv_iconst (v := 3) hx hb d_Da_driveOf_12 (by decide) ?_
  refine g_callS (As := [.int (nI d), .int (3)]) (rest := [.ref (B + (14 + 9 * c))]) (A0 := FC B D0) V (c_Da_index C hB σ τ (d) (3) (by omega) (by decide)) v_Da_28 hR hS hA (fun _ h => h) ⟨by decide, by decide⟩ rfl hl (Nat.le_of_ble_eq_true rfl) d_Da_driveOf_13 ⟨Nat.le_refl _, Nat.le_refl _⟩ (kI (fun r13 H locs hQ _ hS => ?_))
  obtain ⟨rfl, hR⟩ := hQ
  refine c_drv V hR hc (d) rfl hd d_Da_driveOf_16 ?_
  exact e_a V hr hlk hS (Nat.le_refl _) (Nat.le_refl _) d_Da_driveOf_17 ⟨_, rfl, rfl, hR⟩
theorem d_Da_holds_0 : decode b_Da_holds 0 = .ok (.aload_n 0, 1) := by decide +kernel
theorem d_Da_holds_1 : decode b_Da_holds 1 = .ok (.iload_n 1, 1) := by decide +kernel
theorem d_Da_holds_2 : decode b_Da_holds 2 = .ok (.iload_n 2, 1) := by decide +kernel
theorem d_Da_holds_3 : decode b_Da_holds 3 = .ok (.invokevirtual 126, 3) := by decide +kernel
set_option maxHeartbeats 4000000 in
set_option maxRecDepth 100000 in
theorem t_Da_holds_bad {l : Launch} {G : Gx} {s0 : State} (hfl : l.flags = pinnedFlags ++ [noTraceFlag]) (C : Cx G s0) (C0 : Ts0 s0) {B D0 ea : Nat} (hB : s0.heap.size ≤ B) (σ : Sg) (τ : Tt) (x : Int32) (hx1 : one x = false) (y : Int32) : CtT l s0 (FC B D0) 3 1 6 y_Da_holds (.code y_Da_holds b_Da_holds 3 (some .int)) [.ref (B), .int (x), .int (y)] (RepC G B D0 ea σ τ) "java/lang/IndexOutOfBoundsException" (RepC G B D0 ea σ τ) := by
  refine CtT.of C cdw_code (by decide) (Nat.le_of_ble_eq_true rfl) ?_
  intro pg ev s mm below meth cd V hr hlk ht hR ls hl
  have hx := V.1
  have hb := V.2.1
  have hS : va_S (FC B D0) s.heap s.heap [] := va_S.rf
  have hF : ∀ q, FC B D0 q → FC B D0 q := fun _ h => h
  have hA : ∀ q, FC B D0 q → s0.heap.size ≤ q := fun q h => by have := hR.1; rcases h with h | h <;> omega
  have hl : lv_has ls 3 [(0, .ref (B)), (1, .int (x)), (2, .int (y))] := hl
  refine lv_aload_n hx hb d_Da_holds_0 rfl (lv_at hl 0 rfl) ?_
  refine lv_iload_n hx hb d_Da_holds_1 rfl (lv_at hl 1 rfl) ?_
  refine lv_iload_n hx hb d_Da_holds_2 rfl (lv_at hl 2 rfl) ?_
  refine t_callV (n := 2) (As := [.int (x), .int (y)]) (rest := []) (A0 := FC B D0) V (t_Da_driveOf_bad hfl C C0 hB σ τ x hx1 y) cdw_code ⟨List.mem_of_getElem? (i := 719) (by decide +kernel), rfl⟩ (List.mem_of_getElem? (i := 29) (by decide +kernel)) (List.mem_of_getElem? (i := 716) (by decide +kernel)) ⟨List.mem_of_getElem? (i := 718) (by decide +kernel), List.mem_of_getElem? (i := 13) (by decide +kernel)⟩ ⟨by decide, by decide, by decide +kernel⟩ (hR.rDa V.2.2.2.2.2.1) hR hS hA (fun _ h => h) ⟨by decide, by decide⟩ rfl hl (Nat.le_of_ble_eq_true rfl) d_Da_holds_3 ⟨by decide, by decide⟩ (fun x H locs hex hR _ hS => ?_)
  exact wt_leave hlk (out_of ht (by decide)) hS (by decide) (by decide) hex hR
set_option maxHeartbeats 4000000 in
set_option maxRecDepth 100000 in
theorem t_Da_holds_bad2 {l : Launch} {G : Gx} {s0 : State} (hfl : l.flags = pinnedFlags ++ [noTraceFlag]) (C : Cx G s0) (C0 : Ts0 s0) {B D0 ea : Nat} (hB : s0.heap.size ≤ B) (σ : Sg) (τ : Tt) (c : Nat) (hc : c < 3) (y : Int32) (hy1 : one y = false) : CtT l s0 (FC B D0) 3 1 6 y_Da_holds (.code y_Da_holds b_Da_holds 3 (some .int)) [.ref (B), .int (nI c), .int (y)] (RepC G B D0 ea σ τ) "java/lang/IndexOutOfBoundsException" (RepC G B D0 ea σ τ) := by
  refine CtT.of C cdw_code (by decide) (Nat.le_of_ble_eq_true rfl) ?_
  intro pg ev s mm below meth cd V hr hlk ht hR ls hl
  have hx := V.1
  have hb := V.2.1
  have hS : va_S (FC B D0) s.heap s.heap [] := va_S.rf
  have hF : ∀ q, FC B D0 q → FC B D0 q := fun _ h => h
  have hA : ∀ q, FC B D0 q → s0.heap.size ≤ q := fun q h => by have := hR.1; rcases h with h | h <;> omega
  have hl : lv_has ls 3 [(0, .ref (B)), (1, .int (nI c)), (2, .int (y))] := hl
  refine lv_aload_n hx hb d_Da_holds_0 rfl (lv_at hl 0 rfl) ?_
  refine lv_iload_n hx hb d_Da_holds_1 rfl (lv_at hl 1 rfl) ?_
  refine lv_iload_n hx hb d_Da_holds_2 rfl (lv_at hl 2 rfl) ?_
  refine t_callV (n := 2) (As := [.int (nI c), .int (y)]) (rest := []) (A0 := FC B D0) V (t_Da_driveOf_bad2 hfl C C0 hB σ τ c hc y hy1) cdw_code ⟨List.mem_of_getElem? (i := 719) (by decide +kernel), rfl⟩ (List.mem_of_getElem? (i := 29) (by decide +kernel)) (List.mem_of_getElem? (i := 716) (by decide +kernel)) ⟨List.mem_of_getElem? (i := 718) (by decide +kernel), List.mem_of_getElem? (i := 13) (by decide +kernel)⟩ ⟨by decide, by decide, by decide +kernel⟩ (hR.rDa V.2.2.2.2.2.1) hR hS hA (fun _ h => h) ⟨by decide, by decide⟩ rfl hl (Nat.le_of_ble_eq_true rfl) d_Da_holds_3 ⟨by decide, by decide⟩ (fun x H locs hex hR _ hS => ?_)
  exact wt_leave hlk (out_of ht (by decide)) hS (by decide) (by decide) hex hR
theorem d_Da_reserved_0 : decode b_Da_reserved 0 = .ok (.aload_n 0, 1) := by decide +kernel
theorem d_Da_reserved_1 : decode b_Da_reserved 1 = .ok (.iload_n 1, 1) := by decide +kernel
theorem d_Da_reserved_2 : decode b_Da_reserved 2 = .ok (.iload_n 2, 1) := by decide +kernel
theorem d_Da_reserved_3 : decode b_Da_reserved 3 = .ok (.invokevirtual 126, 3) := by decide +kernel
set_option maxHeartbeats 4000000 in
set_option maxRecDepth 100000 in
theorem t_Da_reserved_bad {l : Launch} {G : Gx} {s0 : State} (hfl : l.flags = pinnedFlags ++ [noTraceFlag]) (C : Cx G s0) (C0 : Ts0 s0) {B D0 ea : Nat} (hB : s0.heap.size ≤ B) (σ : Sg) (τ : Tt) (x : Int32) (hx1 : one x = false) (y : Int32) : CtT l s0 (FC B D0) 3 1 6 y_Da_reserved (.code y_Da_reserved b_Da_reserved 4 (some .int)) [.ref (B), .int (x), .int (y)] (RepC G B D0 ea σ τ) "java/lang/IndexOutOfBoundsException" (RepC G B D0 ea σ τ) := by
  refine CtT.of C cdw_code (by decide) (Nat.le_of_ble_eq_true rfl) ?_
  intro pg ev s mm below meth cd V hr hlk ht hR ls hl
  have hx := V.1
  have hb := V.2.1
  have hS : va_S (FC B D0) s.heap s.heap [] := va_S.rf
  have hF : ∀ q, FC B D0 q → FC B D0 q := fun _ h => h
  have hA : ∀ q, FC B D0 q → s0.heap.size ≤ q := fun q h => by have := hR.1; rcases h with h | h <;> omega
  have hl : lv_has ls 4 [(0, .ref (B)), (1, .int (x)), (2, .int (y))] := hl
  refine lv_aload_n hx hb d_Da_reserved_0 rfl (lv_at hl 0 rfl) ?_
  refine lv_iload_n hx hb d_Da_reserved_1 rfl (lv_at hl 1 rfl) ?_
  refine lv_iload_n hx hb d_Da_reserved_2 rfl (lv_at hl 2 rfl) ?_
  refine t_callV (n := 2) (As := [.int (x), .int (y)]) (rest := []) (A0 := FC B D0) V (t_Da_driveOf_bad hfl C C0 hB σ τ x hx1 y) cdw_code ⟨List.mem_of_getElem? (i := 719) (by decide +kernel), rfl⟩ (List.mem_of_getElem? (i := 29) (by decide +kernel)) (List.mem_of_getElem? (i := 716) (by decide +kernel)) ⟨List.mem_of_getElem? (i := 718) (by decide +kernel), List.mem_of_getElem? (i := 13) (by decide +kernel)⟩ ⟨by decide, by decide, by decide +kernel⟩ (hR.rDa V.2.2.2.2.2.1) hR hS hA (fun _ h => h) ⟨by decide, by decide⟩ rfl hl (Nat.le_of_ble_eq_true rfl) d_Da_reserved_3 ⟨by decide, by decide⟩ (fun x H locs hex hR _ hS => ?_)
  exact wt_leave hlk (out_of ht (by decide)) hS (by decide) (by decide) hex hR
set_option maxHeartbeats 4000000 in
set_option maxRecDepth 100000 in
theorem t_Da_reserved_bad2 {l : Launch} {G : Gx} {s0 : State} (hfl : l.flags = pinnedFlags ++ [noTraceFlag]) (C : Cx G s0) (C0 : Ts0 s0) {B D0 ea : Nat} (hB : s0.heap.size ≤ B) (σ : Sg) (τ : Tt) (c : Nat) (hc : c < 3) (y : Int32) (hy1 : one y = false) : CtT l s0 (FC B D0) 3 1 6 y_Da_reserved (.code y_Da_reserved b_Da_reserved 4 (some .int)) [.ref (B), .int (nI c), .int (y)] (RepC G B D0 ea σ τ) "java/lang/IndexOutOfBoundsException" (RepC G B D0 ea σ τ) := by
  refine CtT.of C cdw_code (by decide) (Nat.le_of_ble_eq_true rfl) ?_
  intro pg ev s mm below meth cd V hr hlk ht hR ls hl
  have hx := V.1
  have hb := V.2.1
  have hS : va_S (FC B D0) s.heap s.heap [] := va_S.rf
  have hF : ∀ q, FC B D0 q → FC B D0 q := fun _ h => h
  have hA : ∀ q, FC B D0 q → s0.heap.size ≤ q := fun q h => by have := hR.1; rcases h with h | h <;> omega
  have hl : lv_has ls 4 [(0, .ref (B)), (1, .int (nI c)), (2, .int (y))] := hl
  refine lv_aload_n hx hb d_Da_reserved_0 rfl (lv_at hl 0 rfl) ?_
  refine lv_iload_n hx hb d_Da_reserved_1 rfl (lv_at hl 1 rfl) ?_
  refine lv_iload_n hx hb d_Da_reserved_2 rfl (lv_at hl 2 rfl) ?_
  refine t_callV (n := 2) (As := [.int (nI c), .int (y)]) (rest := []) (A0 := FC B D0) V (t_Da_driveOf_bad2 hfl C C0 hB σ τ c hc y hy1) cdw_code ⟨List.mem_of_getElem? (i := 719) (by decide +kernel), rfl⟩ (List.mem_of_getElem? (i := 29) (by decide +kernel)) (List.mem_of_getElem? (i := 716) (by decide +kernel)) ⟨List.mem_of_getElem? (i := 718) (by decide +kernel), List.mem_of_getElem? (i := 13) (by decide +kernel)⟩ ⟨by decide, by decide, by decide +kernel⟩ (hR.rDa V.2.2.2.2.2.1) hR hS hA (fun _ h => h) ⟨by decide, by decide⟩ rfl hl (Nat.le_of_ble_eq_true rfl) d_Da_reserved_3 ⟨by decide, by decide⟩ (fun x H locs hex hR _ hS => ?_)
  exact wt_leave hlk (out_of ht (by decide)) hS (by decide) (by decide) hex hR
theorem d_Da_holds_6 : decode b_Da_holds 6 = .ok (.getfield 130, 3) := by decide +kernel
theorem d_Da_holds_9 : decode b_Da_holds 9 = .ok (.ireturn, 1) := by decide +kernel
set_option maxHeartbeats 4000000 in
set_option maxRecDepth 100000 in
theorem c_Da_holds {l : Launch} {G : Gx} {s0 : State} (C : Cx G s0) {B D0 ea : Nat} (hB : s0.heap.size ≤ B) (σ : Sg) (τ : Tt) (c : Nat) (hc : c < 3) (d : Nat) (hd : d < 3) : Ct l s0 (FC B D0) 3 0 0 y_Da_holds b_Da_holds 3 (some .int) [.ref (B), .int (nI c), .int (nI d)] (RepC G B D0 ea σ τ) (pI (fun r H => r = σ 22 (3 * c + d) ∧ RepC G B D0 ea σ τ H)) := by
  refine Ct.of C (by decide) (Nat.le_of_ble_eq_true rfl) ?_
  intro pg ev s mm below meth cd V hr hlk hn hR ls hl
  have hx := V.1
  have hb := V.2.1
  have hS : va_S (FC B D0) s.heap s.heap [] := va_S.rf
  have hF : ∀ q, FC B D0 q → FC B D0 q := fun _ h => h
  have hA : ∀ q, FC B D0 q → s0.heap.size ≤ q := fun q h => by have := hR.1; rcases h with h | h <;> omega
  have hl : lv_has ls 3 [(0, .ref (B)), (1, .int (nI c)), (2, .int (nI d))] := hl
  refine lv_aload_n hx hb d_Da_holds_0 rfl (lv_at hl 0 rfl) ?_
  refine lv_iload_n hx hb d_Da_holds_1 rfl (lv_at hl 1 rfl) ?_
  refine lv_iload_n hx hb d_Da_holds_2 rfl (lv_at hl 2 rfl) ?_
  refine g_callV (As := [.int (nI c), .int (nI d)]) (rest := []) (A0 := FC B D0) V (c_Da_driveOf C hB σ τ c hc d hd) v_Da_126 (hR.rDa V.2.2.2.2.2.1) hR hS hA (fun _ h => h) ⟨by decide, by decide⟩ rfl hl (Nat.le_of_ble_eq_true rfl) d_Da_holds_3 ⟨Nat.le_refl _, Nat.le_refl _⟩ (kA (fun r3 H locs hQ _ hS => ?_))
  obtain ⟨rfl, hR⟩ := hQ
  refine g_Da_130 V ((hR.2.2.2 _ hc).2.2.1.2.2.2 _ hd) rfl d_Da_holds_6 ?_
  exact e_i V hr hlk hS (Nat.le_refl _) (Nat.le_refl _) d_Da_holds_9 ⟨_, rfl, rfl, hR⟩
theorem d_Da_reserved_6 : decode b_Da_reserved 6 = .ok (.astore_n 3, 1) := by decide +kernel
theorem d_Da_reserved_7 : decode b_Da_reserved 7 = .ok (.aload_n 3, 1) := by decide +kernel
theorem d_Da_reserved_8 : decode b_Da_reserved 8 = .ok (.getfield 138, 3) := by decide +kernel
theorem d_Da_reserved_11 : decode b_Da_reserved 11 = .ok (.ifCond .eq 13, 3) := by decide +kernel
theorem d_Da_reserved_14 : decode b_Da_reserved 14 = .ok (.aload_n 3, 1) := by decide +kernel
theorem d_Da_reserved_15 : decode b_Da_reserved 15 = .ok (.getfield 141, 3) := by decide +kernel
theorem d_Da_reserved_18 : decode b_Da_reserved 18 = .ok (.bipush 10, 2) := by decide +kernel
theorem d_Da_reserved_20 : decode b_Da_reserved 20 = .ok (.iadd, 1) := by decide +kernel
theorem d_Da_reserved_21 : decode b_Da_reserved 21 = .ok (.goto 7, 3) := by decide +kernel
theorem d_Da_reserved_24 : decode b_Da_reserved 24 = .ok (.aload_n 3, 1) := by decide +kernel
theorem d_Da_reserved_25 : decode b_Da_reserved 25 = .ok (.getfield 141, 3) := by decide +kernel
theorem d_Da_reserved_28 : decode b_Da_reserved 28 = .ok (.ireturn, 1) := by decide +kernel
set_option maxHeartbeats 4000000 in
set_option maxRecDepth 100000 in
theorem c_Da_reserved {l : Launch} {G : Gx} {s0 : State} (C : Cx G s0) {B D0 ea : Nat} (hB : s0.heap.size ≤ B) (σ : Sg) (τ : Tt) (c : Nat) (hc : c < 3) (d : Nat) (hd : d < 3) : Ct l s0 (FC B D0) 3 0 0 y_Da_reserved b_Da_reserved 4 (some .int) [.ref (B), .int (nI c), .int (nI d)] (RepC G B D0 ea σ τ) (pI (fun r H => r = (if σ 23 (3 * c + d) = 0 then σ 24 (3 * c + d) else σ 24 (3 * c + d) + 10) ∧ RepC G B D0 ea σ τ H)) := by
  refine Ct.of C (by decide) (Nat.le_of_ble_eq_true rfl) ?_
  intro pg ev s mm below meth cd V hr hlk hn hR ls hl
  have hx := V.1
  have hb := V.2.1
  have hS : va_S (FC B D0) s.heap s.heap [] := va_S.rf
  have hF : ∀ q, FC B D0 q → FC B D0 q := fun _ h => h
  have hA : ∀ q, FC B D0 q → s0.heap.size ≤ q := fun q h => by have := hR.1; rcases h with h | h <;> omega
  have hl : lv_has ls 4 [(0, .ref (B)), (1, .int (nI c)), (2, .int (nI d))] := hl
  refine lv_aload_n hx hb d_Da_reserved_0 rfl (lv_at hl 0 rfl) ?_
  refine lv_iload_n hx hb d_Da_reserved_1 rfl (lv_at hl 1 rfl) ?_
  refine lv_iload_n hx hb d_Da_reserved_2 rfl (lv_at hl 2 rfl) ?_
  refine g_callV (As := [.int (nI c), .int (nI d)]) (rest := []) (A0 := FC B D0) V (c_Da_driveOf C hB σ τ c hc d hd) v_Da_126 (hR.rDa V.2.2.2.2.2.1) hR hS hA (fun _ h => h) ⟨by decide, by decide⟩ rfl hl (Nat.le_of_ble_eq_true rfl) d_Da_reserved_3 ⟨Nat.le_refl _, Nat.le_refl _⟩ (kA (fun r3 H locs hQ _ hS => ?_))
  obtain ⟨rfl, hR⟩ := hQ
  refine lv_astore_n (lv' := [(3, .ref (B + (15 + 9 * c + d))), (0, .ref (B)), (1, .int (nI c)), (2, .int (nI d))]) hx hb d_Da_reserved_6 rfl hl (by decide) rfl (fun ls hl => ?_)
  refine lv_aload_n hx hb d_Da_reserved_7 rfl (lv_at hl 0 rfl) ?_
  refine g_Da_138 V ((hR.2.2.2 _ hc).2.2.1.2.2.2 _ hd) rfl d_Da_reserved_8 ?_
  refine lv_if_eq (tgt := 24) hx hb d_Da_reserved_11 (by decide) (fun h11 => ?_) (fun h11 => ?_)
  · refine lv_aload_n hx hb d_Da_reserved_24 rfl (lv_at hl 0 rfl) ?_
    refine g_Da_141 V ((hR.2.2.2 _ hc).2.2.1.2.2.2 _ hd) rfl d_Da_reserved_25 ?_
    exact e_i V hr hlk hS (Nat.le_refl _) (Nat.le_refl _) d_Da_reserved_28 ⟨_, rfl, by simp [h11], hR⟩
  · refine lv_aload_n hx hb d_Da_reserved_14 rfl (lv_at hl 0 rfl) ?_
    refine g_Da_141 V ((hR.2.2.2 _ hc).2.2.1.2.2.2 _ hd) rfl d_Da_reserved_15 ?_
    refine lv_bipush (v := 10) hx hb d_Da_reserved_18 (by decide) ?_
    refine lv_iadd hx hb d_Da_reserved_20 ?_
    refine lv_goto (tgt := 28) hx hb d_Da_reserved_21 (by decide) ?_
    exact e_i V hr hlk hS (Nat.le_refl _) (Nat.le_refl _) d_Da_reserved_28 ⟨_, rfl, by simp [h11], hR⟩
theorem d_Da_where_0 : decode b_Da_where 0 = .ok (.aload_n 0, 1) := by decide +kernel
theorem d_Da_where_1 : decode b_Da_where 1 = .ok (.iload_n 1, 1) := by decide +kernel
theorem d_Da_where_2 : decode b_Da_where 2 = .ok (.invokevirtual 39, 3) := by decide +kernel
set_option maxHeartbeats 4000000 in
set_option maxRecDepth 100000 in
theorem t_Da_where_bad {l : Launch} {G : Gx} {s0 : State} (hfl : l.flags = pinnedFlags ++ [noTraceFlag]) (C : Cx G s0) (C0 : Ts0 s0) {B D0 ea : Nat} (hB : s0.heap.size ≤ B) (σ : Sg) (τ : Tt) (x : Int32) (hx1 : one x = false) (y : Int32) : CtT l s0 (FC B D0) 2 1 6 y_Da_where (.code y_Da_where b_Da_where 3 (some .int)) [.ref (B), .int (x), .int (y)] (RepC G B D0 ea σ τ) "java/lang/IndexOutOfBoundsException" (RepC G B D0 ea σ τ) := by
  refine CtT.of C cdw_code (by decide) (Nat.le_of_ble_eq_true rfl) ?_
  intro pg ev s mm below meth cd V hr hlk ht hR ls hl
  have hx := V.1
  have hb := V.2.1
  have hS : va_S (FC B D0) s.heap s.heap [] := va_S.rf
  have hF : ∀ q, FC B D0 q → FC B D0 q := fun _ h => h
  have hA : ∀ q, FC B D0 q → s0.heap.size ≤ q := fun q h => by have := hR.1; rcases h with h | h <;> omega
  have hl : lv_has ls 3 [(0, .ref (B)), (1, .int (x)), (2, .int (y))] := hl
  refine lv_aload_n hx hb d_Da_where_0 rfl (lv_at hl 0 rfl) ?_
  refine lv_iload_n hx hb d_Da_where_1 rfl (lv_at hl 1 rfl) ?_
  refine t_callV (n := 1) (As := [.int (x)]) (rest := []) (A0 := FC B D0) V (t_Da_found hfl C C0 hB σ τ (x) hx1) cdw_code ⟨List.mem_of_getElem? (i := 317) (by decide +kernel), rfl⟩ (List.mem_of_getElem? (i := 29) (by decide +kernel)) (List.mem_of_getElem? (i := 314) (by decide +kernel)) ⟨List.mem_of_getElem? (i := 316) (by decide +kernel), List.mem_of_getElem? (i := 1) (by decide +kernel)⟩ ⟨by decide, by decide, by decide +kernel⟩ (hR.rDa V.2.2.2.2.2.1) hR hS hA (fun _ h => h) ⟨by decide, by decide⟩ rfl hl (Nat.le_of_ble_eq_true rfl) d_Da_where_2 ⟨by decide, by decide⟩ (fun x H locs hex hR _ hS => ?_)
  exact wt_leave hlk (out_of ht (by decide)) hS (by decide) (by decide) hex hR
theorem d_Da_where_5 : decode b_Da_where 5 = .ok (.getfield 116, 3) := by decide +kernel
theorem d_Da_where_8 : decode b_Da_where 8 = .ok (.getfield 135, 3) := by decide +kernel
theorem d_Da_where_11 : decode b_Da_where 11 = .ok (.iload_n 2, 1) := by decide +kernel
theorem d_Da_where_12 : decode b_Da_where 12 = .ok (.bipush 8, 2) := by decide +kernel
theorem d_Da_where_14 : decode b_Da_where 14 = .ok (.invokestatic 28, 3) := by decide +kernel
set_option maxHeartbeats 4000000 in
set_option maxRecDepth 100000 in
theorem t_Da_where_bad2 {l : Launch} {G : Gx} {s0 : State} (hfl : l.flags = pinnedFlags ++ [noTraceFlag]) (C : Cx G s0) (C0 : Ts0 s0) {B D0 ea : Nat} (hB : s0.heap.size ≤ B) (σ : Sg) (τ : Tt) (c : Nat) (hc : c < 3) (y : Int32) (hy1 : y < 0 ∨ ¬ y < nI 8) : CtT l s0 (FC B D0) 2 1 6 y_Da_where (.code y_Da_where b_Da_where 3 (some .int)) [.ref (B), .int (nI c), .int (y)] (RepC G B D0 ea σ τ) "java/lang/IndexOutOfBoundsException" (RepC G B D0 ea σ τ) := by
  refine CtT.of C cdw_code (by decide) (Nat.le_of_ble_eq_true rfl) ?_
  intro pg ev s mm below meth cd V hr hlk ht hR ls hl
  have hx := V.1
  have hb := V.2.1
  have hS : va_S (FC B D0) s.heap s.heap [] := va_S.rf
  have hF : ∀ q, FC B D0 q → FC B D0 q := fun _ h => h
  have hA : ∀ q, FC B D0 q → s0.heap.size ≤ q := fun q h => by have := hR.1; rcases h with h | h <;> omega
  have hl : lv_has ls 3 [(0, .ref (B)), (1, .int (nI c)), (2, .int (y))] := hl
  refine lv_aload_n hx hb d_Da_where_0 rfl (lv_at hl 0 rfl) ?_
  refine lv_iload_n hx hb d_Da_where_1 rfl (lv_at hl 1 rfl) ?_
  refine g_callV (As := [.int (nI c)]) (rest := []) (A0 := FC B D0) V (c_Da_found C hB σ τ c hc) v_Da_39 (hR.rDa V.2.2.2.2.2.1) hR hS hA (fun _ h => h) ⟨by decide, by decide⟩ rfl hl (Nat.le_of_ble_eq_true rfl) d_Da_where_2 ⟨by decide, by decide⟩ (kA (fun r2 H locs hQ _ hS => ?_))
  obtain ⟨rfl, hR⟩ := hQ
  refine g_Da_116 V (hR.2.2.2 _ hc).1 rfl d_Da_where_5 ?_
  refine g_Da_135 V (hR.2.2.2 _ hc).2.2.1.1 rfl d_Da_where_8 ?_
  refine lv_iload_n hx hb d_Da_where_11 rfl (lv_at hl 2 rfl) ?_
  refine lv_bipush (v := 8) hx hb d_Da_where_12 (by decide) ?_
  refine t_callS (n := 2) (As := [.int (y), .int (8)]) (rest := [.ref (B + (13 + 9 * c))]) (A0 := FC B D0) V (t_Da_index hfl C C0 hB σ τ (y) 8 hy1) cdw_code ⟨List.mem_of_getElem? (i := 320) (by decide +kernel), rfl⟩ (List.mem_of_getElem? (i := 29) (by decide +kernel)) (List.mem_of_getElem? (i := 318) (by decide +kernel)) (List.mem_of_getElem? (i := 319) (by decide +kernel)) ⟨by decide, by decide, by decide +kernel⟩ hR hS hA (fun _ h => h) ⟨by decide, by decide⟩ rfl hl (Nat.le_of_ble_eq_true rfl) d_Da_where_14 ⟨by decide, by decide⟩ (fun x H locs hex hR _ hS => ?_)
  exact wt_leave hlk (out_of ht (by decide)) hS (by decide) (by decide) hex hR
theorem d_Da_where_17 : decode b_Da_where 17 = .ok (.iaload, 1) := by decide +kernel
theorem d_Da_where_18 : decode b_Da_where 18 = .ok (.ireturn, 1) := by decide +kernel
set_option maxHeartbeats 4000000 in
set_option maxRecDepth 100000 in
theorem c_Da_where {l : Launch} {G : Gx} {s0 : State} (C : Cx G s0) {B D0 ea : Nat} (hB : s0.heap.size ≤ B) (σ : Sg) (τ : Tt) (c : Nat) (hc : c < 3) (j : Nat) (hj : j < 8) : Ct l s0 (FC B D0) 2 0 0 y_Da_where b_Da_where 3 (some .int) [.ref (B), .int (nI c), .int (nI j)] (RepC G B D0 ea σ τ) (pI (fun r H => r = σ 21 (8 * c + j) ∧ RepC G B D0 ea σ τ H)) := by
  refine Ct.of C (by decide) (Nat.le_of_ble_eq_true rfl) ?_
  intro pg ev s mm below meth cd V hr hlk hn hR ls hl
  have hx := V.1
  have hb := V.2.1
  have hS : va_S (FC B D0) s.heap s.heap [] := va_S.rf
  have hF : ∀ q, FC B D0 q → FC B D0 q := fun _ h => h
  have hA : ∀ q, FC B D0 q → s0.heap.size ≤ q := fun q h => by have := hR.1; rcases h with h | h <;> omega
  have hl : lv_has ls 3 [(0, .ref (B)), (1, .int (nI c)), (2, .int (nI j))] := hl
  refine lv_aload_n hx hb d_Da_where_0 rfl (lv_at hl 0 rfl) ?_
  refine lv_iload_n hx hb d_Da_where_1 rfl (lv_at hl 1 rfl) ?_
  refine g_callV (As := [.int (nI c)]) (rest := []) (A0 := FC B D0) V (c_Da_found C hB σ τ c hc) v_Da_39 (hR.rDa V.2.2.2.2.2.1) hR hS hA (fun _ h => h) ⟨by decide, by decide⟩ rfl hl (Nat.le_of_ble_eq_true rfl) d_Da_where_2 ⟨Nat.le_refl _, Nat.le_refl _⟩ (kA (fun r2 H locs hQ _ hS => ?_))
  obtain ⟨rfl, hR⟩ := hQ
  refine g_Da_116 V (hR.2.2.2 _ hc).1 rfl d_Da_where_5 ?_
  refine g_Da_135 V (hR.2.2.2 _ hc).2.2.1.1 rfl d_Da_where_8 ?_
  refine lv_iload_n hx hb d_Da_where_11 rfl (lv_at hl 2 rfl) ?_
  refine lv_bipush (v := 8) hx hb d_Da_where_12 (by decide) ?_
  refine g_callS (As := [.int (nI j), .int (8)]) (rest := [.ref (B + (13 + 9 * c))]) (A0 := FC B D0) V (c_Da_index C hB σ τ (j) (8) (by omega) (by decide)) v_Da_28 hR hS hA (fun _ h => h) ⟨by decide, by decide⟩ rfl hl (Nat.le_of_ble_eq_true rfl) d_Da_where_14 ⟨Nat.le_refl _, Nat.le_refl _⟩ (kI (fun r14 H locs hQ _ hS => ?_))
  obtain ⟨rfl, hR⟩ := hQ
  refine c_hld V hR hc (j) rfl (by omega) d_Da_where_17 ?_
  exact e_i V hr hlk hS (Nat.le_refl _) (Nat.le_refl _) d_Da_where_18 ⟨_, rfl, rfl, hR⟩
theorem d_Da_word_0 : decode b_Da_word 0 = .ok (.aload_n 0, 1) := by decide +kernel
theorem d_Da_word_1 : decode b_Da_word 1 = .ok (.getfield 10, 3) := by decide +kernel
theorem d_Da_word_4 : decode b_Da_word 4 = .ok (.iload_n 1, 1) := by decide +kernel
theorem d_Da_word_5 : decode b_Da_word 5 = .ok (.iconst 3, 1) := by decide +kernel
theorem d_Da_word_6 : decode b_Da_word 6 = .ok (.invokestatic 28, 3) := by decide +kernel
set_option maxHeartbeats 4000000 in
set_option maxRecDepth 100000 in
theorem t_Da_word_bad {l : Launch} {G : Gx} {s0 : State} (hfl : l.flags = pinnedFlags ++ [noTraceFlag]) (C : Cx G s0) (C0 : Ts0 s0) {B D0 ea : Nat} (hB : s0.heap.size ≤ B) (σ : Sg) (τ : Tt) (x : Int32) (hx1 : one x = false) (y2 y3 y4 : Int32) : CtT l s0 (FC B D0) 2 1 6 y_Da_word (.code y_Da_word b_Da_word 7 (some .int)) [.ref (B), .int (x), .int (y2), .int (y3), .int (y4)] (RepC G B D0 ea σ τ) "java/lang/IndexOutOfBoundsException" (RepC G B D0 ea σ τ) := by
  refine CtT.of C cdw_code (by decide) (Nat.le_of_ble_eq_true rfl) ?_
  intro pg ev s mm below meth cd V hr hlk ht hR ls hl
  have hx := V.1
  have hb := V.2.1
  have hS : va_S (FC B D0) s.heap s.heap [] := va_S.rf
  have hF : ∀ q, FC B D0 q → FC B D0 q := fun _ h => h
  have hA : ∀ q, FC B D0 q → s0.heap.size ≤ q := fun q h => by have := hR.1; rcases h with h | h <;> omega
  have hl : lv_has ls 7 [(0, .ref (B)), (1, .int (x)), (2, .int (y2)), (3, .int (y3)), (4, .int (y4))] := hl
  refine lv_aload_n hx hb d_Da_word_0 rfl (lv_at hl 0 rfl) ?_
  refine g_Da_10 V hR.2.1.1 rfl d_Da_word_1 ?_
  refine lv_iload_n hx hb d_Da_word_4 rfl (lv_at hl 1 rfl) ?_
  refine lv_iconst (v := 3) hx hb d_Da_word_5 (by decide) ?_
  refine t_callS (n := 2) (As := [.int (x), .int (3)]) (rest := [.ref (B + 1)]) (A0 := FC B D0) V (t_Da_index hfl C C0 hB σ τ (x) 3 (one_no hx1)) cdw_code ⟨List.mem_of_getElem? (i := 320) (by decide +kernel), rfl⟩ (List.mem_of_getElem? (i := 29) (by decide +kernel)) (List.mem_of_getElem? (i := 318) (by decide +kernel)) (List.mem_of_getElem? (i := 319) (by decide +kernel)) ⟨by decide, by decide, by decide +kernel⟩ hR hS hA (fun _ h => h) ⟨by decide, by decide⟩ rfl hl (Nat.le_of_ble_eq_true rfl) d_Da_word_6 ⟨by decide, by decide⟩ (fun x H locs hex hR _ hS => ?_)
  exact wt_leave hlk (out_of ht (by decide)) hS (by decide) (by decide) hex hR
theorem d_Da_word_9 : decode b_Da_word 9 = .ok (.aaload, 1) := by decide +kernel
theorem d_Da_word_10 : decode b_Da_word 10 = .ok (.astore 5, 2) := by decide +kernel
theorem d_Da_word_12 : decode b_Da_word 12 = .ok (.iload_n 2, 1) := by decide +kernel
theorem d_Da_word_13 : decode b_Da_word 13 = .ok (.iconst 3, 1) := by decide +kernel
theorem d_Da_word_14 : decode b_Da_word 14 = .ok (.invokestatic 28, 3) := by decide +kernel
set_option maxHeartbeats 4000000 in
set_option maxRecDepth 100000 in
theorem t_Da_word_bad2 {l : Launch} {G : Gx} {s0 : State} (hfl : l.flags = pinnedFlags ++ [noTraceFlag]) (C : Cx G s0) (C0 : Ts0 s0) {B D0 ea : Nat} (hB : s0.heap.size ≤ B) (σ : Sg) (τ : Tt) (d : Nat) (hd : d < 3) (y2 y3 y4 : Int32) (hy2 : one y2 = false) : CtT l s0 (FC B D0) 2 1 6 y_Da_word (.code y_Da_word b_Da_word 7 (some .int)) [.ref (B), .int (nI d), .int (y2), .int (y3), .int (y4)] (RepC G B D0 ea σ τ) "java/lang/IndexOutOfBoundsException" (RepC G B D0 ea σ τ) := by
  refine CtT.of C cdw_code (by decide) (Nat.le_of_ble_eq_true rfl) ?_
  intro pg ev s mm below meth cd V hr hlk ht hR ls hl
  have hx := V.1
  have hb := V.2.1
  have hS : va_S (FC B D0) s.heap s.heap [] := va_S.rf
  have hF : ∀ q, FC B D0 q → FC B D0 q := fun _ h => h
  have hA : ∀ q, FC B D0 q → s0.heap.size ≤ q := fun q h => by have := hR.1; rcases h with h | h <;> omega
  have hl : lv_has ls 7 [(0, .ref (B)), (1, .int (nI d)), (2, .int (y2)), (3, .int (y3)), (4, .int (y4))] := hl
  refine lv_aload_n hx hb d_Da_word_0 rfl (lv_at hl 0 rfl) ?_
  refine g_Da_10 V hR.2.1.1 rfl d_Da_word_1 ?_
  refine lv_iload_n hx hb d_Da_word_4 rfl (lv_at hl 1 rfl) ?_
  refine lv_iconst (v := 3) hx hb d_Da_word_5 (by decide) ?_
  refine g_callS (As := [.int (nI d), .int (3)]) (rest := [.ref (B + 1)]) (A0 := FC B D0) V (c_Da_index C hB σ τ (d) (3) (by omega) (by decide)) v_Da_28 hR hS hA (fun _ h => h) ⟨by decide, by decide⟩ rfl hl (Nat.le_of_ble_eq_true rfl) d_Da_word_6 ⟨by decide, by decide⟩ (kI (fun r6 H locs hQ _ hS => ?_))
  obtain ⟨rfl, hR⟩ := hQ
  refine c_dsk V hR (d) rfl hd d_Da_word_9 ?_
  refine lv_astore (lv' := [(5, .ref (B + (2 + 2 * d))), (0, .ref (B)), (1, .int (nI d)), (2, .int (y2)), (3, .int (y3)), (4, .int (y4))]) hx hb d_Da_word_10 hl (by decide) rfl (fun ls hl => ?_)
  refine lv_iload_n hx hb d_Da_word_12 rfl (lv_at hl 3 rfl) ?_
  refine lv_iconst (v := 3) hx hb d_Da_word_13 (by decide) ?_
  refine t_callS (n := 2) (As := [.int (y2), .int (3)]) (rest := []) (A0 := FC B D0) V (t_Da_index hfl C C0 hB σ τ y2 3 (one_no hy2)) cdw_code ⟨List.mem_of_getElem? (i := 320) (by decide +kernel), rfl⟩ (List.mem_of_getElem? (i := 29) (by decide +kernel)) (List.mem_of_getElem? (i := 318) (by decide +kernel)) (List.mem_of_getElem? (i := 319) (by decide +kernel)) ⟨by decide, by decide, by decide +kernel⟩ hR hS hA (fun _ h => h) ⟨by decide, by decide⟩ rfl hl (Nat.le_of_ble_eq_true rfl) d_Da_word_14 ⟨by decide, by decide⟩ (fun x H locs hex hR _ hS => ?_)
  exact wt_leave hlk (out_of ht (by decide)) hS (by decide) (by decide) hex hR
theorem d_Da_word_17 : decode b_Da_word 17 = .ok (.iload_n 3, 1) := by decide +kernel
theorem d_Da_word_18 : decode b_Da_word 18 = .ok (.bipush 24, 2) := by decide +kernel
theorem d_Da_word_20 : decode b_Da_word 20 = .ok (.invokestatic 28, 3) := by decide +kernel
set_option maxHeartbeats 4000000 in
set_option maxRecDepth 100000 in
theorem t_Da_word_bad3 {l : Launch} {G : Gx} {s0 : State} (hfl : l.flags = pinnedFlags ++ [noTraceFlag]) (C : Cx G s0) (C0 : Ts0 s0) {B D0 ea : Nat} (hB : s0.heap.size ≤ B) (σ : Sg) (τ : Tt) (d : Nat) (hd : d < 3) (c : Nat) (hc : c < 3) (y3 y4 : Int32) (hy3 : y3 < 0 ∨ ¬ y3 < nI 24) : CtT l s0 (FC B D0) 2 1 6 y_Da_word (.code y_Da_word b_Da_word 7 (some .int)) [.ref (B), .int (nI d), .int (nI c), .int (y3), .int (y4)] (RepC G B D0 ea σ τ) "java/lang/IndexOutOfBoundsException" (RepC G B D0 ea σ τ) := by
  refine CtT.of C cdw_code (by decide) (Nat.le_of_ble_eq_true rfl) ?_
  intro pg ev s mm below meth cd V hr hlk ht hR ls hl
  have hx := V.1
  have hb := V.2.1
  have hS : va_S (FC B D0) s.heap s.heap [] := va_S.rf
  have hF : ∀ q, FC B D0 q → FC B D0 q := fun _ h => h
  have hA : ∀ q, FC B D0 q → s0.heap.size ≤ q := fun q h => by have := hR.1; rcases h with h | h <;> omega
  have hl : lv_has ls 7 [(0, .ref (B)), (1, .int (nI d)), (2, .int (nI c)), (3, .int (y3)), (4, .int (y4))] := hl
  refine lv_aload_n hx hb d_Da_word_0 rfl (lv_at hl 0 rfl) ?_
  refine g_Da_10 V hR.2.1.1 rfl d_Da_word_1 ?_
  refine lv_iload_n hx hb d_Da_word_4 rfl (lv_at hl 1 rfl) ?_
  refine lv_iconst (v := 3) hx hb d_Da_word_5 (by decide) ?_
  refine g_callS (As := [.int (nI d), .int (3)]) (rest := [.ref (B + 1)]) (A0 := FC B D0) V (c_Da_index C hB σ τ (d) (3) (by omega) (by decide)) v_Da_28 hR hS hA (fun _ h => h) ⟨by decide, by decide⟩ rfl hl (Nat.le_of_ble_eq_true rfl) d_Da_word_6 ⟨by decide, by decide⟩ (kI (fun r6 H locs hQ _ hS => ?_))
  obtain ⟨rfl, hR⟩ := hQ
  refine c_dsk V hR (d) rfl hd d_Da_word_9 ?_
  refine lv_astore (lv' := [(5, .ref (B + (2 + 2 * d))), (0, .ref (B)), (1, .int (nI d)), (2, .int (nI c)), (3, .int (y3)), (4, .int (y4))]) hx hb d_Da_word_10 hl (by decide) rfl (fun ls hl => ?_)
  refine lv_iload_n hx hb d_Da_word_12 rfl (lv_at hl 3 rfl) ?_
  refine lv_iconst (v := 3) hx hb d_Da_word_13 (by decide) ?_
  refine g_callS (As := [.int (nI c), .int (3)]) (rest := []) (A0 := FC B D0) V (c_Da_index C hB σ τ (c) (3) (by omega) (by decide)) v_Da_28 hR hS hA (fun _ h => h) ⟨by decide, by decide⟩ rfl hl (Nat.le_of_ble_eq_true rfl) d_Da_word_14 ⟨by decide, by decide⟩ (kI (fun r14 H locs hQ _ hS => ?_))
  obtain ⟨rfl, hR⟩ := hQ
  refine lv_iload_n hx hb d_Da_word_17 rfl (lv_at hl 4 rfl) ?_
  refine lv_bipush (v := 24) hx hb d_Da_word_18 (by decide) ?_
  refine t_callS (n := 2) (As := [.int (y3), .int (24)]) (rest := [.int (nI c)]) (A0 := FC B D0) V (t_Da_index hfl C C0 hB σ τ y3 24 hy3) cdw_code ⟨List.mem_of_getElem? (i := 320) (by decide +kernel), rfl⟩ (List.mem_of_getElem? (i := 29) (by decide +kernel)) (List.mem_of_getElem? (i := 318) (by decide +kernel)) (List.mem_of_getElem? (i := 319) (by decide +kernel)) ⟨by decide, by decide, by decide +kernel⟩ hR hS hA (fun _ h => h) ⟨by decide, by decide⟩ rfl hl (Nat.le_of_ble_eq_true rfl) d_Da_word_20 ⟨by decide, by decide⟩ (fun x H locs hex hR _ hS => ?_)
  exact wt_leave hlk (out_of ht (by decide)) hS (by decide) (by decide) hex hR
theorem d_Da_word_23 : decode b_Da_word 23 = .ok (.invokestatic 156, 3) := by decide +kernel
theorem d_Da_word_26 : decode b_Da_word 26 = .ok (.istore 6, 2) := by decide +kernel
theorem d_Da_word_28 : decode b_Da_word 28 = .ok (.iload 4, 2) := by decide +kernel
theorem d_Da_word_30 : decode b_Da_word 30 = .ok (.bipush 10, 2) := by decide +kernel
theorem d_Da_word_32 : decode b_Da_word 32 = .ok (.invokestatic 43, 3) := by decide +kernel
theorem d_Da_word_35 : decode b_Da_word 35 = .ok (.ifCond .ne 11, 3) := by decide +kernel
theorem d_Da_word_38 : decode b_Da_word 38 = .ok (.new 47, 3) := by decide +kernel
theorem d_Da_word_41 : decode b_Da_word 41 = .ok (.dup, 1) := by decide +kernel
theorem d_Da_word_42 : decode b_Da_word 42 = .ok (.invokespecial 49, 3) := by decide +kernel
theorem d_Da_word_45 : decode b_Da_word 45 = .ok (.athrow, 1) := by decide +kernel
set_option maxHeartbeats 4000000 in
set_option maxRecDepth 100000 in
theorem t_Da_word_bad4 {l : Launch} {G : Gx} {s0 : State} (hfl : l.flags = pinnedFlags ++ [noTraceFlag]) (C : Cx G s0) (C0 : Ts0 s0) {B D0 ea : Nat} (hB : s0.heap.size ≤ B) (σ : Sg) (τ : Tt) (d : Nat) (hd : d < 3) (c : Nat) (hc : c < 3) (q : Nat) (hq4 : q < 24) (y4 : Int32) (hy4 : (!decide (y4 < 0) && !decide (10 ≤ y4)) = false) : CtT l s0 (FC B D0) 2 1 6 y_Da_word (.code y_Da_word b_Da_word 7 (some .int)) [.ref (B), .int (nI d), .int (nI c), .int (nI q), .int (y4)] (RepC G B D0 ea σ τ) "java/lang/IllegalArgumentException" (RepC G B D0 ea σ τ) := by
  refine CtT.of C cdw_code (by decide) (Nat.le_of_ble_eq_true rfl) ?_
  intro pg ev s mm below meth cd V hr hlk ht hR ls hl
  have hx := V.1
  have hb := V.2.1
  have hS : va_S (FC B D0) s.heap s.heap [] := va_S.rf
  have hF : ∀ q, FC B D0 q → FC B D0 q := fun _ h => h
  have hA : ∀ q, FC B D0 q → s0.heap.size ≤ q := fun q h => by have := hR.1; rcases h with h | h <;> omega
  have hl : lv_has ls 7 [(0, .ref (B)), (1, .int (nI d)), (2, .int (nI c)), (3, .int (nI q)), (4, .int (y4))] := hl
  refine lv_aload_n hx hb d_Da_word_0 rfl (lv_at hl 0 rfl) ?_
  refine g_Da_10 V hR.2.1.1 rfl d_Da_word_1 ?_
  refine lv_iload_n hx hb d_Da_word_4 rfl (lv_at hl 1 rfl) ?_
  refine lv_iconst (v := 3) hx hb d_Da_word_5 (by decide) ?_
  refine g_callS (As := [.int (nI d), .int (3)]) (rest := [.ref (B + 1)]) (A0 := FC B D0) V (c_Da_index C hB σ τ (d) (3) (by omega) (by decide)) v_Da_28 hR hS hA (fun _ h => h) ⟨by decide, by decide⟩ rfl hl (Nat.le_of_ble_eq_true rfl) d_Da_word_6 ⟨by decide, by decide⟩ (kI (fun r6 H locs hQ _ hS => ?_))
  obtain ⟨rfl, hR⟩ := hQ
  refine c_dsk V hR (d) rfl hd d_Da_word_9 ?_
  refine lv_astore (lv' := [(5, .ref (B + (2 + 2 * d))), (0, .ref (B)), (1, .int (nI d)), (2, .int (nI c)), (3, .int (nI q)), (4, .int (y4))]) hx hb d_Da_word_10 hl (by decide) rfl (fun ls hl => ?_)
  refine lv_iload_n hx hb d_Da_word_12 rfl (lv_at hl 3 rfl) ?_
  refine lv_iconst (v := 3) hx hb d_Da_word_13 (by decide) ?_
  refine g_callS (As := [.int (nI c), .int (3)]) (rest := []) (A0 := FC B D0) V (c_Da_index C hB σ τ (c) (3) (by omega) (by decide)) v_Da_28 hR hS hA (fun _ h => h) ⟨by decide, by decide⟩ rfl hl (Nat.le_of_ble_eq_true rfl) d_Da_word_14 ⟨by decide, by decide⟩ (kI (fun r14 H locs hQ _ hS => ?_))
  obtain ⟨rfl, hR⟩ := hQ
  refine lv_iload_n hx hb d_Da_word_17 rfl (lv_at hl 4 rfl) ?_
  refine lv_bipush (v := 24) hx hb d_Da_word_18 (by decide) ?_
  refine g_callS (As := [.int (nI q), .int (24)]) (rest := [.int (nI c)]) (A0 := FC B D0) V (c_Da_index C hB σ τ (q) (24) (by omega) (by decide)) v_Da_28 hR hS hA (fun _ h => h) ⟨by decide, by decide⟩ rfl hl (Nat.le_of_ble_eq_true rfl) d_Da_word_20 ⟨by decide, by decide⟩ (kI (fun r20 H locs hQ _ hS => ?_))
  obtain ⟨rfl, hR⟩ := hQ
  refine g_callS (As := [.int (nI c), .int (nI q)]) (rest := []) (A0 := FC B D0) V (c_Dk_block C hB σ τ (c) (q)) v_Da_156 hR hS hA (fun _ h => h) ⟨by decide, by decide⟩ rfl hl (Nat.le_of_ble_eq_true rfl) d_Da_word_23 ⟨by decide, by decide⟩ (kI (fun r23 H locs hQ _ hS => ?_))
  obtain ⟨rfl, hR⟩ := hQ
  refine lv_istore (lv' := [(6, .int (nI (10 * (24 * c + q)))), (5, .ref (B + (2 + 2 * d))), (0, .ref (B)), (1, .int (nI d)), (2, .int (nI c)), (3, .int (nI q)), (4, .int (y4))]) hx hb d_Da_word_26 hl (by decide) rfl (fun ls hl => ?_)
  refine lv_iload hx hb d_Da_word_28 (lv_at hl 6 rfl) ?_
  refine lv_bipush (v := 10) hx hb d_Da_word_30 (by decide) ?_
  refine g_callS (As := [.int (y4), .int (10)]) (rest := []) (A0 := FC B D0) V (c_Da_within C hB σ τ (y4) (10)) v_Da_43 hR hS hA (fun _ h => h) ⟨by decide, by decide⟩ rfl hl (Nat.le_of_ble_eq_true rfl) d_Da_word_32 ⟨by decide, by decide⟩ (kI (fun r32 H locs hQ _ hS => ?_))
  obtain ⟨rfl, hR⟩ := hQ
  refine lv_if_ne (tgt := 46) hx hb d_Da_word_35 (by decide) (fun h35 => ?_) (fun h35 => ?_)
  · exact absurd (hy4.symm.trans (bI_n0.mp h35)) (by decide)
  · have h35 := bI_0.mp h35
    exact tn V C0 hfl x_Da_47 hlk (out_of ht (by decide)) hl (Nat.le_of_ble_eq_true rfl) ⟨by decide, by decide, by decide, by decide⟩ hS hA (by decide) (by decide) d_Da_word_38 d_Da_word_41 d_Da_word_42 d_Da_word_45 (fun H1 hz hk => hR.grow hk)
theorem d_Da_word_46 : decode b_Da_word 46 = .ok (.aload 5, 2) := by decide +kernel
theorem d_Da_word_48 : decode b_Da_word 48 = .ok (.getfield 159, 3) := by decide +kernel
theorem d_Da_word_51 : decode b_Da_word 51 = .ok (.iload 6, 2) := by decide +kernel
theorem d_Da_word_53 : decode b_Da_word 53 = .ok (.iload 4, 2) := by decide +kernel
theorem d_Da_word_55 : decode b_Da_word 55 = .ok (.iadd, 1) := by decide +kernel
theorem d_Da_word_56 : decode b_Da_word 56 = .ok (.iaload, 1) := by decide +kernel
theorem d_Da_word_57 : decode b_Da_word 57 = .ok (.ireturn, 1) := by decide +kernel
set_option maxHeartbeats 4000000 in
set_option maxRecDepth 100000 in
theorem c_Da_word {l : Launch} {G : Gx} {s0 : State} (C : Cx G s0) {B D0 ea : Nat} (hB : s0.heap.size ≤ B) (σ : Sg) (τ : Tt) (d : Nat) (hd : d < 3) (c : Nat) (hc : c < 3) (q : Nat) (hq4 : q < 24) (j : Nat) (hj : j < 10) : Ct l s0 (FC B D0) 2 0 0 y_Da_word b_Da_word 7 (some .int) [.ref (B), .int (nI d), .int (nI c), .int (nI q), .int (nI j)] (RepC G B D0 ea σ τ) (pI (fun r H => r = σ 1 (720 * d + (10 * (24 * c + q) + j)) ∧ RepC G B D0 ea σ τ H)) := by
  refine Ct.of C (by decide) (Nat.le_of_ble_eq_true rfl) ?_
  intro pg ev s mm below meth cd V hr hlk hn hR ls hl
  have hx := V.1
  have hb := V.2.1
  have hS : va_S (FC B D0) s.heap s.heap [] := va_S.rf
  have hF : ∀ q, FC B D0 q → FC B D0 q := fun _ h => h
  have hA : ∀ q, FC B D0 q → s0.heap.size ≤ q := fun q h => by have := hR.1; rcases h with h | h <;> omega
  have hl : lv_has ls 7 [(0, .ref (B)), (1, .int (nI d)), (2, .int (nI c)), (3, .int (nI q)), (4, .int (nI j))] := hl
  refine lv_aload_n hx hb d_Da_word_0 rfl (lv_at hl 0 rfl) ?_
  refine g_Da_10 V hR.2.1.1 rfl d_Da_word_1 ?_
  refine lv_iload_n hx hb d_Da_word_4 rfl (lv_at hl 1 rfl) ?_
  refine lv_iconst (v := 3) hx hb d_Da_word_5 (by decide) ?_
  refine g_callS (As := [.int (nI d), .int (3)]) (rest := [.ref (B + 1)]) (A0 := FC B D0) V (c_Da_index C hB σ τ (d) (3) (by omega) (by decide)) v_Da_28 hR hS hA (fun _ h => h) ⟨by decide, by decide⟩ rfl hl (Nat.le_of_ble_eq_true rfl) d_Da_word_6 ⟨Nat.le_refl _, Nat.le_refl _⟩ (kI (fun r6 H locs hQ _ hS => ?_))
  obtain ⟨rfl, hR⟩ := hQ
  refine c_dsk V hR (d) rfl hd d_Da_word_9 ?_
  refine lv_astore (lv' := [(5, .ref (B + (2 + 2 * d))), (0, .ref (B)), (1, .int (nI d)), (2, .int (nI c)), (3, .int (nI q)), (4, .int (nI j))]) hx hb d_Da_word_10 hl (by decide) rfl (fun ls hl => ?_)
  refine lv_iload_n hx hb d_Da_word_12 rfl (lv_at hl 3 rfl) ?_
  refine lv_iconst (v := 3) hx hb d_Da_word_13 (by decide) ?_
  refine g_callS (As := [.int (nI c), .int (3)]) (rest := []) (A0 := FC B D0) V (c_Da_index C hB σ τ (c) (3) (by omega) (by decide)) v_Da_28 hR hS hA (fun _ h => h) ⟨by decide, by decide⟩ rfl hl (Nat.le_of_ble_eq_true rfl) d_Da_word_14 ⟨Nat.le_refl _, Nat.le_refl _⟩ (kI (fun r14 H locs hQ _ hS => ?_))
  obtain ⟨rfl, hR⟩ := hQ
  refine lv_iload_n hx hb d_Da_word_17 rfl (lv_at hl 4 rfl) ?_
  refine lv_bipush (v := 24) hx hb d_Da_word_18 (by decide) ?_
  refine g_callS (As := [.int (nI q), .int (24)]) (rest := [.int (nI c)]) (A0 := FC B D0) V (c_Da_index C hB σ τ (q) (24) (by omega) (by decide)) v_Da_28 hR hS hA (fun _ h => h) ⟨by decide, by decide⟩ rfl hl (Nat.le_of_ble_eq_true rfl) d_Da_word_20 ⟨Nat.le_refl _, Nat.le_refl _⟩ (kI (fun r20 H locs hQ _ hS => ?_))
  obtain ⟨rfl, hR⟩ := hQ
  refine g_callS (As := [.int (nI c), .int (nI q)]) (rest := []) (A0 := FC B D0) V (c_Dk_block C hB σ τ (c) (q)) v_Da_156 hR hS hA (fun _ h => h) ⟨by decide, by decide⟩ rfl hl (Nat.le_of_ble_eq_true rfl) d_Da_word_23 ⟨Nat.le_refl _, Nat.le_refl _⟩ (kI (fun r23 H locs hQ _ hS => ?_))
  obtain ⟨rfl, hR⟩ := hQ
  refine lv_istore (lv' := [(6, .int (nI (10 * (24 * c + q)))), (5, .ref (B + (2 + 2 * d))), (0, .ref (B)), (1, .int (nI d)), (2, .int (nI c)), (3, .int (nI q)), (4, .int (nI j))]) hx hb d_Da_word_26 hl (by decide) rfl (fun ls hl => ?_)
  refine lv_iload hx hb d_Da_word_28 (lv_at hl 6 rfl) ?_
  refine lv_bipush (v := 10) hx hb d_Da_word_30 (by decide) ?_
  refine g_callS (As := [.int (nI j), .int (10)]) (rest := []) (A0 := FC B D0) V (c_Da_within C hB σ τ (nI j) (10)) v_Da_43 hR hS hA (fun _ h => h) ⟨by decide, by decide⟩ rfl hl (Nat.le_of_ble_eq_true rfl) d_Da_word_32 ⟨Nat.le_refl _, Nat.le_refl _⟩ (kI (fun r32 H locs hQ _ hS => ?_))
  obtain ⟨rfl, hR⟩ := hQ
  refine lv_if_ne (tgt := 46) hx hb d_Da_word_35 (by decide) (fun h35 => ?_) (fun h35 => ?_)
  · have h35 := bI_n0.mp h35
    refine lv_aload hx hb d_Da_word_46 (lv_at hl 1 rfl) ?_
    refine g_Da_159 V (hR.2.2.1 _ hd).1 rfl d_Da_word_48 ?_
    refine lv_iload hx hb d_Da_word_51 (lv_at hl 0 rfl) ?_
    refine lv_iload hx hb d_Da_word_53 (lv_at hl 6 rfl) ?_
    refine lv_iadd hx hb d_Da_word_55 ?_
    refine lv_tope (y := nI (10 * (24 * c + q) + j)) (ad_e (a := 10 * (24 * c + q)) (b := j) rfl rfl) ?_
    refine c_wld V hR hd (10 * (24 * c + q) + j) rfl (by omega) d_Da_word_56 ?_
    exact e_i V hr hlk hS (Nat.le_refl _) (Nat.le_refl _) d_Da_word_57 ⟨_, rfl, rfl, hR⟩
  · exact absurd (bI_0.mp h35) (by simp [nI_pos (show j < 2 ^ 31 by omega), nI_ge (b := 10) hj (by decide), show (10 : Int32) = nI 10 from rfl])
