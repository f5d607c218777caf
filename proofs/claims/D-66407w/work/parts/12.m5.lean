theorem d_Mo_thrown_0 : decode b_Mo_thrown 0 = .ok (.aload_n 0, 1) := by decide +kernel
theorem d_Mo_thrown_1 : decode b_Mo_thrown 1 = .ok (.getfield 83, 3) := by decide +kernel
theorem d_Mo_thrown_4 : decode b_Mo_thrown 4 = .ok (.ireturn, 1) := by decide +kernel
set_option maxHeartbeats 4000000 in
set_option maxRecDepth 100000 in
theorem c_Mo_thrown {l : Launch} {G : Gx} {s0 : State} (C : Cx G s0) {o : Nat} (ho : s0.heap.size ≤ o) (σ : Sg)  : Ct l s0 (FM o) 0 0 0 y_Mo_thrown b_Mo_thrown 1 (some .int) [.ref (o)] (RepM G o σ) (pI (fun r H => r = σ 0 0 ∧ RepM G o σ H)) := by
  refine Ct.of C (by decide) (Nat.le_of_ble_eq_true rfl) ?_
  intro pg ev s mm below meth cd V hr hlk hn hR ls hl
  have hx := V.1
  have hb := V.2.1
  have hS : va_S (FM o) s.heap s.heap [] := va_S.rf
  have hF : ∀ q, FM o q → FM o q := fun _ h => h
  have hA : ∀ q, FM o q → s0.heap.size ≤ q := fun _ h => Nat.le_trans ho h.1
  have hl : lv_has ls 1 [(0, .ref (o))] := hl
  refine lv_aload_n hx hb d_Mo_thrown_0 rfl (lv_at hl 0 rfl) ?_
  refine rm_gt V hR d_Mo_thrown_1 ?_
  exact e_i V hr hlk hS (Nat.le_refl _) (Nat.le_refl _) d_Mo_thrown_4 ⟨_, rfl, rfl, hR⟩
theorem d_Mo_log_0 : decode b_Mo_log 0 = .ok (.aload_n 0, 1) := by decide +kernel
theorem d_Mo_log_1 : decode b_Mo_log 1 = .ok (.iload_n 1, 1) := by decide +kernel
theorem d_Mo_log_2 : decode b_Mo_log 2 = .ok (.invokestatic 95, 3) := by decide +kernel
theorem d_Mo_log_5 : decode b_Mo_log 5 = .ok (.ifCond .eq 7, 3) := by decide +kernel
theorem d_Mo_log_8 : decode b_Mo_log 8 = .ok (.iconst 0, 1) := by decide +kernel
theorem d_Mo_log_9 : decode b_Mo_log 9 = .ok (.goto 4, 3) := by decide +kernel
theorem d_Mo_log_12 : decode b_Mo_log 12 = .ok (.iconst 1, 1) := by decide +kernel
theorem d_Mo_log_13 : decode b_Mo_log 13 = .ok (.putfield 83, 3) := by decide +kernel
theorem d_Mo_log_16 : decode b_Mo_log 16 = .ok (.aload_n 0, 1) := by decide +kernel
theorem d_Mo_log_17 : decode b_Mo_log 17 = .ok (.getfield 83, 3) := by decide +kernel
theorem d_Mo_log_20 : decode b_Mo_log 20 = .ok (.ifCond .le 7, 3) := by decide +kernel
theorem d_Mo_log_23 : decode b_Mo_log 23 = .ok (.iconst 0, 1) := by decide +kernel
theorem d_Mo_log_24 : decode b_Mo_log 24 = .ok (.goto 9, 3) := by decide +kernel
theorem d_Mo_log_27 : decode b_Mo_log 27 = .ok (.aload_n 0, 1) := by decide +kernel
theorem d_Mo_log_28 : decode b_Mo_log 28 = .ok (.getfield 20, 3) := by decide +kernel
theorem d_Mo_log_31 : decode b_Mo_log 31 = .ok (.iload_n 1, 1) := by decide +kernel
theorem d_Mo_log_32 : decode b_Mo_log 32 = .ok (.iaload, 1) := by decide +kernel
theorem d_Mo_log_33 : decode b_Mo_log 33 = .ok (.ireturn, 1) := by decide +kernel
set_option maxHeartbeats 4000000 in
set_option maxRecDepth 100000 in
theorem c_Mo_log_bad {l : Launch} {G : Gx} {s0 : State} (C : Cx G s0) {o : Nat} (ho : s0.heap.size ≤ o) (σ : Sg) (x : Int32) (hx1 : one x = false) : Ct l s0 (FM o) 1 0 0 y_Mo_log b_Mo_log 2 (some .int) [.ref (o), .int (x)] (RepM G o σ) (pI (fun r H => r = 0 ∧ RepM G o (thr σ 1) H)) := by
  refine Ct.of C (by decide) (Nat.le_of_ble_eq_true rfl) ?_
  intro pg ev s mm below meth cd V hr hlk hn hR ls hl
  have hx := V.1
  have hb := V.2.1
  have hS : va_S (FM o) s.heap s.heap [] := va_S.rf
  have hF : ∀ q, FM o q → FM o q := fun _ h => h
  have hA : ∀ q, FM o q → s0.heap.size ≤ q := fun _ h => Nat.le_trans ho h.1
  have hl : lv_has ls 2 [(0, .ref (o)), (1, .int (x))] := hl
  refine lv_aload_n hx hb d_Mo_log_0 rfl (lv_at hl 0 rfl) ?_
  refine lv_iload_n hx hb d_Mo_log_1 rfl (lv_at hl 1 rfl) ?_
  refine g_callS (As := [.int (x)]) (rest := [.ref (o)]) (A0 := FM o) V (c_Mo_isOne C ho σ (x)) v_Mo_95 hR hS hA (fun _ h => h) ⟨by decide, by decide⟩ rfl hl (Nat.le_of_ble_eq_true rfl) d_Mo_log_2 ⟨Nat.le_refl _, Nat.le_refl _⟩ (kI (fun r2 H locs hQ _ hS => ?_))
  obtain ⟨rfl, hR⟩ := hQ
  refine lv_tope (y := 0) (by rw [hx1]; rfl) ?_
  refine lv_if_eq (tgt := 12) hx hb d_Mo_log_5 (by decide) (fun h5 => ?_) (fun h5 => ?_)
  · refine lv_iconst (v := 1) hx hb d_Mo_log_12 (by decide) ?_
    refine rm_pt V hR hS (hF _ ⟨Nat.le_refl _, Nat.lt_add_of_pos_right (by decide)⟩) d_Mo_log_13 (fun H locs hR hS => ?_)
    refine lv_aload_n hx hb d_Mo_log_16 rfl (lv_at hl 0 rfl) ?_
    refine rm_gt V hR d_Mo_log_17 ?_
    refine lv_tope (y := 1) (by simp [up2, upd]) ?_
    refine lv_if_le (tgt := 27) hx hb d_Mo_log_20 (by decide) (fun h20 => ?_) (fun h20 => ?_)
    · exact absurd h20 (by decide)
    · refine lv_iconst (v := 0) hx hb d_Mo_log_23 (by decide) ?_
      refine lv_goto (tgt := 33) hx hb d_Mo_log_24 (by decide) ?_
      exact e_i V hr hlk hS (Nat.le_refl _) (Nat.le_refl _) d_Mo_log_33 ⟨_, rfl, rfl, hR⟩
  · exact absurd (by decide) h5
set_option maxHeartbeats 4000000 in
set_option maxRecDepth 100000 in
theorem c_Mo_log {l : Launch} {G : Gx} {s0 : State} (C : Cx G s0) {o : Nat} (ho : s0.heap.size ≤ o) (σ : Sg) (c : Nat) (hc : c < 3) : Ct l s0 (FM o) 1 0 0 y_Mo_log b_Mo_log 2 (some .int) [.ref (o), .int (nI c)] (RepM G o σ) (pI (fun r H => r = σ 4 c ∧ RepM G o (thr σ 0) H)) := by
  refine Ct.of C (by decide) (Nat.le_of_ble_eq_true rfl) ?_
  intro pg ev s mm below meth cd V hr hlk hn hR ls hl
  have hx := V.1
  have hb := V.2.1
  have hS : va_S (FM o) s.heap s.heap [] := va_S.rf
  have hF : ∀ q, FM o q → FM o q := fun _ h => h
  have hA : ∀ q, FM o q → s0.heap.size ≤ q := fun _ h => Nat.le_trans ho h.1
  have hl : lv_has ls 2 [(0, .ref (o)), (1, .int (nI c))] := hl
  refine lv_aload_n hx hb d_Mo_log_0 rfl (lv_at hl 0 rfl) ?_
  refine lv_iload_n hx hb d_Mo_log_1 rfl (lv_at hl 1 rfl) ?_
  refine g_callS (As := [.int (nI c)]) (rest := [.ref (o)]) (A0 := FM o) V (c_Mo_isOne C ho σ (nI c)) v_Mo_95 hR hS hA (fun _ h => h) ⟨by decide, by decide⟩ rfl hl (Nat.le_of_ble_eq_true rfl) d_Mo_log_2 ⟨Nat.le_refl _, Nat.le_refl _⟩ (kI (fun r2 H locs hQ _ hS => ?_))
  obtain ⟨rfl, hR⟩ := hQ
  refine lv_tope (y := 1) (by rw [one_nI hc]; rfl) ?_
  refine lv_if_eq (tgt := 12) hx hb d_Mo_log_5 (by decide) (fun h5 => ?_) (fun h5 => ?_)
  · exact absurd h5 (by decide)
  · refine lv_iconst (v := 0) hx hb d_Mo_log_8 (by decide) ?_
    refine lv_goto (tgt := 13) hx hb d_Mo_log_9 (by decide) ?_
    refine rm_pt V hR hS (hF _ ⟨Nat.le_refl _, Nat.lt_add_of_pos_right (by decide)⟩) d_Mo_log_13 (fun H locs hR hS => ?_)
    refine lv_aload_n hx hb d_Mo_log_16 rfl (lv_at hl 0 rfl) ?_
    refine rm_gt V hR d_Mo_log_17 ?_
    refine lv_tope (y := 0) (by simp [up2, upd]) ?_
    refine lv_if_le (tgt := 27) hx hb d_Mo_log_20 (by decide) (fun h20 => ?_) (fun h20 => ?_)
    · refine lv_aload_n hx hb d_Mo_log_27 rfl (lv_at hl 0 rfl) ?_
      refine rm_ga V hR 4 (by decide) (by decide) d_Mo_log_28 ?_
      refine lv_iload_n hx hb d_Mo_log_31 rfl (lv_at hl 1 rfl) ?_
      refine rm_ld V hR 4 ⟨by decide, by decide, rfl⟩ (n := 3) ⟨rfl, by decide⟩ (c) rfl (by omega) d_Mo_log_32 ?_
      refine lv_tope (y := σ 4 c) (by simp [up2, upd]) ?_
      exact e_i V hr hlk hS (Nat.le_refl _) (Nat.le_refl _) d_Mo_log_33 ⟨_, rfl, rfl, hR⟩
    · exact absurd (by decide) h20
theorem d_Mo_round_0 : decode b_Mo_round 0 = .ok (.aload_n 0, 1) := by decide +kernel
theorem d_Mo_round_1 : decode b_Mo_round 1 = .ok (.iload_n 1, 1) := by decide +kernel
theorem d_Mo_round_2 : decode b_Mo_round 2 = .ok (.invokestatic 95, 3) := by decide +kernel
theorem d_Mo_round_5 : decode b_Mo_round 5 = .ok (.ifCond .eq 7, 3) := by decide +kernel
theorem d_Mo_round_8 : decode b_Mo_round 8 = .ok (.iconst 0, 1) := by decide +kernel
theorem d_Mo_round_9 : decode b_Mo_round 9 = .ok (.goto 4, 3) := by decide +kernel
theorem d_Mo_round_12 : decode b_Mo_round 12 = .ok (.iconst 1, 1) := by decide +kernel
theorem d_Mo_round_13 : decode b_Mo_round 13 = .ok (.putfield 83, 3) := by decide +kernel
theorem d_Mo_round_16 : decode b_Mo_round 16 = .ok (.aload_n 0, 1) := by decide +kernel
theorem d_Mo_round_17 : decode b_Mo_round 17 = .ok (.getfield 83, 3) := by decide +kernel
theorem d_Mo_round_20 : decode b_Mo_round 20 = .ok (.ifCond .le 7, 3) := by decide +kernel
theorem d_Mo_round_23 : decode b_Mo_round 23 = .ok (.iconst 0, 1) := by decide +kernel
theorem d_Mo_round_24 : decode b_Mo_round 24 = .ok (.goto 9, 3) := by decide +kernel
theorem d_Mo_round_27 : decode b_Mo_round 27 = .ok (.aload_n 0, 1) := by decide +kernel
theorem d_Mo_round_28 : decode b_Mo_round 28 = .ok (.getfield 32, 3) := by decide +kernel
theorem d_Mo_round_31 : decode b_Mo_round 31 = .ok (.iload_n 1, 1) := by decide +kernel
theorem d_Mo_round_32 : decode b_Mo_round 32 = .ok (.iaload, 1) := by decide +kernel
theorem d_Mo_round_33 : decode b_Mo_round 33 = .ok (.ireturn, 1) := by decide +kernel
set_option maxHeartbeats 4000000 in
set_option maxRecDepth 100000 in
theorem c_Mo_round_bad {l : Launch} {G : Gx} {s0 : State} (C : Cx G s0) {o : Nat} (ho : s0.heap.size ≤ o) (σ : Sg) (x : Int32) (hx1 : one x = false) : Ct l s0 (FM o) 1 0 0 y_Mo_round b_Mo_round 2 (some .int) [.ref (o), .int (x)] (RepM G o σ) (pI (fun r H => r = 0 ∧ RepM G o (thr σ 1) H)) := by
  refine Ct.of C (by decide) (Nat.le_of_ble_eq_true rfl) ?_
  intro pg ev s mm below meth cd V hr hlk hn hR ls hl
  have hx := V.1
  have hb := V.2.1
  have hS : va_S (FM o) s.heap s.heap [] := va_S.rf
  have hF : ∀ q, FM o q → FM o q := fun _ h => h
  have hA : ∀ q, FM o q → s0.heap.size ≤ q := fun _ h => Nat.le_trans ho h.1
  have hl : lv_has ls 2 [(0, .ref (o)), (1, .int (x))] := hl
  refine lv_aload_n hx hb d_Mo_round_0 rfl (lv_at hl 0 rfl) ?_
  refine lv_iload_n hx hb d_Mo_round_1 rfl (lv_at hl 1 rfl) ?_
  refine g_callS (As := [.int (x)]) (rest := [.ref (o)]) (A0 := FM o) V (c_Mo_isOne C ho σ (x)) v_Mo_95 hR hS hA (fun _ h => h) ⟨by decide, by decide⟩ rfl hl (Nat.le_of_ble_eq_true rfl) d_Mo_round_2 ⟨Nat.le_refl _, Nat.le_refl _⟩ (kI (fun r2 H locs hQ _ hS => ?_))
  obtain ⟨rfl, hR⟩ := hQ
  refine lv_tope (y := 0) (by rw [hx1]; rfl) ?_
  refine lv_if_eq (tgt := 12) hx hb d_Mo_round_5 (by decide) (fun h5 => ?_) (fun h5 => ?_)
  · refine lv_iconst (v := 1) hx hb d_Mo_round_12 (by decide) ?_
    refine rm_pt V hR hS (hF _ ⟨Nat.le_refl _, Nat.lt_add_of_pos_right (by decide)⟩) d_Mo_round_13 (fun H locs hR hS => ?_)
    refine lv_aload_n hx hb d_Mo_round_16 rfl (lv_at hl 0 rfl) ?_
    refine rm_gt V hR d_Mo_round_17 ?_
    refine lv_tope (y := 1) (by simp [up2, upd]) ?_
    refine lv_if_le (tgt := 27) hx hb d_Mo_round_20 (by decide) (fun h20 => ?_) (fun h20 => ?_)
    · exact absurd h20 (by decide)
    · refine lv_iconst (v := 0) hx hb d_Mo_round_23 (by decide) ?_
      refine lv_goto (tgt := 33) hx hb d_Mo_round_24 (by decide) ?_
      exact e_i V hr hlk hS (Nat.le_refl _) (Nat.le_refl _) d_Mo_round_33 ⟨_, rfl, rfl, hR⟩
  · exact absurd (by decide) h5
set_option maxHeartbeats 4000000 in
set_option maxRecDepth 100000 in
theorem c_Mo_round {l : Launch} {G : Gx} {s0 : State} (C : Cx G s0) {o : Nat} (ho : s0.heap.size ≤ o) (σ : Sg) (c : Nat) (hc : c < 3) : Ct l s0 (FM o) 1 0 0 y_Mo_round b_Mo_round 2 (some .int) [.ref (o), .int (nI c)] (RepM G o σ) (pI (fun r H => r = σ 8 c ∧ RepM G o (thr σ 0) H)) := by
  refine Ct.of C (by decide) (Nat.le_of_ble_eq_true rfl) ?_
  intro pg ev s mm below meth cd V hr hlk hn hR ls hl
  have hx := V.1
  have hb := V.2.1
  have hS : va_S (FM o) s.heap s.heap [] := va_S.rf
  have hF : ∀ q, FM o q → FM o q := fun _ h => h
  have hA : ∀ q, FM o q → s0.heap.size ≤ q := fun _ h => Nat.le_trans ho h.1
  have hl : lv_has ls 2 [(0, .ref (o)), (1, .int (nI c))] := hl
  refine lv_aload_n hx hb d_Mo_round_0 rfl (lv_at hl 0 rfl) ?_
  refine lv_iload_n hx hb d_Mo_round_1 rfl (lv_at hl 1 rfl) ?_
  refine g_callS (As := [.int (nI c)]) (rest := [.ref (o)]) (A0 := FM o) V (c_Mo_isOne C ho σ (nI c)) v_Mo_95 hR hS hA (fun _ h => h) ⟨by decide, by decide⟩ rfl hl (Nat.le_of_ble_eq_true rfl) d_Mo_round_2 ⟨Nat.le_refl _, Nat.le_refl _⟩ (kI (fun r2 H locs hQ _ hS => ?_))
  obtain ⟨rfl, hR⟩ := hQ
  refine lv_tope (y := 1) (by rw [one_nI hc]; rfl) ?_
  refine lv_if_eq (tgt := 12) hx hb d_Mo_round_5 (by decide) (fun h5 => ?_) (fun h5 => ?_)
  · exact absurd h5 (by decide)
  · refine lv_iconst (v := 0) hx hb d_Mo_round_8 (by decide) ?_
    refine lv_goto (tgt := 13) hx hb d_Mo_round_9 (by decide) ?_
    refine rm_pt V hR hS (hF _ ⟨Nat.le_refl _, Nat.lt_add_of_pos_right (by decide)⟩) d_Mo_round_13 (fun H locs hR hS => ?_)
    refine lv_aload_n hx hb d_Mo_round_16 rfl (lv_at hl 0 rfl) ?_
    refine rm_gt V hR d_Mo_round_17 ?_
    refine lv_tope (y := 0) (by simp [up2, upd]) ?_
    refine lv_if_le (tgt := 27) hx hb d_Mo_round_20 (by decide) (fun h20 => ?_) (fun h20 => ?_)
    · refine lv_aload_n hx hb d_Mo_round_27 rfl (lv_at hl 0 rfl) ?_
      refine rm_ga V hR 8 (by decide) (by decide) d_Mo_round_28 ?_
      refine lv_iload_n hx hb d_Mo_round_31 rfl (lv_at hl 1 rfl) ?_
      refine rm_ld V hR 8 ⟨by decide, by decide, rfl⟩ (n := 3) ⟨rfl, by decide⟩ (c) rfl (by omega) d_Mo_round_32 ?_
      refine lv_tope (y := σ 8 c) (by simp [up2, upd]) ?_
      exact e_i V hr hlk hS (Nat.le_refl _) (Nat.le_refl _) d_Mo_round_33 ⟨_, rfl, rfl, hR⟩
    · exact absurd (by decide) h20
theorem d_Mo_accesses_0 : decode b_Mo_accesses 0 = .ok (.aload_n 0, 1) := by decide +kernel
theorem d_Mo_accesses_1 : decode b_Mo_accesses 1 = .ok (.iload_n 1, 1) := by decide +kernel
theorem d_Mo_accesses_2 : decode b_Mo_accesses 2 = .ok (.invokestatic 95, 3) := by decide +kernel
theorem d_Mo_accesses_5 : decode b_Mo_accesses 5 = .ok (.ifCond .eq 7, 3) := by decide +kernel
theorem d_Mo_accesses_8 : decode b_Mo_accesses 8 = .ok (.iconst 0, 1) := by decide +kernel
theorem d_Mo_accesses_9 : decode b_Mo_accesses 9 = .ok (.goto 4, 3) := by decide +kernel
theorem d_Mo_accesses_12 : decode b_Mo_accesses 12 = .ok (.iconst 1, 1) := by decide +kernel
theorem d_Mo_accesses_13 : decode b_Mo_accesses 13 = .ok (.putfield 83, 3) := by decide +kernel
theorem d_Mo_accesses_16 : decode b_Mo_accesses 16 = .ok (.aload_n 0, 1) := by decide +kernel
theorem d_Mo_accesses_17 : decode b_Mo_accesses 17 = .ok (.getfield 83, 3) := by decide +kernel
theorem d_Mo_accesses_20 : decode b_Mo_accesses 20 = .ok (.ifCond .le 7, 3) := by decide +kernel
theorem d_Mo_accesses_23 : decode b_Mo_accesses 23 = .ok (.iconst 0, 1) := by decide +kernel
theorem d_Mo_accesses_24 : decode b_Mo_accesses 24 = .ok (.goto 9, 3) := by decide +kernel
theorem d_Mo_accesses_27 : decode b_Mo_accesses 27 = .ok (.aload_n 0, 1) := by decide +kernel
theorem d_Mo_accesses_28 : decode b_Mo_accesses 28 = .ok (.getfield 68, 3) := by decide +kernel
theorem d_Mo_accesses_31 : decode b_Mo_accesses 31 = .ok (.iload_n 1, 1) := by decide +kernel
theorem d_Mo_accesses_32 : decode b_Mo_accesses 32 = .ok (.iaload, 1) := by decide +kernel
theorem d_Mo_accesses_33 : decode b_Mo_accesses 33 = .ok (.ireturn, 1) := by decide +kernel
set_option maxHeartbeats 4000000 in
set_option maxRecDepth 100000 in
theorem c_Mo_accesses_bad {l : Launch} {G : Gx} {s0 : State} (C : Cx G s0) {o : Nat} (ho : s0.heap.size ≤ o) (σ : Sg) (x : Int32) (hx1 : one x = false) : Ct l s0 (FM o) 1 0 0 y_Mo_accesses b_Mo_accesses 2 (some .int) [.ref (o), .int (x)] (RepM G o σ) (pI (fun r H => r = 0 ∧ RepM G o (thr σ 1) H)) := by
  refine Ct.of C (by decide) (Nat.le_of_ble_eq_true rfl) ?_
  intro pg ev s mm below meth cd V hr hlk hn hR ls hl
  have hx := V.1
  have hb := V.2.1
  have hS : va_S (FM o) s.heap s.heap [] := va_S.rf
  have hF : ∀ q, FM o q → FM o q := fun _ h => h
  have hA : ∀ q, FM o q → s0.heap.size ≤ q := fun _ h => Nat.le_trans ho h.1
  have hl : lv_has ls 2 [(0, .ref (o)), (1, .int (x))] := hl
  refine lv_aload_n hx hb d_Mo_accesses_0 rfl (lv_at hl 0 rfl) ?_
  refine lv_iload_n hx hb d_Mo_accesses_1 rfl (lv_at hl 1 rfl) ?_
  refine g_callS (As := [.int (x)]) (rest := [.ref (o)]) (A0 := FM o) V (c_Mo_isOne C ho σ (x)) v_Mo_95 hR hS hA (fun _ h => h) ⟨by decide, by decide⟩ rfl hl (Nat.le_of_ble_eq_true rfl) d_Mo_accesses_2 ⟨Nat.le_refl _, Nat.le_refl _⟩ (kI (fun r2 H locs hQ _ hS => ?_))
  obtain ⟨rfl, hR⟩ := hQ
  refine lv_tope (y := 0) (by rw [hx1]; rfl) ?_
  refine lv_if_eq (tgt := 12) hx hb d_Mo_accesses_5 (by decide) (fun h5 => ?_) (fun h5 => ?_)
  · refine lv_iconst (v := 1) hx hb d_Mo_accesses_12 (by decide) ?_
    refine rm_pt V hR hS (hF _ ⟨Nat.le_refl _, Nat.lt_add_of_pos_right (by decide)⟩) d_Mo_accesses_13 (fun H locs hR hS => ?_)
    refine lv_aload_n hx hb d_Mo_accesses_16 rfl (lv_at hl 0 rfl) ?_
    refine rm_gt V hR d_Mo_accesses_17 ?_
    refine lv_tope (y := 1) (by simp [up2, upd]) ?_
    refine lv_if_le (tgt := 27) hx hb d_Mo_accesses_20 (by decide) (fun h20 => ?_) (fun h20 => ?_)
    · exact absurd h20 (by decide)
    · refine lv_iconst (v := 0) hx hb d_Mo_accesses_23 (by decide) ?_
      refine lv_goto (tgt := 33) hx hb d_Mo_accesses_24 (by decide) ?_
      exact e_i V hr hlk hS (Nat.le_refl _) (Nat.le_refl _) d_Mo_accesses_33 ⟨_, rfl, rfl, hR⟩
  · exact absurd (by decide) h5
set_option maxHeartbeats 4000000 in
set_option maxRecDepth 100000 in
theorem c_Mo_accesses {l : Launch} {G : Gx} {s0 : State} (C : Cx G s0) {o : Nat} (ho : s0.heap.size ≤ o) (σ : Sg) (c : Nat) (hc : c < 3) : Ct l s0 (FM o) 1 0 0 y_Mo_accesses b_Mo_accesses 2 (some .int) [.ref (o), .int (nI c)] (RepM G o σ) (pI (fun r H => r = σ 20 c ∧ RepM G o (thr σ 0) H)) := by
  refine Ct.of C (by decide) (Nat.le_of_ble_eq_true rfl) ?_
  intro pg ev s mm below meth cd V hr hlk hn hR ls hl
  have hx := V.1
  have hb := V.2.1
  have hS : va_S (FM o) s.heap s.heap [] := va_S.rf
  have hF : ∀ q, FM o q → FM o q := fun _ h => h
  have hA : ∀ q, FM o q → s0.heap.size ≤ q := fun _ h => Nat.le_trans ho h.1
  have hl : lv_has ls 2 [(0, .ref (o)), (1, .int (nI c))] := hl
  refine lv_aload_n hx hb d_Mo_accesses_0 rfl (lv_at hl 0 rfl) ?_
  refine lv_iload_n hx hb d_Mo_accesses_1 rfl (lv_at hl 1 rfl) ?_
  refine g_callS (As := [.int (nI c)]) (rest := [.ref (o)]) (A0 := FM o) V (c_Mo_isOne C ho σ (nI c)) v_Mo_95 hR hS hA (fun _ h => h) ⟨by decide, by decide⟩ rfl hl (Nat.le_of_ble_eq_true rfl) d_Mo_accesses_2 ⟨Nat.le_refl _, Nat.le_refl _⟩ (kI (fun r2 H locs hQ _ hS => ?_))
  obtain ⟨rfl, hR⟩ := hQ
  refine lv_tope (y := 1) (by rw [one_nI hc]; rfl) ?_
  refine lv_if_eq (tgt := 12) hx hb d_Mo_accesses_5 (by decide) (fun h5 => ?_) (fun h5 => ?_)
  · exact absurd h5 (by decide)
  · refine lv_iconst (v := 0) hx hb d_Mo_accesses_8 (by decide) ?_
    refine lv_goto (tgt := 13) hx hb d_Mo_accesses_9 (by decide) ?_
    refine rm_pt V hR hS (hF _ ⟨Nat.le_refl _, Nat.lt_add_of_pos_right (by decide)⟩) d_Mo_accesses_13 (fun H locs hR hS => ?_)
    refine lv_aload_n hx hb d_Mo_accesses_16 rfl (lv_at hl 0 rfl) ?_
    refine rm_gt V hR d_Mo_accesses_17 ?_
    refine lv_tope (y := 0) (by simp [up2, upd]) ?_
    refine lv_if_le (tgt := 27) hx hb d_Mo_accesses_20 (by decide) (fun h20 => ?_) (fun h20 => ?_)
    · refine lv_aload_n hx hb d_Mo_accesses_27 rfl (lv_at hl 0 rfl) ?_
      refine rm_ga V hR 20 (by decide) (by decide) d_Mo_accesses_28 ?_
      refine lv_iload_n hx hb d_Mo_accesses_31 rfl (lv_at hl 1 rfl) ?_
      refine rm_ld V hR 20 ⟨by decide, by decide, rfl⟩ (n := 3) ⟨rfl, by decide⟩ (c) rfl (by omega) d_Mo_accesses_32 ?_
      refine lv_tope (y := σ 20 c) (by simp [up2, upd]) ?_
      exact e_i V hr hlk hS (Nat.le_refl _) (Nat.le_refl _) d_Mo_accesses_33 ⟨_, rfl, rfl, hR⟩
    · exact absurd (by decide) h20
theorem d_Mo_crash_0 : decode b_Mo_crash 0 = .ok (.aload_n 0, 1) := by decide +kernel
theorem d_Mo_crash_1 : decode b_Mo_crash 1 = .ok (.iload_n 1, 1) := by decide +kernel
theorem d_Mo_crash_2 : decode b_Mo_crash 2 = .ok (.invokestatic 95, 3) := by decide +kernel
theorem d_Mo_crash_5 : decode b_Mo_crash 5 = .ok (.ifCond .eq 7, 3) := by decide +kernel
theorem d_Mo_crash_8 : decode b_Mo_crash 8 = .ok (.iconst 0, 1) := by decide +kernel
theorem d_Mo_crash_9 : decode b_Mo_crash 9 = .ok (.goto 4, 3) := by decide +kernel
theorem d_Mo_crash_12 : decode b_Mo_crash 12 = .ok (.iconst 1, 1) := by decide +kernel
theorem d_Mo_crash_13 : decode b_Mo_crash 13 = .ok (.putfield 83, 3) := by decide +kernel
theorem d_Mo_crash_16 : decode b_Mo_crash 16 = .ok (.aload_n 0, 1) := by decide +kernel
theorem d_Mo_crash_17 : decode b_Mo_crash 17 = .ok (.getfield 83, 3) := by decide +kernel
theorem d_Mo_crash_20 : decode b_Mo_crash 20 = .ok (.ifCond .gt 12, 3) := by decide +kernel
theorem d_Mo_crash_23 : decode b_Mo_crash 23 = .ok (.aload_n 0, 1) := by decide +kernel
theorem d_Mo_crash_24 : decode b_Mo_crash 24 = .ok (.getfield 41, 3) := by decide +kernel
theorem d_Mo_crash_27 : decode b_Mo_crash 27 = .ok (.iload_n 1, 1) := by decide +kernel
theorem d_Mo_crash_28 : decode b_Mo_crash 28 = .ok (.baload, 1) := by decide +kernel
theorem d_Mo_crash_29 : decode b_Mo_crash 29 = .ok (.ifCond .eq 5, 3) := by decide +kernel
theorem d_Mo_crash_32 : decode b_Mo_crash 32 = .ok (.iconst 0, 1) := by decide +kernel
theorem d_Mo_crash_33 : decode b_Mo_crash 33 = .ok (.ireturn, 1) := by decide +kernel
theorem d_Mo_crash_34 : decode b_Mo_crash 34 = .ok (.aload_n 0, 1) := by decide +kernel
theorem d_Mo_crash_35 : decode b_Mo_crash 35 = .ok (.getfield 41, 3) := by decide +kernel
theorem d_Mo_crash_38 : decode b_Mo_crash 38 = .ok (.iload_n 1, 1) := by decide +kernel
theorem d_Mo_crash_39 : decode b_Mo_crash 39 = .ok (.iconst 1, 1) := by decide +kernel
theorem d_Mo_crash_40 : decode b_Mo_crash 40 = .ok (.bastore, 1) := by decide +kernel
theorem d_Mo_crash_41 : decode b_Mo_crash 41 = .ok (.iconst 1, 1) := by decide +kernel
theorem d_Mo_crash_42 : decode b_Mo_crash 42 = .ok (.ireturn, 1) := by decide +kernel
set_option maxHeartbeats 4000000 in
set_option maxRecDepth 100000 in
theorem c_Mo_crash_bad {l : Launch} {G : Gx} {s0 : State} (C : Cx G s0) {o : Nat} (ho : s0.heap.size ≤ o) (σ : Sg) (x : Int32) (hx1 : one x = false) : Ct l s0 (FM o) 1 0 0 y_Mo_crash b_Mo_crash 2 (some .boolean) [.ref (o), .int (x)] (RepM G o σ) (pI (fun r H => r = 0 ∧ RepM G o (thr σ 1) H)) := by
  refine Ct.of C (by decide) (Nat.le_of_ble_eq_true rfl) ?_
  intro pg ev s mm below meth cd V hr hlk hn hR ls hl
  have hx := V.1
  have hb := V.2.1
  have hS : va_S (FM o) s.heap s.heap [] := va_S.rf
  have hF : ∀ q, FM o q → FM o q := fun _ h => h
  have hA : ∀ q, FM o q → s0.heap.size ≤ q := fun _ h => Nat.le_trans ho h.1
  have hl : lv_has ls 2 [(0, .ref (o)), (1, .int (x))] := hl
  refine lv_aload_n hx hb d_Mo_crash_0 rfl (lv_at hl 0 rfl) ?_
  refine lv_iload_n hx hb d_Mo_crash_1 rfl (lv_at hl 1 rfl) ?_
  refine g_callS (As := [.int (x)]) (rest := [.ref (o)]) (A0 := FM o) V (c_Mo_isOne C ho σ (x)) v_Mo_95 hR hS hA (fun _ h => h) ⟨by decide, by decide⟩ rfl hl (Nat.le_of_ble_eq_true rfl) d_Mo_crash_2 ⟨Nat.le_refl _, Nat.le_refl _⟩ (kI (fun r2 H locs hQ _ hS => ?_))
  obtain ⟨rfl, hR⟩ := hQ
  refine lv_tope (y := 0) (by rw [hx1]; rfl) ?_
  refine lv_if_eq (tgt := 12) hx hb d_Mo_crash_5 (by decide) (fun h5 => ?_) (fun h5 => ?_)
  · refine lv_iconst (v := 1) hx hb d_Mo_crash_12 (by decide) ?_
    refine rm_pt V hR hS (hF _ ⟨Nat.le_refl _, Nat.lt_add_of_pos_right (by decide)⟩) d_Mo_crash_13 (fun H locs hR hS => ?_)
    refine lv_aload_n hx hb d_Mo_crash_16 rfl (lv_at hl 0 rfl) ?_
    refine rm_gt V hR d_Mo_crash_17 ?_
    refine lv_tope (y := 1) (by simp [up2, upd]) ?_
    refine lv_if_gt (tgt := 32) hx hb d_Mo_crash_20 (by decide) (fun h20 => ?_) (fun h20 => ?_)
    · refine lv_iconst (v := 0) hx hb d_Mo_crash_32 (by decide) ?_
      exact e_z V hr hlk hS (Nat.le_refl _) (Nat.le_refl _) d_Mo_crash_33 (by decide) ⟨_, rfl, rfl, hR⟩
    · exact absurd (by decide) h20
  · exact absurd (by decide) h5
set_option maxHeartbeats 4000000 in
set_option maxRecDepth 100000 in
theorem c_Mo_crash {l : Launch} {G : Gx} {s0 : State} (C : Cx G s0) {o : Nat} (ho : s0.heap.size ≤ o) (σ : Sg) (c : Nat) (hc : c < 3) : Ct l s0 (FM o) 1 0 0 y_Mo_crash b_Mo_crash 2 (some .boolean) [.ref (o), .int (nI c)] (RepM G o σ) (pI (fun r H => r = (crM σ c).1 ∧ RepM G o (crM σ c).2 H)) := by
  refine Ct.of C (by decide) (Nat.le_of_ble_eq_true rfl) ?_
  intro pg ev s mm below meth cd V hr hlk hn hR ls hl
  have hx := V.1
  have hb := V.2.1
  have hS : va_S (FM o) s.heap s.heap [] := va_S.rf
  have hF : ∀ q, FM o q → FM o q := fun _ h => h
  have hA : ∀ q, FM o q → s0.heap.size ≤ q := fun _ h => Nat.le_trans ho h.1
  have hl : lv_has ls 2 [(0, .ref (o)), (1, .int (nI c))] := hl
  refine lv_aload_n hx hb d_Mo_crash_0 rfl (lv_at hl 0 rfl) ?_
  refine lv_iload_n hx hb d_Mo_crash_1 rfl (lv_at hl 1 rfl) ?_
  refine g_callS (As := [.int (nI c)]) (rest := [.ref (o)]) (A0 := FM o) V (c_Mo_isOne C ho σ (nI c)) v_Mo_95 hR hS hA (fun _ h => h) ⟨by decide, by decide⟩ rfl hl (Nat.le_of_ble_eq_true rfl) d_Mo_crash_2 ⟨Nat.le_refl _, Nat.le_refl _⟩ (kI (fun r2 H locs hQ _ hS => ?_))
  obtain ⟨rfl, hR⟩ := hQ
  refine lv_tope (y := 1) (by rw [one_nI hc]; rfl) ?_
  refine lv_if_eq (tgt := 12) hx hb d_Mo_crash_5 (by decide) (fun h5 => ?_) (fun h5 => ?_)
  · exact absurd h5 (by decide)
  · refine lv_iconst (v := 0) hx hb d_Mo_crash_8 (by decide) ?_
    refine lv_goto (tgt := 13) hx hb d_Mo_crash_9 (by decide) ?_
    refine rm_pt V hR hS (hF _ ⟨Nat.le_refl _, Nat.lt_add_of_pos_right (by decide)⟩) d_Mo_crash_13 (fun H locs hR hS => ?_)
    refine lv_aload_n hx hb d_Mo_crash_16 rfl (lv_at hl 0 rfl) ?_
    refine rm_gt V hR d_Mo_crash_17 ?_
    refine lv_tope (y := 0) (by simp [up2, upd]) ?_
    refine lv_if_gt (tgt := 32) hx hb d_Mo_crash_20 (by decide) (fun h20 => ?_) (fun h20 => ?_)
    · exact absurd h20 (by decide)
    · refine lv_aload_n hx hb d_Mo_crash_23 rfl (lv_at hl 0 rfl) ?_
      refine rm_ga V hR 11 (by decide) (by decide) d_Mo_crash_24 ?_
      refine lv_iload_n hx hb d_Mo_crash_27 rfl (lv_at hl 1 rfl) ?_
      refine rm_lz V hR 11 ⟨by decide, by decide, rfl⟩ (n := 3) ⟨rfl, by decide⟩ (c) rfl (by omega) d_Mo_crash_28 ?_
      refine lv_tope (y := σ 11 c) (by simp [up2, upd]) ?_
      refine lv_if_eq (tgt := 34) hx hb d_Mo_crash_29 (by decide) (fun h29 => ?_) (fun h29 => ?_)
      · refine lv_aload_n hx hb d_Mo_crash_34 rfl (lv_at hl 0 rfl) ?_
        refine rm_ga V hR 11 (by decide) (by decide) d_Mo_crash_35 ?_
        refine lv_iload_n hx hb d_Mo_crash_38 rfl (lv_at hl 1 rfl) ?_
        refine lv_iconst (v := 1) hx hb d_Mo_crash_39 (by decide) ?_
        refine rm_sz V hR hS hF 11 ⟨by decide, by decide, rfl⟩ (n := 3) ⟨rfl, by decide⟩ (c) rfl (by omega) (by decide) d_Mo_crash_40 (fun H locs hR hS => ?_)
        refine lv_iconst (v := 1) hx hb d_Mo_crash_41 (by decide) ?_
        exact e_z V hr hlk hS (Nat.le_refl _) (Nat.le_refl _) d_Mo_crash_42 (by decide) ⟨_, rfl, by rw [show crM σ c = (1, (up2 (up2 σ 0 0 (0)) 11 c (1))) from by simp [crM, thr, h29]]; exact ⟨rfl, hR⟩⟩
      · refine lv_iconst (v := 0) hx hb d_Mo_crash_32 (by decide) ?_
        exact e_z V hr hlk hS (Nat.le_refl _) (Nat.le_refl _) d_Mo_crash_33 (by decide) ⟨_, rfl, by rw [show crM σ c = (0, (up2 σ 0 0 (0))) from by simp [crM, thr, h29]]; exact ⟨rfl, hR⟩⟩
theorem d_Mo_restart_0 : decode b_Mo_restart 0 = .ok (.aload_n 0, 1) := by decide +kernel
theorem d_Mo_restart_1 : decode b_Mo_restart 1 = .ok (.iload_n 1, 1) := by decide +kernel
theorem d_Mo_restart_2 : decode b_Mo_restart 2 = .ok (.invokestatic 95, 3) := by decide +kernel
theorem d_Mo_restart_5 : decode b_Mo_restart 5 = .ok (.ifCond .eq 7, 3) := by decide +kernel
theorem d_Mo_restart_8 : decode b_Mo_restart 8 = .ok (.iconst 0, 1) := by decide +kernel
theorem d_Mo_restart_9 : decode b_Mo_restart 9 = .ok (.goto 4, 3) := by decide +kernel
theorem d_Mo_restart_12 : decode b_Mo_restart 12 = .ok (.iconst 1, 1) := by decide +kernel
theorem d_Mo_restart_13 : decode b_Mo_restart 13 = .ok (.putfield 83, 3) := by decide +kernel
theorem d_Mo_restart_16 : decode b_Mo_restart 16 = .ok (.aload_n 0, 1) := by decide +kernel
theorem d_Mo_restart_17 : decode b_Mo_restart 17 = .ok (.getfield 83, 3) := by decide +kernel
theorem d_Mo_restart_20 : decode b_Mo_restart 20 = .ok (.ifCond .gt 12, 3) := by decide +kernel
theorem d_Mo_restart_23 : decode b_Mo_restart 23 = .ok (.aload_n 0, 1) := by decide +kernel
theorem d_Mo_restart_24 : decode b_Mo_restart 24 = .ok (.getfield 41, 3) := by decide +kernel
theorem d_Mo_restart_27 : decode b_Mo_restart 27 = .ok (.iload_n 1, 1) := by decide +kernel
theorem d_Mo_restart_28 : decode b_Mo_restart 28 = .ok (.baload, 1) := by decide +kernel
theorem d_Mo_restart_29 : decode b_Mo_restart 29 = .ok (.ifCond .ne 5, 3) := by decide +kernel
theorem d_Mo_restart_32 : decode b_Mo_restart 32 = .ok (.iconst 0, 1) := by decide +kernel
theorem d_Mo_restart_33 : decode b_Mo_restart 33 = .ok (.ireturn, 1) := by decide +kernel
theorem d_Mo_restart_34 : decode b_Mo_restart 34 = .ok (.aload_n 0, 1) := by decide +kernel
theorem d_Mo_restart_35 : decode b_Mo_restart 35 = .ok (.getfield 41, 3) := by decide +kernel
theorem d_Mo_restart_38 : decode b_Mo_restart 38 = .ok (.iload_n 1, 1) := by decide +kernel
theorem d_Mo_restart_39 : decode b_Mo_restart 39 = .ok (.iconst 0, 1) := by decide +kernel
theorem d_Mo_restart_40 : decode b_Mo_restart 40 = .ok (.bastore, 1) := by decide +kernel
theorem d_Mo_restart_41 : decode b_Mo_restart 41 = .ok (.aload_n 0, 1) := by decide +kernel
theorem d_Mo_restart_42 : decode b_Mo_restart 42 = .ok (.getfield 44, 3) := by decide +kernel
theorem d_Mo_restart_45 : decode b_Mo_restart 45 = .ok (.iload_n 1, 1) := by decide +kernel
theorem d_Mo_restart_46 : decode b_Mo_restart 46 = .ok (.iconst 0, 1) := by decide +kernel
theorem d_Mo_restart_47 : decode b_Mo_restart 47 = .ok (.iastore, 1) := by decide +kernel
theorem d_Mo_restart_48 : decode b_Mo_restart 48 = .ok (.aload_n 0, 1) := by decide +kernel
theorem d_Mo_restart_49 : decode b_Mo_restart 49 = .ok (.getfield 47, 3) := by decide +kernel
theorem d_Mo_restart_52 : decode b_Mo_restart 52 = .ok (.iload_n 1, 1) := by decide +kernel
theorem d_Mo_restart_53 : decode b_Mo_restart 53 = .ok (.iconst 0, 1) := by decide +kernel
theorem d_Mo_restart_54 : decode b_Mo_restart 54 = .ok (.iastore, 1) := by decide +kernel
theorem d_Mo_restart_55 : decode b_Mo_restart 55 = .ok (.iconst 1, 1) := by decide +kernel
theorem d_Mo_restart_56 : decode b_Mo_restart 56 = .ok (.ireturn, 1) := by decide +kernel
set_option maxHeartbeats 4000000 in
set_option maxRecDepth 100000 in
theorem c_Mo_restart_bad {l : Launch} {G : Gx} {s0 : State} (C : Cx G s0) {o : Nat} (ho : s0.heap.size ≤ o) (σ : Sg) (x : Int32) (hx1 : one x = false) : Ct l s0 (FM o) 1 0 0 y_Mo_restart b_Mo_restart 2 (some .boolean) [.ref (o), .int (x)] (RepM G o σ) (pI (fun r H => r = 0 ∧ RepM G o (thr σ 1) H)) := by
  refine Ct.of C (by decide) (Nat.le_of_ble_eq_true rfl) ?_
  intro pg ev s mm below meth cd V hr hlk hn hR ls hl
  have hx := V.1
  have hb := V.2.1
  have hS : va_S (FM o) s.heap s.heap [] := va_S.rf
  have hF : ∀ q, FM o q → FM o q := fun _ h => h
  have hA : ∀ q, FM o q → s0.heap.size ≤ q := fun _ h => Nat.le_trans ho h.1
  have hl : lv_has ls 2 [(0, .ref (o)), (1, .int (x))] := hl
  refine lv_aload_n hx hb d_Mo_restart_0 rfl (lv_at hl 0 rfl) ?_
  refine lv_iload_n hx hb d_Mo_restart_1 rfl (lv_at hl 1 rfl) ?_
  refine g_callS (As := [.int (x)]) (rest := [.ref (o)]) (A0 := FM o) V (c_Mo_isOne C ho σ (x)) v_Mo_95 hR hS hA (fun _ h => h) ⟨by decide, by decide⟩ rfl hl (Nat.le_of_ble_eq_true rfl) d_Mo_restart_2 ⟨Nat.le_refl _, Nat.le_refl _⟩ (kI (fun r2 H locs hQ _ hS => ?_))
  obtain ⟨rfl, hR⟩ := hQ
  refine lv_tope (y := 0) (by rw [hx1]; rfl) ?_
  refine lv_if_eq (tgt := 12) hx hb d_Mo_restart_5 (by decide) (fun h5 => ?_) (fun h5 => ?_)
  · refine lv_iconst (v := 1) hx hb d_Mo_restart_12 (by decide) ?_
    refine rm_pt V hR hS (hF _ ⟨Nat.le_refl _, Nat.lt_add_of_pos_right (by decide)⟩) d_Mo_restart_13 (fun H locs hR hS => ?_)
    refine lv_aload_n hx hb d_Mo_restart_16 rfl (lv_at hl 0 rfl) ?_
    refine rm_gt V hR d_Mo_restart_17 ?_
    refine lv_tope (y := 1) (by simp [up2, upd]) ?_
    refine lv_if_gt (tgt := 32) hx hb d_Mo_restart_20 (by decide) (fun h20 => ?_) (fun h20 => ?_)
    · refine lv_iconst (v := 0) hx hb d_Mo_restart_32 (by decide) ?_
      exact e_z V hr hlk hS (Nat.le_refl _) (Nat.le_refl _) d_Mo_restart_33 (by decide) ⟨_, rfl, rfl, hR⟩
    · exact absurd (by decide) h20
  · exact absurd (by decide) h5
set_option maxHeartbeats 4000000 in
set_option maxRecDepth 100000 in
theorem c_Mo_restart {l : Launch} {G : Gx} {s0 : State} (C : Cx G s0) {o : Nat} (ho : s0.heap.size ≤ o) (σ : Sg) (c : Nat) (hc : c < 3) : Ct l s0 (FM o) 1 0 0 y_Mo_restart b_Mo_restart 2 (some .boolean) [.ref (o), .int (nI c)] (RepM G o σ) (pI (fun r H => r = (rsM σ c).1 ∧ RepM G o (rsM σ c).2 H)) := by
  refine Ct.of C (by decide) (Nat.le_of_ble_eq_true rfl) ?_
  intro pg ev s mm below meth cd V hr hlk hn hR ls hl
  have hx := V.1
  have hb := V.2.1
  have hS : va_S (FM o) s.heap s.heap [] := va_S.rf
  have hF : ∀ q, FM o q → FM o q := fun _ h => h
  have hA : ∀ q, FM o q → s0.heap.size ≤ q := fun _ h => Nat.le_trans ho h.1
  have hl : lv_has ls 2 [(0, .ref (o)), (1, .int (nI c))] := hl
  refine lv_aload_n hx hb d_Mo_restart_0 rfl (lv_at hl 0 rfl) ?_
  refine lv_iload_n hx hb d_Mo_restart_1 rfl (lv_at hl 1 rfl) ?_
  refine g_callS (As := [.int (nI c)]) (rest := [.ref (o)]) (A0 := FM o) V (c_Mo_isOne C ho σ (nI c)) v_Mo_95 hR hS hA (fun _ h => h) ⟨by decide, by decide⟩ rfl hl (Nat.le_of_ble_eq_true rfl) d_Mo_restart_2 ⟨Nat.le_refl _, Nat.le_refl _⟩ (kI (fun r2 H locs hQ _ hS => ?_))
  obtain ⟨rfl, hR⟩ := hQ
  refine lv_tope (y := 1) (by rw [one_nI hc]; rfl) ?_
  refine lv_if_eq (tgt := 12) hx hb d_Mo_restart_5 (by decide) (fun h5 => ?_) (fun h5 => ?_)
  · exact absurd h5 (by decide)
  · refine lv_iconst (v := 0) hx hb d_Mo_restart_8 (by decide) ?_
    refine lv_goto (tgt := 13) hx hb d_Mo_restart_9 (by decide) ?_
    refine rm_pt V hR hS (hF _ ⟨Nat.le_refl _, Nat.lt_add_of_pos_right (by decide)⟩) d_Mo_restart_13 (fun H locs hR hS => ?_)
    refine lv_aload_n hx hb d_Mo_restart_16 rfl (lv_at hl 0 rfl) ?_
    refine rm_gt V hR d_Mo_restart_17 ?_
    refine lv_tope (y := 0) (by simp [up2, upd]) ?_
    refine lv_if_gt (tgt := 32) hx hb d_Mo_restart_20 (by decide) (fun h20 => ?_) (fun h20 => ?_)
    · exact absurd h20 (by decide)
    · refine lv_aload_n hx hb d_Mo_restart_23 rfl (lv_at hl 0 rfl) ?_
      refine rm_ga V hR 11 (by decide) (by decide) d_Mo_restart_24 ?_
      refine lv_iload_n hx hb d_Mo_restart_27 rfl (lv_at hl 1 rfl) ?_
      refine rm_lz V hR 11 ⟨by decide, by decide, rfl⟩ (n := 3) ⟨rfl, by decide⟩ (c) rfl (by omega) d_Mo_restart_28 ?_
      refine lv_tope (y := σ 11 c) (by simp [up2, upd]) ?_
      refine lv_if_ne (tgt := 34) hx hb d_Mo_restart_29 (by decide) (fun h29 => ?_) (fun h29 => ?_)
      · refine lv_aload_n hx hb d_Mo_restart_34 rfl (lv_at hl 0 rfl) ?_
        refine rm_ga V hR 11 (by decide) (by decide) d_Mo_restart_35 ?_
        refine lv_iload_n hx hb d_Mo_restart_38 rfl (lv_at hl 1 rfl) ?_
        refine lv_iconst (v := 0) hx hb d_Mo_restart_39 (by decide) ?_
        refine rm_sz V hR hS hF 11 ⟨by decide, by decide, rfl⟩ (n := 3) ⟨rfl, by decide⟩ (c) rfl (by omega) (by decide) d_Mo_restart_40 (fun H locs hR hS => ?_)
        refine lv_aload_n hx hb d_Mo_restart_41 rfl (lv_at hl 0 rfl) ?_
        refine rm_ga V hR 12 (by decide) (by decide) d_Mo_restart_42 ?_
        refine lv_iload_n hx hb d_Mo_restart_45 rfl (lv_at hl 1 rfl) ?_
        refine lv_iconst (v := 0) hx hb d_Mo_restart_46 (by decide) ?_
        refine rm_st V hR hS hF 12 ⟨by decide, by decide, rfl⟩ (n := 3) ⟨rfl, by decide⟩ (c) rfl (by omega) d_Mo_restart_47 (fun H locs hR hS => ?_)
        refine lv_aload_n hx hb d_Mo_restart_48 rfl (lv_at hl 0 rfl) ?_
        refine rm_ga V hR 13 (by decide) (by decide) d_Mo_restart_49 ?_
        refine lv_iload_n hx hb d_Mo_restart_52 rfl (lv_at hl 1 rfl) ?_
        refine lv_iconst (v := 0) hx hb d_Mo_restart_53 (by decide) ?_
        refine rm_st V hR hS hF 13 ⟨by decide, by decide, rfl⟩ (n := 3) ⟨rfl, by decide⟩ (c) rfl (by omega) d_Mo_restart_54 (fun H locs hR hS => ?_)
        refine lv_iconst (v := 1) hx hb d_Mo_restart_55 (by decide) ?_
        exact e_z V hr hlk hS (Nat.le_refl _) (Nat.le_refl _) d_Mo_restart_56 (by decide) ⟨_, rfl, by rw [show rsM σ c = (1, (up2 (up2 (up2 (up2 σ 0 0 (0)) 11 c (0)) 12 c (0)) 13 c (0))) from by simp [rsM, thr, h29]]; exact ⟨rfl, hR⟩⟩
      · refine lv_iconst (v := 0) hx hb d_Mo_restart_32 (by decide) ?_
        exact e_z V hr hlk hS (Nat.le_refl _) (Nat.le_refl _) d_Mo_restart_33 (by decide) ⟨_, rfl, by rw [show rsM σ c = (0, (up2 σ 0 0 (0))) from by simp [rsM, thr, h29]]; exact ⟨rfl, hR⟩⟩
theorem d_Mo_phase_0 : decode b_Mo_phase 0 = .ok (.aload_n 0, 1) := by decide +kernel
theorem d_Mo_phase_1 : decode b_Mo_phase 1 = .ok (.iload_n 1, 1) := by decide +kernel
theorem d_Mo_phase_2 : decode b_Mo_phase 2 = .ok (.invokestatic 95, 3) := by decide +kernel
theorem d_Mo_phase_5 : decode b_Mo_phase 5 = .ok (.ifCond .eq 7, 3) := by decide +kernel
theorem d_Mo_phase_8 : decode b_Mo_phase 8 = .ok (.iconst 0, 1) := by decide +kernel
theorem d_Mo_phase_9 : decode b_Mo_phase 9 = .ok (.goto 4, 3) := by decide +kernel
theorem d_Mo_phase_12 : decode b_Mo_phase 12 = .ok (.iconst 1, 1) := by decide +kernel
theorem d_Mo_phase_13 : decode b_Mo_phase 13 = .ok (.putfield 83, 3) := by decide +kernel
theorem d_Mo_phase_16 : decode b_Mo_phase 16 = .ok (.aload_n 0, 1) := by decide +kernel
theorem d_Mo_phase_17 : decode b_Mo_phase 17 = .ok (.getfield 83, 3) := by decide +kernel
theorem d_Mo_phase_20 : decode b_Mo_phase 20 = .ok (.ifCond .le 7, 3) := by decide +kernel
theorem d_Mo_phase_23 : decode b_Mo_phase 23 = .ok (.iconst 0, 1) := by decide +kernel
theorem d_Mo_phase_24 : decode b_Mo_phase 24 = .ok (.goto 22, 3) := by decide +kernel
theorem d_Mo_phase_27 : decode b_Mo_phase 27 = .ok (.aload_n 0, 1) := by decide +kernel
theorem d_Mo_phase_28 : decode b_Mo_phase 28 = .ok (.getfield 41, 3) := by decide +kernel
theorem d_Mo_phase_31 : decode b_Mo_phase 31 = .ok (.iload_n 1, 1) := by decide +kernel
theorem d_Mo_phase_32 : decode b_Mo_phase 32 = .ok (.baload, 1) := by decide +kernel
theorem d_Mo_phase_33 : decode b_Mo_phase 33 = .ok (.ifCond .eq 7, 3) := by decide +kernel
theorem d_Mo_phase_36 : decode b_Mo_phase 36 = .ok (.iconst (-1), 1) := by decide +kernel
theorem d_Mo_phase_37 : decode b_Mo_phase 37 = .ok (.goto 9, 3) := by decide +kernel
theorem d_Mo_phase_40 : decode b_Mo_phase 40 = .ok (.aload_n 0, 1) := by decide +kernel
theorem d_Mo_phase_41 : decode b_Mo_phase 41 = .ok (.getfield 44, 3) := by decide +kernel
theorem d_Mo_phase_44 : decode b_Mo_phase 44 = .ok (.iload_n 1, 1) := by decide +kernel
theorem d_Mo_phase_45 : decode b_Mo_phase 45 = .ok (.iaload, 1) := by decide +kernel
theorem d_Mo_phase_46 : decode b_Mo_phase 46 = .ok (.ireturn, 1) := by decide +kernel
set_option maxHeartbeats 4000000 in
set_option maxRecDepth 100000 in
theorem c_Mo_phase_bad {l : Launch} {G : Gx} {s0 : State} (C : Cx G s0) {o : Nat} (ho : s0.heap.size ≤ o) (σ : Sg) (x : Int32) (hx1 : one x = false) : Ct l s0 (FM o) 1 0 0 y_Mo_phase b_Mo_phase 2 (some .int) [.ref (o), .int (x)] (RepM G o σ) (pI (fun r H => r = 0 ∧ RepM G o (thr σ 1) H)) := by
  refine Ct.of C (by decide) (Nat.le_of_ble_eq_true rfl) ?_
  intro pg ev s mm below meth cd V hr hlk hn hR ls hl
  have hx := V.1
  have hb := V.2.1
  have hS : va_S (FM o) s.heap s.heap [] := va_S.rf
  have hF : ∀ q, FM o q → FM o q := fun _ h => h
  have hA : ∀ q, FM o q → s0.heap.size ≤ q := fun _ h => Nat.le_trans ho h.1
  have hl : lv_has ls 2 [(0, .ref (o)), (1, .int (x))] := hl
  refine lv_aload_n hx hb d_Mo_phase_0 rfl (lv_at hl 0 rfl) ?_
  refine lv_iload_n hx hb d_Mo_phase_1 rfl (lv_at hl 1 rfl) ?_
  refine g_callS (As := [.int (x)]) (rest := [.ref (o)]) (A0 := FM o) V (c_Mo_isOne C ho σ (x)) v_Mo_95 hR hS hA (fun _ h => h) ⟨by decide, by decide⟩ rfl hl (Nat.le_of_ble_eq_true rfl) d_Mo_phase_2 ⟨Nat.le_refl _, Nat.le_refl _⟩ (kI (fun r2 H locs hQ _ hS => ?_))
  obtain ⟨rfl, hR⟩ := hQ
  refine lv_tope (y := 0) (by rw [hx1]; rfl) ?_
  refine lv_if_eq (tgt := 12) hx hb d_Mo_phase_5 (by decide) (fun h5 => ?_) (fun h5 => ?_)
  · refine lv_iconst (v := 1) hx hb d_Mo_phase_12 (by decide) ?_
    refine rm_pt V hR hS (hF _ ⟨Nat.le_refl _, Nat.lt_add_of_pos_right (by decide)⟩) d_Mo_phase_13 (fun H locs hR hS => ?_)
    refine lv_aload_n hx hb d_Mo_phase_16 rfl (lv_at hl 0 rfl) ?_
    refine rm_gt V hR d_Mo_phase_17 ?_
    refine lv_tope (y := 1) (by simp [up2, upd]) ?_
    refine lv_if_le (tgt := 27) hx hb d_Mo_phase_20 (by decide) (fun h20 => ?_) (fun h20 => ?_)
    · exact absurd h20 (by decide)
    · refine lv_iconst (v := 0) hx hb d_Mo_phase_23 (by decide) ?_
      refine lv_goto (tgt := 46) hx hb d_Mo_phase_24 (by decide) ?_
      exact e_i V hr hlk hS (Nat.le_refl _) (Nat.le_refl _) d_Mo_phase_46 ⟨_, rfl, rfl, hR⟩
  · exact absurd (by decide) h5
set_option maxHeartbeats 4000000 in
set_option maxRecDepth 100000 in
theorem c_Mo_phase {l : Launch} {G : Gx} {s0 : State} (C : Cx G s0) {o : Nat} (ho : s0.heap.size ≤ o) (σ : Sg) (c : Nat) (hc : c < 3) : Ct l s0 (FM o) 1 0 0 y_Mo_phase b_Mo_phase 2 (some .int) [.ref (o), .int (nI c)] (RepM G o σ) (pI (fun r H => r = (phM σ c).1 ∧ RepM G o (phM σ c).2 H)) := by
  refine Ct.of C (by decide) (Nat.le_of_ble_eq_true rfl) ?_
  intro pg ev s mm below meth cd V hr hlk hn hR ls hl
  have hx := V.1
  have hb := V.2.1
  have hS : va_S (FM o) s.heap s.heap [] := va_S.rf
  have hF : ∀ q, FM o q → FM o q := fun _ h => h
  have hA : ∀ q, FM o q → s0.heap.size ≤ q := fun _ h => Nat.le_trans ho h.1
  have hl : lv_has ls 2 [(0, .ref (o)), (1, .int (nI c))] := hl
  refine lv_aload_n hx hb d_Mo_phase_0 rfl (lv_at hl 0 rfl) ?_
  refine lv_iload_n hx hb d_Mo_phase_1 rfl (lv_at hl 1 rfl) ?_
  refine g_callS (As := [.int (nI c)]) (rest := [.ref (o)]) (A0 := FM o) V (c_Mo_isOne C ho σ (nI c)) v_Mo_95 hR hS hA (fun _ h => h) ⟨by decide, by decide⟩ rfl hl (Nat.le_of_ble_eq_true rfl) d_Mo_phase_2 ⟨Nat.le_refl _, Nat.le_refl _⟩ (kI (fun r2 H locs hQ _ hS => ?_))
  obtain ⟨rfl, hR⟩ := hQ
  refine lv_tope (y := 1) (by rw [one_nI hc]; rfl) ?_
  refine lv_if_eq (tgt := 12) hx hb d_Mo_phase_5 (by decide) (fun h5 => ?_) (fun h5 => ?_)
  · exact absurd h5 (by decide)
  · refine lv_iconst (v := 0) hx hb d_Mo_phase_8 (by decide) ?_
    refine lv_goto (tgt := 13) hx hb d_Mo_phase_9 (by decide) ?_
    refine rm_pt V hR hS (hF _ ⟨Nat.le_refl _, Nat.lt_add_of_pos_right (by decide)⟩) d_Mo_phase_13 (fun H locs hR hS => ?_)
    refine lv_aload_n hx hb d_Mo_phase_16 rfl (lv_at hl 0 rfl) ?_
    refine rm_gt V hR d_Mo_phase_17 ?_
    refine lv_tope (y := 0) (by simp [up2, upd]) ?_
    refine lv_if_le (tgt := 27) hx hb d_Mo_phase_20 (by decide) (fun h20 => ?_) (fun h20 => ?_)
    · refine lv_aload_n hx hb d_Mo_phase_27 rfl (lv_at hl 0 rfl) ?_
      refine rm_ga V hR 11 (by decide) (by decide) d_Mo_phase_28 ?_
      refine lv_iload_n hx hb d_Mo_phase_31 rfl (lv_at hl 1 rfl) ?_
      refine rm_lz V hR 11 ⟨by decide, by decide, rfl⟩ (n := 3) ⟨rfl, by decide⟩ (c) rfl (by omega) d_Mo_phase_32 ?_
      refine lv_tope (y := σ 11 c) (by simp [up2, upd]) ?_
      refine lv_if_eq (tgt := 40) hx hb d_Mo_phase_33 (by decide) (fun h33 => ?_) (fun h33 => ?_)
      · refine lv_aload_n hx hb d_Mo_phase_40 rfl (lv_at hl 0 rfl) ?_
        refine rm_ga V hR 12 (by decide) (by decide) d_Mo_phase_41 ?_
        refine lv_iload_n hx hb d_Mo_phase_44 rfl (lv_at hl 1 rfl) ?_
        refine rm_ld V hR 12 ⟨by decide, by decide, rfl⟩ (n := 3) ⟨rfl, by decide⟩ (c) rfl (by omega) d_Mo_phase_45 ?_
        refine lv_tope (y := σ 12 c) (by simp [up2, upd]) ?_
        exact e_i V hr hlk hS (Nat.le_refl _) (Nat.le_refl _) d_Mo_phase_46 ⟨_, rfl, by rw [show phM σ c = (σ 12 c, (up2 σ 0 0 (0))) from by simp [phM, thr, h33]]; exact ⟨rfl, hR⟩⟩
      · refine lv_iconst (v := -1) hx hb d_Mo_phase_36 (by decide) ?_
        refine lv_goto (tgt := 46) hx hb d_Mo_phase_37 (by decide) ?_
        exact e_i V hr hlk hS (Nat.le_refl _) (Nat.le_refl _) d_Mo_phase_46 ⟨_, rfl, by rw [show phM σ c = (-1, (up2 σ 0 0 (0))) from by simp [phM, thr, h33]]; exact ⟨rfl, hR⟩⟩
    · exact absurd (by decide) h20
theorem d_Mo_vote_0 : decode b_Mo_vote 0 = .ok (.aload_n 0, 1) := by decide +kernel
theorem d_Mo_vote_1 : decode b_Mo_vote 1 = .ok (.iload_n 1, 1) := by decide +kernel
theorem d_Mo_vote_2 : decode b_Mo_vote 2 = .ok (.invokestatic 95, 3) := by decide +kernel
theorem d_Mo_vote_5 : decode b_Mo_vote 5 = .ok (.ifCond .eq 7, 3) := by decide +kernel
theorem d_Mo_vote_8 : decode b_Mo_vote 8 = .ok (.iconst 0, 1) := by decide +kernel
theorem d_Mo_vote_9 : decode b_Mo_vote 9 = .ok (.goto 4, 3) := by decide +kernel
theorem d_Mo_vote_12 : decode b_Mo_vote 12 = .ok (.iconst 1, 1) := by decide +kernel
theorem d_Mo_vote_13 : decode b_Mo_vote 13 = .ok (.putfield 83, 3) := by decide +kernel
theorem d_Mo_vote_16 : decode b_Mo_vote 16 = .ok (.aload_n 0, 1) := by decide +kernel
theorem d_Mo_vote_17 : decode b_Mo_vote 17 = .ok (.getfield 83, 3) := by decide +kernel
theorem d_Mo_vote_20 : decode b_Mo_vote 20 = .ok (.ifCond .le 7, 3) := by decide +kernel
theorem d_Mo_vote_23 : decode b_Mo_vote 23 = .ok (.iconst 0, 1) := by decide +kernel
theorem d_Mo_vote_24 : decode b_Mo_vote 24 = .ok (.goto 22, 3) := by decide +kernel
theorem d_Mo_vote_27 : decode b_Mo_vote 27 = .ok (.iload_n 2, 1) := by decide +kernel
theorem d_Mo_vote_28 : decode b_Mo_vote 28 = .ok (.ifCond .eq 12, 3) := by decide +kernel
theorem d_Mo_vote_31 : decode b_Mo_vote 31 = .ok (.aload_n 0, 1) := by decide +kernel
theorem d_Mo_vote_32 : decode b_Mo_vote 32 = .ok (.getfield 38, 3) := by decide +kernel
theorem d_Mo_vote_35 : decode b_Mo_vote 35 = .ok (.iload_n 1, 1) := by decide +kernel
theorem d_Mo_vote_36 : decode b_Mo_vote 36 = .ok (.iaload, 1) := by decide +kernel
theorem d_Mo_vote_37 : decode b_Mo_vote 37 = .ok (.goto 9, 3) := by decide +kernel
theorem d_Mo_vote_40 : decode b_Mo_vote 40 = .ok (.aload_n 0, 1) := by decide +kernel
theorem d_Mo_vote_41 : decode b_Mo_vote 41 = .ok (.getfield 35, 3) := by decide +kernel
theorem d_Mo_vote_44 : decode b_Mo_vote 44 = .ok (.iload_n 1, 1) := by decide +kernel
theorem d_Mo_vote_45 : decode b_Mo_vote 45 = .ok (.iaload, 1) := by decide +kernel
theorem d_Mo_vote_46 : decode b_Mo_vote 46 = .ok (.ireturn, 1) := by decide +kernel
set_option maxHeartbeats 4000000 in
set_option maxRecDepth 100000 in
theorem c_Mo_vote_bad {l : Launch} {G : Gx} {s0 : State} (C : Cx G s0) {o : Nat} (ho : s0.heap.size ≤ o) (σ : Sg) (x : Int32) (hx1 : one x = false) (b : Int32) : Ct l s0 (FM o) 1 0 0 y_Mo_vote b_Mo_vote 3 (some .int) [.ref (o), .int (x), .int (b)] (RepM G o σ) (pI (fun r H => r = 0 ∧ RepM G o (thr σ 1) H)) := by
  refine Ct.of C (by decide) (Nat.le_of_ble_eq_true rfl) ?_
  intro pg ev s mm below meth cd V hr hlk hn hR ls hl
  have hx := V.1
  have hb := V.2.1
  have hS : va_S (FM o) s.heap s.heap [] := va_S.rf
  have hF : ∀ q, FM o q → FM o q := fun _ h => h
  have hA : ∀ q, FM o q → s0.heap.size ≤ q := fun _ h => Nat.le_trans ho h.1
  have hl : lv_has ls 3 [(0, .ref (o)), (1, .int (x)), (2, .int (b))] := hl
  refine lv_aload_n hx hb d_Mo_vote_0 rfl (lv_at hl 0 rfl) ?_
  refine lv_iload_n hx hb d_Mo_vote_1 rfl (lv_at hl 1 rfl) ?_
  refine g_callS (As := [.int (x)]) (rest := [.ref (o)]) (A0 := FM o) V (c_Mo_isOne C ho σ (x)) v_Mo_95 hR hS hA (fun _ h => h) ⟨by decide, by decide⟩ rfl hl (Nat.le_of_ble_eq_true rfl) d_Mo_vote_2 ⟨Nat.le_refl _, Nat.le_refl _⟩ (kI (fun r2 H locs hQ _ hS => ?_))
  obtain ⟨rfl, hR⟩ := hQ
  refine lv_tope (y := 0) (by rw [hx1]; rfl) ?_
  refine lv_if_eq (tgt := 12) hx hb d_Mo_vote_5 (by decide) (fun h5 => ?_) (fun h5 => ?_)
  · refine lv_iconst (v := 1) hx hb d_Mo_vote_12 (by decide) ?_
    refine rm_pt V hR hS (hF _ ⟨Nat.le_refl _, Nat.lt_add_of_pos_right (by decide)⟩) d_Mo_vote_13 (fun H locs hR hS => ?_)
    refine lv_aload_n hx hb d_Mo_vote_16 rfl (lv_at hl 0 rfl) ?_
    refine rm_gt V hR d_Mo_vote_17 ?_
    refine lv_tope (y := 1) (by simp [up2, upd]) ?_
    refine lv_if_le (tgt := 27) hx hb d_Mo_vote_20 (by decide) (fun h20 => ?_) (fun h20 => ?_)
    · exact absurd h20 (by decide)
    · refine lv_iconst (v := 0) hx hb d_Mo_vote_23 (by decide) ?_
      refine lv_goto (tgt := 46) hx hb d_Mo_vote_24 (by decide) ?_
      exact e_i V hr hlk hS (Nat.le_refl _) (Nat.le_refl _) d_Mo_vote_46 ⟨_, rfl, rfl, hR⟩
  · exact absurd (by decide) h5
set_option maxHeartbeats 4000000 in
set_option maxRecDepth 100000 in
theorem c_Mo_vote {l : Launch} {G : Gx} {s0 : State} (C : Cx G s0) {o : Nat} (ho : s0.heap.size ≤ o) (σ : Sg) (c : Nat) (hc : c < 3) (b : Int32) : Ct l s0 (FM o) 1 0 0 y_Mo_vote b_Mo_vote 3 (some .int) [.ref (o), .int (nI c), .int (b)] (RepM G o σ) (pI (fun r H => r = (voM σ c b).1 ∧ RepM G o (voM σ c b).2 H)) := by
  refine Ct.of C (by decide) (Nat.le_of_ble_eq_true rfl) ?_
  intro pg ev s mm below meth cd V hr hlk hn hR ls hl
  have hx := V.1
  have hb := V.2.1
  have hS : va_S (FM o) s.heap s.heap [] := va_S.rf
  have hF : ∀ q, FM o q → FM o q := fun _ h => h
  have hA : ∀ q, FM o q → s0.heap.size ≤ q := fun _ h => Nat.le_trans ho h.1
  have hl : lv_has ls 3 [(0, .ref (o)), (1, .int (nI c)), (2, .int (b))] := hl
  refine lv_aload_n hx hb d_Mo_vote_0 rfl (lv_at hl 0 rfl) ?_
  refine lv_iload_n hx hb d_Mo_vote_1 rfl (lv_at hl 1 rfl) ?_
  refine g_callS (As := [.int (nI c)]) (rest := [.ref (o)]) (A0 := FM o) V (c_Mo_isOne C ho σ (nI c)) v_Mo_95 hR hS hA (fun _ h => h) ⟨by decide, by decide⟩ rfl hl (Nat.le_of_ble_eq_true rfl) d_Mo_vote_2 ⟨Nat.le_refl _, Nat.le_refl _⟩ (kI (fun r2 H locs hQ _ hS => ?_))
  obtain ⟨rfl, hR⟩ := hQ
  refine lv_tope (y := 1) (by rw [one_nI hc]; rfl) ?_
  refine lv_if_eq (tgt := 12) hx hb d_Mo_vote_5 (by decide) (fun h5 => ?_) (fun h5 => ?_)
  · exact absurd h5 (by decide)
  · refine lv_iconst (v := 0) hx hb d_Mo_vote_8 (by decide) ?_
    refine lv_goto (tgt := 13) hx hb d_Mo_vote_9 (by decide) ?_
    refine rm_pt V hR hS (hF _ ⟨Nat.le_refl _, Nat.lt_add_of_pos_right (by decide)⟩) d_Mo_vote_13 (fun H locs hR hS => ?_)
    refine lv_aload_n hx hb d_Mo_vote_16 rfl (lv_at hl 0 rfl) ?_
    refine rm_gt V hR d_Mo_vote_17 ?_
    refine lv_tope (y := 0) (by simp [up2, upd]) ?_
    refine lv_if_le (tgt := 27) hx hb d_Mo_vote_20 (by decide) (fun h20 => ?_) (fun h20 => ?_)
    · refine lv_iload_n hx hb d_Mo_vote_27 rfl (lv_at hl 2 rfl) ?_
      refine lv_if_eq (tgt := 40) hx hb d_Mo_vote_28 (by decide) (fun h28 => ?_) (fun h28 => ?_)
      · refine lv_aload_n hx hb d_Mo_vote_40 rfl (lv_at hl 0 rfl) ?_
        refine rm_ga V hR 9 (by decide) (by decide) d_Mo_vote_41 ?_
        refine lv_iload_n hx hb d_Mo_vote_44 rfl (lv_at hl 1 rfl) ?_
        refine rm_ld V hR 9 ⟨by decide, by decide, rfl⟩ (n := 3) ⟨rfl, by decide⟩ (c) rfl (by omega) d_Mo_vote_45 ?_
        refine lv_tope (y := σ 9 c) (by simp [up2, upd]) ?_
        exact e_i V hr hlk hS (Nat.le_refl _) (Nat.le_refl _) d_Mo_vote_46 ⟨_, rfl, by rw [show voM σ c b = (σ 9 c, (up2 σ 0 0 (0))) from by simp [voM, thr, h28]]; exact ⟨rfl, hR⟩⟩
      · refine lv_aload_n hx hb d_Mo_vote_31 rfl (lv_at hl 0 rfl) ?_
        refine rm_ga V hR 10 (by decide) (by decide) d_Mo_vote_32 ?_
        refine lv_iload_n hx hb d_Mo_vote_35 rfl (lv_at hl 1 rfl) ?_
        refine rm_ld V hR 10 ⟨by decide, by decide, rfl⟩ (n := 3) ⟨rfl, by decide⟩ (c) rfl (by omega) d_Mo_vote_36 ?_
        refine lv_tope (y := σ 10 c) (by simp [up2, upd]) ?_
        refine lv_goto (tgt := 46) hx hb d_Mo_vote_37 (by decide) ?_
        exact e_i V hr hlk hS (Nat.le_refl _) (Nat.le_refl _) d_Mo_vote_46 ⟨_, rfl, by rw [show voM σ c b = (σ 10 c, (up2 σ 0 0 (0))) from by simp [voM, thr, h28]]; exact ⟨rfl, hR⟩⟩
    · exact absurd (by decide) h20
theorem d_Mo_entry_0 : decode b_Mo_entry 0 = .ok (.aload_n 0, 1) := by decide +kernel
theorem d_Mo_entry_1 : decode b_Mo_entry 1 = .ok (.iload_n 1, 1) := by decide +kernel
theorem d_Mo_entry_2 : decode b_Mo_entry 2 = .ok (.invokestatic 95, 3) := by decide +kernel
theorem d_Mo_entry_5 : decode b_Mo_entry 5 = .ok (.ifCond .eq 13, 3) := by decide +kernel
theorem d_Mo_entry_8 : decode b_Mo_entry 8 = .ok (.iload_n 2, 1) := by decide +kernel
theorem d_Mo_entry_9 : decode b_Mo_entry 9 = .ok (.ifCond .lt 9, 3) := by decide +kernel
theorem d_Mo_entry_12 : decode b_Mo_entry 12 = .ok (.iload_n 2, 1) := by decide +kernel
theorem d_Mo_entry_13 : decode b_Mo_entry 13 = .ok (.bipush 24, 2) := by decide +kernel
theorem d_Mo_entry_15 : decode b_Mo_entry 15 = .ok (.if_icmp .lt 7, 3) := by decide +kernel
theorem d_Mo_entry_18 : decode b_Mo_entry 18 = .ok (.iconst 1, 1) := by decide +kernel
theorem d_Mo_entry_19 : decode b_Mo_entry 19 = .ok (.goto 18, 3) := by decide +kernel
theorem d_Mo_entry_22 : decode b_Mo_entry 22 = .ok (.iload_n 2, 1) := by decide +kernel
theorem d_Mo_entry_23 : decode b_Mo_entry 23 = .ok (.aload_n 0, 1) := by decide +kernel
theorem d_Mo_entry_24 : decode b_Mo_entry 24 = .ok (.getfield 20, 3) := by decide +kernel
theorem d_Mo_entry_27 : decode b_Mo_entry 27 = .ok (.iload_n 1, 1) := by decide +kernel
theorem d_Mo_entry_28 : decode b_Mo_entry 28 = .ok (.iaload, 1) := by decide +kernel
theorem d_Mo_entry_29 : decode b_Mo_entry 29 = .ok (.if_icmp .lt 7, 3) := by decide +kernel
theorem d_Mo_entry_32 : decode b_Mo_entry 32 = .ok (.iconst 2, 1) := by decide +kernel
theorem d_Mo_entry_33 : decode b_Mo_entry 33 = .ok (.goto 4, 3) := by decide +kernel
theorem d_Mo_entry_36 : decode b_Mo_entry 36 = .ok (.iconst 0, 1) := by decide +kernel
theorem d_Mo_entry_37 : decode b_Mo_entry 37 = .ok (.putfield 83, 3) := by decide +kernel
theorem d_Mo_entry_40 : decode b_Mo_entry 40 = .ok (.aload_n 0, 1) := by decide +kernel
theorem d_Mo_entry_41 : decode b_Mo_entry 41 = .ok (.getfield 83, 3) := by decide +kernel
theorem d_Mo_entry_44 : decode b_Mo_entry 44 = .ok (.ifCond .le 7, 3) := by decide +kernel
theorem d_Mo_entry_47 : decode b_Mo_entry 47 = .ok (.iconst 0, 1) := by decide +kernel
theorem d_Mo_entry_48 : decode b_Mo_entry 48 = .ok (.goto 14, 3) := by decide +kernel
theorem d_Mo_entry_51 : decode b_Mo_entry 51 = .ok (.aload_n 0, 1) := by decide +kernel
theorem d_Mo_entry_52 : decode b_Mo_entry 52 = .ok (.getfield 17, 3) := by decide +kernel
theorem d_Mo_entry_55 : decode b_Mo_entry 55 = .ok (.bipush 24, 2) := by decide +kernel
theorem d_Mo_entry_57 : decode b_Mo_entry 57 = .ok (.iload_n 1, 1) := by decide +kernel
theorem d_Mo_entry_58 : decode b_Mo_entry 58 = .ok (.imul, 1) := by decide +kernel
theorem d_Mo_entry_59 : decode b_Mo_entry 59 = .ok (.iload_n 2, 1) := by decide +kernel
theorem d_Mo_entry_60 : decode b_Mo_entry 60 = .ok (.iadd, 1) := by decide +kernel
theorem d_Mo_entry_61 : decode b_Mo_entry 61 = .ok (.iaload, 1) := by decide +kernel
theorem d_Mo_entry_62 : decode b_Mo_entry 62 = .ok (.ireturn, 1) := by decide +kernel
set_option maxHeartbeats 4000000 in
set_option maxRecDepth 100000 in
theorem c_Mo_entry_bad {l : Launch} {G : Gx} {s0 : State} (C : Cx G s0) {o : Nat} (ho : s0.heap.size ≤ o) (σ : Sg) (x : Int32) (hx1 : one x = false) (y : Int32) : Ct l s0 (FM o) 1 0 0 y_Mo_entry b_Mo_entry 3 (some .int) [.ref (o), .int (x), .int (y)] (RepM G o σ) (pI (fun r H => r = 0 ∧ RepM G o (thr σ 1) H)) := by
  refine Ct.of C (by decide) (Nat.le_of_ble_eq_true rfl) ?_
  intro pg ev s mm below meth cd V hr hlk hn hR ls hl
  have hx := V.1
  have hb := V.2.1
  have hS : va_S (FM o) s.heap s.heap [] := va_S.rf
  have hF : ∀ q, FM o q → FM o q := fun _ h => h
  have hA : ∀ q, FM o q → s0.heap.size ≤ q := fun _ h => Nat.le_trans ho h.1
  have hl : lv_has ls 3 [(0, .ref (o)), (1, .int (x)), (2, .int (y))] := hl
  refine lv_aload_n hx hb d_Mo_entry_0 rfl (lv_at hl 0 rfl) ?_
  refine lv_iload_n hx hb d_Mo_entry_1 rfl (lv_at hl 1 rfl) ?_
  refine g_callS (As := [.int (x)]) (rest := [.ref (o)]) (A0 := FM o) V (c_Mo_isOne C ho σ (x)) v_Mo_95 hR hS hA (fun _ h => h) ⟨by decide, by decide⟩ rfl hl (Nat.le_of_ble_eq_true rfl) d_Mo_entry_2 ⟨Nat.le_refl _, Nat.le_refl _⟩ (kI (fun r2 H locs hQ _ hS => ?_))
  obtain ⟨rfl, hR⟩ := hQ
  refine lv_tope (y := 0) (by rw [hx1]; rfl) ?_
  refine lv_if_eq (tgt := 18) hx hb d_Mo_entry_5 (by decide) (fun h5 => ?_) (fun h5 => ?_)
  · refine lv_iconst (v := 1) hx hb d_Mo_entry_18 (by decide) ?_
    refine lv_goto (tgt := 37) hx hb d_Mo_entry_19 (by decide) ?_
    refine rm_pt V hR hS (hF _ ⟨Nat.le_refl _, Nat.lt_add_of_pos_right (by decide)⟩) d_Mo_entry_37 (fun H locs hR hS => ?_)
    refine lv_aload_n hx hb d_Mo_entry_40 rfl (lv_at hl 0 rfl) ?_
    refine rm_gt V hR d_Mo_entry_41 ?_
    refine lv_tope (y := 1) (by simp [up2, upd]) ?_
    refine lv_if_le (tgt := 51) hx hb d_Mo_entry_44 (by decide) (fun h44 => ?_) (fun h44 => ?_)
    · exact absurd h44 (by decide)
    · refine lv_iconst (v := 0) hx hb d_Mo_entry_47 (by decide) ?_
      refine lv_goto (tgt := 62) hx hb d_Mo_entry_48 (by decide) ?_
      exact e_i V hr hlk hS (Nat.le_refl _) (Nat.le_refl _) d_Mo_entry_62 ⟨_, rfl, rfl, hR⟩
  · exact absurd (by decide) h5
set_option maxHeartbeats 4000000 in
set_option maxRecDepth 100000 in
theorem c_Mo_entry {l : Launch} {G : Gx} {s0 : State} (C : Cx G s0) {o : Nat} (ho : s0.heap.size ≤ o) (σ : Sg) (c : Nat) (hc : c < 3) (x : Int32) : Ct l s0 (FM o) 1 0 0 y_Mo_entry b_Mo_entry 3 (some .int) [.ref (o), .int (nI c), .int (x)] (RepM G o σ) (pI (fun r H => r = (enM σ c x).1 ∧ RepM G o (enM σ c x).2 H)) := by
  refine Ct.of C (by decide) (Nat.le_of_ble_eq_true rfl) ?_
  intro pg ev s mm below meth cd V hr hlk hn hR ls hl
  have hx := V.1
  have hb := V.2.1
  have hS : va_S (FM o) s.heap s.heap [] := va_S.rf
  have hF : ∀ q, FM o q → FM o q := fun _ h => h
  have hA : ∀ q, FM o q → s0.heap.size ≤ q := fun _ h => Nat.le_trans ho h.1
  have hl : lv_has ls 3 [(0, .ref (o)), (1, .int (nI c)), (2, .int (x))] := hl
  refine lv_aload_n hx hb d_Mo_entry_0 rfl (lv_at hl 0 rfl) ?_
  refine lv_iload_n hx hb d_Mo_entry_1 rfl (lv_at hl 1 rfl) ?_
  refine g_callS (As := [.int (nI c)]) (rest := [.ref (o)]) (A0 := FM o) V (c_Mo_isOne C ho σ (nI c)) v_Mo_95 hR hS hA (fun _ h => h) ⟨by decide, by decide⟩ rfl hl (Nat.le_of_ble_eq_true rfl) d_Mo_entry_2 ⟨Nat.le_refl _, Nat.le_refl _⟩ (kI (fun r2 H locs hQ _ hS => ?_))
  obtain ⟨rfl, hR⟩ := hQ
  refine lv_tope (y := 1) (by rw [one_nI hc]; rfl) ?_
  refine lv_if_eq (tgt := 18) hx hb d_Mo_entry_5 (by decide) (fun h5 => ?_) (fun h5 => ?_)
  · exact absurd h5 (by decide)
  · refine lv_iload_n hx hb d_Mo_entry_8 rfl (lv_at hl 2 rfl) ?_
    refine lv_if_lt (tgt := 18) hx hb d_Mo_entry_9 (by decide) (fun h9 => ?_) (fun h9 => ?_)
    · refine lv_iconst (v := 1) hx hb d_Mo_entry_18 (by decide) ?_
      refine lv_goto (tgt := 37) hx hb d_Mo_entry_19 (by decide) ?_
      refine rm_pt V hR hS (hF _ ⟨Nat.le_refl _, Nat.lt_add_of_pos_right (by decide)⟩) d_Mo_entry_37 (fun H locs hR hS => ?_)
      refine lv_aload_n hx hb d_Mo_entry_40 rfl (lv_at hl 0 rfl) ?_
      refine rm_gt V hR d_Mo_entry_41 ?_
      refine lv_tope (y := 1) (by simp [up2, upd]) ?_
      refine lv_if_le (tgt := 51) hx hb d_Mo_entry_44 (by decide) (fun h44 => ?_) (fun h44 => ?_)
      · exact absurd h44 (by decide)
      · refine lv_iconst (v := 0) hx hb d_Mo_entry_47 (by decide) ?_
        refine lv_goto (tgt := 62) hx hb d_Mo_entry_48 (by decide) ?_
        exact e_i V hr hlk hS (Nat.le_refl _) (Nat.le_refl _) d_Mo_entry_62 ⟨_, rfl, by rw [show enM σ c x = (0, (up2 σ 0 0 (1))) from by simp [enM, thr, h9]]; exact ⟨rfl, hR⟩⟩
    · refine lv_iload_n hx hb d_Mo_entry_12 rfl (lv_at hl 2 rfl) ?_
      refine lv_bipush (v := 24) hx hb d_Mo_entry_13 (by decide) ?_
      refine lv_icmp_lt (tgt := 22) hx hb d_Mo_entry_15 (by decide) (fun h15 => ?_) (fun h15 => ?_)
      · refine lv_iload_n hx hb d_Mo_entry_22 rfl (lv_at hl 2 rfl) ?_
        refine lv_aload_n hx hb d_Mo_entry_23 rfl (lv_at hl 0 rfl) ?_
        refine rm_ga V hR 4 (by decide) (by decide) d_Mo_entry_24 ?_
        refine lv_iload_n hx hb d_Mo_entry_27 rfl (lv_at hl 1 rfl) ?_
        refine rm_ld V hR 4 ⟨by decide, by decide, rfl⟩ (n := 3) ⟨rfl, by decide⟩ (c) rfl (by omega) d_Mo_entry_28 ?_
        refine lv_icmp_lt (tgt := 36) hx hb d_Mo_entry_29 (by decide) (fun h29 => ?_) (fun h29 => ?_)
        · refine lv_iconst (v := 0) hx hb d_Mo_entry_36 (by decide) ?_
          refine rm_pt V hR hS (hF _ ⟨Nat.le_refl _, Nat.lt_add_of_pos_right (by decide)⟩) d_Mo_entry_37 (fun H locs hR hS => ?_)
          refine lv_aload_n hx hb d_Mo_entry_40 rfl (lv_at hl 0 rfl) ?_
          refine rm_gt V hR d_Mo_entry_41 ?_
          refine lv_tope (y := 0) (by simp [up2, upd]) ?_
          refine lv_if_le (tgt := 51) hx hb d_Mo_entry_44 (by decide) (fun h44 => ?_) (fun h44 => ?_)
          · obtain ⟨j, hj, rfl⟩ := ix_of (n := 24) rfl h9 h15 (by decide)
            refine lv_aload_n hx hb d_Mo_entry_51 rfl (lv_at hl 0 rfl) ?_
            refine rm_ga V hR 3 (by decide) (by decide) d_Mo_entry_52 ?_
            refine lv_bipush (v := 24) hx hb d_Mo_entry_55 (by decide) ?_
            refine lv_iload_n hx hb d_Mo_entry_57 rfl (lv_at hl 1 rfl) ?_
            refine lv_imul hx hb d_Mo_entry_58 ?_
            refine lv_tope (y := nI (24 * c)) (mu_e (a := 24) (b := c) (rfl : (24 : Int32) = nI 24) rfl) ?_
            refine lv_iload_n hx hb d_Mo_entry_59 rfl (lv_at hl 2 rfl) ?_
            refine lv_iadd hx hb d_Mo_entry_60 ?_
            refine lv_tope (y := nI (24 * c + j)) (ad_e (a := 24 * c) (b := j) rfl rfl) ?_
            refine rm_ld V hR 3 ⟨by decide, by decide, rfl⟩ (n := 72) ⟨rfl, by decide⟩ (24 * c + j) rfl (by omega) d_Mo_entry_61 ?_
            refine lv_tope (y := σ 3 (24 * c + j)) (by simp [up2, upd]) ?_
            exact e_i V hr hlk hS (Nat.le_refl _) (Nat.le_refl _) d_Mo_entry_62 ⟨_, rfl, by rw [show enM σ c (nI j) = (σ 3 (24 * c + j), (up2 σ 0 0 (0))) from by simp [enM, thr, tN_n (show j < 2 ^ 31 by omega), h9, h15, h29]]; exact ⟨rfl, hR⟩⟩
          · exact absurd (by decide) h44
        · refine lv_iconst (v := 2) hx hb d_Mo_entry_32 (by decide) ?_
          refine lv_goto (tgt := 37) hx hb d_Mo_entry_33 (by decide) ?_
          refine rm_pt V hR hS (hF _ ⟨Nat.le_refl _, Nat.lt_add_of_pos_right (by decide)⟩) d_Mo_entry_37 (fun H locs hR hS => ?_)
          refine lv_aload_n hx hb d_Mo_entry_40 rfl (lv_at hl 0 rfl) ?_
          refine rm_gt V hR d_Mo_entry_41 ?_
          refine lv_tope (y := 2) (by simp [up2, upd]) ?_
          refine lv_if_le (tgt := 51) hx hb d_Mo_entry_44 (by decide) (fun h44 => ?_) (fun h44 => ?_)
          · exact absurd h44 (by decide)
          · refine lv_iconst (v := 0) hx hb d_Mo_entry_47 (by decide) ?_
            refine lv_goto (tgt := 62) hx hb d_Mo_entry_48 (by decide) ?_
            exact e_i V hr hlk hS (Nat.le_refl _) (Nat.le_refl _) d_Mo_entry_62 ⟨_, rfl, by rw [show enM σ c x = (0, (up2 σ 0 0 (2))) from by simp [enM, thr, h9, h15, h29]]; exact ⟨rfl, hR⟩⟩
      · refine lv_iconst (v := 1) hx hb d_Mo_entry_18 (by decide) ?_
        refine lv_goto (tgt := 37) hx hb d_Mo_entry_19 (by decide) ?_
        refine rm_pt V hR hS (hF _ ⟨Nat.le_refl _, Nat.lt_add_of_pos_right (by decide)⟩) d_Mo_entry_37 (fun H locs hR hS => ?_)
        refine lv_aload_n hx hb d_Mo_entry_40 rfl (lv_at hl 0 rfl) ?_
        refine rm_gt V hR d_Mo_entry_41 ?_
        refine lv_tope (y := 1) (by simp [up2, upd]) ?_
        refine lv_if_le (tgt := 51) hx hb d_Mo_entry_44 (by decide) (fun h44 => ?_) (fun h44 => ?_)
        · exact absurd h44 (by decide)
        · refine lv_iconst (v := 0) hx hb d_Mo_entry_47 (by decide) ?_
          refine lv_goto (tgt := 62) hx hb d_Mo_entry_48 (by decide) ?_
          exact e_i V hr hlk hS (Nat.le_refl _) (Nat.le_refl _) d_Mo_entry_62 ⟨_, rfl, by rw [show enM σ c x = (0, (up2 σ 0 0 (1))) from by simp [enM, thr, h9, h15]]; exact ⟨rfl, hR⟩⟩
theorem d_Mo_outcome_0 : decode b_Mo_outcome 0 = .ok (.aload_n 0, 1) := by decide +kernel
theorem d_Mo_outcome_1 : decode b_Mo_outcome 1 = .ok (.iload_n 1, 1) := by decide +kernel
theorem d_Mo_outcome_2 : decode b_Mo_outcome 2 = .ok (.invokestatic 95, 3) := by decide +kernel
theorem d_Mo_outcome_5 : decode b_Mo_outcome 5 = .ok (.ifCond .ne 7, 3) := by decide +kernel
theorem d_Mo_outcome_8 : decode b_Mo_outcome 8 = .ok (.iconst 1, 1) := by decide +kernel
theorem d_Mo_outcome_9 : decode b_Mo_outcome 9 = .ok (.goto 22, 3) := by decide +kernel
theorem d_Mo_outcome_12 : decode b_Mo_outcome 12 = .ok (.iload_n 2, 1) := by decide +kernel
theorem d_Mo_outcome_13 : decode b_Mo_outcome 13 = .ok (.ifCond .lt 13, 3) := by decide +kernel
theorem d_Mo_outcome_16 : decode b_Mo_outcome 16 = .ok (.iload_n 2, 1) := by decide +kernel
theorem d_Mo_outcome_17 : decode b_Mo_outcome 17 = .ok (.aload_n 0, 1) := by decide +kernel
theorem d_Mo_outcome_18 : decode b_Mo_outcome 18 = .ok (.getfield 29, 3) := by decide +kernel
theorem d_Mo_outcome_21 : decode b_Mo_outcome 21 = .ok (.iload_n 1, 1) := by decide +kernel
theorem d_Mo_outcome_22 : decode b_Mo_outcome 22 = .ok (.iaload, 1) := by decide +kernel
theorem d_Mo_outcome_23 : decode b_Mo_outcome 23 = .ok (.if_icmp .lt 7, 3) := by decide +kernel
theorem d_Mo_outcome_26 : decode b_Mo_outcome 26 = .ok (.iconst 2, 1) := by decide +kernel
theorem d_Mo_outcome_27 : decode b_Mo_outcome 27 = .ok (.goto 4, 3) := by decide +kernel
theorem d_Mo_outcome_30 : decode b_Mo_outcome 30 = .ok (.iconst 0, 1) := by decide +kernel
theorem d_Mo_outcome_31 : decode b_Mo_outcome 31 = .ok (.putfield 83, 3) := by decide +kernel
theorem d_Mo_outcome_34 : decode b_Mo_outcome 34 = .ok (.aload_n 0, 1) := by decide +kernel
theorem d_Mo_outcome_35 : decode b_Mo_outcome 35 = .ok (.getfield 83, 3) := by decide +kernel
theorem d_Mo_outcome_38 : decode b_Mo_outcome 38 = .ok (.ifCond .le 7, 3) := by decide +kernel
theorem d_Mo_outcome_41 : decode b_Mo_outcome 41 = .ok (.iconst 0, 1) := by decide +kernel
theorem d_Mo_outcome_42 : decode b_Mo_outcome 42 = .ok (.goto 14, 3) := by decide +kernel
theorem d_Mo_outcome_45 : decode b_Mo_outcome 45 = .ok (.aload_n 0, 1) := by decide +kernel
theorem d_Mo_outcome_46 : decode b_Mo_outcome 46 = .ok (.getfield 26, 3) := by decide +kernel
theorem d_Mo_outcome_49 : decode b_Mo_outcome 49 = .ok (.bipush 60, 2) := by decide +kernel
theorem d_Mo_outcome_51 : decode b_Mo_outcome 51 = .ok (.iload_n 1, 1) := by decide +kernel
theorem d_Mo_outcome_52 : decode b_Mo_outcome 52 = .ok (.imul, 1) := by decide +kernel
theorem d_Mo_outcome_53 : decode b_Mo_outcome 53 = .ok (.iload_n 2, 1) := by decide +kernel
theorem d_Mo_outcome_54 : decode b_Mo_outcome 54 = .ok (.iadd, 1) := by decide +kernel
theorem d_Mo_outcome_55 : decode b_Mo_outcome 55 = .ok (.iaload, 1) := by decide +kernel
theorem d_Mo_outcome_56 : decode b_Mo_outcome 56 = .ok (.ireturn, 1) := by decide +kernel
set_option maxHeartbeats 4000000 in
set_option maxRecDepth 100000 in
theorem c_Mo_outcome_bad {l : Launch} {G : Gx} {s0 : State} (C : Cx G s0) {o : Nat} (ho : s0.heap.size ≤ o) (σ : Sg) (x : Int32) (hx1 : one x = false) (y : Int32) : Ct l s0 (FM o) 1 0 0 y_Mo_outcome b_Mo_outcome 3 (some .int) [.ref (o), .int (x), .int (y)] (RepM G o σ) (pI (fun r H => r = 0 ∧ RepM G o (thr σ 1) H)) := by
  refine Ct.of C (by decide) (Nat.le_of_ble_eq_true rfl) ?_
  intro pg ev s mm below meth cd V hr hlk hn hR ls hl
  have hx := V.1
  have hb := V.2.1
  have hS : va_S (FM o) s.heap s.heap [] := va_S.rf
  have hF : ∀ q, FM o q → FM o q := fun _ h => h
  have hA : ∀ q, FM o q → s0.heap.size ≤ q := fun _ h => Nat.le_trans ho h.1
  have hl : lv_has ls 3 [(0, .ref (o)), (1, .int (x)), (2, .int (y))] := hl
  refine lv_aload_n hx hb d_Mo_outcome_0 rfl (lv_at hl 0 rfl) ?_
  refine lv_iload_n hx hb d_Mo_outcome_1 rfl (lv_at hl 1 rfl) ?_
  refine g_callS (As := [.int (x)]) (rest := [.ref (o)]) (A0 := FM o) V (c_Mo_isOne C ho σ (x)) v_Mo_95 hR hS hA (fun _ h => h) ⟨by decide, by decide⟩ rfl hl (Nat.le_of_ble_eq_true rfl) d_Mo_outcome_2 ⟨Nat.le_refl _, Nat.le_refl _⟩ (kI (fun r2 H locs hQ _ hS => ?_))
  obtain ⟨rfl, hR⟩ := hQ
  refine lv_tope (y := 0) (by rw [hx1]; rfl) ?_
  refine lv_if_ne (tgt := 12) hx hb d_Mo_outcome_5 (by decide) (fun h5 => ?_) (fun h5 => ?_)
  · exact absurd (by decide) h5
  · refine lv_iconst (v := 1) hx hb d_Mo_outcome_8 (by decide) ?_
    refine lv_goto (tgt := 31) hx hb d_Mo_outcome_9 (by decide) ?_
    refine rm_pt V hR hS (hF _ ⟨Nat.le_refl _, Nat.lt_add_of_pos_right (by decide)⟩) d_Mo_outcome_31 (fun H locs hR hS => ?_)
    refine lv_aload_n hx hb d_Mo_outcome_34 rfl (lv_at hl 0 rfl) ?_
    refine rm_gt V hR d_Mo_outcome_35 ?_
    refine lv_tope (y := 1) (by simp [up2, upd]) ?_
    refine lv_if_le (tgt := 45) hx hb d_Mo_outcome_38 (by decide) (fun h38 => ?_) (fun h38 => ?_)
    · exact absurd h38 (by decide)
    · refine lv_iconst (v := 0) hx hb d_Mo_outcome_41 (by decide) ?_
      refine lv_goto (tgt := 56) hx hb d_Mo_outcome_42 (by decide) ?_
      exact e_i V hr hlk hS (Nat.le_refl _) (Nat.le_refl _) d_Mo_outcome_56 ⟨_, rfl, rfl, hR⟩
set_option maxHeartbeats 4000000 in
set_option maxRecDepth 100000 in
theorem c_Mo_outcome {l : Launch} {G : Gx} {s0 : State} (C : Cx G s0) {o : Nat} (ho : s0.heap.size ≤ o) (σ : Sg) (c : Nat) (hc : c < 3) (x : Int32) (w : Nat) (hw : σ 7 c = nI w) (hw6 : w ≤ 60) : Ct l s0 (FM o) 1 0 0 y_Mo_outcome b_Mo_outcome 3 (some .int) [.ref (o), .int (nI c), .int (x)] (RepM G o σ) (pI (fun r H => r = (ouM σ c x).1 ∧ RepM G o (ouM σ c x).2 H)) := by
  refine Ct.of C (by decide) (Nat.le_of_ble_eq_true rfl) ?_
  intro pg ev s mm below meth cd V hr hlk hn hR ls hl
  have hx := V.1
  have hb := V.2.1
  have hS : va_S (FM o) s.heap s.heap [] := va_S.rf
  have hF : ∀ q, FM o q → FM o q := fun _ h => h
  have hA : ∀ q, FM o q → s0.heap.size ≤ q := fun _ h => Nat.le_trans ho h.1
  have hl : lv_has ls 3 [(0, .ref (o)), (1, .int (nI c)), (2, .int (x))] := hl
  refine lv_aload_n hx hb d_Mo_outcome_0 rfl (lv_at hl 0 rfl) ?_
  refine lv_iload_n hx hb d_Mo_outcome_1 rfl (lv_at hl 1 rfl) ?_
  refine g_callS (As := [.int (nI c)]) (rest := [.ref (o)]) (A0 := FM o) V (c_Mo_isOne C ho σ (nI c)) v_Mo_95 hR hS hA (fun _ h => h) ⟨by decide, by decide⟩ rfl hl (Nat.le_of_ble_eq_true rfl) d_Mo_outcome_2 ⟨Nat.le_refl _, Nat.le_refl _⟩ (kI (fun r2 H locs hQ _ hS => ?_))
  obtain ⟨rfl, hR⟩ := hQ
  refine lv_tope (y := 1) (by rw [one_nI hc]; rfl) ?_
  refine lv_if_ne (tgt := 12) hx hb d_Mo_outcome_5 (by decide) (fun h5 => ?_) (fun h5 => ?_)
  · refine lv_iload_n hx hb d_Mo_outcome_12 rfl (lv_at hl 2 rfl) ?_
    refine lv_if_lt (tgt := 26) hx hb d_Mo_outcome_13 (by decide) (fun h13 => ?_) (fun h13 => ?_)
    · refine lv_iconst (v := 2) hx hb d_Mo_outcome_26 (by decide) ?_
      refine lv_goto (tgt := 31) hx hb d_Mo_outcome_27 (by decide) ?_
      refine rm_pt V hR hS (hF _ ⟨Nat.le_refl _, Nat.lt_add_of_pos_right (by decide)⟩) d_Mo_outcome_31 (fun H locs hR hS => ?_)
      refine lv_aload_n hx hb d_Mo_outcome_34 rfl (lv_at hl 0 rfl) ?_
      refine rm_gt V hR d_Mo_outcome_35 ?_
      refine lv_tope (y := 2) (by simp [up2, upd]) ?_
      refine lv_if_le (tgt := 45) hx hb d_Mo_outcome_38 (by decide) (fun h38 => ?_) (fun h38 => ?_)
      · exact absurd h38 (by decide)
      · refine lv_iconst (v := 0) hx hb d_Mo_outcome_41 (by decide) ?_
        refine lv_goto (tgt := 56) hx hb d_Mo_outcome_42 (by decide) ?_
        exact e_i V hr hlk hS (Nat.le_refl _) (Nat.le_refl _) d_Mo_outcome_56 ⟨_, rfl, by rw [show ouM σ c x = (0, (up2 σ 0 0 (2))) from by simp [ouM, thr, h13]]; exact ⟨rfl, hR⟩⟩
    · refine lv_iload_n hx hb d_Mo_outcome_16 rfl (lv_at hl 2 rfl) ?_
      refine lv_aload_n hx hb d_Mo_outcome_17 rfl (lv_at hl 0 rfl) ?_
      refine rm_ga V hR 7 (by decide) (by decide) d_Mo_outcome_18 ?_
      refine lv_iload_n hx hb d_Mo_outcome_21 rfl (lv_at hl 1 rfl) ?_
      refine rm_ld V hR 7 ⟨by decide, by decide, rfl⟩ (n := 3) ⟨rfl, by decide⟩ (c) rfl (by omega) d_Mo_outcome_22 ?_
      refine lv_icmp_lt (tgt := 30) hx hb d_Mo_outcome_23 (by decide) (fun h23 => ?_) (fun h23 => ?_)
      · refine lv_iconst (v := 0) hx hb d_Mo_outcome_30 (by decide) ?_
        refine rm_pt V hR hS (hF _ ⟨Nat.le_refl _, Nat.lt_add_of_pos_right (by decide)⟩) d_Mo_outcome_31 (fun H locs hR hS => ?_)
        refine lv_aload_n hx hb d_Mo_outcome_34 rfl (lv_at hl 0 rfl) ?_
        refine rm_gt V hR d_Mo_outcome_35 ?_
        refine lv_tope (y := 0) (by simp [up2, upd]) ?_
        refine lv_if_le (tgt := 45) hx hb d_Mo_outcome_38 (by decide) (fun h38 => ?_) (fun h38 => ?_)
        · obtain ⟨j, hj, rfl⟩ := ix_of hw h13 h23 (by omega)
          refine lv_aload_n hx hb d_Mo_outcome_45 rfl (lv_at hl 0 rfl) ?_
          refine rm_ga V hR 6 (by decide) (by decide) d_Mo_outcome_46 ?_
          refine lv_bipush (v := 60) hx hb d_Mo_outcome_49 (by decide) ?_
          refine lv_iload_n hx hb d_Mo_outcome_51 rfl (lv_at hl 1 rfl) ?_
          refine lv_imul hx hb d_Mo_outcome_52 ?_
          refine lv_tope (y := nI (60 * c)) (mu_e (a := 60) (b := c) (rfl : (60 : Int32) = nI 60) rfl) ?_
          refine lv_iload_n hx hb d_Mo_outcome_53 rfl (lv_at hl 2 rfl) ?_
          refine lv_iadd hx hb d_Mo_outcome_54 ?_
          refine lv_tope (y := nI (60 * c + j)) (ad_e (a := 60 * c) (b := j) rfl rfl) ?_
          refine rm_ld V hR 6 ⟨by decide, by decide, rfl⟩ (n := 180) ⟨rfl, by decide⟩ (60 * c + j) rfl (by omega) d_Mo_outcome_55 ?_
          refine lv_tope (y := σ 6 (60 * c + j)) (by simp [up2, upd]) ?_
          exact e_i V hr hlk hS (Nat.le_refl _) (Nat.le_refl _) d_Mo_outcome_56 ⟨_, rfl, by rw [show ouM σ c (nI j) = (σ 6 (60 * c + j), (up2 σ 0 0 (0))) from by simp [ouM, thr, tN_n (show j < 2 ^ 31 by omega), h13, h23]]; exact ⟨rfl, hR⟩⟩
        · exact absurd (by decide) h38
      · refine lv_iconst (v := 2) hx hb d_Mo_outcome_26 (by decide) ?_
        refine lv_goto (tgt := 31) hx hb d_Mo_outcome_27 (by decide) ?_
        refine rm_pt V hR hS (hF _ ⟨Nat.le_refl _, Nat.lt_add_of_pos_right (by decide)⟩) d_Mo_outcome_31 (fun H locs hR hS => ?_)
        refine lv_aload_n hx hb d_Mo_outcome_34 rfl (lv_at hl 0 rfl) ?_
        refine rm_gt V hR d_Mo_outcome_35 ?_
        refine lv_tope (y := 2) (by simp [up2, upd]) ?_
        refine lv_if_le (tgt := 45) hx hb d_Mo_outcome_38 (by decide) (fun h38 => ?_) (fun h38 => ?_)
        · exact absurd h38 (by decide)
        · refine lv_iconst (v := 0) hx hb d_Mo_outcome_41 (by decide) ?_
          refine lv_goto (tgt := 56) hx hb d_Mo_outcome_42 (by decide) ?_
          exact e_i V hr hlk hS (Nat.le_refl _) (Nat.le_refl _) d_Mo_outcome_56 ⟨_, rfl, by rw [show ouM σ c x = (0, (up2 σ 0 0 (2))) from by simp [ouM, thr, h13, h23]]; exact ⟨rfl, hR⟩⟩
  · exact absurd h5 (by decide)
theorem d_Mo_where_0 : decode b_Mo_where 0 = .ok (.aload_n 0, 1) := by decide +kernel
theorem d_Mo_where_1 : decode b_Mo_where 1 = .ok (.iload_n 1, 1) := by decide +kernel
theorem d_Mo_where_2 : decode b_Mo_where 2 = .ok (.invokestatic 95, 3) := by decide +kernel
theorem d_Mo_where_5 : decode b_Mo_where 5 = .ok (.ifCond .eq 17, 3) := by decide +kernel
theorem d_Mo_where_8 : decode b_Mo_where 8 = .ok (.iload_n 2, 1) := by decide +kernel
theorem d_Mo_where_9 : decode b_Mo_where 9 = .ok (.ifCond .lt 13, 3) := by decide +kernel
theorem d_Mo_where_12 : decode b_Mo_where 12 = .ok (.iload_n 2, 1) := by decide +kernel
theorem d_Mo_where_13 : decode b_Mo_where 13 = .ok (.bipush 8, 2) := by decide +kernel
theorem d_Mo_where_15 : decode b_Mo_where 15 = .ok (.if_icmp .ge 7, 3) := by decide +kernel
theorem d_Mo_where_18 : decode b_Mo_where 18 = .ok (.iconst 0, 1) := by decide +kernel
theorem d_Mo_where_19 : decode b_Mo_where 19 = .ok (.goto 4, 3) := by decide +kernel
theorem d_Mo_where_22 : decode b_Mo_where 22 = .ok (.iconst 1, 1) := by decide +kernel
theorem d_Mo_where_23 : decode b_Mo_where 23 = .ok (.putfield 83, 3) := by decide +kernel
theorem d_Mo_where_26 : decode b_Mo_where 26 = .ok (.aload_n 0, 1) := by decide +kernel
theorem d_Mo_where_27 : decode b_Mo_where 27 = .ok (.getfield 83, 3) := by decide +kernel
theorem d_Mo_where_30 : decode b_Mo_where 30 = .ok (.ifCond .le 7, 3) := by decide +kernel
theorem d_Mo_where_33 : decode b_Mo_where 33 = .ok (.iconst 0, 1) := by decide +kernel
theorem d_Mo_where_34 : decode b_Mo_where 34 = .ok (.goto 14, 3) := by decide +kernel
theorem d_Mo_where_37 : decode b_Mo_where 37 = .ok (.aload_n 0, 1) := by decide +kernel
theorem d_Mo_where_38 : decode b_Mo_where 38 = .ok (.getfield 71, 3) := by decide +kernel
theorem d_Mo_where_41 : decode b_Mo_where 41 = .ok (.bipush 8, 2) := by decide +kernel
theorem d_Mo_where_43 : decode b_Mo_where 43 = .ok (.iload_n 1, 1) := by decide +kernel
theorem d_Mo_where_44 : decode b_Mo_where 44 = .ok (.imul, 1) := by decide +kernel
theorem d_Mo_where_45 : decode b_Mo_where 45 = .ok (.iload_n 2, 1) := by decide +kernel
theorem d_Mo_where_46 : decode b_Mo_where 46 = .ok (.iadd, 1) := by decide +kernel
theorem d_Mo_where_47 : decode b_Mo_where 47 = .ok (.iaload, 1) := by decide +kernel
theorem d_Mo_where_48 : decode b_Mo_where 48 = .ok (.ireturn, 1) := by decide +kernel
set_option maxHeartbeats 4000000 in
set_option maxRecDepth 100000 in
theorem c_Mo_where_bad {l : Launch} {G : Gx} {s0 : State} (C : Cx G s0) {o : Nat} (ho : s0.heap.size ≤ o) (σ : Sg) (x : Int32) (hx1 : one x = false) (y : Int32) : Ct l s0 (FM o) 1 0 0 y_Mo_where b_Mo_where 3 (some .int) [.ref (o), .int (x), .int (y)] (RepM G o σ) (pI (fun r H => r = 0 ∧ RepM G o (thr σ 1) H)) := by
  refine Ct.of C (by decide) (Nat.le_of_ble_eq_true rfl) ?_
  intro pg ev s mm below meth cd V hr hlk hn hR ls hl
  have hx := V.1
  have hb := V.2.1
  have hS : va_S (FM o) s.heap s.heap [] := va_S.rf
  have hF : ∀ q, FM o q → FM o q := fun _ h => h
  have hA : ∀ q, FM o q → s0.heap.size ≤ q := fun _ h => Nat.le_trans ho h.1
  have hl : lv_has ls 3 [(0, .ref (o)), (1, .int (x)), (2, .int (y))] := hl
  refine lv_aload_n hx hb d_Mo_where_0 rfl (lv_at hl 0 rfl) ?_
  refine lv_iload_n hx hb d_Mo_where_1 rfl (lv_at hl 1 rfl) ?_
  refine g_callS (As := [.int (x)]) (rest := [.ref (o)]) (A0 := FM o) V (c_Mo_isOne C ho σ (x)) v_Mo_95 hR hS hA (fun _ h => h) ⟨by decide, by decide⟩ rfl hl (Nat.le_of_ble_eq_true rfl) d_Mo_where_2 ⟨Nat.le_refl _, Nat.le_refl _⟩ (kI (fun r2 H locs hQ _ hS => ?_))
  obtain ⟨rfl, hR⟩ := hQ
  refine lv_tope (y := 0) (by rw [hx1]; rfl) ?_
  refine lv_if_eq (tgt := 22) hx hb d_Mo_where_5 (by decide) (fun h5 => ?_) (fun h5 => ?_)
  · refine lv_iconst (v := 1) hx hb d_Mo_where_22 (by decide) ?_
    refine rm_pt V hR hS (hF _ ⟨Nat.le_refl _, Nat.lt_add_of_pos_right (by decide)⟩) d_Mo_where_23 (fun H locs hR hS => ?_)
    refine lv_aload_n hx hb d_Mo_where_26 rfl (lv_at hl 0 rfl) ?_
    refine rm_gt V hR d_Mo_where_27 ?_
    refine lv_tope (y := 1) (by simp [up2, upd]) ?_
    refine lv_if_le (tgt := 37) hx hb d_Mo_where_30 (by decide) (fun h30 => ?_) (fun h30 => ?_)
    · exact absurd h30 (by decide)
    · refine lv_iconst (v := 0) hx hb d_Mo_where_33 (by decide) ?_
      refine lv_goto (tgt := 48) hx hb d_Mo_where_34 (by decide) ?_
      exact e_i V hr hlk hS (Nat.le_refl _) (Nat.le_refl _) d_Mo_where_48 ⟨_, rfl, rfl, hR⟩
  · exact absurd (by decide) h5
set_option maxHeartbeats 4000000 in
set_option maxRecDepth 100000 in
theorem c_Mo_where {l : Launch} {G : Gx} {s0 : State} (C : Cx G s0) {o : Nat} (ho : s0.heap.size ≤ o) (σ : Sg) (c : Nat) (hc : c < 3) (x : Int32) : Ct l s0 (FM o) 1 0 0 y_Mo_where b_Mo_where 3 (some .int) [.ref (o), .int (nI c), .int (x)] (RepM G o σ) (pI (fun r H => r = (whM σ c x).1 ∧ RepM G o (whM σ c x).2 H)) := by
  refine Ct.of C (by decide) (Nat.le_of_ble_eq_true rfl) ?_
  intro pg ev s mm below meth cd V hr hlk hn hR ls hl
  have hx := V.1
  have hb := V.2.1
  have hS : va_S (FM o) s.heap s.heap [] := va_S.rf
  have hF : ∀ q, FM o q → FM o q := fun _ h => h
  have hA : ∀ q, FM o q → s0.heap.size ≤ q := fun _ h => Nat.le_trans ho h.1
  have hl : lv_has ls 3 [(0, .ref (o)), (1, .int (nI c)), (2, .int (x))] := hl
  refine lv_aload_n hx hb d_Mo_where_0 rfl (lv_at hl 0 rfl) ?_
  refine lv_iload_n hx hb d_Mo_where_1 rfl (lv_at hl 1 rfl) ?_
  refine g_callS (As := [.int (nI c)]) (rest := [.ref (o)]) (A0 := FM o) V (c_Mo_isOne C ho σ (nI c)) v_Mo_95 hR hS hA (fun _ h => h) ⟨by decide, by decide⟩ rfl hl (Nat.le_of_ble_eq_true rfl) d_Mo_where_2 ⟨Nat.le_refl _, Nat.le_refl _⟩ (kI (fun r2 H locs hQ _ hS => ?_))
  obtain ⟨rfl, hR⟩ := hQ
  refine lv_tope (y := 1) (by rw [one_nI hc]; rfl) ?_
  refine lv_if_eq (tgt := 22) hx hb d_Mo_where_5 (by decide) (fun h5 => ?_) (fun h5 => ?_)
  · exact absurd h5 (by decide)
  · refine lv_iload_n hx hb d_Mo_where_8 rfl (lv_at hl 2 rfl) ?_
    refine lv_if_lt (tgt := 22) hx hb d_Mo_where_9 (by decide) (fun h9 => ?_) (fun h9 => ?_)
    · refine lv_iconst (v := 1) hx hb d_Mo_where_22 (by decide) ?_
      refine rm_pt V hR hS (hF _ ⟨Nat.le_refl _, Nat.lt_add_of_pos_right (by decide)⟩) d_Mo_where_23 (fun H locs hR hS => ?_)
      refine lv_aload_n hx hb d_Mo_where_26 rfl (lv_at hl 0 rfl) ?_
      refine rm_gt V hR d_Mo_where_27 ?_
      refine lv_tope (y := 1) (by simp [up2, upd]) ?_
      refine lv_if_le (tgt := 37) hx hb d_Mo_where_30 (by decide) (fun h30 => ?_) (fun h30 => ?_)
      · exact absurd h30 (by decide)
      · refine lv_iconst (v := 0) hx hb d_Mo_where_33 (by decide) ?_
        refine lv_goto (tgt := 48) hx hb d_Mo_where_34 (by decide) ?_
        exact e_i V hr hlk hS (Nat.le_refl _) (Nat.le_refl _) d_Mo_where_48 ⟨_, rfl, by rw [show whM σ c x = (0, (up2 σ 0 0 (1))) from by simp [whM, thr, h9]]; exact ⟨rfl, hR⟩⟩
    · refine lv_iload_n hx hb d_Mo_where_12 rfl (lv_at hl 2 rfl) ?_
      refine lv_bipush (v := 8) hx hb d_Mo_where_13 (by decide) ?_
      refine lv_icmp_ge (tgt := 22) hx hb d_Mo_where_15 (by decide) (fun h15 => ?_) (fun h15 => ?_)
      · refine lv_iconst (v := 1) hx hb d_Mo_where_22 (by decide) ?_
        refine rm_pt V hR hS (hF _ ⟨Nat.le_refl _, Nat.lt_add_of_pos_right (by decide)⟩) d_Mo_where_23 (fun H locs hR hS => ?_)
        refine lv_aload_n hx hb d_Mo_where_26 rfl (lv_at hl 0 rfl) ?_
        refine rm_gt V hR d_Mo_where_27 ?_
        refine lv_tope (y := 1) (by simp [up2, upd]) ?_
        refine lv_if_le (tgt := 37) hx hb d_Mo_where_30 (by decide) (fun h30 => ?_) (fun h30 => ?_)
        · exact absurd h30 (by decide)
        · refine lv_iconst (v := 0) hx hb d_Mo_where_33 (by decide) ?_
          refine lv_goto (tgt := 48) hx hb d_Mo_where_34 (by decide) ?_
          exact e_i V hr hlk hS (Nat.le_refl _) (Nat.le_refl _) d_Mo_where_48 ⟨_, rfl, by rw [show whM σ c x = (0, (up2 σ 0 0 (1))) from by simp [whM, thr, h9, h15]]; exact ⟨rfl, hR⟩⟩
      · refine lv_iconst (v := 0) hx hb d_Mo_where_18 (by decide) ?_
        refine lv_goto (tgt := 23) hx hb d_Mo_where_19 (by decide) ?_
        refine rm_pt V hR hS (hF _ ⟨Nat.le_refl _, Nat.lt_add_of_pos_right (by decide)⟩) d_Mo_where_23 (fun H locs hR hS => ?_)
        refine lv_aload_n hx hb d_Mo_where_26 rfl (lv_at hl 0 rfl) ?_
        refine rm_gt V hR d_Mo_where_27 ?_
        refine lv_tope (y := 0) (by simp [up2, upd]) ?_
        refine lv_if_le (tgt := 37) hx hb d_Mo_where_30 (by decide) (fun h30 => ?_) (fun h30 => ?_)
        · obtain ⟨j, hj, rfl⟩ := ix_ge (n := 8) rfl h9 h15 (by decide)
          refine lv_aload_n hx hb d_Mo_where_37 rfl (lv_at hl 0 rfl) ?_
          refine rm_ga V hR 21 (by decide) (by decide) d_Mo_where_38 ?_
          refine lv_bipush (v := 8) hx hb d_Mo_where_41 (by decide) ?_
          refine lv_iload_n hx hb d_Mo_where_43 rfl (lv_at hl 1 rfl) ?_
          refine lv_imul hx hb d_Mo_where_44 ?_
          refine lv_tope (y := nI (8 * c)) (mu_e (a := 8) (b := c) (rfl : (8 : Int32) = nI 8) rfl) ?_
          refine lv_iload_n hx hb d_Mo_where_45 rfl (lv_at hl 2 rfl) ?_
          refine lv_iadd hx hb d_Mo_where_46 ?_
          refine lv_tope (y := nI (8 * c + j)) (ad_e (a := 8 * c) (b := j) rfl rfl) ?_
          refine rm_ld V hR 21 ⟨by decide, by decide, rfl⟩ (n := 24) ⟨rfl, by decide⟩ (8 * c + j) rfl (by omega) d_Mo_where_47 ?_
          refine lv_tope (y := σ 21 (8 * c + j)) (by simp [up2, upd]) ?_
          exact e_i V hr hlk hS (Nat.le_refl _) (Nat.le_refl _) d_Mo_where_48 ⟨_, rfl, by rw [show whM σ c (nI j) = (σ 21 (8 * c + j), (up2 σ 0 0 (0))) from by simp [whM, thr, tN_n (show j < 2 ^ 31 by omega), h9, h15]]; exact ⟨rfl, hR⟩⟩
        · exact absurd (by decide) h30
theorem d_Mo_holds_0 : decode b_Mo_holds 0 = .ok (.aload_n 0, 1) := by decide +kernel
theorem d_Mo_holds_1 : decode b_Mo_holds 1 = .ok (.iload_n 1, 1) := by decide +kernel
theorem d_Mo_holds_2 : decode b_Mo_holds 2 = .ok (.invokestatic 95, 3) := by decide +kernel
theorem d_Mo_holds_5 : decode b_Mo_holds 5 = .ok (.ifCond .eq 14, 3) := by decide +kernel
theorem d_Mo_holds_8 : decode b_Mo_holds 8 = .ok (.iload_n 2, 1) := by decide +kernel
theorem d_Mo_holds_9 : decode b_Mo_holds 9 = .ok (.invokestatic 95, 3) := by decide +kernel
theorem d_Mo_holds_12 : decode b_Mo_holds 12 = .ok (.ifCond .eq 7, 3) := by decide +kernel
theorem d_Mo_holds_15 : decode b_Mo_holds 15 = .ok (.iconst 0, 1) := by decide +kernel
theorem d_Mo_holds_16 : decode b_Mo_holds 16 = .ok (.goto 4, 3) := by decide +kernel
theorem d_Mo_holds_19 : decode b_Mo_holds 19 = .ok (.iconst 1, 1) := by decide +kernel
theorem d_Mo_holds_20 : decode b_Mo_holds 20 = .ok (.putfield 83, 3) := by decide +kernel
theorem d_Mo_holds_23 : decode b_Mo_holds 23 = .ok (.aload_n 0, 1) := by decide +kernel
theorem d_Mo_holds_24 : decode b_Mo_holds 24 = .ok (.getfield 83, 3) := by decide +kernel
theorem d_Mo_holds_27 : decode b_Mo_holds 27 = .ok (.ifCond .le 7, 3) := by decide +kernel
theorem d_Mo_holds_30 : decode b_Mo_holds 30 = .ok (.iconst 0, 1) := by decide +kernel
theorem d_Mo_holds_31 : decode b_Mo_holds 31 = .ok (.goto 13, 3) := by decide +kernel
theorem d_Mo_holds_34 : decode b_Mo_holds 34 = .ok (.aload_n 0, 1) := by decide +kernel
theorem d_Mo_holds_35 : decode b_Mo_holds 35 = .ok (.getfield 74, 3) := by decide +kernel
theorem d_Mo_holds_38 : decode b_Mo_holds 38 = .ok (.iconst 3, 1) := by decide +kernel
theorem d_Mo_holds_39 : decode b_Mo_holds 39 = .ok (.iload_n 1, 1) := by decide +kernel
theorem d_Mo_holds_40 : decode b_Mo_holds 40 = .ok (.imul, 1) := by decide +kernel
theorem d_Mo_holds_41 : decode b_Mo_holds 41 = .ok (.iload_n 2, 1) := by decide +kernel
theorem d_Mo_holds_42 : decode b_Mo_holds 42 = .ok (.iadd, 1) := by decide +kernel
theorem d_Mo_holds_43 : decode b_Mo_holds 43 = .ok (.iaload, 1) := by decide +kernel
theorem d_Mo_holds_44 : decode b_Mo_holds 44 = .ok (.ireturn, 1) := by decide +kernel
set_option maxHeartbeats 4000000 in
set_option maxRecDepth 100000 in
theorem c_Mo_holds_bad {l : Launch} {G : Gx} {s0 : State} (C : Cx G s0) {o : Nat} (ho : s0.heap.size ≤ o) (σ : Sg) (x : Int32) (hx1 : one x = false) (y : Int32) : Ct l s0 (FM o) 1 0 0 y_Mo_holds b_Mo_holds 3 (some .int) [.ref (o), .int (x), .int (y)] (RepM G o σ) (pI (fun r H => r = 0 ∧ RepM G o (thr σ 1) H)) := by
  refine Ct.of C (by decide) (Nat.le_of_ble_eq_true rfl) ?_
  intro pg ev s mm below meth cd V hr hlk hn hR ls hl
  have hx := V.1
  have hb := V.2.1
  have hS : va_S (FM o) s.heap s.heap [] := va_S.rf
  have hF : ∀ q, FM o q → FM o q := fun _ h => h
  have hA : ∀ q, FM o q → s0.heap.size ≤ q := fun _ h => Nat.le_trans ho h.1
  have hl : lv_has ls 3 [(0, .ref (o)), (1, .int (x)), (2, .int (y))] := hl
  refine lv_aload_n hx hb d_Mo_holds_0 rfl (lv_at hl 0 rfl) ?_
  refine lv_iload_n hx hb d_Mo_holds_1 rfl (lv_at hl 1 rfl) ?_
  refine g_callS (As := [.int (x)]) (rest := [.ref (o)]) (A0 := FM o) V (c_Mo_isOne C ho σ (x)) v_Mo_95 hR hS hA (fun _ h => h) ⟨by decide, by decide⟩ rfl hl (Nat.le_of_ble_eq_true rfl) d_Mo_holds_2 ⟨Nat.le_refl _, Nat.le_refl _⟩ (kI (fun r2 H locs hQ _ hS => ?_))
  obtain ⟨rfl, hR⟩ := hQ
  refine lv_tope (y := 0) (by rw [hx1]; rfl) ?_
  refine lv_if_eq (tgt := 19) hx hb d_Mo_holds_5 (by decide) (fun h5 => ?_) (fun h5 => ?_)
  · refine lv_iconst (v := 1) hx hb d_Mo_holds_19 (by decide) ?_
    refine rm_pt V hR hS (hF _ ⟨Nat.le_refl _, Nat.lt_add_of_pos_right (by decide)⟩) d_Mo_holds_20 (fun H locs hR hS => ?_)
    refine lv_aload_n hx hb d_Mo_holds_23 rfl (lv_at hl 0 rfl) ?_
    refine rm_gt V hR d_Mo_holds_24 ?_
    refine lv_tope (y := 1) (by simp [up2, upd]) ?_
    refine lv_if_le (tgt := 34) hx hb d_Mo_holds_27 (by decide) (fun h27 => ?_) (fun h27 => ?_)
    · exact absurd h27 (by decide)
    · refine lv_iconst (v := 0) hx hb d_Mo_holds_30 (by decide) ?_
      refine lv_goto (tgt := 44) hx hb d_Mo_holds_31 (by decide) ?_
      exact e_i V hr hlk hS (Nat.le_refl _) (Nat.le_refl _) d_Mo_holds_44 ⟨_, rfl, rfl, hR⟩
  · exact absurd (by decide) h5
set_option maxHeartbeats 4000000 in
set_option maxRecDepth 100000 in
theorem c_Mo_holds_bad2 {l : Launch} {G : Gx} {s0 : State} (C : Cx G s0) {o : Nat} (ho : s0.heap.size ≤ o) (σ : Sg) (c : Nat) (hc : c < 3) (y : Int32) (hy1 : one y = false) : Ct l s0 (FM o) 1 0 0 y_Mo_holds b_Mo_holds 3 (some .int) [.ref (o), .int (nI c), .int (y)] (RepM G o σ) (pI (fun r H => r = 0 ∧ RepM G o (thr σ 1) H)) := by
  refine Ct.of C (by decide) (Nat.le_of_ble_eq_true rfl) ?_
  intro pg ev s mm below meth cd V hr hlk hn hR ls hl
  have hx := V.1
  have hb := V.2.1
  have hS : va_S (FM o) s.heap s.heap [] := va_S.rf
  have hF : ∀ q, FM o q → FM o q := fun _ h => h
  have hA : ∀ q, FM o q → s0.heap.size ≤ q := fun _ h => Nat.le_trans ho h.1
  have hl : lv_has ls 3 [(0, .ref (o)), (1, .int (nI c)), (2, .int (y))] := hl
  refine lv_aload_n hx hb d_Mo_holds_0 rfl (lv_at hl 0 rfl) ?_
  refine lv_iload_n hx hb d_Mo_holds_1 rfl (lv_at hl 1 rfl) ?_
  refine g_callS (As := [.int (nI c)]) (rest := [.ref (o)]) (A0 := FM o) V (c_Mo_isOne C ho σ (nI c)) v_Mo_95 hR hS hA (fun _ h => h) ⟨by decide, by decide⟩ rfl hl (Nat.le_of_ble_eq_true rfl) d_Mo_holds_2 ⟨Nat.le_refl _, Nat.le_refl _⟩ (kI (fun r2 H locs hQ _ hS => ?_))
  obtain ⟨rfl, hR⟩ := hQ
  refine lv_tope (y := 1) (by rw [one_nI hc]; rfl) ?_
  refine lv_if_eq (tgt := 19) hx hb d_Mo_holds_5 (by decide) (fun h5 => ?_) (fun h5 => ?_)
  · exact absurd h5 (by decide)
  · refine lv_iload_n hx hb d_Mo_holds_8 rfl (lv_at hl 2 rfl) ?_
    refine g_callS (As := [.int (y)]) (rest := [.ref (o)]) (A0 := FM o) V (c_Mo_isOne C ho σ (y)) v_Mo_95 hR hS hA (fun _ h => h) ⟨by decide, by decide⟩ rfl hl (Nat.le_of_ble_eq_true rfl) d_Mo_holds_9 ⟨Nat.le_refl _, Nat.le_refl _⟩ (kI (fun r9 H locs hQ _ hS => ?_))
    obtain ⟨rfl, hR⟩ := hQ
    refine lv_tope (y := 0) (by rw [hy1]; rfl) ?_
    refine lv_if_eq (tgt := 19) hx hb d_Mo_holds_12 (by decide) (fun h12 => ?_) (fun h12 => ?_)
    · refine lv_iconst (v := 1) hx hb d_Mo_holds_19 (by decide) ?_
      refine rm_pt V hR hS (hF _ ⟨Nat.le_refl _, Nat.lt_add_of_pos_right (by decide)⟩) d_Mo_holds_20 (fun H locs hR hS => ?_)
      refine lv_aload_n hx hb d_Mo_holds_23 rfl (lv_at hl 0 rfl) ?_
      refine rm_gt V hR d_Mo_holds_24 ?_
      refine lv_tope (y := 1) (by simp [up2, upd]) ?_
      refine lv_if_le (tgt := 34) hx hb d_Mo_holds_27 (by decide) (fun h27 => ?_) (fun h27 => ?_)
      · exact absurd h27 (by decide)
      · refine lv_iconst (v := 0) hx hb d_Mo_holds_30 (by decide) ?_
        refine lv_goto (tgt := 44) hx hb d_Mo_holds_31 (by decide) ?_
        exact e_i V hr hlk hS (Nat.le_refl _) (Nat.le_refl _) d_Mo_holds_44 ⟨_, rfl, rfl, hR⟩
    · exact absurd (by decide) h12
set_option maxHeartbeats 4000000 in
set_option maxRecDepth 100000 in
theorem c_Mo_holds {l : Launch} {G : Gx} {s0 : State} (C : Cx G s0) {o : Nat} (ho : s0.heap.size ≤ o) (σ : Sg) (c : Nat) (hc : c < 3) (d : Nat) (hd : d < 3) : Ct l s0 (FM o) 1 0 0 y_Mo_holds b_Mo_holds 3 (some .int) [.ref (o), .int (nI c), .int (nI d)] (RepM G o σ) (pI (fun r H => r = σ 22 (3 * c + d) ∧ RepM G o (thr σ 0) H)) := by
  refine Ct.of C (by decide) (Nat.le_of_ble_eq_true rfl) ?_
  intro pg ev s mm below meth cd V hr hlk hn hR ls hl
  have hx := V.1
  have hb := V.2.1
  have hS : va_S (FM o) s.heap s.heap [] := va_S.rf
  have hF : ∀ q, FM o q → FM o q := fun _ h => h
  have hA : ∀ q, FM o q → s0.heap.size ≤ q := fun _ h => Nat.le_trans ho h.1
  have hl : lv_has ls 3 [(0, .ref (o)), (1, .int (nI c)), (2, .int (nI d))] := hl
  refine lv_aload_n hx hb d_Mo_holds_0 rfl (lv_at hl 0 rfl) ?_
  refine lv_iload_n hx hb d_Mo_holds_1 rfl (lv_at hl 1 rfl) ?_
  refine g_callS (As := [.int (nI c)]) (rest := [.ref (o)]) (A0 := FM o) V (c_Mo_isOne C ho σ (nI c)) v_Mo_95 hR hS hA (fun _ h => h) ⟨by decide, by decide⟩ rfl hl (Nat.le_of_ble_eq_true rfl) d_Mo_holds_2 ⟨Nat.le_refl _, Nat.le_refl _⟩ (kI (fun r2 H locs hQ _ hS => ?_))
  obtain ⟨rfl, hR⟩ := hQ
  refine lv_tope (y := 1) (by rw [one_nI hc]; rfl) ?_
  refine lv_if_eq (tgt := 19) hx hb d_Mo_holds_5 (by decide) (fun h5 => ?_) (fun h5 => ?_)
  · exact absurd h5 (by decide)
  · refine lv_iload_n hx hb d_Mo_holds_8 rfl (lv_at hl 2 rfl) ?_
    refine g_callS (As := [.int (nI d)]) (rest := [.ref (o)]) (A0 := FM o) V (c_Mo_isOne C ho σ (nI d)) v_Mo_95 hR hS hA (fun _ h => h) ⟨by decide, by decide⟩ rfl hl (Nat.le_of_ble_eq_true rfl) d_Mo_holds_9 ⟨Nat.le_refl _, Nat.le_refl _⟩ (kI (fun r9 H locs hQ _ hS => ?_))
    obtain ⟨rfl, hR⟩ := hQ
    refine lv_tope (y := 1) (by rw [one_nI hd]; rfl) ?_
    refine lv_if_eq (tgt := 19) hx hb d_Mo_holds_12 (by decide) (fun h12 => ?_) (fun h12 => ?_)
    · exact absurd h12 (by decide)
    · refine lv_iconst (v := 0) hx hb d_Mo_holds_15 (by decide) ?_
      refine lv_goto (tgt := 20) hx hb d_Mo_holds_16 (by decide) ?_
      refine rm_pt V hR hS (hF _ ⟨Nat.le_refl _, Nat.lt_add_of_pos_right (by decide)⟩) d_Mo_holds_20 (fun H locs hR hS => ?_)
      refine lv_aload_n hx hb d_Mo_holds_23 rfl (lv_at hl 0 rfl) ?_
      refine rm_gt V hR d_Mo_holds_24 ?_
      refine lv_tope (y := 0) (by simp [up2, upd]) ?_
      refine lv_if_le (tgt := 34) hx hb d_Mo_holds_27 (by decide) (fun h27 => ?_) (fun h27 => ?_)
      · refine lv_aload_n hx hb d_Mo_holds_34 rfl (lv_at hl 0 rfl) ?_
        refine rm_ga V hR 22 (by decide) (by decide) d_Mo_holds_35 ?_
        refine lv_iconst (v := 3) hx hb d_Mo_holds_38 (by decide) ?_
        refine lv_iload_n hx hb d_Mo_holds_39 rfl (lv_at hl 1 rfl) ?_
        refine lv_imul hx hb d_Mo_holds_40 ?_
        refine lv_tope (y := nI (3 * c)) (mu_e (a := 3) (b := c) (rfl : (3 : Int32) = nI 3) rfl) ?_
        refine lv_iload_n hx hb d_Mo_holds_41 rfl (lv_at hl 2 rfl) ?_
        refine lv_iadd hx hb d_Mo_holds_42 ?_
        refine lv_tope (y := nI (3 * c + d)) (ad_e (a := 3 * c) (b := d) rfl rfl) ?_
        refine rm_ld V hR 22 ⟨by decide, by decide, rfl⟩ (n := 9) ⟨rfl, by decide⟩ (3 * c + d) rfl (by omega) d_Mo_holds_43 ?_
        refine lv_tope (y := σ 22 (3 * c + d)) (by simp [up2, upd]) ?_
        exact e_i V hr hlk hS (Nat.le_refl _) (Nat.le_refl _) d_Mo_holds_44 ⟨_, rfl, rfl, hR⟩
      · exact absurd (by decide) h27
theorem d_Mo_reserved_0 : decode b_Mo_reserved 0 = .ok (.aload_n 0, 1) := by decide +kernel
theorem d_Mo_reserved_1 : decode b_Mo_reserved 1 = .ok (.iload_n 1, 1) := by decide +kernel
theorem d_Mo_reserved_2 : decode b_Mo_reserved 2 = .ok (.invokestatic 95, 3) := by decide +kernel
theorem d_Mo_reserved_5 : decode b_Mo_reserved 5 = .ok (.ifCond .eq 14, 3) := by decide +kernel
theorem d_Mo_reserved_8 : decode b_Mo_reserved 8 = .ok (.iload_n 2, 1) := by decide +kernel
theorem d_Mo_reserved_9 : decode b_Mo_reserved 9 = .ok (.invokestatic 95, 3) := by decide +kernel
theorem d_Mo_reserved_12 : decode b_Mo_reserved 12 = .ok (.ifCond .eq 7, 3) := by decide +kernel
theorem d_Mo_reserved_15 : decode b_Mo_reserved 15 = .ok (.iconst 0, 1) := by decide +kernel
theorem d_Mo_reserved_16 : decode b_Mo_reserved 16 = .ok (.goto 4, 3) := by decide +kernel
theorem d_Mo_reserved_19 : decode b_Mo_reserved 19 = .ok (.iconst 1, 1) := by decide +kernel
theorem d_Mo_reserved_20 : decode b_Mo_reserved 20 = .ok (.putfield 83, 3) := by decide +kernel
theorem d_Mo_reserved_23 : decode b_Mo_reserved 23 = .ok (.aload_n 0, 1) := by decide +kernel
theorem d_Mo_reserved_24 : decode b_Mo_reserved 24 = .ok (.getfield 83, 3) := by decide +kernel
theorem d_Mo_reserved_27 : decode b_Mo_reserved 27 = .ok (.ifCond .le 7, 3) := by decide +kernel
theorem d_Mo_reserved_30 : decode b_Mo_reserved 30 = .ok (.iconst 0, 1) := by decide +kernel
theorem d_Mo_reserved_31 : decode b_Mo_reserved 31 = .ok (.goto 33, 3) := by decide +kernel
theorem d_Mo_reserved_34 : decode b_Mo_reserved 34 = .ok (.aload_n 0, 1) := by decide +kernel
theorem d_Mo_reserved_35 : decode b_Mo_reserved 35 = .ok (.getfield 80, 3) := by decide +kernel
theorem d_Mo_reserved_38 : decode b_Mo_reserved 38 = .ok (.iconst 3, 1) := by decide +kernel
theorem d_Mo_reserved_39 : decode b_Mo_reserved 39 = .ok (.iload_n 1, 1) := by decide +kernel
theorem d_Mo_reserved_40 : decode b_Mo_reserved 40 = .ok (.imul, 1) := by decide +kernel
theorem d_Mo_reserved_41 : decode b_Mo_reserved 41 = .ok (.iload_n 2, 1) := by decide +kernel
theorem d_Mo_reserved_42 : decode b_Mo_reserved 42 = .ok (.iadd, 1) := by decide +kernel
theorem d_Mo_reserved_43 : decode b_Mo_reserved 43 = .ok (.iaload, 1) := by decide +kernel
theorem d_Mo_reserved_44 : decode b_Mo_reserved 44 = .ok (.aload_n 0, 1) := by decide +kernel
theorem d_Mo_reserved_45 : decode b_Mo_reserved 45 = .ok (.getfield 77, 3) := by decide +kernel
theorem d_Mo_reserved_48 : decode b_Mo_reserved 48 = .ok (.iconst 3, 1) := by decide +kernel
theorem d_Mo_reserved_49 : decode b_Mo_reserved 49 = .ok (.iload_n 1, 1) := by decide +kernel
theorem d_Mo_reserved_50 : decode b_Mo_reserved 50 = .ok (.imul, 1) := by decide +kernel
theorem d_Mo_reserved_51 : decode b_Mo_reserved 51 = .ok (.iload_n 2, 1) := by decide +kernel
theorem d_Mo_reserved_52 : decode b_Mo_reserved 52 = .ok (.iadd, 1) := by decide +kernel
theorem d_Mo_reserved_53 : decode b_Mo_reserved 53 = .ok (.baload, 1) := by decide +kernel
theorem d_Mo_reserved_54 : decode b_Mo_reserved 54 = .ok (.ifCond .eq 8, 3) := by decide +kernel
theorem d_Mo_reserved_57 : decode b_Mo_reserved 57 = .ok (.bipush 10, 2) := by decide +kernel
theorem d_Mo_reserved_59 : decode b_Mo_reserved 59 = .ok (.goto 4, 3) := by decide +kernel
theorem d_Mo_reserved_62 : decode b_Mo_reserved 62 = .ok (.iconst 0, 1) := by decide +kernel
theorem d_Mo_reserved_63 : decode b_Mo_reserved 63 = .ok (.iadd, 1) := by decide +kernel
theorem d_Mo_reserved_64 : decode b_Mo_reserved 64 = .ok (.ireturn, 1) := by decide +kernel
set_option maxHeartbeats 4000000 in
set_option maxRecDepth 100000 in
theorem c_Mo_reserved_bad {l : Launch} {G : Gx} {s0 : State} (C : Cx G s0) {o : Nat} (ho : s0.heap.size ≤ o) (σ : Sg) (x : Int32) (hx1 : one x = false) (y : Int32) : Ct l s0 (FM o) 1 0 0 y_Mo_reserved b_Mo_reserved 3 (some .int) [.ref (o), .int (x), .int (y)] (RepM G o σ) (pI (fun r H => r = 0 ∧ RepM G o (thr σ 1) H)) := by
  refine Ct.of C (by decide) (Nat.le_of_ble_eq_true rfl) ?_
  intro pg ev s mm below meth cd V hr hlk hn hR ls hl
  have hx := V.1
  have hb := V.2.1
  have hS : va_S (FM o) s.heap s.heap [] := va_S.rf
  have hF : ∀ q, FM o q → FM o q := fun _ h => h
  have hA : ∀ q, FM o q → s0.heap.size ≤ q := fun _ h => Nat.le_trans ho h.1
  have hl : lv_has ls 3 [(0, .ref (o)), (1, .int (x)), (2, .int (y))] := hl
  refine lv_aload_n hx hb d_Mo_reserved_0 rfl (lv_at hl 0 rfl) ?_
  refine lv_iload_n hx hb d_Mo_reserved_1 rfl (lv_at hl 1 rfl) ?_
  refine g_callS (As := [.int (x)]) (rest := [.ref (o)]) (A0 := FM o) V (c_Mo_isOne C ho σ (x)) v_Mo_95 hR hS hA (fun _ h => h) ⟨by decide, by decide⟩ rfl hl (Nat.le_of_ble_eq_true rfl) d_Mo_reserved_2 ⟨Nat.le_refl _, Nat.le_refl _⟩ (kI (fun r2 H locs hQ _ hS => ?_))
  obtain ⟨rfl, hR⟩ := hQ
  refine lv_tope (y := 0) (by rw [hx1]; rfl) ?_
  refine lv_if_eq (tgt := 19) hx hb d_Mo_reserved_5 (by decide) (fun h5 => ?_) (fun h5 => ?_)
  · refine lv_iconst (v := 1) hx hb d_Mo_reserved_19 (by decide) ?_
    refine rm_pt V hR hS (hF _ ⟨Nat.le_refl _, Nat.lt_add_of_pos_right (by decide)⟩) d_Mo_reserved_20 (fun H locs hR hS => ?_)
    refine lv_aload_n hx hb d_Mo_reserved_23 rfl (lv_at hl 0 rfl) ?_
    refine rm_gt V hR d_Mo_reserved_24 ?_
    refine lv_tope (y := 1) (by simp [up2, upd]) ?_
    refine lv_if_le (tgt := 34) hx hb d_Mo_reserved_27 (by decide) (fun h27 => ?_) (fun h27 => ?_)
    · exact absurd h27 (by decide)
    · refine lv_iconst (v := 0) hx hb d_Mo_reserved_30 (by decide) ?_
      refine lv_goto (tgt := 64) hx hb d_Mo_reserved_31 (by decide) ?_
      exact e_i V hr hlk hS (Nat.le_refl _) (Nat.le_refl _) d_Mo_reserved_64 ⟨_, rfl, rfl, hR⟩
  · exact absurd (by decide) h5
set_option maxHeartbeats 4000000 in
set_option maxRecDepth 100000 in
theorem c_Mo_reserved_bad2 {l : Launch} {G : Gx} {s0 : State} (C : Cx G s0) {o : Nat} (ho : s0.heap.size ≤ o) (σ : Sg) (c : Nat) (hc : c < 3) (y : Int32) (hy1 : one y = false) : Ct l s0 (FM o) 1 0 0 y_Mo_reserved b_Mo_reserved 3 (some .int) [.ref (o), .int (nI c), .int (y)] (RepM G o σ) (pI (fun r H => r = 0 ∧ RepM G o (thr σ 1) H)) := by
  refine Ct.of C (by decide) (Nat.le_of_ble_eq_true rfl) ?_
  intro pg ev s mm below meth cd V hr hlk hn hR ls hl
  have hx := V.1
  have hb := V.2.1
  have hS : va_S (FM o) s.heap s.heap [] := va_S.rf
  have hF : ∀ q, FM o q → FM o q := fun _ h => h
  have hA : ∀ q, FM o q → s0.heap.size ≤ q := fun _ h => Nat.le_trans ho h.1
  have hl : lv_has ls 3 [(0, .ref (o)), (1, .int (nI c)), (2, .int (y))] := hl
  refine lv_aload_n hx hb d_Mo_reserved_0 rfl (lv_at hl 0 rfl) ?_
  refine lv_iload_n hx hb d_Mo_reserved_1 rfl (lv_at hl 1 rfl) ?_
  refine g_callS (As := [.int (nI c)]) (rest := [.ref (o)]) (A0 := FM o) V (c_Mo_isOne C ho σ (nI c)) v_Mo_95 hR hS hA (fun _ h => h) ⟨by decide, by decide⟩ rfl hl (Nat.le_of_ble_eq_true rfl) d_Mo_reserved_2 ⟨Nat.le_refl _, Nat.le_refl _⟩ (kI (fun r2 H locs hQ _ hS => ?_))
  obtain ⟨rfl, hR⟩ := hQ
  refine lv_tope (y := 1) (by rw [one_nI hc]; rfl) ?_
  refine lv_if_eq (tgt := 19) hx hb d_Mo_reserved_5 (by decide) (fun h5 => ?_) (fun h5 => ?_)
  · exact absurd h5 (by decide)
  · refine lv_iload_n hx hb d_Mo_reserved_8 rfl (lv_at hl 2 rfl) ?_
    refine g_callS (As := [.int (y)]) (rest := [.ref (o)]) (A0 := FM o) V (c_Mo_isOne C ho σ (y)) v_Mo_95 hR hS hA (fun _ h => h) ⟨by decide, by decide⟩ rfl hl (Nat.le_of_ble_eq_true rfl) d_Mo_reserved_9 ⟨Nat.le_refl _, Nat.le_refl _⟩ (kI (fun r9 H locs hQ _ hS => ?_))
    obtain ⟨rfl, hR⟩ := hQ
    refine lv_tope (y := 0) (by rw [hy1]; rfl) ?_
    refine lv_if_eq (tgt := 19) hx hb d_Mo_reserved_12 (by decide) (fun h12 => ?_) (fun h12 => ?_)
    · refine lv_iconst (v := 1) hx hb d_Mo_reserved_19 (by decide) ?_
      refine rm_pt V hR hS (hF _ ⟨Nat.le_refl _, Nat.lt_add_of_pos_right (by decide)⟩) d_Mo_reserved_20 (fun H locs hR hS => ?_)
      refine lv_aload_n hx hb d_Mo_reserved_23 rfl (lv_at hl 0 rfl) ?_
      refine rm_gt V hR d_Mo_reserved_24 ?_
      refine lv_tope (y := 1) (by simp [up2, upd]) ?_
      refine lv_if_le (tgt := 34) hx hb d_Mo_reserved_27 (by decide) (fun h27 => ?_) (fun h27 => ?_)
      · exact absurd h27 (by decide)
      · refine lv_iconst (v := 0) hx hb d_Mo_reserved_30 (by decide) ?_
        refine lv_goto (tgt := 64) hx hb d_Mo_reserved_31 (by decide) ?_
        exact e_i V hr hlk hS (Nat.le_refl _) (Nat.le_refl _) d_Mo_reserved_64 ⟨_, rfl, rfl, hR⟩
    · exact absurd (by decide) h12
set_option maxHeartbeats 4000000 in
set_option maxRecDepth 100000 in
theorem c_Mo_reserved {l : Launch} {G : Gx} {s0 : State} (C : Cx G s0) {o : Nat} (ho : s0.heap.size ≤ o) (σ : Sg) (c : Nat) (hc : c < 3) (d : Nat) (hd : d < 3) : Ct l s0 (FM o) 1 0 0 y_Mo_reserved b_Mo_reserved 3 (some .int) [.ref (o), .int (nI c), .int (nI d)] (RepM G o σ) (pI (fun r H => r = (reM σ c d).1 ∧ RepM G o (reM σ c d).2 H)) := by
  refine Ct.of C (by decide) (Nat.le_of_ble_eq_true rfl) ?_
  intro pg ev s mm below meth cd V hr hlk hn hR ls hl
  have hx := V.1
  have hb := V.2.1
  have hS : va_S (FM o) s.heap s.heap [] := va_S.rf
  have hF : ∀ q, FM o q → FM o q := fun _ h => h
  have hA : ∀ q, FM o q → s0.heap.size ≤ q := fun _ h => Nat.le_trans ho h.1
  have hl : lv_has ls 3 [(0, .ref (o)), (1, .int (nI c)), (2, .int (nI d))] := hl
  refine lv_aload_n hx hb d_Mo_reserved_0 rfl (lv_at hl 0 rfl) ?_
  refine lv_iload_n hx hb d_Mo_reserved_1 rfl (lv_at hl 1 rfl) ?_
  refine g_callS (As := [.int (nI c)]) (rest := [.ref (o)]) (A0 := FM o) V (c_Mo_isOne C ho σ (nI c)) v_Mo_95 hR hS hA (fun _ h => h) ⟨by decide, by decide⟩ rfl hl (Nat.le_of_ble_eq_true rfl) d_Mo_reserved_2 ⟨Nat.le_refl _, Nat.le_refl _⟩ (kI (fun r2 H locs hQ _ hS => ?_))
  obtain ⟨rfl, hR⟩ := hQ
  refine lv_tope (y := 1) (by rw [one_nI hc]; rfl) ?_
  refine lv_if_eq (tgt := 19) hx hb d_Mo_reserved_5 (by decide) (fun h5 => ?_) (fun h5 => ?_)
  · exact absurd h5 (by decide)
  · refine lv_iload_n hx hb d_Mo_reserved_8 rfl (lv_at hl 2 rfl) ?_
    refine g_callS (As := [.int (nI d)]) (rest := [.ref (o)]) (A0 := FM o) V (c_Mo_isOne C ho σ (nI d)) v_Mo_95 hR hS hA (fun _ h => h) ⟨by decide, by decide⟩ rfl hl (Nat.le_of_ble_eq_true rfl) d_Mo_reserved_9 ⟨Nat.le_refl _, Nat.le_refl _⟩ (kI (fun r9 H locs hQ _ hS => ?_))
    obtain ⟨rfl, hR⟩ := hQ
    refine lv_tope (y := 1) (by rw [one_nI hd]; rfl) ?_
    refine lv_if_eq (tgt := 19) hx hb d_Mo_reserved_12 (by decide) (fun h12 => ?_) (fun h12 => ?_)
    · exact absurd h12 (by decide)
    · refine lv_iconst (v := 0) hx hb d_Mo_reserved_15 (by decide) ?_
      refine lv_goto (tgt := 20) hx hb d_Mo_reserved_16 (by decide) ?_
      refine rm_pt V hR hS (hF _ ⟨Nat.le_refl _, Nat.lt_add_of_pos_right (by decide)⟩) d_Mo_reserved_20 (fun H locs hR hS => ?_)
      refine lv_aload_n hx hb d_Mo_reserved_23 rfl (lv_at hl 0 rfl) ?_
      refine rm_gt V hR d_Mo_reserved_24 ?_
      refine lv_tope (y := 0) (by simp [up2, upd]) ?_
      refine lv_if_le (tgt := 34) hx hb d_Mo_reserved_27 (by decide) (fun h27 => ?_) (fun h27 => ?_)
      · refine lv_aload_n hx hb d_Mo_reserved_34 rfl (lv_at hl 0 rfl) ?_
        refine rm_ga V hR 24 (by decide) (by decide) d_Mo_reserved_35 ?_
        refine lv_iconst (v := 3) hx hb d_Mo_reserved_38 (by decide) ?_
        refine lv_iload_n hx hb d_Mo_reserved_39 rfl (lv_at hl 1 rfl) ?_
        refine lv_imul hx hb d_Mo_reserved_40 ?_
        refine lv_tope (y := nI (3 * c)) (mu_e (a := 3) (b := c) (rfl : (3 : Int32) = nI 3) rfl) ?_
        refine lv_iload_n hx hb d_Mo_reserved_41 rfl (lv_at hl 2 rfl) ?_
        refine lv_iadd hx hb d_Mo_reserved_42 ?_
        refine lv_tope (y := nI (3 * c + d)) (ad_e (a := 3 * c) (b := d) rfl rfl) ?_
        refine rm_ld V hR 24 ⟨by decide, by decide, rfl⟩ (n := 9) ⟨rfl, by decide⟩ (3 * c + d) rfl (by omega) d_Mo_reserved_43 ?_
        refine lv_tope (y := σ 24 (3 * c + d)) (by simp [up2, upd]) ?_
        refine lv_aload_n hx hb d_Mo_reserved_44 rfl (lv_at hl 0 rfl) ?_
        refine rm_ga V hR 23 (by decide) (by decide) d_Mo_reserved_45 ?_
        refine lv_iconst (v := 3) hx hb d_Mo_reserved_48 (by decide) ?_
        refine lv_iload_n hx hb d_Mo_reserved_49 rfl (lv_at hl 1 rfl) ?_
        refine lv_imul hx hb d_Mo_reserved_50 ?_
        refine lv_tope (y := nI (3 * c)) (mu_e (a := 3) (b := c) (rfl : (3 : Int32) = nI 3) rfl) ?_
        refine lv_iload_n hx hb d_Mo_reserved_51 rfl (lv_at hl 2 rfl) ?_
        refine lv_iadd hx hb d_Mo_reserved_52 ?_
        refine lv_tope (y := nI (3 * c + d)) (ad_e (a := 3 * c) (b := d) rfl rfl) ?_
        refine rm_lz V hR 23 ⟨by decide, by decide, rfl⟩ (n := 9) ⟨rfl, by decide⟩ (3 * c + d) rfl (by omega) d_Mo_reserved_53 ?_
        refine lv_tope (y := σ 23 (3 * c + d)) (by simp [up2, upd]) ?_
        refine lv_if_eq (tgt := 62) hx hb d_Mo_reserved_54 (by decide) (fun h54 => ?_) (fun h54 => ?_)
        · refine lv_iconst (v := 0) hx hb d_Mo_reserved_62 (by decide) ?_
          refine lv_iadd hx hb d_Mo_reserved_63 ?_
          exact e_i V hr hlk hS (Nat.le_refl _) (Nat.le_refl _) d_Mo_reserved_64 ⟨_, rfl, by rw [show reM σ c d = ((σ 24 (3 * c + d) : Int32) + (0 : Int32), (up2 σ 0 0 (0))) from by simp [reM, thr, h54]]; exact ⟨rfl, hR⟩⟩
        · refine lv_bipush (v := 10) hx hb d_Mo_reserved_57 (by decide) ?_
          refine lv_goto (tgt := 63) hx hb d_Mo_reserved_59 (by decide) ?_
          refine lv_iadd hx hb d_Mo_reserved_63 ?_
          exact e_i V hr hlk hS (Nat.le_refl _) (Nat.le_refl _) d_Mo_reserved_64 ⟨_, rfl, by rw [show reM σ c d = ((σ 24 (3 * c + d) : Int32) + (10 : Int32), (up2 σ 0 0 (0))) from by simp [reM, thr, h54]]; exact ⟨rfl, hR⟩⟩
      · exact absurd (by decide) h27
theorem d_Mo_word_0 : decode b_Mo_word 0 = .ok (.aload_n 0, 1) := by decide +kernel
theorem d_Mo_word_1 : decode b_Mo_word 1 = .ok (.iload_n 1, 1) := by decide +kernel
theorem d_Mo_word_2 : decode b_Mo_word 2 = .ok (.invokestatic 95, 3) := by decide +kernel
theorem d_Mo_word_5 : decode b_Mo_word 5 = .ok (.ifCond .eq 20, 3) := by decide +kernel
theorem d_Mo_word_8 : decode b_Mo_word 8 = .ok (.iload_n 2, 1) := by decide +kernel
theorem d_Mo_word_9 : decode b_Mo_word 9 = .ok (.invokestatic 95, 3) := by decide +kernel
theorem d_Mo_word_12 : decode b_Mo_word 12 = .ok (.ifCond .eq 13, 3) := by decide +kernel
theorem d_Mo_word_15 : decode b_Mo_word 15 = .ok (.iload_n 3, 1) := by decide +kernel
theorem d_Mo_word_16 : decode b_Mo_word 16 = .ok (.ifCond .lt 9, 3) := by decide +kernel
theorem d_Mo_word_19 : decode b_Mo_word 19 = .ok (.iload_n 3, 1) := by decide +kernel
theorem d_Mo_word_20 : decode b_Mo_word 20 = .ok (.bipush 24, 2) := by decide +kernel
theorem d_Mo_word_22 : decode b_Mo_word 22 = .ok (.if_icmp .lt 7, 3) := by decide +kernel
theorem d_Mo_word_25 : decode b_Mo_word 25 = .ok (.iconst 1, 1) := by decide +kernel
theorem d_Mo_word_26 : decode b_Mo_word 26 = .ok (.goto 20, 3) := by decide +kernel
theorem d_Mo_word_29 : decode b_Mo_word 29 = .ok (.iload 4, 2) := by decide +kernel
theorem d_Mo_word_31 : decode b_Mo_word 31 = .ok (.ifCond .lt 10, 3) := by decide +kernel
theorem d_Mo_word_34 : decode b_Mo_word 34 = .ok (.iload 4, 2) := by decide +kernel
theorem d_Mo_word_36 : decode b_Mo_word 36 = .ok (.bipush 9, 2) := by decide +kernel
theorem d_Mo_word_38 : decode b_Mo_word 38 = .ok (.if_icmp .le 7, 3) := by decide +kernel
theorem d_Mo_word_41 : decode b_Mo_word 41 = .ok (.iconst 2, 1) := by decide +kernel
theorem d_Mo_word_42 : decode b_Mo_word 42 = .ok (.goto 4, 3) := by decide +kernel
theorem d_Mo_word_45 : decode b_Mo_word 45 = .ok (.iconst 0, 1) := by decide +kernel
theorem d_Mo_word_46 : decode b_Mo_word 46 = .ok (.putfield 83, 3) := by decide +kernel
theorem d_Mo_word_49 : decode b_Mo_word 49 = .ok (.aload_n 0, 1) := by decide +kernel
theorem d_Mo_word_50 : decode b_Mo_word 50 = .ok (.getfield 83, 3) := by decide +kernel
theorem d_Mo_word_53 : decode b_Mo_word 53 = .ok (.ifCond .le 7, 3) := by decide +kernel
theorem d_Mo_word_56 : decode b_Mo_word 56 = .ok (.iconst 0, 1) := by decide +kernel
theorem d_Mo_word_57 : decode b_Mo_word 57 = .ok (.goto 17, 3) := by decide +kernel
theorem d_Mo_word_60 : decode b_Mo_word 60 = .ok (.aload_n 0, 1) := by decide +kernel
theorem d_Mo_word_61 : decode b_Mo_word 61 = .ok (.getfield 7, 3) := by decide +kernel
theorem d_Mo_word_64 : decode b_Mo_word 64 = .ok (.iload_n 1, 1) := by decide +kernel
theorem d_Mo_word_65 : decode b_Mo_word 65 = .ok (.iload_n 2, 1) := by decide +kernel
theorem d_Mo_word_66 : decode b_Mo_word 66 = .ok (.iload_n 3, 1) := by decide +kernel
theorem d_Mo_word_67 : decode b_Mo_word 67 = .ok (.invokestatic 105, 3) := by decide +kernel
theorem d_Mo_word_70 : decode b_Mo_word 70 = .ok (.iload 4, 2) := by decide +kernel
theorem d_Mo_word_72 : decode b_Mo_word 72 = .ok (.iadd, 1) := by decide +kernel
theorem d_Mo_word_73 : decode b_Mo_word 73 = .ok (.iaload, 1) := by decide +kernel
theorem d_Mo_word_74 : decode b_Mo_word 74 = .ok (.ireturn, 1) := by decide +kernel
set_option maxHeartbeats 4000000 in
set_option maxRecDepth 100000 in
theorem c_Mo_word_bad {l : Launch} {G : Gx} {s0 : State} (C : Cx G s0) {o : Nat} (ho : s0.heap.size ≤ o) (σ : Sg) (x : Int32) (hx1 : one x = false) (y z t : Int32) : Ct l s0 (FM o) 1 0 0 y_Mo_word b_Mo_word 5 (some .int) [.ref (o), .int (x), .int (y), .int (z), .int (t)] (RepM G o σ) (pI (fun r H => r = 0 ∧ RepM G o (thr σ 1) H)) := by
  refine Ct.of C (by decide) (Nat.le_of_ble_eq_true rfl) ?_
  intro pg ev s mm below meth cd V hr hlk hn hR ls hl
  have hx := V.1
  have hb := V.2.1
  have hS : va_S (FM o) s.heap s.heap [] := va_S.rf
  have hF : ∀ q, FM o q → FM o q := fun _ h => h
  have hA : ∀ q, FM o q → s0.heap.size ≤ q := fun _ h => Nat.le_trans ho h.1
  have hl : lv_has ls 5 [(0, .ref (o)), (1, .int (x)), (2, .int (y)), (3, .int (z)), (4, .int (t))] := hl
  refine lv_aload_n hx hb d_Mo_word_0 rfl (lv_at hl 0 rfl) ?_
  refine lv_iload_n hx hb d_Mo_word_1 rfl (lv_at hl 1 rfl) ?_
  refine g_callS (As := [.int (x)]) (rest := [.ref (o)]) (A0 := FM o) V (c_Mo_isOne C ho σ (x)) v_Mo_95 hR hS hA (fun _ h => h) ⟨by decide, by decide⟩ rfl hl (Nat.le_of_ble_eq_true rfl) d_Mo_word_2 ⟨Nat.le_refl _, Nat.le_refl _⟩ (kI (fun r2 H locs hQ _ hS => ?_))
  obtain ⟨rfl, hR⟩ := hQ
  refine lv_tope (y := 0) (by rw [hx1]; rfl) ?_
  refine lv_if_eq (tgt := 25) hx hb d_Mo_word_5 (by decide) (fun h5 => ?_) (fun h5 => ?_)
  · refine lv_iconst (v := 1) hx hb d_Mo_word_25 (by decide) ?_
    refine lv_goto (tgt := 46) hx hb d_Mo_word_26 (by decide) ?_
    refine rm_pt V hR hS (hF _ ⟨Nat.le_refl _, Nat.lt_add_of_pos_right (by decide)⟩) d_Mo_word_46 (fun H locs hR hS => ?_)
    refine lv_aload_n hx hb d_Mo_word_49 rfl (lv_at hl 0 rfl) ?_
    refine rm_gt V hR d_Mo_word_50 ?_
    refine lv_tope (y := 1) (by simp [up2, upd]) ?_
    refine lv_if_le (tgt := 60) hx hb d_Mo_word_53 (by decide) (fun h53 => ?_) (fun h53 => ?_)
    · exact absurd h53 (by decide)
    · refine lv_iconst (v := 0) hx hb d_Mo_word_56 (by decide) ?_
      refine lv_goto (tgt := 74) hx hb d_Mo_word_57 (by decide) ?_
      exact e_i V hr hlk hS (Nat.le_refl _) (Nat.le_refl _) d_Mo_word_74 ⟨_, rfl, rfl, hR⟩
  · exact absurd (by decide) h5
set_option maxHeartbeats 4000000 in
set_option maxRecDepth 100000 in
theorem c_Mo_word_bad2 {l : Launch} {G : Gx} {s0 : State} (C : Cx G s0) {o : Nat} (ho : s0.heap.size ≤ o) (σ : Sg) (a : Nat) (ha : a < 3) (x : Int32) (hx1 : one x = false) (z t : Int32) : Ct l s0 (FM o) 1 0 0 y_Mo_word b_Mo_word 5 (some .int) [.ref (o), .int (nI a), .int (x), .int (z), .int (t)] (RepM G o σ) (pI (fun r H => r = 0 ∧ RepM G o (thr σ 1) H)) := by
  refine Ct.of C (by decide) (Nat.le_of_ble_eq_true rfl) ?_
  intro pg ev s mm below meth cd V hr hlk hn hR ls hl
  have hx := V.1
  have hb := V.2.1
  have hS : va_S (FM o) s.heap s.heap [] := va_S.rf
  have hF : ∀ q, FM o q → FM o q := fun _ h => h
  have hA : ∀ q, FM o q → s0.heap.size ≤ q := fun _ h => Nat.le_trans ho h.1
  have hl : lv_has ls 5 [(0, .ref (o)), (1, .int (nI a)), (2, .int (x)), (3, .int (z)), (4, .int (t))] := hl
  refine lv_aload_n hx hb d_Mo_word_0 rfl (lv_at hl 0 rfl) ?_
  refine lv_iload_n hx hb d_Mo_word_1 rfl (lv_at hl 1 rfl) ?_
  refine g_callS (As := [.int (nI a)]) (rest := [.ref (o)]) (A0 := FM o) V (c_Mo_isOne C ho σ (nI a)) v_Mo_95 hR hS hA (fun _ h => h) ⟨by decide, by decide⟩ rfl hl (Nat.le_of_ble_eq_true rfl) d_Mo_word_2 ⟨Nat.le_refl _, Nat.le_refl _⟩ (kI (fun r2 H locs hQ _ hS => ?_))
  obtain ⟨rfl, hR⟩ := hQ
  refine lv_tope (y := 1) (by rw [one_nI ha]; rfl) ?_
  refine lv_if_eq (tgt := 25) hx hb d_Mo_word_5 (by decide) (fun h5 => ?_) (fun h5 => ?_)
  · exact absurd h5 (by decide)
  · refine lv_iload_n hx hb d_Mo_word_8 rfl (lv_at hl 2 rfl) ?_
    refine g_callS (As := [.int (x)]) (rest := [.ref (o)]) (A0 := FM o) V (c_Mo_isOne C ho σ (x)) v_Mo_95 hR hS hA (fun _ h => h) ⟨by decide, by decide⟩ rfl hl (Nat.le_of_ble_eq_true rfl) d_Mo_word_9 ⟨Nat.le_refl _, Nat.le_refl _⟩ (kI (fun r9 H locs hQ _ hS => ?_))
    obtain ⟨rfl, hR⟩ := hQ
    refine lv_tope (y := 0) (by rw [hx1]; rfl) ?_
    refine lv_if_eq (tgt := 25) hx hb d_Mo_word_12 (by decide) (fun h12 => ?_) (fun h12 => ?_)
    · refine lv_iconst (v := 1) hx hb d_Mo_word_25 (by decide) ?_
      refine lv_goto (tgt := 46) hx hb d_Mo_word_26 (by decide) ?_
      refine rm_pt V hR hS (hF _ ⟨Nat.le_refl _, Nat.lt_add_of_pos_right (by decide)⟩) d_Mo_word_46 (fun H locs hR hS => ?_)
      refine lv_aload_n hx hb d_Mo_word_49 rfl (lv_at hl 0 rfl) ?_
      refine rm_gt V hR d_Mo_word_50 ?_
      refine lv_tope (y := 1) (by simp [up2, upd]) ?_
      refine lv_if_le (tgt := 60) hx hb d_Mo_word_53 (by decide) (fun h53 => ?_) (fun h53 => ?_)
      · exact absurd h53 (by decide)
      · refine lv_iconst (v := 0) hx hb d_Mo_word_56 (by decide) ?_
        refine lv_goto (tgt := 74) hx hb d_Mo_word_57 (by decide) ?_
        exact e_i V hr hlk hS (Nat.le_refl _) (Nat.le_refl _) d_Mo_word_74 ⟨_, rfl, rfl, hR⟩
    · exact absurd (by decide) h12
set_option maxHeartbeats 4000000 in
set_option maxRecDepth 100000 in
theorem c_Mo_word {l : Launch} {G : Gx} {s0 : State} (C : Cx G s0) {o : Nat} (ho : s0.heap.size ≤ o) (σ : Sg) (a : Nat) (ha : a < 3) (c : Nat) (hc : c < 3) (x y : Int32) : Ct l s0 (FM o) 1 0 0 y_Mo_word b_Mo_word 5 (some .int) [.ref (o), .int (nI a), .int (nI c), .int (x), .int (y)] (RepM G o σ) (pI (fun r H => r = (woM σ a c x y).1 ∧ RepM G o (woM σ a c x y).2 H)) := by
  refine Ct.of C (by decide) (Nat.le_of_ble_eq_true rfl) ?_
  intro pg ev s mm below meth cd V hr hlk hn hR ls hl
  have hx := V.1
  have hb := V.2.1
  have hS : va_S (FM o) s.heap s.heap [] := va_S.rf
  have hF : ∀ q, FM o q → FM o q := fun _ h => h
  have hA : ∀ q, FM o q → s0.heap.size ≤ q := fun _ h => Nat.le_trans ho h.1
  have hl : lv_has ls 5 [(0, .ref (o)), (1, .int (nI a)), (2, .int (nI c)), (3, .int (x)), (4, .int (y))] := hl
  refine lv_aload_n hx hb d_Mo_word_0 rfl (lv_at hl 0 rfl) ?_
  refine lv_iload_n hx hb d_Mo_word_1 rfl (lv_at hl 1 rfl) ?_
  refine g_callS (As := [.int (nI a)]) (rest := [.ref (o)]) (A0 := FM o) V (c_Mo_isOne C ho σ (nI a)) v_Mo_95 hR hS hA (fun _ h => h) ⟨by decide, by decide⟩ rfl hl (Nat.le_of_ble_eq_true rfl) d_Mo_word_2 ⟨Nat.le_refl _, Nat.le_refl _⟩ (kI (fun r2 H locs hQ _ hS => ?_))
  obtain ⟨rfl, hR⟩ := hQ
  refine lv_tope (y := 1) (by rw [one_nI ha]; rfl) ?_
  refine lv_if_eq (tgt := 25) hx hb d_Mo_word_5 (by decide) (fun h5 => ?_) (fun h5 => ?_)
  · exact absurd h5 (by decide)
  · refine lv_iload_n hx hb d_Mo_word_8 rfl (lv_at hl 2 rfl) ?_
    refine g_callS (As := [.int (nI c)]) (rest := [.ref (o)]) (A0 := FM o) V (c_Mo_isOne C ho σ (nI c)) v_Mo_95 hR hS hA (fun _ h => h) ⟨by decide, by decide⟩ rfl hl (Nat.le_of_ble_eq_true rfl) d_Mo_word_9 ⟨Nat.le_refl _, Nat.le_refl _⟩ (kI (fun r9 H locs hQ _ hS => ?_))
    obtain ⟨rfl, hR⟩ := hQ
    refine lv_tope (y := 1) (by rw [one_nI hc]; rfl) ?_
    refine lv_if_eq (tgt := 25) hx hb d_Mo_word_12 (by decide) (fun h12 => ?_) (fun h12 => ?_)
    · exact absurd h12 (by decide)
    · refine lv_iload_n hx hb d_Mo_word_15 rfl (lv_at hl 3 rfl) ?_
      refine lv_if_lt (tgt := 25) hx hb d_Mo_word_16 (by decide) (fun h16 => ?_) (fun h16 => ?_)
      · refine lv_iconst (v := 1) hx hb d_Mo_word_25 (by decide) ?_
        refine lv_goto (tgt := 46) hx hb d_Mo_word_26 (by decide) ?_
        refine rm_pt V hR hS (hF _ ⟨Nat.le_refl _, Nat.lt_add_of_pos_right (by decide)⟩) d_Mo_word_46 (fun H locs hR hS => ?_)
        refine lv_aload_n hx hb d_Mo_word_49 rfl (lv_at hl 0 rfl) ?_
        refine rm_gt V hR d_Mo_word_50 ?_
        refine lv_tope (y := 1) (by simp [up2, upd]) ?_
        refine lv_if_le (tgt := 60) hx hb d_Mo_word_53 (by decide) (fun h53 => ?_) (fun h53 => ?_)
        · exact absurd h53 (by decide)
        · refine lv_iconst (v := 0) hx hb d_Mo_word_56 (by decide) ?_
          refine lv_goto (tgt := 74) hx hb d_Mo_word_57 (by decide) ?_
          exact e_i V hr hlk hS (Nat.le_refl _) (Nat.le_refl _) d_Mo_word_74 ⟨_, rfl, by rw [show woM σ a c x y = (0, (up2 σ 0 0 (1))) from by simp [woM, thr, blk, h16]]; exact ⟨rfl, hR⟩⟩
      · refine lv_iload_n hx hb d_Mo_word_19 rfl (lv_at hl 3 rfl) ?_
        refine lv_bipush (v := 24) hx hb d_Mo_word_20 (by decide) ?_
        refine lv_icmp_lt (tgt := 29) hx hb d_Mo_word_22 (by decide) (fun h22 => ?_) (fun h22 => ?_)
        · refine lv_iload hx hb d_Mo_word_29 (lv_at hl 4 rfl) ?_
          refine lv_if_lt (tgt := 41) hx hb d_Mo_word_31 (by decide) (fun h31 => ?_) (fun h31 => ?_)
          · refine lv_iconst (v := 2) hx hb d_Mo_word_41 (by decide) ?_
            refine lv_goto (tgt := 46) hx hb d_Mo_word_42 (by decide) ?_
            refine rm_pt V hR hS (hF _ ⟨Nat.le_refl _, Nat.lt_add_of_pos_right (by decide)⟩) d_Mo_word_46 (fun H locs hR hS => ?_)
            refine lv_aload_n hx hb d_Mo_word_49 rfl (lv_at hl 0 rfl) ?_
            refine rm_gt V hR d_Mo_word_50 ?_
            refine lv_tope (y := 2) (by simp [up2, upd]) ?_
            refine lv_if_le (tgt := 60) hx hb d_Mo_word_53 (by decide) (fun h53 => ?_) (fun h53 => ?_)
            · exact absurd h53 (by decide)
            · refine lv_iconst (v := 0) hx hb d_Mo_word_56 (by decide) ?_
              refine lv_goto (tgt := 74) hx hb d_Mo_word_57 (by decide) ?_
              exact e_i V hr hlk hS (Nat.le_refl _) (Nat.le_refl _) d_Mo_word_74 ⟨_, rfl, by rw [show woM σ a c x y = (0, (up2 σ 0 0 (2))) from by simp [woM, thr, blk, h16, h22, h31]]; exact ⟨rfl, hR⟩⟩
          · refine lv_iload hx hb d_Mo_word_34 (lv_at hl 4 rfl) ?_
            refine lv_bipush (v := 9) hx hb d_Mo_word_36 (by decide) ?_
            refine lv_icmp_le (tgt := 45) hx hb d_Mo_word_38 (by decide) (fun h38 => ?_) (fun h38 => ?_)
            · refine lv_iconst (v := 0) hx hb d_Mo_word_45 (by decide) ?_
              refine rm_pt V hR hS (hF _ ⟨Nat.le_refl _, Nat.lt_add_of_pos_right (by decide)⟩) d_Mo_word_46 (fun H locs hR hS => ?_)
              refine lv_aload_n hx hb d_Mo_word_49 rfl (lv_at hl 0 rfl) ?_
              refine rm_gt V hR d_Mo_word_50 ?_
              refine lv_tope (y := 0) (by simp [up2, upd]) ?_
              refine lv_if_le (tgt := 60) hx hb d_Mo_word_53 (by decide) (fun h53 => ?_) (fun h53 => ?_)
              · obtain ⟨j, hj, rfl⟩ := ix_of (n := 24) rfl h16 h22 (by decide)
                obtain ⟨i, hi, rfl⟩ := ix_le (n := 9) h31 h38 (by decide)
                refine lv_aload_n hx hb d_Mo_word_60 rfl (lv_at hl 0 rfl) ?_
                refine rm_ga V hR 1 (by decide) (by decide) d_Mo_word_61 ?_
                refine lv_iload_n hx hb d_Mo_word_64 rfl (lv_at hl 1 rfl) ?_
                refine lv_iload_n hx hb d_Mo_word_65 rfl (lv_at hl 2 rfl) ?_
                refine lv_iload_n hx hb d_Mo_word_66 rfl (lv_at hl 3 rfl) ?_
                refine g_callS (As := [.int (nI a), .int (nI c), .int (nI j)]) (rest := [.ref (o + 1)]) (A0 := FM o) V (c_Mo_block C ho (up2 σ 0 0 (0)) (a) (c) (j)) v_Mo_105 hR hS hA (fun _ h => h) ⟨by decide, by decide⟩ rfl hl (Nat.le_of_ble_eq_true rfl) d_Mo_word_67 ⟨Nat.le_refl _, Nat.le_refl _⟩ (kI (fun r67 H locs hQ _ hS => ?_))
                obtain ⟨rfl, hR⟩ := hQ
                refine lv_iload hx hb d_Mo_word_70 (lv_at hl 4 rfl) ?_
                refine lv_iadd hx hb d_Mo_word_72 ?_
                refine lv_tope (y := nI (10 * (24 * (3 * a + c) + j) + i)) (ad_e (a := 10 * (24 * (3 * a + c) + j)) (b := i) rfl rfl) ?_
                refine rm_ld V hR 1 ⟨by decide, by decide, rfl⟩ (n := 2160) ⟨rfl, by decide⟩ (10 * (24 * (3 * a + c) + j) + i) rfl (by omega) d_Mo_word_73 ?_
                refine lv_tope (y := σ 1 (10 * (24 * (3 * a + c) + j) + i)) (by simp [up2, upd]) ?_
                exact e_i V hr hlk hS (Nat.le_refl _) (Nat.le_refl _) d_Mo_word_74 ⟨_, rfl, by rw [show woM σ a c (nI j) (nI i) = (σ 1 (10 * (24 * (3 * a + c) + j) + i), (up2 σ 0 0 (0))) from by simp [woM, thr, blk, tN_n (show j < 2 ^ 31 by omega), tN_n (show i < 2 ^ 31 by omega), h16, h22, h31, h38]]; exact ⟨rfl, hR⟩⟩
              · exact absurd (by decide) h53
            · refine lv_iconst (v := 2) hx hb d_Mo_word_41 (by decide) ?_
              refine lv_goto (tgt := 46) hx hb d_Mo_word_42 (by decide) ?_
              refine rm_pt V hR hS (hF _ ⟨Nat.le_refl _, Nat.lt_add_of_pos_right (by decide)⟩) d_Mo_word_46 (fun H locs hR hS => ?_)
              refine lv_aload_n hx hb d_Mo_word_49 rfl (lv_at hl 0 rfl) ?_
              refine rm_gt V hR d_Mo_word_50 ?_
              refine lv_tope (y := 2) (by simp [up2, upd]) ?_
              refine lv_if_le (tgt := 60) hx hb d_Mo_word_53 (by decide) (fun h53 => ?_) (fun h53 => ?_)
              · exact absurd h53 (by decide)
              · refine lv_iconst (v := 0) hx hb d_Mo_word_56 (by decide) ?_
                refine lv_goto (tgt := 74) hx hb d_Mo_word_57 (by decide) ?_
                exact e_i V hr hlk hS (Nat.le_refl _) (Nat.le_refl _) d_Mo_word_74 ⟨_, rfl, by rw [show woM σ a c x y = (0, (up2 σ 0 0 (2))) from by simp [woM, thr, blk, h16, h22, h31, h38]]; exact ⟨rfl, hR⟩⟩
        · refine lv_iconst (v := 1) hx hb d_Mo_word_25 (by decide) ?_
          refine lv_goto (tgt := 46) hx hb d_Mo_word_26 (by decide) ?_
          refine rm_pt V hR hS (hF _ ⟨Nat.le_refl _, Nat.lt_add_of_pos_right (by decide)⟩) d_Mo_word_46 (fun H locs hR hS => ?_)
          refine lv_aload_n hx hb d_Mo_word_49 rfl (lv_at hl 0 rfl) ?_
          refine rm_gt V hR d_Mo_word_50 ?_
          refine lv_tope (y := 1) (by simp [up2, upd]) ?_
          refine lv_if_le (tgt := 60) hx hb d_Mo_word_53 (by decide) (fun h53 => ?_) (fun h53 => ?_)
          · exact absurd h53 (by decide)
          · refine lv_iconst (v := 0) hx hb d_Mo_word_56 (by decide) ?_
            refine lv_goto (tgt := 74) hx hb d_Mo_word_57 (by decide) ?_
            exact e_i V hr hlk hS (Nat.le_refl _) (Nat.le_refl _) d_Mo_word_74 ⟨_, rfl, by rw [show woM σ a c x y = (0, (up2 σ 0 0 (1))) from by simp [woM, thr, blk, h16, h22]]; exact ⟨rfl, hR⟩⟩
theorem d_Mo_disk_0 : decode b_Mo_disk 0 = .ok (.aload_n 0, 1) := by decide +kernel
theorem d_Mo_disk_1 : decode b_Mo_disk 1 = .ok (.iload_n 1, 1) := by decide +kernel
theorem d_Mo_disk_2 : decode b_Mo_disk 2 = .ok (.invokestatic 95, 3) := by decide +kernel
theorem d_Mo_disk_5 : decode b_Mo_disk 5 = .ok (.ifCond .eq 7, 3) := by decide +kernel
theorem d_Mo_disk_8 : decode b_Mo_disk 8 = .ok (.iconst 0, 1) := by decide +kernel
theorem d_Mo_disk_9 : decode b_Mo_disk 9 = .ok (.goto 4, 3) := by decide +kernel
theorem d_Mo_disk_12 : decode b_Mo_disk 12 = .ok (.iconst 1, 1) := by decide +kernel
theorem d_Mo_disk_13 : decode b_Mo_disk 13 = .ok (.putfield 83, 3) := by decide +kernel
theorem d_Mo_disk_16 : decode b_Mo_disk 16 = .ok (.aload_n 0, 1) := by decide +kernel
theorem d_Mo_disk_17 : decode b_Mo_disk 17 = .ok (.getfield 83, 3) := by decide +kernel
theorem d_Mo_disk_20 : decode b_Mo_disk 20 = .ok (.ifCond .gt 13, 3) := by decide +kernel
theorem d_Mo_disk_23 : decode b_Mo_disk 23 = .ok (.aload_n 0, 1) := by decide +kernel
theorem d_Mo_disk_24 : decode b_Mo_disk 24 = .ok (.getfield 13, 3) := by decide +kernel
theorem d_Mo_disk_27 : decode b_Mo_disk 27 = .ok (.iload_n 1, 1) := by decide +kernel
theorem d_Mo_disk_28 : decode b_Mo_disk 28 = .ok (.baload, 1) := by decide +kernel
theorem d_Mo_disk_29 : decode b_Mo_disk 29 = .ok (.iload_n 2, 1) := by decide +kernel
theorem d_Mo_disk_30 : decode b_Mo_disk 30 = .ok (.if_icmp .eq 5, 3) := by decide +kernel
theorem d_Mo_disk_33 : decode b_Mo_disk 33 = .ok (.iconst 0, 1) := by decide +kernel
theorem d_Mo_disk_34 : decode b_Mo_disk 34 = .ok (.ireturn, 1) := by decide +kernel
theorem d_Mo_disk_35 : decode b_Mo_disk 35 = .ok (.aload_n 0, 1) := by decide +kernel
theorem d_Mo_disk_36 : decode b_Mo_disk 36 = .ok (.getfield 13, 3) := by decide +kernel
theorem d_Mo_disk_39 : decode b_Mo_disk 39 = .ok (.iload_n 1, 1) := by decide +kernel
theorem d_Mo_disk_40 : decode b_Mo_disk 40 = .ok (.iload_n 2, 1) := by decide +kernel
theorem d_Mo_disk_41 : decode b_Mo_disk 41 = .ok (.ifCond .ne 7, 3) := by decide +kernel
theorem d_Mo_disk_44 : decode b_Mo_disk 44 = .ok (.iconst 1, 1) := by decide +kernel
theorem d_Mo_disk_45 : decode b_Mo_disk 45 = .ok (.goto 4, 3) := by decide +kernel
theorem d_Mo_disk_48 : decode b_Mo_disk 48 = .ok (.iconst 0, 1) := by decide +kernel
theorem d_Mo_disk_49 : decode b_Mo_disk 49 = .ok (.bastore, 1) := by decide +kernel
theorem d_Mo_disk_50 : decode b_Mo_disk 50 = .ok (.iconst 1, 1) := by decide +kernel
theorem d_Mo_disk_51 : decode b_Mo_disk 51 = .ok (.ireturn, 1) := by decide +kernel
set_option maxHeartbeats 4000000 in
set_option maxRecDepth 100000 in
theorem c_Mo_disk_bad {l : Launch} {G : Gx} {s0 : State} (C : Cx G s0) {o : Nat} (ho : s0.heap.size ≤ o) (σ : Sg) (x : Int32) (hx1 : one x = false) (b : Int32) : Ct l s0 (FM o) 1 0 0 y_Mo_disk b_Mo_disk 3 (some .boolean) [.ref (o), .int (x), .int (b)] (RepM G o σ) (pI (fun r H => r = 0 ∧ RepM G o (thr σ 1) H)) := by
  refine Ct.of C (by decide) (Nat.le_of_ble_eq_true rfl) ?_
  intro pg ev s mm below meth cd V hr hlk hn hR ls hl
  have hx := V.1
  have hb := V.2.1
  have hS : va_S (FM o) s.heap s.heap [] := va_S.rf
  have hF : ∀ q, FM o q → FM o q := fun _ h => h
  have hA : ∀ q, FM o q → s0.heap.size ≤ q := fun _ h => Nat.le_trans ho h.1
  have hl : lv_has ls 3 [(0, .ref (o)), (1, .int (x)), (2, .int (b))] := hl
  refine lv_aload_n hx hb d_Mo_disk_0 rfl (lv_at hl 0 rfl) ?_
  refine lv_iload_n hx hb d_Mo_disk_1 rfl (lv_at hl 1 rfl) ?_
  refine g_callS (As := [.int (x)]) (rest := [.ref (o)]) (A0 := FM o) V (c_Mo_isOne C ho σ (x)) v_Mo_95 hR hS hA (fun _ h => h) ⟨by decide, by decide⟩ rfl hl (Nat.le_of_ble_eq_true rfl) d_Mo_disk_2 ⟨Nat.le_refl _, Nat.le_refl _⟩ (kI (fun r2 H locs hQ _ hS => ?_))
  obtain ⟨rfl, hR⟩ := hQ
  refine lv_tope (y := 0) (by rw [hx1]; rfl) ?_
  refine lv_if_eq (tgt := 12) hx hb d_Mo_disk_5 (by decide) (fun h5 => ?_) (fun h5 => ?_)
  · refine lv_iconst (v := 1) hx hb d_Mo_disk_12 (by decide) ?_
    refine rm_pt V hR hS (hF _ ⟨Nat.le_refl _, Nat.lt_add_of_pos_right (by decide)⟩) d_Mo_disk_13 (fun H locs hR hS => ?_)
    refine lv_aload_n hx hb d_Mo_disk_16 rfl (lv_at hl 0 rfl) ?_
    refine rm_gt V hR d_Mo_disk_17 ?_
    refine lv_tope (y := 1) (by simp [up2, upd]) ?_
    refine lv_if_gt (tgt := 33) hx hb d_Mo_disk_20 (by decide) (fun h20 => ?_) (fun h20 => ?_)
    · refine lv_iconst (v := 0) hx hb d_Mo_disk_33 (by decide) ?_
      exact e_z V hr hlk hS (Nat.le_refl _) (Nat.le_refl _) d_Mo_disk_34 (by decide) ⟨_, rfl, rfl, hR⟩
    · exact absurd (by decide) h20
  · exact absurd (by decide) h5
set_option maxHeartbeats 4000000 in
set_option maxRecDepth 100000 in
theorem c_Mo_disk {l : Launch} {G : Gx} {s0 : State} (C : Cx G s0) {o : Nat} (ho : s0.heap.size ≤ o) (σ : Sg) (c : Nat) (hc : c < 3) (b : Int32) : Ct l s0 (FM o) 1 0 0 y_Mo_disk b_Mo_disk 3 (some .boolean) [.ref (o), .int (nI c), .int (b)] (RepM G o σ) (pI (fun r H => r = (dkM σ c b).1 ∧ RepM G o (dkM σ c b).2 H)) := by
  refine Ct.of C (by decide) (Nat.le_of_ble_eq_true rfl) ?_
  intro pg ev s mm below meth cd V hr hlk hn hR ls hl
  have hx := V.1
  have hb := V.2.1
  have hS : va_S (FM o) s.heap s.heap [] := va_S.rf
  have hF : ∀ q, FM o q → FM o q := fun _ h => h
  have hA : ∀ q, FM o q → s0.heap.size ≤ q := fun _ h => Nat.le_trans ho h.1
  have hl : lv_has ls 3 [(0, .ref (o)), (1, .int (nI c)), (2, .int (b))] := hl
  refine lv_aload_n hx hb d_Mo_disk_0 rfl (lv_at hl 0 rfl) ?_
  refine lv_iload_n hx hb d_Mo_disk_1 rfl (lv_at hl 1 rfl) ?_
  refine g_callS (As := [.int (nI c)]) (rest := [.ref (o)]) (A0 := FM o) V (c_Mo_isOne C ho σ (nI c)) v_Mo_95 hR hS hA (fun _ h => h) ⟨by decide, by decide⟩ rfl hl (Nat.le_of_ble_eq_true rfl) d_Mo_disk_2 ⟨Nat.le_refl _, Nat.le_refl _⟩ (kI (fun r2 H locs hQ _ hS => ?_))
  obtain ⟨rfl, hR⟩ := hQ
  refine lv_tope (y := 1) (by rw [one_nI hc]; rfl) ?_
  refine lv_if_eq (tgt := 12) hx hb d_Mo_disk_5 (by decide) (fun h5 => ?_) (fun h5 => ?_)
  · exact absurd h5 (by decide)
  · refine lv_iconst (v := 0) hx hb d_Mo_disk_8 (by decide) ?_
    refine lv_goto (tgt := 13) hx hb d_Mo_disk_9 (by decide) ?_
    refine rm_pt V hR hS (hF _ ⟨Nat.le_refl _, Nat.lt_add_of_pos_right (by decide)⟩) d_Mo_disk_13 (fun H locs hR hS => ?_)
    refine lv_aload_n hx hb d_Mo_disk_16 rfl (lv_at hl 0 rfl) ?_
    refine rm_gt V hR d_Mo_disk_17 ?_
    refine lv_tope (y := 0) (by simp [up2, upd]) ?_
    refine lv_if_gt (tgt := 33) hx hb d_Mo_disk_20 (by decide) (fun h20 => ?_) (fun h20 => ?_)
    · exact absurd h20 (by decide)
    · refine lv_aload_n hx hb d_Mo_disk_23 rfl (lv_at hl 0 rfl) ?_
      refine rm_ga V hR 2 (by decide) (by decide) d_Mo_disk_24 ?_
      refine lv_iload_n hx hb d_Mo_disk_27 rfl (lv_at hl 1 rfl) ?_
      refine rm_lz V hR 2 ⟨by decide, by decide, rfl⟩ (n := 3) ⟨rfl, by decide⟩ (c) rfl (by omega) d_Mo_disk_28 ?_
      refine lv_tope (y := σ 2 c) (by simp [up2, upd]) ?_
      refine lv_iload_n hx hb d_Mo_disk_29 rfl (lv_at hl 2 rfl) ?_
      refine lv_icmp_eq (tgt := 35) hx hb d_Mo_disk_30 (by decide) (fun h30 => ?_) (fun h30 => ?_)
      · refine lv_aload_n hx hb d_Mo_disk_35 rfl (lv_at hl 0 rfl) ?_
        refine rm_ga V hR 2 (by decide) (by decide) d_Mo_disk_36 ?_
        refine lv_iload_n hx hb d_Mo_disk_39 rfl (lv_at hl 1 rfl) ?_
        refine lv_iload_n hx hb d_Mo_disk_40 rfl (lv_at hl 2 rfl) ?_
        refine lv_if_ne (tgt := 48) hx hb d_Mo_disk_41 (by decide) (fun h41 => ?_) (fun h41 => ?_)
        · refine lv_iconst (v := 0) hx hb d_Mo_disk_48 (by decide) ?_
          refine rm_sz V hR hS hF 2 ⟨by decide, by decide, rfl⟩ (n := 3) ⟨rfl, by decide⟩ (c) rfl (by omega) (by decide) d_Mo_disk_49 (fun H locs hR hS => ?_)
          refine lv_iconst (v := 1) hx hb d_Mo_disk_50 (by decide) ?_
          exact e_z V hr hlk hS (Nat.le_refl _) (Nat.le_refl _) d_Mo_disk_51 (by decide) ⟨_, rfl, by rw [show dkM σ c b = (1, (up2 (up2 σ 0 0 (0)) 2 c (0))) from by simp [dkM, thr, h30, h41]]; exact ⟨rfl, hR⟩⟩
        · refine lv_iconst (v := 1) hx hb d_Mo_disk_44 (by decide) ?_
          refine lv_goto (tgt := 49) hx hb d_Mo_disk_45 (by decide) ?_
          refine rm_sz V hR hS hF 2 ⟨by decide, by decide, rfl⟩ (n := 3) ⟨rfl, by decide⟩ (c) rfl (by omega) (by decide) d_Mo_disk_49 (fun H locs hR hS => ?_)
          refine lv_iconst (v := 1) hx hb d_Mo_disk_50 (by decide) ?_
          exact e_z V hr hlk hS (Nat.le_refl _) (Nat.le_refl _) d_Mo_disk_51 (by decide) ⟨_, rfl, by rw [show dkM σ c b = (1, (up2 (up2 σ 0 0 (0)) 2 c (1))) from by simp [dkM, thr, h30, h41]]; exact ⟨rfl, hR⟩⟩
      · refine lv_iconst (v := 0) hx hb d_Mo_disk_33 (by decide) ?_
        exact e_z V hr hlk hS (Nat.le_refl _) (Nat.le_refl _) d_Mo_disk_34 (by decide) ⟨_, rfl, by rw [show dkM σ c b = (0, (up2 σ 0 0 (0))) from by simp [dkM, thr, h30]]; exact ⟨rfl, hR⟩⟩
theorem d_Mo_step_0 : decode b_Mo_step 0 = .ok (.aload_n 0, 1) := by decide +kernel
theorem d_Mo_step_1 : decode b_Mo_step 1 = .ok (.iload_n 1, 1) := by decide +kernel
theorem d_Mo_step_2 : decode b_Mo_step 2 = .ok (.invokestatic 95, 3) := by decide +kernel
theorem d_Mo_step_5 : decode b_Mo_step 5 = .ok (.ifCond .ne 7, 3) := by decide +kernel
theorem d_Mo_step_8 : decode b_Mo_step 8 = .ok (.iconst 1, 1) := by decide +kernel
theorem d_Mo_step_9 : decode b_Mo_step 9 = .ok (.goto 32, 3) := by decide +kernel
theorem d_Mo_step_12 : decode b_Mo_step 12 = .ok (.aload_n 0, 1) := by decide +kernel
theorem d_Mo_step_13 : decode b_Mo_step 13 = .ok (.getfield 41, 3) := by decide +kernel
theorem d_Mo_step_16 : decode b_Mo_step 16 = .ok (.iload_n 1, 1) := by decide +kernel
theorem d_Mo_step_17 : decode b_Mo_step 17 = .ok (.baload, 1) := by decide +kernel
theorem d_Mo_step_18 : decode b_Mo_step 18 = .ok (.ifCond .eq 7, 3) := by decide +kernel
theorem d_Mo_step_21 : decode b_Mo_step 21 = .ok (.iconst 2, 1) := by decide +kernel
theorem d_Mo_step_22 : decode b_Mo_step 22 = .ok (.goto 19, 3) := by decide +kernel
theorem d_Mo_step_25 : decode b_Mo_step 25 = .ok (.aload_n 0, 1) := by decide +kernel
theorem d_Mo_step_26 : decode b_Mo_step 26 = .ok (.getfield 20, 3) := by decide +kernel
theorem d_Mo_step_29 : decode b_Mo_step 29 = .ok (.iload_n 1, 1) := by decide +kernel
theorem d_Mo_step_30 : decode b_Mo_step 30 = .ok (.iaload, 1) := by decide +kernel
theorem d_Mo_step_31 : decode b_Mo_step 31 = .ok (.bipush 24, 2) := by decide +kernel
theorem d_Mo_step_33 : decode b_Mo_step 33 = .ok (.if_icmp .ne 7, 3) := by decide +kernel
theorem d_Mo_step_36 : decode b_Mo_step 36 = .ok (.iconst 3, 1) := by decide +kernel
theorem d_Mo_step_37 : decode b_Mo_step 37 = .ok (.goto 4, 3) := by decide +kernel
theorem d_Mo_step_40 : decode b_Mo_step 40 = .ok (.iconst 0, 1) := by decide +kernel
theorem d_Mo_step_41 : decode b_Mo_step 41 = .ok (.putfield 83, 3) := by decide +kernel
theorem d_Mo_step_44 : decode b_Mo_step 44 = .ok (.aload_n 0, 1) := by decide +kernel
theorem d_Mo_step_45 : decode b_Mo_step 45 = .ok (.getfield 83, 3) := by decide +kernel
theorem d_Mo_step_48 : decode b_Mo_step 48 = .ok (.ifCond .le 5, 3) := by decide +kernel
theorem d_Mo_step_51 : decode b_Mo_step 51 = .ok (.iconst 0, 1) := by decide +kernel
theorem d_Mo_step_52 : decode b_Mo_step 52 = .ok (.ireturn, 1) := by decide +kernel
theorem d_Mo_step_53 : decode b_Mo_step 53 = .ok (.aload_n 0, 1) := by decide +kernel
theorem d_Mo_step_54 : decode b_Mo_step 54 = .ok (.getfield 44, 3) := by decide +kernel
theorem d_Mo_step_57 : decode b_Mo_step 57 = .ok (.iload_n 1, 1) := by decide +kernel
theorem d_Mo_step_58 : decode b_Mo_step 58 = .ok (.iaload, 1) := by decide +kernel
theorem d_Mo_step_59 : decode b_Mo_step 59 = .ok (.ifCond .ne 9, 3) := by decide +kernel
theorem d_Mo_step_62 : decode b_Mo_step 62 = .ok (.aload_n 0, 1) := by decide +kernel
theorem d_Mo_step_63 : decode b_Mo_step 63 = .ok (.iload_n 1, 1) := by decide +kernel
theorem d_Mo_step_64 : decode b_Mo_step 64 = .ok (.invokevirtual 135, 3) := by decide +kernel
theorem d_Mo_step_67 : decode b_Mo_step 67 = .ok (.ireturn, 1) := by decide +kernel
theorem d_Mo_step_68 : decode b_Mo_step 68 = .ok (.aload_n 0, 1) := by decide +kernel
theorem d_Mo_step_69 : decode b_Mo_step 69 = .ok (.getfield 13, 3) := by decide +kernel
theorem d_Mo_step_72 : decode b_Mo_step 72 = .ok (.aload_n 0, 1) := by decide +kernel
theorem d_Mo_step_73 : decode b_Mo_step 73 = .ok (.getfield 50, 3) := by decide +kernel
theorem d_Mo_step_76 : decode b_Mo_step 76 = .ok (.iload_n 1, 1) := by decide +kernel
theorem d_Mo_step_77 : decode b_Mo_step 77 = .ok (.iaload, 1) := by decide +kernel
theorem d_Mo_step_78 : decode b_Mo_step 78 = .ok (.baload, 1) := by decide +kernel
theorem d_Mo_step_79 : decode b_Mo_step 79 = .ok (.ifCond .eq 10, 3) := by decide +kernel
theorem d_Mo_step_82 : decode b_Mo_step 82 = .ok (.aload_n 0, 1) := by decide +kernel
theorem d_Mo_step_83 : decode b_Mo_step 83 = .ok (.iload_n 1, 1) := by decide +kernel
theorem d_Mo_step_84 : decode b_Mo_step 84 = .ok (.invokevirtual 128, 3) := by decide +kernel
theorem d_Mo_step_87 : decode b_Mo_step 87 = .ok (.iconst 3, 1) := by decide +kernel
theorem d_Mo_step_88 : decode b_Mo_step 88 = .ok (.ireturn, 1) := by decide +kernel
theorem d_Mo_step_89 : decode b_Mo_step 89 = .ok (.aload_n 0, 1) := by decide +kernel
theorem d_Mo_step_90 : decode b_Mo_step 90 = .ok (.getfield 53, 3) := by decide +kernel
theorem d_Mo_step_93 : decode b_Mo_step 93 = .ok (.iload_n 1, 1) := by decide +kernel
theorem d_Mo_step_94 : decode b_Mo_step 94 = .ok (.baload, 1) := by decide +kernel
theorem d_Mo_step_95 : decode b_Mo_step 95 = .ok (.ifCond .ne 18, 3) := by decide +kernel
theorem d_Mo_step_98 : decode b_Mo_step 98 = .ok (.aload_n 0, 1) := by decide +kernel
theorem d_Mo_step_99 : decode b_Mo_step 99 = .ok (.iload_n 1, 1) := by decide +kernel
theorem d_Mo_step_100 : decode b_Mo_step 100 = .ok (.iconst 5, 1) := by decide +kernel
theorem d_Mo_step_101 : decode b_Mo_step 101 = .ok (.invokevirtual 138, 3) := by decide +kernel
theorem d_Mo_step_104 : decode b_Mo_step 104 = .ok (.aload_n 0, 1) := by decide +kernel
theorem d_Mo_step_105 : decode b_Mo_step 105 = .ok (.getfield 53, 3) := by decide +kernel
theorem d_Mo_step_108 : decode b_Mo_step 108 = .ok (.iload_n 1, 1) := by decide +kernel
theorem d_Mo_step_109 : decode b_Mo_step 109 = .ok (.iconst 1, 1) := by decide +kernel
theorem d_Mo_step_110 : decode b_Mo_step 110 = .ok (.bastore, 1) := by decide +kernel
theorem d_Mo_step_111 : decode b_Mo_step 111 = .ok (.iconst 4, 1) := by decide +kernel
theorem d_Mo_step_112 : decode b_Mo_step 112 = .ok (.ireturn, 1) := by decide +kernel
theorem d_Mo_step_113 : decode b_Mo_step 113 = .ok (.aload_n 0, 1) := by decide +kernel
theorem d_Mo_step_114 : decode b_Mo_step 114 = .ok (.iload_n 1, 1) := by decide +kernel
theorem d_Mo_step_115 : decode b_Mo_step 115 = .ok (.invokevirtual 141, 3) := by decide +kernel
theorem d_Mo_step_118 : decode b_Mo_step 118 = .ok (.ireturn, 1) := by decide +kernel
set_option maxHeartbeats 4000000 in
set_option maxRecDepth 100000 in
theorem c_Mo_step_bad {l : Launch} {G : Gx} {s0 : State} (C : Cx G s0) {o : Nat} (ho : s0.heap.size ≤ o) (σ : Sg) (x : Int32) (hx1 : one x = false) : Ct l s0 (FM o) 4 0 0 y_Mo_step b_Mo_step 2 (some .int) [.ref (o), .int (x)] (RepM G o σ) (pI (fun r H => r = 0 ∧ RepM G o (thr σ 1) H)) := by
  refine Ct.of C (by decide) (Nat.le_of_ble_eq_true rfl) ?_
  intro pg ev s mm below meth cd V hr hlk hn hR ls hl
  have hx := V.1
  have hb := V.2.1
  have hS : va_S (FM o) s.heap s.heap [] := va_S.rf
  have hF : ∀ q, FM o q → FM o q := fun _ h => h
  have hA : ∀ q, FM o q → s0.heap.size ≤ q := fun _ h => Nat.le_trans ho h.1
  have hl : lv_has ls 2 [(0, .ref (o)), (1, .int (x))] := hl
  refine lv_aload_n hx hb d_Mo_step_0 rfl (lv_at hl 0 rfl) ?_
  refine lv_iload_n hx hb d_Mo_step_1 rfl (lv_at hl 1 rfl) ?_
  refine g_callS (As := [.int (x)]) (rest := [.ref (o)]) (A0 := FM o) V (c_Mo_isOne C ho σ (x)) v_Mo_95 hR hS hA (fun _ h => h) ⟨by decide, by decide⟩ rfl hl (Nat.le_of_ble_eq_true rfl) d_Mo_step_2 ⟨Nat.le_refl _, Nat.le_refl _⟩ (kI (fun r2 H locs hQ _ hS => ?_))
  obtain ⟨rfl, hR⟩ := hQ
  refine lv_tope (y := 0) (by rw [hx1]; rfl) ?_
  refine lv_if_ne (tgt := 12) hx hb d_Mo_step_5 (by decide) (fun h5 => ?_) (fun h5 => ?_)
  · exact absurd (by decide) h5
  · refine lv_iconst (v := 1) hx hb d_Mo_step_8 (by decide) ?_
    refine lv_goto (tgt := 41) hx hb d_Mo_step_9 (by decide) ?_
    refine rm_pt V hR hS (hF _ ⟨Nat.le_refl _, Nat.lt_add_of_pos_right (by decide)⟩) d_Mo_step_41 (fun H locs hR hS => ?_)
    refine lv_aload_n hx hb d_Mo_step_44 rfl (lv_at hl 0 rfl) ?_
    refine rm_gt V hR d_Mo_step_45 ?_
    refine lv_tope (y := 1) (by simp [up2, upd]) ?_
    refine lv_if_le (tgt := 53) hx hb d_Mo_step_48 (by decide) (fun h48 => ?_) (fun h48 => ?_)
    · exact absurd h48 (by decide)
    · refine lv_iconst (v := 0) hx hb d_Mo_step_51 (by decide) ?_
      exact e_i V hr hlk hS (Nat.le_refl _) (Nat.le_refl _) d_Mo_step_52 ⟨_, rfl, rfl, hR⟩
set_option maxHeartbeats 4000000 in
set_option maxRecDepth 100000 in
theorem c_Mo_step_bad2 {l : Launch} {G : Gx} {s0 : State} (C : Cx G s0) {o : Nat} (ho : s0.heap.size ≤ o) (σ : Sg) (c : Nat) (hc : c < 3) (hdn : ¬ σ 11 c = 0) : Ct l s0 (FM o) 4 0 0 y_Mo_step b_Mo_step 2 (some .int) [.ref (o), .int (nI c)] (RepM G o σ) (pI (fun r H => r = 0 ∧ RepM G o (thr σ 2) H)) := by
  refine Ct.of C (by decide) (Nat.le_of_ble_eq_true rfl) ?_
  intro pg ev s mm below meth cd V hr hlk hn hR ls hl
  have hx := V.1
  have hb := V.2.1
  have hS : va_S (FM o) s.heap s.heap [] := va_S.rf
  have hF : ∀ q, FM o q → FM o q := fun _ h => h
  have hA : ∀ q, FM o q → s0.heap.size ≤ q := fun _ h => Nat.le_trans ho h.1
  have hl : lv_has ls 2 [(0, .ref (o)), (1, .int (nI c))] := hl
  refine lv_aload_n hx hb d_Mo_step_0 rfl (lv_at hl 0 rfl) ?_
  refine lv_iload_n hx hb d_Mo_step_1 rfl (lv_at hl 1 rfl) ?_
  refine g_callS (As := [.int (nI c)]) (rest := [.ref (o)]) (A0 := FM o) V (c_Mo_isOne C ho σ (nI c)) v_Mo_95 hR hS hA (fun _ h => h) ⟨by decide, by decide⟩ rfl hl (Nat.le_of_ble_eq_true rfl) d_Mo_step_2 ⟨Nat.le_refl _, Nat.le_refl _⟩ (kI (fun r2 H locs hQ _ hS => ?_))
  obtain ⟨rfl, hR⟩ := hQ
  refine lv_tope (y := 1) (by rw [one_nI hc]; rfl) ?_
  refine lv_if_ne (tgt := 12) hx hb d_Mo_step_5 (by decide) (fun h5 => ?_) (fun h5 => ?_)
  · refine lv_aload_n hx hb d_Mo_step_12 rfl (lv_at hl 0 rfl) ?_
    refine rm_ga V hR 11 (by decide) (by decide) d_Mo_step_13 ?_
    refine lv_iload_n hx hb d_Mo_step_16 rfl (lv_at hl 1 rfl) ?_
    refine rm_lz V hR 11 ⟨by decide, by decide, rfl⟩ (n := 3) ⟨rfl, by decide⟩ (c) rfl (by omega) d_Mo_step_17 ?_
    refine lv_if_eq (tgt := 25) hx hb d_Mo_step_18 (by decide) (fun h18 => ?_) (fun h18 => ?_)
    · exact absurd h18 hdn
    · refine lv_iconst (v := 2) hx hb d_Mo_step_21 (by decide) ?_
      refine lv_goto (tgt := 41) hx hb d_Mo_step_22 (by decide) ?_
      refine rm_pt V hR hS (hF _ ⟨Nat.le_refl _, Nat.lt_add_of_pos_right (by decide)⟩) d_Mo_step_41 (fun H locs hR hS => ?_)
      refine lv_aload_n hx hb d_Mo_step_44 rfl (lv_at hl 0 rfl) ?_
      refine rm_gt V hR d_Mo_step_45 ?_
      refine lv_tope (y := 2) (by simp [up2, upd]) ?_
      refine lv_if_le (tgt := 53) hx hb d_Mo_step_48 (by decide) (fun h48 => ?_) (fun h48 => ?_)
      · exact absurd h48 (by decide)
      · refine lv_iconst (v := 0) hx hb d_Mo_step_51 (by decide) ?_
        exact e_i V hr hlk hS (Nat.le_refl _) (Nat.le_refl _) d_Mo_step_52 ⟨_, rfl, rfl, hR⟩
  · exact absurd h5 (by decide)
set_option maxHeartbeats 4000000 in
set_option maxRecDepth 100000 in
theorem c_Mo_step_bad3 {l : Launch} {G : Gx} {s0 : State} (C : Cx G s0) {o : Nat} (ho : s0.heap.size ≤ o) (σ : Sg) (c : Nat) (hc : c < 3) (hdn : σ 11 c = 0) (hq : σ 4 c = 24) : Ct l s0 (FM o) 4 0 0 y_Mo_step b_Mo_step 2 (some .int) [.ref (o), .int (nI c)] (RepM G o σ) (pI (fun r H => r = 0 ∧ RepM G o (thr σ 3) H)) := by
  refine Ct.of C (by decide) (Nat.le_of_ble_eq_true rfl) ?_
  intro pg ev s mm below meth cd V hr hlk hn hR ls hl
  have hx := V.1
  have hb := V.2.1
  have hS : va_S (FM o) s.heap s.heap [] := va_S.rf
  have hF : ∀ q, FM o q → FM o q := fun _ h => h
  have hA : ∀ q, FM o q → s0.heap.size ≤ q := fun _ h => Nat.le_trans ho h.1
  have hl : lv_has ls 2 [(0, .ref (o)), (1, .int (nI c))] := hl
  refine lv_aload_n hx hb d_Mo_step_0 rfl (lv_at hl 0 rfl) ?_
  refine lv_iload_n hx hb d_Mo_step_1 rfl (lv_at hl 1 rfl) ?_
  refine g_callS (As := [.int (nI c)]) (rest := [.ref (o)]) (A0 := FM o) V (c_Mo_isOne C ho σ (nI c)) v_Mo_95 hR hS hA (fun _ h => h) ⟨by decide, by decide⟩ rfl hl (Nat.le_of_ble_eq_true rfl) d_Mo_step_2 ⟨Nat.le_refl _, Nat.le_refl _⟩ (kI (fun r2 H locs hQ _ hS => ?_))
  obtain ⟨rfl, hR⟩ := hQ
  refine lv_tope (y := 1) (by rw [one_nI hc]; rfl) ?_
  refine lv_if_ne (tgt := 12) hx hb d_Mo_step_5 (by decide) (fun h5 => ?_) (fun h5 => ?_)
  · refine lv_aload_n hx hb d_Mo_step_12 rfl (lv_at hl 0 rfl) ?_
    refine rm_ga V hR 11 (by decide) (by decide) d_Mo_step_13 ?_
    refine lv_iload_n hx hb d_Mo_step_16 rfl (lv_at hl 1 rfl) ?_
    refine rm_lz V hR 11 ⟨by decide, by decide, rfl⟩ (n := 3) ⟨rfl, by decide⟩ (c) rfl (by omega) d_Mo_step_17 ?_
    refine lv_tope (y := 0) hdn ?_
    refine lv_if_eq (tgt := 25) hx hb d_Mo_step_18 (by decide) (fun h18 => ?_) (fun h18 => ?_)
    · refine lv_aload_n hx hb d_Mo_step_25 rfl (lv_at hl 0 rfl) ?_
      refine rm_ga V hR 4 (by decide) (by decide) d_Mo_step_26 ?_
      refine lv_iload_n hx hb d_Mo_step_29 rfl (lv_at hl 1 rfl) ?_
      refine rm_ld V hR 4 ⟨by decide, by decide, rfl⟩ (n := 3) ⟨rfl, by decide⟩ (c) rfl (by omega) d_Mo_step_30 ?_
      refine lv_tope (y := 24) hq ?_
      refine lv_bipush (v := 24) hx hb d_Mo_step_31 (by decide) ?_
      refine lv_icmp_ne (tgt := 40) hx hb d_Mo_step_33 (by decide) (fun h33 => ?_) (fun h33 => ?_)
      · exact absurd (by decide) h33
      · refine lv_iconst (v := 3) hx hb d_Mo_step_36 (by decide) ?_
        refine lv_goto (tgt := 41) hx hb d_Mo_step_37 (by decide) ?_
        refine rm_pt V hR hS (hF _ ⟨Nat.le_refl _, Nat.lt_add_of_pos_right (by decide)⟩) d_Mo_step_41 (fun H locs hR hS => ?_)
        refine lv_aload_n hx hb d_Mo_step_44 rfl (lv_at hl 0 rfl) ?_
        refine rm_gt V hR d_Mo_step_45 ?_
        refine lv_tope (y := 3) (by simp [up2, upd]) ?_
        refine lv_if_le (tgt := 53) hx hb d_Mo_step_48 (by decide) (fun h48 => ?_) (fun h48 => ?_)
        · exact absurd h48 (by decide)
        · refine lv_iconst (v := 0) hx hb d_Mo_step_51 (by decide) ?_
          exact e_i V hr hlk hS (Nat.le_refl _) (Nat.le_refl _) d_Mo_step_52 ⟨_, rfl, rfl, hR⟩
    · exact absurd (by decide) h18
  · exact absurd h5 (by decide)
set_option maxHeartbeats 4000000 in
set_option maxRecDepth 100000 in
theorem c_Mo_step {l : Launch} {G : Gx} {s0 : State} (C : Cx G s0) {o : Nat} (ho : s0.heap.size ≤ o) (σ : Sg) (c : Nat) (hc : c < 3) (a q w x y : Nat) (hdn : σ 11 c = 0) (ha : σ 14 c = nI a) (ha3 : a < 3) (hq : σ 4 c = nI q) (hq4 : q < 24) (hw : σ 7 c = nI w) (hw6 : w ≤ 60) (hx8 : σ 8 c = nI x) (hy : σ 13 c = nI y) (hx2 : x < 2 ^ 20) (hy2 : y < 2 ^ 20) (hE : ∀ k, k < w → dN (σ 5 (60 * c + k)) < 3) (hZ : ∀ j, j < 9 → σ 23 j = 0 ∨ σ 23 j = 1) (hb0 : 0 ≤ σ 18 c) (hch : σ 12 c = 1 → rdC (thr σ 0) c (rdF (thr σ 0) (nwt (thr σ 0) (blk a (oth (thr σ 0) c) q)) 1) (rdF (thr σ 0) (nwt (thr σ 0) (blk a (oth (thr σ 0) c) q)) 2) (rdF (thr σ 0) (nwt (thr σ 0) (blk a (oth (thr σ 0) c) q)) 3) w) (hpt : (¬ σ 12 c = 0 ∧ ¬ σ 12 c = 1 ∧ 2 ≤ σ 16 c + 1 ∧ σ 17 c + 1 = 2) → rdP (thr σ 0) c (rdF (thr σ 0) (nwt (thr σ 0) (blk a (oth (thr σ 0) c) q)) 1) (rdF (thr σ 0) (nwt (thr σ 0) (blk a (oth (thr σ 0) c) q)) 2) (rdF (thr σ 0) (nwt (thr σ 0) (blk a (oth (thr σ 0) c) q)) 3)) : Ct l s0 (FM o) 4 0 0 y_Mo_step b_Mo_step 2 (some .int) [.ref (o), .int (nI c)] (RepM G o σ) (pI (fun r H => r = (stM (thr σ 0) c a q w).1 ∧ RepM G o (stM (thr σ 0) c a q w).2 H)) := by
  refine Ct.of C (by decide) (Nat.le_of_ble_eq_true rfl) ?_
  intro pg ev s mm below meth cd V hr hlk hn hR ls hl
  have hx := V.1
  have hb := V.2.1
  have hS : va_S (FM o) s.heap s.heap [] := va_S.rf
  have hF : ∀ q, FM o q → FM o q := fun _ h => h
  have hA : ∀ q, FM o q → s0.heap.size ≤ q := fun _ h => Nat.le_trans ho h.1
  have hl : lv_has ls 2 [(0, .ref (o)), (1, .int (nI c))] := hl
  refine lv_aload_n hx hb d_Mo_step_0 rfl (lv_at hl 0 rfl) ?_
  refine lv_iload_n hx hb d_Mo_step_1 rfl (lv_at hl 1 rfl) ?_
  refine g_callS (As := [.int (nI c)]) (rest := [.ref (o)]) (A0 := FM o) V (c_Mo_isOne C ho σ (nI c)) v_Mo_95 hR hS hA (fun _ h => h) ⟨by decide, by decide⟩ rfl hl (Nat.le_of_ble_eq_true rfl) d_Mo_step_2 ⟨Nat.le_refl _, Nat.le_refl _⟩ (kI (fun r2 H locs hQ _ hS => ?_))
  obtain ⟨rfl, hR⟩ := hQ
  refine lv_tope (y := 1) (by rw [one_nI hc]; rfl) ?_
  refine lv_if_ne (tgt := 12) hx hb d_Mo_step_5 (by decide) (fun h5 => ?_) (fun h5 => ?_)
  · refine lv_aload_n hx hb d_Mo_step_12 rfl (lv_at hl 0 rfl) ?_
    refine rm_ga V hR 11 (by decide) (by decide) d_Mo_step_13 ?_
    refine lv_iload_n hx hb d_Mo_step_16 rfl (lv_at hl 1 rfl) ?_
    refine rm_lz V hR 11 ⟨by decide, by decide, rfl⟩ (n := 3) ⟨rfl, by decide⟩ (c) rfl (by omega) d_Mo_step_17 ?_
    refine lv_tope (y := 0) hdn ?_
    refine lv_if_eq (tgt := 25) hx hb d_Mo_step_18 (by decide) (fun h18 => ?_) (fun h18 => ?_)
    · refine lv_aload_n hx hb d_Mo_step_25 rfl (lv_at hl 0 rfl) ?_
      refine rm_ga V hR 4 (by decide) (by decide) d_Mo_step_26 ?_
      refine lv_iload_n hx hb d_Mo_step_29 rfl (lv_at hl 1 rfl) ?_
      refine rm_ld V hR 4 ⟨by decide, by decide, rfl⟩ (n := 3) ⟨rfl, by decide⟩ (c) rfl (by omega) d_Mo_step_30 ?_
      refine lv_tope (y := nI q) hq ?_
      refine lv_bipush (v := 24) hx hb d_Mo_step_31 (by decide) ?_
      refine lv_icmp_ne (tgt := 40) hx hb d_Mo_step_33 (by decide) (fun h33 => ?_) (fun h33 => ?_)
      · refine lv_iconst (v := 0) hx hb d_Mo_step_40 (by decide) ?_
        refine rm_pt V hR hS (hF _ ⟨Nat.le_refl _, Nat.lt_add_of_pos_right (by decide)⟩) d_Mo_step_41 (fun H locs hR hS => ?_)
        refine lv_aload_n hx hb d_Mo_step_44 rfl (lv_at hl 0 rfl) ?_
        refine rm_gt V hR d_Mo_step_45 ?_
        refine lv_tope (y := 0) (by simp [up2, upd]) ?_
        refine lv_if_le (tgt := 53) hx hb d_Mo_step_48 (by decide) (fun h48 => ?_) (fun h48 => ?_)
        · refine lv_aload_n hx hb d_Mo_step_53 rfl (lv_at hl 0 rfl) ?_
          refine rm_ga V hR 12 (by decide) (by decide) d_Mo_step_54 ?_
          refine lv_iload_n hx hb d_Mo_step_57 rfl (lv_at hl 1 rfl) ?_
          refine rm_ld V hR 12 ⟨by decide, by decide, rfl⟩ (n := 3) ⟨rfl, by decide⟩ (c) rfl (by omega) d_Mo_step_58 ?_
          refine lv_tope (y := σ 12 c) (by simp [up2, upd]) ?_
          refine lv_if_ne (tgt := 68) hx hb d_Mo_step_59 (by decide) (fun h59 => ?_) (fun h59 => ?_)
          · refine lv_aload_n hx hb d_Mo_step_68 rfl (lv_at hl 0 rfl) ?_
            refine rm_ga V hR 2 (by decide) (by decide) d_Mo_step_69 ?_
            refine lv_aload_n hx hb d_Mo_step_72 rfl (lv_at hl 0 rfl) ?_
            refine rm_ga V hR 14 (by decide) (by decide) d_Mo_step_73 ?_
            refine lv_iload_n hx hb d_Mo_step_76 rfl (lv_at hl 1 rfl) ?_
            refine rm_ld V hR 14 ⟨by decide, by decide, rfl⟩ (n := 3) ⟨rfl, by decide⟩ (c) rfl (by omega) d_Mo_step_77 ?_
            refine lv_tope (y := σ 14 c) (by simp [up2, upd]) ?_
            refine lv_tope (y := nI a) ha ?_
            refine rm_lz V hR 2 ⟨by decide, by decide, rfl⟩ (n := 3) ⟨rfl, by decide⟩ (a) rfl (by omega) d_Mo_step_78 ?_
            refine lv_tope (y := σ 2 a) (by simp [up2, upd]) ?_
            refine lv_if_eq (tgt := 89) hx hb d_Mo_step_79 (by decide) (fun h79 => ?_) (fun h79 => ?_)
            · refine lv_aload_n hx hb d_Mo_step_89 rfl (lv_at hl 0 rfl) ?_
              refine rm_ga V hR 15 (by decide) (by decide) d_Mo_step_90 ?_
              refine lv_iload_n hx hb d_Mo_step_93 rfl (lv_at hl 1 rfl) ?_
              refine rm_lz V hR 15 ⟨by decide, by decide, rfl⟩ (n := 3) ⟨rfl, by decide⟩ (c) rfl (by omega) d_Mo_step_94 ?_
              refine lv_tope (y := σ 15 c) (by simp [up2, upd]) ?_
              refine lv_if_ne (tgt := 113) hx hb d_Mo_step_95 (by decide) (fun h95 => ?_) (fun h95 => ?_)
              · refine lv_aload_n hx hb d_Mo_step_113 rfl (lv_at hl 0 rfl) ?_
                refine lv_iload_n hx hb d_Mo_step_114 rfl (lv_at hl 1 rfl) ?_
                refine g_callV (As := [.int (nI c)]) (rest := []) (A0 := FM o) V (c_Mo_readNext C ho (up2 σ 0 0 (0)) c hc a q w ha ha3 hq hq4 hw hw6 hb0 hch (fun h => hpt ⟨h59, h⟩)) v_Mo_141 (hR.recv V.2.2.2.2.2.1) hR hS hA (fun _ h => h) ⟨by decide, by decide⟩ rfl hl (Nat.le_of_ble_eq_true rfl) d_Mo_step_115 ⟨Nat.le_refl _, Nat.le_refl _⟩ (kI (fun r115 H locs hQ _ hS => ?_))
                obtain ⟨rfl, hR⟩ := hQ
                exact e_i V hr hlk hS (Nat.le_refl _) (Nat.le_refl _) d_Mo_step_118 ⟨_, rfl, by rw [show stM (thr σ 0) c a q w = (rdN (up2 σ 0 0 (0)) c a q w) from by simp only [stM]; rw [if_neg (show ¬ (thr σ 0) 12 c = 0 from h59), if_neg (fun q => q (show (thr σ 0) 2 a = 0 from h79)), if_neg (show ¬ (thr σ 0) 15 c = 0 from h95)]; rfl]; exact ⟨rfl, hR⟩⟩
              · refine lv_aload_n hx hb d_Mo_step_98 rfl (lv_at hl 0 rfl) ?_
                refine lv_iload_n hx hb d_Mo_step_99 rfl (lv_at hl 1 rfl) ?_
                refine lv_iconst (v := 5) hx hb d_Mo_step_100 (by decide) ?_
                refine g_callV (As := [.int (nI c), .int (5)]) (rest := []) (A0 := FM o) V (c_Mo_write C ho (up2 σ 0 0 (0)) c hc a q ha ha3 hq hq4 5 (by decide)) v_Mo_138 (hR.recv V.2.2.2.2.2.1) hR hS hA (fun _ h => h) ⟨by decide, by decide⟩ rfl hl (Nat.le_of_ble_eq_true rfl) d_Mo_step_101 ⟨Nat.le_refl _, Nat.le_refl _⟩ (kV (fun H locs hR _ hS => ?_))
                refine lv_aload_n hx hb d_Mo_step_104 rfl (lv_at hl 0 rfl) ?_
                refine rm_ga V hR 15 (by decide) (by decide) d_Mo_step_105 ?_
                refine lv_iload_n hx hb d_Mo_step_108 rfl (lv_at hl 1 rfl) ?_
                refine lv_iconst (v := 1) hx hb d_Mo_step_109 (by decide) ?_
                refine rm_sz V hR hS hF 15 ⟨by decide, by decide, rfl⟩ (n := 3) ⟨rfl, by decide⟩ (c) rfl (by omega) (by decide) d_Mo_step_110 (fun H locs hR hS => ?_)
                refine lv_iconst (v := 4) hx hb d_Mo_step_111 (by decide) ?_
                exact e_i V hr hlk hS (Nat.le_refl _) (Nat.le_refl _) d_Mo_step_112 ⟨_, rfl, by rw [show stM (thr σ 0) c a q w = (4, (up2 (wrM (up2 σ 0 0 (0)) c a q 5) 15 c (1))) from by simp [stM, thr, up2, h33, h59, h79, h95]]; exact ⟨rfl, hR⟩⟩
            · refine lv_aload_n hx hb d_Mo_step_82 rfl (lv_at hl 0 rfl) ?_
              refine lv_iload_n hx hb d_Mo_step_83 rfl (lv_at hl 1 rfl) ?_
              refine g_callV (As := [.int (nI c)]) (rest := []) (A0 := FM o) V (c_Mo_goOn C ho (up2 σ 0 0 (0)) c hc) v_Mo_128 (hR.recv V.2.2.2.2.2.1) hR hS hA (fun _ h => h) ⟨by decide, by decide⟩ rfl hl (Nat.le_of_ble_eq_true rfl) d_Mo_step_84 ⟨Nat.le_refl _, Nat.le_refl _⟩ (kV (fun H locs hR _ hS => ?_))
              refine lv_iconst (v := 3) hx hb d_Mo_step_87 (by decide) ?_
              exact e_i V hr hlk hS (Nat.le_refl _) (Nat.le_refl _) d_Mo_step_88 ⟨_, rfl, by rw [show stM (thr σ 0) c a q w = (3, (gon (up2 σ 0 0 (0)) c)) from by simp [stM, thr, up2, h33, h59, h79]]; exact ⟨rfl, hR⟩⟩
          · refine lv_aload_n hx hb d_Mo_step_62 rfl (lv_at hl 0 rfl) ?_
            refine lv_iload_n hx hb d_Mo_step_63 rfl (lv_at hl 1 rfl) ?_
            refine g_callV (As := [.int (nI c)]) (rest := []) (A0 := FM o) V (c_Mo_begin C ho (up2 σ 0 0 (0)) c hc w hw hw6 x y hx8 hy hx2 hy2 hE hZ) v_Mo_135 (hR.recv V.2.2.2.2.2.1) hR hS hA (fun _ h => h) ⟨by decide, by decide⟩ rfl hl (Nat.le_of_ble_eq_true rfl) d_Mo_step_64 ⟨Nat.le_refl _, Nat.le_refl _⟩ (kI (fun r64 H locs hQ _ hS => ?_))
            obtain ⟨rfl, hR⟩ := hQ
            exact e_i V hr hlk hS (Nat.le_refl _) (Nat.le_refl _) d_Mo_step_67 ⟨_, rfl, by rw [show stM (thr σ 0) c a q w = (bgn (up2 σ 0 0 (0)) c w) from by simp only [stM]; rw [if_pos (show (thr σ 0) 12 c = 0 from h59)]; rfl]; exact ⟨rfl, hR⟩⟩
        · exact absurd (by decide) h48
      · exact absurd ((nI_eq (b := 24) (by omega) (by decide)).mp h33) (by omega)
    · exact absurd (by decide) h18
  · exact absurd h5 (by decide)
theorem d_Mo_tear_0 : decode b_Mo_tear 0 = .ok (.aload_n 0, 1) := by decide +kernel
theorem d_Mo_tear_1 : decode b_Mo_tear 1 = .ok (.iload_n 1, 1) := by decide +kernel
theorem d_Mo_tear_2 : decode b_Mo_tear 2 = .ok (.invokestatic 95, 3) := by decide +kernel
theorem d_Mo_tear_5 : decode b_Mo_tear 5 = .ok (.ifCond .ne 7, 3) := by decide +kernel
theorem d_Mo_tear_8 : decode b_Mo_tear 8 = .ok (.iconst 1, 1) := by decide +kernel
theorem d_Mo_tear_9 : decode b_Mo_tear 9 = .ok (.goto 30, 3) := by decide +kernel
theorem d_Mo_tear_12 : decode b_Mo_tear 12 = .ok (.iload_n 2, 1) := by decide +kernel
theorem d_Mo_tear_13 : decode b_Mo_tear 13 = .ok (.ifCond .lt 8, 3) := by decide +kernel
theorem d_Mo_tear_16 : decode b_Mo_tear 16 = .ok (.iload_n 2, 1) := by decide +kernel
theorem d_Mo_tear_17 : decode b_Mo_tear 17 = .ok (.iconst 5, 1) := by decide +kernel
theorem d_Mo_tear_18 : decode b_Mo_tear 18 = .ok (.if_icmp .le 7, 3) := by decide +kernel
theorem d_Mo_tear_21 : decode b_Mo_tear 21 = .ok (.iconst 2, 1) := by decide +kernel
theorem d_Mo_tear_22 : decode b_Mo_tear 22 = .ok (.goto 17, 3) := by decide +kernel
theorem d_Mo_tear_25 : decode b_Mo_tear 25 = .ok (.aload_n 0, 1) := by decide +kernel
theorem d_Mo_tear_26 : decode b_Mo_tear 26 = .ok (.getfield 41, 3) := by decide +kernel
theorem d_Mo_tear_29 : decode b_Mo_tear 29 = .ok (.iload_n 1, 1) := by decide +kernel
theorem d_Mo_tear_30 : decode b_Mo_tear 30 = .ok (.baload, 1) := by decide +kernel
theorem d_Mo_tear_31 : decode b_Mo_tear 31 = .ok (.ifCond .eq 7, 3) := by decide +kernel
theorem d_Mo_tear_34 : decode b_Mo_tear 34 = .ok (.iconst 3, 1) := by decide +kernel
theorem d_Mo_tear_35 : decode b_Mo_tear 35 = .ok (.goto 4, 3) := by decide +kernel
theorem d_Mo_tear_38 : decode b_Mo_tear 38 = .ok (.iconst 0, 1) := by decide +kernel
theorem d_Mo_tear_39 : decode b_Mo_tear 39 = .ok (.putfield 83, 3) := by decide +kernel
theorem d_Mo_tear_42 : decode b_Mo_tear 42 = .ok (.aload_n 0, 1) := by decide +kernel
theorem d_Mo_tear_43 : decode b_Mo_tear 43 = .ok (.getfield 83, 3) := by decide +kernel
theorem d_Mo_tear_46 : decode b_Mo_tear 46 = .ok (.ifCond .gt 46, 3) := by decide +kernel
theorem d_Mo_tear_49 : decode b_Mo_tear 49 = .ok (.aload_n 0, 1) := by decide +kernel
theorem d_Mo_tear_50 : decode b_Mo_tear 50 = .ok (.getfield 44, 3) := by decide +kernel
theorem d_Mo_tear_53 : decode b_Mo_tear 53 = .ok (.iload_n 1, 1) := by decide +kernel
theorem d_Mo_tear_54 : decode b_Mo_tear 54 = .ok (.iaload, 1) := by decide +kernel
theorem d_Mo_tear_55 : decode b_Mo_tear 55 = .ok (.ifCond .eq 37, 3) := by decide +kernel
theorem d_Mo_tear_58 : decode b_Mo_tear 58 = .ok (.aload_n 0, 1) := by decide +kernel
theorem d_Mo_tear_59 : decode b_Mo_tear 59 = .ok (.getfield 20, 3) := by decide +kernel
theorem d_Mo_tear_62 : decode b_Mo_tear 62 = .ok (.iload_n 1, 1) := by decide +kernel
theorem d_Mo_tear_63 : decode b_Mo_tear 63 = .ok (.iaload, 1) := by decide +kernel
theorem d_Mo_tear_64 : decode b_Mo_tear 64 = .ok (.bipush 24, 2) := by decide +kernel
theorem d_Mo_tear_66 : decode b_Mo_tear 66 = .ok (.if_icmp .eq 26, 3) := by decide +kernel
theorem d_Mo_tear_69 : decode b_Mo_tear 69 = .ok (.aload_n 0, 1) := by decide +kernel
theorem d_Mo_tear_70 : decode b_Mo_tear 70 = .ok (.getfield 13, 3) := by decide +kernel
theorem d_Mo_tear_73 : decode b_Mo_tear 73 = .ok (.aload_n 0, 1) := by decide +kernel
theorem d_Mo_tear_74 : decode b_Mo_tear 74 = .ok (.getfield 50, 3) := by decide +kernel
theorem d_Mo_tear_77 : decode b_Mo_tear 77 = .ok (.iload_n 1, 1) := by decide +kernel
theorem d_Mo_tear_78 : decode b_Mo_tear 78 = .ok (.iaload, 1) := by decide +kernel
theorem d_Mo_tear_79 : decode b_Mo_tear 79 = .ok (.baload, 1) := by decide +kernel
theorem d_Mo_tear_80 : decode b_Mo_tear 80 = .ok (.ifCond .ne 12, 3) := by decide +kernel
theorem d_Mo_tear_83 : decode b_Mo_tear 83 = .ok (.aload_n 0, 1) := by decide +kernel
theorem d_Mo_tear_84 : decode b_Mo_tear 84 = .ok (.getfield 53, 3) := by decide +kernel
theorem d_Mo_tear_87 : decode b_Mo_tear 87 = .ok (.iload_n 1, 1) := by decide +kernel
theorem d_Mo_tear_88 : decode b_Mo_tear 88 = .ok (.baload, 1) := by decide +kernel
theorem d_Mo_tear_89 : decode b_Mo_tear 89 = .ok (.ifCond .eq 5, 3) := by decide +kernel
theorem d_Mo_tear_92 : decode b_Mo_tear 92 = .ok (.iconst 0, 1) := by decide +kernel
theorem d_Mo_tear_93 : decode b_Mo_tear 93 = .ok (.ireturn, 1) := by decide +kernel
theorem d_Mo_tear_94 : decode b_Mo_tear 94 = .ok (.aload_n 0, 1) := by decide +kernel
theorem d_Mo_tear_95 : decode b_Mo_tear 95 = .ok (.iload_n 1, 1) := by decide +kernel
theorem d_Mo_tear_96 : decode b_Mo_tear 96 = .ok (.iload_n 2, 1) := by decide +kernel
theorem d_Mo_tear_97 : decode b_Mo_tear 97 = .ok (.invokevirtual 138, 3) := by decide +kernel
theorem d_Mo_tear_100 : decode b_Mo_tear 100 = .ok (.aload_n 0, 1) := by decide +kernel
theorem d_Mo_tear_101 : decode b_Mo_tear 101 = .ok (.getfield 41, 3) := by decide +kernel
theorem d_Mo_tear_104 : decode b_Mo_tear 104 = .ok (.iload_n 1, 1) := by decide +kernel
theorem d_Mo_tear_105 : decode b_Mo_tear 105 = .ok (.iconst 1, 1) := by decide +kernel
theorem d_Mo_tear_106 : decode b_Mo_tear 106 = .ok (.bastore, 1) := by decide +kernel
theorem d_Mo_tear_107 : decode b_Mo_tear 107 = .ok (.iconst 1, 1) := by decide +kernel
theorem d_Mo_tear_108 : decode b_Mo_tear 108 = .ok (.ireturn, 1) := by decide +kernel
set_option maxHeartbeats 4000000 in
set_option maxRecDepth 100000 in
theorem c_Mo_tear_bad {l : Launch} {G : Gx} {s0 : State} (C : Cx G s0) {o : Nat} (ho : s0.heap.size ≤ o) (σ : Sg) (x : Int32) (hx1 : one x = false) (y : Int32) : Ct l s0 (FM o) 3 0 0 y_Mo_tear b_Mo_tear 3 (some .boolean) [.ref (o), .int (x), .int (y)] (RepM G o σ) (pI (fun r H => r = 0 ∧ RepM G o (thr σ 1) H)) := by
  refine Ct.of C (by decide) (Nat.le_of_ble_eq_true rfl) ?_
  intro pg ev s mm below meth cd V hr hlk hn hR ls hl
  have hx := V.1
  have hb := V.2.1
  have hS : va_S (FM o) s.heap s.heap [] := va_S.rf
  have hF : ∀ q, FM o q → FM o q := fun _ h => h
  have hA : ∀ q, FM o q → s0.heap.size ≤ q := fun _ h => Nat.le_trans ho h.1
  have hl : lv_has ls 3 [(0, .ref (o)), (1, .int (x)), (2, .int (y))] := hl
  refine lv_aload_n hx hb d_Mo_tear_0 rfl (lv_at hl 0 rfl) ?_
  refine lv_iload_n hx hb d_Mo_tear_1 rfl (lv_at hl 1 rfl) ?_
  refine g_callS (As := [.int (x)]) (rest := [.ref (o)]) (A0 := FM o) V (c_Mo_isOne C ho σ (x)) v_Mo_95 hR hS hA (fun _ h => h) ⟨by decide, by decide⟩ rfl hl (Nat.le_of_ble_eq_true rfl) d_Mo_tear_2 ⟨Nat.le_refl _, Nat.le_refl _⟩ (kI (fun r2 H locs hQ _ hS => ?_))
  obtain ⟨rfl, hR⟩ := hQ
  refine lv_tope (y := 0) (by rw [hx1]; rfl) ?_
  refine lv_if_ne (tgt := 12) hx hb d_Mo_tear_5 (by decide) (fun h5 => ?_) (fun h5 => ?_)
  · exact absurd (by decide) h5
  · refine lv_iconst (v := 1) hx hb d_Mo_tear_8 (by decide) ?_
    refine lv_goto (tgt := 39) hx hb d_Mo_tear_9 (by decide) ?_
    refine rm_pt V hR hS (hF _ ⟨Nat.le_refl _, Nat.lt_add_of_pos_right (by decide)⟩) d_Mo_tear_39 (fun H locs hR hS => ?_)
    refine lv_aload_n hx hb d_Mo_tear_42 rfl (lv_at hl 0 rfl) ?_
    refine rm_gt V hR d_Mo_tear_43 ?_
    refine lv_tope (y := 1) (by simp [up2, upd]) ?_
    refine lv_if_gt (tgt := 92) hx hb d_Mo_tear_46 (by decide) (fun h46 => ?_) (fun h46 => ?_)
    · refine lv_iconst (v := 0) hx hb d_Mo_tear_92 (by decide) ?_
      exact e_z V hr hlk hS (Nat.le_refl _) (Nat.le_refl _) d_Mo_tear_93 (by decide) ⟨_, rfl, rfl, hR⟩
    · exact absurd (by decide) h46
set_option maxHeartbeats 4000000 in
set_option maxRecDepth 100000 in
theorem c_Mo_tear_bad2 {l : Launch} {G : Gx} {s0 : State} (C : Cx G s0) {o : Nat} (ho : s0.heap.size ≤ o) (σ : Sg) (c : Nat) (hc : c < 3) (y : Int32) (hy : y < 0 ∨ ¬ y ≤ 5) : Ct l s0 (FM o) 3 0 0 y_Mo_tear b_Mo_tear 3 (some .boolean) [.ref (o), .int (nI c), .int (y)] (RepM G o σ) (pI (fun r H => r = 0 ∧ RepM G o (thr σ 2) H)) := by
  refine Ct.of C (by decide) (Nat.le_of_ble_eq_true rfl) ?_
  intro pg ev s mm below meth cd V hr hlk hn hR ls hl
  have hx := V.1
  have hb := V.2.1
  have hS : va_S (FM o) s.heap s.heap [] := va_S.rf
  have hF : ∀ q, FM o q → FM o q := fun _ h => h
  have hA : ∀ q, FM o q → s0.heap.size ≤ q := fun _ h => Nat.le_trans ho h.1
  have hl : lv_has ls 3 [(0, .ref (o)), (1, .int (nI c)), (2, .int (y))] := hl
  refine lv_aload_n hx hb d_Mo_tear_0 rfl (lv_at hl 0 rfl) ?_
  refine lv_iload_n hx hb d_Mo_tear_1 rfl (lv_at hl 1 rfl) ?_
  refine g_callS (As := [.int (nI c)]) (rest := [.ref (o)]) (A0 := FM o) V (c_Mo_isOne C ho σ (nI c)) v_Mo_95 hR hS hA (fun _ h => h) ⟨by decide, by decide⟩ rfl hl (Nat.le_of_ble_eq_true rfl) d_Mo_tear_2 ⟨Nat.le_refl _, Nat.le_refl _⟩ (kI (fun r2 H locs hQ _ hS => ?_))
  obtain ⟨rfl, hR⟩ := hQ
  refine lv_tope (y := 1) (by rw [one_nI hc]; rfl) ?_
  refine lv_if_ne (tgt := 12) hx hb d_Mo_tear_5 (by decide) (fun h5 => ?_) (fun h5 => ?_)
  · refine lv_iload_n hx hb d_Mo_tear_12 rfl (lv_at hl 2 rfl) ?_
    refine lv_if_lt (tgt := 21) hx hb d_Mo_tear_13 (by decide) (fun h13 => ?_) (fun h13 => ?_)
    · refine lv_iconst (v := 2) hx hb d_Mo_tear_21 (by decide) ?_
      refine lv_goto (tgt := 39) hx hb d_Mo_tear_22 (by decide) ?_
      refine rm_pt V hR hS (hF _ ⟨Nat.le_refl _, Nat.lt_add_of_pos_right (by decide)⟩) d_Mo_tear_39 (fun H locs hR hS => ?_)
      refine lv_aload_n hx hb d_Mo_tear_42 rfl (lv_at hl 0 rfl) ?_
      refine rm_gt V hR d_Mo_tear_43 ?_
      refine lv_tope (y := 2) (by simp [up2, upd]) ?_
      refine lv_if_gt (tgt := 92) hx hb d_Mo_tear_46 (by decide) (fun h46 => ?_) (fun h46 => ?_)
      · refine lv_iconst (v := 0) hx hb d_Mo_tear_92 (by decide) ?_
        exact e_z V hr hlk hS (Nat.le_refl _) (Nat.le_refl _) d_Mo_tear_93 (by decide) ⟨_, rfl, rfl, hR⟩
      · exact absurd (by decide) h46
    · refine lv_iload_n hx hb d_Mo_tear_16 rfl (lv_at hl 2 rfl) ?_
      refine lv_iconst (v := 5) hx hb d_Mo_tear_17 (by decide) ?_
      refine lv_icmp_le (tgt := 25) hx hb d_Mo_tear_18 (by decide) (fun h18 => ?_) (fun h18 => ?_)
      · exact absurd hy (fun z => z.elim h13 (fun z => z h18))
      · refine lv_iconst (v := 2) hx hb d_Mo_tear_21 (by decide) ?_
        refine lv_goto (tgt := 39) hx hb d_Mo_tear_22 (by decide) ?_
        refine rm_pt V hR hS (hF _ ⟨Nat.le_refl _, Nat.lt_add_of_pos_right (by decide)⟩) d_Mo_tear_39 (fun H locs hR hS => ?_)
        refine lv_aload_n hx hb d_Mo_tear_42 rfl (lv_at hl 0 rfl) ?_
        refine rm_gt V hR d_Mo_tear_43 ?_
        refine lv_tope (y := 2) (by simp [up2, upd]) ?_
        refine lv_if_gt (tgt := 92) hx hb d_Mo_tear_46 (by decide) (fun h46 => ?_) (fun h46 => ?_)
        · refine lv_iconst (v := 0) hx hb d_Mo_tear_92 (by decide) ?_
          exact e_z V hr hlk hS (Nat.le_refl _) (Nat.le_refl _) d_Mo_tear_93 (by decide) ⟨_, rfl, rfl, hR⟩
        · exact absurd (by decide) h46
  · exact absurd h5 (by decide)
set_option maxHeartbeats 4000000 in
set_option maxRecDepth 100000 in
theorem c_Mo_tear_bad3 {l : Launch} {G : Gx} {s0 : State} (C : Cx G s0) {o : Nat} (ho : s0.heap.size ≤ o) (σ : Sg) (c : Nat) (hc : c < 3) (kp : Nat) (hk5 : kp ≤ 5) (hdn : ¬ σ 11 c = 0) : Ct l s0 (FM o) 3 0 0 y_Mo_tear b_Mo_tear 3 (some .boolean) [.ref (o), .int (nI c), .int (nI kp)] (RepM G o σ) (pI (fun r H => r = 0 ∧ RepM G o (thr σ 3) H)) := by
  refine Ct.of C (by decide) (Nat.le_of_ble_eq_true rfl) ?_
  intro pg ev s mm below meth cd V hr hlk hn hR ls hl
  have hx := V.1
  have hb := V.2.1
  have hS : va_S (FM o) s.heap s.heap [] := va_S.rf
  have hF : ∀ q, FM o q → FM o q := fun _ h => h
  have hA : ∀ q, FM o q → s0.heap.size ≤ q := fun _ h => Nat.le_trans ho h.1
  have hl : lv_has ls 3 [(0, .ref (o)), (1, .int (nI c)), (2, .int (nI kp))] := hl
  refine lv_aload_n hx hb d_Mo_tear_0 rfl (lv_at hl 0 rfl) ?_
  refine lv_iload_n hx hb d_Mo_tear_1 rfl (lv_at hl 1 rfl) ?_
  refine g_callS (As := [.int (nI c)]) (rest := [.ref (o)]) (A0 := FM o) V (c_Mo_isOne C ho σ (nI c)) v_Mo_95 hR hS hA (fun _ h => h) ⟨by decide, by decide⟩ rfl hl (Nat.le_of_ble_eq_true rfl) d_Mo_tear_2 ⟨Nat.le_refl _, Nat.le_refl _⟩ (kI (fun r2 H locs hQ _ hS => ?_))
  obtain ⟨rfl, hR⟩ := hQ
  refine lv_tope (y := 1) (by rw [one_nI hc]; rfl) ?_
  refine lv_if_ne (tgt := 12) hx hb d_Mo_tear_5 (by decide) (fun h5 => ?_) (fun h5 => ?_)
  · refine lv_iload_n hx hb d_Mo_tear_12 rfl (lv_at hl 2 rfl) ?_
    refine lv_if_lt (tgt := 21) hx hb d_Mo_tear_13 (by decide) (fun h13 => ?_) (fun h13 => ?_)
    · exact absurd h13 (nI_pos (by omega))
    · refine lv_iload_n hx hb d_Mo_tear_16 rfl (lv_at hl 2 rfl) ?_
      refine lv_iconst (v := 5) hx hb d_Mo_tear_17 (by decide) ?_
      refine lv_icmp_le (tgt := 25) hx hb d_Mo_tear_18 (by decide) (fun h18 => ?_) (fun h18 => ?_)
      · refine lv_aload_n hx hb d_Mo_tear_25 rfl (lv_at hl 0 rfl) ?_
        refine rm_ga V hR 11 (by decide) (by decide) d_Mo_tear_26 ?_
        refine lv_iload_n hx hb d_Mo_tear_29 rfl (lv_at hl 1 rfl) ?_
        refine rm_lz V hR 11 ⟨by decide, by decide, rfl⟩ (n := 3) ⟨rfl, by decide⟩ (c) rfl (by omega) d_Mo_tear_30 ?_
        refine lv_if_eq (tgt := 38) hx hb d_Mo_tear_31 (by decide) (fun h31 => ?_) (fun h31 => ?_)
        · exact absurd h31 hdn
        · refine lv_iconst (v := 3) hx hb d_Mo_tear_34 (by decide) ?_
          refine lv_goto (tgt := 39) hx hb d_Mo_tear_35 (by decide) ?_
          refine rm_pt V hR hS (hF _ ⟨Nat.le_refl _, Nat.lt_add_of_pos_right (by decide)⟩) d_Mo_tear_39 (fun H locs hR hS => ?_)
          refine lv_aload_n hx hb d_Mo_tear_42 rfl (lv_at hl 0 rfl) ?_
          refine rm_gt V hR d_Mo_tear_43 ?_
          refine lv_tope (y := 3) (by simp [up2, upd]) ?_
          refine lv_if_gt (tgt := 92) hx hb d_Mo_tear_46 (by decide) (fun h46 => ?_) (fun h46 => ?_)
          · refine lv_iconst (v := 0) hx hb d_Mo_tear_92 (by decide) ?_
            exact e_z V hr hlk hS (Nat.le_refl _) (Nat.le_refl _) d_Mo_tear_93 (by decide) ⟨_, rfl, rfl, hR⟩
          · exact absurd (by decide) h46
      · exact absurd (nI_le hk5 (by decide)) h18
  · exact absurd h5 (by decide)
set_option maxHeartbeats 4000000 in
set_option maxRecDepth 100000 in
theorem c_Mo_tear {l : Launch} {G : Gx} {s0 : State} (C : Cx G s0) {o : Nat} (ho : s0.heap.size ≤ o) (σ : Sg) (c : Nat) (hc : c < 3) (a q : Nat) (kp : Nat) (hk5 : kp ≤ 5) (hdn : σ 11 c = 0) (ha : σ 14 c = nI a) (ha3 : a < 3) (hq : σ 4 c = nI q) (hq4 : q ≤ 24) : Ct l s0 (FM o) 3 0 0 y_Mo_tear b_Mo_tear 3 (some .boolean) [.ref (o), .int (nI c), .int (nI kp)] (RepM G o σ) (pI (fun r H => r = (trM (thr σ 0) c a q kp).1 ∧ RepM G o (trM (thr σ 0) c a q kp).2 H)) := by
  refine Ct.of C (by decide) (Nat.le_of_ble_eq_true rfl) ?_
  intro pg ev s mm below meth cd V hr hlk hn hR ls hl
  have hx := V.1
  have hb := V.2.1
  have hS : va_S (FM o) s.heap s.heap [] := va_S.rf
  have hF : ∀ q, FM o q → FM o q := fun _ h => h
  have hA : ∀ q, FM o q → s0.heap.size ≤ q := fun _ h => Nat.le_trans ho h.1
  have hl : lv_has ls 3 [(0, .ref (o)), (1, .int (nI c)), (2, .int (nI kp))] := hl
  refine lv_aload_n hx hb d_Mo_tear_0 rfl (lv_at hl 0 rfl) ?_
  refine lv_iload_n hx hb d_Mo_tear_1 rfl (lv_at hl 1 rfl) ?_
  refine g_callS (As := [.int (nI c)]) (rest := [.ref (o)]) (A0 := FM o) V (c_Mo_isOne C ho σ (nI c)) v_Mo_95 hR hS hA (fun _ h => h) ⟨by decide, by decide⟩ rfl hl (Nat.le_of_ble_eq_true rfl) d_Mo_tear_2 ⟨Nat.le_refl _, Nat.le_refl _⟩ (kI (fun r2 H locs hQ _ hS => ?_))
  obtain ⟨rfl, hR⟩ := hQ
  refine lv_tope (y := 1) (by rw [one_nI hc]; rfl) ?_
  refine lv_if_ne (tgt := 12) hx hb d_Mo_tear_5 (by decide) (fun h5 => ?_) (fun h5 => ?_)
  · refine lv_iload_n hx hb d_Mo_tear_12 rfl (lv_at hl 2 rfl) ?_
    refine lv_if_lt (tgt := 21) hx hb d_Mo_tear_13 (by decide) (fun h13 => ?_) (fun h13 => ?_)
    · exact absurd h13 (nI_pos (by omega))
    · refine lv_iload_n hx hb d_Mo_tear_16 rfl (lv_at hl 2 rfl) ?_
      refine lv_iconst (v := 5) hx hb d_Mo_tear_17 (by decide) ?_
      refine lv_icmp_le (tgt := 25) hx hb d_Mo_tear_18 (by decide) (fun h18 => ?_) (fun h18 => ?_)
      · refine lv_aload_n hx hb d_Mo_tear_25 rfl (lv_at hl 0 rfl) ?_
        refine rm_ga V hR 11 (by decide) (by decide) d_Mo_tear_26 ?_
        refine lv_iload_n hx hb d_Mo_tear_29 rfl (lv_at hl 1 rfl) ?_
        refine rm_lz V hR 11 ⟨by decide, by decide, rfl⟩ (n := 3) ⟨rfl, by decide⟩ (c) rfl (by omega) d_Mo_tear_30 ?_
        refine lv_tope (y := 0) hdn ?_
        refine lv_if_eq (tgt := 38) hx hb d_Mo_tear_31 (by decide) (fun h31 => ?_) (fun h31 => ?_)
        · refine lv_iconst (v := 0) hx hb d_Mo_tear_38 (by decide) ?_
          refine rm_pt V hR hS (hF _ ⟨Nat.le_refl _, Nat.lt_add_of_pos_right (by decide)⟩) d_Mo_tear_39 (fun H locs hR hS => ?_)
          refine lv_aload_n hx hb d_Mo_tear_42 rfl (lv_at hl 0 rfl) ?_
          refine rm_gt V hR d_Mo_tear_43 ?_
          refine lv_tope (y := 0) (by simp [up2, upd]) ?_
          refine lv_if_gt (tgt := 92) hx hb d_Mo_tear_46 (by decide) (fun h46 => ?_) (fun h46 => ?_)
          · exact absurd h46 (by decide)
          · refine lv_aload_n hx hb d_Mo_tear_49 rfl (lv_at hl 0 rfl) ?_
            refine rm_ga V hR 12 (by decide) (by decide) d_Mo_tear_50 ?_
            refine lv_iload_n hx hb d_Mo_tear_53 rfl (lv_at hl 1 rfl) ?_
            refine rm_ld V hR 12 ⟨by decide, by decide, rfl⟩ (n := 3) ⟨rfl, by decide⟩ (c) rfl (by omega) d_Mo_tear_54 ?_
            refine lv_tope (y := σ 12 c) (by simp [up2, upd]) ?_
            refine lv_if_eq (tgt := 92) hx hb d_Mo_tear_55 (by decide) (fun h55 => ?_) (fun h55 => ?_)
            · refine lv_iconst (v := 0) hx hb d_Mo_tear_92 (by decide) ?_
              exact e_z V hr hlk hS (Nat.le_refl _) (Nat.le_refl _) d_Mo_tear_93 (by decide) ⟨_, rfl, by rw [show trM (thr σ 0) c a q kp = (0, (up2 σ 0 0 (0))) from by simp [trM, thr, up2, h55]]; exact ⟨rfl, hR⟩⟩
            · refine lv_aload_n hx hb d_Mo_tear_58 rfl (lv_at hl 0 rfl) ?_
              refine rm_ga V hR 4 (by decide) (by decide) d_Mo_tear_59 ?_
              refine lv_iload_n hx hb d_Mo_tear_62 rfl (lv_at hl 1 rfl) ?_
              refine rm_ld V hR 4 ⟨by decide, by decide, rfl⟩ (n := 3) ⟨rfl, by decide⟩ (c) rfl (by omega) d_Mo_tear_63 ?_
              refine lv_tope (y := σ 4 c) (by simp [up2, upd]) ?_
              refine lv_tope (y := nI q) hq ?_
              refine lv_bipush (v := 24) hx hb d_Mo_tear_64 (by decide) ?_
              refine lv_icmp_eq (tgt := 92) hx hb d_Mo_tear_66 (by decide) (fun h66 => ?_) (fun h66 => ?_)
              · refine lv_iconst (v := 0) hx hb d_Mo_tear_92 (by decide) ?_
                have g66 : q = 24 := (nI_eq (b := 24) (by omega) (by decide)).mp h66
                exact e_z V hr hlk hS (Nat.le_refl _) (Nat.le_refl _) d_Mo_tear_93 (by decide) ⟨_, rfl, by rw [show trM (thr σ 0) c a q kp = (0, (up2 σ 0 0 (0))) from by simp [trM, thr, up2, h55, g66]]; exact ⟨rfl, hR⟩⟩
              · refine lv_aload_n hx hb d_Mo_tear_69 rfl (lv_at hl 0 rfl) ?_
                refine rm_ga V hR 2 (by decide) (by decide) d_Mo_tear_70 ?_
                refine lv_aload_n hx hb d_Mo_tear_73 rfl (lv_at hl 0 rfl) ?_
                refine rm_ga V hR 14 (by decide) (by decide) d_Mo_tear_74 ?_
                refine lv_iload_n hx hb d_Mo_tear_77 rfl (lv_at hl 1 rfl) ?_
                refine rm_ld V hR 14 ⟨by decide, by decide, rfl⟩ (n := 3) ⟨rfl, by decide⟩ (c) rfl (by omega) d_Mo_tear_78 ?_
                refine lv_tope (y := σ 14 c) (by simp [up2, upd]) ?_
                refine lv_tope (y := nI a) ha ?_
                refine rm_lz V hR 2 ⟨by decide, by decide, rfl⟩ (n := 3) ⟨rfl, by decide⟩ (a) rfl (by omega) d_Mo_tear_79 ?_
                refine lv_tope (y := σ 2 a) (by simp [up2, upd]) ?_
                refine lv_if_ne (tgt := 92) hx hb d_Mo_tear_80 (by decide) (fun h80 => ?_) (fun h80 => ?_)
                · refine lv_iconst (v := 0) hx hb d_Mo_tear_92 (by decide) ?_
                  have g66 : ¬ q = 24 := fun z => h66 (by rw [z]; rfl)
                  exact e_z V hr hlk hS (Nat.le_refl _) (Nat.le_refl _) d_Mo_tear_93 (by decide) ⟨_, rfl, by rw [show trM (thr σ 0) c a q kp = (0, (up2 σ 0 0 (0))) from by simp [trM, thr, up2, h55, g66, h80]]; exact ⟨rfl, hR⟩⟩
                · refine lv_aload_n hx hb d_Mo_tear_83 rfl (lv_at hl 0 rfl) ?_
                  refine rm_ga V hR 15 (by decide) (by decide) d_Mo_tear_84 ?_
                  refine lv_iload_n hx hb d_Mo_tear_87 rfl (lv_at hl 1 rfl) ?_
                  refine rm_lz V hR 15 ⟨by decide, by decide, rfl⟩ (n := 3) ⟨rfl, by decide⟩ (c) rfl (by omega) d_Mo_tear_88 ?_
                  refine lv_tope (y := σ 15 c) (by simp [up2, upd]) ?_
                  refine lv_if_eq (tgt := 94) hx hb d_Mo_tear_89 (by decide) (fun h89 => ?_) (fun h89 => ?_)
                  · refine lv_aload_n hx hb d_Mo_tear_94 rfl (lv_at hl 0 rfl) ?_
                    refine lv_iload_n hx hb d_Mo_tear_95 rfl (lv_at hl 1 rfl) ?_
                    refine lv_iload_n hx hb d_Mo_tear_96 rfl (lv_at hl 2 rfl) ?_
                    refine g_callV (As := [.int (nI c), .int (nI kp)]) (rest := []) (A0 := FM o) V (c_Mo_write C ho (up2 σ 0 0 (0)) c hc a q ha ha3 hq (by have := (not_congr (nI_eq (a := q) (b := 24) (by omega) (by decide))).mp h66; omega) kp hk5) v_Mo_138 (hR.recv V.2.2.2.2.2.1) hR hS hA (fun _ h => h) ⟨by decide, by decide⟩ rfl hl (Nat.le_of_ble_eq_true rfl) d_Mo_tear_97 ⟨Nat.le_refl _, Nat.le_refl _⟩ (kV (fun H locs hR _ hS => ?_))
                    refine lv_aload_n hx hb d_Mo_tear_100 rfl (lv_at hl 0 rfl) ?_
                    refine rm_ga V hR 11 (by decide) (by decide) d_Mo_tear_101 ?_
                    refine lv_iload_n hx hb d_Mo_tear_104 rfl (lv_at hl 1 rfl) ?_
                    refine lv_iconst (v := 1) hx hb d_Mo_tear_105 (by decide) ?_
                    refine rm_sz V hR hS hF 11 ⟨by decide, by decide, rfl⟩ (n := 3) ⟨rfl, by decide⟩ (c) rfl (by omega) (by decide) d_Mo_tear_106 (fun H locs hR hS => ?_)
                    refine lv_iconst (v := 1) hx hb d_Mo_tear_107 (by decide) ?_
                    have g66 : ¬ q = 24 := fun z => h66 (by rw [z]; rfl)
                    exact e_z V hr hlk hS (Nat.le_refl _) (Nat.le_refl _) d_Mo_tear_108 (by decide) ⟨_, rfl, by rw [show trM (thr σ 0) c a q kp = (1, (up2 (wrM (up2 σ 0 0 (0)) c a q kp) 11 c (1))) from by unfold trM; rw [if_neg (show ¬ (thr σ 0) 12 c = 0 from h55), if_neg g66, if_neg (fun z => z (show (thr σ 0) 2 a = 0 from h80)), if_neg (fun z => z (show (thr σ 0) 15 c = 0 from h89))]; rfl]; exact ⟨rfl, hR⟩⟩
                  · refine lv_iconst (v := 0) hx hb d_Mo_tear_92 (by decide) ?_
                    have g66 : ¬ q = 24 := fun z => h66 (by rw [z]; rfl)
                    exact e_z V hr hlk hS (Nat.le_refl _) (Nat.le_refl _) d_Mo_tear_93 (by decide) ⟨_, rfl, by rw [show trM (thr σ 0) c a q kp = (0, (up2 σ 0 0 (0))) from by simp [trM, thr, up2, h55, g66, h80, h89]]; exact ⟨rfl, hR⟩⟩
        · exact absurd (by decide) h31
      · exact absurd (nI_le hk5 (by decide)) h18
  · exact absurd h5 (by decide)
