def PAe (G : Gx) (B D0 ea : Nat) (σ : Sg) (τ : Tt) (y : Nat) (e : Int32) (H : Heap) : Prop := ∃ H0 : Heap, H0.size = y ∧ RepC G B D0 ea σ τ H0 ∧ D0 ≤ y ∧ (∀ q, q < y → H[q]? = H0[q]?) ∧ va_at G.1 classes (y, .inr (6, [.int e, .int 0])) H
theorem d_Wi_init_0 : decode b_Wi_init 0 = .ok (.aload_n 0, 1) := by decide +kernel
theorem d_Wi_init_1 : decode b_Wi_init 1 = .ok (.invokespecial 1, 3) := by decide +kernel
theorem d_Wi_init_4 : decode b_Wi_init 4 = .ok (.aload_n 0, 1) := by decide +kernel
theorem d_Wi_init_5 : decode b_Wi_init 5 = .ok (.iload_n 1, 1) := by decide +kernel
theorem d_Wi_init_6 : decode b_Wi_init 6 = .ok (.putfield 7, 3) := by decide +kernel
theorem d_Wi_init_9 : decode b_Wi_init 9 = .ok (.return_, 1) := by decide +kernel
set_option maxHeartbeats 4000000 in
set_option maxRecDepth 100000 in
theorem c_Wi_init {l : Launch} {G : Gx} {s0 : State} (C : Cx G s0) (y : Nat) (e : Int32) (h0 : s0.heap.size ≤ y) : Ct l s0 (fun q => q = y) 1 0 0 y_Wi_init b_Wi_init 2 none [.ref (y), .int (e)] (fun H => va_at G.1 classes (y, .inr (6, [.int 0, .int 0])) H) (pV (fun H => va_at G.1 classes (y, .inr (6, [.int e, .int 0])) H)) := by
  refine Ct.of C (by decide) (Nat.le_of_ble_eq_true rfl) ?_
  intro pg ev s mm below meth cd V hr hlk hn hR ls hl
  have hx := V.1
  have hb := V.2.1
  have hS : va_S (fun q => q = y) s.heap s.heap [] := va_S.rf
  have hA : ∀ q, (fun q => q = y) q → s0.heap.size ≤ q := fun q h => by rw [h]; exact h0
  have hl : lv_has ls 2 [(0, .ref (y)), (1, .int (e))] := hl
  have hY := hR
  refine lv_aload_n hx hb d_Wi_init_0 rfl (lv_at hl 0 rfl) ?_
  refine x_obj V (List.mem_of_getElem? (i := 450) (by decide +kernel)) hl d_Wi_init_1 ⟨by decide, by decide⟩ (by decide) ?_
  refine lv_aload_n hx hb d_Wi_init_4 rfl (lv_at hl 0 rfl) ?_
  refine lv_iload_n hx hb d_Wi_init_5 rfl (lv_at hl 1 rfl) ?_
  refine x_putF V i_Wi t_Wi t_Wi_ok n_Wi hY rfl 0 (by decide) wk_Wi_7 (fun x h => h) rfl hn rfl rfl rfl (Nat.le_of_ble_eq_true rfl) d_Wi_init_6 (fun H i hY z oq => ?_)
  have hS := hS.put (k := i) z oq rfl
  exact e_v V hr hlk hS (Nat.le_refl _) (Nat.le_refl _) d_Wi_init_9 ⟨rfl, hY⟩
theorem d_Al_add_0 : decode b_Al_add 0 = .ok (.aload_n 0, 1) := by decide +kernel
theorem d_Al_add_1 : decode b_Al_add 1 = .ok (.dup, 1) := by decide +kernel
theorem d_Al_add_2 : decode b_Al_add 2 = .ok (.getfield 63, 3) := by decide +kernel
theorem d_Al_add_5 : decode b_Al_add 5 = .ok (.iconst 1, 1) := by decide +kernel
theorem d_Al_add_6 : decode b_Al_add 6 = .ok (.iadd, 1) := by decide +kernel
theorem d_Al_add_7 : decode b_Al_add 7 = .ok (.putfield 63, 3) := by decide +kernel
theorem d_Al_add_10 : decode b_Al_add 10 = .ok (.aload_n 0, 1) := by decide +kernel
theorem d_Al_add_11 : decode b_Al_add 11 = .ok (.aload_n 1, 1) := by decide +kernel
theorem d_Al_add_12 : decode b_Al_add 12 = .ok (.aload_n 0, 1) := by decide +kernel
theorem d_Al_add_13 : decode b_Al_add 13 = .ok (.getfield 9, 3) := by decide +kernel
theorem d_Al_add_16 : decode b_Al_add 16 = .ok (.aload_n 0, 1) := by decide +kernel
theorem d_Al_add_17 : decode b_Al_add 17 = .ok (.getfield 48, 3) := by decide +kernel
theorem d_Al_add_20 : decode b_Al_add 20 = .ok (.invokevirtual 131, 3) := by decide +kernel
theorem d_Al_add_23 : decode b_Al_add 23 = .ok (.iconst 1, 1) := by decide +kernel
theorem d_Al_add_24 : decode b_Al_add 24 = .ok (.ireturn, 1) := by decide +kernel
set_option maxHeartbeats 4000000 in
set_option maxRecDepth 100000 in
theorem c_Al_add {l : Launch} {G : Gx} {s0 : State} (C : Cx G s0) {ea mi : Nat} (E : Es0 s0 ea mi) {B D0 : Nat} (hB : s0.heap.size ≤ B) (σ : Sg) (τ : Tt) (c : Nat) (hc : c < 3) (w : Nat) (hw : σ 7 c = nI w) (hw6 : w < 60) (y : Nat) (e : Int32) : Ct l s0 (FC B D0) 5 1 300 y_Al_add b_Al_add 2 (some .boolean) [.ref (B + (11 + 9 * c)), .ref (y)] (fun H => PAe G B D0 ea σ τ y e H) (pI (fun r H => r = 1 ∧ ∃ τ1, RepC G B D0 ea (waC σ c w e) τ1 H)) := by
  refine Ct.of C (by decide) (Nat.le_of_ble_eq_true rfl) ?_
  intro pg ev s mm below meth cd V hr hlk hn hR ls hl
  have hx := V.1
  have hb := V.2.1
  have hS : va_S (FC B D0) s.heap s.heap [] := va_S.rf
  have hA : ∀ q, (FC B D0) q → s0.heap.size ≤ q := fun q h => by obtain ⟨H0, -, hR0, -⟩ := hR; have := hR0.1; rcases h with h | h <;> omega
  have hl : lv_has ls 2 [(0, .ref (B + (11 + 9 * c))), (1, .ref (y))] := hl
  obtain ⟨H0, hy0, hR0, hDy, ho, hY⟩ := hR
  have hBD := hR0.1
  have hAl0 := (hR0.2.2.2 c hc).2.2.2.1
  rw [hw] at hAl0
  have hAl := hAl0.kept (ho _ (by rw [← hy0]; exact hAl0.lt))
  refine lv_aload_n hx hb d_Al_add_0 rfl (lv_at hl 0 rfl) ?_
  refine lv_dup hx hb d_Al_add_1 rfl ?_
  refine g_Al_63 V hAl rfl d_Al_add_2 ?_
  refine lv_iconst (v := 1) hx hb d_Al_add_5 (by decide) ?_
  refine lv_iadd hx hb d_Al_add_6 ?_
  refine p_Al_63 V hAl (Nat.le_of_ble_eq_true rfl) d_Al_add_7 (fun H i hAl z oq => ?_)
  have hS := hS.put (k := i) z oq (Or.inl ⟨by omega, by omega⟩)
  have hY := hY.kept (oq _ (by show y ≠ _; omega))
  have ho : ∀ q, q < y → q ≠ (B + (11 + 9 * c)) → H[q]? = H0[q]? := fun q g1 g2 => (oq q g2).trans (ho q g1)
  refine lv_aload_n hx hb d_Al_add_10 rfl (lv_at hl 0 rfl) ?_
  refine lv_aload_n hx hb d_Al_add_11 rfl (lv_at hl 1 rfl) ?_
  refine lv_aload_n hx hb d_Al_add_12 rfl (lv_at hl 0 rfl) ?_
  refine g_Al_9 V hAl rfl d_Al_add_13 ?_
  refine lv_aload_n hx hb d_Al_add_16 rfl (lv_at hl 0 rfl) ?_
  refine g_Al_48 V hAl rfl d_Al_add_17 ?_
  refine g_callV (As := [.ref (y), .ref (τ.2.1 c), .int (nI w)]) (rest := []) (A0 := (FC B D0)) V (c_Al_add2 C E hB σ τ c hc w hw hw6 y e _) v_Al_131 (va_recv V.2.2.2.2.2.1 (x_one hAl) (ci := 3) (q0 := 0) rfl rfl) ⟨H0, hy0, hR0, hDy, ho, hAl, hY, by have := hY.lt; exact this⟩ hS hA (fun _ h => h) ⟨by decide, by decide⟩ rfl hl (Nat.le_of_ble_eq_true rfl) d_Al_add_20 ⟨by decide, by decide⟩ (kV (fun H locs hQ hk hS => ?_))
  refine lv_iconst (v := 1) hx hb d_Al_add_23 (by decide) ?_
  exact e_z V hr hlk hS (by decide) (by decide) d_Al_add_24 (by decide) ⟨_, rfl, rfl, hQ⟩
theorem d_Da_want_0 : decode b_Da_want 0 = .ok (.aload_n 0, 1) := by decide +kernel
theorem d_Da_want_1 : decode b_Da_want 1 = .ok (.iload_n 1, 1) := by decide +kernel
theorem d_Da_want_2 : decode b_Da_want 2 = .ok (.invokevirtual 39, 3) := by decide +kernel
set_option maxHeartbeats 4000000 in
set_option maxRecDepth 100000 in
theorem t_Da_want_bad {l : Launch} {G : Gx} {s0 : State} (hfl : l.flags = pinnedFlags ++ [noTraceFlag]) (C : Cx G s0) (C0 : Ts0 s0) {B D0 ea : Nat} (hB : s0.heap.size ≤ B) (σ : Sg) (τ : Tt) (x : Int32) (hx1 : one x = false) (k ca d cl : Int32) : CtT l s0 (FC B D0) 2 1 6 y_Da_want (.code y_Da_want b_Da_want 8 (some .int)) [.ref (B), .int (x), .int (k), .int (ca), .int (d), .int (cl)] (RepC G B D0 ea σ τ) "java/lang/IndexOutOfBoundsException" (RepC G B D0 ea σ τ) := by
  refine CtT.of C cdw_code (by decide) (Nat.le_of_ble_eq_true rfl) ?_
  intro pg ev s mm below meth cd V hr hlk ht hR ls hl
  have hx := V.1
  have hb := V.2.1
  have hS : va_S (FC B D0) s.heap s.heap [] := va_S.rf
  have hF : ∀ q, FC B D0 q → FC B D0 q := fun _ h => h
  have hA : ∀ q, FC B D0 q → s0.heap.size ≤ q := fun q h => by have := hR.1; rcases h with h | h <;> omega
  have hl : lv_has ls 8 [(0, .ref (B)), (1, .int (x)), (2, .int (k)), (3, .int (ca)), (4, .int (d)), (5, .int (cl))] := hl
  refine lv_aload_n hx hb d_Da_want_0 rfl (lv_at hl 0 rfl) ?_
  refine lv_iload_n hx hb d_Da_want_1 rfl (lv_at hl 1 rfl) ?_
  refine t_callV (n := 1) (As := [.int (x)]) (rest := []) (A0 := FC B D0) V (t_Da_found hfl C C0 hB σ τ (x) hx1) cdw_code ⟨List.mem_of_getElem? (i := 317) (by decide +kernel), rfl⟩ (List.mem_of_getElem? (i := 29) (by decide +kernel)) (List.mem_of_getElem? (i := 314) (by decide +kernel)) ⟨List.mem_of_getElem? (i := 316) (by decide +kernel), List.mem_of_getElem? (i := 1) (by decide +kernel)⟩ ⟨by decide, by decide, by decide +kernel⟩ (hR.rDa V.2.2.2.2.2.1) hR hS hA (fun _ h => h) ⟨by decide, by decide⟩ rfl hl (Nat.le_of_ble_eq_true rfl) d_Da_want_2 ⟨by decide, by decide⟩ (fun x H locs hex hR _ hS => ?_)
  exact wt_leave hlk (out_of ht (by decide)) hS (by decide) (by decide) hex hR
theorem d_Da_want_5 : decode b_Da_want 5 = .ok (.astore 6, 2) := by decide +kernel
theorem d_Da_want_7 : decode b_Da_want 7 = .ok (.iload_n 2, 1) := by decide +kernel
theorem d_Da_want_8 : decode b_Da_want 8 = .ok (.bipush 8, 2) := by decide +kernel
theorem d_Da_want_10 : decode b_Da_want 10 = .ok (.invokestatic 43, 3) := by decide +kernel
theorem d_Da_want_13 : decode b_Da_want 13 = .ok (.ifCond .eq 30, 3) := by decide +kernel
theorem d_Da_want_16 : decode b_Da_want 16 = .ok (.iload_n 3, 1) := by decide +kernel
theorem d_Da_want_17 : decode b_Da_want 17 = .ok (.bipush 8, 2) := by decide +kernel
theorem d_Da_want_19 : decode b_Da_want 19 = .ok (.invokestatic 43, 3) := by decide +kernel
theorem d_Da_want_22 : decode b_Da_want 22 = .ok (.ifCond .eq 21, 3) := by decide +kernel
theorem d_Da_want_25 : decode b_Da_want 25 = .ok (.iload 4, 2) := by decide +kernel
theorem d_Da_want_27 : decode b_Da_want 27 = .ok (.iconst 3, 1) := by decide +kernel
theorem d_Da_want_28 : decode b_Da_want 28 = .ok (.invokestatic 43, 3) := by decide +kernel
theorem d_Da_want_31 : decode b_Da_want 31 = .ok (.ifCond .eq 12, 3) := by decide +kernel
theorem d_Da_want_34 : decode b_Da_want 34 = .ok (.iload 5, 2) := by decide +kernel
theorem d_Da_want_36 : decode b_Da_want 36 = .ok (.iconst 3, 1) := by decide +kernel
theorem d_Da_want_37 : decode b_Da_want 37 = .ok (.invokestatic 43, 3) := by decide +kernel
theorem d_Da_want_40 : decode b_Da_want 40 = .ok (.ifCond .ne 11, 3) := by decide +kernel
theorem d_Da_want_43 : decode b_Da_want 43 = .ok (.new 47, 3) := by decide +kernel
theorem d_Da_want_46 : decode b_Da_want 46 = .ok (.dup, 1) := by decide +kernel
theorem d_Da_want_47 : decode b_Da_want 47 = .ok (.invokespecial 49, 3) := by decide +kernel
theorem d_Da_want_50 : decode b_Da_want 50 = .ok (.athrow, 1) := by decide +kernel
set_option maxHeartbeats 4000000 in
set_option maxRecDepth 100000 in
theorem t_Da_want_bad2 {l : Launch} {G : Gx} {s0 : State} (hfl : l.flags = pinnedFlags ++ [noTraceFlag]) (C : Cx G s0) (C0 : Ts0 s0) {B D0 ea : Nat} (hB : s0.heap.size ≤ B) (σ : Sg) (τ : Tt) (c : Nat) (hc : c < 3) (k ca d cl : Int32) (hr0 : ((!decide (k < 0) && !decide (8 ≤ k)) && ((!decide (ca < 0) && !decide (8 ≤ ca)) && ((!decide (d < 0) && !decide (3 ≤ d)) && (!decide (cl < 0) && !decide (3 ≤ cl))))) = false) : CtT l s0 (FC B D0) 2 1 6 y_Da_want (.code y_Da_want b_Da_want 8 (some .int)) [.ref (B), .int (nI c), .int (k), .int (ca), .int (d), .int (cl)] (RepC G B D0 ea σ τ) "java/lang/IllegalArgumentException" (RepC G B D0 ea σ τ) := by
  refine CtT.of C cdw_code (by decide) (Nat.le_of_ble_eq_true rfl) ?_
  intro pg ev s mm below meth cd V hr hlk ht hR ls hl
  have hx := V.1
  have hb := V.2.1
  have hS : va_S (FC B D0) s.heap s.heap [] := va_S.rf
  have hF : ∀ q, FC B D0 q → FC B D0 q := fun _ h => h
  have hA : ∀ q, FC B D0 q → s0.heap.size ≤ q := fun q h => by have := hR.1; rcases h with h | h <;> omega
  have hl : lv_has ls 8 [(0, .ref (B)), (1, .int (nI c)), (2, .int (k)), (3, .int (ca)), (4, .int (d)), (5, .int (cl))] := hl
  refine lv_aload_n hx hb d_Da_want_0 rfl (lv_at hl 0 rfl) ?_
  refine lv_iload_n hx hb d_Da_want_1 rfl (lv_at hl 1 rfl) ?_
  refine g_callV (As := [.int (nI c)]) (rest := []) (A0 := FC B D0) V (c_Da_found C hB σ τ c hc) v_Da_39 (hR.rDa V.2.2.2.2.2.1) hR hS hA (fun _ h => h) ⟨by decide, by decide⟩ rfl hl (Nat.le_of_ble_eq_true rfl) d_Da_want_2 ⟨by decide, by decide⟩ (kA (fun r2 H locs hQ _ hS => ?_))
  obtain ⟨rfl, hR⟩ := hQ
  refine lv_astore (lv' := [(6, .ref (B + (9 + 9 * c))), (0, .ref (B)), (1, .int (nI c)), (2, .int (k)), (3, .int (ca)), (4, .int (d)), (5, .int (cl))]) hx hb d_Da_want_5 hl (by decide) rfl (fun ls hl => ?_)
  refine lv_iload_n hx hb d_Da_want_7 rfl (lv_at hl 3 rfl) ?_
  refine lv_bipush (v := 8) hx hb d_Da_want_8 (by decide) ?_
  refine g_callS (As := [.int (k), .int (8)]) (rest := []) (A0 := FC B D0) V (c_Da_within C hB σ τ (k) (8)) v_Da_43 hR hS hA (fun _ h => h) ⟨by decide, by decide⟩ rfl hl (Nat.le_of_ble_eq_true rfl) d_Da_want_10 ⟨by decide, by decide⟩ (kI (fun r10 H locs hQ _ hS => ?_))
  obtain ⟨rfl, hR⟩ := hQ
  refine lv_if_eq (tgt := 43) hx hb d_Da_want_13 (by decide) (fun h13 => ?_) (fun h13 => ?_)
  · have h13 := bI_0.mp h13
    exact tn V C0 hfl x_Da_47 hlk (out_of ht (by decide)) hl (Nat.le_of_ble_eq_true rfl) ⟨by decide, by decide, by decide, by decide⟩ hS hA (by decide) (by decide) d_Da_want_43 d_Da_want_46 d_Da_want_47 d_Da_want_50 (fun H1 hz hk => hR.grow hk)
  · have h13 := bI_n0.mp h13
    refine lv_iload_n hx hb d_Da_want_16 rfl (lv_at hl 4 rfl) ?_
    refine lv_bipush (v := 8) hx hb d_Da_want_17 (by decide) ?_
    refine g_callS (As := [.int (ca), .int (8)]) (rest := []) (A0 := FC B D0) V (c_Da_within C hB σ τ (ca) (8)) v_Da_43 hR hS hA (fun _ h => h) ⟨by decide, by decide⟩ rfl hl (Nat.le_of_ble_eq_true rfl) d_Da_want_19 ⟨by decide, by decide⟩ (kI (fun r19 H locs hQ _ hS => ?_))
    obtain ⟨rfl, hR⟩ := hQ
    refine lv_if_eq (tgt := 43) hx hb d_Da_want_22 (by decide) (fun h22 => ?_) (fun h22 => ?_)
    · have h22 := bI_0.mp h22
      exact tn V C0 hfl x_Da_47 hlk (out_of ht (by decide)) hl (Nat.le_of_ble_eq_true rfl) ⟨by decide, by decide, by decide, by decide⟩ hS hA (by decide) (by decide) d_Da_want_43 d_Da_want_46 d_Da_want_47 d_Da_want_50 (fun H1 hz hk => hR.grow hk)
    · have h22 := bI_n0.mp h22
      refine lv_iload hx hb d_Da_want_25 (lv_at hl 5 rfl) ?_
      refine lv_iconst (v := 3) hx hb d_Da_want_27 (by decide) ?_
      refine g_callS (As := [.int (d), .int (3)]) (rest := []) (A0 := FC B D0) V (c_Da_within C hB σ τ (d) (3)) v_Da_43 hR hS hA (fun _ h => h) ⟨by decide, by decide⟩ rfl hl (Nat.le_of_ble_eq_true rfl) d_Da_want_28 ⟨by decide, by decide⟩ (kI (fun r28 H locs hQ _ hS => ?_))
      obtain ⟨rfl, hR⟩ := hQ
      refine lv_if_eq (tgt := 43) hx hb d_Da_want_31 (by decide) (fun h31 => ?_) (fun h31 => ?_)
      · have h31 := bI_0.mp h31
        exact tn V C0 hfl x_Da_47 hlk (out_of ht (by decide)) hl (Nat.le_of_ble_eq_true rfl) ⟨by decide, by decide, by decide, by decide⟩ hS hA (by decide) (by decide) d_Da_want_43 d_Da_want_46 d_Da_want_47 d_Da_want_50 (fun H1 hz hk => hR.grow hk)
      · have h31 := bI_n0.mp h31
        refine lv_iload hx hb d_Da_want_34 (lv_at hl 6 rfl) ?_
        refine lv_iconst (v := 3) hx hb d_Da_want_36 (by decide) ?_
        refine g_callS (As := [.int (cl), .int (3)]) (rest := []) (A0 := FC B D0) V (c_Da_within C hB σ τ (cl) (3)) v_Da_43 hR hS hA (fun _ h => h) ⟨by decide, by decide⟩ rfl hl (Nat.le_of_ble_eq_true rfl) d_Da_want_37 ⟨by decide, by decide⟩ (kI (fun r37 H locs hQ _ hS => ?_))
        obtain ⟨rfl, hR⟩ := hQ
        refine lv_if_ne (tgt := 51) hx hb d_Da_want_40 (by decide) (fun h40 => ?_) (fun h40 => ?_)
        · exact absurd (hr0.symm.trans (show _ = true by simp only [h13, h22, h31, bI_n0.mp h40, Bool.and_self])) (by decide)
        · have h40 := bI_0.mp h40
          exact tn V C0 hfl x_Da_47 hlk (out_of ht (by decide)) hl (Nat.le_of_ble_eq_true rfl) ⟨by decide, by decide, by decide, by decide⟩ hS hA (by decide) (by decide) d_Da_want_43 d_Da_want_46 d_Da_want_47 d_Da_want_50 (fun H1 hz hk => hR.grow hk)
def encC (k ca d cl c w : Nat) : Int32 := (((((nI k : Int32) ||| ((nI ca) <<< ((3 : Int32) &&& 31) : Int32) : Int32) ||| ((nI d) <<< ((6 : Int32) &&& 31) : Int32) : Int32) ||| ((nI cl) <<< ((8 : Int32) &&& 31) : Int32) : Int32) ||| ((nI c) <<< ((10 : Int32) &&& 31) : Int32) : Int32) ||| ((nI w) <<< ((12 : Int32) &&& 31) : Int32)
theorem d_Da_want_51 : decode b_Da_want 51 = .ok (.aload 6, 2) := by decide +kernel
theorem d_Da_want_53 : decode b_Da_want 53 = .ok (.getfield 50, 3) := by decide +kernel
theorem d_Da_want_56 : decode b_Da_want 56 = .ok (.invokevirtual 54, 3) := by decide +kernel
theorem d_Da_want_59 : decode b_Da_want 59 = .ok (.istore 7, 2) := by decide +kernel
theorem d_Da_want_61 : decode b_Da_want 61 = .ok (.aload 6, 2) := by decide +kernel
theorem d_Da_want_63 : decode b_Da_want 63 = .ok (.invokevirtual 60, 3) := by decide +kernel
theorem d_Da_want_66 : decode b_Da_want 66 = .ok (.iconst 5, 1) := by decide +kernel
theorem d_Da_want_67 : decode b_Da_want 67 = .ok (.if_icmp .eq 10, 3) := by decide +kernel
theorem d_Da_want_70 : decode b_Da_want 70 = .ok (.iload 7, 2) := by decide +kernel
theorem d_Da_want_72 : decode b_Da_want 72 = .ok (.bipush 60, 2) := by decide +kernel
theorem d_Da_want_74 : decode b_Da_want 74 = .ok (.if_icmp .ne 11, 3) := by decide +kernel
theorem d_Da_want_77 : decode b_Da_want 77 = .ok (.new 63, 3) := by decide +kernel
theorem d_Da_want_80 : decode b_Da_want 80 = .ok (.dup, 1) := by decide +kernel
theorem d_Da_want_81 : decode b_Da_want 81 = .ok (.invokespecial 65, 3) := by decide +kernel
theorem d_Da_want_84 : decode b_Da_want 84 = .ok (.athrow, 1) := by decide +kernel
theorem d_Da_want_85 : decode b_Da_want 85 = .ok (.aload 6, 2) := by decide +kernel
theorem d_Da_want_87 : decode b_Da_want 87 = .ok (.getfield 50, 3) := by decide +kernel
theorem d_Da_want_90 : decode b_Da_want 90 = .ok (.new 66, 3) := by decide +kernel
theorem d_Da_want_93 : decode b_Da_want 93 = .ok (.dup, 1) := by decide +kernel
theorem d_Da_want_94 : decode b_Da_want 94 = .ok (.iload_n 2, 1) := by decide +kernel
theorem d_Da_want_95 : decode b_Da_want 95 = .ok (.iload_n 3, 1) := by decide +kernel
theorem d_Da_want_96 : decode b_Da_want 96 = .ok (.iconst 3, 1) := by decide +kernel
theorem d_Da_want_97 : decode b_Da_want 97 = .ok (.ishl, 1) := by decide +kernel
theorem d_Da_want_98 : decode b_Da_want 98 = .ok (.ior, 1) := by decide +kernel
theorem d_Da_want_99 : decode b_Da_want 99 = .ok (.iload 4, 2) := by decide +kernel
theorem d_Da_want_101 : decode b_Da_want 101 = .ok (.bipush 6, 2) := by decide +kernel
theorem d_Da_want_103 : decode b_Da_want 103 = .ok (.ishl, 1) := by decide +kernel
theorem d_Da_want_104 : decode b_Da_want 104 = .ok (.ior, 1) := by decide +kernel
theorem d_Da_want_105 : decode b_Da_want 105 = .ok (.iload 5, 2) := by decide +kernel
theorem d_Da_want_107 : decode b_Da_want 107 = .ok (.bipush 8, 2) := by decide +kernel
theorem d_Da_want_109 : decode b_Da_want 109 = .ok (.ishl, 1) := by decide +kernel
theorem d_Da_want_110 : decode b_Da_want 110 = .ok (.ior, 1) := by decide +kernel
theorem d_Da_want_111 : decode b_Da_want 111 = .ok (.iload_n 1, 1) := by decide +kernel
theorem d_Da_want_112 : decode b_Da_want 112 = .ok (.bipush 10, 2) := by decide +kernel
theorem d_Da_want_114 : decode b_Da_want 114 = .ok (.ishl, 1) := by decide +kernel
theorem d_Da_want_115 : decode b_Da_want 115 = .ok (.ior, 1) := by decide +kernel
theorem d_Da_want_116 : decode b_Da_want 116 = .ok (.iload 7, 2) := by decide +kernel
theorem d_Da_want_118 : decode b_Da_want 118 = .ok (.bipush 12, 2) := by decide +kernel
theorem d_Da_want_120 : decode b_Da_want 120 = .ok (.ishl, 1) := by decide +kernel
theorem d_Da_want_121 : decode b_Da_want 121 = .ok (.ior, 1) := by decide +kernel
theorem d_Da_want_122 : decode b_Da_want 122 = .ok (.invokespecial 68, 3) := by decide +kernel
theorem d_Da_want_125 : decode b_Da_want 125 = .ok (.invokevirtual 69, 3) := by decide +kernel
theorem d_Da_want_128 : decode b_Da_want 128 = .ok (.pop, 1) := by decide +kernel
theorem d_Da_want_129 : decode b_Da_want 129 = .ok (.iload 7, 2) := by decide +kernel
theorem d_Da_want_131 : decode b_Da_want 131 = .ok (.ireturn, 1) := by decide +kernel
set_option maxHeartbeats 4000000 in
set_option maxRecDepth 100000 in
theorem t_Da_want_bad3 {l : Launch} {G : Gx} {s0 : State} (hfl : l.flags = pinnedFlags ++ [noTraceFlag]) (C : Cx G s0) (C0 : Ts0 s0) {B D0 ea : Nat} {mi : Nat} (E : Es0 s0 ea mi) (hB : s0.heap.size ≤ B) (σ : Sg) (τ : Tt) (c : Nat) (hc : c < 3) (w : Nat) (hw : σ 7 c = nI w) (hw6 : w ≤ 60) (k ca d cl : Nat) (hk8 : k < 8) (hca8 : ca < 8) (hd3 : d < 3) (hcl3 : cl < 3) (hfu : wtn σ c w = 5 ∨ w = 60) : CtT l s0 (FC B D0) 4 2 10 y_Da_want (.code y_Da_want b_Da_want 8 (some .int)) [.ref (B), .int (nI c), .int (nI k), .int (nI ca), .int (nI d), .int (nI cl)] (fun H => RepC G B D0 ea σ τ H ∧ D0 ≤ H.size) "java/lang/UnsupportedOperationException" (RepC G B D0 ea σ τ) := by
  refine CtT.of C cdw_code (by decide) (Nat.le_of_ble_eq_true rfl) ?_
  intro pg ev s mm below meth cd V hr hlk ht hR0 ls hl
  obtain ⟨hR, hD⟩ := hR0
  have hx := V.1
  have hb := V.2.1
  have hS : va_S (FC B D0) s.heap s.heap [] := va_S.rf
  have hF : ∀ q, FC B D0 q → FC B D0 q := fun _ h => h
  have hA : ∀ q, FC B D0 q → s0.heap.size ≤ q := fun q h => by have := hR.1; rcases h with h | h <;> omega
  have hl : lv_has ls 8 [(0, .ref (B)), (1, .int (nI c)), (2, .int (nI k)), (3, .int (nI ca)), (4, .int (nI d)), (5, .int (nI cl))] := hl
  refine lv_aload_n hx hb d_Da_want_0 rfl (lv_at hl 0 rfl) ?_
  refine lv_iload_n hx hb d_Da_want_1 rfl (lv_at hl 1 rfl) ?_
  refine g_callV (As := [.int (nI c)]) (rest := []) (A0 := FC B D0) V (c_Da_found C hB σ τ c hc) v_Da_39 (hR.rDa V.2.2.2.2.2.1) hR hS hA (fun _ h => h) ⟨by decide, by decide⟩ rfl hl (Nat.le_of_ble_eq_true rfl) d_Da_want_2 ⟨by decide, by decide⟩ (kA (fun r2 H locs hQ _ hS => ?_))
  obtain ⟨rfl, hR⟩ := hQ
  refine lv_astore (lv' := [(6, .ref (B + (9 + 9 * c))), (0, .ref (B)), (1, .int (nI c)), (2, .int (nI k)), (3, .int (nI ca)), (4, .int (nI d)), (5, .int (nI cl))]) hx hb d_Da_want_5 hl (by decide) rfl (fun ls hl => ?_)
  refine lv_iload_n hx hb d_Da_want_7 rfl (lv_at hl 3 rfl) ?_
  refine lv_bipush (v := 8) hx hb d_Da_want_8 (by decide) ?_
  refine g_callS (As := [.int (nI k), .int (8)]) (rest := []) (A0 := FC B D0) V (c_Da_within C hB σ τ (nI k) (8)) v_Da_43 hR hS hA (fun _ h => h) ⟨by decide, by decide⟩ rfl hl (Nat.le_of_ble_eq_true rfl) d_Da_want_10 ⟨by decide, by decide⟩ (kI (fun r10 H locs hQ _ hS => ?_))
  obtain ⟨rfl, hR⟩ := hQ
  refine lv_if_eq (tgt := 43) hx hb d_Da_want_13 (by decide) (fun h13 => ?_) (fun h13 => ?_)
  · exact absurd (bI_0.mp h13) (by simp [nI_pos (show k < 2 ^ 31 by omega), nI_ge (b := 8) (show k < 8 by omega) (by decide), show (8 : Int32) = nI 8 from rfl])
  · have h13 := bI_n0.mp h13
    refine lv_iload_n hx hb d_Da_want_16 rfl (lv_at hl 4 rfl) ?_
    refine lv_bipush (v := 8) hx hb d_Da_want_17 (by decide) ?_
    refine g_callS (As := [.int (nI ca), .int (8)]) (rest := []) (A0 := FC B D0) V (c_Da_within C hB σ τ (nI ca) (8)) v_Da_43 hR hS hA (fun _ h => h) ⟨by decide, by decide⟩ rfl hl (Nat.le_of_ble_eq_true rfl) d_Da_want_19 ⟨by decide, by decide⟩ (kI (fun r19 H locs hQ _ hS => ?_))
    obtain ⟨rfl, hR⟩ := hQ
    refine lv_if_eq (tgt := 43) hx hb d_Da_want_22 (by decide) (fun h22 => ?_) (fun h22 => ?_)
    · exact absurd (bI_0.mp h22) (by simp [nI_pos (show ca < 2 ^ 31 by omega), nI_ge (b := 8) (show ca < 8 by omega) (by decide), show (8 : Int32) = nI 8 from rfl])
    · have h22 := bI_n0.mp h22
      refine lv_iload hx hb d_Da_want_25 (lv_at hl 5 rfl) ?_
      refine lv_iconst (v := 3) hx hb d_Da_want_27 (by decide) ?_
      refine g_callS (As := [.int (nI d), .int (3)]) (rest := []) (A0 := FC B D0) V (c_Da_within C hB σ τ (nI d) (3)) v_Da_43 hR hS hA (fun _ h => h) ⟨by decide, by decide⟩ rfl hl (Nat.le_of_ble_eq_true rfl) d_Da_want_28 ⟨by decide, by decide⟩ (kI (fun r28 H locs hQ _ hS => ?_))
      obtain ⟨rfl, hR⟩ := hQ
      refine lv_if_eq (tgt := 43) hx hb d_Da_want_31 (by decide) (fun h31 => ?_) (fun h31 => ?_)
      · exact absurd (bI_0.mp h31) (by simp [nI_pos (show d < 2 ^ 31 by omega), nI_ge (b := 3) (show d < 3 by omega) (by decide), show (3 : Int32) = nI 3 from rfl])
      · have h31 := bI_n0.mp h31
        refine lv_iload hx hb d_Da_want_34 (lv_at hl 6 rfl) ?_
        refine lv_iconst (v := 3) hx hb d_Da_want_36 (by decide) ?_
        refine g_callS (As := [.int (nI cl), .int (3)]) (rest := []) (A0 := FC B D0) V (c_Da_within C hB σ τ (nI cl) (3)) v_Da_43 hR hS hA (fun _ h => h) ⟨by decide, by decide⟩ rfl hl (Nat.le_of_ble_eq_true rfl) d_Da_want_37 ⟨by decide, by decide⟩ (kI (fun r37 H locs hQ _ hS => ?_))
        obtain ⟨rfl, hR⟩ := hQ
        refine lv_if_ne (tgt := 51) hx hb d_Da_want_40 (by decide) (fun h40 => ?_) (fun h40 => ?_)
        · have h40 := bI_n0.mp h40
          refine lv_aload hx hb d_Da_want_51 (lv_at hl 0 rfl) ?_
          refine g_Da_50 V (hR.2.2.2 _ hc).1 rfl d_Da_want_53 ?_
          refine g_callV (As := []) (rest := []) (A0 := FC B D0) V (c_Al_size C hB σ τ c hc) v_Da_54 (hR.rAl V.2.2.2.2.2.1 hc) hR hS hA (fun _ h => h) ⟨by decide, by decide⟩ rfl hl (Nat.le_of_ble_eq_true rfl) d_Da_want_56 ⟨by decide, by decide⟩ (kI (fun r56 H locs hQ _ hS => ?_))
          obtain ⟨rfl, hR⟩ := hQ
          refine lv_tope (y := nI w) hw ?_
          refine lv_istore (lv' := [(7, .int (nI w)), (6, .ref (B + (9 + 9 * c))), (0, .ref (B)), (1, .int (nI c)), (2, .int (nI k)), (3, .int (nI ca)), (4, .int (nI d)), (5, .int (nI cl))]) hx hb d_Da_want_59 hl (by decide) rfl (fun ls hl => ?_)
          refine lv_aload hx hb d_Da_want_61 (lv_at hl 1 rfl) ?_
          refine g_callV (As := []) (rest := []) (A0 := FC B D0) V (c_Ct_waitingCount C E hB σ τ c hc w hw hw6) v_Da_60 (hR.rCt V.2.2.2.2.2.1 hc) ⟨hR, Nat.le_trans hD hS.1⟩ hS hA (fun _ h => h) ⟨by decide, by decide⟩ rfl hl (Nat.le_of_ble_eq_true rfl) d_Da_want_63 ⟨by decide, by decide⟩ (kI (fun r H locs hQ _ hS => ?_))
          obtain ⟨rfl, hR⟩ := hQ
          have hwl := wtn_le σ c w
          refine lv_iconst (v := 5) hx hb d_Da_want_66 (by decide) ?_
          refine lv_icmp_eq (tgt := 77) hx hb d_Da_want_67 (by decide) (fun h67 => ?_) (fun h67 => ?_)
          · exact tn V C0 hfl x_Da_63 hlk (out_of ht (by decide)) hl (Nat.le_of_ble_eq_true rfl) ⟨by decide, by decide, by decide, by decide⟩ hS hA (by decide) (by decide) d_Da_want_77 d_Da_want_80 d_Da_want_81 d_Da_want_84 (fun H1 hz hk => hR.grow hk)
          · refine lv_iload hx hb d_Da_want_70 (lv_at hl 0 rfl) ?_
            refine lv_bipush (v := 60) hx hb d_Da_want_72 (by decide) ?_
            refine lv_icmp_ne (tgt := 85) hx hb d_Da_want_74 (by decide) (fun h74 => ?_) (fun h74 => ?_)
            · exact absurd hfu (fun z => z.elim (fun z => h67 (by rw [z]; rfl)) (fun z => h74 (by rw [z]; rfl)))
            · exact tn V C0 hfl x_Da_63 hlk (out_of ht (by decide)) hl (Nat.le_of_ble_eq_true rfl) ⟨by decide, by decide, by decide, by decide⟩ hS hA (by decide) (by decide) d_Da_want_77 d_Da_want_80 d_Da_want_81 d_Da_want_84 (fun H1 hz hk => hR.grow hk)
        · exact absurd (bI_0.mp h40) (by simp [nI_pos (show cl < 2 ^ 31 by omega), nI_ge (b := 3) (show cl < 3 by omega) (by decide), show (3 : Int32) = nI 3 from rfl])
set_option maxHeartbeats 4000000 in
set_option maxRecDepth 100000 in
theorem c_Da_want {l : Launch} {G : Gx} {s0 : State} (C : Cx G s0) {B D0 ea : Nat} {mi : Nat} (E : Es0 s0 ea mi) (hB : s0.heap.size ≤ B) (σ : Sg) (τ : Tt) (c : Nat) (hc : c < 3) (w : Nat) (hw : σ 7 c = nI w) (hw6 : w ≤ 60) (k ca d cl : Nat) (hk8 : k < 8) (hca8 : ca < 8) (hd3 : d < 3) (hcl3 : cl < 3) (h5 : ¬ wtn σ c w = 5) (h60 : ¬ w = 60) : Ct l s0 (FC B D0) 6 3 306 y_Da_want b_Da_want 8 (some .int) [.ref (B), .int (nI c), .int (nI k), .int (nI ca), .int (nI d), .int (nI cl)] (fun H => RepC G B D0 ea σ τ H ∧ D0 ≤ H.size) (pI (fun r H => r = nI w ∧ ∃ τ1, RepC G B D0 ea (waC σ c w (encC k ca d cl c w)) τ1 H)) := by
  refine Ct.of C (by decide) (Nat.le_of_ble_eq_true rfl) ?_
  intro pg ev s mm below meth cd V hr hlk hn hR0 ls hl
  obtain ⟨hR, hD⟩ := hR0
  have hx := V.1
  have hb := V.2.1
  have hS : va_S (FC B D0) s.heap s.heap [] := va_S.rf
  have hF : ∀ q, FC B D0 q → FC B D0 q := fun _ h => h
  have hA : ∀ q, FC B D0 q → s0.heap.size ≤ q := fun q h => by have := hR.1; rcases h with h | h <;> omega
  have hl : lv_has ls 8 [(0, .ref (B)), (1, .int (nI c)), (2, .int (nI k)), (3, .int (nI ca)), (4, .int (nI d)), (5, .int (nI cl))] := hl
  refine lv_aload_n hx hb d_Da_want_0 rfl (lv_at hl 0 rfl) ?_
  refine lv_iload_n hx hb d_Da_want_1 rfl (lv_at hl 1 rfl) ?_
  refine g_callV (As := [.int (nI c)]) (rest := []) (A0 := FC B D0) V (c_Da_found C hB σ τ c hc) v_Da_39 (hR.rDa V.2.2.2.2.2.1) hR hS hA (fun _ h => h) ⟨by decide, by decide⟩ rfl hl (Nat.le_of_ble_eq_true rfl) d_Da_want_2 ⟨by decide, by decide⟩ (kA (fun r2 H locs hQ _ hS => ?_))
  obtain ⟨rfl, hR⟩ := hQ
  refine lv_astore (lv' := [(6, .ref (B + (9 + 9 * c))), (0, .ref (B)), (1, .int (nI c)), (2, .int (nI k)), (3, .int (nI ca)), (4, .int (nI d)), (5, .int (nI cl))]) hx hb d_Da_want_5 hl (by decide) rfl (fun ls hl => ?_)
  refine lv_iload_n hx hb d_Da_want_7 rfl (lv_at hl 3 rfl) ?_
  refine lv_bipush (v := 8) hx hb d_Da_want_8 (by decide) ?_
  refine g_callS (As := [.int (nI k), .int (8)]) (rest := []) (A0 := FC B D0) V (c_Da_within C hB σ τ (nI k) (8)) v_Da_43 hR hS hA (fun _ h => h) ⟨by decide, by decide⟩ rfl hl (Nat.le_of_ble_eq_true rfl) d_Da_want_10 ⟨by decide, by decide⟩ (kI (fun r10 H locs hQ _ hS => ?_))
  obtain ⟨rfl, hR⟩ := hQ
  refine lv_if_eq (tgt := 43) hx hb d_Da_want_13 (by decide) (fun h13 => ?_) (fun h13 => ?_)
  · exact absurd (bI_0.mp h13) (by simp [nI_pos (show k < 2 ^ 31 by omega), nI_ge (b := 8) (show k < 8 by omega) (by decide), show (8 : Int32) = nI 8 from rfl])
  · have h13 := bI_n0.mp h13
    refine lv_iload_n hx hb d_Da_want_16 rfl (lv_at hl 4 rfl) ?_
    refine lv_bipush (v := 8) hx hb d_Da_want_17 (by decide) ?_
    refine g_callS (As := [.int (nI ca), .int (8)]) (rest := []) (A0 := FC B D0) V (c_Da_within C hB σ τ (nI ca) (8)) v_Da_43 hR hS hA (fun _ h => h) ⟨by decide, by decide⟩ rfl hl (Nat.le_of_ble_eq_true rfl) d_Da_want_19 ⟨by decide, by decide⟩ (kI (fun r19 H locs hQ _ hS => ?_))
    obtain ⟨rfl, hR⟩ := hQ
    refine lv_if_eq (tgt := 43) hx hb d_Da_want_22 (by decide) (fun h22 => ?_) (fun h22 => ?_)
    · exact absurd (bI_0.mp h22) (by simp [nI_pos (show ca < 2 ^ 31 by omega), nI_ge (b := 8) (show ca < 8 by omega) (by decide), show (8 : Int32) = nI 8 from rfl])
    · have h22 := bI_n0.mp h22
      refine lv_iload hx hb d_Da_want_25 (lv_at hl 5 rfl) ?_
      refine lv_iconst (v := 3) hx hb d_Da_want_27 (by decide) ?_
      refine g_callS (As := [.int (nI d), .int (3)]) (rest := []) (A0 := FC B D0) V (c_Da_within C hB σ τ (nI d) (3)) v_Da_43 hR hS hA (fun _ h => h) ⟨by decide, by decide⟩ rfl hl (Nat.le_of_ble_eq_true rfl) d_Da_want_28 ⟨by decide, by decide⟩ (kI (fun r28 H locs hQ _ hS => ?_))
      obtain ⟨rfl, hR⟩ := hQ
      refine lv_if_eq (tgt := 43) hx hb d_Da_want_31 (by decide) (fun h31 => ?_) (fun h31 => ?_)
      · exact absurd (bI_0.mp h31) (by simp [nI_pos (show d < 2 ^ 31 by omega), nI_ge (b := 3) (show d < 3 by omega) (by decide), show (3 : Int32) = nI 3 from rfl])
      · have h31 := bI_n0.mp h31
        refine lv_iload hx hb d_Da_want_34 (lv_at hl 6 rfl) ?_
        refine lv_iconst (v := 3) hx hb d_Da_want_36 (by decide) ?_
        refine g_callS (As := [.int (nI cl), .int (3)]) (rest := []) (A0 := FC B D0) V (c_Da_within C hB σ τ (nI cl) (3)) v_Da_43 hR hS hA (fun _ h => h) ⟨by decide, by decide⟩ rfl hl (Nat.le_of_ble_eq_true rfl) d_Da_want_37 ⟨by decide, by decide⟩ (kI (fun r37 H locs hQ _ hS => ?_))
        obtain ⟨rfl, hR⟩ := hQ
        refine lv_if_ne (tgt := 51) hx hb d_Da_want_40 (by decide) (fun h40 => ?_) (fun h40 => ?_)
        · have h40 := bI_n0.mp h40
          refine lv_aload hx hb d_Da_want_51 (lv_at hl 0 rfl) ?_
          refine g_Da_50 V (hR.2.2.2 _ hc).1 rfl d_Da_want_53 ?_
          refine g_callV (As := []) (rest := []) (A0 := FC B D0) V (c_Al_size C hB σ τ c hc) v_Da_54 (hR.rAl V.2.2.2.2.2.1 hc) hR hS hA (fun _ h => h) ⟨by decide, by decide⟩ rfl hl (Nat.le_of_ble_eq_true rfl) d_Da_want_56 ⟨by decide, by decide⟩ (kI (fun r56 H locs hQ _ hS => ?_))
          obtain ⟨rfl, hR⟩ := hQ
          refine lv_tope (y := nI w) hw ?_
          refine lv_istore (lv' := [(7, .int (nI w)), (6, .ref (B + (9 + 9 * c))), (0, .ref (B)), (1, .int (nI c)), (2, .int (nI k)), (3, .int (nI ca)), (4, .int (nI d)), (5, .int (nI cl))]) hx hb d_Da_want_59 hl (by decide) rfl (fun ls hl => ?_)
          refine lv_aload hx hb d_Da_want_61 (lv_at hl 1 rfl) ?_
          refine g_callV (As := []) (rest := []) (A0 := FC B D0) V (c_Ct_waitingCount C E hB σ τ c hc w hw hw6) v_Da_60 (hR.rCt V.2.2.2.2.2.1 hc) ⟨hR, Nat.le_trans hD hS.1⟩ hS hA (fun _ h => h) ⟨by decide, by decide⟩ rfl hl (Nat.le_of_ble_eq_true rfl) d_Da_want_63 ⟨by decide, by decide⟩ (kI (fun r H locs hQ _ hS => ?_))
          obtain ⟨rfl, hR⟩ := hQ
          have hwl := wtn_le σ c w
          refine lv_iconst (v := 5) hx hb d_Da_want_66 (by decide) ?_
          refine lv_icmp_eq (tgt := 77) hx hb d_Da_want_67 (by decide) (fun h67 => ?_) (fun h67 => ?_)
          · exact absurd ((nI_eq (b := 5) (by omega) (by decide)).mp h67) h5
          · refine lv_iload hx hb d_Da_want_70 (lv_at hl 0 rfl) ?_
            refine lv_bipush (v := 60) hx hb d_Da_want_72 (by decide) ?_
            refine lv_icmp_ne (tgt := 85) hx hb d_Da_want_74 (by decide) (fun h74 => ?_) (fun h74 => ?_)
            · have hw59 : w < 60 := by omega
              refine lv_aload hx hb d_Da_want_85 (lv_at hl 1 rfl) ?_
              refine g_Da_50 V (hR.2.2.2 _ hc).1 rfl d_Da_want_87 ?_
              have hy0 : D0 ≤ H.size := Nat.le_trans hD hS.1
              have hBD := hR.1
              have hs0 : s0.heap.size ≤ H.size := by omega
              refine x_new (ci := 6) V i_Wi t_Wi t_Wi_ok (List.mem_of_getElem? (i := 445) (by decide +kernel)) (List.mem_of_getElem? (i := 446) (by decide +kernel)) (List.mem_of_getElem? (i := 48) (by decide +kernel)) rfl (fs := [.int 0, .int 0]) (by decide) (by decide) (by decide) d_Da_want_90 (fun H1 hY z1 oq1 => ?_)
              have hS := S_new (H1 := H1) hS z1 oq1
              refine lv_dup hx hb d_Da_want_93 rfl ?_
              refine lv_iload_n hx hb d_Da_want_94 rfl (lv_at hl 4 rfl) ?_
              refine lv_iload_n hx hb d_Da_want_95 rfl (lv_at hl 5 rfl) ?_
              refine lv_iconst (v := 3) hx hb d_Da_want_96 (by decide) ?_
              refine lv_ishl hx hb d_Da_want_97 ?_
              refine lv_ior hx hb d_Da_want_98 ?_
              refine lv_iload hx hb d_Da_want_99 (lv_at hl 6 rfl) ?_
              refine lv_bipush (v := 6) hx hb d_Da_want_101 (by decide) ?_
              refine lv_ishl hx hb d_Da_want_103 ?_
              refine lv_ior hx hb d_Da_want_104 ?_
              refine lv_iload hx hb d_Da_want_105 (lv_at hl 7 rfl) ?_
              refine lv_bipush (v := 8) hx hb d_Da_want_107 (by decide) ?_
              refine lv_ishl hx hb d_Da_want_109 ?_
              refine lv_ior hx hb d_Da_want_110 ?_
              refine lv_iload_n hx hb d_Da_want_111 rfl (lv_at hl 3 rfl) ?_
              refine lv_bipush (v := 10) hx hb d_Da_want_112 (by decide) ?_
              refine lv_ishl hx hb d_Da_want_114 ?_
              refine lv_ior hx hb d_Da_want_115 ?_
              refine lv_iload hx hb d_Da_want_116 (lv_at hl 0 rfl) ?_
              refine lv_bipush (v := 12) hx hb d_Da_want_118 (by decide) ?_
              refine lv_ishl hx hb d_Da_want_120 ?_
              refine lv_ior hx hb d_Da_want_121 ?_
              refine g_callI (As := [.int (encC k ca d cl c w)]) (rest := [.ref (H.size), .ref (B + (11 + 9 * c))]) (A0 := FC B D0) V (c_Wi_init C H.size (encC k ca d cl c w) hs0) v_Da_68 hY hS hA (fun q h => by rw [h]; exact Or.inr hy0) ⟨by decide, by decide⟩ rfl hl (Nat.le_of_ble_eq_true rfl) d_Da_want_122 ⟨by decide, by decide⟩ (kV (fun H2 locs hY hk2 hS => ?_))
              have hAl := ((hR.2.2.2 c hc).2.2.2.1.kept (oq1 _ (hR.2.2.2 c hc).2.2.2.1.lt)).kept (hk2.2 _ (by have := (hR.2.2.2 c hc).2.2.2.1.lt; rw [z1]; exact Nat.lt_succ_of_lt this) (by show ¬ (B + (11 + 9 * c) = H.size); omega))
              refine g_callV (As := [.ref (H.size)]) (rest := []) (A0 := FC B D0) V (c_Al_add C E hB σ τ c hc w hw (by omega) H.size (encC k ca d cl c w)) v_Da_69 (va_recv V.2.2.2.2.2.1 (x_one hAl) (ci := 3) (q0 := 0) rfl rfl) ⟨H, rfl, hR, hy0, fun q hq => (hk2.2 q (by omega) (by show ¬ q = H.size; omega)).trans (oq1 q hq), hY⟩ hS hA (fun _ h => h) ⟨by decide, by decide⟩ rfl hl (Nat.le_of_ble_eq_true rfl) d_Da_want_125 ⟨by decide, by decide⟩ (kI (fun r H3 locs hQ _ hS => ?_))
              obtain ⟨rfl, hQ⟩ := hQ
              refine lv_pop hx hb d_Da_want_128 rfl ?_
              refine lv_iload hx hb d_Da_want_129 (lv_at hl 0 rfl) ?_
              exact e_i V hr hlk hS (by decide) (by decide) d_Da_want_131 ⟨_, rfl, rfl, hQ⟩
            · exact absurd ((nI_eq (b := 60) (by omega) (by decide)).mp h74) h60
        · exact absurd (bI_0.mp h40) (by simp [nI_pos (show cl < 2 ^ 31 by omega), nI_ge (b := 3) (show cl < 3 by omega) (by decide), show (3 : Int32) = nI 3 from rfl])
