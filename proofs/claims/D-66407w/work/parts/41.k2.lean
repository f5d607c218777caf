theorem d_Da_init_0 : decode b_Da_init 0 = .ok (.aload_n 0, 1) := by decide +kernel
theorem d_Da_init_1 : decode b_Da_init 1 = .ok (.invokespecial 1, 3) := by decide +kernel
theorem d_Da_init_4 : decode b_Da_init 4 = .ok (.aload_n 0, 1) := by decide +kernel
theorem d_Da_init_5 : decode b_Da_init 5 = .ok (.iconst 3, 1) := by decide +kernel
theorem d_Da_init_6 : decode b_Da_init 6 = .ok (.anewarray 7, 3) := by decide +kernel
theorem d_Da_init_9 : decode b_Da_init 9 = .ok (.dup, 1) := by decide +kernel
theorem d_Da_init_10 : decode b_Da_init 10 = .ok (.iconst 0, 1) := by decide +kernel
theorem d_Da_init_11 : decode b_Da_init 11 = .ok (.new 7, 3) := by decide +kernel
theorem d_Da_init_14 : decode b_Da_init 14 = .ok (.dup, 1) := by decide +kernel
theorem d_Da_init_15 : decode b_Da_init 15 = .ok (.invokespecial 9, 3) := by decide +kernel
theorem d_Da_init_18 : decode b_Da_init 18 = .ok (.aastore, 1) := by decide +kernel
theorem d_Da_init_19 : decode b_Da_init 19 = .ok (.dup, 1) := by decide +kernel
theorem d_Da_init_20 : decode b_Da_init 20 = .ok (.iconst 1, 1) := by decide +kernel
theorem d_Da_init_21 : decode b_Da_init 21 = .ok (.new 7, 3) := by decide +kernel
theorem d_Da_init_24 : decode b_Da_init 24 = .ok (.dup, 1) := by decide +kernel
theorem d_Da_init_25 : decode b_Da_init 25 = .ok (.invokespecial 9, 3) := by decide +kernel
theorem d_Da_init_28 : decode b_Da_init 28 = .ok (.aastore, 1) := by decide +kernel
theorem d_Da_init_29 : decode b_Da_init 29 = .ok (.dup, 1) := by decide +kernel
theorem d_Da_init_30 : decode b_Da_init 30 = .ok (.iconst 2, 1) := by decide +kernel
theorem d_Da_init_31 : decode b_Da_init 31 = .ok (.new 7, 3) := by decide +kernel
theorem d_Da_init_34 : decode b_Da_init 34 = .ok (.dup, 1) := by decide +kernel
theorem d_Da_init_35 : decode b_Da_init 35 = .ok (.invokespecial 9, 3) := by decide +kernel
theorem d_Da_init_38 : decode b_Da_init 38 = .ok (.aastore, 1) := by decide +kernel
theorem d_Da_init_39 : decode b_Da_init 39 = .ok (.putfield 10, 3) := by decide +kernel
theorem d_Da_init_42 : decode b_Da_init 42 = .ok (.aload_n 0, 1) := by decide +kernel
theorem d_Da_init_43 : decode b_Da_init 43 = .ok (.iconst 3, 1) := by decide +kernel
theorem d_Da_init_44 : decode b_Da_init 44 = .ok (.anewarray 16, 3) := by decide +kernel
theorem d_Da_init_47 : decode b_Da_init 47 = .ok (.dup, 1) := by decide +kernel
theorem d_Da_init_48 : decode b_Da_init 48 = .ok (.iconst 0, 1) := by decide +kernel
theorem d_Da_init_49 : decode b_Da_init 49 = .ok (.new 16, 3) := by decide +kernel
theorem d_Da_init_52 : decode b_Da_init 52 = .ok (.dup, 1) := by decide +kernel
theorem d_Da_init_53 : decode b_Da_init 53 = .ok (.iconst 0, 1) := by decide +kernel
theorem d_Da_init_54 : decode b_Da_init 54 = .ok (.invokespecial 18, 3) := by decide +kernel
theorem d_Da_init_57 : decode b_Da_init 57 = .ok (.aastore, 1) := by decide +kernel
theorem d_Da_init_58 : decode b_Da_init 58 = .ok (.dup, 1) := by decide +kernel
theorem d_Da_init_59 : decode b_Da_init 59 = .ok (.iconst 1, 1) := by decide +kernel
theorem d_Da_init_60 : decode b_Da_init 60 = .ok (.new 16, 3) := by decide +kernel
theorem d_Da_init_63 : decode b_Da_init 63 = .ok (.dup, 1) := by decide +kernel
theorem d_Da_init_64 : decode b_Da_init 64 = .ok (.iconst 1, 1) := by decide +kernel
theorem d_Da_init_65 : decode b_Da_init 65 = .ok (.invokespecial 18, 3) := by decide +kernel
theorem d_Da_init_68 : decode b_Da_init 68 = .ok (.aastore, 1) := by decide +kernel
theorem d_Da_init_69 : decode b_Da_init 69 = .ok (.dup, 1) := by decide +kernel
theorem d_Da_init_70 : decode b_Da_init 70 = .ok (.iconst 2, 1) := by decide +kernel
theorem d_Da_init_71 : decode b_Da_init 71 = .ok (.new 16, 3) := by decide +kernel
theorem d_Da_init_74 : decode b_Da_init 74 = .ok (.dup, 1) := by decide +kernel
theorem d_Da_init_75 : decode b_Da_init 75 = .ok (.iconst 2, 1) := by decide +kernel
theorem d_Da_init_76 : decode b_Da_init 76 = .ok (.invokespecial 18, 3) := by decide +kernel
theorem d_Da_init_79 : decode b_Da_init 79 = .ok (.aastore, 1) := by decide +kernel
theorem d_Da_init_80 : decode b_Da_init 80 = .ok (.putfield 21, 3) := by decide +kernel
theorem d_Da_init_83 : decode b_Da_init 83 = .ok (.return_, 1) := by decide +kernel
set_option maxHeartbeats 4000000 in
set_option maxRecDepth 100000 in
theorem c_Da_init {l : Launch} {G : Gx} {s0 : State} (C : Cx G s0) {ea mi : Nat} (E : Es0 s0 ea mi) (o : Nat) (h0 : s0.heap.size ≤ o) : Ct l s0 (fun q => o ≤ q) 4 35 2370 y_Da_init b_Da_init 1 none [.ref (o)] (fun H => va_at G.1 classes (o, .inr (0, [.null, .null])) H ∧ H.size = o + 1) (pV (fun H => (∀ D0, o + 36 ≤ D0 → RepC G o D0 ea iJ (t0 ea) H) ∧ H.size = o + 36)) := by
  refine Ct.of C (by decide) (Nat.le_of_ble_eq_true rfl) ?_
  intro pg ev s mm below meth cd V hr hlk hn hR ls hl
  have hx := V.1
  have hb := V.2.1
  have hS : va_S (fun q => o ≤ q) s.heap s.heap [] := va_S.rf
  have hA : ∀ q, (fun q => o ≤ q) q → s0.heap.size ≤ q := fun q h => by have h : o ≤ q := h; omega
  have hl : lv_has ls 1 [(0, .ref (o))] := hl
  obtain ⟨hO, hz⟩ := hR
  refine lv_aload_n hx hb d_Da_init_0 rfl (lv_at hl 0 rfl) ?_
  refine x_obj V (List.mem_of_getElem? (i := 61) (by decide +kernel)) hl d_Da_init_1 ⟨by decide, by decide⟩ (by decide) ?_
  refine lv_aload_n hx hb d_Da_init_4 rfl (lv_at hl 0 rfl) ?_
  refine lv_iconst (v := 3) hx hb d_Da_init_5 (by decide) ?_
  refine x_newq V 3 rfl (List.mem_of_getElem? (i := 64) (by decide +kernel)) (List.mem_of_getElem? (i := 65) (by decide +kernel)) 3 (rfl : (3 : Int32) = nI 3) (by decide) (by decide) (by decide) d_Da_init_6 (fun H n6 z1 oq => ?_)
  rw [hz] at n6 z1 oq ⊢
  replace hO := hO.kept (oq _ (by show o < o + 1; omega))
  replace hS := S_new (H1 := H) hS (by rw [hz]; exact z1) (by rw [hz]; exact oq)
  replace hz : H.size = o + 2 := z1
  clear z1 oq
  refine lv_dup hx hb d_Da_init_9 rfl ?_
  refine lv_iconst (v := 0) hx hb d_Da_init_10 (by decide) ?_
  refine x_new (ci := 1) V i_Dk t_Dk t_Dk_ok (List.mem_of_getElem? (i := 64) (by decide +kernel)) (List.mem_of_getElem? (i := 66) (by decide +kernel)) (List.mem_of_getElem? (i := 30) (by decide +kernel)) rfl (fs := [.int 0, .null]) (by decide) (by decide) (by decide) d_Da_init_11 (fun H n11 z1 oq => ?_)
  rw [hz] at n11 z1 oq ⊢
  replace hO := hO.kept (oq _ (by show o < o + 2; omega))
  replace n6 := n6.kept (oq _ (by show o + 1 < o + 2; omega))
  replace hS := S_new (H1 := H) hS (by rw [hz]; exact z1) (by rw [hz]; exact oq)
  replace hz : H.size = o + 3 := z1
  clear z1 oq
  refine lv_dup hx hb d_Da_init_14 rfl ?_
  refine g_callIN (As := []) (rest := [.ref (o + 2), .int (0), .ref (o + 1), .ref (o + 1), .ref (o)]) (A0 := (fun q => o ≤ q)) V (c_Dk_init C (o + 2) (o + 3) (by omega) (by omega)) v_Da_9 ⟨n11, hz⟩ hS hA (fun q h => by have h : q = o + 2 ∨ o + 3 ≤ q := h; show o ≤ q; omega) ⟨by decide, by decide⟩ rfl hl (Nat.le_of_ble_eq_true rfl) d_Da_init_15 ⟨by decide, by decide⟩ (kV (fun H locs hQ hk hS1 => ?_))
  replace hO := hO.kept (hk.2 _ hO.lt (by show ¬ (o = o + 2 ∨ o + 3 ≤ o); omega))
  replace n6 := n6.kept (hk.2 _ n6.lt (by show ¬ (o + 1 = o + 2 ∨ o + 3 ≤ o + 1); omega))
  clear n11 hz
  obtain ⟨n11, hz⟩ := hQ
  replace hS := hS1
  replace hz : H.size = o + 4 := hz
  clear hk
  refine x_aast V 3 n6 rfl (va_recv V.2.2.2.2.2.1 (x_one n11.1) (ci := 1) (q0 := 0) rfl rfl) vb_asgS (0) (rfl : (0 : Int32) = nI 0) (by decide) (by decide) d_Da_init_18 (fun H i n6 z1 oq => ?_)
  replace hS := hS.put (k := i) z1 oq (by show o ≤ o + 1; omega)
  replace hO := hO.kept (oq _ (by show o ≠ o + 1; omega))
  replace n11 := n11.kept (fun q g1 g2 => oq q (by omega))
  replace hz := z1.trans hz
  clear z1 oq
  refine lv_dup hx hb d_Da_init_19 rfl ?_
  refine lv_iconst (v := 1) hx hb d_Da_init_20 (by decide) ?_
  refine x_new (ci := 1) V i_Dk t_Dk t_Dk_ok (List.mem_of_getElem? (i := 64) (by decide +kernel)) (List.mem_of_getElem? (i := 66) (by decide +kernel)) (List.mem_of_getElem? (i := 30) (by decide +kernel)) rfl (fs := [.int 0, .null]) (by decide) (by decide) (by decide) d_Da_init_21 (fun H n21 z1 oq => ?_)
  rw [hz] at n21 z1 oq ⊢
  replace hO := hO.kept (oq _ (by show o < o + 4; omega))
  replace n6 := n6.kept (oq _ (by show o + 1 < o + 4; omega))
  replace n11 := n11.kept (fun q g1 g2 => oq q (by omega))
  replace hS := S_new (H1 := H) hS (by rw [hz]; exact z1) (by rw [hz]; exact oq)
  replace hz : H.size = o + 5 := z1
  clear z1 oq
  refine lv_dup hx hb d_Da_init_24 rfl ?_
  refine g_callIN (As := []) (rest := [.ref (o + 4), .int (1), .ref (o + 1), .ref (o + 1), .ref (o)]) (A0 := (fun q => o ≤ q)) V (c_Dk_init C (o + 4) (o + 5) (by omega) (by omega)) v_Da_9 ⟨n21, hz⟩ hS hA (fun q h => by have h : q = o + 4 ∨ o + 5 ≤ q := h; show o ≤ q; omega) ⟨by decide, by decide⟩ rfl hl (Nat.le_of_ble_eq_true rfl) d_Da_init_25 ⟨by decide, by decide⟩ (kV (fun H locs hQ hk hS1 => ?_))
  replace hO := hO.kept (hk.2 _ hO.lt (by show ¬ (o = o + 4 ∨ o + 5 ≤ o); omega))
  replace n6 := n6.kept (hk.2 _ n6.lt (by show ¬ (o + 1 = o + 4 ∨ o + 5 ≤ o + 1); omega))
  replace n11 := n11.kept (fun q g1 g2 => hk.2 q g1 (by show ¬ (q = o + 4 ∨ o + 5 ≤ q); omega))
  clear n21 hz
  obtain ⟨n21, hz⟩ := hQ
  replace hS := hS1
  replace hz : H.size = o + 6 := hz
  clear hk
  refine x_aast V 3 n6 rfl (va_recv V.2.2.2.2.2.1 (x_one n21.1) (ci := 1) (q0 := 0) rfl rfl) vb_asgS (1) (rfl : (1 : Int32) = nI 1) (by decide) (by decide) d_Da_init_28 (fun H i n6 z1 oq => ?_)
  replace hS := hS.put (k := i) z1 oq (by show o ≤ o + 1; omega)
  replace hO := hO.kept (oq _ (by show o ≠ o + 1; omega))
  replace n11 := n11.kept (fun q g1 g2 => oq q (by omega))
  replace n21 := n21.kept (fun q g1 g2 => oq q (by omega))
  replace hz := z1.trans hz
  clear z1 oq
  refine lv_dup hx hb d_Da_init_29 rfl ?_
  refine lv_iconst (v := 2) hx hb d_Da_init_30 (by decide) ?_
  refine x_new (ci := 1) V i_Dk t_Dk t_Dk_ok (List.mem_of_getElem? (i := 64) (by decide +kernel)) (List.mem_of_getElem? (i := 66) (by decide +kernel)) (List.mem_of_getElem? (i := 30) (by decide +kernel)) rfl (fs := [.int 0, .null]) (by decide) (by decide) (by decide) d_Da_init_31 (fun H n31 z1 oq => ?_)
  rw [hz] at n31 z1 oq ⊢
  replace hO := hO.kept (oq _ (by show o < o + 6; omega))
  replace n6 := n6.kept (oq _ (by show o + 1 < o + 6; omega))
  replace n11 := n11.kept (fun q g1 g2 => oq q (by omega))
  replace n21 := n21.kept (fun q g1 g2 => oq q (by omega))
  replace hS := S_new (H1 := H) hS (by rw [hz]; exact z1) (by rw [hz]; exact oq)
  replace hz : H.size = o + 7 := z1
  clear z1 oq
  refine lv_dup hx hb d_Da_init_34 rfl ?_
  refine g_callIN (As := []) (rest := [.ref (o + 6), .int (2), .ref (o + 1), .ref (o + 1), .ref (o)]) (A0 := (fun q => o ≤ q)) V (c_Dk_init C (o + 6) (o + 7) (by omega) (by omega)) v_Da_9 ⟨n31, hz⟩ hS hA (fun q h => by have h : q = o + 6 ∨ o + 7 ≤ q := h; show o ≤ q; omega) ⟨by decide, by decide⟩ rfl hl (Nat.le_of_ble_eq_true rfl) d_Da_init_35 ⟨by decide, by decide⟩ (kV (fun H locs hQ hk hS1 => ?_))
  replace hO := hO.kept (hk.2 _ hO.lt (by show ¬ (o = o + 6 ∨ o + 7 ≤ o); omega))
  replace n6 := n6.kept (hk.2 _ n6.lt (by show ¬ (o + 1 = o + 6 ∨ o + 7 ≤ o + 1); omega))
  replace n11 := n11.kept (fun q g1 g2 => hk.2 q g1 (by show ¬ (q = o + 6 ∨ o + 7 ≤ q); omega))
  replace n21 := n21.kept (fun q g1 g2 => hk.2 q g1 (by show ¬ (q = o + 6 ∨ o + 7 ≤ q); omega))
  clear n31 hz
  obtain ⟨n31, hz⟩ := hQ
  replace hS := hS1
  replace hz : H.size = o + 8 := hz
  clear hk
  refine x_aast V 3 n6 rfl (va_recv V.2.2.2.2.2.1 (x_one n31.1) (ci := 1) (q0 := 0) rfl rfl) vb_asgS (2) (rfl : (2 : Int32) = nI 2) (by decide) (by decide) d_Da_init_38 (fun H i n6 z1 oq => ?_)
  replace hS := hS.put (k := i) z1 oq (by show o ≤ o + 1; omega)
  replace hO := hO.kept (oq _ (by show o ≠ o + 1; omega))
  replace n11 := n11.kept (fun q g1 g2 => oq q (by omega))
  replace n21 := n21.kept (fun q g1 g2 => oq q (by omega))
  replace n31 := n31.kept (fun q g1 g2 => oq q (by omega))
  replace hz := z1.trans hz
  clear z1 oq
  refine x_putF V i_Da t_Da t_Da_ok n_Da hO rfl 0 (by decide) wk_Da_10 (fun x h => h) rfl hn rfl rfl rfl (Nat.le_of_ble_eq_true rfl) d_Da_init_39 (fun H i hO z1 oq => ?_)
  replace hS := hS.put (k := i) z1 oq (by show o ≤ o; omega)
  replace n6 := n6.kept (oq _ (by show o + 1 ≠ o; omega))
  replace n11 := n11.kept (fun q g1 g2 => oq q (by omega))
  replace n21 := n21.kept (fun q g1 g2 => oq q (by omega))
  replace n31 := n31.kept (fun q g1 g2 => oq q (by omega))
  replace hz := z1.trans hz
  clear z1 oq
  refine lv_aload_n hx hb d_Da_init_42 rfl (lv_at hl 0 rfl) ?_
  refine lv_iconst (v := 3) hx hb d_Da_init_43 (by decide) ?_
  refine x_newq V 4 rfl (List.mem_of_getElem? (i := 83) (by decide +kernel)) (List.mem_of_getElem? (i := 84) (by decide +kernel)) 3 (rfl : (3 : Int32) = nI 3) (by decide) (by decide) (by decide) d_Da_init_44 (fun H n44 z1 oq => ?_)
  rw [hz] at n44 z1 oq ⊢
  replace hO := hO.kept (oq _ (by show o < o + 8; omega))
  replace n6 := n6.kept (oq _ (by show o + 1 < o + 8; omega))
  replace n11 := n11.kept (fun q g1 g2 => oq q (by omega))
  replace n21 := n21.kept (fun q g1 g2 => oq q (by omega))
  replace n31 := n31.kept (fun q g1 g2 => oq q (by omega))
  replace hS := S_new (H1 := H) hS (by rw [hz]; exact z1) (by rw [hz]; exact oq)
  replace hz : H.size = o + 9 := z1
  clear z1 oq
  refine lv_dup hx hb d_Da_init_47 rfl ?_
  refine lv_iconst (v := 0) hx hb d_Da_init_48 (by decide) ?_
  refine x_new (ci := 2) V i_Ct t_Ct t_Ct_ok (List.mem_of_getElem? (i := 83) (by decide +kernel)) (List.mem_of_getElem? (i := 85) (by decide +kernel)) (List.mem_of_getElem? (i := 31) (by decide +kernel)) rfl (fs := [.int 0, .null, .int 0, .null, .int 0, .int 0, .int 0, .null, .int 0, .int 0, .int 0, .int 0, .int 0, .int 0, .int 0, .int 0, .int 0]) (by decide) (by decide) (by decide) d_Da_init_49 (fun H n49 z1 oq => ?_)
  rw [hz] at n49 z1 oq ⊢
  replace hO := hO.kept (oq _ (by show o < o + 9; omega))
  replace n6 := n6.kept (oq _ (by show o + 1 < o + 9; omega))
  replace n11 := n11.kept (fun q g1 g2 => oq q (by omega))
  replace n21 := n21.kept (fun q g1 g2 => oq q (by omega))
  replace n31 := n31.kept (fun q g1 g2 => oq q (by omega))
  replace n44 := n44.kept (oq _ (by show o + 8 < o + 9; omega))
  replace hS := S_new (H1 := H) hS (by rw [hz]; exact z1) (by rw [hz]; exact oq)
  replace hz : H.size = o + 10 := z1
  clear z1 oq
  refine lv_dup hx hb d_Da_init_52 rfl ?_
  refine lv_iconst (v := 0) hx hb d_Da_init_53 (by decide) ?_
  refine lv_tope (y := nI 0) rfl ?_
  refine g_callI (As := [.int (nI 0)]) (rest := [.ref (o + 9), .int (0), .ref (o + 8), .ref (o + 8), .ref (o)]) (A0 := (fun q => o ≤ q)) V (c_Ct_init C E (o + 9) (o + 10) (by omega) (by omega) (0)) v_Da_18 ⟨n49, hz⟩ hS hA (fun q h => by have h : q = o + 9 ∨ o + 10 ≤ q := h; show o ≤ q; omega) ⟨by decide, by decide⟩ rfl hl (Nat.le_of_ble_eq_true rfl) d_Da_init_54 ⟨by decide, by decide⟩ (kV (fun H locs hQ hk hS1 => ?_))
  replace hO := hO.kept (hk.2 _ hO.lt (by show ¬ (o = o + 9 ∨ o + 10 ≤ o); omega))
  replace n6 := n6.kept (hk.2 _ n6.lt (by show ¬ (o + 1 = o + 9 ∨ o + 10 ≤ o + 1); omega))
  replace n11 := n11.kept (fun q g1 g2 => hk.2 q g1 (by show ¬ (q = o + 9 ∨ o + 10 ≤ q); omega))
  replace n21 := n21.kept (fun q g1 g2 => hk.2 q g1 (by show ¬ (q = o + 9 ∨ o + 10 ≤ q); omega))
  replace n31 := n31.kept (fun q g1 g2 => hk.2 q g1 (by show ¬ (q = o + 9 ∨ o + 10 ≤ q); omega))
  replace n44 := n44.kept (hk.2 _ n44.lt (by show ¬ (o + 8 = o + 9 ∨ o + 10 ≤ o + 8); omega))
  clear n49 hz
  obtain ⟨n49, hz⟩ := hQ
  replace hS := hS1
  replace hz : H.size = o + 18 := hz
  clear hk
  refine x_aast V 4 n44 rfl (va_recv V.2.2.2.2.2.1 (x_one n49.1) (ci := 2) (q0 := 0) rfl rfl) vb_asgS (0) (rfl : (0 : Int32) = nI 0) (by decide) (by decide) d_Da_init_57 (fun H i n44 z1 oq => ?_)
  replace hS := hS.put (k := i) z1 oq (by show o ≤ o + 8; omega)
  replace hO := hO.kept (oq _ (by show o ≠ o + 8; omega))
  replace n6 := n6.kept (oq _ (by show o + 1 ≠ o + 8; omega))
  replace n11 := n11.kept (fun q g1 g2 => oq q (by omega))
  replace n21 := n21.kept (fun q g1 g2 => oq q (by omega))
  replace n31 := n31.kept (fun q g1 g2 => oq q (by omega))
  replace n49 := n49.kept (fun q g1 g2 => oq q (by omega))
  replace hz := z1.trans hz
  clear z1 oq
  refine lv_dup hx hb d_Da_init_58 rfl ?_
  refine lv_iconst (v := 1) hx hb d_Da_init_59 (by decide) ?_
  refine x_new (ci := 2) V i_Ct t_Ct t_Ct_ok (List.mem_of_getElem? (i := 83) (by decide +kernel)) (List.mem_of_getElem? (i := 85) (by decide +kernel)) (List.mem_of_getElem? (i := 31) (by decide +kernel)) rfl (fs := [.int 0, .null, .int 0, .null, .int 0, .int 0, .int 0, .null, .int 0, .int 0, .int 0, .int 0, .int 0, .int 0, .int 0, .int 0, .int 0]) (by decide) (by decide) (by decide) d_Da_init_60 (fun H n60 z1 oq => ?_)
  rw [hz] at n60 z1 oq ⊢
  replace hO := hO.kept (oq _ (by show o < o + 18; omega))
  replace n6 := n6.kept (oq _ (by show o + 1 < o + 18; omega))
  replace n11 := n11.kept (fun q g1 g2 => oq q (by omega))
  replace n21 := n21.kept (fun q g1 g2 => oq q (by omega))
  replace n31 := n31.kept (fun q g1 g2 => oq q (by omega))
  replace n44 := n44.kept (oq _ (by show o + 8 < o + 18; omega))
  replace n49 := n49.kept (fun q g1 g2 => oq q (by omega))
  replace hS := S_new (H1 := H) hS (by rw [hz]; exact z1) (by rw [hz]; exact oq)
  replace hz : H.size = o + 19 := z1
  clear z1 oq
  refine lv_dup hx hb d_Da_init_63 rfl ?_
  refine lv_iconst (v := 1) hx hb d_Da_init_64 (by decide) ?_
  refine lv_tope (y := nI 1) rfl ?_
  refine g_callI (As := [.int (nI 1)]) (rest := [.ref (o + 18), .int (1), .ref (o + 8), .ref (o + 8), .ref (o)]) (A0 := (fun q => o ≤ q)) V (c_Ct_init C E (o + 18) (o + 19) (by omega) (by omega) (1)) v_Da_18 ⟨n60, hz⟩ hS hA (fun q h => by have h : q = o + 18 ∨ o + 19 ≤ q := h; show o ≤ q; omega) ⟨by decide, by decide⟩ rfl hl (Nat.le_of_ble_eq_true rfl) d_Da_init_65 ⟨by decide, by decide⟩ (kV (fun H locs hQ hk hS1 => ?_))
  replace hO := hO.kept (hk.2 _ hO.lt (by show ¬ (o = o + 18 ∨ o + 19 ≤ o); omega))
  replace n6 := n6.kept (hk.2 _ n6.lt (by show ¬ (o + 1 = o + 18 ∨ o + 19 ≤ o + 1); omega))
  replace n11 := n11.kept (fun q g1 g2 => hk.2 q g1 (by show ¬ (q = o + 18 ∨ o + 19 ≤ q); omega))
  replace n21 := n21.kept (fun q g1 g2 => hk.2 q g1 (by show ¬ (q = o + 18 ∨ o + 19 ≤ q); omega))
  replace n31 := n31.kept (fun q g1 g2 => hk.2 q g1 (by show ¬ (q = o + 18 ∨ o + 19 ≤ q); omega))
  replace n44 := n44.kept (hk.2 _ n44.lt (by show ¬ (o + 8 = o + 18 ∨ o + 19 ≤ o + 8); omega))
  replace n49 := n49.kept (fun q g1 g2 => hk.2 q g1 (by show ¬ (q = o + 18 ∨ o + 19 ≤ q); omega))
  clear n60 hz
  obtain ⟨n60, hz⟩ := hQ
  replace hS := hS1
  replace hz : H.size = o + 27 := hz
  clear hk
  refine x_aast V 4 n44 rfl (va_recv V.2.2.2.2.2.1 (x_one n60.1) (ci := 2) (q0 := 0) rfl rfl) vb_asgS (1) (rfl : (1 : Int32) = nI 1) (by decide) (by decide) d_Da_init_68 (fun H i n44 z1 oq => ?_)
  replace hS := hS.put (k := i) z1 oq (by show o ≤ o + 8; omega)
  replace hO := hO.kept (oq _ (by show o ≠ o + 8; omega))
  replace n6 := n6.kept (oq _ (by show o + 1 ≠ o + 8; omega))
  replace n11 := n11.kept (fun q g1 g2 => oq q (by omega))
  replace n21 := n21.kept (fun q g1 g2 => oq q (by omega))
  replace n31 := n31.kept (fun q g1 g2 => oq q (by omega))
  replace n49 := n49.kept (fun q g1 g2 => oq q (by omega))
  replace n60 := n60.kept (fun q g1 g2 => oq q (by omega))
  replace hz := z1.trans hz
  clear z1 oq
  refine lv_dup hx hb d_Da_init_69 rfl ?_
  refine lv_iconst (v := 2) hx hb d_Da_init_70 (by decide) ?_
  refine x_new (ci := 2) V i_Ct t_Ct t_Ct_ok (List.mem_of_getElem? (i := 83) (by decide +kernel)) (List.mem_of_getElem? (i := 85) (by decide +kernel)) (List.mem_of_getElem? (i := 31) (by decide +kernel)) rfl (fs := [.int 0, .null, .int 0, .null, .int 0, .int 0, .int 0, .null, .int 0, .int 0, .int 0, .int 0, .int 0, .int 0, .int 0, .int 0, .int 0]) (by decide) (by decide) (by decide) d_Da_init_71 (fun H n71 z1 oq => ?_)
  rw [hz] at n71 z1 oq ⊢
  replace hO := hO.kept (oq _ (by show o < o + 27; omega))
  replace n6 := n6.kept (oq _ (by show o + 1 < o + 27; omega))
  replace n11 := n11.kept (fun q g1 g2 => oq q (by omega))
  replace n21 := n21.kept (fun q g1 g2 => oq q (by omega))
  replace n31 := n31.kept (fun q g1 g2 => oq q (by omega))
  replace n44 := n44.kept (oq _ (by show o + 8 < o + 27; omega))
  replace n49 := n49.kept (fun q g1 g2 => oq q (by omega))
  replace n60 := n60.kept (fun q g1 g2 => oq q (by omega))
  replace hS := S_new (H1 := H) hS (by rw [hz]; exact z1) (by rw [hz]; exact oq)
  replace hz : H.size = o + 28 := z1
  clear z1 oq
  refine lv_dup hx hb d_Da_init_74 rfl ?_
  refine lv_iconst (v := 2) hx hb d_Da_init_75 (by decide) ?_
  refine lv_tope (y := nI 2) rfl ?_
  refine g_callI (As := [.int (nI 2)]) (rest := [.ref (o + 27), .int (2), .ref (o + 8), .ref (o + 8), .ref (o)]) (A0 := (fun q => o ≤ q)) V (c_Ct_init C E (o + 27) (o + 28) (by omega) (by omega) (2)) v_Da_18 ⟨n71, hz⟩ hS hA (fun q h => by have h : q = o + 27 ∨ o + 28 ≤ q := h; show o ≤ q; omega) ⟨by decide, by decide⟩ rfl hl (Nat.le_of_ble_eq_true rfl) d_Da_init_76 ⟨by decide, by decide⟩ (kV (fun H locs hQ hk hS1 => ?_))
  replace hO := hO.kept (hk.2 _ hO.lt (by show ¬ (o = o + 27 ∨ o + 28 ≤ o); omega))
  replace n6 := n6.kept (hk.2 _ n6.lt (by show ¬ (o + 1 = o + 27 ∨ o + 28 ≤ o + 1); omega))
  replace n11 := n11.kept (fun q g1 g2 => hk.2 q g1 (by show ¬ (q = o + 27 ∨ o + 28 ≤ q); omega))
  replace n21 := n21.kept (fun q g1 g2 => hk.2 q g1 (by show ¬ (q = o + 27 ∨ o + 28 ≤ q); omega))
  replace n31 := n31.kept (fun q g1 g2 => hk.2 q g1 (by show ¬ (q = o + 27 ∨ o + 28 ≤ q); omega))
  replace n44 := n44.kept (hk.2 _ n44.lt (by show ¬ (o + 8 = o + 27 ∨ o + 28 ≤ o + 8); omega))
  replace n49 := n49.kept (fun q g1 g2 => hk.2 q g1 (by show ¬ (q = o + 27 ∨ o + 28 ≤ q); omega))
  replace n60 := n60.kept (fun q g1 g2 => hk.2 q g1 (by show ¬ (q = o + 27 ∨ o + 28 ≤ q); omega))
  clear n71 hz
  obtain ⟨n71, hz⟩ := hQ
  replace hS := hS1
  replace hz : H.size = o + 36 := hz
  clear hk
  refine x_aast V 4 n44 rfl (va_recv V.2.2.2.2.2.1 (x_one n71.1) (ci := 2) (q0 := 0) rfl rfl) vb_asgS (2) (rfl : (2 : Int32) = nI 2) (by decide) (by decide) d_Da_init_79 (fun H i n44 z1 oq => ?_)
  replace hS := hS.put (k := i) z1 oq (by show o ≤ o + 8; omega)
  replace hO := hO.kept (oq _ (by show o ≠ o + 8; omega))
  replace n6 := n6.kept (oq _ (by show o + 1 ≠ o + 8; omega))
  replace n11 := n11.kept (fun q g1 g2 => oq q (by omega))
  replace n21 := n21.kept (fun q g1 g2 => oq q (by omega))
  replace n31 := n31.kept (fun q g1 g2 => oq q (by omega))
  replace n49 := n49.kept (fun q g1 g2 => oq q (by omega))
  replace n60 := n60.kept (fun q g1 g2 => oq q (by omega))
  replace n71 := n71.kept (fun q g1 g2 => oq q (by omega))
  replace hz := z1.trans hz
  clear z1 oq
  refine x_putF V i_Da t_Da t_Da_ok n_Da hO rfl 1 (by decide) wk_Da_21 (fun x h => h) rfl hn rfl rfl rfl (Nat.le_of_ble_eq_true rfl) d_Da_init_80 (fun H i hO z1 oq => ?_)
  replace hS := hS.put (k := i) z1 oq (by show o ≤ o; omega)
  replace n6 := n6.kept (oq _ (by show o + 1 ≠ o; omega))
  replace n11 := n11.kept (fun q g1 g2 => oq q (by omega))
  replace n21 := n21.kept (fun q g1 g2 => oq q (by omega))
  replace n31 := n31.kept (fun q g1 g2 => oq q (by omega))
  replace n44 := n44.kept (oq _ (by show o + 8 ≠ o; omega))
  replace n49 := n49.kept (fun q g1 g2 => oq q (by omega))
  replace n60 := n60.kept (fun q g1 g2 => oq q (by omega))
  replace n71 := n71.kept (fun q g1 g2 => oq q (by omega))
  replace hz := z1.trans hz
  clear z1 oq
  have hDa : va_at G.1 classes (o + 1, .inl (G.2 3, (3, vq (fun j => some (o + (2 + 2 * j)))))) H := at_cq n6 (fun j hj => by
    rcases (show j = 0 ∨ j = 1 ∨ j = 2 by omega) with rfl | rfl | rfl <;> rfl)
  have hCa : va_at G.1 classes (o + 8, .inl (G.2 4, (3, vq (fun j => some (o + (9 + 9 * j)))))) H := at_cq n44 (fun j hj => by
    rcases (show j = 0 ∨ j = 1 ∨ j = 2 by omega) with rfl | rfl | rfl <;> rfl)
  exact e_v V hr hlk hS (by decide) (by decide) d_Da_init_83 ⟨rfl, fun D0 hD0 => ⟨hD0, ⟨hO, hDa, hCa⟩, fun d hd => by
    rcases (show d = 0 ∨ d = 1 ∨ d = 2 by omega) with rfl | rfl | rfl
    · exact RpD.init n11
    · exact RpD.init n21
    · exact RpD.init n31, fun c hc => by
    rcases (show c = 0 ∨ c = 1 ∨ c = 2 by omega) with rfl | rfl | rfl
    · exact RpC.init (by decide) n49
    · exact RpC.init (by decide) n60
    · exact RpC.init (by decide) n71⟩, hz⟩
