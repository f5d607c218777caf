abbrev b_Ab_init : ByteArray := prog_24_method_1_code
abbrev y_Ab_init : MethodName := ⟨"java/util/AbstractList", "<init>", "()V"⟩
abbrev b_Ac_init : ByteArray := prog_23_method_1_code
abbrev y_Ac_init : MethodName := ⟨"java/util/AbstractCollection", "<init>", "()V"⟩
theorem v_Ab_1 : CI "java/util/AbstractList" 1 y_Ac_init b_Ac_init 1 0 := ⟨⟨List.mem_of_getElem? (i := 100) (by decide +kernel), List.mem_of_getElem? (i := 32) (by decide +kernel), List.mem_of_getElem? (i := 98) (by decide +kernel)⟩, ⟨List.mem_of_getElem? (i := 99) (by decide +kernel), rfl⟩, by decide, by decide, by decide +kernel⟩
theorem v_Al_1 : CI "java/util/ArrayList" 1 y_Ab_init b_Ab_init 1 0 := ⟨⟨List.mem_of_getElem? (i := 97) (by decide +kernel), List.mem_of_getElem? (i := 33) (by decide +kernel), List.mem_of_getElem? (i := 95) (by decide +kernel)⟩, ⟨List.mem_of_getElem? (i := 96) (by decide +kernel), rfl⟩, by decide, by decide, by decide +kernel⟩
theorem d_Dr_init_0 : decode b_Dr_init 0 = .ok (.aload_n 0, 1) := by decide +kernel
theorem d_Dr_init_1 : decode b_Dr_init 1 = .ok (.invokespecial 3, 3) := by decide +kernel
theorem d_Dr_init_4 : decode b_Dr_init 4 = .ok (.aload_n 0, 1) := by decide +kernel
theorem d_Dr_init_5 : decode b_Dr_init 5 = .ok (.iconst (-1), 1) := by decide +kernel
theorem d_Dr_init_6 : decode b_Dr_init 6 = .ok (.putfield 9, 3) := by decide +kernel
theorem d_Dr_init_9 : decode b_Dr_init 9 = .ok (.aload_n 0, 1) := by decide +kernel
theorem d_Dr_init_10 : decode b_Dr_init 10 = .ok (.iconst (-1), 1) := by decide +kernel
theorem d_Dr_init_11 : decode b_Dr_init 11 = .ok (.putfield 15, 3) := by decide +kernel
theorem d_Dr_init_14 : decode b_Dr_init 14 = .ok (.return_, 1) := by decide +kernel
set_option maxHeartbeats 4000000 in
set_option maxRecDepth 100000 in
theorem c_Dr_init {l : Launch} {G : Gx} {s0 : State} (C : Cx G s0) (o z : Nat) (h0 : s0.heap.size ≤ o) (hoz : o < z) : Ct l s0 (fun q => q = o) 0 0 0 y_Dr_init b_Dr_init 1 none [.ref (o)] (fun H => va_at G.1 classes (o, .inr (5, [.int 0, .int 0, .int 0])) H ∧ H.size = z) (pV (fun H => va_at G.1 classes (o, .inr (5, [.int (-1), .int 0, .int (-1)])) H ∧ H.size = z)) := by
  refine Ct.of C (by decide) (Nat.le_of_ble_eq_true rfl) ?_
  intro pg ev s mm below meth cd V hr hlk hn hR ls hl
  have hx := V.1
  have hb := V.2.1
  have hS : va_S (fun q => q = o) s.heap s.heap [] := va_S.rf
  have hA : ∀ q, (fun q => q = o) q → s0.heap.size ≤ q := fun q h => by have h : q = o := h; omega
  have hl : lv_has ls 1 [(0, .ref (o))] := hl
  obtain ⟨hO, hz⟩ := hR
  refine lv_aload_n hx hb d_Dr_init_0 rfl (lv_at hl 0 rfl) ?_
  refine x_obj V (List.mem_of_getElem? (i := 131) (by decide +kernel)) hl d_Dr_init_1 ⟨by decide, by decide⟩ (by decide) ?_
  refine lv_aload_n hx hb d_Dr_init_4 rfl (lv_at hl 0 rfl) ?_
  refine lv_iconst (v := -1) hx hb d_Dr_init_5 (by decide) ?_
  refine p_Dr_9 V hO (Nat.le_of_ble_eq_true rfl) d_Dr_init_6 (fun H i hO z1 oq => ?_)
  replace hS := hS.put (k := i) z1 oq (by show o = o; omega)
  replace hz := z1.trans hz
  clear z1 oq
  refine lv_aload_n hx hb d_Dr_init_9 rfl (lv_at hl 0 rfl) ?_
  refine lv_iconst (v := -1) hx hb d_Dr_init_10 (by decide) ?_
  refine p_Dr_15 V hO (Nat.le_of_ble_eq_true rfl) d_Dr_init_11 (fun H i hO z1 oq => ?_)
  replace hS := hS.put (k := i) z1 oq (by show o = o; omega)
  replace hz := z1.trans hz
  clear z1 oq
  exact e_v V hr hlk hS (by decide) (by decide) d_Dr_init_14 ⟨rfl, hO, hz⟩
theorem d_Dk_init_0 : decode b_Dk_init 0 = .ok (.aload_n 0, 1) := by decide +kernel
theorem d_Dk_init_1 : decode b_Dk_init 1 = .ok (.invokespecial 3, 3) := by decide +kernel
theorem d_Dk_init_4 : decode b_Dk_init 4 = .ok (.aload_n 0, 1) := by decide +kernel
theorem d_Dk_init_5 : decode b_Dk_init 5 = .ok (.iconst 1, 1) := by decide +kernel
theorem d_Dk_init_6 : decode b_Dk_init 6 = .ok (.putfield 9, 3) := by decide +kernel
theorem d_Dk_init_9 : decode b_Dk_init 9 = .ok (.aload_n 0, 1) := by decide +kernel
theorem d_Dk_init_10 : decode b_Dk_init 10 = .ok (.sipush 720, 3) := by decide +kernel
theorem d_Dk_init_13 : decode b_Dk_init 13 = .ok (.newarray .int, 2) := by decide +kernel
theorem d_Dk_init_15 : decode b_Dk_init 15 = .ok (.putfield 15, 3) := by decide +kernel
theorem d_Dk_init_18 : decode b_Dk_init 18 = .ok (.return_, 1) := by decide +kernel
set_option maxHeartbeats 4000000 in
set_option maxRecDepth 100000 in
theorem c_Dk_init {l : Launch} {G : Gx} {s0 : State} (C : Cx G s0) (o z : Nat) (h0 : s0.heap.size ≤ o) (hoz : o < z) : Ct l s0 (fun q => q = o ∨ z ≤ q) 0 1 720 y_Dk_init b_Dk_init 1 none [.ref (o)] (fun H => va_at G.1 classes (o, .inr (1, [.int 0, .null])) H ∧ H.size = z) (pV (fun H => DkI G o z H ∧ H.size = z + 1)) := by
  refine Ct.of C (by decide) (Nat.le_of_ble_eq_true rfl) ?_
  intro pg ev s mm below meth cd V hr hlk hn hR ls hl
  have hx := V.1
  have hb := V.2.1
  have hS : va_S (fun q => q = o ∨ z ≤ q) s.heap s.heap [] := va_S.rf
  have hA : ∀ q, (fun q => q = o ∨ z ≤ q) q → s0.heap.size ≤ q := fun q h => by have h : q = o ∨ z ≤ q := h; omega
  have hl : lv_has ls 1 [(0, .ref (o))] := hl
  obtain ⟨hO, hz⟩ := hR
  refine lv_aload_n hx hb d_Dk_init_0 rfl (lv_at hl 0 rfl) ?_
  refine x_obj V (List.mem_of_getElem? (i := 70) (by decide +kernel)) hl d_Dk_init_1 ⟨by decide, by decide⟩ (by decide) ?_
  refine lv_aload_n hx hb d_Dk_init_4 rfl (lv_at hl 0 rfl) ?_
  refine lv_iconst (v := 1) hx hb d_Dk_init_5 (by decide) ?_
  refine p_Dk_9 V hO (Nat.le_of_ble_eq_true rfl) (by decide) d_Dk_init_6 (fun H i hO z1 oq => ?_)
  replace hS := hS.put (k := i) z1 oq (by show o = o ∨ z ≤ o; omega)
  replace hz := z1.trans hz
  clear z1 oq
  refine lv_aload_n hx hb d_Dk_init_9 rfl (lv_at hl 0 rfl) ?_
  refine lv_sipush (v := 720) hx hb d_Dk_init_10 (by decide) ?_
  refine x_newi V 720 (rfl : (720 : Int32) = nI 720) (by decide) (by decide) (by decide) d_Dk_init_13 (fun H n13 z1 oq => ?_)
  rw [hz] at n13 z1 oq ⊢
  replace hO := hO.kept (oq _ (by show o < z; omega))
  replace hS := S_new (H1 := H) hS (by rw [hz]; exact z1) (by rw [hz]; exact oq)
  replace hz : H.size = z + 1 := z1
  clear z1 oq
  refine x_putF V i_Dk t_Dk t_Dk_ok n_Dk hO rfl 1 (by decide) wk_Dk_15 (fun x h => h) rfl hn rfl rfl rfl (Nat.le_of_ble_eq_true rfl) d_Dk_init_15 (fun H i hO z1 oq => ?_)
  replace hS := hS.put (k := i) z1 oq (by show o = o ∨ z ≤ o; omega)
  replace n13 := n13.kept (oq _ (by show z ≠ o; omega))
  replace hz := z1.trans hz
  clear z1 oq
  exact e_v V hr hlk hS (by decide) (by decide) d_Dk_init_18 ⟨rfl, ⟨hO, n13⟩, hz⟩
theorem d_Ac_init_0 : decode b_Ac_init 0 = .ok (.aload_n 0, 1) := by decide +kernel
theorem d_Ac_init_1 : decode b_Ac_init 1 = .ok (.invokespecial 1, 3) := by decide +kernel
theorem d_Ac_init_4 : decode b_Ac_init 4 = .ok (.return_, 1) := by decide +kernel
set_option maxHeartbeats 4000000 in
set_option maxRecDepth 100000 in
theorem c_Ac_init {l : Launch} {G : Gx} {s0 : State} (C : Cx G s0) (o z : Nat) : Ct l s0 (fun _ => False) 0 0 0 y_Ac_init b_Ac_init 1 none [.ref (o)] (fun H => H.size = z) (pV (fun H => H.size = z)) := by
  refine Ct.of C (by decide) (Nat.le_of_ble_eq_true rfl) ?_
  intro pg ev s mm below meth cd V hr hlk hn hR ls hl
  have hx := V.1
  have hb := V.2.1
  have hS : va_S (fun _ => False) s.heap s.heap [] := va_S.rf
  have hA : ∀ q, (fun _ => False) q → s0.heap.size ≤ q := fun q h => h.elim
  have hl : lv_has ls 1 [(0, .ref (o))] := hl
  have hz := hR
  refine lv_aload_n hx hb d_Ac_init_0 rfl (lv_at hl 0 rfl) ?_
  refine x_obj V (List.mem_of_getElem? (i := 101) (by decide +kernel)) hl d_Ac_init_1 ⟨by decide, by decide⟩ (by decide) ?_
  exact e_v V hr hlk hS (by decide) (by decide) d_Ac_init_4 ⟨rfl, hz⟩
theorem d_Ab_init_0 : decode b_Ab_init 0 = .ok (.aload_n 0, 1) := by decide +kernel
theorem d_Ab_init_1 : decode b_Ab_init 1 = .ok (.invokespecial 1, 3) := by decide +kernel
theorem d_Ab_init_4 : decode b_Ab_init 4 = .ok (.aload_n 0, 1) := by decide +kernel
theorem d_Ab_init_5 : decode b_Ab_init 5 = .ok (.iconst 0, 1) := by decide +kernel
theorem d_Ab_init_6 : decode b_Ab_init 6 = .ok (.putfield 7, 3) := by decide +kernel
theorem d_Ab_init_9 : decode b_Ab_init 9 = .ok (.return_, 1) := by decide +kernel
set_option maxHeartbeats 4000000 in
set_option maxRecDepth 100000 in
theorem c_Ab_init {l : Launch} {G : Gx} {s0 : State} (C : Cx G s0) (o z : Nat) (h0 : s0.heap.size ≤ o) (hoz : o < z) : Ct l s0 (fun q => q = o) 1 0 0 y_Ab_init b_Ab_init 1 none [.ref (o)] (fun H => va_at G.1 classes (o, .inr (3, [.null, .int 0, .int 0])) H ∧ H.size = z) (pV (fun H => va_at G.1 classes (o, .inr (3, [.null, .int 0, .int 0])) H ∧ H.size = z)) := by
  refine Ct.of C (by decide) (Nat.le_of_ble_eq_true rfl) ?_
  intro pg ev s mm below meth cd V hr hlk hn hR ls hl
  have hx := V.1
  have hb := V.2.1
  have hS : va_S (fun q => q = o) s.heap s.heap [] := va_S.rf
  have hA : ∀ q, (fun q => q = o) q → s0.heap.size ≤ q := fun q h => by have h : q = o := h; omega
  have hl : lv_has ls 1 [(0, .ref (o))] := hl
  obtain ⟨hO, hz⟩ := hR
  refine lv_aload_n hx hb d_Ab_init_0 rfl (lv_at hl 0 rfl) ?_
  refine g_callI (As := []) (rest := []) (A0 := (fun q => q = o)) V (c_Ac_init C o z) v_Ab_1 hz hS hA (fun _ h => h.elim) ⟨by decide, by decide⟩ rfl hl (Nat.le_of_ble_eq_true rfl) d_Ab_init_1 ⟨by decide, by decide⟩ (kV (fun H locs hz hk hS => ?_))
  have hO := hO.kept (hk.2 _ hO.lt (fun z => z))
  refine lv_aload_n hx hb d_Ab_init_4 rfl (lv_at hl 0 rfl) ?_
  refine lv_iconst (v := 0) hx hb d_Ab_init_5 (by decide) ?_
  refine x_put V.1 V.2.1 (wd_ts V.2.2.2.2.1 _) i_Al t_Al t_Al_ok n_Al V.2.2.2.1 V.2.2.2.2.2.1 hO rfl 2 (by decide) (V.2.2.2.2.1 (.fieldLink "java/util/AbstractList" 7 "java/util/AbstractList" "modCount" "I") (List.mem_of_getElem? (i := 108) (by decide +kernel)) rfl _) (fun x h => h) rfl rfl rfl (Nat.le_of_ble_eq_true rfl) d_Ab_init_6 (fun H i hO z1 oq => ?_)
  replace hS := hS.put (k := i) z1 oq (by show o = o; omega)
  replace hz := z1.trans hz
  clear z1 oq
  exact e_v V hr hlk hS (by decide) (by decide) d_Ab_init_9 ⟨rfl, hO, hz⟩
theorem d_Al_init_0 : decode b_Al_init 0 = .ok (.aload_n 0, 1) := by decide +kernel
theorem d_Al_init_1 : decode b_Al_init 1 = .ok (.invokespecial 1, 3) := by decide +kernel
theorem d_Al_init_4 : decode b_Al_init 4 = .ok (.aload_n 0, 1) := by decide +kernel
theorem d_Al_init_5 : decode b_Al_init 5 = .ok (.getstatic 39, 3) := by decide +kernel
theorem d_Al_init_8 : decode b_Al_init 8 = .ok (.putfield 9, 3) := by decide +kernel
theorem d_Al_init_11 : decode b_Al_init 11 = .ok (.return_, 1) := by decide +kernel
set_option maxHeartbeats 4000000 in
set_option maxRecDepth 100000 in
theorem c_Al_init {l : Launch} {G : Gx} {s0 : State} (C : Cx G s0) {ea mi : Nat} (E : Es0 s0 ea mi) (o z : Nat) (h0 : s0.heap.size ≤ o) (hoz : o < z) : Ct l s0 (fun q => q = o) 2 0 0 y_Al_init b_Al_init 1 none [.ref (o)] (fun H => va_at G.1 classes (o, .inr (3, [.null, .int 0, .int 0])) H ∧ H.size = z) (pV (fun H => va_at G.1 classes (o, .inr (3, [.ref ea, .int 0, .int 0])) H ∧ H.size = z)) := by
  refine Ct.of C (by decide) (Nat.le_of_ble_eq_true rfl) ?_
  intro pg ev s mm below meth cd V hr hlk hn hR ls hl
  have hx := V.1
  have hb := V.2.1
  have hS : va_S (fun q => q = o) s.heap s.heap [] := va_S.rf
  have hA : ∀ q, (fun q => q = o) q → s0.heap.size ≤ q := fun q h => by have h : q = o := h; omega
  have hl : lv_has ls 1 [(0, .ref (o))] := hl
  obtain ⟨hO, hz⟩ := hR
  refine lv_aload_n hx hb d_Al_init_0 rfl (lv_at hl 0 rfl) ?_
  refine g_callI (As := []) (rest := []) (A0 := (fun q => q = o)) V (c_Ab_init C o z h0 hoz) v_Al_1 ⟨hO, hz⟩ hS hA (fun _ h => h) ⟨by decide, by decide⟩ rfl hl (Nat.le_of_ble_eq_true rfl) d_Al_init_1 ⟨by decide, by decide⟩ (kV (fun H locs hQ hk hS => ?_))
  obtain ⟨hO, hz⟩ := hQ
  refine lv_aload_n hx hb d_Al_init_4 rfl (lv_at hl 0 rfl) ?_
  refine x_gets V E hS hA (List.mem_of_getElem? (i := 102) (by decide +kernel)) d_Al_init_5 ?_
  refine p_Al_9 V hO (Nat.le_of_ble_eq_true rfl) d_Al_init_8 (fun H i hO z1 oq => ?_)
  replace hS := hS.put (k := i) z1 oq (by show o = o; omega)
  replace hz := z1.trans hz
  clear z1 oq
  exact e_v V hr hlk hS (by decide) (by decide) d_Al_init_11 ⟨rfl, hO, hz⟩
theorem d_Lb_init_0 : decode b_Lb_init 0 = .ok (.aload_n 0, 1) := by decide +kernel
theorem d_Lb_init_1 : decode b_Lb_init 1 = .ok (.invokespecial 3, 3) := by decide +kernel
theorem d_Lb_init_4 : decode b_Lb_init 4 = .ok (.aload_n 0, 1) := by decide +kernel
theorem d_Lb_init_5 : decode b_Lb_init 5 = .ok (.bipush 8, 2) := by decide +kernel
theorem d_Lb_init_7 : decode b_Lb_init 7 = .ok (.newarray .int, 2) := by decide +kernel
theorem d_Lb_init_9 : decode b_Lb_init 9 = .ok (.putfield 9, 3) := by decide +kernel
theorem d_Lb_init_12 : decode b_Lb_init 12 = .ok (.aload_n 0, 1) := by decide +kernel
theorem d_Lb_init_13 : decode b_Lb_init 13 = .ok (.iconst 3, 1) := by decide +kernel
theorem d_Lb_init_14 : decode b_Lb_init 14 = .ok (.anewarray 15, 3) := by decide +kernel
theorem d_Lb_init_17 : decode b_Lb_init 17 = .ok (.dup, 1) := by decide +kernel
theorem d_Lb_init_18 : decode b_Lb_init 18 = .ok (.iconst 0, 1) := by decide +kernel
theorem d_Lb_init_19 : decode b_Lb_init 19 = .ok (.new 15, 3) := by decide +kernel
theorem d_Lb_init_22 : decode b_Lb_init 22 = .ok (.dup, 1) := by decide +kernel
theorem d_Lb_init_23 : decode b_Lb_init 23 = .ok (.invokespecial 17, 3) := by decide +kernel
theorem d_Lb_init_26 : decode b_Lb_init 26 = .ok (.aastore, 1) := by decide +kernel
theorem d_Lb_init_27 : decode b_Lb_init 27 = .ok (.dup, 1) := by decide +kernel
theorem d_Lb_init_28 : decode b_Lb_init 28 = .ok (.iconst 1, 1) := by decide +kernel
theorem d_Lb_init_29 : decode b_Lb_init 29 = .ok (.new 15, 3) := by decide +kernel
theorem d_Lb_init_32 : decode b_Lb_init 32 = .ok (.dup, 1) := by decide +kernel
theorem d_Lb_init_33 : decode b_Lb_init 33 = .ok (.invokespecial 17, 3) := by decide +kernel
theorem d_Lb_init_36 : decode b_Lb_init 36 = .ok (.aastore, 1) := by decide +kernel
theorem d_Lb_init_37 : decode b_Lb_init 37 = .ok (.dup, 1) := by decide +kernel
theorem d_Lb_init_38 : decode b_Lb_init 38 = .ok (.iconst 2, 1) := by decide +kernel
theorem d_Lb_init_39 : decode b_Lb_init 39 = .ok (.new 15, 3) := by decide +kernel
theorem d_Lb_init_42 : decode b_Lb_init 42 = .ok (.dup, 1) := by decide +kernel
theorem d_Lb_init_43 : decode b_Lb_init 43 = .ok (.invokespecial 17, 3) := by decide +kernel
theorem d_Lb_init_46 : decode b_Lb_init 46 = .ok (.aastore, 1) := by decide +kernel
theorem d_Lb_init_47 : decode b_Lb_init 47 = .ok (.putfield 18, 3) := by decide +kernel
theorem d_Lb_init_50 : decode b_Lb_init 50 = .ok (.iconst 0, 1) := by decide +kernel
theorem d_Lb_init_51 : decode b_Lb_init 51 = .ok (.istore_n 1, 1) := by decide +kernel
theorem d_Lb_init_52 : decode b_Lb_init 52 = .ok (.iload_n 1, 1) := by decide +kernel
theorem d_Lb_init_53 : decode b_Lb_init 53 = .ok (.bipush 8, 2) := by decide +kernel
theorem d_Lb_init_55 : decode b_Lb_init 55 = .ok (.if_icmp .ge 16, 3) := by decide +kernel
theorem d_Lb_init_58 : decode b_Lb_init 58 = .ok (.aload_n 0, 1) := by decide +kernel
theorem d_Lb_init_59 : decode b_Lb_init 59 = .ok (.getfield 9, 3) := by decide +kernel
theorem d_Lb_init_62 : decode b_Lb_init 62 = .ok (.iload_n 1, 1) := by decide +kernel
theorem d_Lb_init_63 : decode b_Lb_init 63 = .ok (.iconst 3, 1) := by decide +kernel
theorem d_Lb_init_64 : decode b_Lb_init 64 = .ok (.iastore, 1) := by decide +kernel
theorem d_Lb_init_65 : decode b_Lb_init 65 = .ok (.iinc 1 1, 3) := by decide +kernel
theorem d_Lb_init_68 : decode b_Lb_init 68 = .ok (.goto (-16), 3) := by decide +kernel
theorem d_Lb_init_71 : decode b_Lb_init 71 = .ok (.return_, 1) := by decide +kernel
set_option maxHeartbeats 4000000 in
set_option maxRecDepth 100000 in
theorem c_Lb_init {l : Launch} {G : Gx} {s0 : State} (C : Cx G s0) (o z : Nat) (h0 : s0.heap.size ≤ o) (hoz : o < z) : Ct l s0 (fun q => q = o ∨ z ≤ q) 1 5 20 y_Lb_init b_Lb_init 2 none [.ref (o)] (fun H => va_at G.1 classes (o, .inr (4, [.null, .null])) H ∧ H.size = z) (pV (fun H => LbI G o z H ∧ H.size = z + 5)) := by
  refine Ct.of C (by decide) (Nat.le_of_ble_eq_true rfl) ?_
  intro pg ev s mm below meth cd V hr hlk hn hR ls hl
  have hx := V.1
  have hb := V.2.1
  have hS : va_S (fun q => q = o ∨ z ≤ q) s.heap s.heap [] := va_S.rf
  have hA : ∀ q, (fun q => q = o ∨ z ≤ q) q → s0.heap.size ≤ q := fun q h => by have h : q = o ∨ z ≤ q := h; omega
  have hl : lv_has ls 2 [(0, .ref (o))] := hl
  obtain ⟨hO, hz⟩ := hR
  have loop : ∀ (n k : Nat), k ≤ 8 → 8 < k + n → ∀ (H : Heap) (locs : List Loc) (ls : Array Slot), va_at G.1 classes (o, .inr (4, [.ref z, .ref (z + 1)])) H → va_at G.1 classes (z, .inl (G.2 0, (8, .inl (fun j => if j < k then 3 else 0)))) H → va_at G.1 classes (z + 1, .inl (G.2 5, (3, vq (fun j => some (z + 2 + j))))) H → va_at G.1 classes (z + 2, .inr (5, [.int (-1), .int 0, .int (-1)])) H → va_at G.1 classes (z + 3, .inr (5, [.int (-1), .int 0, .int (-1)])) H → va_at G.1 classes (z + 4, .inr (5, [.int (-1), .int 0, .int (-1)])) H → H.size = z + 5 → va_S (fun q => q = o ∨ z ≤ q) s.heap H locs → lv_has ls 2 [(1, .int (nI k)), (0, .ref (o))] → W pg l ev (rmx 1 5 20) s mm [.ref (o)].toArray below meth cd H locs 5 20 (MQ below (qR (fun q => q = o ∨ z ≤ q) (pV (fun H => LbI G o z H ∧ H.size = z + 5))) [.ref (o)].toArray s 5 20 (fun q => q = o ∨ z ≤ q)) (F0 mm 52 ls []) := by
    intro n
    induction n with
    | zero => intro k h1 h2; omega
    | succ n ih =>
      intro k h1 h2 H locs ls hO n7 hA3 n19 n29 n39 hz hS hl
      refine lv_iload_n hx hb d_Lb_init_52 rfl (lv_at hl 0 rfl) ?_
      refine lv_bipush (v := 8) hx hb d_Lb_init_53 (by decide) ?_
      refine lv_icmp_ge (tgt := 71) hx hb d_Lb_init_55 (by decide) (fun h55 => ?_) (fun h55 => ?_)
      · obtain rfl : k = 8 := by have := (nI_leI (a := 8) (by decide) (by omega)).mp h55; omega
        exact e_v V hr hlk hS (by decide) (by decide) d_Lb_init_71 ⟨rfl, ⟨hO, at_ci n7 (fun j hj => by rw [if_pos hj]), hA3, fun d hd => by
          rcases (show d = 0 ∨ d = 1 ∨ d = 2 by omega) with rfl | rfl | rfl
          · exact n19
          · exact n29
          · exact n39⟩, hz⟩
      · have hk8 : k < 8 := by
          rcases Nat.lt_or_ge k 8 with q | q
          · exact q
          · exact absurd (nI_le (a := 8) q (by omega)) h55
        refine lv_aload_n hx hb d_Lb_init_58 rfl (lv_at hl 1 rfl) ?_
        refine g_Lb_9 V hO rfl d_Lb_init_59 ?_
        refine lv_iload_n hx hb d_Lb_init_62 rfl (lv_at hl 0 rfl) ?_
        refine lv_iconst (v := 3) hx hb d_Lb_init_63 (by decide) ?_
        refine x_iast V.1 V.2.1 V.2.2.2.2.2.1 0 n7 rfl (k) rfl (by omega) (by decide) d_Lb_init_64 (fun H i n7 z1 oq => ?_)
        replace hS := hS.put (k := i) z1 oq (by show z = o ∨ z ≤ z; omega)
        replace hO := hO.kept (oq _ (by show o ≠ z; omega))
        replace hA3 := hA3.kept (oq _ (by show z + 1 ≠ z; omega))
        replace n19 := n19.kept (oq _ (by show z + 2 ≠ z; omega))
        replace n29 := n29.kept (oq _ (by show z + 3 ≠ z; omega))
        replace n39 := n39.kept (oq _ (by show z + 4 ≠ z; omega))
        replace hz := z1.trans hz
        clear z1 oq
        refine lv_iinc (v := nI (k + 1)) (lv' := [(1, .int (nI (k + 1))), (0, .ref (o))]) hx hb d_Lb_init_65 hl (k := 0) rfl (ad_e rfl (rfl : (1 : Int32) = nI 1)) (by decide) rfl (fun ls hl => ?_)
        refine lv_goto (tgt := 52) hx hb d_Lb_init_68 (by decide) ?_
        exact ih (k + 1) (by omega) (by omega) _ _ ls hO (at_ci n7 (fun j hj => by
          by_cases g : j = k
          · subst g; simp [upd]
          · by_cases g2 : j < k
            · simp [upd, g, g2, Nat.lt_succ_of_lt g2]
            · simp [upd, g, g2, show ¬ j < k + 1 from by omega])) hA3 n19 n29 n39 hz hS (lv_sub hl [0, 1] rfl)
  refine lv_aload_n hx hb d_Lb_init_0 rfl (lv_at hl 0 rfl) ?_
  refine x_obj V (List.mem_of_getElem? (i := 124) (by decide +kernel)) hl d_Lb_init_1 ⟨by decide, by decide⟩ (by decide) ?_
  refine lv_aload_n hx hb d_Lb_init_4 rfl (lv_at hl 0 rfl) ?_
  refine lv_bipush (v := 8) hx hb d_Lb_init_5 (by decide) ?_
  refine x_newi V 8 (rfl : (8 : Int32) = nI 8) (by decide) (by decide) (by decide) d_Lb_init_7 (fun H n7 z1 oq => ?_)
  rw [hz] at n7 z1 oq ⊢
  replace hO := hO.kept (oq _ (by show o < z; omega))
  replace hS := S_new (H1 := H) hS (by rw [hz]; exact z1) (by rw [hz]; exact oq)
  replace hz : H.size = z + 1 := z1
  clear z1 oq
  refine x_putF V i_Lb t_Lb t_Lb_ok n_Lb hO rfl 0 (by decide) wk_Lb_9 (fun x h => h) rfl hn rfl rfl rfl (Nat.le_of_ble_eq_true rfl) d_Lb_init_9 (fun H i hO z1 oq => ?_)
  replace hS := hS.put (k := i) z1 oq (by show o = o ∨ z ≤ o; omega)
  replace n7 := n7.kept (oq _ (by show z ≠ o; omega))
  replace hz := z1.trans hz
  clear z1 oq
  refine lv_aload_n hx hb d_Lb_init_12 rfl (lv_at hl 0 rfl) ?_
  refine lv_iconst (v := 3) hx hb d_Lb_init_13 (by decide) ?_
  refine x_newq V 5 rfl (List.mem_of_getElem? (i := 125) (by decide +kernel)) (List.mem_of_getElem? (i := 126) (by decide +kernel)) 3 (rfl : (3 : Int32) = nI 3) (by decide) (by decide) (by decide) d_Lb_init_14 (fun H n14 z1 oq => ?_)
  rw [hz] at n14 z1 oq ⊢
  replace hO := hO.kept (oq _ (by show o < z + 1; omega))
  replace n7 := n7.kept (oq _ (by show z < z + 1; omega))
  replace hS := S_new (H1 := H) hS (by rw [hz]; exact z1) (by rw [hz]; exact oq)
  replace hz : H.size = z + 2 := z1
  clear z1 oq
  refine lv_dup hx hb d_Lb_init_17 rfl ?_
  refine lv_iconst (v := 0) hx hb d_Lb_init_18 (by decide) ?_
  refine x_new (ci := 5) V i_Dr t_Dr t_Dr_ok (List.mem_of_getElem? (i := 125) (by decide +kernel)) (List.mem_of_getElem? (i := 127) (by decide +kernel)) (List.mem_of_getElem? (i := 36) (by decide +kernel)) rfl (fs := [.int 0, .int 0, .int 0]) (by decide) (by decide) (by decide) d_Lb_init_19 (fun H n19 z1 oq => ?_)
  rw [hz] at n19 z1 oq ⊢
  replace hO := hO.kept (oq _ (by show o < z + 2; omega))
  replace n7 := n7.kept (oq _ (by show z < z + 2; omega))
  replace n14 := n14.kept (oq _ (by show z + 1 < z + 2; omega))
  replace hS := S_new (H1 := H) hS (by rw [hz]; exact z1) (by rw [hz]; exact oq)
  replace hz : H.size = z + 3 := z1
  clear z1 oq
  refine lv_dup hx hb d_Lb_init_22 rfl ?_
  refine g_callIN (As := []) (rest := [.ref (z + 2), .int (0), .ref (z + 1), .ref (z + 1), .ref (o)]) (A0 := (fun q => q = o ∨ z ≤ q)) V (c_Dr_init C (z + 2) (z + 3) (by omega) (by omega)) v_Lb_17 ⟨n19, hz⟩ hS hA (fun q h => by have h : q = z + 2 := h; show q = o ∨ z ≤ q; omega) ⟨by decide, by decide⟩ rfl hl (Nat.le_of_ble_eq_true rfl) d_Lb_init_23 ⟨by decide, by decide⟩ (kV (fun H locs hQ hk hS1 => ?_))
  replace hO := hO.kept (hk.2 _ hO.lt (by show ¬ (o = z + 2); omega))
  replace n7 := n7.kept (hk.2 _ n7.lt (by show ¬ (z = z + 2); omega))
  replace n14 := n14.kept (hk.2 _ n14.lt (by show ¬ (z + 1 = z + 2); omega))
  clear n19 hz
  obtain ⟨n19, hz⟩ := hQ
  replace hS := hS1
  replace hz : H.size = z + 3 := hz
  clear hk
  refine x_aast V 5 n14 rfl (va_recv V.2.2.2.2.2.1 (x_one n19) (ci := 5) (q0 := 0) rfl rfl) vb_asgS (0) (rfl : (0 : Int32) = nI 0) (by decide) (by decide) d_Lb_init_26 (fun H i n14 z1 oq => ?_)
  replace hS := hS.put (k := i) z1 oq (by show z + 1 = o ∨ z ≤ z + 1; omega)
  replace hO := hO.kept (oq _ (by show o ≠ z + 1; omega))
  replace n7 := n7.kept (oq _ (by show z ≠ z + 1; omega))
  replace n19 := n19.kept (oq _ (by show z + 2 ≠ z + 1; omega))
  replace hz := z1.trans hz
  clear z1 oq
  refine lv_dup hx hb d_Lb_init_27 rfl ?_
  refine lv_iconst (v := 1) hx hb d_Lb_init_28 (by decide) ?_
  refine x_new (ci := 5) V i_Dr t_Dr t_Dr_ok (List.mem_of_getElem? (i := 125) (by decide +kernel)) (List.mem_of_getElem? (i := 127) (by decide +kernel)) (List.mem_of_getElem? (i := 36) (by decide +kernel)) rfl (fs := [.int 0, .int 0, .int 0]) (by decide) (by decide) (by decide) d_Lb_init_29 (fun H n29 z1 oq => ?_)
  rw [hz] at n29 z1 oq ⊢
  replace hO := hO.kept (oq _ (by show o < z + 3; omega))
  replace n7 := n7.kept (oq _ (by show z < z + 3; omega))
  replace n14 := n14.kept (oq _ (by show z + 1 < z + 3; omega))
  replace n19 := n19.kept (oq _ (by show z + 2 < z + 3; omega))
  replace hS := S_new (H1 := H) hS (by rw [hz]; exact z1) (by rw [hz]; exact oq)
  replace hz : H.size = z + 4 := z1
  clear z1 oq
  refine lv_dup hx hb d_Lb_init_32 rfl ?_
  refine g_callIN (As := []) (rest := [.ref (z + 3), .int (1), .ref (z + 1), .ref (z + 1), .ref (o)]) (A0 := (fun q => q = o ∨ z ≤ q)) V (c_Dr_init C (z + 3) (z + 4) (by omega) (by omega)) v_Lb_17 ⟨n29, hz⟩ hS hA (fun q h => by have h : q = z + 3 := h; show q = o ∨ z ≤ q; omega) ⟨by decide, by decide⟩ rfl hl (Nat.le_of_ble_eq_true rfl) d_Lb_init_33 ⟨by decide, by decide⟩ (kV (fun H locs hQ hk hS1 => ?_))
  replace hO := hO.kept (hk.2 _ hO.lt (by show ¬ (o = z + 3); omega))
  replace n7 := n7.kept (hk.2 _ n7.lt (by show ¬ (z = z + 3); omega))
  replace n14 := n14.kept (hk.2 _ n14.lt (by show ¬ (z + 1 = z + 3); omega))
  replace n19 := n19.kept (hk.2 _ n19.lt (by show ¬ (z + 2 = z + 3); omega))
  clear n29 hz
  obtain ⟨n29, hz⟩ := hQ
  replace hS := hS1
  replace hz : H.size = z + 4 := hz
  clear hk
  refine x_aast V 5 n14 rfl (va_recv V.2.2.2.2.2.1 (x_one n29) (ci := 5) (q0 := 0) rfl rfl) vb_asgS (1) (rfl : (1 : Int32) = nI 1) (by decide) (by decide) d_Lb_init_36 (fun H i n14 z1 oq => ?_)
  replace hS := hS.put (k := i) z1 oq (by show z + 1 = o ∨ z ≤ z + 1; omega)
  replace hO := hO.kept (oq _ (by show o ≠ z + 1; omega))
  replace n7 := n7.kept (oq _ (by show z ≠ z + 1; omega))
  replace n19 := n19.kept (oq _ (by show z + 2 ≠ z + 1; omega))
  replace n29 := n29.kept (oq _ (by show z + 3 ≠ z + 1; omega))
  replace hz := z1.trans hz
  clear z1 oq
  refine lv_dup hx hb d_Lb_init_37 rfl ?_
  refine lv_iconst (v := 2) hx hb d_Lb_init_38 (by decide) ?_
  refine x_new (ci := 5) V i_Dr t_Dr t_Dr_ok (List.mem_of_getElem? (i := 125) (by decide +kernel)) (List.mem_of_getElem? (i := 127) (by decide +kernel)) (List.mem_of_getElem? (i := 36) (by decide +kernel)) rfl (fs := [.int 0, .int 0, .int 0]) (by decide) (by decide) (by decide) d_Lb_init_39 (fun H n39 z1 oq => ?_)
  rw [hz] at n39 z1 oq ⊢
  replace hO := hO.kept (oq _ (by show o < z + 4; omega))
  replace n7 := n7.kept (oq _ (by show z < z + 4; omega))
  replace n14 := n14.kept (oq _ (by show z + 1 < z + 4; omega))
  replace n19 := n19.kept (oq _ (by show z + 2 < z + 4; omega))
  replace n29 := n29.kept (oq _ (by show z + 3 < z + 4; omega))
  replace hS := S_new (H1 := H) hS (by rw [hz]; exact z1) (by rw [hz]; exact oq)
  replace hz : H.size = z + 5 := z1
  clear z1 oq
  refine lv_dup hx hb d_Lb_init_42 rfl ?_
  refine g_callIN (As := []) (rest := [.ref (z + 4), .int (2), .ref (z + 1), .ref (z + 1), .ref (o)]) (A0 := (fun q => q = o ∨ z ≤ q)) V (c_Dr_init C (z + 4) (z + 5) (by omega) (by omega)) v_Lb_17 ⟨n39, hz⟩ hS hA (fun q h => by have h : q = z + 4 := h; show q = o ∨ z ≤ q; omega) ⟨by decide, by decide⟩ rfl hl (Nat.le_of_ble_eq_true rfl) d_Lb_init_43 ⟨by decide, by decide⟩ (kV (fun H locs hQ hk hS1 => ?_))
  replace hO := hO.kept (hk.2 _ hO.lt (by show ¬ (o = z + 4); omega))
  replace n7 := n7.kept (hk.2 _ n7.lt (by show ¬ (z = z + 4); omega))
  replace n14 := n14.kept (hk.2 _ n14.lt (by show ¬ (z + 1 = z + 4); omega))
  replace n19 := n19.kept (hk.2 _ n19.lt (by show ¬ (z + 2 = z + 4); omega))
  replace n29 := n29.kept (hk.2 _ n29.lt (by show ¬ (z + 3 = z + 4); omega))
  clear n39 hz
  obtain ⟨n39, hz⟩ := hQ
  replace hS := hS1
  replace hz : H.size = z + 5 := hz
  clear hk
  refine x_aast V 5 n14 rfl (va_recv V.2.2.2.2.2.1 (x_one n39) (ci := 5) (q0 := 0) rfl rfl) vb_asgS (2) (rfl : (2 : Int32) = nI 2) (by decide) (by decide) d_Lb_init_46 (fun H i n14 z1 oq => ?_)
  replace hS := hS.put (k := i) z1 oq (by show z + 1 = o ∨ z ≤ z + 1; omega)
  replace hO := hO.kept (oq _ (by show o ≠ z + 1; omega))
  replace n7 := n7.kept (oq _ (by show z ≠ z + 1; omega))
  replace n19 := n19.kept (oq _ (by show z + 2 ≠ z + 1; omega))
  replace n29 := n29.kept (oq _ (by show z + 3 ≠ z + 1; omega))
  replace n39 := n39.kept (oq _ (by show z + 4 ≠ z + 1; omega))
  replace hz := z1.trans hz
  clear z1 oq
  refine x_putF V i_Lb t_Lb t_Lb_ok n_Lb hO rfl 1 (by decide) wk_Lb_18 (fun x h => h) rfl hn rfl rfl rfl (Nat.le_of_ble_eq_true rfl) d_Lb_init_47 (fun H i hO z1 oq => ?_)
  replace hS := hS.put (k := i) z1 oq (by show o = o ∨ z ≤ o; omega)
  replace n7 := n7.kept (oq _ (by show z ≠ o; omega))
  replace n14 := n14.kept (oq _ (by show z + 1 ≠ o; omega))
  replace n19 := n19.kept (oq _ (by show z + 2 ≠ o; omega))
  replace n29 := n29.kept (oq _ (by show z + 3 ≠ o; omega))
  replace n39 := n39.kept (oq _ (by show z + 4 ≠ o; omega))
  replace hz := z1.trans hz
  clear z1 oq
  refine lv_iconst (v := 0) hx hb d_Lb_init_50 (by decide) ?_
  refine lv_istore_n (lv' := [(1, .int (0)), (0, .ref (o))]) hx hb d_Lb_init_51 rfl hl (by decide) rfl (fun ls hl => ?_)
  have hA3 : va_at G.1 classes (z + 1, .inl (G.2 5, (3, vq (fun j => some (z + 2 + j))))) H := at_cq n14 (fun j hj => by
    rcases (show j = 0 ∨ j = 1 ∨ j = 2 by omega) with rfl | rfl | rfl <;> rfl)
  exact loop 9 0 (by omega) (by omega) _ _ ls hO (at_ci n7 (fun j _ => by rw [if_neg (Nat.not_lt_zero _)])) hA3 n19 n29 n39 hz hS (lv_sub hl [0, 1] rfl)
theorem d_Ct_init_0 : decode b_Ct_init 0 = .ok (.aload_n 0, 1) := by decide +kernel
theorem d_Ct_init_1 : decode b_Ct_init 1 = .ok (.invokespecial 3, 3) := by decide +kernel
theorem d_Ct_init_4 : decode b_Ct_init 4 = .ok (.aload_n 0, 1) := by decide +kernel
theorem d_Ct_init_5 : decode b_Ct_init 5 = .ok (.bipush 24, 2) := by decide +kernel
theorem d_Ct_init_7 : decode b_Ct_init 7 = .ok (.newarray .int, 2) := by decide +kernel
theorem d_Ct_init_9 : decode b_Ct_init 9 = .ok (.putfield 9, 3) := by decide +kernel
theorem d_Ct_init_12 : decode b_Ct_init 12 = .ok (.aload_n 0, 1) := by decide +kernel
theorem d_Ct_init_13 : decode b_Ct_init 13 = .ok (.new 15, 3) := by decide +kernel
theorem d_Ct_init_16 : decode b_Ct_init 16 = .ok (.dup, 1) := by decide +kernel
theorem d_Ct_init_17 : decode b_Ct_init 17 = .ok (.invokespecial 17, 3) := by decide +kernel
theorem d_Ct_init_20 : decode b_Ct_init 20 = .ok (.putfield 18, 3) := by decide +kernel
theorem d_Ct_init_23 : decode b_Ct_init 23 = .ok (.aload_n 0, 1) := by decide +kernel
theorem d_Ct_init_24 : decode b_Ct_init 24 = .ok (.new 22, 3) := by decide +kernel
theorem d_Ct_init_27 : decode b_Ct_init 27 = .ok (.dup, 1) := by decide +kernel
theorem d_Ct_init_28 : decode b_Ct_init 28 = .ok (.invokespecial 24, 3) := by decide +kernel
theorem d_Ct_init_31 : decode b_Ct_init 31 = .ok (.putfield 25, 3) := by decide +kernel
theorem d_Ct_init_34 : decode b_Ct_init 34 = .ok (.aload_n 0, 1) := by decide +kernel
theorem d_Ct_init_35 : decode b_Ct_init 35 = .ok (.iconst 1, 1) := by decide +kernel
theorem d_Ct_init_36 : decode b_Ct_init 36 = .ok (.putfield 29, 3) := by decide +kernel
theorem d_Ct_init_39 : decode b_Ct_init 39 = .ok (.aload_n 0, 1) := by decide +kernel
theorem d_Ct_init_40 : decode b_Ct_init 40 = .ok (.iload_n 1, 1) := by decide +kernel
theorem d_Ct_init_41 : decode b_Ct_init 41 = .ok (.putfield 33, 3) := by decide +kernel
theorem d_Ct_init_44 : decode b_Ct_init 44 = .ok (.return_, 1) := by decide +kernel
set_option maxHeartbeats 4000000 in
set_option maxRecDepth 100000 in
theorem c_Ct_init {l : Launch} {G : Gx} {s0 : State} (C : Cx G s0) {ea mi : Nat} (E : Es0 s0 ea mi) (o z : Nat) (h0 : s0.heap.size ≤ o) (hoz : o < z) (c : Nat) : Ct l s0 (fun q => q = o ∨ z ≤ q) 3 8 49 y_Ct_init b_Ct_init 2 none [.ref (o), .int (nI c)] (fun H => va_at G.1 classes (o, .inr (2, [.int 0, .null, .int 0, .null, .int 0, .int 0, .int 0, .null, .int 0, .int 0, .int 0, .int 0, .int 0, .int 0, .int 0, .int 0, .int 0])) H ∧ H.size = z) (pV (fun H => CtI G ea o z c H ∧ H.size = z + 8)) := by
  refine Ct.of C (by decide) (Nat.le_of_ble_eq_true rfl) ?_
  intro pg ev s mm below meth cd V hr hlk hn hR ls hl
  have hx := V.1
  have hb := V.2.1
  have hS : va_S (fun q => q = o ∨ z ≤ q) s.heap s.heap [] := va_S.rf
  have hA : ∀ q, (fun q => q = o ∨ z ≤ q) q → s0.heap.size ≤ q := fun q h => by have h : q = o ∨ z ≤ q := h; omega
  have hl : lv_has ls 2 [(0, .ref (o)), (1, .int (nI c))] := hl
  obtain ⟨hO, hz⟩ := hR
  refine lv_aload_n hx hb d_Ct_init_0 rfl (lv_at hl 0 rfl) ?_
  refine x_obj V (List.mem_of_getElem? (i := 89) (by decide +kernel)) hl d_Ct_init_1 ⟨by decide, by decide⟩ (by decide) ?_
  refine lv_aload_n hx hb d_Ct_init_4 rfl (lv_at hl 0 rfl) ?_
  refine lv_bipush (v := 24) hx hb d_Ct_init_5 (by decide) ?_
  refine x_newi V 24 (rfl : (24 : Int32) = nI 24) (by decide) (by decide) (by decide) d_Ct_init_7 (fun H n7 z1 oq => ?_)
  rw [hz] at n7 z1 oq ⊢
  replace hO := hO.kept (oq _ (by show o < z; omega))
  replace hS := S_new (H1 := H) hS (by rw [hz]; exact z1) (by rw [hz]; exact oq)
  replace hz : H.size = z + 1 := z1
  clear z1 oq
  refine x_putF V i_Ct t_Ct t_Ct_ok n_Ct hO rfl 1 (by decide) wk_Ct_9 (fun x h => h) rfl hn rfl rfl rfl (Nat.le_of_ble_eq_true rfl) d_Ct_init_9 (fun H i hO z1 oq => ?_)
  replace hS := hS.put (k := i) z1 oq (by show o = o ∨ z ≤ o; omega)
  replace n7 := n7.kept (oq _ (by show z ≠ o; omega))
  replace hz := z1.trans hz
  clear z1 oq
  refine lv_aload_n hx hb d_Ct_init_12 rfl (lv_at hl 0 rfl) ?_
  refine x_new (ci := 3) V i_Al t_Al t_Al_ok (List.mem_of_getElem? (i := 90) (by decide +kernel)) (List.mem_of_getElem? (i := 91) (by decide +kernel)) (List.mem_of_getElem? (i := 34) (by decide +kernel)) rfl (fs := [.null, .int 0, .int 0]) (by decide) (by decide) (by decide) d_Ct_init_13 (fun H n13 z1 oq => ?_)
  rw [hz] at n13 z1 oq ⊢
  replace hO := hO.kept (oq _ (by show o < z + 1; omega))
  replace n7 := n7.kept (oq _ (by show z < z + 1; omega))
  replace hS := S_new (H1 := H) hS (by rw [hz]; exact z1) (by rw [hz]; exact oq)
  replace hz : H.size = z + 2 := z1
  clear z1 oq
  refine lv_dup hx hb d_Ct_init_16 rfl ?_
  refine g_callI (As := []) (rest := [.ref (z + 1), .ref (o)]) (A0 := (fun q => q = o ∨ z ≤ q)) V (c_Al_init C E (z + 1) (z + 2) (by omega) (by omega)) v_Ct_17 ⟨n13, hz⟩ hS hA (fun q h => by have h : q = z + 1 := h; show q = o ∨ z ≤ q; omega) ⟨by decide, by decide⟩ rfl hl (Nat.le_of_ble_eq_true rfl) d_Ct_init_17 ⟨by decide, by decide⟩ (kV (fun H locs hQ hk hS1 => ?_))
  replace hO := hO.kept (hk.2 _ hO.lt (by show ¬ (o = z + 1); omega))
  replace n7 := n7.kept (hk.2 _ n7.lt (by show ¬ (z = z + 1); omega))
  clear n13 hz
  obtain ⟨n13, hz⟩ := hQ
  replace hS := hS1
  replace hz : H.size = z + 2 := hz
  clear hk
  refine x_putF V i_Ct t_Ct t_Ct_ok n_Ct hO rfl 3 (by decide) wk_Ct_18 (fun x h => h) rfl hn rfl rfl rfl (Nat.le_of_ble_eq_true rfl) d_Ct_init_20 (fun H i hO z1 oq => ?_)
  replace hS := hS.put (k := i) z1 oq (by show o = o ∨ z ≤ o; omega)
  replace n7 := n7.kept (oq _ (by show z ≠ o; omega))
  replace n13 := n13.kept (oq _ (by show z + 1 ≠ o; omega))
  replace hz := z1.trans hz
  clear z1 oq
  refine lv_aload_n hx hb d_Ct_init_23 rfl (lv_at hl 0 rfl) ?_
  refine x_new (ci := 4) V i_Lb t_Lb t_Lb_ok (List.mem_of_getElem? (i := 119) (by decide +kernel)) (List.mem_of_getElem? (i := 120) (by decide +kernel)) (List.mem_of_getElem? (i := 35) (by decide +kernel)) rfl (fs := [.null, .null]) (by decide) (by decide) (by decide) d_Ct_init_24 (fun H n24 z1 oq => ?_)
  rw [hz] at n24 z1 oq ⊢
  replace hO := hO.kept (oq _ (by show o < z + 2; omega))
  replace n7 := n7.kept (oq _ (by show z < z + 2; omega))
  replace n13 := n13.kept (oq _ (by show z + 1 < z + 2; omega))
  replace hS := S_new (H1 := H) hS (by rw [hz]; exact z1) (by rw [hz]; exact oq)
  replace hz : H.size = z + 3 := z1
  clear z1 oq
  refine lv_dup hx hb d_Ct_init_27 rfl ?_
  refine g_callI (As := []) (rest := [.ref (z + 2), .ref (o)]) (A0 := (fun q => q = o ∨ z ≤ q)) V (c_Lb_init C (z + 2) (z + 3) (by omega) (by omega)) v_Ct_24 ⟨n24, hz⟩ hS hA (fun q h => by have h : q = z + 2 ∨ z + 3 ≤ q := h; show q = o ∨ z ≤ q; omega) ⟨by decide, by decide⟩ rfl hl (Nat.le_of_ble_eq_true rfl) d_Ct_init_28 ⟨by decide, by decide⟩ (kV (fun H locs hQ hk hS1 => ?_))
  replace hO := hO.kept (hk.2 _ hO.lt (by show ¬ (o = z + 2 ∨ z + 3 ≤ o); omega))
  replace n7 := n7.kept (hk.2 _ n7.lt (by show ¬ (z = z + 2 ∨ z + 3 ≤ z); omega))
  replace n13 := n13.kept (hk.2 _ n13.lt (by show ¬ (z + 1 = z + 2 ∨ z + 3 ≤ z + 1); omega))
  clear n24 hz
  obtain ⟨n24, hz⟩ := hQ
  replace hS := hS1
  replace hz : H.size = z + 8 := hz
  clear hk
  refine x_putF V i_Ct t_Ct t_Ct_ok n_Ct hO rfl 7 (by decide) wk_Ct_25 (fun x h => h) rfl hn rfl rfl rfl (Nat.le_of_ble_eq_true rfl) d_Ct_init_31 (fun H i hO z1 oq => ?_)
  replace hS := hS.put (k := i) z1 oq (by show o = o ∨ z ≤ o; omega)
  replace n7 := n7.kept (oq _ (by show z ≠ o; omega))
  replace n13 := n13.kept (oq _ (by show z + 1 ≠ o; omega))
  replace n24 := n24.kept (fun q g1 g2 => oq q (by omega))
  replace hz := z1.trans hz
  clear z1 oq
  refine lv_aload_n hx hb d_Ct_init_34 rfl (lv_at hl 0 rfl) ?_
  refine lv_iconst (v := 1) hx hb d_Ct_init_35 (by decide) ?_
  refine p_Ct_29 V hO (Nat.le_of_ble_eq_true rfl) (by decide) d_Ct_init_36 (fun H i hO z1 oq => ?_)
  replace hS := hS.put (k := i) z1 oq (by show o = o ∨ z ≤ o; omega)
  replace n7 := n7.kept (oq _ (by show z ≠ o; omega))
  replace n13 := n13.kept (oq _ (by show z + 1 ≠ o; omega))
  replace n24 := n24.kept (fun q g1 g2 => oq q (by omega))
  replace hz := z1.trans hz
  clear z1 oq
  refine lv_aload_n hx hb d_Ct_init_39 rfl (lv_at hl 0 rfl) ?_
  refine lv_iload_n hx hb d_Ct_init_40 rfl (lv_at hl 1 rfl) ?_
  refine x_putF V i_Ct t_Ct t_Ct_ok n_Ct hO rfl 0 (by decide) wk_Ct_33 (fun x h => h) rfl hn rfl rfl rfl (Nat.le_of_ble_eq_true rfl) d_Ct_init_41 (fun H i hO z1 oq => ?_)
  replace hS := hS.put (k := i) z1 oq (by show o = o ∨ z ≤ o; omega)
  replace n7 := n7.kept (oq _ (by show z ≠ o; omega))
  replace n13 := n13.kept (oq _ (by show z + 1 ≠ o; omega))
  replace n24 := n24.kept (fun q g1 g2 => oq q (by omega))
  replace hz := z1.trans hz
  clear z1 oq
  exact e_v V hr hlk hS (by decide) (by decide) d_Ct_init_44 ⟨rfl, ⟨hO, n7, n13, n24⟩, hz⟩
