theorem v_Ob_105 : CS "java/util/Objects" 105 y_Pr_checkIndex b_Pr_checkIndex 3 (some .int) 3 := ⟨⟨List.mem_of_getElem? (i := 645) (by decide +kernel), List.mem_of_getElem? (i := 55) (by decide +kernel), List.mem_of_getElem? (i := 643) (by decide +kernel)⟩, List.mem_of_getElem? (i := 644) (by decide +kernel), by decide, by decide, by decide +kernel⟩
theorem d_It_hasNext_0 : decode b_It_hasNext 0 = .ok (.aload_n 0, 1) := by decide +kernel
theorem d_It_hasNext_1 : decode b_It_hasNext 1 = .ok (.getfield 25, 3) := by decide +kernel
theorem d_It_hasNext_4 : decode b_It_hasNext 4 = .ok (.aload_n 0, 1) := by decide +kernel
theorem d_It_hasNext_5 : decode b_It_hasNext 5 = .ok (.getfield 1, 3) := by decide +kernel
theorem d_It_hasNext_8 : decode b_It_hasNext 8 = .ok (.getfield 28, 3) := by decide +kernel
theorem d_It_hasNext_11 : decode b_It_hasNext 11 = .ok (.if_icmp .eq 7, 3) := by decide +kernel
theorem d_It_hasNext_14 : decode b_It_hasNext 14 = .ok (.iconst 1, 1) := by decide +kernel
theorem d_It_hasNext_15 : decode b_It_hasNext 15 = .ok (.goto 4, 3) := by decide +kernel
theorem d_It_hasNext_18 : decode b_It_hasNext 18 = .ok (.iconst 0, 1) := by decide +kernel
theorem d_It_hasNext_19 : decode b_It_hasNext 19 = .ok (.ireturn, 1) := by decide +kernel
set_option maxHeartbeats 4000000 in
set_option maxRecDepth 100000 in
theorem c_It_hasNext {l : Launch} {G : Gx} {s0 : State} (C : Cx G s0) (it al arr : Nat) (sz mo lr : Int32) (k : Nat) : Ct l s0 (fun _ => False) 0 0 0 y_It_hasNext b_It_hasNext 1 (some .boolean) [.ref (it)] (fun H => va_at G.1 classes (it, .inr (7, [.int (nI k), .int lr, .int mo, .ref al])) H ∧ va_at G.1 classes (al, .inr (3, [.ref arr, .int sz, .int mo])) H) (pI (fun r _ => r = bI (!decide (nI k = sz)))) := by
  refine Ct.of C (by decide) (Nat.le_of_ble_eq_true rfl) ?_
  intro pg ev s mm below meth cd V hr hlk hn hR ls hl
  have hx := V.1
  have hb := V.2.1
  have hS : va_S (fun _ => False) s.heap s.heap [] := va_S.rf
  have hA : ∀ q, (fun _ => False) q → s0.heap.size ≤ q := fun q h => h.elim
  have hl : lv_has ls 1 [(0, .ref (it))] := hl
  obtain ⟨hIt, hAl⟩ := hR
  refine lv_aload_n hx hb d_It_hasNext_0 rfl (lv_at hl 0 rfl) ?_
  refine g_It_25 V hIt rfl d_It_hasNext_1 ?_
  refine lv_aload_n hx hb d_It_hasNext_4 rfl (lv_at hl 0 rfl) ?_
  refine g_It_1 V hIt rfl d_It_hasNext_5 ?_
  refine g_It_28 V hAl rfl d_It_hasNext_8 ?_
  refine lv_icmp_eq (tgt := 18) hx hb d_It_hasNext_11 (by decide) (fun h11 => ?_) (fun h11 => ?_)
  · refine lv_iconst (v := 0) hx hb d_It_hasNext_18 (by decide) ?_
    exact e_z V hr hlk hS (Nat.le_refl _) (Nat.le_refl _) d_It_hasNext_19 (by decide) ⟨_, rfl, by simp [bI, ← h11]⟩
  · refine lv_iconst (v := 1) hx hb d_It_hasNext_14 (by decide) ?_
    refine lv_goto (tgt := 19) hx hb d_It_hasNext_15 (by decide) ?_
    exact e_z V hr hlk hS (Nat.le_refl _) (Nat.le_refl _) d_It_hasNext_19 (by decide) ⟨_, rfl, by simp [bI, h11]⟩
theorem d_It_checkForComodification_0 : decode b_It_checkForComodification 0 = .ok (.aload_n 0, 1) := by decide +kernel
theorem d_It_checkForComodification_1 : decode b_It_checkForComodification 1 = .ok (.getfield 1, 3) := by decide +kernel
theorem d_It_checkForComodification_4 : decode b_It_checkForComodification 4 = .ok (.getfield 17, 3) := by decide +kernel
theorem d_It_checkForComodification_7 : decode b_It_checkForComodification 7 = .ok (.aload_n 0, 1) := by decide +kernel
theorem d_It_checkForComodification_8 : decode b_It_checkForComodification 8 = .ok (.getfield 22, 3) := by decide +kernel
theorem d_It_checkForComodification_11 : decode b_It_checkForComodification 11 = .ok (.if_icmp .eq 11, 3) := by decide +kernel
theorem d_It_checkForComodification_22 : decode b_It_checkForComodification 22 = .ok (.return_, 1) := by decide +kernel
set_option maxHeartbeats 4000000 in
set_option maxRecDepth 100000 in
theorem c_It_checkForComodification {l : Launch} {G : Gx} {s0 : State} (C : Cx G s0) (it al arr : Nat) (sz mo lr : Int32) (k : Nat) : Ct l s0 (fun _ => False) 0 0 0 y_It_checkForComodification b_It_checkForComodification 1 none [.ref (it)] (fun H => va_at G.1 classes (it, .inr (7, [.int (nI k), .int lr, .int mo, .ref al])) H ∧ va_at G.1 classes (al, .inr (3, [.ref arr, .int sz, .int mo])) H) (pV (fun _ => True)) := by
  refine Ct.of C (by decide) (Nat.le_of_ble_eq_true rfl) ?_
  intro pg ev s mm below meth cd V hr hlk hn hR ls hl
  have hx := V.1
  have hb := V.2.1
  have hS : va_S (fun _ => False) s.heap s.heap [] := va_S.rf
  have hA : ∀ q, (fun _ => False) q → s0.heap.size ≤ q := fun q h => h.elim
  have hl : lv_has ls 1 [(0, .ref (it))] := hl
  obtain ⟨hIt, hAl⟩ := hR
  refine lv_aload_n hx hb d_It_checkForComodification_0 rfl (lv_at hl 0 rfl) ?_
  refine g_It_1 V hIt rfl d_It_checkForComodification_1 ?_
  refine g_It_17 V hAl rfl d_It_checkForComodification_4 ?_
  refine lv_aload_n hx hb d_It_checkForComodification_7 rfl (lv_at hl 0 rfl) ?_
  refine g_It_22 V hIt rfl d_It_checkForComodification_8 ?_
  refine lv_icmp_eq (tgt := 22) hx hb d_It_checkForComodification_11 (by decide) (fun h11 => ?_) (fun h11 => ?_)
  · exact e_v V hr hlk hS (Nat.le_refl _) (Nat.le_refl _) d_It_checkForComodification_22 ⟨rfl, trivial⟩
  · exact absurd rfl h11
theorem d_It_next_0 : decode b_It_next 0 = .ok (.aload_n 0, 1) := by decide +kernel
theorem d_It_next_1 : decode b_It_next 1 = .ok (.invokevirtual 31, 3) := by decide +kernel
theorem d_It_next_4 : decode b_It_next 4 = .ok (.aload_n 0, 1) := by decide +kernel
theorem d_It_next_5 : decode b_It_next 5 = .ok (.getfield 25, 3) := by decide +kernel
theorem d_It_next_8 : decode b_It_next 8 = .ok (.istore_n 1, 1) := by decide +kernel
theorem d_It_next_9 : decode b_It_next 9 = .ok (.iload_n 1, 1) := by decide +kernel
theorem d_It_next_10 : decode b_It_next 10 = .ok (.aload_n 0, 1) := by decide +kernel
theorem d_It_next_11 : decode b_It_next 11 = .ok (.getfield 1, 3) := by decide +kernel
theorem d_It_next_14 : decode b_It_next 14 = .ok (.getfield 28, 3) := by decide +kernel
theorem d_It_next_17 : decode b_It_next 17 = .ok (.if_icmp .lt 11, 3) := by decide +kernel
theorem d_It_next_28 : decode b_It_next 28 = .ok (.aload_n 0, 1) := by decide +kernel
theorem d_It_next_29 : decode b_It_next 29 = .ok (.getfield 1, 3) := by decide +kernel
theorem d_It_next_32 : decode b_It_next 32 = .ok (.getfield 37, 3) := by decide +kernel
theorem d_It_next_35 : decode b_It_next 35 = .ok (.astore_n 2, 1) := by decide +kernel
theorem d_It_next_36 : decode b_It_next 36 = .ok (.iload_n 1, 1) := by decide +kernel
theorem d_It_next_37 : decode b_It_next 37 = .ok (.aload_n 2, 1) := by decide +kernel
theorem d_It_next_38 : decode b_It_next 38 = .ok (.arraylength, 1) := by decide +kernel
theorem d_It_next_39 : decode b_It_next 39 = .ok (.if_icmp .lt 11, 3) := by decide +kernel
theorem d_It_next_50 : decode b_It_next 50 = .ok (.aload_n 0, 1) := by decide +kernel
theorem d_It_next_51 : decode b_It_next 51 = .ok (.iload_n 1, 1) := by decide +kernel
theorem d_It_next_52 : decode b_It_next 52 = .ok (.iconst 1, 1) := by decide +kernel
theorem d_It_next_53 : decode b_It_next 53 = .ok (.iadd, 1) := by decide +kernel
theorem d_It_next_54 : decode b_It_next 54 = .ok (.putfield 25, 3) := by decide +kernel
theorem d_It_next_57 : decode b_It_next 57 = .ok (.aload_n 2, 1) := by decide +kernel
theorem d_It_next_58 : decode b_It_next 58 = .ok (.aload_n 0, 1) := by decide +kernel
theorem d_It_next_59 : decode b_It_next 59 = .ok (.iload_n 1, 1) := by decide +kernel
theorem d_It_next_60 : decode b_It_next 60 = .ok (.dup_x1, 1) := by decide +kernel
theorem d_It_next_61 : decode b_It_next 61 = .ok (.putfield 13, 3) := by decide +kernel
theorem d_It_next_64 : decode b_It_next 64 = .ok (.aaload, 1) := by decide +kernel
theorem d_It_next_65 : decode b_It_next 65 = .ok (.areturn, 1) := by decide +kernel
set_option maxHeartbeats 4000000 in
set_option maxRecDepth 100000 in
theorem c_It_next {l : Launch} {G : Gx} {s0 : State} (C : Cx G s0) (it al arr : Nat) (sz mo lr : Int32) (k n y : Nat) (f : Nat → Option Nat) (hna : al ≠ it) (hnr : arr ≠ it) (h0 : s0.heap.size ≤ it) (hks : nI k < sz) (hkn : k < n) (hn9 : n < 1000) (hf : f k = some y) : Ct l s0 (fun q => q = it) 1 0 0 y_It_next b_It_next 3 (some (.object "java/lang/Object")) [.ref (it)] (fun H => va_at G.1 classes (it, .inr (7, [.int (nI k), .int lr, .int mo, .ref al])) H ∧ va_at G.1 classes (al, .inr (3, [.ref arr, .int sz, .int mo])) H ∧ va_at G.1 classes (arr, .inl (G.2 6, (n, vq f))) H) (pA (fun r H => r = y ∧ va_at G.1 classes (it, .inr (7, [.int (nI (k + 1)), .int (nI k), .int mo, .ref al])) H)) := by
  refine Ct.of C (by decide) (Nat.le_of_ble_eq_true rfl) ?_
  intro pg ev s mm below meth cd V hr hlk hn hR ls hl
  have hx := V.1
  have hb := V.2.1
  have hS : va_S (fun q => q = it) s.heap s.heap [] := va_S.rf
  have hA : ∀ q, (fun q => q = it) q → s0.heap.size ≤ q := fun q h => by rw [h]; exact h0
  have hl : lv_has ls 3 [(0, .ref (it))] := hl
  obtain ⟨hIt, hAl, hAr⟩ := hR
  refine lv_aload_n hx hb d_It_next_0 rfl (lv_at hl 0 rfl) ?_
  refine g_callV (As := []) (rest := []) (A0 := (fun q => q = it)) V (c_It_checkForComodification C it al arr sz mo lr k) v_It_31 (va_recv V.2.2.2.2.2.1 (x_one hIt) (ci := 7) (q0 := 0) rfl rfl) ⟨hIt, hAl⟩ hS hA (fun _ h => h.elim) ⟨by decide, by decide⟩ rfl hl (Nat.le_of_ble_eq_true rfl) d_It_next_1 ⟨Nat.le_refl _, Nat.le_refl _⟩ (kV (fun H locs _ hk hS => ?_))
  have hIt := hIt.kept (hk.2 _ hIt.lt (fun z => z))
  have hAl := hAl.kept (hk.2 _ hAl.lt (fun z => z))
  have hAr := hAr.kept (hk.2 _ hAr.lt (fun z => z))
  refine lv_aload_n hx hb d_It_next_4 rfl (lv_at hl 0 rfl) ?_
  refine g_It_25 V hIt rfl d_It_next_5 ?_
  refine lv_istore_n (lv' := [(1, .int (nI k)), (0, .ref (it))]) hx hb d_It_next_8 rfl hl (by decide) rfl (fun ls hl => ?_)
  refine lv_iload_n hx hb d_It_next_9 rfl (lv_at hl 0 rfl) ?_
  refine lv_aload_n hx hb d_It_next_10 rfl (lv_at hl 1 rfl) ?_
  refine g_It_1 V hIt rfl d_It_next_11 ?_
  refine g_It_28 V hAl rfl d_It_next_14 ?_
  refine lv_icmp_lt (tgt := 28) hx hb d_It_next_17 (by decide) (fun h17 => ?_) (fun h17 => ?_)
  · refine lv_aload_n hx hb d_It_next_28 rfl (lv_at hl 1 rfl) ?_
    refine g_It_1 V hIt rfl d_It_next_29 ?_
    refine g_It_37 V hAl rfl d_It_next_32 ?_
    refine lv_astore_n (lv' := [(2, .ref (arr)), (1, .int (nI k)), (0, .ref (it))]) hx hb d_It_next_35 rfl hl (by decide) rfl (fun ls hl => ?_)
    refine lv_iload_n hx hb d_It_next_36 rfl (lv_at hl 1 rfl) ?_
    refine lv_aload_n hx hb d_It_next_37 rfl (lv_at hl 0 rfl) ?_
    refine x_alen V 6 hAr rfl d_It_next_38 ?_
    refine lv_icmp_lt (tgt := 50) hx hb d_It_next_39 (by decide) (fun h39 => ?_) (fun h39 => ?_)
    · refine lv_aload_n hx hb d_It_next_50 rfl (lv_at hl 2 rfl) ?_
      refine lv_iload_n hx hb d_It_next_51 rfl (lv_at hl 1 rfl) ?_
      refine lv_iconst (v := 1) hx hb d_It_next_52 (by decide) ?_
      refine lv_iadd hx hb d_It_next_53 ?_
      refine lv_tope (y := nI (k + 1)) (ad_e (a := k) (b := 1) rfl (rfl : (1 : Int32) = nI 1)) ?_
      refine p_It_25 V hIt (Nat.le_of_ble_eq_true rfl) d_It_next_54 (fun H i hIt z oq => ?_)
      have hS := hS.put (k := i) z oq rfl
      have hAl := hAl.kept (oq _ hna)
      have hAr := hAr.kept (oq _ hnr)
      refine lv_aload_n hx hb d_It_next_57 rfl (lv_at hl 0 rfl) ?_
      refine lv_aload_n hx hb d_It_next_58 rfl (lv_at hl 2 rfl) ?_
      refine lv_iload_n hx hb d_It_next_59 rfl (lv_at hl 1 rfl) ?_
      refine lv_dup_x1 hx hb d_It_next_60 rfl rfl ?_
      refine p_It_13 V hIt (Nat.le_of_ble_eq_true rfl) d_It_next_61 (fun H i hIt z oq => ?_)
      have hS := hS.put (k := i) z oq rfl
      have hAl := hAl.kept (oq _ hna)
      have hAr := hAr.kept (oq _ hnr)
      refine x_aald V 6 hAr rfl (k) rfl (by omega) (by omega) (v := .ref (y)) (by rw [hf]; rfl) d_It_next_64 ?_
      exact e_a V hr hlk hS (Nat.le_refl _) (Nat.le_refl _) d_It_next_65 ⟨_, rfl, rfl, hIt⟩
    · exact absurd (nI_lt hkn (by omega)) h39
  · exact absurd hks h17
theorem d_It_init_0 : decode b_It_init 0 = .ok (.aload_n 0, 1) := by decide +kernel
theorem d_It_init_1 : decode b_It_init 1 = .ok (.aload_n 1, 1) := by decide +kernel
theorem d_It_init_2 : decode b_It_init 2 = .ok (.putfield 1, 3) := by decide +kernel
theorem d_It_init_5 : decode b_It_init 5 = .ok (.aload_n 0, 1) := by decide +kernel
theorem d_It_init_6 : decode b_It_init 6 = .ok (.invokespecial 7, 3) := by decide +kernel
theorem d_It_init_9 : decode b_It_init 9 = .ok (.aload_n 0, 1) := by decide +kernel
theorem d_It_init_10 : decode b_It_init 10 = .ok (.iconst (-1), 1) := by decide +kernel
theorem d_It_init_11 : decode b_It_init 11 = .ok (.putfield 13, 3) := by decide +kernel
theorem d_It_init_14 : decode b_It_init 14 = .ok (.aload_n 0, 1) := by decide +kernel
theorem d_It_init_15 : decode b_It_init 15 = .ok (.aload_n 0, 1) := by decide +kernel
theorem d_It_init_16 : decode b_It_init 16 = .ok (.getfield 1, 3) := by decide +kernel
theorem d_It_init_19 : decode b_It_init 19 = .ok (.getfield 17, 3) := by decide +kernel
theorem d_It_init_22 : decode b_It_init 22 = .ok (.putfield 22, 3) := by decide +kernel
theorem d_It_init_25 : decode b_It_init 25 = .ok (.return_, 1) := by decide +kernel
set_option maxHeartbeats 4000000 in
set_option maxRecDepth 100000 in
theorem c_It_init {l : Launch} {G : Gx} {s0 : State} (C : Cx G s0) (it al arr : Nat) (sz mo : Int32) (hna : al ≠ it) (h0 : s0.heap.size ≤ it) : Ct l s0 (fun q => q = it) 1 0 0 y_It_init b_It_init 2 none [.ref (it), .ref (al)] (fun H => va_at G.1 classes (it, .inr (7, [.int 0, .int 0, .int 0, .null])) H ∧ va_at G.1 classes (al, .inr (3, [.ref arr, .int sz, .int mo])) H) (pV (fun H => va_at G.1 classes (it, .inr (7, [.int (nI 0), .int (-1), .int mo, .ref al])) H)) := by
  refine Ct.of C (by decide) (Nat.le_of_ble_eq_true rfl) ?_
  intro pg ev s mm below meth cd V hr hlk hn hR ls hl
  have hx := V.1
  have hb := V.2.1
  have hS : va_S (fun q => q = it) s.heap s.heap [] := va_S.rf
  have hA : ∀ q, (fun q => q = it) q → s0.heap.size ≤ q := fun q h => by rw [h]; exact h0
  have hl : lv_has ls 2 [(0, .ref (it)), (1, .ref (al))] := hl
  obtain ⟨hIt, hAl⟩ := hR
  refine lv_aload_n hx hb d_It_init_0 rfl (lv_at hl 0 rfl) ?_
  refine lv_aload_n hx hb d_It_init_1 rfl (lv_at hl 1 rfl) ?_
  refine x_putF V i_It t_It t_It_ok n_It hIt rfl 3 (by decide) wk_It_1 (fun x h => h) rfl hn rfl rfl rfl (Nat.le_of_ble_eq_true rfl) d_It_init_2 (fun H i hIt z oq => ?_)
  have hS := hS.put (k := i) z oq rfl
  have hAl := hAl.kept (oq _ hna)
  refine lv_aload_n hx hb d_It_init_5 rfl (lv_at hl 0 rfl) ?_
  refine x_obj V (List.mem_of_getElem? (i := 377) (by decide +kernel)) hl d_It_init_6 ⟨by decide, by decide⟩ (by decide) ?_
  refine lv_aload_n hx hb d_It_init_9 rfl (lv_at hl 0 rfl) ?_
  refine lv_iconst (v := -1) hx hb d_It_init_10 (by decide) ?_
  refine p_It_13 V hIt (Nat.le_of_ble_eq_true rfl) d_It_init_11 (fun H i hIt z oq => ?_)
  have hS := hS.put (k := i) z oq rfl
  have hAl := hAl.kept (oq _ hna)
  refine lv_aload_n hx hb d_It_init_14 rfl (lv_at hl 0 rfl) ?_
  refine lv_aload_n hx hb d_It_init_15 rfl (lv_at hl 0 rfl) ?_
  refine g_It_1 V hIt rfl d_It_init_16 ?_
  refine g_It_17 V hAl rfl d_It_init_19 ?_
  refine p_It_22 V hIt (Nat.le_of_ble_eq_true rfl) d_It_init_22 (fun H i hIt z oq => ?_)
  have hS := hS.put (k := i) z oq rfl
  have hAl := hAl.kept (oq _ hna)
  exact e_v V hr hlk hS (Nat.le_refl _) (Nat.le_refl _) d_It_init_25 ⟨rfl, hIt⟩
theorem d_Al_iterator_0 : decode b_Al_iterator 0 = .ok (.new 267, 3) := by decide +kernel
theorem d_Al_iterator_3 : decode b_Al_iterator 3 = .ok (.dup, 1) := by decide +kernel
theorem d_Al_iterator_4 : decode b_Al_iterator 4 = .ok (.aload_n 0, 1) := by decide +kernel
theorem d_Al_iterator_5 : decode b_Al_iterator 5 = .ok (.invokespecial 269, 3) := by decide +kernel
theorem d_Al_iterator_8 : decode b_Al_iterator 8 = .ok (.areturn, 1) := by decide +kernel
set_option maxHeartbeats 4000000 in
set_option maxRecDepth 100000 in
theorem c_Al_iterator {l : Launch} {G : Gx} {s0 : State} (C : Cx G s0) (it al arr : Nat) (sz mo : Int32) (hna : al ≠ it) (h0 : s0.heap.size ≤ it) : Ct l s0 (fun q => q = it) 2 1 4 y_Al_iterator b_Al_iterator 1 (some (.object "java/util/Iterator")) [.ref (al)] (fun H => va_at G.1 classes (al, .inr (3, [.ref arr, .int sz, .int mo])) H ∧ H.size = it) (pA (fun r H => r = it ∧ va_at G.1 classes (it, .inr (7, [.int (nI 0), .int (-1), .int mo, .ref al])) H)) := by
  refine Ct.of C (by decide) (Nat.le_of_ble_eq_true rfl) ?_
  intro pg ev s mm below meth cd V hr hlk hn hR ls hl
  have hx := V.1
  have hb := V.2.1
  have hS : va_S (fun q => q = it) s.heap s.heap [] := va_S.rf
  have hA : ∀ q, (fun q => q = it) q → s0.heap.size ≤ q := fun q h => by rw [h]; exact h0
  have hl : lv_has ls 1 [(0, .ref (al))] := hl
  obtain ⟨hAl, hz⟩ := hR
  refine x_new (ci := 7) V i_It t_It t_It_ok (List.mem_of_getElem? (i := 372) (by decide +kernel)) (List.mem_of_getElem? (i := 373) (by decide +kernel)) (List.mem_of_getElem? (i := 45) (by decide +kernel)) rfl (fs := [.int 0, .int 0, .int 0, .null]) (by decide) (by decide) (by decide) d_Al_iterator_0 (fun H hIt z oq => ?_)
  rw [hz] at hIt z oq ⊢
  have hAl := hAl.kept (oq _ (by have := hAl.lt; rw [hz] at this; exact this))
  have hS : va_S (fun q => q = it) s.heap H [] := S_new hS (by rw [hz]; exact z) (by rw [hz]; exact oq)
  refine lv_dup hx hb d_Al_iterator_3 rfl ?_
  refine lv_aload_n hx hb d_Al_iterator_4 rfl (lv_at hl 0 rfl) ?_
  refine g_callI (As := [.ref al]) (rest := [.ref it]) (A0 := (fun q => q = it)) V (c_It_init C it al arr sz mo hna h0) v_Al_269 ⟨hIt, hAl⟩ hS hA (fun _ h => h) ⟨by decide, by decide⟩ rfl hl (Nat.le_of_ble_eq_true rfl) d_Al_iterator_5 ⟨by decide, by decide⟩ (kV (fun H locs hIt hk hS => ?_))
  exact e_a V hr hlk hS (by decide) (by decide) d_Al_iterator_8 ⟨_, rfl, rfl, hIt⟩
theorem d_Pr_checkIndex_0 : decode b_Pr_checkIndex 0 = .ok (.iload_n 0, 1) := by decide +kernel
theorem d_Pr_checkIndex_1 : decode b_Pr_checkIndex 1 = .ok (.ifCond .lt 8, 3) := by decide +kernel
theorem d_Pr_checkIndex_4 : decode b_Pr_checkIndex 4 = .ok (.iload_n 0, 1) := by decide +kernel
theorem d_Pr_checkIndex_5 : decode b_Pr_checkIndex 5 = .ok (.iload_n 1, 1) := by decide +kernel
theorem d_Pr_checkIndex_6 : decode b_Pr_checkIndex 6 = .ok (.if_icmp .lt 10, 3) := by decide +kernel
theorem d_Pr_checkIndex_16 : decode b_Pr_checkIndex 16 = .ok (.iload_n 0, 1) := by decide +kernel
theorem d_Pr_checkIndex_17 : decode b_Pr_checkIndex 17 = .ok (.ireturn, 1) := by decide +kernel
set_option maxHeartbeats 4000000 in
set_option maxRecDepth 100000 in
theorem c_Pr_checkIndex {l : Launch} {G : Gx} {s0 : State} (C : Cx G s0) (j n : Nat) (hj : j < n) (hn3 : n < 2 ^ 31) : Ct l s0 (fun _ => False) 0 0 0 y_Pr_checkIndex b_Pr_checkIndex 3 (some .int) [.int (nI j), .int (nI n), .null] (fun H => True) (pI (fun r _ => r = nI j)) := by
  refine Ct.of C (by decide) (Nat.le_of_ble_eq_true rfl) ?_
  intro pg ev s mm below meth cd V hr hlk hn hR ls hl
  have hx := V.1
  have hb := V.2.1
  have hS : va_S (fun _ => False) s.heap s.heap [] := va_S.rf
  have hA : ∀ q, (fun _ => False) q → s0.heap.size ≤ q := fun q h => h.elim
  have hl : lv_has ls 3 [(0, .int (nI j)), (1, .int (nI n)), (2, .null)] := hl
  refine lv_iload_n hx hb d_Pr_checkIndex_0 rfl (lv_at hl 0 rfl) ?_
  refine lv_if_lt (tgt := 9) hx hb d_Pr_checkIndex_1 (by decide) (fun h1 => ?_) (fun h1 => ?_)
  · exact absurd h1 (nI_pos (by omega))
  · refine lv_iload_n hx hb d_Pr_checkIndex_4 rfl (lv_at hl 0 rfl) ?_
    refine lv_iload_n hx hb d_Pr_checkIndex_5 rfl (lv_at hl 1 rfl) ?_
    refine lv_icmp_lt (tgt := 16) hx hb d_Pr_checkIndex_6 (by decide) (fun h6 => ?_) (fun h6 => ?_)
    · refine lv_iload_n hx hb d_Pr_checkIndex_16 rfl (lv_at hl 0 rfl) ?_
      exact e_i V hr hlk hS (Nat.le_refl _) (Nat.le_refl _) d_Pr_checkIndex_17 ⟨_, rfl, rfl⟩
    · exact absurd (nI_lt hj hn3) h6
theorem d_Ob_checkIndex_0 : decode b_Ob_checkIndex 0 = .ok (.iload_n 0, 1) := by decide +kernel
theorem d_Ob_checkIndex_1 : decode b_Ob_checkIndex 1 = .ok (.iload_n 1, 1) := by decide +kernel
theorem d_Ob_checkIndex_2 : decode b_Ob_checkIndex 2 = .ok (.aconst_null, 1) := by decide +kernel
theorem d_Ob_checkIndex_3 : decode b_Ob_checkIndex 3 = .ok (.invokestatic 105, 3) := by decide +kernel
theorem d_Ob_checkIndex_6 : decode b_Ob_checkIndex 6 = .ok (.ireturn, 1) := by decide +kernel
set_option maxHeartbeats 4000000 in
set_option maxRecDepth 100000 in
theorem c_Ob_checkIndex {l : Launch} {G : Gx} {s0 : State} (C : Cx G s0) (j n : Nat) (hj : j < n) (hn3 : n < 2 ^ 31) : Ct l s0 (fun _ => False) 1 0 0 y_Ob_checkIndex b_Ob_checkIndex 2 (some .int) [.int (nI j), .int (nI n)] (fun H => True) (pI (fun r _ => r = nI j)) := by
  refine Ct.of C (by decide) (Nat.le_of_ble_eq_true rfl) ?_
  intro pg ev s mm below meth cd V hr hlk hn hR ls hl
  have hx := V.1
  have hb := V.2.1
  have hS : va_S (fun _ => False) s.heap s.heap [] := va_S.rf
  have hA : ∀ q, (fun _ => False) q → s0.heap.size ≤ q := fun q h => h.elim
  have hl : lv_has ls 2 [(0, .int (nI j)), (1, .int (nI n))] := hl
  refine lv_iload_n hx hb d_Ob_checkIndex_0 rfl (lv_at hl 0 rfl) ?_
  refine lv_iload_n hx hb d_Ob_checkIndex_1 rfl (lv_at hl 1 rfl) ?_
  refine lv_null hx hb d_Ob_checkIndex_2 ?_
  refine g_callS (As := [.int (nI j), .int (nI n), .null]) (rest := []) (A0 := (fun _ => False)) V (c_Pr_checkIndex C (j) (n) (by omega) (by omega)) v_Ob_105 trivial hS hA (fun _ h => h.elim) ⟨by decide, by decide⟩ rfl hl (Nat.le_of_ble_eq_true rfl) d_Ob_checkIndex_3 ⟨Nat.le_refl _, Nat.le_refl _⟩ (kI (fun r H locs hQ hk hS => ?_))
  subst hQ
  exact e_i V hr hlk hS (Nat.le_refl _) (Nat.le_refl _) d_Ob_checkIndex_6 ⟨_, rfl, rfl⟩
