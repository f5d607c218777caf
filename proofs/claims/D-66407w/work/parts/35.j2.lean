theorem mx_n {a b : Nat} (ha : a < 2 ^ 31) (hb : b < 2 ^ 31) : mx (nI a) (nI b) = nI (max a b) := by
  unfold mx
  by_cases h : a < b
  · rw [if_pos (nI_lt h hb), Nat.max_eq_right (by omega)]
  · rw [if_neg (nI_nlt (by omega) ha), Nat.max_eq_left (by omega)]
theorem v_Ar_300 : CS "java/util/Arrays" 300 y_Ar_copyOf2 b_Ar_copyOf2 4 (some (.array (.object "java/lang/Object"))) 3 := ⟨⟨List.mem_of_getElem? (i := 510) (by decide +kernel), List.mem_of_getElem? (i := 51) (by decide +kernel), List.mem_of_getElem? (i := 508) (by decide +kernel)⟩, List.mem_of_getElem? (i := 509) (by decide +kernel), by decide, by decide, by decide +kernel⟩
theorem v_Ar_304 : CS "java/util/Arrays" 304 y_Ma_min b_Ma_min 2 (some .int) 2 := ⟨⟨List.mem_of_getElem? (i := 516) (by decide +kernel), List.mem_of_getElem? (i := 50) (by decide +kernel), List.mem_of_getElem? (i := 514) (by decide +kernel)⟩, List.mem_of_getElem? (i := 515) (by decide +kernel), by decide, by decide, by decide +kernel⟩
theorem d_As_newLength_0 : decode b_As_newLength 0 = .ok (.iload_n 0, 1) := by decide +kernel
theorem d_As_newLength_1 : decode b_As_newLength 1 = .ok (.iload_n 1, 1) := by decide +kernel
theorem d_As_newLength_2 : decode b_As_newLength 2 = .ok (.iload_n 2, 1) := by decide +kernel
theorem d_As_newLength_3 : decode b_As_newLength 3 = .ok (.invokestatic 194, 3) := by decide +kernel
theorem d_As_newLength_6 : decode b_As_newLength 6 = .ok (.iadd, 1) := by decide +kernel
theorem d_As_newLength_7 : decode b_As_newLength 7 = .ok (.istore_n 3, 1) := by decide +kernel
theorem d_As_newLength_8 : decode b_As_newLength 8 = .ok (.iconst 0, 1) := by decide +kernel
theorem d_As_newLength_9 : decode b_As_newLength 9 = .ok (.iload_n 3, 1) := by decide +kernel
theorem d_As_newLength_10 : decode b_As_newLength 10 = .ok (.if_icmp .ge 11, 3) := by decide +kernel
theorem d_As_newLength_13 : decode b_As_newLength 13 = .ok (.iload_n 3, 1) := by decide +kernel
theorem d_As_newLength_14 : decode b_As_newLength 14 = .ok (.ldc 200, 2) := by decide +kernel
theorem d_As_newLength_16 : decode b_As_newLength 16 = .ok (.if_icmp .gt 5, 3) := by decide +kernel
theorem d_As_newLength_19 : decode b_As_newLength 19 = .ok (.iload_n 3, 1) := by decide +kernel
theorem d_As_newLength_20 : decode b_As_newLength 20 = .ok (.ireturn, 1) := by decide +kernel
set_option maxHeartbeats 4000000 in
set_option maxRecDepth 100000 in
theorem c_As_newLength {l : Launch} {G : Gx} {s0 : State} (C : Cx G s0) (z n m p : Nat) (hm : 1 ≤ m) (hmp : n + m + p < 2 ^ 20) : Ct l s0 (fun _ => False) 0 0 0 y_As_newLength b_As_newLength 4 (some .int) [.int (nI n), .int (nI m), .int (nI p)] (fun H => H.size = z) (pI (fun r H => r = nI (n + max m p) ∧ H.size = z)) := by
  refine Ct.of C (by decide) (Nat.le_of_ble_eq_true rfl) ?_
  intro pg ev s mm below meth cd V hr hlk hn hR ls hl
  have hx := V.1
  have hb := V.2.1
  have hS : va_S (fun _ => False) s.heap s.heap [] := va_S.rf
  have hA : ∀ q, (fun _ => False) q → s0.heap.size ≤ q := fun q h => h.elim
  have hl : lv_has ls 4 [(0, .int (nI n)), (1, .int (nI m)), (2, .int (nI p))] := hl
  refine lv_iload_n hx hb d_As_newLength_0 rfl (lv_at hl 0 rfl) ?_
  refine lv_iload_n hx hb d_As_newLength_1 rfl (lv_at hl 1 rfl) ?_
  refine lv_iload_n hx hb d_As_newLength_2 rfl (lv_at hl 2 rfl) ?_
  refine x_max V (List.mem_of_getElem? (i := 479) (by decide +kernel)) hl (Nat.le_of_ble_eq_true rfl) ⟨by decide, by decide⟩ (by decide) (by decide) d_As_newLength_3 ?_
  rw [mx_n (a := m) (b := p) (by omega) (by omega)]
  refine lv_iadd hx hb d_As_newLength_6 ?_
  refine lv_tope (y := nI (n + max m p)) (ad_e (a := n) (b := max m p) rfl rfl) ?_
  refine lv_istore_n (lv' := [(3, .int (nI (n + max m p))), (0, .int (nI n)), (1, .int (nI m)), (2, .int (nI p))]) hx hb d_As_newLength_7 rfl hl (by decide) rfl (fun ls hl => ?_)
  refine lv_iconst (v := 0) hx hb d_As_newLength_8 (by decide) ?_
  refine lv_iload_n hx hb d_As_newLength_9 rfl (lv_at hl 0 rfl) ?_
  refine lv_icmp_ge (tgt := 21) hx hb d_As_newLength_10 (by decide) (fun h10 => ?_) (fun h10 => ?_)
  · exact absurd h10 (nI_nle (by omega) (by omega))
  · refine lv_iload_n hx hb d_As_newLength_13 rfl (lv_at hl 0 rfl) ?_
    refine lv_ldc (v := 2147483639) hx hb V.2.2.2.1 (V.2.2.2.2.1 (.constant "jdk/internal/util/ArraysSupport" 200 2147483639) (List.mem_of_getElem? (i := 482) (by decide +kernel)) rfl _) d_As_newLength_14 ?_
    refine lv_icmp_gt (tgt := 21) hx hb d_As_newLength_16 (by decide) (fun h16 => ?_) (fun h16 => ?_)
    · exact absurd h16 (nI_nlt (a := 2147483639) (by omega) (by decide))
    · refine lv_iload_n hx hb d_As_newLength_19 rfl (lv_at hl 0 rfl) ?_
      exact e_i V hr hlk hS (Nat.le_refl _) (Nat.le_refl _) d_As_newLength_20 ⟨_, rfl, rfl, hR⟩
theorem d_Ar_copyOf2_0 : decode b_Ar_copyOf2 0 = .ok (.aload_n 2, 1) := by decide +kernel
theorem d_Ar_copyOf2_1 : decode b_Ar_copyOf2 1 = .ok (.ldc 110, 2) := by decide +kernel
theorem d_Ar_copyOf2_3 : decode b_Ar_copyOf2 3 = .ok (.if_acmp .ne 10, 3) := by decide +kernel
theorem d_Ar_copyOf2_6 : decode b_Ar_copyOf2 6 = .ok (.iload_n 1, 1) := by decide +kernel
theorem d_Ar_copyOf2_7 : decode b_Ar_copyOf2 7 = .ok (.anewarray 2, 3) := by decide +kernel
theorem d_Ar_copyOf2_10 : decode b_Ar_copyOf2 10 = .ok (.goto 14, 3) := by decide +kernel
theorem d_Ar_copyOf2_24 : decode b_Ar_copyOf2 24 = .ok (.astore_n 3, 1) := by decide +kernel
theorem d_Ar_copyOf2_25 : decode b_Ar_copyOf2 25 = .ok (.aload_n 0, 1) := by decide +kernel
theorem d_Ar_copyOf2_26 : decode b_Ar_copyOf2 26 = .ok (.iconst 0, 1) := by decide +kernel
theorem d_Ar_copyOf2_27 : decode b_Ar_copyOf2 27 = .ok (.aload_n 3, 1) := by decide +kernel
theorem d_Ar_copyOf2_28 : decode b_Ar_copyOf2 28 = .ok (.iconst 0, 1) := by decide +kernel
theorem d_Ar_copyOf2_29 : decode b_Ar_copyOf2 29 = .ok (.aload_n 0, 1) := by decide +kernel
theorem d_Ar_copyOf2_30 : decode b_Ar_copyOf2 30 = .ok (.arraylength, 1) := by decide +kernel
theorem d_Ar_copyOf2_31 : decode b_Ar_copyOf2 31 = .ok (.iload_n 1, 1) := by decide +kernel
theorem d_Ar_copyOf2_32 : decode b_Ar_copyOf2 32 = .ok (.invokestatic 304, 3) := by decide +kernel
theorem d_Ar_copyOf2_35 : decode b_Ar_copyOf2 35 = .ok (.invokestatic 150, 3) := by decide +kernel
theorem d_Ar_copyOf2_38 : decode b_Ar_copyOf2 38 = .ok (.aload_n 3, 1) := by decide +kernel
theorem d_Ar_copyOf2_39 : decode b_Ar_copyOf2 39 = .ok (.areturn, 1) := by decide +kernel
set_option maxHeartbeats 4000000 in
set_option maxRecDepth 100000 in
theorem c_Ar_copyOf2 {l : Launch} {G : Gx} {s0 : State} (C : Cx G s0) {ea mi : Nat} (E : Es0 s0 ea mi) (a0 n0 n1 a : Nat) (f : Nat → Option Nat) (ha0 : s0.heap.size ≤ a0) (h0 : s0.heap.size ≤ a) (hn01 : n0 ≤ n1) (hn1 : n1 ≤ 300) : Ct l s0 (fun q => q = a0 ∨ q = a) 0 1 300 y_Ar_copyOf2 b_Ar_copyOf2 4 (some (.array (.object "java/lang/Object"))) [.ref (a0), .int (nI n1), .ref (mi)] (fun H => va_at G.1 classes (a0, .inl (G.2 6, (n0, vq (f)))) H ∧ (∀ i y : Nat, i < n0 → f i = some y → ∃ fs, va_at G.1 classes (y, .inr (6, fs)) H) ∧ H.size = a) (pA (fun r H => r = a ∧ va_at G.1 classes (a, .inl (G.2 6, (n1, vq (va_cpy f (fun _ => none) 0 0 n0)))) H ∧ va_at G.1 classes (a0, .inl (G.2 6, (n0, vq f))) H)) := by
  refine Ct.of C (by decide) (Nat.le_of_ble_eq_true rfl) ?_
  intro pg ev s mm below meth cd V hr hlk hn hR ls hl
  have hx := V.1
  have hb := V.2.1
  have hS : va_S (fun q => q = a0 ∨ q = a) s.heap s.heap [] := va_S.rf
  have hA : ∀ q, (fun q => q = a0 ∨ q = a) q → s0.heap.size ≤ q := fun q h => by rcases h with h | h <;> omega
  have hl : lv_has ls 4 [(0, .ref (a0)), (1, .int (nI n1)), (2, .ref (mi))] := hl
  obtain ⟨hAr, hEl, hz⟩ := hR
  have hne : a0 ≠ a := by have := hAr.lt; rw [hz] at this; exact Nat.ne_of_lt this
  refine lv_aload_n hx hb d_Ar_copyOf2_0 rfl (lv_at hl 2 rfl) ?_
  refine x_ldcM V E (List.mem_of_getElem? (i := 511) (by decide +kernel)) d_Ar_copyOf2_1 ?_
  refine lv_acmp_ne (rx := some mi) (ry := some mi) (tgt := 13) hx hb d_Ar_copyOf2_3 (by decide) (fun h => absurd rfl h) (fun _ => ?_)
  refine lv_iload_n hx hb d_Ar_copyOf2_6 rfl (lv_at hl 1 rfl) ?_
  refine x_newq V 6 rfl (List.mem_of_getElem? (i := 513) (by decide +kernel)) (List.mem_of_getElem? (i := 512) (by decide +kernel)) (n1) rfl (by omega) (by decide) (by show _ + _ ≤ _; first | decide | omega | (simp only [rmx]; omega)) d_Ar_copyOf2_7 (fun H hNw z oq => ?_)
  rw [hz] at hNw z oq ⊢
  have hAr := hAr.kept (oq _ (by have := hAr.lt; rw [hz] at this; exact this))
  have hEl : ∀ i y : Nat, i < n0 → f i = some y → ∃ fs, va_at G.1 classes (y, .inr (6, fs)) H := fun i y hi hy => by
    obtain ⟨fs, hat⟩ := hEl i y hi hy
    exact ⟨fs, hat.kept (oq _ (by have := hat.lt; rw [hz] at this; exact this))⟩
  have hS := S_new (H1 := H) hS (by rw [hz]; exact z) (by rw [hz]; exact oq)
  refine lv_goto (tgt := 24) hx hb d_Ar_copyOf2_10 (by decide) ?_
  refine lv_astore_n (lv' := [(3, .ref (a)), (0, .ref (a0)), (1, .int (nI n1)), (2, .ref (mi))]) hx hb d_Ar_copyOf2_24 rfl hl (by decide) rfl (fun ls hl => ?_)
  refine lv_aload_n hx hb d_Ar_copyOf2_25 rfl (lv_at hl 1 rfl) ?_
  refine lv_iconst (v := 0) hx hb d_Ar_copyOf2_26 (by decide) ?_
  refine lv_aload_n hx hb d_Ar_copyOf2_27 rfl (lv_at hl 0 rfl) ?_
  refine lv_iconst (v := 0) hx hb d_Ar_copyOf2_28 (by decide) ?_
  refine lv_aload_n hx hb d_Ar_copyOf2_29 rfl (lv_at hl 1 rfl) ?_
  refine x_alen V 6 hAr rfl d_Ar_copyOf2_30 ?_
  refine lv_iload_n hx hb d_Ar_copyOf2_31 rfl (lv_at hl 2 rfl) ?_
  refine x_min V (List.mem_of_getElem? (i := 514) (by decide +kernel)) hl (Nat.le_of_ble_eq_true rfl) ⟨by decide, by decide⟩ (by decide) (by show _ + _ ≤ _; simp only [rmx]; omega) d_Ar_copyOf2_32 ?_
  rw [if_neg (nI_nlt hn01 (by omega))]
  refine x_copy V (List.mem_of_getElem? (i := 517) (by decide +kernel)) hne hAr hNw hS hn01 (by omega) hEl hl (Nat.le_of_ble_eq_true rfl) ⟨by decide, by decide⟩ d_Ar_copyOf2_35 (fun H locs hAr hNw hS => ?_)
  refine lv_aload_n hx hb d_Ar_copyOf2_38 rfl (lv_at hl 0 rfl) ?_
  exact e_q V hr hlk hS (by decide) (by omega) d_Ar_copyOf2_39 ⟨_, rfl, rfl, hNw, hAr⟩
theorem d_Ar_copyOf_0 : decode b_Ar_copyOf 0 = .ok (.aload_n 0, 1) := by decide +kernel
theorem d_Ar_copyOf_1 : decode b_Ar_copyOf 1 = .ok (.iload_n 1, 1) := by decide +kernel
theorem d_Ar_copyOf_2 : decode b_Ar_copyOf 2 = .ok (.aload_n 0, 1) := by decide +kernel
theorem d_Ar_copyOf_3 : decode b_Ar_copyOf 3 = .ok (.invokevirtual 86, 3) := by decide +kernel
theorem d_Ar_copyOf_6 : decode b_Ar_copyOf 6 = .ok (.invokestatic 300, 3) := by decide +kernel
theorem d_Ar_copyOf_9 : decode b_Ar_copyOf 9 = .ok (.areturn, 1) := by decide +kernel
set_option maxHeartbeats 4000000 in
set_option maxRecDepth 100000 in
theorem c_Ar_copyOf {l : Launch} {G : Gx} {s0 : State} (C : Cx G s0) {ea mi : Nat} (E : Es0 s0 ea mi) (a0 n0 n1 a : Nat) (f : Nat → Option Nat) (ha0 : s0.heap.size ≤ a0) (h0 : s0.heap.size ≤ a) (hn01 : n0 ≤ n1) (hn1 : n1 ≤ 300) : Ct l s0 (fun q => q = a0 ∨ q = a) 1 1 300 y_Ar_copyOf b_Ar_copyOf 2 (some (.array (.object "java/lang/Object"))) [.ref (a0), .int (nI n1)] (fun H => va_at G.1 classes (a0, .inl (G.2 6, (n0, vq (f)))) H ∧ (∀ i y : Nat, i < n0 → f i = some y → ∃ fs, va_at G.1 classes (y, .inr (6, fs)) H) ∧ H.size = a) (pA (fun r H => r = a ∧ va_at G.1 classes (a, .inl (G.2 6, (n1, vq (va_cpy f (fun _ => none) 0 0 n0)))) H ∧ va_at G.1 classes (a0, .inl (G.2 6, (n0, vq f))) H)) := by
  refine Ct.of C (by decide) (Nat.le_of_ble_eq_true rfl) ?_
  intro pg ev s mm below meth cd V hr hlk hn hR ls hl
  have hx := V.1
  have hb := V.2.1
  have hS : va_S (fun q => q = a0 ∨ q = a) s.heap s.heap [] := va_S.rf
  have hA : ∀ q, (fun q => q = a0 ∨ q = a) q → s0.heap.size ≤ q := fun q h => by rcases h with h | h <;> omega
  have hl : lv_has ls 2 [(0, .ref (a0)), (1, .int (nI n1))] := hl
  obtain ⟨hAr, hEl, hz⟩ := hR
  refine lv_aload_n hx hb d_Ar_copyOf_0 rfl (lv_at hl 0 rfl) ?_
  refine lv_iload_n hx hb d_Ar_copyOf_1 rfl (lv_at hl 1 rfl) ?_
  refine lv_aload_n hx hb d_Ar_copyOf_2 rfl (lv_at hl 0 rfl) ?_
  refine x_getC V E (List.mem_of_getElem? (i := 489) (by decide +kernel)) hAr hl (Nat.le_of_ble_eq_true rfl) ⟨by decide, by decide⟩ d_Ar_copyOf_3 ?_
  refine g_callS (As := [.ref (a0), .int (nI n1), .ref (mi)]) (rest := []) (A0 := (fun q => q = a0 ∨ q = a)) V (c_Ar_copyOf2 C E a0 n0 n1 a f ha0 h0 hn01 hn1) v_Ar_300 ⟨hAr, hEl, hz⟩ hS hA (fun _ h => h) ⟨by decide, by decide⟩ rfl hl (Nat.le_of_ble_eq_true rfl) d_Ar_copyOf_6 ⟨by decide, by decide⟩ (kA (fun r H locs hQ hk hS => ?_))
  obtain ⟨rfl, hNw, hAr⟩ := hQ
  exact e_q V hr hlk hS (by decide) (by decide) d_Ar_copyOf_9 ⟨_, rfl, rfl, hNw, hAr⟩
theorem d_Al_grow2_0 : decode b_Al_grow2 0 = .ok (.aload_n 0, 1) := by decide +kernel
theorem d_Al_grow2_1 : decode b_Al_grow2 1 = .ok (.getfield 9, 3) := by decide +kernel
theorem d_Al_grow2_4 : decode b_Al_grow2 4 = .ok (.arraylength, 1) := by decide +kernel
theorem d_Al_grow2_5 : decode b_Al_grow2 5 = .ok (.istore_n 2, 1) := by decide +kernel
theorem d_Al_grow2_6 : decode b_Al_grow2 6 = .ok (.iload_n 2, 1) := by decide +kernel
theorem d_Al_grow2_7 : decode b_Al_grow2 7 = .ok (.ifCond .gt 13, 3) := by decide +kernel
theorem d_Al_grow2_10 : decode b_Al_grow2 10 = .ok (.aload_n 0, 1) := by decide +kernel
theorem d_Al_grow2_11 : decode b_Al_grow2 11 = .ok (.getfield 9, 3) := by decide +kernel
theorem d_Al_grow2_14 : decode b_Al_grow2 14 = .ok (.getstatic 39, 3) := by decide +kernel
theorem d_Al_grow2_17 : decode b_Al_grow2 17 = .ok (.if_acmp .eq 28, 3) := by decide +kernel
theorem d_Al_grow2_45 : decode b_Al_grow2 45 = .ok (.aload_n 0, 1) := by decide +kernel
theorem d_Al_grow2_46 : decode b_Al_grow2 46 = .ok (.bipush 10, 2) := by decide +kernel
theorem d_Al_grow2_48 : decode b_Al_grow2 48 = .ok (.iload_n 1, 1) := by decide +kernel
theorem d_Al_grow2_49 : decode b_Al_grow2 49 = .ok (.invokestatic 79, 3) := by decide +kernel
theorem d_Al_grow2_52 : decode b_Al_grow2 52 = .ok (.anewarray 7, 3) := by decide +kernel
theorem d_Al_grow2_55 : decode b_Al_grow2 55 = .ok (.dup_x1, 1) := by decide +kernel
theorem d_Al_grow2_56 : decode b_Al_grow2 56 = .ok (.putfield 9, 3) := by decide +kernel
theorem d_Al_grow2_59 : decode b_Al_grow2 59 = .ok (.areturn, 1) := by decide +kernel
set_option maxHeartbeats 4000000 in
set_option maxRecDepth 100000 in
theorem c_Al_grow2_0 {l : Launch} {G : Gx} {s0 : State} (C : Cx G s0) {ea mi : Nat} (E : Es0 s0 ea mi) (al a : Nat) (sz mo : Int32) (h0 : s0.heap.size ≤ al) (h1 : s0.heap.size ≤ a) : Ct l s0 (fun q => q = al ∨ q = a) 1 1 300 y_Al_grow2 b_Al_grow2 4 (some (.array (.object "java/lang/Object"))) [.ref (al), .int (nI 1)] (fun H => va_at G.1 classes (al, .inr (3, [.ref ea, .int sz, .int mo])) H ∧ H.size = a) (pA (fun r H => r = a ∧ va_at G.1 classes (a, .inl (G.2 6, (10, vq (fun _ => none)))) H ∧ va_at G.1 classes (al, .inr (3, [.ref a, .int sz, .int mo])) H)) := by
  refine Ct.of C (by decide) (Nat.le_of_ble_eq_true rfl) ?_
  intro pg ev s mm below meth cd V hr hlk hn hR ls hl
  have hx := V.1
  have hb := V.2.1
  have hS : va_S (fun q => q = al ∨ q = a) s.heap s.heap [] := va_S.rf
  have hA : ∀ q, (fun q => q = al ∨ q = a) q → s0.heap.size ≤ q := fun q h => by rcases h with h | h <;> omega
  have hl : lv_has ls 4 [(0, .ref (al)), (1, .int (nI 1))] := hl
  obtain ⟨hAl, hz⟩ := hR
  have hne : al ≠ a := (by have := hAl.lt; rw [hz] at this; exact Nat.ne_of_lt this)
  refine lv_aload_n hx hb d_Al_grow2_0 rfl (lv_at hl 0 rfl) ?_
  refine g_Al_9 V hAl rfl d_Al_grow2_1 ?_
  refine x_tlen V E hS hA d_Al_grow2_4 ?_
  refine lv_istore_n (lv' := [(2, .int (0)), (0, .ref (al)), (1, .int (nI 1))]) hx hb d_Al_grow2_5 rfl hl (by decide) rfl (fun ls hl => ?_)
  refine lv_iload_n hx hb d_Al_grow2_6 rfl (lv_at hl 0 rfl) ?_
  refine lv_if_gt (tgt := 20) hx hb d_Al_grow2_7 (by decide) (fun h7 => ?_) (fun h7 => ?_)
  · exact absurd h7 (by decide)
  · refine lv_aload_n hx hb d_Al_grow2_10 rfl (lv_at hl 1 rfl) ?_
    refine g_Al_9 V hAl rfl d_Al_grow2_11 ?_
    refine x_gets V E hS hA (List.mem_of_getElem? (i := 102) (by decide +kernel)) d_Al_grow2_14 ?_
    refine lv_acmp_eq (rx := some ea) (ry := some ea) (tgt := 45) hx hb d_Al_grow2_17 (by decide) (fun _ => ?_) (fun h => absurd rfl h)
    refine lv_aload_n hx hb d_Al_grow2_45 rfl (lv_at hl 1 rfl) ?_
    refine lv_bipush (v := 10) hx hb d_Al_grow2_46 (by decide) ?_
    refine lv_iload_n hx hb d_Al_grow2_48 rfl (lv_at hl 2 rfl) ?_
    refine x_max V (List.mem_of_getElem? (i := 520) (by decide +kernel)) hl (Nat.le_of_ble_eq_true rfl) ⟨by decide, by decide⟩ (by decide) (by decide) d_Al_grow2_49 ?_
    rw [show mx 10 (nI 1) = nI 10 from by decide]
    refine x_newq V 6 rfl (List.mem_of_getElem? (i := 521) (by decide +kernel)) (List.mem_of_getElem? (i := 512) (by decide +kernel)) (10) rfl (by omega) (by decide) (by show _ + _ ≤ _; first | decide | omega | (simp only [rmx]; omega)) d_Al_grow2_52 (fun H hNw z oq => ?_)
    rw [hz] at hNw z oq ⊢
    have hAl := hAl.kept (oq _ (by have := hAl.lt; rw [hz] at this; exact this))
    have hS := S_new (H1 := H) hS (by rw [hz]; exact z) (by rw [hz]; exact oq)
    refine lv_dup_x1 hx hb d_Al_grow2_55 rfl rfl ?_
    refine p_Al_9 V hAl (Nat.le_of_ble_eq_true rfl) d_Al_grow2_56 (fun H i hAl z oq => ?_)
    have hS := hS.put (k := i) z oq (Or.inl rfl)
    have hNw := hNw.kept (oq _ hne.symm)
    exact e_q V hr hlk hS (by decide) (by decide) d_Al_grow2_59 ⟨_, rfl, rfl, hNw, hAl⟩
theorem d_Al_grow2_20 : decode b_Al_grow2 20 = .ok (.iload_n 2, 1) := by decide +kernel
theorem d_Al_grow2_21 : decode b_Al_grow2 21 = .ok (.iload_n 1, 1) := by decide +kernel
theorem d_Al_grow2_22 : decode b_Al_grow2 22 = .ok (.iload_n 2, 1) := by decide +kernel
theorem d_Al_grow2_23 : decode b_Al_grow2 23 = .ok (.isub, 1) := by decide +kernel
theorem d_Al_grow2_24 : decode b_Al_grow2 24 = .ok (.iload_n 2, 1) := by decide +kernel
theorem d_Al_grow2_25 : decode b_Al_grow2 25 = .ok (.iconst 1, 1) := by decide +kernel
theorem d_Al_grow2_26 : decode b_Al_grow2 26 = .ok (.ishr, 1) := by decide +kernel
theorem d_Al_grow2_27 : decode b_Al_grow2 27 = .ok (.invokestatic 73, 3) := by decide +kernel
theorem d_Al_grow2_30 : decode b_Al_grow2 30 = .ok (.istore_n 3, 1) := by decide +kernel
theorem d_Al_grow2_31 : decode b_Al_grow2 31 = .ok (.aload_n 0, 1) := by decide +kernel
theorem d_Al_grow2_32 : decode b_Al_grow2 32 = .ok (.aload_n 0, 1) := by decide +kernel
theorem d_Al_grow2_33 : decode b_Al_grow2 33 = .ok (.getfield 9, 3) := by decide +kernel
theorem d_Al_grow2_36 : decode b_Al_grow2 36 = .ok (.iload_n 3, 1) := by decide +kernel
theorem d_Al_grow2_37 : decode b_Al_grow2 37 = .ok (.invokestatic 66, 3) := by decide +kernel
theorem d_Al_grow2_40 : decode b_Al_grow2 40 = .ok (.dup_x1, 1) := by decide +kernel
theorem d_Al_grow2_41 : decode b_Al_grow2 41 = .ok (.putfield 9, 3) := by decide +kernel
theorem d_Al_grow2_44 : decode b_Al_grow2 44 = .ok (.areturn, 1) := by decide +kernel
set_option maxHeartbeats 4000000 in
set_option maxRecDepth 100000 in
theorem c_Al_grow2 {l : Launch} {G : Gx} {s0 : State} (C : Cx G s0) {ea mi : Nat} (E : Es0 s0 ea mi) (al arr n a : Nat) (f : Nat → Option Nat) (sz mo : Int32) (h0 : s0.heap.size ≤ al) (h1 : s0.heap.size ≤ a) (h2 : s0.heap.size ≤ arr) (hna : arr ≠ al) (hn0 : 0 < n) (hn9 : n ≤ 100) : Ct l s0 (fun q => q = al ∨ q = arr ∨ q = a) 2 1 300 y_Al_grow2 b_Al_grow2 4 (some (.array (.object "java/lang/Object"))) [.ref (al), .int (nI (n + 1))] (fun H => va_at G.1 classes (al, .inr (3, [.ref arr, .int sz, .int mo])) H ∧ va_at G.1 classes (arr, .inl (G.2 6, (n, vq (f)))) H ∧ (∀ i y : Nat, i < n → f i = some y → ∃ fs, va_at G.1 classes (y, .inr (6, fs)) H) ∧ H.size = a) (pA (fun r H => r = a ∧ va_at G.1 classes (a, .inl (G.2 6, (n + max 1 (n / 2), vq (va_cpy f (fun _ => none) 0 0 n)))) H ∧ va_at G.1 classes (al, .inr (3, [.ref a, .int sz, .int mo])) H)) := by
  refine Ct.of C (by decide) (Nat.le_of_ble_eq_true rfl) ?_
  intro pg ev s mm below meth cd V hr hlk hn hR ls hl
  have hx := V.1
  have hb := V.2.1
  have hS : va_S (fun q => q = al ∨ q = arr ∨ q = a) s.heap s.heap [] := va_S.rf
  have hA : ∀ q, (fun q => q = al ∨ q = arr ∨ q = a) q → s0.heap.size ≤ q := fun q h => by rcases h with h | h | h <;> omega
  have hl : lv_has ls 4 [(0, .ref (al)), (1, .int (nI (n + 1)))] := hl
  obtain ⟨hAl, hAr, hEl, hz⟩ := hR
  have hne : al ≠ a := (by have := hAl.lt; rw [hz] at this; exact Nat.ne_of_lt this)
  have hnr : arr ≠ a := by have := hAr.lt; rw [hz] at this; exact Nat.ne_of_lt this
  have hF3 : ∀ q, (fun q => q = arr ∨ q = a) q → (fun q => q = al ∨ q = arr ∨ q = a) q := fun q h => Or.inr h
  refine lv_aload_n hx hb d_Al_grow2_0 rfl (lv_at hl 0 rfl) ?_
  refine g_Al_9 V hAl rfl d_Al_grow2_1 ?_
  refine x_alen V 6 hAr rfl d_Al_grow2_4 ?_
  refine lv_istore_n (lv' := [(2, .int (nI n)), (0, .ref (al)), (1, .int (nI (n + 1)))]) hx hb d_Al_grow2_5 rfl hl (by decide) rfl (fun ls hl => ?_)
  refine lv_iload_n hx hb d_Al_grow2_6 rfl (lv_at hl 0 rfl) ?_
  refine lv_if_gt (tgt := 20) hx hb d_Al_grow2_7 (by decide) (fun h7 => ?_) (fun h7 => ?_)
  · refine lv_iload_n hx hb d_Al_grow2_20 rfl (lv_at hl 0 rfl) ?_
    refine lv_iload_n hx hb d_Al_grow2_21 rfl (lv_at hl 2 rfl) ?_
    refine lv_iload_n hx hb d_Al_grow2_22 rfl (lv_at hl 0 rfl) ?_
    refine lv_isub hx hb d_Al_grow2_23 ?_
    refine lv_tope (y := nI ((n + 1) - n)) (su_e rfl rfl (by omega)) ?_
    refine lv_iload_n hx hb d_Al_grow2_24 rfl (lv_at hl 0 rfl) ?_
    refine lv_iconst (v := 1) hx hb d_Al_grow2_25 (by decide) ?_
    refine lv_ishr hx hb d_Al_grow2_26 ?_
    refine lv_tope (y := nI (n / 2)) (pk_shrN (by omega) _ 1 (by decide)) ?_
    refine g_callS (As := [.int (nI n), .int (nI ((n + 1) - n)), .int (nI (n / 2))]) (rest := []) (A0 := (fun q => q = al ∨ q = arr ∨ q = a)) V (c_As_newLength C a n ((n + 1) - n) (n / 2) (by omega) (by omega)) v_Al_73 hz hS hA (fun _ h => h.elim) ⟨by decide, by decide⟩ rfl hl (Nat.le_of_ble_eq_true rfl) d_Al_grow2_27 ⟨by decide, by decide⟩ (kI (fun r H locs hQ hk hS => ?_))
    obtain ⟨rfl, hz⟩ := hQ
    rw [show (n + 1) - n = 1 from Nat.add_sub_cancel_left ..]
    have hAl := hAl.kept (hk.2 _ hAl.lt (fun z => z))
    have hAr := hAr.kept (hk.2 _ hAr.lt (fun z => z))
    have hEl : ∀ i y : Nat, i < n → f i = some y → ∃ fs, va_at G.1 classes (y, .inr (6, fs)) H := fun i y hi hy => by
      obtain ⟨fs, hat⟩ := hEl i y hi hy
      exact ⟨fs, hat.kept (hk.2 _ hat.lt (fun z => z))⟩
    refine lv_istore_n (lv' := [(3, .int (nI (n + max 1 (n / 2)))), (2, .int (nI n)), (0, .ref (al)), (1, .int (nI (n + 1)))]) hx hb d_Al_grow2_30 rfl hl (by decide) rfl (fun ls hl => ?_)
    refine lv_aload_n hx hb d_Al_grow2_31 rfl (lv_at hl 2 rfl) ?_
    refine lv_aload_n hx hb d_Al_grow2_32 rfl (lv_at hl 2 rfl) ?_
    refine g_Al_9 V hAl rfl d_Al_grow2_33 ?_
    refine lv_iload_n hx hb d_Al_grow2_36 rfl (lv_at hl 0 rfl) ?_
    refine g_callS (As := [.ref (arr), .int (nI (n + max 1 (n / 2)))]) (rest := [.ref al]) (A0 := (fun q => q = al ∨ q = arr ∨ q = a)) V (c_Ar_copyOf C E arr n (n + max 1 (n / 2)) a f h2 h1 (by omega) (by omega)) v_Al_66 ⟨hAr, hEl, hz⟩ hS hA hF3 ⟨by decide, by decide⟩ rfl hl (Nat.le_of_ble_eq_true rfl) d_Al_grow2_37 ⟨by decide, by decide⟩ (kA (fun r H locs hQ hk hS => ?_))
    obtain ⟨hr1, hNw, hAr⟩ := hQ
    rw [hr1]
    have hAl := hAl.kept (hk.2 _ hAl.lt (fun z => by rcases z with z | z; exact hna z.symm; exact hne z))
    refine lv_dup_x1 hx hb d_Al_grow2_40 rfl rfl ?_
    refine p_Al_9 V hAl (Nat.le_of_ble_eq_true rfl) d_Al_grow2_41 (fun H i hAl z oq => ?_)
    have hS := hS.put (k := i) z oq (Or.inl rfl)
    have hAr := hAr.kept (oq _ hna)
    have hNw := hNw.kept (oq _ hne.symm)
    exact e_q V hr hlk hS (by decide) (by decide) d_Al_grow2_44 ⟨_, rfl, rfl, hNw, hAl⟩
  · exact absurd (nI_lt (a := 0) hn0 (by omega)) h7
