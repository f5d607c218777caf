def PAd (G : Gx) (B D0 ea : Nat) (σ : Sg) (τ : Tt) (c w y : Nat) (e mo : Int32) (H : Heap) : Prop := ∃ H0 : Heap, H0.size = y ∧ RepC G B D0 ea σ τ H0 ∧ D0 ≤ y ∧ (∀ q, q < y → q ≠ B + (11 + 9 * c) → H[q]? = H0[q]?) ∧ va_at G.1 classes (B + (11 + 9 * c), .inr (3, [.ref (τ.2.1 c), .int (nI w), .int mo])) H ∧ va_at G.1 classes (y, .inr (6, [.int e, .int 0])) H ∧ y < H.size
theorem d_Al_grow_0 : decode b_Al_grow 0 = .ok (.aload_n 0, 1) := by decide +kernel
theorem d_Al_grow_1 : decode b_Al_grow 1 = .ok (.aload_n 0, 1) := by decide +kernel
theorem d_Al_grow_2 : decode b_Al_grow 2 = .ok (.getfield 48, 3) := by decide +kernel
theorem d_Al_grow_5 : decode b_Al_grow 5 = .ok (.iconst 1, 1) := by decide +kernel
theorem d_Al_grow_6 : decode b_Al_grow 6 = .ok (.iadd, 1) := by decide +kernel
theorem d_Al_grow_7 : decode b_Al_grow 7 = .ok (.invokevirtual 69, 3) := by decide +kernel
theorem d_Al_grow_10 : decode b_Al_grow 10 = .ok (.areturn, 1) := by decide +kernel
set_option maxHeartbeats 4000000 in
set_option maxRecDepth 100000 in
theorem c_Al_grow_0 {l : Launch} {G : Gx} {s0 : State} (C : Cx G s0) {ea mi : Nat} (E : Es0 s0 ea mi) (al a : Nat) (mo : Int32) (h0 : s0.heap.size ≤ al) (h1 : s0.heap.size ≤ a) : Ct l s0 (fun q => q = al ∨ q = a) 3 1 300 y_Al_grow b_Al_grow 1 (some (.array (.object "java/lang/Object"))) [.ref (al)] (fun H => va_at G.1 classes (al, .inr (3, [.ref ea, .int (nI 0), .int mo])) H ∧ H.size = a) (pA (fun r H => r = a ∧ va_at G.1 classes (a, .inl (G.2 6, (10, vq (fun _ => none)))) H ∧ va_at G.1 classes (al, .inr (3, [.ref a, .int (nI 0), .int mo])) H)) := by
  refine Ct.of C (by decide) (Nat.le_of_ble_eq_true rfl) ?_
  intro pg ev s mm below meth cd V hr hlk hn hR ls hl
  have hx := V.1
  have hb := V.2.1
  have hS : va_S (fun q => q = al ∨ q = a) s.heap s.heap [] := va_S.rf
  have hA : ∀ q, (fun q => q = al ∨ q = a) q → s0.heap.size ≤ q := fun q h => by rcases h with h | h <;> omega
  have hl : lv_has ls 1 [(0, .ref (al))] := hl
  obtain ⟨hAl, hz⟩ := hR
  refine lv_aload_n hx hb d_Al_grow_0 rfl (lv_at hl 0 rfl) ?_
  refine lv_aload_n hx hb d_Al_grow_1 rfl (lv_at hl 0 rfl) ?_
  refine g_Al_48 V hAl rfl d_Al_grow_2 ?_
  refine lv_iconst (v := 1) hx hb d_Al_grow_5 (by decide) ?_
  refine lv_iadd hx hb d_Al_grow_6 ?_
  refine lv_tope (y := nI (0 + 1)) (ad_e (a := 0) (b := 1) rfl (rfl : (1 : Int32) = nI 1)) ?_
  refine g_callV (As := [.int (nI (0 + 1))]) (rest := []) (A0 := (fun q => q = al ∨ q = a)) V (c_Al_grow2_0 C E al a (nI 0) mo h0 h1) v_Al_69 (va_recv V.2.2.2.2.2.1 (x_one hAl) (ci := 3) (q0 := 0) rfl rfl) ⟨hAl, hz⟩ hS hA (fun _ h => h) ⟨by decide, by decide⟩ rfl hl (Nat.le_of_ble_eq_true rfl) d_Al_grow_7 ⟨by decide, by decide⟩ (kA (fun r H locs hQ hk hS => ?_))
  obtain ⟨rfl, hNw, hAl⟩ := hQ
  exact e_q V hr hlk hS (by decide) (by decide) d_Al_grow_10 ⟨_, rfl, rfl, hNw, hAl⟩
set_option maxHeartbeats 4000000 in
set_option maxRecDepth 100000 in
theorem c_Al_grow {l : Launch} {G : Gx} {s0 : State} (C : Cx G s0) {ea mi : Nat} (E : Es0 s0 ea mi) (al arr n a : Nat) (f : Nat → Option Nat) (mo : Int32) (h0 : s0.heap.size ≤ al) (h1 : s0.heap.size ≤ a) (h2 : s0.heap.size ≤ arr) (hna : arr ≠ al) (hn0 : 0 < n) (hn9 : n ≤ 100) : Ct l s0 (fun q => q = al ∨ q = arr ∨ q = a) 3 1 300 y_Al_grow b_Al_grow 1 (some (.array (.object "java/lang/Object"))) [.ref (al)] (fun H => va_at G.1 classes (al, .inr (3, [.ref arr, .int (nI n), .int mo])) H ∧ va_at G.1 classes (arr, .inl (G.2 6, (n, vq (f)))) H ∧ (∀ i y : Nat, i < n → f i = some y → ∃ fs, va_at G.1 classes (y, .inr (6, fs)) H) ∧ H.size = a) (pA (fun r H => r = a ∧ va_at G.1 classes (a, .inl (G.2 6, (n + max 1 (n / 2), vq (va_cpy f (fun _ => none) 0 0 n)))) H ∧ va_at G.1 classes (al, .inr (3, [.ref a, .int (nI n), .int mo])) H)) := by
  refine Ct.of C (by decide) (Nat.le_of_ble_eq_true rfl) ?_
  intro pg ev s mm below meth cd V hr hlk hn hR ls hl
  have hx := V.1
  have hb := V.2.1
  have hS : va_S (fun q => q = al ∨ q = arr ∨ q = a) s.heap s.heap [] := va_S.rf
  have hA : ∀ q, (fun q => q = al ∨ q = arr ∨ q = a) q → s0.heap.size ≤ q := fun q h => by rcases h with h | h | h <;> omega
  have hl : lv_has ls 1 [(0, .ref (al))] := hl
  obtain ⟨hAl, hAr, hEl, hz⟩ := hR
  refine lv_aload_n hx hb d_Al_grow_0 rfl (lv_at hl 0 rfl) ?_
  refine lv_aload_n hx hb d_Al_grow_1 rfl (lv_at hl 0 rfl) ?_
  refine g_Al_48 V hAl rfl d_Al_grow_2 ?_
  refine lv_iconst (v := 1) hx hb d_Al_grow_5 (by decide) ?_
  refine lv_iadd hx hb d_Al_grow_6 ?_
  refine lv_tope (y := nI (n + 1)) (ad_e (a := n) (b := 1) rfl (rfl : (1 : Int32) = nI 1)) ?_
  refine g_callV (As := [.int (nI (n + 1))]) (rest := []) (A0 := (fun q => q = al ∨ q = arr ∨ q = a)) V (c_Al_grow2 C E al arr n a f (nI n) mo h0 h1 h2 hna hn0 hn9) v_Al_69 (va_recv V.2.2.2.2.2.1 (x_one hAl) (ci := 3) (q0 := 0) rfl rfl) ⟨hAl, hAr, hEl, hz⟩ hS hA (fun _ h => h) ⟨by decide, by decide⟩ rfl hl (Nat.le_of_ble_eq_true rfl) d_Al_grow_7 ⟨by decide, by decide⟩ (kA (fun r H locs hQ hk hS => ?_))
  obtain ⟨rfl, hNw, hAl⟩ := hQ
  exact e_q V hr hlk hS (by decide) (by decide) d_Al_grow_10 ⟨_, rfl, rfl, hNw, hAl⟩
theorem d_Al_add2_0 : decode b_Al_add2 0 = .ok (.iload_n 3, 1) := by decide +kernel
theorem d_Al_add2_1 : decode b_Al_add2 1 = .ok (.aload_n 2, 1) := by decide +kernel
theorem d_Al_add2_2 : decode b_Al_add2 2 = .ok (.arraylength, 1) := by decide +kernel
theorem d_Al_add2_3 : decode b_Al_add2 3 = .ok (.if_icmp .ne 8, 3) := by decide +kernel
theorem d_Al_add2_6 : decode b_Al_add2 6 = .ok (.aload_n 0, 1) := by decide +kernel
theorem d_Al_add2_7 : decode b_Al_add2 7 = .ok (.invokevirtual 129, 3) := by decide +kernel
theorem d_Al_add2_10 : decode b_Al_add2 10 = .ok (.astore_n 2, 1) := by decide +kernel
theorem d_Al_add2_11 : decode b_Al_add2 11 = .ok (.aload_n 2, 1) := by decide +kernel
theorem d_Al_add2_12 : decode b_Al_add2 12 = .ok (.iload_n 3, 1) := by decide +kernel
theorem d_Al_add2_13 : decode b_Al_add2 13 = .ok (.aload_n 1, 1) := by decide +kernel
theorem d_Al_add2_14 : decode b_Al_add2 14 = .ok (.aastore, 1) := by decide +kernel
theorem d_Al_add2_15 : decode b_Al_add2 15 = .ok (.aload_n 0, 1) := by decide +kernel
theorem d_Al_add2_16 : decode b_Al_add2 16 = .ok (.iload_n 3, 1) := by decide +kernel
theorem d_Al_add2_17 : decode b_Al_add2 17 = .ok (.iconst 1, 1) := by decide +kernel
theorem d_Al_add2_18 : decode b_Al_add2 18 = .ok (.iadd, 1) := by decide +kernel
theorem d_Al_add2_19 : decode b_Al_add2 19 = .ok (.putfield 48, 3) := by decide +kernel
theorem d_Al_add2_22 : decode b_Al_add2 22 = .ok (.return_, 1) := by decide +kernel
set_option maxHeartbeats 4000000 in
set_option maxRecDepth 100000 in
theorem c_Al_add2 {l : Launch} {G : Gx} {s0 : State} (C : Cx G s0) {ea mi : Nat} (E : Es0 s0 ea mi) {B D0 : Nat} (hB : s0.heap.size ≤ B) (σ : Sg) (τ : Tt) (c : Nat) (hc : c < 3) (w : Nat) (hw : σ 7 c = nI w) (hw6 : w < 60) (y : Nat) (e mo : Int32) : Ct l s0 (FC B D0) 4 1 300 y_Al_add2 b_Al_add2 4 none [.ref (B + (11 + 9 * c)), .ref (y), .ref (τ.2.1 c), .int (nI w)] (fun H => PAd G B D0 ea σ τ c w y e mo H) (pV (fun H => ∃ τ1, RepC G B D0 ea (waC σ c w e) τ1 H)) := by
  refine Ct.of C (by decide) (Nat.le_of_ble_eq_true rfl) ?_
  intro pg ev s mm below meth cd V hr hlk hn hR ls hl
  have hx := V.1
  have hb := V.2.1
  have hS : va_S (FC B D0) s.heap s.heap [] := va_S.rf
  have hA : ∀ q, (FC B D0) q → s0.heap.size ≤ q := fun q h => by obtain ⟨H0, -, hR0, -⟩ := hR; have := hR0.1; rcases h with h | h <;> omega
  have hl : lv_has ls 4 [(0, .ref (B + (11 + 9 * c))), (1, .ref (y)), (2, .ref (τ.2.1 c)), (3, .int (nI w))] := hl
  obtain ⟨H0, hy0, hR0, hDy, ho, hAl, hY, hyl⟩ := hR
  have hBD := hR0.1
  have hRW := (hR0.2.2.2 c hc).2.2.2
  obtain ⟨-, w1, b2, b3, b4, b5, b6, b7, b8⟩ := hRW
  have hww : w1 = w := (nI_eq (by omega) (by omega)).mp (b2.symm.trans hw)
  rw [hww] at b2 b3 b4 b7 b8
  have hs0 : s0.heap.size ≤ s.heap.size := V.2.2.2.2.2.2.2.1
  rcases Nat.lt_or_ge w (τ.2.2.1 c) with hwc | hwc
  · obtain ⟨g1, g2, g3⟩ := b7 (by omega)
    have hlt := g3.lt
    have hlt : τ.2.1 c < y := by rw [← hy0]; exact hlt
    have hNw : va_at G.1 classes (τ.2.1 c, .inl (G.2 6, (τ.2.2.1 c, vq (wsF τ c w)))) s.heap := g3.kept (ho _ hlt (by show τ.2.1 c ≠ _; omega))
    have ho : ∀ q, q < y → q ≠ (B + (11 + 9 * c)) → (q ≠ τ.2.1 c ∨ τ.2.2.1 c = 0) → s.heap[q]? = H0[q]? := fun q g1 g2 _ => ho q g1 g2
    refine lv_iload_n hx hb d_Al_add2_0 rfl (lv_at hl 3 rfl) ?_
    refine lv_aload_n hx hb d_Al_add2_1 rfl (lv_at hl 2 rfl) ?_
    refine x_alen V 6 hNw rfl d_Al_add2_2 ?_
    refine lv_icmp_ne (tgt := 11) hx hb d_Al_add2_3 (by decide) (fun h3 => ?_) (fun h3 => ?_)
    · refine lv_aload_n hx hb d_Al_add2_11 rfl (lv_at hl 2 rfl) ?_
      refine lv_iload_n hx hb d_Al_add2_12 rfl (lv_at hl 3 rfl) ?_
      refine lv_aload_n hx hb d_Al_add2_13 rfl (lv_at hl 1 rfl) ?_
      refine x_aast V 6 hNw rfl (va_recv V.2.2.2.2.2.1 (x_one hY) (ci := 6) (q0 := 0) rfl rfl) (x_asgW V) (w) rfl (by omega) (by omega) d_Al_add2_14 (fun H i hNw z oq => ?_)
      have hS := hS.put (k := i) z oq (Or.inr g1)
      have hAl := hAl.kept (oq _ (by show B + _ ≠ _; omega))
      have hY := hY.kept (oq _ (by show y ≠ _; omega))
      have ho : ∀ q, q < y → q ≠ (B + (11 + 9 * c)) → (q ≠ τ.2.1 c ∨ τ.2.2.1 c = 0) → H[q]? = H0[q]? := fun q g1 g2 g3 => (oq q (by omega)).trans (ho q g1 g2 g3)
      refine lv_aload_n hx hb d_Al_add2_15 rfl (lv_at hl 0 rfl) ?_
      refine lv_iload_n hx hb d_Al_add2_16 rfl (lv_at hl 3 rfl) ?_
      refine lv_iconst (v := 1) hx hb d_Al_add2_17 (by decide) ?_
      refine lv_iadd hx hb d_Al_add2_18 ?_
      refine lv_tope (y := nI (w + 1)) (ad_e (a := w) (b := 1) rfl (rfl : (1 : Int32) = nI 1)) ?_
      refine p_Al_48 V hAl (Nat.le_of_ble_eq_true rfl) d_Al_add2_19 (fun H i hAl z oq => ?_)
      have hS := hS.put (k := i) z oq (Or.inl ⟨by omega, by omega⟩)
      have hNw := hNw.kept (oq _ (by show τ.2.1 c ≠ _; omega))
      have hY := hY.kept (oq _ (by show y ≠ _; omega))
      have ho : ∀ q, q < y → q ≠ (B + (11 + 9 * c)) → (q ≠ τ.2.1 c ∨ τ.2.2.1 c = 0) → H[q]? = H0[q]? := fun q g1 g2 g3 => (oq q g2).trans (ho q g1 g2 g3)
      exact e_v V hr hlk hS (by decide) (by decide) d_Al_add2_22 ⟨rfl, _, hR0.addw (arr := τ.2.1 c) (cap := τ.2.2.1 c) hc hw hw6 (by omega) (by omega) (by omega) (Or.inr ⟨rfl, by omega⟩) hAl hNw (fun j hj => by 
        by_cases g1 : j < w
        · simp [va_up, wsF, wsF, g1, show ¬ j = w from by omega]
        · by_cases g2 : j = w
          · rw [g2]; simp [va_up]
          · simp [va_up, wsF, wsF, g1, g2]) (by omega) (by omega) hY (fun q g1 g2 g3 => ho q (by omega) g2 g3)⟩
    · exact absurd ((nI_eq (by omega) (by omega)).mp h3) (by omega)
  · have hwe : w = τ.2.2.1 c := by omega
    rcases Nat.eq_zero_or_pos (τ.2.2.1 c) with hz | hz
    · have hed := b6 hz
      obtain rfl : w = 0 := by omega
      rw [hed] at hl hAl
      refine lv_iload_n hx hb d_Al_add2_0 rfl (lv_at hl 3 rfl) ?_
      refine lv_aload_n hx hb d_Al_add2_1 rfl (lv_at hl 2 rfl) ?_
      refine x_tlen V E hS hA d_Al_add2_2 ?_
      refine lv_icmp_ne (tgt := 11) hx hb d_Al_add2_3 (by decide) (fun h3 => ?_) (fun h3 => ?_)
      · exact absurd rfl h3
      · refine lv_aload_n hx hb d_Al_add2_6 rfl (lv_at hl 0 rfl) ?_
        refine g_callV (As := []) (rest := []) (A0 := (FC B D0)) V (c_Al_grow_0 C E (B + (11 + 9 * c)) s.heap.size mo (by omega) hs0) v_Al_129 (va_recv V.2.2.2.2.2.1 (x_one hAl) (ci := 3) (q0 := 0) rfl rfl) ⟨hAl, rfl⟩ hS hA (fun q h => by rcases h with h | h; exact Or.inl ⟨by omega, by omega⟩; exact Or.inr (by omega)) ⟨by decide, by decide⟩ rfl hl (Nat.le_of_ble_eq_true rfl) d_Al_add2_7 ⟨by decide, by decide⟩ (kA (fun r H locs hQ hk hS => ?_))
        obtain ⟨rfl, hNw, hAl⟩ := hQ
        have hY := hY.kept (hk.2 _ hyl (fun z => by rcases z with z | z <;> (revert z; show y = _ → False; omega)))
        have ho : ∀ q, q < y → q ≠ (B + (11 + 9 * c)) → (q ≠ τ.2.1 c ∨ τ.2.2.1 c = 0) → H[q]? = H0[q]? := fun q g1 g2 g3 => (hk.2 q (by omega) (fun z => by rcases z with z | z <;> omega)).trans (ho q g1 g2)
        refine lv_astore_n (lv' := [(2, .ref (s.heap.size)), (0, .ref (B + (11 + 9 * c))), (1, .ref (y)), (3, .int (nI 0))]) hx hb d_Al_add2_10 rfl hl (by decide) rfl (fun ls hl => ?_)
        refine lv_aload_n hx hb d_Al_add2_11 rfl (lv_at hl 0 rfl) ?_
        refine lv_iload_n hx hb d_Al_add2_12 rfl (lv_at hl 3 rfl) ?_
        refine lv_aload_n hx hb d_Al_add2_13 rfl (lv_at hl 2 rfl) ?_
        refine x_aast V 6 hNw rfl (va_recv V.2.2.2.2.2.1 (x_one hY) (ci := 6) (q0 := 0) rfl rfl) (x_asgW V) (0) rfl (by omega) (by omega) d_Al_add2_14 (fun H i hNw z oq => ?_)
        have hS := hS.put (k := i) z oq (Or.inr (by omega))
        have hAl := hAl.kept (oq _ (by show B + _ ≠ _; omega))
        have hY := hY.kept (oq _ (by show y ≠ _; omega))
        have ho : ∀ q, q < y → q ≠ (B + (11 + 9 * c)) → (q ≠ τ.2.1 c ∨ τ.2.2.1 c = 0) → H[q]? = H0[q]? := fun q g1 g2 g3 => (oq q (by omega)).trans (ho q g1 g2 g3)
        refine lv_aload_n hx hb d_Al_add2_15 rfl (lv_at hl 1 rfl) ?_
        refine lv_iload_n hx hb d_Al_add2_16 rfl (lv_at hl 3 rfl) ?_
        refine lv_iconst (v := 1) hx hb d_Al_add2_17 (by decide) ?_
        refine lv_iadd hx hb d_Al_add2_18 ?_
        refine lv_tope (y := nI (0 + 1)) (ad_e (a := 0) (b := 1) rfl (rfl : (1 : Int32) = nI 1)) ?_
        refine p_Al_48 V hAl (Nat.le_of_ble_eq_true rfl) d_Al_add2_19 (fun H i hAl z oq => ?_)
        have hS := hS.put (k := i) z oq (Or.inl ⟨by omega, by omega⟩)
        have hNw := hNw.kept (oq _ (by show s.heap.size ≠ _; omega))
        have hY := hY.kept (oq _ (by show y ≠ _; omega))
        have ho : ∀ q, q < y → q ≠ (B + (11 + 9 * c)) → (q ≠ τ.2.1 c ∨ τ.2.2.1 c = 0) → H[q]? = H0[q]? := fun q g1 g2 g3 => (oq q g2).trans (ho q g1 g2 g3)
        exact e_v V hr hlk hS (by decide) (by decide) d_Al_add2_22 ⟨rfl, _, hR0.addw (arr := s.heap.size) (cap := 10) hc hw hw6 (by omega) (by omega) (by omega) (Or.inl (by omega)) hAl hNw (fun j hj => by 
          by_cases g2 : j = 0
          · subst g2; simp [va_up]
          · simp [va_up, g2]) (by omega) (by omega) hY (fun q g1 g2 g3 => ho q (by omega) g2 g3)⟩
    · obtain ⟨g1, g2, g3⟩ := b7 hz
      have hlt : τ.2.1 c < y := by rw [← hy0]; exact g3.lt
      subst hwe
      have hAr : va_at G.1 classes (τ.2.1 c, .inl (G.2 6, (τ.2.2.1 c, vq (wsF τ c (τ.2.2.1 c))))) s.heap := g3.kept (ho _ hlt (by show τ.2.1 c ≠ _; omega))
      have hEl : ∀ i y : Nat, i < τ.2.2.1 c → wsF τ c (τ.2.2.1 c) i = some y → ∃ fs, va_at G.1 classes (y, .inr (6, fs)) s.heap := by
        intro i y1 hi hy1
        obtain ⟨d1, d2, d3⟩ := b8 i hi
        have hy1 : τ.1 c i = y1 := by simpa [wsF, hi] using hy1
        subst hy1
        exact ⟨_, d3.kept (ho _ (by rw [← hy0]; exact d3.lt) (by show τ.1 c i ≠ _; omega))⟩
      refine lv_iload_n hx hb d_Al_add2_0 rfl (lv_at hl 3 rfl) ?_
      refine lv_aload_n hx hb d_Al_add2_1 rfl (lv_at hl 2 rfl) ?_
      refine x_alen V 6 hAr rfl d_Al_add2_2 ?_
      refine lv_icmp_ne (tgt := 11) hx hb d_Al_add2_3 (by decide) (fun h3 => ?_) (fun h3 => ?_)
      · exact absurd rfl h3
      · refine lv_aload_n hx hb d_Al_add2_6 rfl (lv_at hl 0 rfl) ?_
        refine g_callV (As := []) (rest := []) (A0 := (FC B D0)) V (c_Al_grow C E (B + (11 + 9 * c)) (τ.2.1 c) (τ.2.2.1 c) s.heap.size (wsF τ c (τ.2.2.1 c)) mo (by omega) hs0 (by omega) (by omega) hz (by omega)) v_Al_129 (va_recv V.2.2.2.2.2.1 (x_one hAl) (ci := 3) (q0 := 0) rfl rfl) ⟨hAl, hAr, hEl, rfl⟩ hS hA (fun q h => by rcases h with h | h | h; exact Or.inl ⟨by omega, by omega⟩; exact Or.inr (by omega); exact Or.inr (by omega)) ⟨by decide, by decide⟩ rfl hl (Nat.le_of_ble_eq_true rfl) d_Al_add2_7 ⟨by decide, by decide⟩ (kA (fun r H locs hQ hk hS => ?_))
        obtain ⟨rfl, hNw, hAl⟩ := hQ
        have hY := hY.kept (hk.2 _ hyl (fun z => by rcases z with z | z | z <;> (revert z; show y = _ → False; omega)))
        have ho : ∀ q, q < y → q ≠ (B + (11 + 9 * c)) → (q ≠ τ.2.1 c ∨ τ.2.2.1 c = 0) → H[q]? = H0[q]? := fun q g1 g2 g3 => (hk.2 q (by omega) (fun z => by rcases z with z | z | z <;> omega)).trans (ho q g1 g2)
        refine lv_astore_n (lv' := [(2, .ref (s.heap.size)), (0, .ref (B + (11 + 9 * c))), (1, .ref (y)), (3, .int (nI (τ.2.2.1 c)))]) hx hb d_Al_add2_10 rfl hl (by decide) rfl (fun ls hl => ?_)
        refine lv_aload_n hx hb d_Al_add2_11 rfl (lv_at hl 0 rfl) ?_
        refine lv_iload_n hx hb d_Al_add2_12 rfl (lv_at hl 3 rfl) ?_
        refine lv_aload_n hx hb d_Al_add2_13 rfl (lv_at hl 2 rfl) ?_
        refine x_aast V 6 hNw rfl (va_recv V.2.2.2.2.2.1 (x_one hY) (ci := 6) (q0 := 0) rfl rfl) (x_asgW V) (τ.2.2.1 c) rfl (by omega) (by omega) d_Al_add2_14 (fun H i hNw z oq => ?_)
        have hS := hS.put (k := i) z oq (Or.inr (by omega))
        have hAl := hAl.kept (oq _ (by show B + _ ≠ _; omega))
        have hY := hY.kept (oq _ (by show y ≠ _; omega))
        have ho : ∀ q, q < y → q ≠ (B + (11 + 9 * c)) → (q ≠ τ.2.1 c ∨ τ.2.2.1 c = 0) → H[q]? = H0[q]? := fun q g1 g2 g3 => (oq q (by omega)).trans (ho q g1 g2 g3)
        refine lv_aload_n hx hb d_Al_add2_15 rfl (lv_at hl 1 rfl) ?_
        refine lv_iload_n hx hb d_Al_add2_16 rfl (lv_at hl 3 rfl) ?_
        refine lv_iconst (v := 1) hx hb d_Al_add2_17 (by decide) ?_
        refine lv_iadd hx hb d_Al_add2_18 ?_
        refine lv_tope (y := nI (τ.2.2.1 c + 1)) (ad_e (a := τ.2.2.1 c) (b := 1) rfl (rfl : (1 : Int32) = nI 1)) ?_
        refine p_Al_48 V hAl (Nat.le_of_ble_eq_true rfl) d_Al_add2_19 (fun H i hAl z oq => ?_)
        have hS := hS.put (k := i) z oq (Or.inl ⟨by omega, by omega⟩)
        have hNw := hNw.kept (oq _ (by show s.heap.size ≠ _; omega))
        have hY := hY.kept (oq _ (by show y ≠ _; omega))
        have ho : ∀ q, q < y → q ≠ (B + (11 + 9 * c)) → (q ≠ τ.2.1 c ∨ τ.2.2.1 c = 0) → H[q]? = H0[q]? := fun q g1 g2 g3 => (oq q g2).trans (ho q g1 g2 g3)
        exact e_v V hr hlk hS (by decide) (by decide) d_Al_add2_22 ⟨rfl, _, hR0.addw (arr := s.heap.size) (cap := τ.2.2.1 c + max 1 (τ.2.2.1 c / 2)) hc hw hw6 (by omega) (by omega) (by omega) (Or.inl (by omega)) hAl hNw (fun j hj => by 
          by_cases g1 : j < τ.2.2.1 c
          · simp [va_up, va_cpy, wsF, g1, show ¬ j = τ.2.2.1 c from by omega]
          · by_cases g2 : j = τ.2.2.1 c
            · rw [g2]; simp [va_up]
            · simp [va_up, va_cpy, wsF, g1, g2]) (by omega) (by omega) hY (fun q g1 g2 g3 => ho q (by omega) g2 g3)⟩
