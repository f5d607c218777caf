/-! ===== wishes and the list's array, read off the component's cells ===== -/
section CW
variable {G : Gx} {B D0 ea : Nat} {σ : Sg} {τ : Tt} {H : Heap} {c w j : Nat}
theorem RepC.arr (h : RepC G B D0 ea σ τ H) (hc : c < 3) (hw : σ 7 c = nI w) (hw6 : w ≤ 60) (hj : j < w) : w ≤ τ.2.2.1 c ∧ τ.2.2.1 c ≤ 200 ∧ D0 ≤ τ.2.1 c ∧ va_at G.1 classes (τ.2.1 c, .inl (G.2 6, (τ.2.2.1 c, vq (wsF τ c w)))) H := by
  obtain ⟨-, w', a1, a2, a3, a4, a5, a6, a7⟩ := (h.2.2.2 c hc).2.2.2
  have hww : w' = w := (nI_eq (by omega) (by omega)).mp (a1.symm.trans hw)
  subst hww
  obtain ⟨b1, b2, b3⟩ := a6 (by omega)
  exact ⟨a2, a4, b1, b3⟩
theorem RepC.wsh (h : RepC G B D0 ea σ τ H) (hc : c < 3) (hw : σ 7 c = nI w) (hw6 : w ≤ 60) (hj : j < w) : va_at G.1 classes (τ.1 c j, .inr (6, [.int (σ 5 (60 * c + j)), .int (σ 6 (60 * c + j))])) H ∧ D0 ≤ τ.1 c j := by
  obtain ⟨-, w', a1, a2, a3, a4, a5, a6, a7⟩ := (h.2.2.2 c hc).2.2.2
  have hww : w' = w := (nI_eq (by omega) (by omega)).mp (a1.symm.trans hw)
  subst hww
  obtain ⟨b1, b2, b3⟩ := a7 j hj
  exact ⟨b3, b1⟩
end CW
section CWR
variable {p : Program} {l : Launch} {e : Env} {R : Room} {s : State} {m : MethodId} {args : Array Value} {below : List Frame} {meth : Method} {c0 : Code} {H : Heap} {locs : List Loc} {cells slots : Nat} {Q : State → Prop}
variable {cc : ByteArray} {pc : Nat} {ls : Array Slot} {rest : List Value} {A0 F : Nat → Prop} {G : Gx} {s0 : State} {own : String} {nL a : Nat} {B D0 ea : Nat} {σ : Sg} {τ : Tt}
theorem q_Ct_59 (V : Vx G s0 p s m c0 cc nL "DiskArbiters$Controller") (hR : RepC G B D0 ea σ τ H) (hS : va_S F s.heap H locs) (hF : ∀ q, FC B D0 q → F q) {c w j : Nat} (hc : c < 3) (hw : σ 7 c = nI w) (hw6 : w ≤ 60) (hj : j < w) {v : Int32} (hdg : decode cc pc = .ok (.putfield 59, 3)) (kk : ∀ (H1 : Heap) (locs1 : List Loc), RepC G B D0 ea (up2 σ 6 (60 * c + j) v) τ H1 → va_S F s.heap H1 locs1 → W p l e R s m args below meth c0 H1 locs1 cells slots Q (F0 m (pc + 3) ls rest)) : W p l e R s m args below meth c0 H locs cells slots Q (F0 m pc ls (.int v :: .ref (τ.1 c j) :: rest)) :=
  p_Ct_59 V (hR.wsh hc hw hw6 hj).1 (Nat.le_of_ble_eq_true rfl) hdg (fun H1 _ hat z oq => kk H1 _ (hR.pwo hc hw hw6 hj hat oq) (hS.put z oq (hF _ (Or.inr (hR.wsh hc hw hw6 hj).2))))
theorem ho_k {H0 H H1 : Heap} (ho : ∀ q, q < H0.size → H[q]? = H0[q]?) (hz : H0.size ≤ H.size) (hk : Kp F H H1) (hF : ∀ q, F q → H0.size ≤ q) : ∀ q, q < H0.size → H1[q]? = H0[q]? :=
  fun q hq => (hk.2 q (Nat.lt_of_lt_of_le hq hz) (fun z => absurd (hF q z) (Nat.not_le.mpr hq))).trans (ho q hq)
def pN (P : Heap → Prop) : Option Value → Heap → Prop := fun v H => v = some .null ∧ P H
theorem kN {P : Heap → Prop} (kk : ∀ (H1 : Heap) (locs1 : List Loc), P H1 → Kp F H H1 → va_S A0 s.heap H1 locs1 → W p l e R s m args below meth c0 H1 locs1 cells slots Q (F0 m pc ls (.null :: rest))) :
    ∀ (v : Option Value) (H1 : Heap) (locs1 : List Loc), pN P v H1 → Kp F H H1 → va_S A0 s.heap H1 locs1 → W p l e R s m args below meth c0 H1 locs1 cells slots Q (F0 m pc ls (v.toList ++ rest)) := by
  rintro v H1 locs1 ⟨rfl, hp⟩ hk hS
  exact kk H1 locs1 hp hk hS
end CWR
theorem v_Ct_47 : CF "DiskArbiters$Controller" 47 "java/util/ArrayList$Itr" n_has y_It_hasNext b_It_hasNext 1 (some .boolean) 0 := ⟨⟨List.mem_of_getElem? (i := 400) (by decide +kernel), List.mem_of_getElem? (i := 45) (by decide +kernel), List.mem_of_getElem? (i := 392) (by decide +kernel)⟩, ⟨List.mem_of_getElem? (i := 398) (by decide +kernel), List.mem_of_getElem? (i := 396) (by decide +kernel)⟩, by decide, by decide, by decide +kernel⟩
theorem v_Ct_53 : CF "DiskArbiters$Controller" 53 "java/util/ArrayList$Itr" n_nxt y_It_next b_It_next 3 (some (.object "java/lang/Object")) 0 := ⟨⟨List.mem_of_getElem? (i := 409) (by decide +kernel), List.mem_of_getElem? (i := 45) (by decide +kernel), List.mem_of_getElem? (i := 402) (by decide +kernel)⟩, ⟨List.mem_of_getElem? (i := 407) (by decide +kernel), List.mem_of_getElem? (i := 405) (by decide +kernel)⟩, by decide, by decide, by decide +kernel⟩
theorem d_Al_size_0 : decode b_Al_size 0 = .ok (.aload_n 0, 1) := by decide +kernel
theorem d_Al_size_1 : decode b_Al_size 1 = .ok (.getfield 48, 3) := by decide +kernel
theorem d_Al_size_4 : decode b_Al_size 4 = .ok (.ireturn, 1) := by decide +kernel
set_option maxHeartbeats 4000000 in
set_option maxRecDepth 100000 in
theorem c_Al_size {l : Launch} {G : Gx} {s0 : State} (C : Cx G s0) {B D0 ea : Nat} (hB : s0.heap.size ≤ B) (σ : Sg) (τ : Tt) (c : Nat) (hc : c < 3) : Ct l s0 (FC B D0) 0 0 0 y_Al_size b_Al_size 1 (some .int) [.ref (B + (11 + 9 * c))] (RepC G B D0 ea σ τ) (pI (fun r H => r = σ 7 c ∧ RepC G B D0 ea σ τ H)) := by
  refine Ct.of C (by decide) (Nat.le_of_ble_eq_true rfl) ?_
  intro pg ev s mm below meth cd V hr hlk hn hR ls hl
  have hx := V.1
  have hb := V.2.1
  have hS : va_S (FC B D0) s.heap s.heap [] := va_S.rf
  have hF : ∀ q, FC B D0 q → FC B D0 q := fun _ h => h
  have hA : ∀ q, FC B D0 q → s0.heap.size ≤ q := fun q h => by have := hR.1; rcases h with h | h <;> omega
  have hl : lv_has ls 1 [(0, .ref (B + (11 + 9 * c)))] := hl
  refine lv_aload_n hx hb d_Al_size_0 rfl (lv_at hl 0 rfl) ?_
  refine g_Al_48 V (hR.2.2.2 _ hc).2.2.2.1 rfl d_Al_size_1 ?_
  exact e_i V hr hlk hS (Nat.le_refl _) (Nat.le_refl _) d_Al_size_4 ⟨_, rfl, rfl, hR⟩
theorem d_Al_elementData_0 : decode b_Al_elementData 0 = .ok (.aload_n 0, 1) := by decide +kernel
theorem d_Al_elementData_1 : decode b_Al_elementData 1 = .ok (.getfield 9, 3) := by decide +kernel
theorem d_Al_elementData_4 : decode b_Al_elementData 4 = .ok (.iload_n 1, 1) := by decide +kernel
theorem d_Al_elementData_5 : decode b_Al_elementData 5 = .ok (.aaload, 1) := by decide +kernel
theorem d_Al_elementData_6 : decode b_Al_elementData 6 = .ok (.areturn, 1) := by decide +kernel
set_option maxHeartbeats 4000000 in
set_option maxRecDepth 100000 in
theorem c_Al_elementData {l : Launch} {G : Gx} {s0 : State} (C : Cx G s0) {B D0 ea : Nat} (hB : s0.heap.size ≤ B) (σ : Sg) (τ : Tt) (c : Nat) (hc : c < 3) (w : Nat) (hw : σ 7 c = nI w) (hw6 : w ≤ 60) (j : Nat) (hj : j < w) : Ct l s0 (FC B D0) 0 0 0 y_Al_elementData b_Al_elementData 2 (some (.object "java/lang/Object")) [.ref (B + (11 + 9 * c)), .int (nI j)] (RepC G B D0 ea σ τ) (pA (fun r H => r = τ.1 c j ∧ RepC G B D0 ea σ τ H)) := by
  refine Ct.of C (by decide) (Nat.le_of_ble_eq_true rfl) ?_
  intro pg ev s mm below meth cd V hr hlk hn hR ls hl
  have hx := V.1
  have hb := V.2.1
  have hS : va_S (FC B D0) s.heap s.heap [] := va_S.rf
  have hF : ∀ q, FC B D0 q → FC B D0 q := fun _ h => h
  have hA : ∀ q, FC B D0 q → s0.heap.size ≤ q := fun q h => by have := hR.1; rcases h with h | h <;> omega
  have hl : lv_has ls 2 [(0, .ref (B + (11 + 9 * c))), (1, .int (nI j))] := hl
  obtain ⟨hwc, hc2, -, hAr⟩ := hR.arr hc hw hw6 hj
  refine lv_aload_n hx hb d_Al_elementData_0 rfl (lv_at hl 0 rfl) ?_
  refine g_Al_9 V (hR.2.2.2 _ hc).2.2.2.1 rfl d_Al_elementData_1 ?_
  refine lv_iload_n hx hb d_Al_elementData_4 rfl (lv_at hl 1 rfl) ?_
  refine x_aald V 6 hAr rfl (j) rfl (by omega) (by omega) (v := .ref (τ.1 c j)) (by simp [wsF, hj, va_rf]) d_Al_elementData_5 ?_
  exact e_a V hr hlk hS (Nat.le_refl _) (Nat.le_refl _) d_Al_elementData_6 ⟨_, rfl, rfl, hR⟩
theorem d_Al_get_0 : decode b_Al_get 0 = .ok (.iload_n 1, 1) := by decide +kernel
theorem d_Al_get_1 : decode b_Al_get 1 = .ok (.aload_n 0, 1) := by decide +kernel
theorem d_Al_get_2 : decode b_Al_get 2 = .ok (.getfield 48, 3) := by decide +kernel
theorem d_Al_get_5 : decode b_Al_get 5 = .ok (.invokestatic 118, 3) := by decide +kernel
theorem d_Al_get_8 : decode b_Al_get 8 = .ok (.pop, 1) := by decide +kernel
theorem d_Al_get_9 : decode b_Al_get 9 = .ok (.aload_n 0, 1) := by decide +kernel
theorem d_Al_get_10 : decode b_Al_get 10 = .ok (.iload_n 1, 1) := by decide +kernel
theorem d_Al_get_11 : decode b_Al_get 11 = .ok (.invokevirtual 123, 3) := by decide +kernel
theorem d_Al_get_14 : decode b_Al_get 14 = .ok (.areturn, 1) := by decide +kernel
set_option maxHeartbeats 4000000 in
set_option maxRecDepth 100000 in
theorem c_Al_get {l : Launch} {G : Gx} {s0 : State} (C : Cx G s0) {B D0 ea : Nat} (hB : s0.heap.size ≤ B) (σ : Sg) (τ : Tt) (c : Nat) (hc : c < 3) (w : Nat) (hw : σ 7 c = nI w) (hw6 : w ≤ 60) (j : Nat) (hj : j < w) : Ct l s0 (FC B D0) 2 0 0 y_Al_get b_Al_get 2 (some (.object "java/lang/Object")) [.ref (B + (11 + 9 * c)), .int (nI j)] (RepC G B D0 ea σ τ) (pA (fun r H => r = τ.1 c j ∧ RepC G B D0 ea σ τ H)) := by
  refine Ct.of C (by decide) (Nat.le_of_ble_eq_true rfl) ?_
  intro pg ev s mm below meth cd V hr hlk hn hR ls hl
  have hx := V.1
  have hb := V.2.1
  have hS : va_S (FC B D0) s.heap s.heap [] := va_S.rf
  have hF : ∀ q, FC B D0 q → FC B D0 q := fun _ h => h
  have hA : ∀ q, FC B D0 q → s0.heap.size ≤ q := fun q h => by have := hR.1; rcases h with h | h <;> omega
  have hl : lv_has ls 2 [(0, .ref (B + (11 + 9 * c))), (1, .int (nI j))] := hl
  refine lv_iload_n hx hb d_Al_get_0 rfl (lv_at hl 1 rfl) ?_
  refine lv_aload_n hx hb d_Al_get_1 rfl (lv_at hl 0 rfl) ?_
  refine g_Al_48 V (hR.2.2.2 _ hc).2.2.2.1 rfl d_Al_get_2 ?_
  refine lv_tope (y := nI w) hw ?_
  refine g_callS (As := [.int (nI j), .int (nI w)]) (rest := []) (A0 := FC B D0) V (c_Ob_checkIndex C (j) (w) (by omega) (by omega)) v_Al_118 trivial hS hA (fun _ h => h.elim) ⟨by decide, by decide⟩ rfl hl (Nat.le_of_ble_eq_true rfl) d_Al_get_5 ⟨Nat.le_refl _, Nat.le_refl _⟩ (kI (fun r H locs hQ hk hS => ?_))
  subst hQ
  have hR := hR.grow (fun q hq => hk.2 q hq (fun z => z))
  refine lv_pop hx hb d_Al_get_8 rfl ?_
  refine lv_aload_n hx hb d_Al_get_9 rfl (lv_at hl 0 rfl) ?_
  refine lv_iload_n hx hb d_Al_get_10 rfl (lv_at hl 1 rfl) ?_
  refine g_callV (As := [.int (nI j)]) (rest := []) (A0 := FC B D0) V (c_Al_elementData C hB σ τ c hc w hw hw6 j hj) v_Al_123 (hR.rAl V.2.2.2.2.2.1 hc) hR hS hA (fun _ h => h) ⟨by decide, by decide⟩ rfl hl (Nat.le_of_ble_eq_true rfl) d_Al_get_11 ⟨Nat.le_refl _, Nat.le_refl _⟩ (kA (fun r11 H locs hQ _ hS => ?_))
  obtain ⟨rfl, hR⟩ := hQ
  exact e_a V hr hlk hS (Nat.le_refl _) (Nat.le_refl _) d_Al_get_14 ⟨_, rfl, rfl, hR⟩
theorem d_Ct_waiting_0 : decode b_Ct_waiting 0 = .ok (.aload_n 0, 1) := by decide +kernel
theorem d_Ct_waiting_1 : decode b_Ct_waiting 1 = .ok (.getfield 18, 3) := by decide +kernel
theorem d_Ct_waiting_4 : decode b_Ct_waiting 4 = .ok (.invokevirtual 43, 3) := by decide +kernel
theorem d_Ct_waiting_7 : decode b_Ct_waiting 7 = .ok (.astore_n 1, 1) := by decide +kernel
theorem d_Ct_waiting_8 : decode b_Ct_waiting 8 = .ok (.aload_n 1, 1) := by decide +kernel
theorem d_Ct_waiting_9 : decode b_Ct_waiting 9 = .ok (.invokeinterface 47 1, 5) := by decide +kernel
theorem d_Ct_waiting_14 : decode b_Ct_waiting 14 = .ok (.ifCond .eq 25, 3) := by decide +kernel
theorem d_Ct_waiting_17 : decode b_Ct_waiting 17 = .ok (.aload_n 1, 1) := by decide +kernel
theorem d_Ct_waiting_18 : decode b_Ct_waiting 18 = .ok (.invokeinterface 53 1, 5) := by decide +kernel
theorem d_Ct_waiting_23 : decode b_Ct_waiting 23 = .ok (.checkcast 57, 3) := by decide +kernel
theorem d_Ct_waiting_26 : decode b_Ct_waiting 26 = .ok (.astore_n 2, 1) := by decide +kernel
theorem d_Ct_waiting_27 : decode b_Ct_waiting 27 = .ok (.aload_n 2, 1) := by decide +kernel
theorem d_Ct_waiting_28 : decode b_Ct_waiting 28 = .ok (.getfield 59, 3) := by decide +kernel
theorem d_Ct_waiting_31 : decode b_Ct_waiting 31 = .ok (.ifCond .ne 5, 3) := by decide +kernel
theorem d_Ct_waiting_34 : decode b_Ct_waiting 34 = .ok (.aload_n 2, 1) := by decide +kernel
theorem d_Ct_waiting_35 : decode b_Ct_waiting 35 = .ok (.areturn, 1) := by decide +kernel
theorem d_Ct_waiting_36 : decode b_Ct_waiting 36 = .ok (.goto (-28), 3) := by decide +kernel
theorem d_Ct_waiting_39 : decode b_Ct_waiting 39 = .ok (.aconst_null, 1) := by decide +kernel
theorem d_Ct_waiting_40 : decode b_Ct_waiting 40 = .ok (.areturn, 1) := by decide +kernel
set_option maxHeartbeats 4000000 in
set_option maxRecDepth 100000 in
theorem c_Ct_waiting_n {l : Launch} {G : Gx} {s0 : State} (C : Cx G s0) {B D0 ea : Nat} {mi : Nat} (E : Es0 s0 ea mi) (hB : s0.heap.size ≤ B) (σ : Sg) (τ : Tt) (c : Nat) (hc : c < 3) (w : Nat) (hw : σ 7 c = nI w) (hw6 : w ≤ 60) (hq : fwF σ c w 0 = none) : Ct l s0 (FC B D0) 3 1 4 y_Ct_waiting b_Ct_waiting 3 (some (.object "DiskArbiters$Wish")) [.ref (B + (9 + 9 * c))] (fun H => RepC G B D0 ea σ τ H ∧ D0 ≤ H.size) (pN (RepC G B D0 ea σ τ)) := by
  refine Ct.of C (by decide) (Nat.le_of_ble_eq_true rfl) ?_
  intro pg ev s mm below meth cd V hr hlk hn hR0 ls hl
  obtain ⟨hR, hD⟩ := hR0
  have hx := V.1
  have hb := V.2.1
  have hS : va_S (FC B D0) s.heap s.heap [] := va_S.rf
  have hF : ∀ q, FC B D0 q → FC B D0 q := fun _ h => h
  have hA : ∀ q, FC B D0 q → s0.heap.size ≤ q := fun q h => by have := hR.1; rcases h with h | h <;> omega
  have hl : lv_has ls 3 [(0, .ref (B + (9 + 9 * c)))] := hl
  refine lv_aload_n hx hb d_Ct_waiting_0 rfl (lv_at hl 0 rfl) ?_
  refine g_Ct_18 V (hR.2.2.2 _ hc).1 rfl d_Ct_waiting_1 ?_
  have hna : (B + (11 + 9 * c)) ≠ s.heap.size := by have := hR.1; omega
  have h0 : s0.heap.size ≤ s.heap.size := V.2.2.2.2.2.2.2.1
  have hi0 : ∀ q, (fun q => q = s.heap.size) q → s.heap.size ≤ q := fun q h => Nat.le_of_eq h.symm
  have hi1 : ∀ q, (fun q => q = s.heap.size) q → FC B D0 q := fun q h => by rw [h]; exact Or.inr hD
  have hR0 := hR
  have loop : ∀ (n k : Nat), k ≤ w → w < k + n → fwF σ c w 0 = fwF σ c (w - k) k → ∀ (lr : Int32) (H : Heap) (locs : List Loc) (ls : Array Slot), (∀ q, q < s.heap.size → H[q]? = s.heap[q]?) → va_at G.1 classes (s.heap.size, .inr (7, [.int (nI k), .int lr, .int (τ.2.2.2.1 c), .ref (B + (11 + 9 * c))])) H → va_S (FC B D0) s.heap H locs → lv_has ls 3 [(1, .ref (s.heap.size)), (0, .ref (B + (9 + 9 * c)))] → W pg l ev (rmx 3 1 4) s mm [.ref (B + (9 + 9 * c))].toArray below meth cd H locs 1 4 (MQ below (qR (FC B D0) (pN (RepC G B D0 ea σ τ))) [.ref (B + (9 + 9 * c))].toArray s 1 4 (FC B D0)) (F0 mm 8 ls []) := by
    intro n
    induction n with
    | zero => intro k h1 h2; omega
    | succ n ih =>
      intro k h1 h2 hf lr H locs ls ho hIt hS hl
      refine lv_aload_n hx hb d_Ct_waiting_8 rfl (lv_at hl 0 rfl) ?_
      have hR := hR0.grow ho
      have hz := hS.1
      refine g_callF (As := []) (rest := []) (A0 := FC B D0) V (c_It_hasNext C s.heap.size (B + (11 + 9 * c)) (τ.2.1 c) (σ 7 c) (τ.2.2.2.1 c) lr k) v_Ct_47 (E.has V.2.2.2.2.2.2) (va_recv V.2.2.2.2.2.1 (x_one hIt) (ci := 7) (q0 := 0) rfl rfl) ⟨hIt, (hR.2.2.2 c hc).2.2.2.1⟩ hS hA (fun _ h => h.elim) ⟨by decide, by decide⟩ rfl hl (Nat.le_of_ble_eq_true rfl) d_Ct_waiting_9 ⟨by decide, by decide⟩ (kI (fun r H locs hQ hk hS => ?_))
      subst hQ
      have hIt := hIt.kept (hk.2 _ hIt.lt (fun z => z))
      have ho := ho_k ho hz hk (fun _ h => h.elim)
      refine lv_if_eq (tgt := 39) hx hb d_Ct_waiting_14 (by decide) (fun h14 => ?_) (fun h14 => ?_)
      · have h14 := bI_0.mp h14
        refine lv_null hx hb d_Ct_waiting_39 ?_
        exact e_n V hr hlk hS (by decide) (by decide) d_Ct_waiting_40 ⟨rfl, hR0.grow ho⟩
      · have h14 := bI_n0.mp h14
        refine lv_aload_n hx hb d_Ct_waiting_17 rfl (lv_at hl 0 rfl) ?_
        have hkw : k < w := by
          rcases Nat.lt_or_ge k w with q | q
          · exact q
          · exact absurd h14 (by simp [hw, show k = w from by omega])
        have hR := hR0.grow ho
        have hz := hS.1
        obtain ⟨hwc, hc2, hda, hAr⟩ := hR.arr hc hw hw6 hkw
        have hnr : τ.2.1 c ≠ s.heap.size := by have := (hR0.arr hc hw hw6 hkw).2.2.2.lt; exact Nat.ne_of_lt this
        refine g_callF (As := []) (rest := []) (A0 := FC B D0) V (c_It_next C s.heap.size (B + (11 + 9 * c)) (τ.2.1 c) (σ 7 c) (τ.2.2.2.1 c) lr k (τ.2.2.1 c) (τ.1 c k) (wsF τ c w) hna hnr h0 (by rw [hw]; exact nI_lt hkw (by omega)) (by omega) (by omega) (by simp [wsF, hkw])) v_Ct_53 (E.nxt V.2.2.2.2.2.2) (va_recv V.2.2.2.2.2.1 (x_one hIt) (ci := 7) (q0 := 0) rfl rfl) ⟨hIt, (hR.2.2.2 c hc).2.2.2.1, hAr⟩ hS hA hi1 ⟨by decide, by decide⟩ rfl hl (Nat.le_of_ble_eq_true rfl) d_Ct_waiting_18 ⟨by decide, by decide⟩ (kA (fun r H locs hQ hk hS => ?_))
        obtain ⟨rfl, hIt⟩ := hQ
        have ho := ho_k ho hz hk hi0
        have hR := hR0.grow ho
        refine x_cast V (List.mem_of_getElem? (i := 429) (by decide +kernel)) (hR.wsh hc hw hw6 hkw).1 d_Ct_waiting_23 ?_
        refine lv_astore_n (lv' := [(2, .ref (τ.1 c k)), (1, .ref (s.heap.size)), (0, .ref (B + (9 + 9 * c)))]) hx hb d_Ct_waiting_26 rfl hl (by decide) rfl (fun ls hl => ?_)
        refine lv_aload_n hx hb d_Ct_waiting_27 rfl (lv_at hl 0 rfl) ?_
        refine g_Ct_59 V (hR.wsh hc hw hw6 hkw).1 rfl d_Ct_waiting_28 ?_
        refine lv_if_ne (tgt := 36) hx hb d_Ct_waiting_31 (by decide) (fun h31 => ?_) (fun h31 => ?_)
        · refine lv_goto (tgt := 8) hx hb d_Ct_waiting_36 (by decide) ?_
          exact ih (k + 1) (by omega) (by omega) (by rw [hf, show w - k = (w - (k + 1)) + 1 from by omega]; simp [fwF, h31]) _ _ _ ls ho hIt hS (lv_sub hl [1, 2] rfl)
        · refine lv_aload_n hx hb d_Ct_waiting_34 rfl (lv_at hl 0 rfl) ?_
          exact absurd (show (none : Option Nat) = some k from hq.symm.trans (hf.trans (by rw [show w - k = (w - (k + 1)) + 1 from by omega]; simp only [fwF, h31, if_true]))) (by simp)
  refine g_callV (As := []) (rest := []) (A0 := FC B D0) V (c_Al_iterator C s.heap.size (B + (11 + 9 * c)) (τ.2.1 c) (σ 7 c) (τ.2.2.2.1 c) hna h0) v_Ct_43 (hR.rAl V.2.2.2.2.2.1 hc) ⟨(hR.2.2.2 c hc).2.2.2.1, rfl⟩ hS hA hi1 ⟨by decide, by decide⟩ rfl hl (Nat.le_of_ble_eq_true rfl) d_Ct_waiting_4 ⟨by decide, by decide⟩ (kA (fun r H locs hQ hk hS => ?_))
  obtain ⟨rfl, hIt⟩ := hQ
  have ho := ho_k (H0 := s.heap) (fun _ _ => rfl) (Nat.le_refl _) hk hi0
  refine lv_astore_n (lv' := [(1, .ref (s.heap.size)), (0, .ref (B + (9 + 9 * c)))]) hx hb d_Ct_waiting_7 rfl hl (by decide) rfl (fun ls hl => ?_)
  exact loop (w + 1) 0 (by omega) (by omega) rfl (-1) _ _ ls ho hIt hS (lv_sub hl [0, 1] rfl)
set_option maxHeartbeats 4000000 in
set_option maxRecDepth 100000 in
theorem c_Ct_waiting {l : Launch} {G : Gx} {s0 : State} (C : Cx G s0) {B D0 ea : Nat} {mi : Nat} (E : Es0 s0 ea mi) (hB : s0.heap.size ≤ B) (σ : Sg) (τ : Tt) (c : Nat) (hc : c < 3) (w : Nat) (hw : σ 7 c = nI w) (hw6 : w ≤ 60) (k0 : Nat) (hq : fwF σ c w 0 = some k0) : Ct l s0 (FC B D0) 3 1 4 y_Ct_waiting b_Ct_waiting 3 (some (.object "DiskArbiters$Wish")) [.ref (B + (9 + 9 * c))] (fun H => RepC G B D0 ea σ τ H ∧ D0 ≤ H.size) (pA (fun r H => r = τ.1 c k0 ∧ RepC G B D0 ea σ τ H)) := by
  refine Ct.of C (by decide) (Nat.le_of_ble_eq_true rfl) ?_
  intro pg ev s mm below meth cd V hr hlk hn hR0 ls hl
  obtain ⟨hR, hD⟩ := hR0
  have hx := V.1
  have hb := V.2.1
  have hS : va_S (FC B D0) s.heap s.heap [] := va_S.rf
  have hF : ∀ q, FC B D0 q → FC B D0 q := fun _ h => h
  have hA : ∀ q, FC B D0 q → s0.heap.size ≤ q := fun q h => by have := hR.1; rcases h with h | h <;> omega
  have hl : lv_has ls 3 [(0, .ref (B + (9 + 9 * c)))] := hl
  refine lv_aload_n hx hb d_Ct_waiting_0 rfl (lv_at hl 0 rfl) ?_
  refine g_Ct_18 V (hR.2.2.2 _ hc).1 rfl d_Ct_waiting_1 ?_
  have hna : (B + (11 + 9 * c)) ≠ s.heap.size := by have := hR.1; omega
  have h0 : s0.heap.size ≤ s.heap.size := V.2.2.2.2.2.2.2.1
  have hi0 : ∀ q, (fun q => q = s.heap.size) q → s.heap.size ≤ q := fun q h => Nat.le_of_eq h.symm
  have hi1 : ∀ q, (fun q => q = s.heap.size) q → FC B D0 q := fun q h => by rw [h]; exact Or.inr hD
  have hR0 := hR
  have loop : ∀ (n k : Nat), k ≤ w → w < k + n → fwF σ c w 0 = fwF σ c (w - k) k → ∀ (lr : Int32) (H : Heap) (locs : List Loc) (ls : Array Slot), (∀ q, q < s.heap.size → H[q]? = s.heap[q]?) → va_at G.1 classes (s.heap.size, .inr (7, [.int (nI k), .int lr, .int (τ.2.2.2.1 c), .ref (B + (11 + 9 * c))])) H → va_S (FC B D0) s.heap H locs → lv_has ls 3 [(1, .ref (s.heap.size)), (0, .ref (B + (9 + 9 * c)))] → W pg l ev (rmx 3 1 4) s mm [.ref (B + (9 + 9 * c))].toArray below meth cd H locs 1 4 (MQ below (qR (FC B D0) (pA (fun r H => r = τ.1 c k0 ∧ RepC G B D0 ea σ τ H))) [.ref (B + (9 + 9 * c))].toArray s 1 4 (FC B D0)) (F0 mm 8 ls []) := by
    intro n
    induction n with
    | zero => intro k h1 h2; omega
    | succ n ih =>
      intro k h1 h2 hf lr H locs ls ho hIt hS hl
      refine lv_aload_n hx hb d_Ct_waiting_8 rfl (lv_at hl 0 rfl) ?_
      have hR := hR0.grow ho
      have hz := hS.1
      refine g_callF (As := []) (rest := []) (A0 := FC B D0) V (c_It_hasNext C s.heap.size (B + (11 + 9 * c)) (τ.2.1 c) (σ 7 c) (τ.2.2.2.1 c) lr k) v_Ct_47 (E.has V.2.2.2.2.2.2) (va_recv V.2.2.2.2.2.1 (x_one hIt) (ci := 7) (q0 := 0) rfl rfl) ⟨hIt, (hR.2.2.2 c hc).2.2.2.1⟩ hS hA (fun _ h => h.elim) ⟨by decide, by decide⟩ rfl hl (Nat.le_of_ble_eq_true rfl) d_Ct_waiting_9 ⟨by decide, by decide⟩ (kI (fun r H locs hQ hk hS => ?_))
      subst hQ
      have hIt := hIt.kept (hk.2 _ hIt.lt (fun z => z))
      have ho := ho_k ho hz hk (fun _ h => h.elim)
      refine lv_if_eq (tgt := 39) hx hb d_Ct_waiting_14 (by decide) (fun h14 => ?_) (fun h14 => ?_)
      · have h14 := bI_0.mp h14
        refine lv_null hx hb d_Ct_waiting_39 ?_
        have hkw : k = w := (nI_eq (by omega) (by omega)).mp ((by simpa using h14 : nI k = σ 7 c).trans hw)
        exact absurd (show some k0 = (none : Option Nat) from hq.symm.trans (hf.trans (by rw [hkw, Nat.sub_self]; rfl))) (by simp)
      · have h14 := bI_n0.mp h14
        refine lv_aload_n hx hb d_Ct_waiting_17 rfl (lv_at hl 0 rfl) ?_
        have hkw : k < w := by
          rcases Nat.lt_or_ge k w with q | q
          · exact q
          · exact absurd h14 (by simp [hw, show k = w from by omega])
        have hR := hR0.grow ho
        have hz := hS.1
        obtain ⟨hwc, hc2, hda, hAr⟩ := hR.arr hc hw hw6 hkw
        have hnr : τ.2.1 c ≠ s.heap.size := by have := (hR0.arr hc hw hw6 hkw).2.2.2.lt; exact Nat.ne_of_lt this
        refine g_callF (As := []) (rest := []) (A0 := FC B D0) V (c_It_next C s.heap.size (B + (11 + 9 * c)) (τ.2.1 c) (σ 7 c) (τ.2.2.2.1 c) lr k (τ.2.2.1 c) (τ.1 c k) (wsF τ c w) hna hnr h0 (by rw [hw]; exact nI_lt hkw (by omega)) (by omega) (by omega) (by simp [wsF, hkw])) v_Ct_53 (E.nxt V.2.2.2.2.2.2) (va_recv V.2.2.2.2.2.1 (x_one hIt) (ci := 7) (q0 := 0) rfl rfl) ⟨hIt, (hR.2.2.2 c hc).2.2.2.1, hAr⟩ hS hA hi1 ⟨by decide, by decide⟩ rfl hl (Nat.le_of_ble_eq_true rfl) d_Ct_waiting_18 ⟨by decide, by decide⟩ (kA (fun r H locs hQ hk hS => ?_))
        obtain ⟨rfl, hIt⟩ := hQ
        have ho := ho_k ho hz hk hi0
        have hR := hR0.grow ho
        refine x_cast V (List.mem_of_getElem? (i := 429) (by decide +kernel)) (hR.wsh hc hw hw6 hkw).1 d_Ct_waiting_23 ?_
        refine lv_astore_n (lv' := [(2, .ref (τ.1 c k)), (1, .ref (s.heap.size)), (0, .ref (B + (9 + 9 * c)))]) hx hb d_Ct_waiting_26 rfl hl (by decide) rfl (fun ls hl => ?_)
        refine lv_aload_n hx hb d_Ct_waiting_27 rfl (lv_at hl 0 rfl) ?_
        refine g_Ct_59 V (hR.wsh hc hw hw6 hkw).1 rfl d_Ct_waiting_28 ?_
        refine lv_if_ne (tgt := 36) hx hb d_Ct_waiting_31 (by decide) (fun h31 => ?_) (fun h31 => ?_)
        · refine lv_goto (tgt := 8) hx hb d_Ct_waiting_36 (by decide) ?_
          exact ih (k + 1) (by omega) (by omega) (by rw [hf, show w - k = (w - (k + 1)) + 1 from by omega]; simp [fwF, h31]) _ _ _ ls ho hIt hS (lv_sub hl [1, 2] rfl)
        · refine lv_aload_n hx hb d_Ct_waiting_34 rfl (lv_at hl 0 rfl) ?_
          have hkk : k0 = k := Option.some.inj (hq.symm.trans (hf.trans (by rw [show w - k = (w - (k + 1)) + 1 from by omega]; simp only [fwF, h31, if_true])))
          exact e_a V hr hlk hS (by decide) (by decide) d_Ct_waiting_35 ⟨_, rfl, by rw [hkk], hR⟩
  refine g_callV (As := []) (rest := []) (A0 := FC B D0) V (c_Al_iterator C s.heap.size (B + (11 + 9 * c)) (τ.2.1 c) (σ 7 c) (τ.2.2.2.1 c) hna h0) v_Ct_43 (hR.rAl V.2.2.2.2.2.1 hc) ⟨(hR.2.2.2 c hc).2.2.2.1, rfl⟩ hS hA hi1 ⟨by decide, by decide⟩ rfl hl (Nat.le_of_ble_eq_true rfl) d_Ct_waiting_4 ⟨by decide, by decide⟩ (kA (fun r H locs hQ hk hS => ?_))
  obtain ⟨rfl, hIt⟩ := hQ
  have ho := ho_k (H0 := s.heap) (fun _ _ => rfl) (Nat.le_refl _) hk hi0
  refine lv_astore_n (lv' := [(1, .ref (s.heap.size)), (0, .ref (B + (9 + 9 * c)))]) hx hb d_Ct_waiting_7 rfl hl (by decide) rfl (fun ls hl => ?_)
  exact loop (w + 1) 0 (by omega) (by omega) rfl (-1) _ _ ls ho hIt hS (lv_sub hl [0, 1] rfl)
theorem d_Ct_waitingCount_0 : decode b_Ct_waitingCount 0 = .ok (.iconst 0, 1) := by decide +kernel
theorem d_Ct_waitingCount_1 : decode b_Ct_waitingCount 1 = .ok (.istore_n 1, 1) := by decide +kernel
theorem d_Ct_waitingCount_2 : decode b_Ct_waitingCount 2 = .ok (.aload_n 0, 1) := by decide +kernel
theorem d_Ct_waitingCount_3 : decode b_Ct_waitingCount 3 = .ok (.getfield 18, 3) := by decide +kernel
theorem d_Ct_waitingCount_6 : decode b_Ct_waitingCount 6 = .ok (.invokevirtual 43, 3) := by decide +kernel
theorem d_Ct_waitingCount_9 : decode b_Ct_waitingCount 9 = .ok (.astore_n 2, 1) := by decide +kernel
theorem d_Ct_waitingCount_10 : decode b_Ct_waitingCount 10 = .ok (.aload_n 2, 1) := by decide +kernel
theorem d_Ct_waitingCount_11 : decode b_Ct_waitingCount 11 = .ok (.invokeinterface 47 1, 5) := by decide +kernel
theorem d_Ct_waitingCount_16 : decode b_Ct_waitingCount 16 = .ok (.ifCond .eq 31, 3) := by decide +kernel
theorem d_Ct_waitingCount_19 : decode b_Ct_waitingCount 19 = .ok (.aload_n 2, 1) := by decide +kernel
theorem d_Ct_waitingCount_20 : decode b_Ct_waitingCount 20 = .ok (.invokeinterface 53 1, 5) := by decide +kernel
theorem d_Ct_waitingCount_25 : decode b_Ct_waitingCount 25 = .ok (.checkcast 57, 3) := by decide +kernel
theorem d_Ct_waitingCount_28 : decode b_Ct_waitingCount 28 = .ok (.astore_n 3, 1) := by decide +kernel
theorem d_Ct_waitingCount_29 : decode b_Ct_waitingCount 29 = .ok (.iload_n 1, 1) := by decide +kernel
theorem d_Ct_waitingCount_30 : decode b_Ct_waitingCount 30 = .ok (.aload_n 3, 1) := by decide +kernel
theorem d_Ct_waitingCount_31 : decode b_Ct_waitingCount 31 = .ok (.getfield 59, 3) := by decide +kernel
theorem d_Ct_waitingCount_34 : decode b_Ct_waitingCount 34 = .ok (.ifCond .ne 7, 3) := by decide +kernel
theorem d_Ct_waitingCount_37 : decode b_Ct_waitingCount 37 = .ok (.iconst 1, 1) := by decide +kernel
theorem d_Ct_waitingCount_38 : decode b_Ct_waitingCount 38 = .ok (.goto 4, 3) := by decide +kernel
theorem d_Ct_waitingCount_41 : decode b_Ct_waitingCount 41 = .ok (.iconst 0, 1) := by decide +kernel
theorem d_Ct_waitingCount_42 : decode b_Ct_waitingCount 42 = .ok (.iadd, 1) := by decide +kernel
theorem d_Ct_waitingCount_43 : decode b_Ct_waitingCount 43 = .ok (.istore_n 1, 1) := by decide +kernel
theorem d_Ct_waitingCount_44 : decode b_Ct_waitingCount 44 = .ok (.goto (-34), 3) := by decide +kernel
theorem d_Ct_waitingCount_47 : decode b_Ct_waitingCount 47 = .ok (.iload_n 1, 1) := by decide +kernel
theorem d_Ct_waitingCount_48 : decode b_Ct_waitingCount 48 = .ok (.ireturn, 1) := by decide +kernel
set_option maxHeartbeats 4000000 in
set_option maxRecDepth 100000 in
theorem c_Ct_waitingCount {l : Launch} {G : Gx} {s0 : State} (C : Cx G s0) {B D0 ea : Nat} {mi : Nat} (E : Es0 s0 ea mi) (hB : s0.heap.size ≤ B) (σ : Sg) (τ : Tt) (c : Nat) (hc : c < 3) (w : Nat) (hw : σ 7 c = nI w) (hw6 : w ≤ 60) : Ct l s0 (FC B D0) 3 1 4 y_Ct_waitingCount b_Ct_waitingCount 4 (some .int) [.ref (B + (9 + 9 * c))] (fun H => RepC G B D0 ea σ τ H ∧ D0 ≤ H.size) (pI (fun r H => r = nI (wtn σ c w) ∧ RepC G B D0 ea σ τ H)) := by
  refine Ct.of C (by decide) (Nat.le_of_ble_eq_true rfl) ?_
  intro pg ev s mm below meth cd V hr hlk hn hR0 ls hl
  obtain ⟨hR, hD⟩ := hR0
  have hx := V.1
  have hb := V.2.1
  have hS : va_S (FC B D0) s.heap s.heap [] := va_S.rf
  have hF : ∀ q, FC B D0 q → FC B D0 q := fun _ h => h
  have hA : ∀ q, FC B D0 q → s0.heap.size ≤ q := fun q h => by have := hR.1; rcases h with h | h <;> omega
  have hl : lv_has ls 4 [(0, .ref (B + (9 + 9 * c)))] := hl
  refine lv_iconst (v := 0) hx hb d_Ct_waitingCount_0 (by decide) ?_
  refine lv_istore_n (lv' := [(1, .int (0)), (0, .ref (B + (9 + 9 * c)))]) hx hb d_Ct_waitingCount_1 rfl hl (by decide) rfl (fun ls hl => ?_)
  refine lv_aload_n hx hb d_Ct_waitingCount_2 rfl (lv_at hl 1 rfl) ?_
  refine g_Ct_18 V (hR.2.2.2 _ hc).1 rfl d_Ct_waitingCount_3 ?_
  have hna : (B + (11 + 9 * c)) ≠ s.heap.size := by have := hR.1; omega
  have h0 : s0.heap.size ≤ s.heap.size := V.2.2.2.2.2.2.2.1
  have hi0 : ∀ q, (fun q => q = s.heap.size) q → s.heap.size ≤ q := fun q h => Nat.le_of_eq h.symm
  have hi1 : ∀ q, (fun q => q = s.heap.size) q → FC B D0 q := fun q h => by rw [h]; exact Or.inr hD
  have hR0 := hR
  have loop : ∀ (n k : Nat), k ≤ w → w < k + n →  ∀ (lr : Int32) (H : Heap) (locs : List Loc) (ls : Array Slot), (∀ q, q < s.heap.size → H[q]? = s.heap[q]?) → va_at G.1 classes (s.heap.size, .inr (7, [.int (nI k), .int lr, .int (τ.2.2.2.1 c), .ref (B + (11 + 9 * c))])) H → va_S (FC B D0) s.heap H locs → lv_has ls 4 [(2, .ref (s.heap.size)), (1, .int (nI (wtn σ c k))), (0, .ref (B + (9 + 9 * c)))] → W pg l ev (rmx 3 1 4) s mm [.ref (B + (9 + 9 * c))].toArray below meth cd H locs 1 4 (MQ below (qR (FC B D0) (pI (fun r H => r = nI (wtn σ c w) ∧ RepC G B D0 ea σ τ H))) [.ref (B + (9 + 9 * c))].toArray s 1 4 (FC B D0)) (F0 mm 10 ls []) := by
    intro n
    induction n with
    | zero => intro k h1 h2; omega
    | succ n ih =>
      intro k h1 h2 lr H locs ls ho hIt hS hl
      refine lv_aload_n hx hb d_Ct_waitingCount_10 rfl (lv_at hl 0 rfl) ?_
      have hR := hR0.grow ho
      have hz := hS.1
      refine g_callF (As := []) (rest := []) (A0 := FC B D0) V (c_It_hasNext C s.heap.size (B + (11 + 9 * c)) (τ.2.1 c) (σ 7 c) (τ.2.2.2.1 c) lr k) v_Ct_47 (E.has V.2.2.2.2.2.2) (va_recv V.2.2.2.2.2.1 (x_one hIt) (ci := 7) (q0 := 0) rfl rfl) ⟨hIt, (hR.2.2.2 c hc).2.2.2.1⟩ hS hA (fun _ h => h.elim) ⟨by decide, by decide⟩ rfl hl (Nat.le_of_ble_eq_true rfl) d_Ct_waitingCount_11 ⟨by decide, by decide⟩ (kI (fun r H locs hQ hk hS => ?_))
      subst hQ
      have hIt := hIt.kept (hk.2 _ hIt.lt (fun z => z))
      have ho := ho_k ho hz hk (fun _ h => h.elim)
      refine lv_if_eq (tgt := 47) hx hb d_Ct_waitingCount_16 (by decide) (fun h16 => ?_) (fun h16 => ?_)
      · have h16 := bI_0.mp h16
        refine lv_iload_n hx hb d_Ct_waitingCount_47 rfl (lv_at hl 1 rfl) ?_
        have hkw : k = w := (nI_eq (by omega) (by omega)).mp ((by simpa using h16 : nI k = σ 7 c).trans hw)
        exact e_i V hr hlk hS (by decide) (by decide) d_Ct_waitingCount_48 ⟨_, rfl, by rw [hkw], hR0.grow ho⟩
      · have h16 := bI_n0.mp h16
        refine lv_aload_n hx hb d_Ct_waitingCount_19 rfl (lv_at hl 0 rfl) ?_
        have hkw : k < w := by
          rcases Nat.lt_or_ge k w with q | q
          · exact q
          · exact absurd h16 (by simp [hw, show k = w from by omega])
        have hR := hR0.grow ho
        have hz := hS.1
        obtain ⟨hwc, hc2, hda, hAr⟩ := hR.arr hc hw hw6 hkw
        have hnr : τ.2.1 c ≠ s.heap.size := by have := (hR0.arr hc hw hw6 hkw).2.2.2.lt; exact Nat.ne_of_lt this
        refine g_callF (As := []) (rest := []) (A0 := FC B D0) V (c_It_next C s.heap.size (B + (11 + 9 * c)) (τ.2.1 c) (σ 7 c) (τ.2.2.2.1 c) lr k (τ.2.2.1 c) (τ.1 c k) (wsF τ c w) hna hnr h0 (by rw [hw]; exact nI_lt hkw (by omega)) (by omega) (by omega) (by simp [wsF, hkw])) v_Ct_53 (E.nxt V.2.2.2.2.2.2) (va_recv V.2.2.2.2.2.1 (x_one hIt) (ci := 7) (q0 := 0) rfl rfl) ⟨hIt, (hR.2.2.2 c hc).2.2.2.1, hAr⟩ hS hA hi1 ⟨by decide, by decide⟩ rfl hl (Nat.le_of_ble_eq_true rfl) d_Ct_waitingCount_20 ⟨by decide, by decide⟩ (kA (fun r H locs hQ hk hS => ?_))
        obtain ⟨rfl, hIt⟩ := hQ
        have ho := ho_k ho hz hk hi0
        have hR := hR0.grow ho
        refine x_cast V (List.mem_of_getElem? (i := 429) (by decide +kernel)) (hR.wsh hc hw hw6 hkw).1 d_Ct_waitingCount_25 ?_
        refine lv_astore_n (lv' := [(3, .ref (τ.1 c k)), (2, .ref (s.heap.size)), (1, .int (nI (wtn σ c k))), (0, .ref (B + (9 + 9 * c)))]) hx hb d_Ct_waitingCount_28 rfl hl (by decide) rfl (fun ls hl => ?_)
        refine lv_iload_n hx hb d_Ct_waitingCount_29 rfl (lv_at hl 2 rfl) ?_
        refine lv_aload_n hx hb d_Ct_waitingCount_30 rfl (lv_at hl 0 rfl) ?_
        refine g_Ct_59 V (hR.wsh hc hw hw6 hkw).1 rfl d_Ct_waitingCount_31 ?_
        refine lv_if_ne (tgt := 41) hx hb d_Ct_waitingCount_34 (by decide) (fun h34 => ?_) (fun h34 => ?_)
        · refine lv_iconst (v := 0) hx hb d_Ct_waitingCount_41 (by decide) ?_
          refine lv_iadd hx hb d_Ct_waitingCount_42 ?_
          refine lv_tope (y := nI (wtn σ c k)) (ad_e (a := wtn σ c k) (b := 0) rfl (rfl : (0 : Int32) = nI 0)) ?_
          refine lv_istore_n (lv' := [(1, .int (nI (wtn σ c k))), (3, .ref (τ.1 c k)), (2, .ref (s.heap.size)), (0, .ref (B + (9 + 9 * c)))]) hx hb d_Ct_waitingCount_43 rfl hl (by decide) rfl (fun ls hl => ?_)
          refine lv_goto (tgt := 10) hx hb d_Ct_waitingCount_44 (by decide) ?_
          exact ih (k + 1) (by omega) (by omega) _ _ _ ls ho hIt hS (by rw [show wtn σ c (k + 1) = wtn σ c k from by simp [wtn, h34]]; exact lv_sub hl [2, 0, 3] rfl)
        · refine lv_iconst (v := 1) hx hb d_Ct_waitingCount_37 (by decide) ?_
          refine lv_goto (tgt := 42) hx hb d_Ct_waitingCount_38 (by decide) ?_
          refine lv_iadd hx hb d_Ct_waitingCount_42 ?_
          refine lv_tope (y := nI (wtn σ c k + 1)) (ad_e (a := wtn σ c k) (b := 1) rfl (rfl : (1 : Int32) = nI 1)) ?_
          refine lv_istore_n (lv' := [(1, .int (nI (wtn σ c k + 1))), (3, .ref (τ.1 c k)), (2, .ref (s.heap.size)), (0, .ref (B + (9 + 9 * c)))]) hx hb d_Ct_waitingCount_43 rfl hl (by decide) rfl (fun ls hl => ?_)
          refine lv_goto (tgt := 10) hx hb d_Ct_waitingCount_44 (by decide) ?_
          exact ih (k + 1) (by omega) (by omega) _ _ _ ls ho hIt hS (by rw [show wtn σ c (k + 1) = wtn σ c k + 1 from by simp [wtn, h34]]; exact lv_sub hl [2, 0, 3] rfl)
  refine g_callV (As := []) (rest := []) (A0 := FC B D0) V (c_Al_iterator C s.heap.size (B + (11 + 9 * c)) (τ.2.1 c) (σ 7 c) (τ.2.2.2.1 c) hna h0) v_Ct_43 (hR.rAl V.2.2.2.2.2.1 hc) ⟨(hR.2.2.2 c hc).2.2.2.1, rfl⟩ hS hA hi1 ⟨by decide, by decide⟩ rfl hl (Nat.le_of_ble_eq_true rfl) d_Ct_waitingCount_6 ⟨by decide, by decide⟩ (kA (fun r H locs hQ hk hS => ?_))
  obtain ⟨rfl, hIt⟩ := hQ
  have ho := ho_k (H0 := s.heap) (fun _ _ => rfl) (Nat.le_refl _) hk hi0
  refine lv_astore_n (lv' := [(2, .ref (s.heap.size)), (1, .int (0)), (0, .ref (B + (9 + 9 * c)))]) hx hb d_Ct_waitingCount_9 rfl hl (by decide) rfl (fun ls hl => ?_)
  exact loop (w + 1) 0 (by omega) (by omega)  (-1) _ _ ls ho hIt hS (lv_sub hl [0, 1, 2] rfl)
