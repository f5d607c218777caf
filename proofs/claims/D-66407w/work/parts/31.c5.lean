theorem d_Ct_idle_0 : decode b_Ct_idle 0 = .ok (.aload_n 0, 1) := by decide +kernel
theorem d_Ct_idle_1 : decode b_Ct_idle 1 = .ok (.invokevirtual 71, 3) := by decide +kernel
theorem d_Ct_idle_4 : decode b_Ct_idle 4 = .ok (.astore_n 1, 1) := by decide +kernel
theorem d_Ct_idle_5 : decode b_Ct_idle 5 = .ok (.aload_n 1, 1) := by decide +kernel
theorem d_Ct_idle_6 : decode b_Ct_idle 6 = .ok (.ifnonnull 5, 3) := by decide +kernel
theorem d_Ct_idle_9 : decode b_Ct_idle 9 = .ok (.iconst 0, 1) := by decide +kernel
theorem d_Ct_idle_10 : decode b_Ct_idle 10 = .ok (.ireturn, 1) := by decide +kernel
theorem d_Ct_idle_11 : decode b_Ct_idle 11 = .ok (.aload_n 0, 1) := by decide +kernel
theorem d_Ct_idle_12 : decode b_Ct_idle 12 = .ok (.getfield 25, 3) := by decide +kernel
theorem d_Ct_idle_15 : decode b_Ct_idle 15 = .ok (.aload_n 1, 1) := by decide +kernel
theorem d_Ct_idle_16 : decode b_Ct_idle 16 = .ok (.getfield 75, 3) := by decide +kernel
theorem d_Ct_idle_19 : decode b_Ct_idle 19 = .ok (.invokevirtual 78, 3) := by decide +kernel
theorem d_Ct_idle_22 : decode b_Ct_idle 22 = .ok (.ifCond .ne 10, 3) := by decide +kernel
theorem d_Ct_idle_25 : decode b_Ct_idle 25 = .ok (.aload_n 1, 1) := by decide +kernel
theorem d_Ct_idle_26 : decode b_Ct_idle 26 = .ok (.iconst (-1), 1) := by decide +kernel
theorem d_Ct_idle_27 : decode b_Ct_idle 27 = .ok (.putfield 59, 3) := by decide +kernel
theorem d_Ct_idle_30 : decode b_Ct_idle 30 = .ok (.iconst 1, 1) := by decide +kernel
theorem d_Ct_idle_31 : decode b_Ct_idle 31 = .ok (.ireturn, 1) := by decide +kernel
theorem d_Ct_idle_32 : decode b_Ct_idle 32 = .ok (.aload_n 0, 1) := by decide +kernel
theorem d_Ct_idle_33 : decode b_Ct_idle 33 = .ok (.getfield 82, 3) := by decide +kernel
theorem d_Ct_idle_36 : decode b_Ct_idle 36 = .ok (.aload_n 0, 1) := by decide +kernel
theorem d_Ct_idle_37 : decode b_Ct_idle 37 = .ok (.getfield 37, 3) := by decide +kernel
theorem d_Ct_idle_40 : decode b_Ct_idle 40 = .ok (.invokestatic 85, 3) := by decide +kernel
theorem d_Ct_idle_43 : decode b_Ct_idle 43 = .ok (.iconst 1, 1) := by decide +kernel
theorem d_Ct_idle_44 : decode b_Ct_idle 44 = .ok (.iadd, 1) := by decide +kernel
theorem d_Ct_idle_45 : decode b_Ct_idle 45 = .ok (.istore_n 2, 1) := by decide +kernel
theorem d_Ct_idle_46 : decode b_Ct_idle 46 = .ok (.iload_n 2, 1) := by decide +kernel
theorem d_Ct_idle_47 : decode b_Ct_idle 47 = .ok (.iconst 3, 1) := by decide +kernel
theorem d_Ct_idle_48 : decode b_Ct_idle 48 = .ok (.irem, 1) := by decide +kernel
theorem d_Ct_idle_49 : decode b_Ct_idle 49 = .ok (.aload_n 0, 1) := by decide +kernel
theorem d_Ct_idle_50 : decode b_Ct_idle 50 = .ok (.getfield 33, 3) := by decide +kernel
theorem d_Ct_idle_53 : decode b_Ct_idle 53 = .ok (.iconst 1, 1) := by decide +kernel
theorem d_Ct_idle_54 : decode b_Ct_idle 54 = .ok (.iadd, 1) := by decide +kernel
theorem d_Ct_idle_55 : decode b_Ct_idle 55 = .ok (.iconst 3, 1) := by decide +kernel
theorem d_Ct_idle_56 : decode b_Ct_idle 56 = .ok (.irem, 1) := by decide +kernel
theorem d_Ct_idle_57 : decode b_Ct_idle 57 = .ok (.if_icmp .eq 9, 3) := by decide +kernel
theorem d_Ct_idle_60 : decode b_Ct_idle 60 = .ok (.iinc 2 1, 3) := by decide +kernel
theorem d_Ct_idle_63 : decode b_Ct_idle 63 = .ok (.goto (-17), 3) := by decide +kernel
theorem d_Ct_idle_66 : decode b_Ct_idle 66 = .ok (.aload_n 0, 1) := by decide +kernel
theorem d_Ct_idle_67 : decode b_Ct_idle 67 = .ok (.iload_n 2, 1) := by decide +kernel
theorem d_Ct_idle_68 : decode b_Ct_idle 68 = .ok (.putfield 82, 3) := by decide +kernel
theorem d_Ct_idle_71 : decode b_Ct_idle 71 = .ok (.aload_n 0, 1) := by decide +kernel
theorem d_Ct_idle_72 : decode b_Ct_idle 72 = .ok (.aload_n 0, 1) := by decide +kernel
theorem d_Ct_idle_73 : decode b_Ct_idle 73 = .ok (.getfield 91, 3) := by decide +kernel
theorem d_Ct_idle_76 : decode b_Ct_idle 76 = .ok (.putfield 94, 3) := by decide +kernel
theorem d_Ct_idle_79 : decode b_Ct_idle 79 = .ok (.aload_n 0, 1) := by decide +kernel
theorem d_Ct_idle_80 : decode b_Ct_idle 80 = .ok (.aload_n 0, 1) := by decide +kernel
theorem d_Ct_idle_81 : decode b_Ct_idle 81 = .ok (.getfield 97, 3) := by decide +kernel
theorem d_Ct_idle_84 : decode b_Ct_idle 84 = .ok (.putfield 100, 3) := by decide +kernel
theorem d_Ct_idle_87 : decode b_Ct_idle 87 = .ok (.aload_n 0, 1) := by decide +kernel
theorem d_Ct_idle_88 : decode b_Ct_idle 88 = .ok (.iconst 1, 1) := by decide +kernel
theorem d_Ct_idle_89 : decode b_Ct_idle 89 = .ok (.invokevirtual 103, 3) := by decide +kernel
theorem d_Ct_idle_92 : decode b_Ct_idle 92 = .ok (.iconst 2, 1) := by decide +kernel
theorem d_Ct_idle_93 : decode b_Ct_idle 93 = .ok (.ireturn, 1) := by decide +kernel
set_option maxHeartbeats 4000000 in
set_option maxRecDepth 100000 in
theorem c_Ct_idle {l : Launch} {G : Gx} {s0 : State} (C : Cx G s0) {B D0 ea : Nat} {mi : Nat} (E : Es0 s0 ea mi) (hB : s0.heap.size ≤ B) (σ : Sg) (τ : Tt) (c : Nat) (hc : c < 3) (w : Nat) (hw : σ 7 c = nI w) (hw6 : w ≤ 60) (hI : okI σ c w) : Ct l s0 (FC B D0) 4 1 4 y_Ct_idle b_Ct_idle 3 (some .int) [.ref (B + (9 + 9 * c))] (fun H => RepC G B D0 ea σ τ H ∧ D0 ≤ H.size) (pI (fun r H => r = (idl σ c w).1 ∧ RepC G B D0 ea (idl σ c w).2 τ H)) := by
  refine Ct.of C (by decide) (Nat.le_of_ble_eq_true rfl) ?_
  intro pg ev s mm below meth cd V hr hlk hn hR0 ls hl
  obtain ⟨hR, hD⟩ := hR0
  have hx := V.1
  have hb := V.2.1
  have hS : va_S (FC B D0) s.heap s.heap [] := va_S.rf
  have hF : ∀ q, FC B D0 q → FC B D0 q := fun _ h => h
  have hA : ∀ q, FC B D0 q → s0.heap.size ≤ q := fun q h => by have := hR.1; rcases h with h | h <;> omega
  have hl : lv_has ls 3 [(0, .ref (B + (9 + 9 * c)))] := hl
  obtain ⟨⟨x, y, hx8, hy, hx2, hy2⟩, hE, hZ⟩ := hI
  rcases hf : fwF σ c w 0 with _ | k
  · refine lv_aload_n hx hb d_Ct_idle_0 rfl (lv_at hl 0 rfl) ?_
    refine g_callV (As := []) (rest := []) (A0 := FC B D0) V (c_Ct_waiting_n C E hB σ τ c hc w hw hw6 hf) v_Ct_71 (hR.rCt V.2.2.2.2.2.1 hc) ⟨hR, Nat.le_trans hD hS.1⟩ hS hA (fun _ h => h) ⟨by decide, by decide⟩ rfl hl (Nat.le_of_ble_eq_true rfl) d_Ct_idle_1 ⟨by decide, by decide⟩ (kN (fun H locs hR _ hS => ?_))
    refine lv_astore_nN (lv' := [(1, .null), (0, .ref (B + (9 + 9 * c)))]) hx hb d_Ct_idle_4 rfl hl (by decide) rfl (fun ls hl => ?_)
    refine lv_aload_nN hx hb d_Ct_idle_5 rfl (lv_at hl 0 rfl) ?_
    refine lv_ifnonnullN hx hb d_Ct_idle_6 ?_
    refine lv_iconst (v := 0) hx hb d_Ct_idle_9 (by decide) ?_
    exact e_i V hr hlk hS (by decide) (by decide) d_Ct_idle_10 ⟨_, rfl, by rw [show idl σ c w = (0, σ) from by simp [idl, hf]]; exact ⟨rfl, hR⟩⟩
  · obtain ⟨-, hkw, hk6⟩ := fwF_lt hf
    have hkw : k < w := by omega
    have hde := hE k hkw
    obtain ⟨hmx, hL⟩ := mx_lst hx8 hy hx2 hy2
    generalize hLe : lst σ c = L at hmx hL
    have main : ∀ ha : alw σ c (σ 5 (60 * c + k)) = true, ∀ (z r : Nat), L < r → r ≤ rn c L → rn c L < r + z → ∀ (H : Heap) (locs : List Loc) (ls : Array Slot), RepC G B D0 ea σ τ H → va_S (FC B D0) s.heap H locs → lv_has ls 3 [(2, .int (nI r)), (0, .ref (B + (9 + 9 * c)))] → W pg l ev (rmx 4 1 4) s mm [.ref (B + (9 + 9 * c))].toArray below meth cd H locs 1 4 (MQ below (qR (FC B D0) (pI (fun r H => r = (idl σ c w).1 ∧ RepC G B D0 ea (idl σ c w).2 τ H))) [.ref (B + (9 + 9 * c))].toArray s 1 4 (FC B D0)) (F0 mm 46 ls []) := by
      intro ha z
      induction z with
      | zero => intro r h1 h2 h3; omega
      | succ z ih =>
        intro r h1 h2 h3 H locs ls hR hS hl
        have hrL := (rn_mod c L).2.2 hc
        refine lv_iload_n hx hb d_Ct_idle_46 rfl (lv_at hl 0 rfl) ?_
        refine lv_iconst (v := 3) hx hb d_Ct_idle_47 (by decide) ?_
        refine lv_irem hx hb d_Ct_idle_48 (by decide) ?_
        refine lv_tope (y := nI (r % 3)) (rem3 (a := r) (by omega)) ?_
        refine lv_aload_n hx hb d_Ct_idle_49 rfl (lv_at hl 1 rfl) ?_
        refine g_Ct_33 V (hR.2.2.2 _ hc).1 rfl d_Ct_idle_50 ?_
        refine lv_iconst (v := 1) hx hb d_Ct_idle_53 (by decide) ?_
        refine lv_iadd hx hb d_Ct_idle_54 ?_
        refine lv_tope (y := nI (c + 1)) (ad_e (a := c) (b := 1) rfl (rfl : (1 : Int32) = nI 1)) ?_
        refine lv_iconst (v := 3) hx hb d_Ct_idle_55 (by decide) ?_
        refine lv_irem hx hb d_Ct_idle_56 (by decide) ?_
        refine lv_tope (y := nI ((c + 1) % 3)) (rem3 (a := c + 1) (by omega)) ?_
        refine lv_icmp_eq (tgt := 66) hx hb d_Ct_idle_57 (by decide) (fun h57 => ?_) (fun h57 => ?_)
        · have hrn : r = rn c L := rn_eq (by omega) h2 ((nI_eq (by omega) (by omega)).mp h57) hc
          refine lv_aload_n hx hb d_Ct_idle_66 rfl (lv_at hl 1 rfl) ?_
          refine lv_iload_n hx hb d_Ct_idle_67 rfl (lv_at hl 0 rfl) ?_
          refine q_Ct_82 V hR hS hF hc d_Ct_idle_68 (fun H locs hR hS => ?_)
          refine lv_aload_n hx hb d_Ct_idle_71 rfl (lv_at hl 1 rfl) ?_
          refine lv_aload_n hx hb d_Ct_idle_72 rfl (lv_at hl 1 rfl) ?_
          refine g_Ct_91 V (hR.2.2.2 _ hc).1 rfl d_Ct_idle_73 ?_
          refine lv_tope (y := σ 9 c) (by simp [up2, upd]) ?_
          refine q_Ct_94 V hR hS hF hc d_Ct_idle_76 (fun H locs hR hS => ?_)
          refine lv_aload_n hx hb d_Ct_idle_79 rfl (lv_at hl 1 rfl) ?_
          refine lv_aload_n hx hb d_Ct_idle_80 rfl (lv_at hl 1 rfl) ?_
          refine g_Ct_97 V (hR.2.2.2 _ hc).1 rfl d_Ct_idle_81 ?_
          refine lv_tope (y := σ 10 c) (by simp [up2, upd]) ?_
          refine q_Ct_100 V hR hS hF hc d_Ct_idle_84 (fun H locs hR hS => ?_)
          refine lv_aload_n hx hb d_Ct_idle_87 rfl (lv_at hl 1 rfl) ?_
          refine lv_iconst (v := 1) hx hb d_Ct_idle_88 (by decide) ?_
          refine g_callV (As := [.int (1)]) (rest := []) (A0 := FC B D0) V (c_Ct_begin C hB (up2 (up2 (up2 σ 8 c (nI r)) 18 c (σ 9 c)) 19 c (σ 10 c)) τ c hc (1)) v_Ct_103 (hR.rCt V.2.2.2.2.2.1 hc) hR hS hA (fun _ h => h) ⟨by decide, by decide⟩ rfl hl (Nat.le_of_ble_eq_true rfl) d_Ct_idle_89 ⟨by decide, by decide⟩ (kV (fun H locs hR _ hS => ?_))
          refine lv_iconst (v := 2) hx hb d_Ct_idle_92 (by decide) ?_
          exact e_i V hr hlk hS (by decide) (by decide) d_Ct_idle_93 ⟨_, rfl, by rw [show idl σ c w = (2, cbg (up2 (up2 (up2 σ 8 c (nI r)) 18 c (σ 9 c)) 19 c (σ 10 c)) c 1) from by simp [idl, hf, ha, hLe, hrn]]; exact ⟨rfl, hR⟩⟩
        · refine lv_iinc (v := nI (r + 1)) (lv' := [(2, .int (nI (r + 1))), (0, .ref (B + (9 + 9 * c)))]) hx hb d_Ct_idle_60 hl (k := 0) rfl (ad_e rfl (rfl : (1 : Int32) = nI 1)) (by decide) rfl (fun ls hl => ?_)
          refine lv_goto (tgt := 46) hx hb d_Ct_idle_63 (by decide) ?_
          have hne : ¬ r % 3 = (c + 1) % 3 := fun z => h57 (by rw [z])
          exact ih (r + 1) (by omega) (by have := (rn_mod c L).1; have : ¬ r = rn c L := fun z => hne (by rw [z]; exact (rn_mod c L).1); omega) (by omega) _ _ ls hR hS (lv_sub hl [0, 1] rfl)
    refine lv_aload_n hx hb d_Ct_idle_0 rfl (lv_at hl 0 rfl) ?_
    refine g_callV (As := []) (rest := []) (A0 := FC B D0) V (c_Ct_waiting C E hB σ τ c hc w hw hw6 k hf) v_Ct_71 (hR.rCt V.2.2.2.2.2.1 hc) ⟨hR, Nat.le_trans hD hS.1⟩ hS hA (fun _ h => h) ⟨by decide, by decide⟩ rfl hl (Nat.le_of_ble_eq_true rfl) d_Ct_idle_1 ⟨by decide, by decide⟩ (kA (fun r H locs hQ _ hS => ?_))
    obtain ⟨rfl, hR⟩ := hQ
    refine lv_astore_n (lv' := [(1, .ref (τ.1 c k)), (0, .ref (B + (9 + 9 * c)))]) hx hb d_Ct_idle_4 rfl hl (by decide) rfl (fun ls hl => ?_)
    refine lv_aload_n hx hb d_Ct_idle_5 rfl (lv_at hl 0 rfl) ?_
    refine lv_ifnonnull (tgt := 11) hx hb d_Ct_idle_6 (by decide) ?_
    refine lv_aload_n hx hb d_Ct_idle_11 rfl (lv_at hl 1 rfl) ?_
    refine g_Ct_25 V (hR.2.2.2 _ hc).1 rfl d_Ct_idle_12 ?_
    refine lv_aload_n hx hb d_Ct_idle_15 rfl (lv_at hl 0 rfl) ?_
    refine g_Ct_75 V (hR.wsh hc hw hw6 hkw).1 rfl d_Ct_idle_16 ?_
    refine g_callV (As := [.int (σ 5 (60 * c + k))]) (rest := []) (A0 := FC B D0) V (c_Lb_allows C hB σ τ c hc (σ 5 (60 * c + k)) hde (hZ _ (by omega))) v_Ct_78 (hR.rLb V.2.2.2.2.2.1 hc) hR hS hA (fun _ h => h) ⟨by decide, by decide⟩ rfl hl (Nat.le_of_ble_eq_true rfl) d_Ct_idle_19 ⟨by decide, by decide⟩ (kI (fun r19 H locs hQ _ hS => ?_))
    obtain ⟨rfl, hR⟩ := hQ
    refine lv_if_ne (tgt := 32) hx hb d_Ct_idle_22 (by decide) (fun h22 => ?_) (fun h22 => ?_)
    · have h22 := bI_n0.mp h22
      refine lv_aload_n hx hb d_Ct_idle_32 rfl (lv_at hl 1 rfl) ?_
      refine g_Ct_82 V (hR.2.2.2 _ hc).1 rfl d_Ct_idle_33 ?_
      refine lv_aload_n hx hb d_Ct_idle_36 rfl (lv_at hl 1 rfl) ?_
      refine g_Ct_37 V (hR.2.2.2 _ hc).1 rfl d_Ct_idle_37 ?_
      refine x_max V (List.mem_of_getElem? (i := 583) (by decide +kernel)) hl (Nat.le_of_ble_eq_true rfl) ⟨by decide, by decide⟩ (by decide) (by decide) d_Ct_idle_40 ?_
      rw [hmx]
      refine lv_iconst (v := 1) hx hb d_Ct_idle_43 (by decide) ?_
      refine lv_iadd hx hb d_Ct_idle_44 ?_
      refine lv_tope (y := nI (L + 1)) (ad_e (a := L) (b := 1) rfl (rfl : (1 : Int32) = nI 1)) ?_
      refine lv_istore_n (lv' := [(2, .int (nI (L + 1))), (1, .ref (τ.1 c k)), (0, .ref (B + (9 + 9 * c)))]) hx hb d_Ct_idle_45 rfl hl (by decide) rfl (fun ls hl => ?_)
      exact main h22 4 (L + 1) (by omega) (by have := rn_mod c L; omega) (by have := (rn_mod c L).2.2 hc; omega) _ _ ls hR hS (lv_sub hl [0, 2] rfl)
    · have h22 := bI_0.mp h22
      refine lv_aload_n hx hb d_Ct_idle_25 rfl (lv_at hl 0 rfl) ?_
      refine lv_iconst (v := -1) hx hb d_Ct_idle_26 (by decide) ?_
      refine q_Ct_59 V hR hS hF hc hw hw6 hkw d_Ct_idle_27 (fun H locs hR hS => ?_)
      refine lv_iconst (v := 1) hx hb d_Ct_idle_30 (by decide) ?_
      exact e_i V hr hlk hS (by decide) (by decide) d_Ct_idle_31 ⟨_, rfl, by rw [show idl σ c w = (1, (up2 σ 6 (60 * c + k) (-1))) from by simp [idl, hf, h22]]; exact ⟨rfl, hR⟩⟩
theorem d_Ct_decide_0 : decode b_Ct_decide 0 = .ok (.aload_n 0, 1) := by decide +kernel
theorem d_Ct_decide_1 : decode b_Ct_decide 1 = .ok (.getfield 97, 3) := by decide +kernel
theorem d_Ct_decide_4 : decode b_Ct_decide 4 = .ok (.istore_n 1, 1) := by decide +kernel
theorem d_Ct_decide_5 : decode b_Ct_decide 5 = .ok (.aload_n 0, 1) := by decide +kernel
theorem d_Ct_decide_6 : decode b_Ct_decide 6 = .ok (.getfield 9, 3) := by decide +kernel
theorem d_Ct_decide_9 : decode b_Ct_decide 9 = .ok (.aload_n 0, 1) := by decide +kernel
theorem d_Ct_decide_10 : decode b_Ct_decide 10 = .ok (.dup, 1) := by decide +kernel
theorem d_Ct_decide_11 : decode b_Ct_decide 11 = .ok (.getfield 110, 3) := by decide +kernel
theorem d_Ct_decide_14 : decode b_Ct_decide 14 = .ok (.dup_x1, 1) := by decide +kernel
theorem d_Ct_decide_15 : decode b_Ct_decide 15 = .ok (.iconst 1, 1) := by decide +kernel
theorem d_Ct_decide_16 : decode b_Ct_decide 16 = .ok (.iadd, 1) := by decide +kernel
theorem d_Ct_decide_17 : decode b_Ct_decide 17 = .ok (.putfield 110, 3) := by decide +kernel
theorem d_Ct_decide_20 : decode b_Ct_decide 20 = .ok (.iload_n 1, 1) := by decide +kernel
theorem d_Ct_decide_21 : decode b_Ct_decide 21 = .ok (.iastore, 1) := by decide +kernel
theorem d_Ct_decide_22 : decode b_Ct_decide 22 = .ok (.aload_n 0, 1) := by decide +kernel
theorem d_Ct_decide_23 : decode b_Ct_decide 23 = .ok (.getfield 25, 3) := by decide +kernel
theorem d_Ct_decide_26 : decode b_Ct_decide 26 = .ok (.iload_n 1, 1) := by decide +kernel
theorem d_Ct_decide_27 : decode b_Ct_decide 27 = .ok (.invokevirtual 129, 3) := by decide +kernel
theorem d_Ct_decide_30 : decode b_Ct_decide 30 = .ok (.iload_n 1, 1) := by decide +kernel
theorem d_Ct_decide_31 : decode b_Ct_decide 31 = .ok (.invokestatic 132, 3) := by decide +kernel
theorem d_Ct_decide_34 : decode b_Ct_decide 34 = .ok (.aload_n 0, 1) := by decide +kernel
theorem d_Ct_decide_35 : decode b_Ct_decide 35 = .ok (.getfield 33, 3) := by decide +kernel
theorem d_Ct_decide_38 : decode b_Ct_decide 38 = .ok (.if_icmp .ne 24, 3) := by decide +kernel
theorem d_Ct_decide_41 : decode b_Ct_decide 41 = .ok (.aload_n 0, 1) := by decide +kernel
theorem d_Ct_decide_42 : decode b_Ct_decide 42 = .ok (.getfield 18, 3) := by decide +kernel
theorem d_Ct_decide_45 : decode b_Ct_decide 45 = .ok (.iload_n 1, 1) := by decide +kernel
theorem d_Ct_decide_46 : decode b_Ct_decide 46 = .ok (.invokestatic 135, 3) := by decide +kernel
theorem d_Ct_decide_49 : decode b_Ct_decide 49 = .ok (.invokevirtual 138, 3) := by decide +kernel
theorem d_Ct_decide_52 : decode b_Ct_decide 52 = .ok (.checkcast 57, 3) := by decide +kernel
theorem d_Ct_decide_55 : decode b_Ct_decide 55 = .ok (.aload_n 0, 1) := by decide +kernel
theorem d_Ct_decide_56 : decode b_Ct_decide 56 = .ok (.getfield 110, 3) := by decide +kernel
theorem d_Ct_decide_59 : decode b_Ct_decide 59 = .ok (.putfield 59, 3) := by decide +kernel
theorem d_Ct_decide_62 : decode b_Ct_decide 62 = .ok (.aload_n 0, 1) := by decide +kernel
theorem d_Ct_decide_63 : decode b_Ct_decide 63 = .ok (.iconst 0, 1) := by decide +kernel
theorem d_Ct_decide_64 : decode b_Ct_decide 64 = .ok (.putfield 91, 3) := by decide +kernel
theorem d_Ct_decide_67 : decode b_Ct_decide 67 = .ok (.aload_n 0, 1) := by decide +kernel
theorem d_Ct_decide_68 : decode b_Ct_decide 68 = .ok (.iconst 0, 1) := by decide +kernel
theorem d_Ct_decide_69 : decode b_Ct_decide 69 = .ok (.putfield 97, 3) := by decide +kernel
theorem d_Ct_decide_72 : decode b_Ct_decide 72 = .ok (.aload_n 0, 1) := by decide +kernel
theorem d_Ct_decide_73 : decode b_Ct_decide 73 = .ok (.iconst 0, 1) := by decide +kernel
theorem d_Ct_decide_74 : decode b_Ct_decide 74 = .ok (.putfield 40, 3) := by decide +kernel
theorem d_Ct_decide_77 : decode b_Ct_decide 77 = .ok (.bipush 8, 2) := by decide +kernel
theorem d_Ct_decide_79 : decode b_Ct_decide 79 = .ok (.ireturn, 1) := by decide +kernel
set_option maxHeartbeats 4000000 in
set_option maxRecDepth 100000 in
theorem c_Ct_decide {l : Launch} {G : Gx} {s0 : State} (C : Cx G s0) {B D0 ea : Nat} (hB : s0.heap.size ≤ B) (σ : Sg) (τ : Tt) (c : Nat) (hc : c < 3) (w : Nat) (hw : σ 7 c = nI w) (hw6 : w ≤ 60) (q : Nat) (hq : σ 4 c = nI q) (hq4 : q < 24) (hO : okD σ c w) : Ct l s0 (FC B D0) 3 0 0 y_Ct_decide b_Ct_decide 2 (some .int) [.ref (B + (9 + 9 * c))] (RepC G B D0 ea σ τ) (pI (fun r H => r = 8 ∧ RepC G B D0 ea (cdc σ c q) τ H)) := by
  refine Ct.of C (by decide) (Nat.le_of_ble_eq_true rfl) ?_
  intro pg ev s mm below meth cd V hr hlk hn hR ls hl
  have hx := V.1
  have hb := V.2.1
  have hS : va_S (FC B D0) s.heap s.heap [] := va_S.rf
  have hF : ∀ q, FC B D0 q → FC B D0 q := fun _ h => h
  have hA : ∀ q, FC B D0 q → s0.heap.size ≤ q := fun q h => by have := hR.1; rcases h with h | h <;> omega
  have hl : lv_has ls 2 [(0, .ref (B + (9 + 9 * c)))] := hl
  obtain ⟨hd, hk1, hwi⟩ := hO
  refine lv_aload_n hx hb d_Ct_decide_0 rfl (lv_at hl 0 rfl) ?_
  refine g_Ct_97 V (hR.2.2.2 _ hc).1 rfl d_Ct_decide_1 ?_
  refine lv_istore_n (lv' := [(1, .int (σ 10 c)), (0, .ref (B + (9 + 9 * c)))]) hx hb d_Ct_decide_4 rfl hl (by decide) rfl (fun ls hl => ?_)
  refine lv_aload_n hx hb d_Ct_decide_5 rfl (lv_at hl 1 rfl) ?_
  refine g_Ct_9 V (hR.2.2.2 _ hc).1 rfl d_Ct_decide_6 ?_
  refine lv_aload_n hx hb d_Ct_decide_9 rfl (lv_at hl 1 rfl) ?_
  refine lv_dup hx hb d_Ct_decide_10 rfl ?_
  refine g_Ct_110 V (hR.2.2.2 _ hc).1 rfl d_Ct_decide_11 ?_
  refine lv_tope (y := nI q) hq ?_
  refine lv_dup_x1 hx hb d_Ct_decide_14 rfl rfl ?_
  refine lv_iconst (v := 1) hx hb d_Ct_decide_15 (by decide) ?_
  refine lv_iadd hx hb d_Ct_decide_16 ?_
  refine lv_tope (y := nI (q + 1)) (ad_e (a := q) (b := 1) rfl (rfl : (1 : Int32) = nI 1)) ?_
  refine q_Ct_110 V hR hS hF hc d_Ct_decide_17 (fun H locs hR hS => ?_)
  refine lv_iload_n hx hb d_Ct_decide_20 rfl (lv_at hl 0 rfl) ?_
  refine c_lst V hR hS hF hc (q) rfl (by omega) d_Ct_decide_21 (fun H locs hR hS => ?_)
  refine lv_aload_n hx hb d_Ct_decide_22 rfl (lv_at hl 1 rfl) ?_
  refine g_Ct_25 V (hR.2.2.2 _ hc).1 rfl d_Ct_decide_23 ?_
  refine lv_iload_n hx hb d_Ct_decide_26 rfl (lv_at hl 0 rfl) ?_
  refine g_callV (As := [.int (σ 10 c)]) (rest := []) (A0 := FC B D0) V (c_Lb_apply C hB (up2 (up2 σ 4 c (nI (q + 1))) 3 (24 * c + q) (σ 10 c)) τ c hc (σ 10 c) hd (by simpa [up2] using hk1)) v_Ct_129 (hR.rLb V.2.2.2.2.2.1 hc) hR hS hA (fun _ h => h) ⟨by decide, by decide⟩ rfl hl (Nat.le_of_ble_eq_true rfl) d_Ct_decide_27 ⟨Nat.le_refl _, Nat.le_refl _⟩ (kV (fun H locs hR _ hS => ?_))
  refine lv_iload_n hx hb d_Ct_decide_30 rfl (lv_at hl 0 rfl) ?_
  refine g_callSN (As := [.int (σ 10 c)]) (rest := []) (A0 := FC B D0) V (c_Da_owner C hB (prf (up2 (up2 σ 4 c (nI (q + 1))) 3 (24 * c + q) (σ 10 c)) c (σ 10 c)) τ (σ 10 c)) v_Ct_132 hR hS hA (fun _ h => h) ⟨by decide, by decide⟩ rfl hl (Nat.le_of_ble_eq_true rfl) d_Ct_decide_31 ⟨Nat.le_refl _, Nat.le_refl _⟩ (kI (fun r31 H locs hQ _ hS => ?_))
  obtain ⟨rfl, hR⟩ := hQ
  refine lv_aload_n hx hb d_Ct_decide_34 rfl (lv_at hl 1 rfl) ?_
  refine g_Ct_33 V (hR.2.2.2 _ hc).1 rfl d_Ct_decide_35 ?_
  refine lv_icmp_ne (tgt := 62) hx hb d_Ct_decide_38 (by decide) (fun h38 => ?_) (fun h38 => ?_)
  · refine lv_aload_n hx hb d_Ct_decide_62 rfl (lv_at hl 1 rfl) ?_
    refine lv_iconst (v := 0) hx hb d_Ct_decide_63 (by decide) ?_
    refine q_Ct_91 V hR hS hF hc d_Ct_decide_64 (fun H locs hR hS => ?_)
    refine lv_aload_n hx hb d_Ct_decide_67 rfl (lv_at hl 1 rfl) ?_
    refine lv_iconst (v := 0) hx hb d_Ct_decide_68 (by decide) ?_
    refine q_Ct_97 V hR hS hF hc d_Ct_decide_69 (fun H locs hR hS => ?_)
    refine lv_aload_n hx hb d_Ct_decide_72 rfl (lv_at hl 1 rfl) ?_
    refine lv_iconst (v := 0) hx hb d_Ct_decide_73 (by decide) ?_
    refine q_Ct_40 V hR hS hF hc d_Ct_decide_74 (fun H locs hR hS => ?_)
    refine lv_bipush (v := 8) hx hb d_Ct_decide_77 (by decide) ?_
    exact e_i V hr hlk hS (Nat.le_refl _) (Nat.le_refl _) d_Ct_decide_79 ⟨_, rfl, rfl, by rw [show cdc σ c q = (up2 (up2 (up2 (prf (up2 (up2 σ 4 c (nI (q + 1))) 3 (24 * c + q) (σ 10 c)) c (σ 10 c)) 9 c (0)) 10 c (0)) 12 c (0)) from by simp [cdc, h38]]; exact hR⟩
  · obtain ⟨k, hjw, hkw⟩ := hwi h38
    refine lv_aload_n hx hb d_Ct_decide_41 rfl (lv_at hl 1 rfl) ?_
    refine g_Ct_18 V (hR.2.2.2 _ hc).1 rfl d_Ct_decide_42 ?_
    refine lv_iload_n hx hb d_Ct_decide_45 rfl (lv_at hl 0 rfl) ?_
    refine g_callSN (As := [.int (σ 10 c)]) (rest := [.ref (B + (11 + 9 * c))]) (A0 := FC B D0) V (c_Da_wish C hB (prf (up2 (up2 σ 4 c (nI (q + 1))) 3 (24 * c + q) (σ 10 c)) c (σ 10 c)) τ (σ 10 c)) v_Ct_135 hR hS hA (fun _ h => h) ⟨by decide, by decide⟩ rfl hl (Nat.le_of_ble_eq_true rfl) d_Ct_decide_46 ⟨Nat.le_refl _, Nat.le_refl _⟩ (kI (fun r46 H locs hQ _ hS => ?_))
    obtain ⟨rfl, hR⟩ := hQ
    refine lv_tope (y := nI k) hkw ?_
    refine g_callV (As := [.int (nI k)]) (rest := []) (A0 := FC B D0) V (c_Al_get C hB (prf (up2 (up2 σ 4 c (nI (q + 1))) 3 (24 * c + q) (σ 10 c)) c (σ 10 c)) τ c hc w (show (prf (up2 (up2 σ 4 c (nI (q + 1))) 3 (24 * c + q) (σ 10 c)) c (σ 10 c)) 7 c = nI w from by rw [prf_ne (by decide)]; simpa [up2] using hw) hw6 (k) hjw) v_Ct_138 (hR.rAl V.2.2.2.2.2.1 hc) hR hS hA (fun _ h => h) ⟨by decide, by decide⟩ rfl hl (Nat.le_of_ble_eq_true rfl) d_Ct_decide_49 ⟨Nat.le_refl _, Nat.le_refl _⟩ (kA (fun r49 H locs hQ _ hS => ?_))
    obtain ⟨rfl, hR⟩ := hQ
    refine x_cast V (List.mem_of_getElem? (i := 429) (by decide +kernel)) (hR.wsh hc (show (prf (up2 (up2 σ 4 c (nI (q + 1))) 3 (24 * c + q) (σ 10 c)) c (σ 10 c)) 7 c = nI w from by rw [prf_ne (by decide)]; simpa [up2] using hw) hw6 hjw).1 d_Ct_decide_52 ?_
    refine lv_aload_n hx hb d_Ct_decide_55 rfl (lv_at hl 1 rfl) ?_
    refine g_Ct_110 V (hR.2.2.2 _ hc).1 rfl d_Ct_decide_56 ?_
    refine lv_tope (y := nI (q + 1)) (by rw [prf_ne (by decide)]; simp [up2, upd]) ?_
    refine q_Ct_59 V hR hS hF hc (show (prf (up2 (up2 σ 4 c (nI (q + 1))) 3 (24 * c + q) (σ 10 c)) c (σ 10 c)) 7 c = nI w from by rw [prf_ne (by decide)]; simpa [up2] using hw) hw6 hjw d_Ct_decide_59 (fun H locs hR hS => ?_)
    refine lv_aload_n hx hb d_Ct_decide_62 rfl (lv_at hl 1 rfl) ?_
    refine lv_iconst (v := 0) hx hb d_Ct_decide_63 (by decide) ?_
    refine q_Ct_91 V hR hS hF hc d_Ct_decide_64 (fun H locs hR hS => ?_)
    refine lv_aload_n hx hb d_Ct_decide_67 rfl (lv_at hl 1 rfl) ?_
    refine lv_iconst (v := 0) hx hb d_Ct_decide_68 (by decide) ?_
    refine q_Ct_97 V hR hS hF hc d_Ct_decide_69 (fun H locs hR hS => ?_)
    refine lv_aload_n hx hb d_Ct_decide_72 rfl (lv_at hl 1 rfl) ?_
    refine lv_iconst (v := 0) hx hb d_Ct_decide_73 (by decide) ?_
    refine q_Ct_40 V hR hS hF hc d_Ct_decide_74 (fun H locs hR hS => ?_)
    refine lv_bipush (v := 8) hx hb d_Ct_decide_77 (by decide) ?_
    exact e_i V hr hlk hS (Nat.le_refl _) (Nat.le_refl _) d_Ct_decide_79 ⟨_, rfl, rfl, by rw [show cdc σ c q = (up2 (up2 (up2 (up2 (prf (up2 (up2 σ 4 c (nI (q + 1))) 3 (24 * c + q) (σ 10 c)) c (σ 10 c)) 6 (60 * c + k) (nI (q + 1))) 9 c (0)) 10 c (0)) 12 c (0)) from by simp [cdc, h38, wN, hkw, tN_n (show k < 2 ^ 31 by omega)]]; exact hR⟩
theorem d_Ct_goOn_0 : decode b_Ct_goOn 0 = .ok (.aload_n 0, 1) := by decide +kernel
theorem d_Ct_goOn_1 : decode b_Ct_goOn 1 = .ok (.getfield 40, 3) := by decide +kernel
theorem d_Ct_goOn_4 : decode b_Ct_goOn 4 = .ok (.iconst 2, 1) := by decide +kernel
theorem d_Ct_goOn_5 : decode b_Ct_goOn 5 = .ok (.if_icmp .ne 8, 3) := by decide +kernel
theorem d_Ct_goOn_8 : decode b_Ct_goOn 8 = .ok (.aload_n 0, 1) := by decide +kernel
theorem d_Ct_goOn_9 : decode b_Ct_goOn 9 = .ok (.invokevirtual 142, 3) := by decide +kernel
theorem d_Ct_goOn_12 : decode b_Ct_goOn 12 = .ok (.ireturn, 1) := by decide +kernel
theorem d_Ct_goOn_13 : decode b_Ct_goOn 13 = .ok (.aload_n 0, 1) := by decide +kernel
theorem d_Ct_goOn_14 : decode b_Ct_goOn 14 = .ok (.invokevirtual 71, 3) := by decide +kernel
theorem d_Ct_goOn_17 : decode b_Ct_goOn 17 = .ok (.astore_n 1, 1) := by decide +kernel
theorem d_Ct_goOn_18 : decode b_Ct_goOn 18 = .ok (.aload_n 0, 1) := by decide +kernel
theorem d_Ct_goOn_19 : decode b_Ct_goOn 19 = .ok (.aload_n 0, 1) := by decide +kernel
theorem d_Ct_goOn_20 : decode b_Ct_goOn 20 = .ok (.getfield 82, 3) := by decide +kernel
theorem d_Ct_goOn_23 : decode b_Ct_goOn 23 = .ok (.putfield 91, 3) := by decide +kernel
theorem d_Ct_goOn_26 : decode b_Ct_goOn 26 = .ok (.aload_n 0, 1) := by decide +kernel
theorem d_Ct_goOn_27 : decode b_Ct_goOn 27 = .ok (.aload_n 0, 1) := by decide +kernel
theorem d_Ct_goOn_28 : decode b_Ct_goOn 28 = .ok (.getfield 94, 3) := by decide +kernel
theorem d_Ct_goOn_31 : decode b_Ct_goOn 31 = .ok (.ifCond .gt 7, 3) := by decide +kernel
theorem d_Ct_goOn_34 : decode b_Ct_goOn 34 = .ok (.aload_n 1, 1) := by decide +kernel
theorem d_Ct_goOn_35 : decode b_Ct_goOn 35 = .ok (.ifnonnull 10, 3) := by decide +kernel
theorem d_Ct_goOn_38 : decode b_Ct_goOn 38 = .ok (.aload_n 0, 1) := by decide +kernel
theorem d_Ct_goOn_39 : decode b_Ct_goOn 39 = .ok (.getfield 100, 3) := by decide +kernel
theorem d_Ct_goOn_42 : decode b_Ct_goOn 42 = .ok (.goto 7, 3) := by decide +kernel
theorem d_Ct_goOn_45 : decode b_Ct_goOn 45 = .ok (.aload_n 1, 1) := by decide +kernel
theorem d_Ct_goOn_46 : decode b_Ct_goOn 46 = .ok (.getfield 75, 3) := by decide +kernel
theorem d_Ct_goOn_49 : decode b_Ct_goOn 49 = .ok (.putfield 97, 3) := by decide +kernel
theorem d_Ct_goOn_52 : decode b_Ct_goOn 52 = .ok (.aload_n 0, 1) := by decide +kernel
theorem d_Ct_goOn_53 : decode b_Ct_goOn 53 = .ok (.iconst 2, 1) := by decide +kernel
theorem d_Ct_goOn_54 : decode b_Ct_goOn 54 = .ok (.invokevirtual 103, 3) := by decide +kernel
theorem d_Ct_goOn_57 : decode b_Ct_goOn 57 = .ok (.bipush 7, 2) := by decide +kernel
theorem d_Ct_goOn_59 : decode b_Ct_goOn 59 = .ok (.ireturn, 1) := by decide +kernel
set_option maxHeartbeats 4000000 in
set_option maxRecDepth 100000 in
theorem c_Ct_goOn {l : Launch} {G : Gx} {s0 : State} (C : Cx G s0) {B D0 ea : Nat} {mi : Nat} (E : Es0 s0 ea mi) (hB : s0.heap.size ≤ B) (σ : Sg) (τ : Tt) (c : Nat) (hc : c < 3) (w : Nat) (hw : σ 7 c = nI w) (hw6 : w ≤ 60) (q : Nat) (hq : σ 4 c = nI q) (hq4 : q < 24) (hO : σ 12 c = 2 → okD σ c w) : Ct l s0 (FC B D0) 4 1 4 y_Ct_goOn b_Ct_goOn 2 (some .int) [.ref (B + (9 + 9 * c))] (fun H => RepC G B D0 ea σ τ H ∧ D0 ≤ H.size) (pI (fun r H => r = (cgn σ c w q).1 ∧ RepC G B D0 ea (cgn σ c w q).2 τ H)) := by
  refine Ct.of C (by decide) (Nat.le_of_ble_eq_true rfl) ?_
  intro pg ev s mm below meth cd V hr hlk hn hR0 ls hl
  obtain ⟨hR, hD⟩ := hR0
  have hx := V.1
  have hb := V.2.1
  have hS : va_S (FC B D0) s.heap s.heap [] := va_S.rf
  have hF : ∀ q, FC B D0 q → FC B D0 q := fun _ h => h
  have hA : ∀ q, FC B D0 q → s0.heap.size ≤ q := fun q h => by have := hR.1; rcases h with h | h <;> omega
  have hl : lv_has ls 2 [(0, .ref (B + (9 + 9 * c)))] := hl
  rcases hf : fwF σ c w 0 with _ | k
  · refine lv_aload_n hx hb d_Ct_goOn_0 rfl (lv_at hl 0 rfl) ?_
    refine g_Ct_40 V (hR.2.2.2 _ hc).1 rfl d_Ct_goOn_1 ?_
    refine lv_iconst (v := 2) hx hb d_Ct_goOn_4 (by decide) ?_
    refine lv_icmp_ne (tgt := 13) hx hb d_Ct_goOn_5 (by decide) (fun h5 => ?_) (fun h5 => ?_)
    · refine lv_aload_n hx hb d_Ct_goOn_13 rfl (lv_at hl 0 rfl) ?_
      refine g_callV (As := []) (rest := []) (A0 := FC B D0) V (c_Ct_waiting_n C E hB σ τ c hc w hw hw6 hf) v_Ct_71 (hR.rCt V.2.2.2.2.2.1 hc) ⟨hR, Nat.le_trans hD hS.1⟩ hS hA (fun _ h => h) ⟨by decide, by decide⟩ rfl hl (Nat.le_of_ble_eq_true rfl) d_Ct_goOn_14 ⟨by decide, by decide⟩ (kN (fun H locs hR _ hS => ?_))
      refine lv_astore_nN (lv' := [(1, .null), (0, .ref (B + (9 + 9 * c)))]) hx hb d_Ct_goOn_17 rfl hl (by decide) rfl (fun ls hl => ?_)
      refine lv_aload_n hx hb d_Ct_goOn_18 rfl (lv_at hl 1 rfl) ?_
      refine lv_aload_n hx hb d_Ct_goOn_19 rfl (lv_at hl 1 rfl) ?_
      refine g_Ct_82 V (hR.2.2.2 _ hc).1 rfl d_Ct_goOn_20 ?_
      refine q_Ct_91 V hR hS hF hc d_Ct_goOn_23 (fun H locs hR hS => ?_)
      refine lv_aload_n hx hb d_Ct_goOn_26 rfl (lv_at hl 1 rfl) ?_
      refine lv_aload_n hx hb d_Ct_goOn_27 rfl (lv_at hl 1 rfl) ?_
      refine g_Ct_94 V (hR.2.2.2 _ hc).1 rfl d_Ct_goOn_28 ?_
      refine lv_tope (y := σ 18 c) (by simp [up2, upd]) ?_
      refine lv_if_gt (tgt := 38) hx hb d_Ct_goOn_31 (by decide) (fun h31 => ?_) (fun h31 => ?_)
      · refine lv_aload_n hx hb d_Ct_goOn_38 rfl (lv_at hl 1 rfl) ?_
        refine g_Ct_100 V (hR.2.2.2 _ hc).1 rfl d_Ct_goOn_39 ?_
        refine lv_tope (y := σ 19 c) (by simp [up2, upd]) ?_
        refine lv_goto (tgt := 49) hx hb d_Ct_goOn_42 (by decide) ?_
        refine q_Ct_97 V hR hS hF hc d_Ct_goOn_49 (fun H locs hR hS => ?_)
        refine lv_aload_n hx hb d_Ct_goOn_52 rfl (lv_at hl 1 rfl) ?_
        refine lv_iconst (v := 2) hx hb d_Ct_goOn_53 (by decide) ?_
        refine g_callV (As := [.int (2)]) (rest := []) (A0 := FC B D0) V (c_Ct_begin C hB (up2 (up2 σ 9 c (σ 8 c)) 10 c (σ 19 c)) τ c hc (2)) v_Ct_103 (hR.rCt V.2.2.2.2.2.1 hc) hR hS hA (fun _ h => h) ⟨by decide, by decide⟩ rfl hl (Nat.le_of_ble_eq_true rfl) d_Ct_goOn_54 ⟨by decide, by decide⟩ (kV (fun H locs hR _ hS => ?_))
        refine lv_bipush (v := 7) hx hb d_Ct_goOn_57 (by decide) ?_
        exact e_i V hr hlk hS (by decide) (by decide) d_Ct_goOn_59 ⟨_, rfl, by rw [show cgn σ c w q = (7, (cbg (up2 (up2 σ 9 c (σ 8 c)) 10 c (σ 19 c)) c (2))) from by simp [cgn, cwe, hf, h5, h31]]; exact ⟨rfl, hR⟩⟩
      · refine lv_aload_nN hx hb d_Ct_goOn_34 rfl (lv_at hl 0 rfl) ?_
        refine lv_ifnonnullN hx hb d_Ct_goOn_35 ?_
        refine lv_aload_n hx hb d_Ct_goOn_38 rfl (lv_at hl 1 rfl) ?_
        refine g_Ct_100 V (hR.2.2.2 _ hc).1 rfl d_Ct_goOn_39 ?_
        refine lv_tope (y := σ 19 c) (by simp [up2, upd]) ?_
        refine lv_goto (tgt := 49) hx hb d_Ct_goOn_42 (by decide) ?_
        refine q_Ct_97 V hR hS hF hc d_Ct_goOn_49 (fun H locs hR hS => ?_)
        refine lv_aload_n hx hb d_Ct_goOn_52 rfl (lv_at hl 1 rfl) ?_
        refine lv_iconst (v := 2) hx hb d_Ct_goOn_53 (by decide) ?_
        refine g_callV (As := [.int (2)]) (rest := []) (A0 := FC B D0) V (c_Ct_begin C hB (up2 (up2 σ 9 c (σ 8 c)) 10 c (σ 19 c)) τ c hc (2)) v_Ct_103 (hR.rCt V.2.2.2.2.2.1 hc) hR hS hA (fun _ h => h) ⟨by decide, by decide⟩ rfl hl (Nat.le_of_ble_eq_true rfl) d_Ct_goOn_54 ⟨by decide, by decide⟩ (kV (fun H locs hR _ hS => ?_))
        refine lv_bipush (v := 7) hx hb d_Ct_goOn_57 (by decide) ?_
        exact e_i V hr hlk hS (by decide) (by decide) d_Ct_goOn_59 ⟨_, rfl, by rw [show cgn σ c w q = (7, (cbg (up2 (up2 σ 9 c (σ 8 c)) 10 c (σ 19 c)) c (2))) from by simp [cgn, cwe, hf, h5, h31]]; exact ⟨rfl, hR⟩⟩
    · refine lv_aload_n hx hb d_Ct_goOn_8 rfl (lv_at hl 0 rfl) ?_
      refine g_callV (As := []) (rest := []) (A0 := FC B D0) V (c_Ct_decide C hB σ τ c hc w hw hw6 q hq hq4 (hO h5)) v_Ct_142 (hR.rCt V.2.2.2.2.2.1 hc) hR hS hA (fun _ h => h) ⟨by decide, by decide⟩ rfl hl (Nat.le_of_ble_eq_true rfl) d_Ct_goOn_9 ⟨by decide, by decide⟩ (kI (fun r9 H locs hQ _ hS => ?_))
      obtain ⟨rfl, hR⟩ := hQ
      exact e_i V hr hlk hS (by decide) (by decide) d_Ct_goOn_12 ⟨_, rfl, by rw [show cgn σ c w q = (8, (cdc σ c q)) from by simp [cgn, cwe, hf, h5]]; exact ⟨rfl, hR⟩⟩
  · obtain ⟨-, hkw, hk6⟩ := fwF_lt hf
    have hkw : k < w := by omega
    refine lv_aload_n hx hb d_Ct_goOn_0 rfl (lv_at hl 0 rfl) ?_
    refine g_Ct_40 V (hR.2.2.2 _ hc).1 rfl d_Ct_goOn_1 ?_
    refine lv_iconst (v := 2) hx hb d_Ct_goOn_4 (by decide) ?_
    refine lv_icmp_ne (tgt := 13) hx hb d_Ct_goOn_5 (by decide) (fun h5 => ?_) (fun h5 => ?_)
    · refine lv_aload_n hx hb d_Ct_goOn_13 rfl (lv_at hl 0 rfl) ?_
      refine g_callV (As := []) (rest := []) (A0 := FC B D0) V (c_Ct_waiting C E hB σ τ c hc w hw hw6 k hf) v_Ct_71 (hR.rCt V.2.2.2.2.2.1 hc) ⟨hR, Nat.le_trans hD hS.1⟩ hS hA (fun _ h => h) ⟨by decide, by decide⟩ rfl hl (Nat.le_of_ble_eq_true rfl) d_Ct_goOn_14 ⟨by decide, by decide⟩ (kA (fun r H locs hQ _ hS => ?_))
      obtain ⟨rfl, hR⟩ := hQ
      refine lv_astore_n (lv' := [(1, .ref (τ.1 c k)), (0, .ref (B + (9 + 9 * c)))]) hx hb d_Ct_goOn_17 rfl hl (by decide) rfl (fun ls hl => ?_)
      refine lv_aload_n hx hb d_Ct_goOn_18 rfl (lv_at hl 1 rfl) ?_
      refine lv_aload_n hx hb d_Ct_goOn_19 rfl (lv_at hl 1 rfl) ?_
      refine g_Ct_82 V (hR.2.2.2 _ hc).1 rfl d_Ct_goOn_20 ?_
      refine q_Ct_91 V hR hS hF hc d_Ct_goOn_23 (fun H locs hR hS => ?_)
      refine lv_aload_n hx hb d_Ct_goOn_26 rfl (lv_at hl 1 rfl) ?_
      refine lv_aload_n hx hb d_Ct_goOn_27 rfl (lv_at hl 1 rfl) ?_
      refine g_Ct_94 V (hR.2.2.2 _ hc).1 rfl d_Ct_goOn_28 ?_
      refine lv_tope (y := σ 18 c) (by simp [up2, upd]) ?_
      refine lv_if_gt (tgt := 38) hx hb d_Ct_goOn_31 (by decide) (fun h31 => ?_) (fun h31 => ?_)
      · refine lv_aload_n hx hb d_Ct_goOn_38 rfl (lv_at hl 1 rfl) ?_
        refine g_Ct_100 V (hR.2.2.2 _ hc).1 rfl d_Ct_goOn_39 ?_
        refine lv_tope (y := σ 19 c) (by simp [up2, upd]) ?_
        refine lv_goto (tgt := 49) hx hb d_Ct_goOn_42 (by decide) ?_
        refine q_Ct_97 V hR hS hF hc d_Ct_goOn_49 (fun H locs hR hS => ?_)
        refine lv_aload_n hx hb d_Ct_goOn_52 rfl (lv_at hl 1 rfl) ?_
        refine lv_iconst (v := 2) hx hb d_Ct_goOn_53 (by decide) ?_
        refine g_callV (As := [.int (2)]) (rest := []) (A0 := FC B D0) V (c_Ct_begin C hB (up2 (up2 σ 9 c (σ 8 c)) 10 c (σ 19 c)) τ c hc (2)) v_Ct_103 (hR.rCt V.2.2.2.2.2.1 hc) hR hS hA (fun _ h => h) ⟨by decide, by decide⟩ rfl hl (Nat.le_of_ble_eq_true rfl) d_Ct_goOn_54 ⟨by decide, by decide⟩ (kV (fun H locs hR _ hS => ?_))
        refine lv_bipush (v := 7) hx hb d_Ct_goOn_57 (by decide) ?_
        exact e_i V hr hlk hS (by decide) (by decide) d_Ct_goOn_59 ⟨_, rfl, by rw [show cgn σ c w q = (7, (cbg (up2 (up2 σ 9 c (σ 8 c)) 10 c (σ 19 c)) c (2))) from by simp [cgn, cwe, hf, h5, h31]]; exact ⟨rfl, hR⟩⟩
      · refine lv_aload_n hx hb d_Ct_goOn_34 rfl (lv_at hl 0 rfl) ?_
        refine lv_ifnonnull (tgt := 45) hx hb d_Ct_goOn_35 (by decide) ?_
        refine lv_aload_n hx hb d_Ct_goOn_45 rfl (lv_at hl 0 rfl) ?_
        refine g_Ct_75 V (hR.wsh hc hw hw6 hkw).1 rfl d_Ct_goOn_46 ?_
        refine lv_tope (y := σ 5 (60 * c + k)) (by simp [up2, upd]) ?_
        refine q_Ct_97 V hR hS hF hc d_Ct_goOn_49 (fun H locs hR hS => ?_)
        refine lv_aload_n hx hb d_Ct_goOn_52 rfl (lv_at hl 1 rfl) ?_
        refine lv_iconst (v := 2) hx hb d_Ct_goOn_53 (by decide) ?_
        refine g_callV (As := [.int (2)]) (rest := []) (A0 := FC B D0) V (c_Ct_begin C hB (up2 (up2 σ 9 c (σ 8 c)) 10 c (σ 5 (60 * c + k))) τ c hc (2)) v_Ct_103 (hR.rCt V.2.2.2.2.2.1 hc) hR hS hA (fun _ h => h) ⟨by decide, by decide⟩ rfl hl (Nat.le_of_ble_eq_true rfl) d_Ct_goOn_54 ⟨by decide, by decide⟩ (kV (fun H locs hR _ hS => ?_))
        refine lv_bipush (v := 7) hx hb d_Ct_goOn_57 (by decide) ?_
        exact e_i V hr hlk hS (by decide) (by decide) d_Ct_goOn_59 ⟨_, rfl, by rw [show cgn σ c w q = (7, (cbg (up2 (up2 σ 9 c (σ 8 c)) 10 c (σ 5 (60 * c + k))) c (2))) from by simp [cgn, cwe, hf, h5, h31]]; exact ⟨rfl, hR⟩⟩
    · refine lv_aload_n hx hb d_Ct_goOn_8 rfl (lv_at hl 0 rfl) ?_
      refine g_callV (As := []) (rest := []) (A0 := FC B D0) V (c_Ct_decide C hB σ τ c hc w hw hw6 q hq hq4 (hO h5)) v_Ct_142 (hR.rCt V.2.2.2.2.2.1 hc) hR hS hA (fun _ h => h) ⟨by decide, by decide⟩ rfl hl (Nat.le_of_ble_eq_true rfl) d_Ct_goOn_9 ⟨by decide, by decide⟩ (kI (fun r9 H locs hQ _ hS => ?_))
      obtain ⟨rfl, hR⟩ := hQ
      exact e_i V hr hlk hS (by decide) (by decide) d_Ct_goOn_12 ⟨_, rfl, by rw [show cgn σ c w q = (8, (cdc σ c q)) from by simp [cgn, cwe, hf, h5]]; exact ⟨rfl, hR⟩⟩
