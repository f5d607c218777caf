theorem c_Ct_readU {l : Launch} {G : Gx} {s0 : State} (C : Cx G s0) {B D0 ea : Nat} (hB : s0.heap.size ≤ B) (σ : Sg) (τ : Tt) (c : Nat) (hc : c < 3) (d : Nat) (hd : d < 3) (q : Nat) (hq : σ 4 c = nI q) (hq4 : q < 24) (sp : Nat) (hsp : σ 25 c = nI sp) (h1sp : 1 ≤ sp) (hs2 : sp ≤ 2) : Ct l s0 (FC B D0) 2 0 0 y_Ct_read b_Ct_read 4 (some .boolean) [.ref (B + (9 + 9 * c)), .ref (B + (2 + 2 * d))] (RepC G B D0 ea σ τ) (pI (fun r H => r = bI (crd σ c d q sp).1 ∧ RepC G B D0 ea (crd σ c d q sp).2 τ H)) := by
  have hw3 : who c sp < 3 := by unfold who; split <;> omega
  by_cases h : ltI σ d (10 * (24 * who c sp + q)) = -1
  · rw [show crd σ c d q sp = (true, cr1 σ c sp) from by unfold crd; rw [if_pos h]]
    exact c_Ct_read_n C hB σ τ c hc d hd q hq hq4 sp hsp h1sp hs2 h
  · have : ∃ t, t + 4 < 720 ∧ ltI σ d (10 * (24 * who c sp + q)) = nI t := by
      rcases ltI_c σ d (10 * (24 * who c sp + q)) with g | g | g
      · exact absurd g h
      · exact ⟨_, by omega, g⟩
      · exact ⟨_, by omega, g⟩
    obtain ⟨t, ht, hT⟩ := this
    rw [show crd σ c d q sp = (!decide (σ 8 c < σ 1 (720 * d + (t + 1))), cr2 σ c d sp t) from by unfold crd; rw [if_neg h, hT, tN_n (by omega)]]
    exact c_Ct_read C hB σ τ c hc d hd q hq hq4 sp hsp h1sp hs2 t ht hT
theorem okD_k {σ τ : Sg} {c w : Nat} (h1 : τ 10 = σ 10) (h2 : τ 22 = σ 22) (h : okD σ c w) : okD τ c w := by
  unfold okD
  rw [h1, h2]
  exact h
theorem d_Ct_go_0 : decode b_Ct_go 0 = .ok (.aload_n 0, 1) := by decide +kernel
theorem d_Ct_go_1 : decode b_Ct_go 1 = .ok (.getfield 40, 3) := by decide +kernel
theorem d_Ct_go_4 : decode b_Ct_go 4 = .ok (.ifCond .ne 8, 3) := by decide +kernel
theorem d_Ct_go_7 : decode b_Ct_go 7 = .ok (.aload_n 0, 1) := by decide +kernel
theorem d_Ct_go_8 : decode b_Ct_go 8 = .ok (.invokevirtual 149, 3) := by decide +kernel
theorem d_Ct_go_11 : decode b_Ct_go 11 = .ok (.ireturn, 1) := by decide +kernel
theorem d_Ct_go_12 : decode b_Ct_go 12 = .ok (.aload_n 1, 1) := by decide +kernel
theorem d_Ct_go_13 : decode b_Ct_go 13 = .ok (.aload_n 0, 1) := by decide +kernel
theorem d_Ct_go_14 : decode b_Ct_go 14 = .ok (.getfield 62, 3) := by decide +kernel
theorem d_Ct_go_17 : decode b_Ct_go 17 = .ok (.aaload, 1) := by decide +kernel
theorem d_Ct_go_18 : decode b_Ct_go 18 = .ok (.astore_n 2, 1) := by decide +kernel
theorem d_Ct_go_19 : decode b_Ct_go 19 = .ok (.aload_n 2, 1) := by decide +kernel
theorem d_Ct_go_20 : decode b_Ct_go 20 = .ok (.getfield 146, 3) := by decide +kernel
theorem d_Ct_go_23 : decode b_Ct_go 23 = .ok (.ifCond .ne 9, 3) := by decide +kernel
theorem d_Ct_go_26 : decode b_Ct_go 26 = .ok (.aload_n 0, 1) := by decide +kernel
theorem d_Ct_go_27 : decode b_Ct_go 27 = .ok (.invokevirtual 152, 3) := by decide +kernel
theorem d_Ct_go_30 : decode b_Ct_go 30 = .ok (.iconst 3, 1) := by decide +kernel
theorem d_Ct_go_31 : decode b_Ct_go 31 = .ok (.ireturn, 1) := by decide +kernel
theorem d_Ct_go_32 : decode b_Ct_go 32 = .ok (.aload_n 0, 1) := by decide +kernel
theorem d_Ct_go_33 : decode b_Ct_go 33 = .ok (.getfield 68, 3) := by decide +kernel
theorem d_Ct_go_36 : decode b_Ct_go 36 = .ok (.ifCond .ne 11, 3) := by decide +kernel
theorem d_Ct_go_39 : decode b_Ct_go 39 = .ok (.aload_n 0, 1) := by decide +kernel
theorem d_Ct_go_40 : decode b_Ct_go 40 = .ok (.aload_n 2, 1) := by decide +kernel
theorem d_Ct_go_41 : decode b_Ct_go 41 = .ok (.iconst 5, 1) := by decide +kernel
theorem d_Ct_go_42 : decode b_Ct_go 42 = .ok (.invokevirtual 155, 3) := by decide +kernel
theorem d_Ct_go_45 : decode b_Ct_go 45 = .ok (.iconst 4, 1) := by decide +kernel
theorem d_Ct_go_46 : decode b_Ct_go 46 = .ok (.ireturn, 1) := by decide +kernel
theorem d_Ct_go_47 : decode b_Ct_go 47 = .ok (.aload_n 0, 1) := by decide +kernel
theorem d_Ct_go_48 : decode b_Ct_go 48 = .ok (.aload_n 2, 1) := by decide +kernel
theorem d_Ct_go_49 : decode b_Ct_go 49 = .ok (.invokevirtual 158, 3) := by decide +kernel
theorem d_Ct_go_52 : decode b_Ct_go 52 = .ok (.ifCond .ne 11, 3) := by decide +kernel
theorem d_Ct_go_55 : decode b_Ct_go 55 = .ok (.aload_n 0, 1) := by decide +kernel
theorem d_Ct_go_56 : decode b_Ct_go 56 = .ok (.iconst 0, 1) := by decide +kernel
theorem d_Ct_go_57 : decode b_Ct_go 57 = .ok (.putfield 40, 3) := by decide +kernel
theorem d_Ct_go_60 : decode b_Ct_go 60 = .ok (.bipush 6, 2) := by decide +kernel
theorem d_Ct_go_62 : decode b_Ct_go 62 = .ok (.ireturn, 1) := by decide +kernel
theorem d_Ct_go_63 : decode b_Ct_go 63 = .ok (.aload_n 0, 1) := by decide +kernel
theorem d_Ct_go_64 : decode b_Ct_go 64 = .ok (.getfield 68, 3) := by decide +kernel
theorem d_Ct_go_67 : decode b_Ct_go 67 = .ok (.iconst 3, 1) := by decide +kernel
theorem d_Ct_go_68 : decode b_Ct_go 68 = .ok (.if_icmp .ge 5, 3) := by decide +kernel
theorem d_Ct_go_71 : decode b_Ct_go 71 = .ok (.iconst 5, 1) := by decide +kernel
theorem d_Ct_go_72 : decode b_Ct_go 72 = .ok (.ireturn, 1) := by decide +kernel
theorem d_Ct_go_73 : decode b_Ct_go 73 = .ok (.aload_n 0, 1) := by decide +kernel
theorem d_Ct_go_74 : decode b_Ct_go 74 = .ok (.dup, 1) := by decide +kernel
theorem d_Ct_go_75 : decode b_Ct_go 75 = .ok (.getfield 65, 3) := by decide +kernel
theorem d_Ct_go_78 : decode b_Ct_go 78 = .ok (.iconst 1, 1) := by decide +kernel
theorem d_Ct_go_79 : decode b_Ct_go 79 = .ok (.iadd, 1) := by decide +kernel
theorem d_Ct_go_80 : decode b_Ct_go 80 = .ok (.putfield 65, 3) := by decide +kernel
theorem d_Ct_go_83 : decode b_Ct_go 83 = .ok (.aload_n 0, 1) := by decide +kernel
theorem d_Ct_go_84 : decode b_Ct_go 84 = .ok (.getfield 65, 3) := by decide +kernel
theorem d_Ct_go_87 : decode b_Ct_go 87 = .ok (.iconst 2, 1) := by decide +kernel
theorem d_Ct_go_88 : decode b_Ct_go 88 = .ok (.if_icmp .ne 8, 3) := by decide +kernel
theorem d_Ct_go_91 : decode b_Ct_go 91 = .ok (.aload_n 0, 1) := by decide +kernel
theorem d_Ct_go_92 : decode b_Ct_go 92 = .ok (.invokevirtual 162, 3) := by decide +kernel
theorem d_Ct_go_95 : decode b_Ct_go 95 = .ok (.ireturn, 1) := by decide +kernel
theorem d_Ct_go_96 : decode b_Ct_go 96 = .ok (.aload_n 0, 1) := by decide +kernel
theorem d_Ct_go_97 : decode b_Ct_go 97 = .ok (.invokevirtual 152, 3) := by decide +kernel
theorem d_Ct_go_100 : decode b_Ct_go 100 = .ok (.iconst 5, 1) := by decide +kernel
theorem d_Ct_go_101 : decode b_Ct_go 101 = .ok (.ireturn, 1) := by decide +kernel
set_option maxHeartbeats 4000000 in
set_option maxRecDepth 100000 in
theorem c_Ct_go {l : Launch} {G : Gx} {s0 : State} (C : Cx G s0) {B D0 ea : Nat} {mi : Nat} (E : Es0 s0 ea mi) (hB : s0.heap.size ≤ B) (σ : Sg) (τ : Tt) (c : Nat) (hc : c < 3) (w : Nat) (hw : σ 7 c = nI w) (hw6 : w ≤ 60) (a : Nat) (ha : σ 14 c = nI a) (ha3 : a < 3) (q : Nat) (hq : σ 4 c = nI q) (hq4 : q < 24) (sp : Nat) (hsp : σ 25 c = nI sp) (hs2 : ¬ σ 12 c = 0 → sp ≤ 2) (hI : okI σ c w) (hO : σ 12 c = 2 → sp = 2 → σ 17 c + 1 = 2 → okD σ c w) : Ct l s0 (FC B D0) 5 1 4 y_Ct_go b_Ct_go 3 (some .int) [.ref (B + (9 + 9 * c)), .ref (B + 1)] (fun H => RepC G B D0 ea σ τ H ∧ D0 ≤ H.size) (pI (fun r H => r = (cgo σ c w a q sp).1 ∧ RepC G B D0 ea (cgo σ c w a q sp).2 τ H)) := by
  refine Ct.of C (by decide) (Nat.le_of_ble_eq_true rfl) ?_
  intro pg ev s mm below meth cd V hr hlk hn hR0 ls hl
  obtain ⟨hR, hD⟩ := hR0
  have hx := V.1
  have hb := V.2.1
  have hS : va_S (FC B D0) s.heap s.heap [] := va_S.rf
  have hF : ∀ q, FC B D0 q → FC B D0 q := fun _ h => h
  have hA : ∀ q, FC B D0 q → s0.heap.size ≤ q := fun q h => by have := hR.1; rcases h with h | h <;> omega
  have hl : lv_has ls 3 [(0, .ref (B + (9 + 9 * c))), (1, .ref (B + 1))] := hl
  refine lv_aload_n hx hb d_Ct_go_0 rfl (lv_at hl 0 rfl) ?_
  refine g_Ct_40 V (hR.2.2.2 _ hc).1 rfl d_Ct_go_1 ?_
  refine lv_if_ne (tgt := 12) hx hb d_Ct_go_4 (by decide) (fun h4 => ?_) (fun h4 => ?_)
  · have hs2 := hs2 h4
    refine lv_aload_n hx hb d_Ct_go_12 rfl (lv_at hl 1 rfl) ?_
    refine lv_aload_n hx hb d_Ct_go_13 rfl (lv_at hl 0 rfl) ?_
    refine g_Ct_62 V (hR.2.2.2 _ hc).1 rfl d_Ct_go_14 ?_
    refine lv_tope (y := nI a) ha ?_
    refine c_dsk V hR (a) rfl ha3 d_Ct_go_17 ?_
    refine lv_astore_n (lv' := [(2, .ref (B + (2 + 2 * a))), (0, .ref (B + (9 + 9 * c))), (1, .ref (B + 1))]) hx hb d_Ct_go_18 rfl hl (by decide) rfl (fun ls hl => ?_)
    refine lv_aload_n hx hb d_Ct_go_19 rfl (lv_at hl 0 rfl) ?_
    refine g_Ct_146 V (hR.2.2.1 _ ha3).1 rfl d_Ct_go_20 ?_
    refine lv_if_ne (tgt := 32) hx hb d_Ct_go_23 (by decide) (fun h23 => ?_) (fun h23 => ?_)
    · refine lv_aload_n hx hb d_Ct_go_32 rfl (lv_at hl 1 rfl) ?_
      refine g_Ct_68 V (hR.2.2.2 _ hc).1 rfl d_Ct_go_33 ?_
      refine lv_tope (y := nI sp) hsp ?_
      refine lv_if_ne (tgt := 47) hx hb d_Ct_go_36 (by decide) (fun h36 => ?_) (fun h36 => ?_)
      · have h1sp : 1 ≤ sp := by
          rcases Nat.lt_or_ge 0 sp with z | z
          · exact z
          · exact absurd (by rw [show sp = 0 from by omega]; rfl) h36
        refine lv_aload_n hx hb d_Ct_go_47 rfl (lv_at hl 1 rfl) ?_
        refine lv_aload_n hx hb d_Ct_go_48 rfl (lv_at hl 0 rfl) ?_
        refine g_callV (As := [.ref (B + (2 + 2 * a))]) (rest := []) (A0 := FC B D0) V (c_Ct_readU C hB σ τ c hc a ha3 q hq hq4 sp hsp h1sp hs2) v_Ct_158 (hR.rCt V.2.2.2.2.2.1 hc) hR hS hA (fun _ h => h) ⟨by decide, by decide⟩ rfl hl (Nat.le_of_ble_eq_true rfl) d_Ct_go_49 ⟨by decide, by decide⟩ (kI (fun r49 H locs hQ _ hS => ?_))
        obtain ⟨rfl, hR⟩ := hQ
        refine lv_if_ne (tgt := 63) hx hb d_Ct_go_52 (by decide) (fun h52 => ?_) (fun h52 => ?_)
        · have h52 := bI_n0.mp h52
          refine lv_aload_n hx hb d_Ct_go_63 rfl (lv_at hl 1 rfl) ?_
          refine g_Ct_68 V (hR.2.2.2 _ hc).1 rfl d_Ct_go_64 ?_
          refine lv_tope (y := nI (sp + 1)) crd_25 ?_
          refine lv_iconst (v := 3) hx hb d_Ct_go_67 (by decide) ?_
          refine lv_icmp_ge (tgt := 73) hx hb d_Ct_go_68 (by decide) (fun h68 => ?_) (fun h68 => ?_)
          · have g68 : sp = 2 := by have := (nI_leI (a := 3) (by decide) (by omega)).mp h68; omega
            refine lv_aload_n hx hb d_Ct_go_73 rfl (lv_at hl 1 rfl) ?_
            refine lv_dup hx hb d_Ct_go_74 rfl ?_
            refine g_Ct_65 V (hR.2.2.2 _ hc).1 rfl d_Ct_go_75 ?_
            refine lv_tope (y := σ 17 c) (by rw [crd_ne (by decide) (by decide) (by decide) (by decide) (by decide)]) ?_
            refine lv_iconst (v := 1) hx hb d_Ct_go_78 (by decide) ?_
            refine lv_iadd hx hb d_Ct_go_79 ?_
            refine q_Ct_65 V hR hS hF hc d_Ct_go_80 (fun H locs hR hS => ?_)
            refine lv_aload_n hx hb d_Ct_go_83 rfl (lv_at hl 1 rfl) ?_
            refine g_Ct_65 V (hR.2.2.2 _ hc).1 rfl d_Ct_go_84 ?_
            refine lv_tope (y := (σ 17 c : Int32) + (1 : Int32)) (by simp [up2, upd]) ?_
            refine lv_iconst (v := 2) hx hb d_Ct_go_87 (by decide) ?_
            refine lv_icmp_ne (tgt := 96) hx hb d_Ct_go_88 (by decide) (fun h88 => ?_) (fun h88 => ?_)
            · refine lv_aload_n hx hb d_Ct_go_96 rfl (lv_at hl 1 rfl) ?_
              refine g_callV (As := []) (rest := []) (A0 := FC B D0) V (c_Ct_nextDisk C hB (up2 (crd σ c a q sp).2 17 c ((σ 17 c : Int32) + (1 : Int32))) τ c hc) v_Ct_152 (hR.rCt V.2.2.2.2.2.1 hc) hR hS hA (fun _ h => h) ⟨by decide, by decide⟩ rfl hl (Nat.le_of_ble_eq_true rfl) d_Ct_go_97 ⟨by decide, by decide⟩ (kV (fun H locs hR _ hS => ?_))
              refine lv_iconst (v := 5) hx hb d_Ct_go_100 (by decide) ?_
              exact e_i V hr hlk hS (by decide) (by decide) d_Ct_go_101 ⟨_, rfl, by rw [show cgo σ c w a q sp = (5, (cnx (up2 (crd σ c a q sp).2 17 c ((σ 17 c : Int32) + (1 : Int32))) c)) from by unfold cgo; rw [if_neg h4, if_neg h23, if_neg (show ¬ sp = 0 from by omega), if_neg (show ¬ _ = false from by rw [h52]; decide), if_neg (show ¬ sp = 1 from by omega), if_neg h88]]; exact ⟨rfl, hR⟩⟩
            · refine lv_aload_n hx hb d_Ct_go_91 rfl (lv_at hl 1 rfl) ?_
              refine g_callV (As := []) (rest := []) (A0 := FC B D0) V (c_Ct_goOn C E hB (up2 (crd σ c a q sp).2 17 c ((σ 17 c : Int32) + (1 : Int32))) τ c hc w (by rw [u2_n (by decide), crd_ne (by decide) (by decide) (by decide) (by decide) (by decide)]; exact hw) hw6 q (by rw [u2_n (by decide), crd_ne (by decide) (by decide) (by decide) (by decide) (by decide)]; exact hq) hq4 (fun z => okD_k (by rw [u2_n (by decide), crd_ne (by decide) (by decide) (by decide) (by decide) (by decide)]) (by rw [u2_n (by decide), crd_ne (by decide) (by decide) (by decide) (by decide) (by decide)]) (hO (by rw [u2_n (by decide), crd_ne (by decide) (by decide) (by decide) (by decide) (by decide)] at z; exact z) g68 h88))) v_Ct_162 (hR.rCt V.2.2.2.2.2.1 hc) ⟨hR, Nat.le_trans hD hS.1⟩ hS hA (fun _ h => h) ⟨by decide, by decide⟩ rfl hl (Nat.le_of_ble_eq_true rfl) d_Ct_go_92 ⟨by decide, by decide⟩ (kI (fun r H locs hQ _ hS => ?_))
              obtain ⟨rfl, hR⟩ := hQ
              exact e_i V hr hlk hS (by decide) (by decide) d_Ct_go_95 ⟨_, rfl, by rw [show cgo σ c w a q sp = ((cgn (up2 (crd σ c a q sp).2 17 c ((σ 17 c : Int32) + (1 : Int32))) c w q).1, (cgn (up2 (crd σ c a q sp).2 17 c ((σ 17 c : Int32) + (1 : Int32))) c w q).2) from by unfold cgo; rw [if_neg h4, if_neg h23, if_neg (show ¬ sp = 0 from by omega), if_neg (show ¬ _ = false from by rw [h52]; decide), if_neg (show ¬ sp = 1 from by omega), if_pos h88]]; exact ⟨rfl, hR⟩⟩
          · have g68 : sp = 1 := by
              rcases Nat.lt_or_ge sp 2 with z | z
              · omega
              · exact absurd (nI_le (a := 3) (by omega) (by omega)) h68
            refine lv_iconst (v := 5) hx hb d_Ct_go_71 (by decide) ?_
            exact e_i V hr hlk hS (by decide) (by decide) d_Ct_go_72 ⟨_, rfl, by rw [show cgo σ c w a q sp = (5, (crd σ c a q sp).2) from by unfold cgo; rw [if_neg h4, if_neg h23, if_neg (show ¬ sp = 0 from by omega), if_neg (show ¬ _ = false from by rw [h52]; decide), if_pos g68]]; exact ⟨rfl, hR⟩⟩
        · have h52 := bI_0.mp h52
          refine lv_aload_n hx hb d_Ct_go_55 rfl (lv_at hl 1 rfl) ?_
          refine lv_iconst (v := 0) hx hb d_Ct_go_56 (by decide) ?_
          refine q_Ct_40 V hR hS hF hc d_Ct_go_57 (fun H locs hR hS => ?_)
          refine lv_bipush (v := 6) hx hb d_Ct_go_60 (by decide) ?_
          exact e_i V hr hlk hS (by decide) (by decide) d_Ct_go_62 ⟨_, rfl, by rw [show cgo σ c w a q sp = (6, (up2 (crd σ c a q sp).2 12 c (0))) from by unfold cgo; rw [if_neg h4, if_neg h23, if_neg (show ¬ sp = 0 from by omega), if_pos h52]]; exact ⟨rfl, hR⟩⟩
      · have g36 : sp = 0 := (nI_eq (b := 0) (by omega) (by decide)).mp h36
        refine lv_aload_n hx hb d_Ct_go_39 rfl (lv_at hl 1 rfl) ?_
        refine lv_aload_n hx hb d_Ct_go_40 rfl (lv_at hl 0 rfl) ?_
        refine lv_iconst (v := 5) hx hb d_Ct_go_41 (by decide) ?_
        refine g_callV (As := [.ref (B + (2 + 2 * a)), .int (5)]) (rest := []) (A0 := FC B D0) V (c_Ct_write C hB σ τ c hc a ha3 q hq hq4) v_Ct_155 (hR.rCt V.2.2.2.2.2.1 hc) hR hS hA (fun _ h => h) ⟨by decide, by decide⟩ rfl hl (Nat.le_of_ble_eq_true rfl) d_Ct_go_42 ⟨by decide, by decide⟩ (kV (fun H locs hR _ hS => ?_))
        refine lv_iconst (v := 4) hx hb d_Ct_go_45 (by decide) ?_
        exact e_i V hr hlk hS (by decide) (by decide) d_Ct_go_46 ⟨_, rfl, by rw [show cgo σ c w a q sp = (4, (up2 (cwr σ c a q 5) 25 c 1)) from by unfold cgo; rw [if_neg h4, if_neg h23, if_pos g36]]; exact ⟨rfl, hR⟩⟩
    · refine lv_aload_n hx hb d_Ct_go_26 rfl (lv_at hl 1 rfl) ?_
      refine g_callV (As := []) (rest := []) (A0 := FC B D0) V (c_Ct_nextDisk C hB σ τ c hc) v_Ct_152 (hR.rCt V.2.2.2.2.2.1 hc) hR hS hA (fun _ h => h) ⟨by decide, by decide⟩ rfl hl (Nat.le_of_ble_eq_true rfl) d_Ct_go_27 ⟨by decide, by decide⟩ (kV (fun H locs hR _ hS => ?_))
      refine lv_iconst (v := 3) hx hb d_Ct_go_30 (by decide) ?_
      exact e_i V hr hlk hS (by decide) (by decide) d_Ct_go_31 ⟨_, rfl, by rw [show cgo σ c w a q sp = (3, (cnx σ c)) from by simp [cgo, h4, h23]]; exact ⟨rfl, hR⟩⟩
  · refine lv_aload_n hx hb d_Ct_go_7 rfl (lv_at hl 0 rfl) ?_
    refine g_callV (As := []) (rest := []) (A0 := FC B D0) V (c_Ct_idle C E hB σ τ c hc w hw hw6 hI) v_Ct_149 (hR.rCt V.2.2.2.2.2.1 hc) ⟨hR, Nat.le_trans hD hS.1⟩ hS hA (fun _ h => h) ⟨by decide, by decide⟩ rfl hl (Nat.le_of_ble_eq_true rfl) d_Ct_go_8 ⟨by decide, by decide⟩ (kI (fun r H locs hQ _ hS => ?_))
    obtain ⟨rfl, hR⟩ := hQ
    exact e_i V hr hlk hS (by decide) (by decide) d_Ct_go_11 ⟨_, rfl, by rw [show cgo σ c w a q sp = ((idl σ c w).1, (idl σ c w).2) from by simp [cgo, h4]]; exact ⟨rfl, hR⟩⟩
