theorem mt1 {b : Nat} (h : b < 2 ^ 31) : ¬ nI b = -1 := fun q => m1_ne h q.symm
theorem d_Dk_write_0 : decode b_Dk_write 0 = .ok (.aload_n 0, 1) := by decide +kernel
theorem d_Dk_write_1 : decode b_Dk_write 1 = .ok (.iload_n 1, 1) := by decide +kernel
theorem d_Dk_write_2 : decode b_Dk_write 2 = .ok (.invokevirtual 23, 3) := by decide +kernel
theorem d_Dk_write_5 : decode b_Dk_write 5 = .ok (.istore 6, 2) := by decide +kernel
theorem d_Dk_write_7 : decode b_Dk_write 7 = .ok (.iload 6, 2) := by decide +kernel
theorem d_Dk_write_9 : decode b_Dk_write 9 = .ok (.iload_n 1, 1) := by decide +kernel
theorem d_Dk_write_10 : decode b_Dk_write 10 = .ok (.if_icmp .ne 9, 3) := by decide +kernel
theorem d_Dk_write_13 : decode b_Dk_write 13 = .ok (.iload_n 1, 1) := by decide +kernel
theorem d_Dk_write_14 : decode b_Dk_write 14 = .ok (.iconst 5, 1) := by decide +kernel
theorem d_Dk_write_15 : decode b_Dk_write 15 = .ok (.iadd, 1) := by decide +kernel
theorem d_Dk_write_16 : decode b_Dk_write 16 = .ok (.goto 4, 3) := by decide +kernel
theorem d_Dk_write_19 : decode b_Dk_write 19 = .ok (.iload_n 1, 1) := by decide +kernel
theorem d_Dk_write_20 : decode b_Dk_write 20 = .ok (.istore 7, 2) := by decide +kernel
theorem d_Dk_write_22 : decode b_Dk_write 22 = .ok (.iload 6, 2) := by decide +kernel
theorem d_Dk_write_24 : decode b_Dk_write 24 = .ok (.iconst (-1), 1) := by decide +kernel
theorem d_Dk_write_25 : decode b_Dk_write 25 = .ok (.if_icmp .ne 7, 3) := by decide +kernel
theorem d_Dk_write_28 : decode b_Dk_write 28 = .ok (.iconst 1, 1) := by decide +kernel
theorem d_Dk_write_29 : decode b_Dk_write 29 = .ok (.goto 14, 3) := by decide +kernel
theorem d_Dk_write_32 : decode b_Dk_write 32 = .ok (.aload_n 0, 1) := by decide +kernel
theorem d_Dk_write_33 : decode b_Dk_write 33 = .ok (.getfield 15, 3) := by decide +kernel
theorem d_Dk_write_36 : decode b_Dk_write 36 = .ok (.iload 6, 2) := by decide +kernel
theorem d_Dk_write_38 : decode b_Dk_write 38 = .ok (.iconst 0, 1) := by decide +kernel
theorem d_Dk_write_39 : decode b_Dk_write 39 = .ok (.iadd, 1) := by decide +kernel
theorem d_Dk_write_40 : decode b_Dk_write 40 = .ok (.iaload, 1) := by decide +kernel
theorem d_Dk_write_41 : decode b_Dk_write 41 = .ok (.iconst 1, 1) := by decide +kernel
theorem d_Dk_write_42 : decode b_Dk_write 42 = .ok (.iadd, 1) := by decide +kernel
theorem d_Dk_write_43 : decode b_Dk_write 43 = .ok (.istore 8, 2) := by decide +kernel
theorem d_Dk_write_45 : decode b_Dk_write 45 = .ok (.iconst 0, 1) := by decide +kernel
theorem d_Dk_write_46 : decode b_Dk_write 46 = .ok (.istore 9, 2) := by decide +kernel
theorem d_Dk_write_48 : decode b_Dk_write 48 = .ok (.iload 9, 2) := by decide +kernel
theorem d_Dk_write_50 : decode b_Dk_write 50 = .ok (.iconst 5, 1) := by decide +kernel
theorem d_Dk_write_51 : decode b_Dk_write 51 = .ok (.if_icmp .ge 67, 3) := by decide +kernel
theorem d_Dk_write_54 : decode b_Dk_write 54 = .ok (.iload 9, 2) := by decide +kernel
theorem d_Dk_write_56 : decode b_Dk_write 56 = .ok (.iload 5, 2) := by decide +kernel
theorem d_Dk_write_58 : decode b_Dk_write 58 = .ok (.if_icmp .ne 11, 3) := by decide +kernel
theorem d_Dk_write_69 : decode b_Dk_write 69 = .ok (.aload_n 0, 1) := by decide +kernel
theorem d_Dk_write_70 : decode b_Dk_write 70 = .ok (.getfield 15, 3) := by decide +kernel
theorem d_Dk_write_73 : decode b_Dk_write 73 = .ok (.iload 7, 2) := by decide +kernel
theorem d_Dk_write_75 : decode b_Dk_write 75 = .ok (.iload 9, 2) := by decide +kernel
theorem d_Dk_write_77 : decode b_Dk_write 77 = .ok (.iadd, 1) := by decide +kernel
theorem d_Dk_write_78 : decode b_Dk_write 78 = .ok (.iload 9, 2) := by decide +kernel
theorem d_Dk_write_80 : decode b_Dk_write 80 = .ok (.iconst 1, 1) := by decide +kernel
theorem d_Dk_write_81 : decode b_Dk_write 81 = .ok (.if_icmp .ne 7, 3) := by decide +kernel
theorem d_Dk_write_84 : decode b_Dk_write 84 = .ok (.iload_n 2, 1) := by decide +kernel
theorem d_Dk_write_85 : decode b_Dk_write 85 = .ok (.goto 26, 3) := by decide +kernel
theorem d_Dk_write_88 : decode b_Dk_write 88 = .ok (.iload 9, 2) := by decide +kernel
theorem d_Dk_write_90 : decode b_Dk_write 90 = .ok (.iconst 2, 1) := by decide +kernel
theorem d_Dk_write_91 : decode b_Dk_write 91 = .ok (.if_icmp .ne 7, 3) := by decide +kernel
theorem d_Dk_write_94 : decode b_Dk_write 94 = .ok (.iload_n 3, 1) := by decide +kernel
theorem d_Dk_write_95 : decode b_Dk_write 95 = .ok (.goto 16, 3) := by decide +kernel
theorem d_Dk_write_98 : decode b_Dk_write 98 = .ok (.iload 9, 2) := by decide +kernel
theorem d_Dk_write_100 : decode b_Dk_write 100 = .ok (.iconst 3, 1) := by decide +kernel
theorem d_Dk_write_101 : decode b_Dk_write 101 = .ok (.if_icmp .ne 8, 3) := by decide +kernel
theorem d_Dk_write_104 : decode b_Dk_write 104 = .ok (.iload 4, 2) := by decide +kernel
theorem d_Dk_write_106 : decode b_Dk_write 106 = .ok (.goto 5, 3) := by decide +kernel
theorem d_Dk_write_109 : decode b_Dk_write 109 = .ok (.iload 8, 2) := by decide +kernel
theorem d_Dk_write_111 : decode b_Dk_write 111 = .ok (.iastore, 1) := by decide +kernel
theorem d_Dk_write_112 : decode b_Dk_write 112 = .ok (.iinc 9 1, 3) := by decide +kernel
theorem d_Dk_write_115 : decode b_Dk_write 115 = .ok (.goto (-67), 3) := by decide +kernel
theorem d_Dk_write_118 : decode b_Dk_write 118 = .ok (.return_, 1) := by decide +kernel
set_option maxHeartbeats 4000000 in
set_option maxRecDepth 100000 in
theorem c_Dk_write {l : Launch} {G : Gx} {s0 : State} (C : Cx G s0) {B D0 ea : Nat} (hB : s0.heap.size ≤ B) (σ : Sg) (τ : Tt) (d : Nat) (hd : d < 3) (b : Nat) (hb9 : b + 9 < 720) (r v e : Int32) : Ct l s0 (FC B D0) 2 0 0 y_Dk_write b_Dk_write 10 none [.ref (B + (2 + 2 * d)), .int (nI b), .int (r), .int (v), .int (e), .int (5)] (RepC G B D0 ea σ τ) (pV (RepC G B D0 ea (wrC σ d b r v e 5) τ)) := by
  refine Ct.of C (by decide) (Nat.le_of_ble_eq_true rfl) ?_
  intro pg ev s mm below meth cd V hr hlk hn hR ls hl
  have hx := V.1
  have hb := V.2.1
  have hS : va_S (FC B D0) s.heap s.heap [] := va_S.rf
  have hF : ∀ q, FC B D0 q → FC B D0 q := fun _ h => h
  have hA : ∀ q, FC B D0 q → s0.heap.size ≤ q := fun q h => by have := hR.1; rcases h with h | h <;> omega
  have hl : lv_has ls 10 [(0, .ref (B + (2 + 2 * d))), (1, .int (nI b)), (2, .int (r)), (3, .int (v)), (4, .int (e)), (5, .int (5))] := hl
  have loop : ∀ (t : Nat) (n : Int32), t + 5 ≤ 720 → tC σ d b = t → nC σ d b = n → ∀ (z k : Nat), k ≤ 5 → 5 < k + z → ∀ (H : Heap) (locs : List Loc) (ls : Array Slot), RepC G B D0 ea (wrs σ (720 * d + t) n r v e k) τ H → va_S (FC B D0) s.heap H locs → lv_has ls 10 [(9, .int (nI k)), (8, .int (n)), (7, .int (nI t)), (0, .ref (B + (2 + 2 * d))), (1, .int (nI b)), (2, .int (r)), (3, .int (v)), (4, .int (e)), (5, .int (5))] → W pg l ev (rmx 2 0 0) s mm [.ref (B + (2 + 2 * d)), .int (nI b), .int (r), .int (v), .int (e), .int (5)].toArray below meth cd H locs 0 0 (MQ below (qR (FC B D0) (pV (RepC G B D0 ea (wrC σ d b r v e 5) τ))) [.ref (B + (2 + 2 * d)), .int (nI b), .int (r), .int (v), .int (e), .int (5)].toArray s 0 0 (FC B D0)) (F0 mm 48 ls []) := by
    intro t n ht5 et en z
    induction z with
    | zero => intro k h1 h2; omega
    | succ z ih =>
      intro k h1 h2 H locs ls hR hS hl
      refine lv_iload hx hb d_Dk_write_48 (lv_at hl 0 rfl) ?_
      refine lv_iconst (v := 5) hx hb d_Dk_write_50 (by decide) ?_
      refine lv_icmp_ge (tgt := 118) hx hb d_Dk_write_51 (by decide) (fun h51 => ?_) (fun h51 => ?_)
      · exact e_v V hr hlk hS (Nat.le_refl _) (Nat.le_refl _) d_Dk_write_118 ⟨rfl, by unfold wrC; rw [et, en]; obtain rfl : k = 5 := (by have := (nI_leI (a := 5) (by decide) (by omega)).mp h51; omega); exact hR⟩
      · have hk5 : k < 5 := by
          rcases Nat.lt_or_ge k 5 with q | q
          · exact q
          · exact absurd (nI_le (a := 5) q (by omega)) h51
        refine lv_iload hx hb d_Dk_write_54 (lv_at hl 0 rfl) ?_
        refine lv_iload hx hb d_Dk_write_56 (lv_at hl 8 rfl) ?_
        refine lv_icmp_ne (tgt := 69) hx hb d_Dk_write_58 (by decide) (fun h58 => ?_) (fun h58 => ?_)
        · refine lv_aload_n hx hb d_Dk_write_69 rfl (lv_at hl 3 rfl) ?_
          refine g_Dk_15 V (hR.2.2.1 _ hd).1 rfl d_Dk_write_70 ?_
          refine lv_iload hx hb d_Dk_write_73 (lv_at hl 2 rfl) ?_
          refine lv_iload hx hb d_Dk_write_75 (lv_at hl 0 rfl) ?_
          refine lv_iadd hx hb d_Dk_write_77 ?_
          refine lv_tope (y := nI (t + k)) (ad_e (a := t) (b := k) rfl rfl) ?_
          refine lv_iload hx hb d_Dk_write_78 (lv_at hl 0 rfl) ?_
          refine lv_iconst (v := 1) hx hb d_Dk_write_80 (by decide) ?_
          refine lv_icmp_ne (tgt := 88) hx hb d_Dk_write_81 (by decide) (fun h81 => ?_) (fun h81 => ?_)
          · refine lv_iload hx hb d_Dk_write_88 (lv_at hl 0 rfl) ?_
            refine lv_iconst (v := 2) hx hb d_Dk_write_90 (by decide) ?_
            refine lv_icmp_ne (tgt := 98) hx hb d_Dk_write_91 (by decide) (fun h91 => ?_) (fun h91 => ?_)
            · refine lv_iload hx hb d_Dk_write_98 (lv_at hl 0 rfl) ?_
              refine lv_iconst (v := 3) hx hb d_Dk_write_100 (by decide) ?_
              refine lv_icmp_ne (tgt := 109) hx hb d_Dk_write_101 (by decide) (fun h101 => ?_) (fun h101 => ?_)
              · refine lv_iload hx hb d_Dk_write_109 (lv_at hl 1 rfl) ?_
                refine c_wst V hR hS hd (hF _ (Or.inl ⟨by omega, by omega⟩)) (t + k) rfl (by omega) d_Dk_write_111 (fun H locs hR hS => ?_)
                refine lv_iinc (v := nI (k + 1)) (lv' := [(9, .int (nI (k + 1))), (8, .int (n)), (7, .int (nI t)), (0, .ref (B + (2 + 2 * d))), (1, .int (nI b)), (2, .int (r)), (3, .int (v)), (4, .int (e)), (5, .int (5))]) hx hb d_Dk_write_112 hl (k := 0) rfl (ad_e rfl (rfl : (1 : Int32) = nI 1)) (by decide) rfl (fun ls hl => ?_)
                refine lv_goto (tgt := 48) hx hb d_Dk_write_115 (by decide) ?_
                have g81 : ¬ k = 1 := fun q => h81 (by rw [q]; rfl)
                have g91 : ¬ k = 2 := fun q => h91 (by rw [q]; rfl)
                have g101 : ¬ k = 3 := fun q => h101 (by rw [q]; rfl)
                exact ih (k + 1) (by omega) (by omega) _ _ ls (by rw [wrs, Nat.add_assoc, show wv n r v e k = n from by simp [wv, g81, g91, g101]]; exact hR) hS (lv_sub hl [0, 1, 2, 3, 4, 5, 6, 7, 8] rfl)
              · refine lv_iload hx hb d_Dk_write_104 (lv_at hl 7 rfl) ?_
                refine lv_goto (tgt := 111) hx hb d_Dk_write_106 (by decide) ?_
                refine c_wst V hR hS hd (hF _ (Or.inl ⟨by omega, by omega⟩)) (t + k) rfl (by omega) d_Dk_write_111 (fun H locs hR hS => ?_)
                refine lv_iinc (v := nI (k + 1)) (lv' := [(9, .int (nI (k + 1))), (8, .int (n)), (7, .int (nI t)), (0, .ref (B + (2 + 2 * d))), (1, .int (nI b)), (2, .int (r)), (3, .int (v)), (4, .int (e)), (5, .int (5))]) hx hb d_Dk_write_112 hl (k := 0) rfl (ad_e rfl (rfl : (1 : Int32) = nI 1)) (by decide) rfl (fun ls hl => ?_)
                refine lv_goto (tgt := 48) hx hb d_Dk_write_115 (by decide) ?_
                have g81 : ¬ k = 1 := fun q => h81 (by rw [q]; rfl)
                have g91 : ¬ k = 2 := fun q => h91 (by rw [q]; rfl)
                have g101 : k = 3 := (nI_eq (b := 3) (by omega) (by decide)).mp h101
                exact ih (k + 1) (by omega) (by omega) _ _ ls (by rw [wrs, Nat.add_assoc, show wv n r v e k = e from by simp [wv, g81, g91, g101]]; exact hR) hS (lv_sub hl [0, 1, 2, 3, 4, 5, 6, 7, 8] rfl)
            · refine lv_iload_n hx hb d_Dk_write_94 rfl (lv_at hl 6 rfl) ?_
              refine lv_goto (tgt := 111) hx hb d_Dk_write_95 (by decide) ?_
              refine c_wst V hR hS hd (hF _ (Or.inl ⟨by omega, by omega⟩)) (t + k) rfl (by omega) d_Dk_write_111 (fun H locs hR hS => ?_)
              refine lv_iinc (v := nI (k + 1)) (lv' := [(9, .int (nI (k + 1))), (8, .int (n)), (7, .int (nI t)), (0, .ref (B + (2 + 2 * d))), (1, .int (nI b)), (2, .int (r)), (3, .int (v)), (4, .int (e)), (5, .int (5))]) hx hb d_Dk_write_112 hl (k := 0) rfl (ad_e rfl (rfl : (1 : Int32) = nI 1)) (by decide) rfl (fun ls hl => ?_)
              refine lv_goto (tgt := 48) hx hb d_Dk_write_115 (by decide) ?_
              have g81 : ¬ k = 1 := fun q => h81 (by rw [q]; rfl)
              have g91 : k = 2 := (nI_eq (b := 2) (by omega) (by decide)).mp h91
              exact ih (k + 1) (by omega) (by omega) _ _ ls (by rw [wrs, Nat.add_assoc, show wv n r v e k = v from by simp [wv, g81, g91]]; exact hR) hS (lv_sub hl [0, 1, 2, 3, 4, 5, 6, 7, 8] rfl)
          · refine lv_iload_n hx hb d_Dk_write_84 rfl (lv_at hl 5 rfl) ?_
            refine lv_goto (tgt := 111) hx hb d_Dk_write_85 (by decide) ?_
            refine c_wst V hR hS hd (hF _ (Or.inl ⟨by omega, by omega⟩)) (t + k) rfl (by omega) d_Dk_write_111 (fun H locs hR hS => ?_)
            refine lv_iinc (v := nI (k + 1)) (lv' := [(9, .int (nI (k + 1))), (8, .int (n)), (7, .int (nI t)), (0, .ref (B + (2 + 2 * d))), (1, .int (nI b)), (2, .int (r)), (3, .int (v)), (4, .int (e)), (5, .int (5))]) hx hb d_Dk_write_112 hl (k := 0) rfl (ad_e rfl (rfl : (1 : Int32) = nI 1)) (by decide) rfl (fun ls hl => ?_)
            refine lv_goto (tgt := 48) hx hb d_Dk_write_115 (by decide) ?_
            have g81 : k = 1 := (nI_eq (b := 1) (by omega) (by decide)).mp h81
            exact ih (k + 1) (by omega) (by omega) _ _ ls (by rw [wrs, Nat.add_assoc, show wv n r v e k = r from by simp [wv, g81]]; exact hR) hS (lv_sub hl [0, 1, 2, 3, 4, 5, 6, 7, 8] rfl)
        · exact absurd h58 (fun q => absurd ((nI_eq (b := 5) (by omega) (by decide)).mp q) (by omega))
  rcases ltI_c σ d b with hN | hN | hN
  · refine lv_aload_n hx hb d_Dk_write_0 rfl (lv_at hl 0 rfl) ?_
    refine lv_iload_n hx hb d_Dk_write_1 rfl (lv_at hl 1 rfl) ?_
    refine g_callV (As := [.int (nI b)]) (rest := []) (A0 := FC B D0) V (c_Dk_latest C hB σ τ d hd (b) (by omega)) v_Dk_23 (hR.rDk V.2.2.2.2.2.1 hd) hR hS hA (fun _ h => h) ⟨by decide, by decide⟩ rfl hl (Nat.le_of_ble_eq_true rfl) d_Dk_write_2 ⟨Nat.le_refl _, Nat.le_refl _⟩ (kI (fun r2 H locs hQ _ hS => ?_))
    obtain ⟨rfl, hR⟩ := hQ
    refine lv_tope (y := -1) hN ?_
    refine lv_istore (lv' := [(6, .int (-1)), (0, .ref (B + (2 + 2 * d))), (1, .int (nI b)), (2, .int (r)), (3, .int (v)), (4, .int (e)), (5, .int (5))]) hx hb d_Dk_write_5 hl (by decide) rfl (fun ls hl => ?_)
    refine lv_iload hx hb d_Dk_write_7 (lv_at hl 0 rfl) ?_
    refine lv_iload_n hx hb d_Dk_write_9 rfl (lv_at hl 2 rfl) ?_
    refine lv_icmp_ne (tgt := 19) hx hb d_Dk_write_10 (by decide) (fun h10 => ?_) (fun h10 => ?_)
    · refine lv_iload_n hx hb d_Dk_write_19 rfl (lv_at hl 2 rfl) ?_
      refine lv_istore (lv' := [(7, .int (nI b)), (6, .int (-1)), (0, .ref (B + (2 + 2 * d))), (1, .int (nI b)), (2, .int (r)), (3, .int (v)), (4, .int (e)), (5, .int (5))]) hx hb d_Dk_write_20 hl (by decide) rfl (fun ls hl => ?_)
      refine lv_iload hx hb d_Dk_write_22 (lv_at hl 1 rfl) ?_
      refine lv_iconst (v := -1) hx hb d_Dk_write_24 (by decide) ?_
      refine lv_icmp_ne (tgt := 32) hx hb d_Dk_write_25 (by decide) (fun h25 => ?_) (fun h25 => ?_)
      · exact absurd (by decide) h25
      · refine lv_iconst (v := 1) hx hb d_Dk_write_28 (by decide) ?_
        refine lv_goto (tgt := 43) hx hb d_Dk_write_29 (by decide) ?_
        refine lv_istore (lv' := [(8, .int (1)), (7, .int (nI b)), (6, .int (-1)), (0, .ref (B + (2 + 2 * d))), (1, .int (nI b)), (2, .int (r)), (3, .int (v)), (4, .int (e)), (5, .int (5))]) hx hb d_Dk_write_43 hl (by decide) rfl (fun ls hl => ?_)
        refine lv_iconst (v := 0) hx hb d_Dk_write_45 (by decide) ?_
        refine lv_istore (lv' := [(9, .int (0)), (8, .int (1)), (7, .int (nI b)), (6, .int (-1)), (0, .ref (B + (2 + 2 * d))), (1, .int (nI b)), (2, .int (r)), (3, .int (v)), (4, .int (e)), (5, .int (5))]) hx hb d_Dk_write_46 hl (by decide) rfl (fun ls hl => ?_)
        exact loop (b) (1) (by omega) (by simp [tC, hN, m1_ne (show b < 2 ^ 31 by omega), nI_eq (show b + 5 < 2 ^ 31 by omega) (show b < 2 ^ 31 by omega)]) (by simp [nC, hN, mt1 (show b < 2 ^ 31 by omega), mt1 (show b + 5 < 2 ^ 31 by omega), tN_n (show b < 2 ^ 31 by omega), tN_n (show b + 5 < 2 ^ 31 by omega)]) (5 + 1) 0 (by omega) (by omega) _ _ ls hR hS (lv_sub hl [0, 1, 2, 4, 5, 6, 7, 8, 9] rfl)
    · exact absurd h10 (m1_ne (by omega))
  · refine lv_aload_n hx hb d_Dk_write_0 rfl (lv_at hl 0 rfl) ?_
    refine lv_iload_n hx hb d_Dk_write_1 rfl (lv_at hl 1 rfl) ?_
    refine g_callV (As := [.int (nI b)]) (rest := []) (A0 := FC B D0) V (c_Dk_latest C hB σ τ d hd (b) (by omega)) v_Dk_23 (hR.rDk V.2.2.2.2.2.1 hd) hR hS hA (fun _ h => h) ⟨by decide, by decide⟩ rfl hl (Nat.le_of_ble_eq_true rfl) d_Dk_write_2 ⟨Nat.le_refl _, Nat.le_refl _⟩ (kI (fun r2 H locs hQ _ hS => ?_))
    obtain ⟨rfl, hR⟩ := hQ
    refine lv_tope (y := nI b) hN ?_
    refine lv_istore (lv' := [(6, .int (nI b)), (0, .ref (B + (2 + 2 * d))), (1, .int (nI b)), (2, .int (r)), (3, .int (v)), (4, .int (e)), (5, .int (5))]) hx hb d_Dk_write_5 hl (by decide) rfl (fun ls hl => ?_)
    refine lv_iload hx hb d_Dk_write_7 (lv_at hl 0 rfl) ?_
    refine lv_iload_n hx hb d_Dk_write_9 rfl (lv_at hl 2 rfl) ?_
    refine lv_icmp_ne (tgt := 19) hx hb d_Dk_write_10 (by decide) (fun h10 => ?_) (fun h10 => ?_)
    · exact absurd rfl h10
    · refine lv_iload_n hx hb d_Dk_write_13 rfl (lv_at hl 2 rfl) ?_
      refine lv_iconst (v := 5) hx hb d_Dk_write_14 (by decide) ?_
      refine lv_iadd hx hb d_Dk_write_15 ?_
      refine lv_tope (y := nI (b + 5)) (ad_e (a := b) (b := 5) rfl (rfl : (5 : Int32) = nI 5)) ?_
      refine lv_goto (tgt := 20) hx hb d_Dk_write_16 (by decide) ?_
      refine lv_istore (lv' := [(7, .int (nI (b + 5))), (6, .int (nI b)), (0, .ref (B + (2 + 2 * d))), (1, .int (nI b)), (2, .int (r)), (3, .int (v)), (4, .int (e)), (5, .int (5))]) hx hb d_Dk_write_20 hl (by decide) rfl (fun ls hl => ?_)
      refine lv_iload hx hb d_Dk_write_22 (lv_at hl 1 rfl) ?_
      refine lv_iconst (v := -1) hx hb d_Dk_write_24 (by decide) ?_
      refine lv_icmp_ne (tgt := 32) hx hb d_Dk_write_25 (by decide) (fun h25 => ?_) (fun h25 => ?_)
      · refine lv_aload_n hx hb d_Dk_write_32 rfl (lv_at hl 2 rfl) ?_
        refine g_Dk_15 V (hR.2.2.1 _ hd).1 rfl d_Dk_write_33 ?_
        refine lv_iload hx hb d_Dk_write_36 (lv_at hl 1 rfl) ?_
        refine lv_iconst (v := 0) hx hb d_Dk_write_38 (by decide) ?_
        refine lv_iadd hx hb d_Dk_write_39 ?_
        refine lv_tope (y := nI (b)) (ad_e (a := b) (b := 0) rfl (rfl : (0 : Int32) = nI 0)) ?_
        refine c_wld V hR hd (b) rfl (by omega) d_Dk_write_40 ?_
        refine lv_iconst (v := 1) hx hb d_Dk_write_41 (by decide) ?_
        refine lv_iadd hx hb d_Dk_write_42 ?_
        refine lv_istore (lv' := [(8, .int ((σ 1 (720 * d + b) : Int32) + (1 : Int32))), (7, .int (nI (b + 5))), (6, .int (nI b)), (0, .ref (B + (2 + 2 * d))), (1, .int (nI b)), (2, .int (r)), (3, .int (v)), (4, .int (e)), (5, .int (5))]) hx hb d_Dk_write_43 hl (by decide) rfl (fun ls hl => ?_)
        refine lv_iconst (v := 0) hx hb d_Dk_write_45 (by decide) ?_
        refine lv_istore (lv' := [(9, .int (0)), (8, .int ((σ 1 (720 * d + b) : Int32) + (1 : Int32))), (7, .int (nI (b + 5))), (6, .int (nI b)), (0, .ref (B + (2 + 2 * d))), (1, .int (nI b)), (2, .int (r)), (3, .int (v)), (4, .int (e)), (5, .int (5))]) hx hb d_Dk_write_46 hl (by decide) rfl (fun ls hl => ?_)
        exact loop (b + 5) ((σ 1 (720 * d + b) : Int32) + (1 : Int32)) (by omega) (by simp [tC, hN, m1_ne (show b < 2 ^ 31 by omega), nI_eq (show b + 5 < 2 ^ 31 by omega) (show b < 2 ^ 31 by omega)]) (by simp [nC, hN, mt1 (show b < 2 ^ 31 by omega), mt1 (show b + 5 < 2 ^ 31 by omega), tN_n (show b < 2 ^ 31 by omega), tN_n (show b + 5 < 2 ^ 31 by omega)]) (5 + 1) 0 (by omega) (by omega) _ _ ls hR hS (lv_sub hl [0, 1, 2, 4, 5, 6, 7, 8, 9] rfl)
      · exact absurd h25.symm (m1_ne (by omega))
  · refine lv_aload_n hx hb d_Dk_write_0 rfl (lv_at hl 0 rfl) ?_
    refine lv_iload_n hx hb d_Dk_write_1 rfl (lv_at hl 1 rfl) ?_
    refine g_callV (As := [.int (nI b)]) (rest := []) (A0 := FC B D0) V (c_Dk_latest C hB σ τ d hd (b) (by omega)) v_Dk_23 (hR.rDk V.2.2.2.2.2.1 hd) hR hS hA (fun _ h => h) ⟨by decide, by decide⟩ rfl hl (Nat.le_of_ble_eq_true rfl) d_Dk_write_2 ⟨Nat.le_refl _, Nat.le_refl _⟩ (kI (fun r2 H locs hQ _ hS => ?_))
    obtain ⟨rfl, hR⟩ := hQ
    refine lv_tope (y := nI (b + 5)) hN ?_
    refine lv_istore (lv' := [(6, .int (nI (b + 5))), (0, .ref (B + (2 + 2 * d))), (1, .int (nI b)), (2, .int (r)), (3, .int (v)), (4, .int (e)), (5, .int (5))]) hx hb d_Dk_write_5 hl (by decide) rfl (fun ls hl => ?_)
    refine lv_iload hx hb d_Dk_write_7 (lv_at hl 0 rfl) ?_
    refine lv_iload_n hx hb d_Dk_write_9 rfl (lv_at hl 2 rfl) ?_
    refine lv_icmp_ne (tgt := 19) hx hb d_Dk_write_10 (by decide) (fun h10 => ?_) (fun h10 => ?_)
    · refine lv_iload_n hx hb d_Dk_write_19 rfl (lv_at hl 2 rfl) ?_
      refine lv_istore (lv' := [(7, .int (nI b)), (6, .int (nI (b + 5))), (0, .ref (B + (2 + 2 * d))), (1, .int (nI b)), (2, .int (r)), (3, .int (v)), (4, .int (e)), (5, .int (5))]) hx hb d_Dk_write_20 hl (by decide) rfl (fun ls hl => ?_)
      refine lv_iload hx hb d_Dk_write_22 (lv_at hl 1 rfl) ?_
      refine lv_iconst (v := -1) hx hb d_Dk_write_24 (by decide) ?_
      refine lv_icmp_ne (tgt := 32) hx hb d_Dk_write_25 (by decide) (fun h25 => ?_) (fun h25 => ?_)
      · refine lv_aload_n hx hb d_Dk_write_32 rfl (lv_at hl 2 rfl) ?_
        refine g_Dk_15 V (hR.2.2.1 _ hd).1 rfl d_Dk_write_33 ?_
        refine lv_iload hx hb d_Dk_write_36 (lv_at hl 1 rfl) ?_
        refine lv_iconst (v := 0) hx hb d_Dk_write_38 (by decide) ?_
        refine lv_iadd hx hb d_Dk_write_39 ?_
        refine lv_tope (y := nI (b + 5)) (ad_e (a := b + 5) (b := 0) rfl (rfl : (0 : Int32) = nI 0)) ?_
        refine c_wld V hR hd (b + 5) rfl (by omega) d_Dk_write_40 ?_
        refine lv_iconst (v := 1) hx hb d_Dk_write_41 (by decide) ?_
        refine lv_iadd hx hb d_Dk_write_42 ?_
        refine lv_istore (lv' := [(8, .int ((σ 1 (720 * d + (b + 5)) : Int32) + (1 : Int32))), (7, .int (nI b)), (6, .int (nI (b + 5))), (0, .ref (B + (2 + 2 * d))), (1, .int (nI b)), (2, .int (r)), (3, .int (v)), (4, .int (e)), (5, .int (5))]) hx hb d_Dk_write_43 hl (by decide) rfl (fun ls hl => ?_)
        refine lv_iconst (v := 0) hx hb d_Dk_write_45 (by decide) ?_
        refine lv_istore (lv' := [(9, .int (0)), (8, .int ((σ 1 (720 * d + (b + 5)) : Int32) + (1 : Int32))), (7, .int (nI b)), (6, .int (nI (b + 5))), (0, .ref (B + (2 + 2 * d))), (1, .int (nI b)), (2, .int (r)), (3, .int (v)), (4, .int (e)), (5, .int (5))]) hx hb d_Dk_write_46 hl (by decide) rfl (fun ls hl => ?_)
        exact loop (b) ((σ 1 (720 * d + (b + 5)) : Int32) + (1 : Int32)) (by omega) (by simp [tC, hN, m1_ne (show b < 2 ^ 31 by omega), nI_eq (show b + 5 < 2 ^ 31 by omega) (show b < 2 ^ 31 by omega)]) (by simp [nC, hN, mt1 (show b < 2 ^ 31 by omega), mt1 (show b + 5 < 2 ^ 31 by omega), tN_n (show b < 2 ^ 31 by omega), tN_n (show b + 5 < 2 ^ 31 by omega)]) (5 + 1) 0 (by omega) (by omega) _ _ ls hR hS (lv_sub hl [0, 1, 2, 4, 5, 6, 7, 8, 9] rfl)
      · exact absurd h25.symm (m1_ne (by omega))
    · exact absurd ((nI_eq (by omega) (by omega)).mp h10) (by omega)
theorem d_Dk_write_61 : decode b_Dk_write 61 = .ok (.new 27, 3) := by decide +kernel
theorem d_Dk_write_64 : decode b_Dk_write 64 = .ok (.dup, 1) := by decide +kernel
theorem d_Dk_write_65 : decode b_Dk_write 65 = .ok (.invokespecial 29, 3) := by decide +kernel
theorem d_Dk_write_68 : decode b_Dk_write 68 = .ok (.athrow, 1) := by decide +kernel
set_option maxHeartbeats 4000000 in
set_option maxRecDepth 100000 in
theorem t_Dk_write {l : Launch} {G : Gx} {s0 : State} (hfl : l.flags = pinnedFlags ++ [noTraceFlag]) (C : Cx G s0) (C0 : Ts0 s0) {B D0 ea : Nat} (hB : s0.heap.size ≤ B) (σ : Sg) (τ : Tt) (d : Nat) (hd : d < 3) (b : Nat) (hb9 : b + 9 < 720) (r v e : Int32) (kp : Nat) (hkp : kp < 5) : CtT l s0 (FC B D0) 2 1 6 y_Dk_write (.code y_Dk_write b_Dk_write 10 none) [.ref (B + (2 + 2 * d)), .int (nI b), .int (r), .int (v), .int (e), .int (nI kp)] (RepC G B D0 ea σ τ) "java/lang/UnsupportedOperationException" (RepC G B D0 ea (wrC σ d b r v e kp) τ) := by
  refine CtT.of C cdw_code (by decide) (Nat.le_of_ble_eq_true rfl) ?_
  intro pg ev s mm below meth cd V hr hlk ht hR ls hl
  have hx := V.1
  have hb := V.2.1
  have hS : va_S (FC B D0) s.heap s.heap [] := va_S.rf
  have hF : ∀ q, FC B D0 q → FC B D0 q := fun _ h => h
  have hA : ∀ q, FC B D0 q → s0.heap.size ≤ q := fun q h => by have := hR.1; rcases h with h | h <;> omega
  have hl : lv_has ls 10 [(0, .ref (B + (2 + 2 * d))), (1, .int (nI b)), (2, .int (r)), (3, .int (v)), (4, .int (e)), (5, .int (nI kp))] := hl
  have loop : ∀ (t : Nat) (n : Int32), t + 5 ≤ 720 → tC σ d b = t → nC σ d b = n → ∀ (z k : Nat), k ≤ kp → kp < k + z → ∀ (H : Heap) (locs : List Loc) (ls : Array Slot), RepC G B D0 ea (wrs σ (720 * d + t) n r v e k) τ H → va_S (FC B D0) s.heap H locs → lv_has ls 10 [(9, .int (nI k)), (8, .int (n)), (7, .int (nI t)), (0, .ref (B + (2 + 2 * d))), (1, .int (nI b)), (2, .int (r)), (3, .int (v)), (4, .int (e)), (5, .int (nI kp))] → W pg l ev (rmx 2 1 6) s mm [.ref (B + (2 + 2 * d)), .int (nI b), .int (r), .int (v), .int (e), .int (nI kp)].toArray below meth cd H locs 0 0 (MT below (qT s0 (FC B D0) "java/lang/UnsupportedOperationException" (RepC G B D0 ea (wrC σ d b r v e kp) τ)) [.ref (B + (2 + 2 * d)), .int (nI b), .int (r), .int (v), .int (e), .int (nI kp)].toArray s 1 6 (FC B D0)) (F0 mm 48 ls []) := by
    intro t n ht5 et en z
    induction z with
    | zero => intro k h1 h2; omega
    | succ z ih =>
      intro k h1 h2 H locs ls hR hS hl
      refine lv_iload hx hb d_Dk_write_48 (lv_at hl 0 rfl) ?_
      refine lv_iconst (v := 5) hx hb d_Dk_write_50 (by decide) ?_
      refine lv_icmp_ge (tgt := 118) hx hb d_Dk_write_51 (by decide) (fun h51 => ?_) (fun h51 => ?_)
      · exact absurd ((nI_leI (a := 5) (by decide) (by omega)).mp h51) (by omega)
      · have hk5 : k < 5 := by
          rcases Nat.lt_or_ge k 5 with q | q
          · exact q
          · exact absurd (nI_le (a := 5) q (by omega)) h51
        refine lv_iload hx hb d_Dk_write_54 (lv_at hl 0 rfl) ?_
        refine lv_iload hx hb d_Dk_write_56 (lv_at hl 8 rfl) ?_
        refine lv_icmp_ne (tgt := 69) hx hb d_Dk_write_58 (by decide) (fun h58 => ?_) (fun h58 => ?_)
        · have hkk : k < kp := by
            rcases Nat.lt_or_ge k kp with q | q
            · exact q
            · exact absurd (by rw [show k = kp from by omega]) h58
          refine lv_aload_n hx hb d_Dk_write_69 rfl (lv_at hl 3 rfl) ?_
          refine g_Dk_15 V (hR.2.2.1 _ hd).1 rfl d_Dk_write_70 ?_
          refine lv_iload hx hb d_Dk_write_73 (lv_at hl 2 rfl) ?_
          refine lv_iload hx hb d_Dk_write_75 (lv_at hl 0 rfl) ?_
          refine lv_iadd hx hb d_Dk_write_77 ?_
          refine lv_tope (y := nI (t + k)) (ad_e (a := t) (b := k) rfl rfl) ?_
          refine lv_iload hx hb d_Dk_write_78 (lv_at hl 0 rfl) ?_
          refine lv_iconst (v := 1) hx hb d_Dk_write_80 (by decide) ?_
          refine lv_icmp_ne (tgt := 88) hx hb d_Dk_write_81 (by decide) (fun h81 => ?_) (fun h81 => ?_)
          · refine lv_iload hx hb d_Dk_write_88 (lv_at hl 0 rfl) ?_
            refine lv_iconst (v := 2) hx hb d_Dk_write_90 (by decide) ?_
            refine lv_icmp_ne (tgt := 98) hx hb d_Dk_write_91 (by decide) (fun h91 => ?_) (fun h91 => ?_)
            · refine lv_iload hx hb d_Dk_write_98 (lv_at hl 0 rfl) ?_
              refine lv_iconst (v := 3) hx hb d_Dk_write_100 (by decide) ?_
              refine lv_icmp_ne (tgt := 109) hx hb d_Dk_write_101 (by decide) (fun h101 => ?_) (fun h101 => ?_)
              · refine lv_iload hx hb d_Dk_write_109 (lv_at hl 1 rfl) ?_
                refine c_wst V hR hS hd (hF _ (Or.inl ⟨by omega, by omega⟩)) (t + k) rfl (by omega) d_Dk_write_111 (fun H locs hR hS => ?_)
                refine lv_iinc (v := nI (k + 1)) (lv' := [(9, .int (nI (k + 1))), (8, .int (n)), (7, .int (nI t)), (0, .ref (B + (2 + 2 * d))), (1, .int (nI b)), (2, .int (r)), (3, .int (v)), (4, .int (e)), (5, .int (nI kp))]) hx hb d_Dk_write_112 hl (k := 0) rfl (ad_e rfl (rfl : (1 : Int32) = nI 1)) (by decide) rfl (fun ls hl => ?_)
                refine lv_goto (tgt := 48) hx hb d_Dk_write_115 (by decide) ?_
                have g81 : ¬ k = 1 := fun q => h81 (by rw [q]; rfl)
                have g91 : ¬ k = 2 := fun q => h91 (by rw [q]; rfl)
                have g101 : ¬ k = 3 := fun q => h101 (by rw [q]; rfl)
                exact ih (k + 1) (by omega) (by omega) _ _ ls (by rw [wrs, Nat.add_assoc, show wv n r v e k = n from by simp [wv, g81, g91, g101]]; exact hR) hS (lv_sub hl [0, 1, 2, 3, 4, 5, 6, 7, 8] rfl)
              · refine lv_iload hx hb d_Dk_write_104 (lv_at hl 7 rfl) ?_
                refine lv_goto (tgt := 111) hx hb d_Dk_write_106 (by decide) ?_
                refine c_wst V hR hS hd (hF _ (Or.inl ⟨by omega, by omega⟩)) (t + k) rfl (by omega) d_Dk_write_111 (fun H locs hR hS => ?_)
                refine lv_iinc (v := nI (k + 1)) (lv' := [(9, .int (nI (k + 1))), (8, .int (n)), (7, .int (nI t)), (0, .ref (B + (2 + 2 * d))), (1, .int (nI b)), (2, .int (r)), (3, .int (v)), (4, .int (e)), (5, .int (nI kp))]) hx hb d_Dk_write_112 hl (k := 0) rfl (ad_e rfl (rfl : (1 : Int32) = nI 1)) (by decide) rfl (fun ls hl => ?_)
                refine lv_goto (tgt := 48) hx hb d_Dk_write_115 (by decide) ?_
                have g81 : ¬ k = 1 := fun q => h81 (by rw [q]; rfl)
                have g91 : ¬ k = 2 := fun q => h91 (by rw [q]; rfl)
                have g101 : k = 3 := (nI_eq (b := 3) (by omega) (by decide)).mp h101
                exact ih (k + 1) (by omega) (by omega) _ _ ls (by rw [wrs, Nat.add_assoc, show wv n r v e k = e from by simp [wv, g81, g91, g101]]; exact hR) hS (lv_sub hl [0, 1, 2, 3, 4, 5, 6, 7, 8] rfl)
            · refine lv_iload_n hx hb d_Dk_write_94 rfl (lv_at hl 6 rfl) ?_
              refine lv_goto (tgt := 111) hx hb d_Dk_write_95 (by decide) ?_
              refine c_wst V hR hS hd (hF _ (Or.inl ⟨by omega, by omega⟩)) (t + k) rfl (by omega) d_Dk_write_111 (fun H locs hR hS => ?_)
              refine lv_iinc (v := nI (k + 1)) (lv' := [(9, .int (nI (k + 1))), (8, .int (n)), (7, .int (nI t)), (0, .ref (B + (2 + 2 * d))), (1, .int (nI b)), (2, .int (r)), (3, .int (v)), (4, .int (e)), (5, .int (nI kp))]) hx hb d_Dk_write_112 hl (k := 0) rfl (ad_e rfl (rfl : (1 : Int32) = nI 1)) (by decide) rfl (fun ls hl => ?_)
              refine lv_goto (tgt := 48) hx hb d_Dk_write_115 (by decide) ?_
              have g81 : ¬ k = 1 := fun q => h81 (by rw [q]; rfl)
              have g91 : k = 2 := (nI_eq (b := 2) (by omega) (by decide)).mp h91
              exact ih (k + 1) (by omega) (by omega) _ _ ls (by rw [wrs, Nat.add_assoc, show wv n r v e k = v from by simp [wv, g81, g91]]; exact hR) hS (lv_sub hl [0, 1, 2, 3, 4, 5, 6, 7, 8] rfl)
          · refine lv_iload_n hx hb d_Dk_write_84 rfl (lv_at hl 5 rfl) ?_
            refine lv_goto (tgt := 111) hx hb d_Dk_write_85 (by decide) ?_
            refine c_wst V hR hS hd (hF _ (Or.inl ⟨by omega, by omega⟩)) (t + k) rfl (by omega) d_Dk_write_111 (fun H locs hR hS => ?_)
            refine lv_iinc (v := nI (k + 1)) (lv' := [(9, .int (nI (k + 1))), (8, .int (n)), (7, .int (nI t)), (0, .ref (B + (2 + 2 * d))), (1, .int (nI b)), (2, .int (r)), (3, .int (v)), (4, .int (e)), (5, .int (nI kp))]) hx hb d_Dk_write_112 hl (k := 0) rfl (ad_e rfl (rfl : (1 : Int32) = nI 1)) (by decide) rfl (fun ls hl => ?_)
            refine lv_goto (tgt := 48) hx hb d_Dk_write_115 (by decide) ?_
            have g81 : k = 1 := (nI_eq (b := 1) (by omega) (by decide)).mp h81
            exact ih (k + 1) (by omega) (by omega) _ _ ls (by rw [wrs, Nat.add_assoc, show wv n r v e k = r from by simp [wv, g81]]; exact hR) hS (lv_sub hl [0, 1, 2, 3, 4, 5, 6, 7, 8] rfl)
        · obtain rfl : k = kp := (nI_eq (by omega) (by omega)).mp h58
          exact tn V C0 hfl x_Dk_27 hlk (out_of ht (by decide)) hl (Nat.le_of_ble_eq_true rfl) ⟨by decide, by decide, by decide, by decide⟩ hS hA (by decide) (by decide) d_Dk_write_61 d_Dk_write_64 d_Dk_write_65 d_Dk_write_68 (fun H1 hz hk => by unfold wrC; rw [et, en]; exact hR.grow hk)
  rcases ltI_c σ d b with hN | hN | hN
  · refine lv_aload_n hx hb d_Dk_write_0 rfl (lv_at hl 0 rfl) ?_
    refine lv_iload_n hx hb d_Dk_write_1 rfl (lv_at hl 1 rfl) ?_
    refine g_callV (As := [.int (nI b)]) (rest := []) (A0 := FC B D0) V (c_Dk_latest C hB σ τ d hd (b) (by omega)) v_Dk_23 (hR.rDk V.2.2.2.2.2.1 hd) hR hS hA (fun _ h => h) ⟨by decide, by decide⟩ rfl hl (Nat.le_of_ble_eq_true rfl) d_Dk_write_2 ⟨by decide, by decide⟩ (kI (fun r2 H locs hQ _ hS => ?_))
    obtain ⟨rfl, hR⟩ := hQ
    refine lv_tope (y := -1) hN ?_
    refine lv_istore (lv' := [(6, .int (-1)), (0, .ref (B + (2 + 2 * d))), (1, .int (nI b)), (2, .int (r)), (3, .int (v)), (4, .int (e)), (5, .int (nI kp))]) hx hb d_Dk_write_5 hl (by decide) rfl (fun ls hl => ?_)
    refine lv_iload hx hb d_Dk_write_7 (lv_at hl 0 rfl) ?_
    refine lv_iload_n hx hb d_Dk_write_9 rfl (lv_at hl 2 rfl) ?_
    refine lv_icmp_ne (tgt := 19) hx hb d_Dk_write_10 (by decide) (fun h10 => ?_) (fun h10 => ?_)
    · refine lv_iload_n hx hb d_Dk_write_19 rfl (lv_at hl 2 rfl) ?_
      refine lv_istore (lv' := [(7, .int (nI b)), (6, .int (-1)), (0, .ref (B + (2 + 2 * d))), (1, .int (nI b)), (2, .int (r)), (3, .int (v)), (4, .int (e)), (5, .int (nI kp))]) hx hb d_Dk_write_20 hl (by decide) rfl (fun ls hl => ?_)
      refine lv_iload hx hb d_Dk_write_22 (lv_at hl 1 rfl) ?_
      refine lv_iconst (v := -1) hx hb d_Dk_write_24 (by decide) ?_
      refine lv_icmp_ne (tgt := 32) hx hb d_Dk_write_25 (by decide) (fun h25 => ?_) (fun h25 => ?_)
      · exact absurd (by decide) h25
      · refine lv_iconst (v := 1) hx hb d_Dk_write_28 (by decide) ?_
        refine lv_goto (tgt := 43) hx hb d_Dk_write_29 (by decide) ?_
        refine lv_istore (lv' := [(8, .int (1)), (7, .int (nI b)), (6, .int (-1)), (0, .ref (B + (2 + 2 * d))), (1, .int (nI b)), (2, .int (r)), (3, .int (v)), (4, .int (e)), (5, .int (nI kp))]) hx hb d_Dk_write_43 hl (by decide) rfl (fun ls hl => ?_)
        refine lv_iconst (v := 0) hx hb d_Dk_write_45 (by decide) ?_
        refine lv_istore (lv' := [(9, .int (0)), (8, .int (1)), (7, .int (nI b)), (6, .int (-1)), (0, .ref (B + (2 + 2 * d))), (1, .int (nI b)), (2, .int (r)), (3, .int (v)), (4, .int (e)), (5, .int (nI kp))]) hx hb d_Dk_write_46 hl (by decide) rfl (fun ls hl => ?_)
        exact loop (b) (1) (by omega) (by simp [tC, hN, m1_ne (show b < 2 ^ 31 by omega), nI_eq (show b + 5 < 2 ^ 31 by omega) (show b < 2 ^ 31 by omega)]) (by simp [nC, hN, mt1 (show b < 2 ^ 31 by omega), mt1 (show b + 5 < 2 ^ 31 by omega), tN_n (show b < 2 ^ 31 by omega), tN_n (show b + 5 < 2 ^ 31 by omega)]) (kp + 1) 0 (by omega) (by omega) _ _ ls hR hS (lv_sub hl [0, 1, 2, 4, 5, 6, 7, 8, 9] rfl)
    · exact absurd h10 (m1_ne (by omega))
  · refine lv_aload_n hx hb d_Dk_write_0 rfl (lv_at hl 0 rfl) ?_
    refine lv_iload_n hx hb d_Dk_write_1 rfl (lv_at hl 1 rfl) ?_
    refine g_callV (As := [.int (nI b)]) (rest := []) (A0 := FC B D0) V (c_Dk_latest C hB σ τ d hd (b) (by omega)) v_Dk_23 (hR.rDk V.2.2.2.2.2.1 hd) hR hS hA (fun _ h => h) ⟨by decide, by decide⟩ rfl hl (Nat.le_of_ble_eq_true rfl) d_Dk_write_2 ⟨by decide, by decide⟩ (kI (fun r2 H locs hQ _ hS => ?_))
    obtain ⟨rfl, hR⟩ := hQ
    refine lv_tope (y := nI b) hN ?_
    refine lv_istore (lv' := [(6, .int (nI b)), (0, .ref (B + (2 + 2 * d))), (1, .int (nI b)), (2, .int (r)), (3, .int (v)), (4, .int (e)), (5, .int (nI kp))]) hx hb d_Dk_write_5 hl (by decide) rfl (fun ls hl => ?_)
    refine lv_iload hx hb d_Dk_write_7 (lv_at hl 0 rfl) ?_
    refine lv_iload_n hx hb d_Dk_write_9 rfl (lv_at hl 2 rfl) ?_
    refine lv_icmp_ne (tgt := 19) hx hb d_Dk_write_10 (by decide) (fun h10 => ?_) (fun h10 => ?_)
    · exact absurd rfl h10
    · refine lv_iload_n hx hb d_Dk_write_13 rfl (lv_at hl 2 rfl) ?_
      refine lv_iconst (v := 5) hx hb d_Dk_write_14 (by decide) ?_
      refine lv_iadd hx hb d_Dk_write_15 ?_
      refine lv_tope (y := nI (b + 5)) (ad_e (a := b) (b := 5) rfl (rfl : (5 : Int32) = nI 5)) ?_
      refine lv_goto (tgt := 20) hx hb d_Dk_write_16 (by decide) ?_
      refine lv_istore (lv' := [(7, .int (nI (b + 5))), (6, .int (nI b)), (0, .ref (B + (2 + 2 * d))), (1, .int (nI b)), (2, .int (r)), (3, .int (v)), (4, .int (e)), (5, .int (nI kp))]) hx hb d_Dk_write_20 hl (by decide) rfl (fun ls hl => ?_)
      refine lv_iload hx hb d_Dk_write_22 (lv_at hl 1 rfl) ?_
      refine lv_iconst (v := -1) hx hb d_Dk_write_24 (by decide) ?_
      refine lv_icmp_ne (tgt := 32) hx hb d_Dk_write_25 (by decide) (fun h25 => ?_) (fun h25 => ?_)
      · refine lv_aload_n hx hb d_Dk_write_32 rfl (lv_at hl 2 rfl) ?_
        refine g_Dk_15 V (hR.2.2.1 _ hd).1 rfl d_Dk_write_33 ?_
        refine lv_iload hx hb d_Dk_write_36 (lv_at hl 1 rfl) ?_
        refine lv_iconst (v := 0) hx hb d_Dk_write_38 (by decide) ?_
        refine lv_iadd hx hb d_Dk_write_39 ?_
        refine lv_tope (y := nI (b)) (ad_e (a := b) (b := 0) rfl (rfl : (0 : Int32) = nI 0)) ?_
        refine c_wld V hR hd (b) rfl (by omega) d_Dk_write_40 ?_
        refine lv_iconst (v := 1) hx hb d_Dk_write_41 (by decide) ?_
        refine lv_iadd hx hb d_Dk_write_42 ?_
        refine lv_istore (lv' := [(8, .int ((σ 1 (720 * d + b) : Int32) + (1 : Int32))), (7, .int (nI (b + 5))), (6, .int (nI b)), (0, .ref (B + (2 + 2 * d))), (1, .int (nI b)), (2, .int (r)), (3, .int (v)), (4, .int (e)), (5, .int (nI kp))]) hx hb d_Dk_write_43 hl (by decide) rfl (fun ls hl => ?_)
        refine lv_iconst (v := 0) hx hb d_Dk_write_45 (by decide) ?_
        refine lv_istore (lv' := [(9, .int (0)), (8, .int ((σ 1 (720 * d + b) : Int32) + (1 : Int32))), (7, .int (nI (b + 5))), (6, .int (nI b)), (0, .ref (B + (2 + 2 * d))), (1, .int (nI b)), (2, .int (r)), (3, .int (v)), (4, .int (e)), (5, .int (nI kp))]) hx hb d_Dk_write_46 hl (by decide) rfl (fun ls hl => ?_)
        exact loop (b + 5) ((σ 1 (720 * d + b) : Int32) + (1 : Int32)) (by omega) (by simp [tC, hN, m1_ne (show b < 2 ^ 31 by omega), nI_eq (show b + 5 < 2 ^ 31 by omega) (show b < 2 ^ 31 by omega)]) (by simp [nC, hN, mt1 (show b < 2 ^ 31 by omega), mt1 (show b + 5 < 2 ^ 31 by omega), tN_n (show b < 2 ^ 31 by omega), tN_n (show b + 5 < 2 ^ 31 by omega)]) (kp + 1) 0 (by omega) (by omega) _ _ ls hR hS (lv_sub hl [0, 1, 2, 4, 5, 6, 7, 8, 9] rfl)
      · exact absurd h25.symm (m1_ne (by omega))
  · refine lv_aload_n hx hb d_Dk_write_0 rfl (lv_at hl 0 rfl) ?_
    refine lv_iload_n hx hb d_Dk_write_1 rfl (lv_at hl 1 rfl) ?_
    refine g_callV (As := [.int (nI b)]) (rest := []) (A0 := FC B D0) V (c_Dk_latest C hB σ τ d hd (b) (by omega)) v_Dk_23 (hR.rDk V.2.2.2.2.2.1 hd) hR hS hA (fun _ h => h) ⟨by decide, by decide⟩ rfl hl (Nat.le_of_ble_eq_true rfl) d_Dk_write_2 ⟨by decide, by decide⟩ (kI (fun r2 H locs hQ _ hS => ?_))
    obtain ⟨rfl, hR⟩ := hQ
    refine lv_tope (y := nI (b + 5)) hN ?_
    refine lv_istore (lv' := [(6, .int (nI (b + 5))), (0, .ref (B + (2 + 2 * d))), (1, .int (nI b)), (2, .int (r)), (3, .int (v)), (4, .int (e)), (5, .int (nI kp))]) hx hb d_Dk_write_5 hl (by decide) rfl (fun ls hl => ?_)
    refine lv_iload hx hb d_Dk_write_7 (lv_at hl 0 rfl) ?_
    refine lv_iload_n hx hb d_Dk_write_9 rfl (lv_at hl 2 rfl) ?_
    refine lv_icmp_ne (tgt := 19) hx hb d_Dk_write_10 (by decide) (fun h10 => ?_) (fun h10 => ?_)
    · refine lv_iload_n hx hb d_Dk_write_19 rfl (lv_at hl 2 rfl) ?_
      refine lv_istore (lv' := [(7, .int (nI b)), (6, .int (nI (b + 5))), (0, .ref (B + (2 + 2 * d))), (1, .int (nI b)), (2, .int (r)), (3, .int (v)), (4, .int (e)), (5, .int (nI kp))]) hx hb d_Dk_write_20 hl (by decide) rfl (fun ls hl => ?_)
      refine lv_iload hx hb d_Dk_write_22 (lv_at hl 1 rfl) ?_
      refine lv_iconst (v := -1) hx hb d_Dk_write_24 (by decide) ?_
      refine lv_icmp_ne (tgt := 32) hx hb d_Dk_write_25 (by decide) (fun h25 => ?_) (fun h25 => ?_)
      · refine lv_aload_n hx hb d_Dk_write_32 rfl (lv_at hl 2 rfl) ?_
        refine g_Dk_15 V (hR.2.2.1 _ hd).1 rfl d_Dk_write_33 ?_
        refine lv_iload hx hb d_Dk_write_36 (lv_at hl 1 rfl) ?_
        refine lv_iconst (v := 0) hx hb d_Dk_write_38 (by decide) ?_
        refine lv_iadd hx hb d_Dk_write_39 ?_
        refine lv_tope (y := nI (b + 5)) (ad_e (a := b + 5) (b := 0) rfl (rfl : (0 : Int32) = nI 0)) ?_
        refine c_wld V hR hd (b + 5) rfl (by omega) d_Dk_write_40 ?_
        refine lv_iconst (v := 1) hx hb d_Dk_write_41 (by decide) ?_
        refine lv_iadd hx hb d_Dk_write_42 ?_
        refine lv_istore (lv' := [(8, .int ((σ 1 (720 * d + (b + 5)) : Int32) + (1 : Int32))), (7, .int (nI b)), (6, .int (nI (b + 5))), (0, .ref (B + (2 + 2 * d))), (1, .int (nI b)), (2, .int (r)), (3, .int (v)), (4, .int (e)), (5, .int (nI kp))]) hx hb d_Dk_write_43 hl (by decide) rfl (fun ls hl => ?_)
        refine lv_iconst (v := 0) hx hb d_Dk_write_45 (by decide) ?_
        refine lv_istore (lv' := [(9, .int (0)), (8, .int ((σ 1 (720 * d + (b + 5)) : Int32) + (1 : Int32))), (7, .int (nI b)), (6, .int (nI (b + 5))), (0, .ref (B + (2 + 2 * d))), (1, .int (nI b)), (2, .int (r)), (3, .int (v)), (4, .int (e)), (5, .int (nI kp))]) hx hb d_Dk_write_46 hl (by decide) rfl (fun ls hl => ?_)
        exact loop (b) ((σ 1 (720 * d + (b + 5)) : Int32) + (1 : Int32)) (by omega) (by simp [tC, hN, m1_ne (show b < 2 ^ 31 by omega), nI_eq (show b + 5 < 2 ^ 31 by omega) (show b < 2 ^ 31 by omega)]) (by simp [nC, hN, mt1 (show b < 2 ^ 31 by omega), mt1 (show b + 5 < 2 ^ 31 by omega), tN_n (show b < 2 ^ 31 by omega), tN_n (show b + 5 < 2 ^ 31 by omega)]) (kp + 1) 0 (by omega) (by omega) _ _ ls hR hS (lv_sub hl [0, 1, 2, 4, 5, 6, 7, 8, 9] rfl)
      · exact absurd h25.symm (m1_ne (by omega))
    · exact absurd ((nI_eq (by omega) (by omega)).mp h10) (by omega)
theorem d_Ct_write_0 : decode b_Ct_write 0 = .ok (.aload_n 0, 1) := by decide +kernel
theorem d_Ct_write_1 : decode b_Ct_write 1 = .ok (.dup, 1) := by decide +kernel
theorem d_Ct_write_2 : decode b_Ct_write 2 = .ok (.getfield 107, 3) := by decide +kernel
theorem d_Ct_write_5 : decode b_Ct_write 5 = .ok (.iconst 1, 1) := by decide +kernel
theorem d_Ct_write_6 : decode b_Ct_write 6 = .ok (.iadd, 1) := by decide +kernel
theorem d_Ct_write_7 : decode b_Ct_write 7 = .ok (.putfield 107, 3) := by decide +kernel
theorem d_Ct_write_10 : decode b_Ct_write 10 = .ok (.aload_n 1, 1) := by decide +kernel
theorem d_Ct_write_11 : decode b_Ct_write 11 = .ok (.aload_n 0, 1) := by decide +kernel
theorem d_Ct_write_12 : decode b_Ct_write 12 = .ok (.getfield 33, 3) := by decide +kernel
theorem d_Ct_write_15 : decode b_Ct_write 15 = .ok (.aload_n 0, 1) := by decide +kernel
theorem d_Ct_write_16 : decode b_Ct_write 16 = .ok (.getfield 110, 3) := by decide +kernel
theorem d_Ct_write_19 : decode b_Ct_write 19 = .ok (.invokestatic 113, 3) := by decide +kernel
theorem d_Ct_write_22 : decode b_Ct_write 22 = .ok (.aload_n 0, 1) := by decide +kernel
theorem d_Ct_write_23 : decode b_Ct_write 23 = .ok (.getfield 82, 3) := by decide +kernel
theorem d_Ct_write_26 : decode b_Ct_write 26 = .ok (.aload_n 0, 1) := by decide +kernel
theorem d_Ct_write_27 : decode b_Ct_write 27 = .ok (.getfield 91, 3) := by decide +kernel
theorem d_Ct_write_30 : decode b_Ct_write 30 = .ok (.aload_n 0, 1) := by decide +kernel
theorem d_Ct_write_31 : decode b_Ct_write 31 = .ok (.getfield 97, 3) := by decide +kernel
theorem d_Ct_write_34 : decode b_Ct_write 34 = .ok (.iload_n 2, 1) := by decide +kernel
theorem d_Ct_write_35 : decode b_Ct_write 35 = .ok (.invokevirtual 118, 3) := by decide +kernel
theorem d_Ct_write_38 : decode b_Ct_write 38 = .ok (.aload_n 0, 1) := by decide +kernel
theorem d_Ct_write_39 : decode b_Ct_write 39 = .ok (.iconst 1, 1) := by decide +kernel
theorem d_Ct_write_40 : decode b_Ct_write 40 = .ok (.putfield 68, 3) := by decide +kernel
theorem d_Ct_write_43 : decode b_Ct_write 43 = .ok (.return_, 1) := by decide +kernel
set_option maxHeartbeats 4000000 in
set_option maxRecDepth 100000 in
theorem c_Ct_write {l : Launch} {G : Gx} {s0 : State} (C : Cx G s0) {B D0 ea : Nat} (hB : s0.heap.size ≤ B) (σ : Sg) (τ : Tt) (c : Nat) (hc : c < 3) (d : Nat) (hd : d < 3) (q : Nat) (hq : σ 4 c = nI q) (hq4 : q < 24) : Ct l s0 (FC B D0) 3 0 0 y_Ct_write b_Ct_write 3 none [.ref (B + (9 + 9 * c)), .ref (B + (2 + 2 * d)), .int (5)] (RepC G B D0 ea σ τ) (pV (RepC G B D0 ea (up2 (cwr σ c d q 5) 25 c 1) τ)) := by
  refine Ct.of C (by decide) (Nat.le_of_ble_eq_true rfl) ?_
  intro pg ev s mm below meth cd V hr hlk hn hR ls hl
  have hx := V.1
  have hb := V.2.1
  have hS : va_S (FC B D0) s.heap s.heap [] := va_S.rf
  have hF : ∀ q, FC B D0 q → FC B D0 q := fun _ h => h
  have hA : ∀ q, FC B D0 q → s0.heap.size ≤ q := fun q h => by have := hR.1; rcases h with h | h <;> omega
  have hl : lv_has ls 3 [(0, .ref (B + (9 + 9 * c))), (1, .ref (B + (2 + 2 * d))), (2, .int (5))] := hl
  refine lv_aload_n hx hb d_Ct_write_0 rfl (lv_at hl 0 rfl) ?_
  refine lv_dup hx hb d_Ct_write_1 rfl ?_
  refine g_Ct_107 V (hR.2.2.2 _ hc).1 rfl d_Ct_write_2 ?_
  refine lv_iconst (v := 1) hx hb d_Ct_write_5 (by decide) ?_
  refine lv_iadd hx hb d_Ct_write_6 ?_
  refine q_Ct_107 V hR hS hF hc d_Ct_write_7 (fun H locs hR hS => ?_)
  refine lv_aload_n hx hb d_Ct_write_10 rfl (lv_at hl 1 rfl) ?_
  refine lv_aload_n hx hb d_Ct_write_11 rfl (lv_at hl 0 rfl) ?_
  refine g_Ct_33 V (hR.2.2.2 _ hc).1 rfl d_Ct_write_12 ?_
  refine lv_aload_n hx hb d_Ct_write_15 rfl (lv_at hl 0 rfl) ?_
  refine g_Ct_110 V (hR.2.2.2 _ hc).1 rfl d_Ct_write_16 ?_
  refine lv_tope (y := σ 4 c) (by simp [up2, upd]) ?_
  refine lv_tope (y := nI q) hq ?_
  refine g_callS (As := [.int (nI c), .int (nI q)]) (rest := [.ref (B + (2 + 2 * d))]) (A0 := FC B D0) V (c_Dk_block C hB (up2 σ 20 c ((σ 20 c : Int32) + (1 : Int32))) τ (c) (q)) v_Ct_113 hR hS hA (fun _ h => h) ⟨by decide, by decide⟩ rfl hl (Nat.le_of_ble_eq_true rfl) d_Ct_write_19 ⟨Nat.le_refl _, Nat.le_refl _⟩ (kI (fun r19 H locs hQ _ hS => ?_))
  obtain ⟨rfl, hR⟩ := hQ
  refine lv_aload_n hx hb d_Ct_write_22 rfl (lv_at hl 0 rfl) ?_
  refine g_Ct_82 V (hR.2.2.2 _ hc).1 rfl d_Ct_write_23 ?_
  refine lv_tope (y := σ 8 c) (by simp [up2, upd]) ?_
  refine lv_aload_n hx hb d_Ct_write_26 rfl (lv_at hl 0 rfl) ?_
  refine g_Ct_91 V (hR.2.2.2 _ hc).1 rfl d_Ct_write_27 ?_
  refine lv_tope (y := σ 9 c) (by simp [up2, upd]) ?_
  refine lv_aload_n hx hb d_Ct_write_30 rfl (lv_at hl 0 rfl) ?_
  refine g_Ct_97 V (hR.2.2.2 _ hc).1 rfl d_Ct_write_31 ?_
  refine lv_tope (y := σ 10 c) (by simp [up2, upd]) ?_
  refine lv_iload_n hx hb d_Ct_write_34 rfl (lv_at hl 2 rfl) ?_
  refine g_callV (As := [.int (nI (10 * (24 * c + q))), .int (σ 8 c), .int (σ 9 c), .int (σ 10 c), .int (5)]) (rest := []) (A0 := FC B D0) V (c_Dk_write C hB (up2 σ 20 c ((σ 20 c : Int32) + (1 : Int32))) τ d hd (10 * (24 * c + q)) (by omega) (σ 8 c) (σ 9 c) (σ 10 c)) v_Ct_118 (hR.rDk V.2.2.2.2.2.1 hd) hR hS hA (fun _ h => h) ⟨by decide, by decide⟩ rfl hl (Nat.le_of_ble_eq_true rfl) d_Ct_write_35 ⟨Nat.le_refl _, Nat.le_refl _⟩ (kV (fun H locs hR _ hS => ?_))
  refine lv_aload_n hx hb d_Ct_write_38 rfl (lv_at hl 0 rfl) ?_
  refine lv_iconst (v := 1) hx hb d_Ct_write_39 (by decide) ?_
  refine q_Ct_68 V hR hS hF hc d_Ct_write_40 (fun H locs hR hS => ?_)
  exact e_v V hr hlk hS (Nat.le_refl _) (Nat.le_refl _) d_Ct_write_43 ⟨rfl, hR⟩
set_option maxHeartbeats 4000000 in
set_option maxRecDepth 100000 in
theorem t_Ct_write {l : Launch} {G : Gx} {s0 : State} (hfl : l.flags = pinnedFlags ++ [noTraceFlag]) (C : Cx G s0) (C0 : Ts0 s0) {B D0 ea : Nat} (hB : s0.heap.size ≤ B) (σ : Sg) (τ : Tt) (c : Nat) (hc : c < 3) (d : Nat) (hd : d < 3) (q : Nat) (hq : σ 4 c = nI q) (hq4 : q < 24) (kp : Nat) (hkp : kp < 5) : CtT l s0 (FC B D0) 3 1 6 y_Ct_write (.code y_Ct_write b_Ct_write 3 none) [.ref (B + (9 + 9 * c)), .ref (B + (2 + 2 * d)), .int (nI kp)] (RepC G B D0 ea σ τ) "java/lang/UnsupportedOperationException" (RepC G B D0 ea (cwr σ c d q kp) τ) := by
  refine CtT.of C cdw_code (by decide) (Nat.le_of_ble_eq_true rfl) ?_
  intro pg ev s mm below meth cd V hr hlk ht hR ls hl
  have hx := V.1
  have hb := V.2.1
  have hS : va_S (FC B D0) s.heap s.heap [] := va_S.rf
  have hF : ∀ q, FC B D0 q → FC B D0 q := fun _ h => h
  have hA : ∀ q, FC B D0 q → s0.heap.size ≤ q := fun q h => by have := hR.1; rcases h with h | h <;> omega
  have hl : lv_has ls 3 [(0, .ref (B + (9 + 9 * c))), (1, .ref (B + (2 + 2 * d))), (2, .int (nI kp))] := hl
  refine lv_aload_n hx hb d_Ct_write_0 rfl (lv_at hl 0 rfl) ?_
  refine lv_dup hx hb d_Ct_write_1 rfl ?_
  refine g_Ct_107 V (hR.2.2.2 _ hc).1 rfl d_Ct_write_2 ?_
  refine lv_iconst (v := 1) hx hb d_Ct_write_5 (by decide) ?_
  refine lv_iadd hx hb d_Ct_write_6 ?_
  refine q_Ct_107 V hR hS hF hc d_Ct_write_7 (fun H locs hR hS => ?_)
  refine lv_aload_n hx hb d_Ct_write_10 rfl (lv_at hl 1 rfl) ?_
  refine lv_aload_n hx hb d_Ct_write_11 rfl (lv_at hl 0 rfl) ?_
  refine g_Ct_33 V (hR.2.2.2 _ hc).1 rfl d_Ct_write_12 ?_
  refine lv_aload_n hx hb d_Ct_write_15 rfl (lv_at hl 0 rfl) ?_
  refine g_Ct_110 V (hR.2.2.2 _ hc).1 rfl d_Ct_write_16 ?_
  refine lv_tope (y := σ 4 c) (by simp [up2, upd]) ?_
  refine lv_tope (y := nI q) hq ?_
  refine g_callS (As := [.int (nI c), .int (nI q)]) (rest := [.ref (B + (2 + 2 * d))]) (A0 := FC B D0) V (c_Dk_block C hB (up2 σ 20 c ((σ 20 c : Int32) + (1 : Int32))) τ (c) (q)) v_Ct_113 hR hS hA (fun _ h => h) ⟨by decide, by decide⟩ rfl hl (Nat.le_of_ble_eq_true rfl) d_Ct_write_19 ⟨by decide, by decide⟩ (kI (fun r19 H locs hQ _ hS => ?_))
  obtain ⟨rfl, hR⟩ := hQ
  refine lv_aload_n hx hb d_Ct_write_22 rfl (lv_at hl 0 rfl) ?_
  refine g_Ct_82 V (hR.2.2.2 _ hc).1 rfl d_Ct_write_23 ?_
  refine lv_tope (y := σ 8 c) (by simp [up2, upd]) ?_
  refine lv_aload_n hx hb d_Ct_write_26 rfl (lv_at hl 0 rfl) ?_
  refine g_Ct_91 V (hR.2.2.2 _ hc).1 rfl d_Ct_write_27 ?_
  refine lv_tope (y := σ 9 c) (by simp [up2, upd]) ?_
  refine lv_aload_n hx hb d_Ct_write_30 rfl (lv_at hl 0 rfl) ?_
  refine g_Ct_97 V (hR.2.2.2 _ hc).1 rfl d_Ct_write_31 ?_
  refine lv_tope (y := σ 10 c) (by simp [up2, upd]) ?_
  refine lv_iload_n hx hb d_Ct_write_34 rfl (lv_at hl 2 rfl) ?_
  refine t_callV (n := 5) (As := [.int (nI (10 * (24 * c + q))), .int (σ 8 c), .int (σ 9 c), .int (σ 10 c), .int (nI kp)]) (rest := []) (A0 := FC B D0) V (t_Dk_write hfl C C0 hB (up2 σ 20 c ((σ 20 c : Int32) + (1 : Int32))) τ d hd (10 * (24 * c + q)) (by omega) (σ 8 c) (σ 9 c) (σ 10 c) kp hkp) cdw_code ⟨List.mem_of_getElem? (i := 602) (by decide +kernel), rfl⟩ (List.mem_of_getElem? (i := 30) (by decide +kernel)) (List.mem_of_getElem? (i := 599) (by decide +kernel)) ⟨List.mem_of_getElem? (i := 600) (by decide +kernel), List.mem_of_getElem? (i := 601) (by decide +kernel)⟩ ⟨by decide, by decide, by decide +kernel⟩ (hR.rDk V.2.2.2.2.2.1 hd) hR hS hA (fun _ h => h) ⟨by decide, by decide⟩ rfl hl (Nat.le_of_ble_eq_true rfl) d_Ct_write_35 ⟨by decide, by decide⟩ (fun x H locs hex hR _ hS => ?_)
  exact wt_leave hlk (out_of ht (by decide)) hS (by decide) (by decide) hex hR
theorem d_Ct_read_0 : decode b_Ct_read 0 = .ok (.aload_n 0, 1) := by decide +kernel
theorem d_Ct_read_1 : decode b_Ct_read 1 = .ok (.dup, 1) := by decide +kernel
theorem d_Ct_read_2 : decode b_Ct_read 2 = .ok (.getfield 107, 3) := by decide +kernel
theorem d_Ct_read_5 : decode b_Ct_read 5 = .ok (.iconst 1, 1) := by decide +kernel
theorem d_Ct_read_6 : decode b_Ct_read 6 = .ok (.iadd, 1) := by decide +kernel
theorem d_Ct_read_7 : decode b_Ct_read 7 = .ok (.putfield 107, 3) := by decide +kernel
theorem d_Ct_read_10 : decode b_Ct_read 10 = .ok (.aload_n 0, 1) := by decide +kernel
theorem d_Ct_read_11 : decode b_Ct_read 11 = .ok (.getfield 68, 3) := by decide +kernel
theorem d_Ct_read_14 : decode b_Ct_read 14 = .ok (.iconst 1, 1) := by decide +kernel
theorem d_Ct_read_15 : decode b_Ct_read 15 = .ok (.isub, 1) := by decide +kernel
theorem d_Ct_read_16 : decode b_Ct_read 16 = .ok (.aload_n 0, 1) := by decide +kernel
theorem d_Ct_read_17 : decode b_Ct_read 17 = .ok (.getfield 33, 3) := by decide +kernel
theorem d_Ct_read_20 : decode b_Ct_read 20 = .ok (.if_icmp .ge 12, 3) := by decide +kernel
theorem d_Ct_read_23 : decode b_Ct_read 23 = .ok (.aload_n 0, 1) := by decide +kernel
theorem d_Ct_read_24 : decode b_Ct_read 24 = .ok (.getfield 68, 3) := by decide +kernel
theorem d_Ct_read_27 : decode b_Ct_read 27 = .ok (.iconst 1, 1) := by decide +kernel
theorem d_Ct_read_28 : decode b_Ct_read 28 = .ok (.isub, 1) := by decide +kernel
theorem d_Ct_read_29 : decode b_Ct_read 29 = .ok (.goto 7, 3) := by decide +kernel
theorem d_Ct_read_32 : decode b_Ct_read 32 = .ok (.aload_n 0, 1) := by decide +kernel
theorem d_Ct_read_33 : decode b_Ct_read 33 = .ok (.getfield 68, 3) := by decide +kernel
theorem d_Ct_read_36 : decode b_Ct_read 36 = .ok (.istore_n 2, 1) := by decide +kernel
theorem d_Ct_read_37 : decode b_Ct_read 37 = .ok (.aload_n 1, 1) := by decide +kernel
theorem d_Ct_read_38 : decode b_Ct_read 38 = .ok (.iload_n 2, 1) := by decide +kernel
theorem d_Ct_read_39 : decode b_Ct_read 39 = .ok (.aload_n 0, 1) := by decide +kernel
theorem d_Ct_read_40 : decode b_Ct_read 40 = .ok (.getfield 110, 3) := by decide +kernel
theorem d_Ct_read_43 : decode b_Ct_read 43 = .ok (.invokestatic 113, 3) := by decide +kernel
theorem d_Ct_read_46 : decode b_Ct_read 46 = .ok (.invokevirtual 122, 3) := by decide +kernel
theorem d_Ct_read_49 : decode b_Ct_read 49 = .ok (.istore_n 3, 1) := by decide +kernel
theorem d_Ct_read_50 : decode b_Ct_read 50 = .ok (.aload_n 0, 1) := by decide +kernel
theorem d_Ct_read_51 : decode b_Ct_read 51 = .ok (.dup, 1) := by decide +kernel
theorem d_Ct_read_52 : decode b_Ct_read 52 = .ok (.getfield 68, 3) := by decide +kernel
theorem d_Ct_read_55 : decode b_Ct_read 55 = .ok (.iconst 1, 1) := by decide +kernel
theorem d_Ct_read_56 : decode b_Ct_read 56 = .ok (.iadd, 1) := by decide +kernel
theorem d_Ct_read_57 : decode b_Ct_read 57 = .ok (.putfield 68, 3) := by decide +kernel
theorem d_Ct_read_60 : decode b_Ct_read 60 = .ok (.iload_n 3, 1) := by decide +kernel
theorem d_Ct_read_61 : decode b_Ct_read 61 = .ok (.iconst (-1), 1) := by decide +kernel
theorem d_Ct_read_62 : decode b_Ct_read 62 = .ok (.if_icmp .ne 5, 3) := by decide +kernel
theorem d_Ct_read_65 : decode b_Ct_read 65 = .ok (.iconst 1, 1) := by decide +kernel
theorem d_Ct_read_66 : decode b_Ct_read 66 = .ok (.ireturn, 1) := by decide +kernel
set_option maxHeartbeats 4000000 in
set_option maxRecDepth 100000 in
theorem c_Ct_read_n {l : Launch} {G : Gx} {s0 : State} (C : Cx G s0) {B D0 ea : Nat} (hB : s0.heap.size ≤ B) (σ : Sg) (τ : Tt) (c : Nat) (hc : c < 3) (d : Nat) (hd : d < 3) (q : Nat) (hq : σ 4 c = nI q) (hq4 : q < 24) (sp : Nat) (hsp : σ 25 c = nI sp) (h1sp : 1 ≤ sp) (hs2 : sp ≤ 2) (hT : ltI σ d (10 * (24 * who c sp + q)) = -1) : Ct l s0 (FC B D0) 2 0 0 y_Ct_read b_Ct_read 4 (some .boolean) [.ref (B + (9 + 9 * c)), .ref (B + (2 + 2 * d))] (RepC G B D0 ea σ τ) (pI (fun r H => r = 1 ∧ RepC G B D0 ea (cr1 σ c sp) τ H)) := by
  refine Ct.of C (by decide) (Nat.le_of_ble_eq_true rfl) ?_
  intro pg ev s mm below meth cd V hr hlk hn hR ls hl
  have hx := V.1
  have hb := V.2.1
  have hS : va_S (FC B D0) s.heap s.heap [] := va_S.rf
  have hF : ∀ q, FC B D0 q → FC B D0 q := fun _ h => h
  have hA : ∀ q, FC B D0 q → s0.heap.size ≤ q := fun q h => by have := hR.1; rcases h with h | h <;> omega
  have hl : lv_has ls 4 [(0, .ref (B + (9 + 9 * c))), (1, .ref (B + (2 + 2 * d)))] := hl
  have hw3 : who c sp < 3 := by unfold who; split <;> omega
  have hW : ltI σ d (10 * (24 * who c sp + q)) = -1 := hT
  refine lv_aload_n hx hb d_Ct_read_0 rfl (lv_at hl 0 rfl) ?_
  refine lv_dup hx hb d_Ct_read_1 rfl ?_
  refine g_Ct_107 V (hR.2.2.2 _ hc).1 rfl d_Ct_read_2 ?_
  refine lv_iconst (v := 1) hx hb d_Ct_read_5 (by decide) ?_
  refine lv_iadd hx hb d_Ct_read_6 ?_
  refine q_Ct_107 V hR hS hF hc d_Ct_read_7 (fun H locs hR hS => ?_)
  refine lv_aload_n hx hb d_Ct_read_10 rfl (lv_at hl 0 rfl) ?_
  refine g_Ct_68 V (hR.2.2.2 _ hc).1 rfl d_Ct_read_11 ?_
  refine lv_tope (y := σ 25 c) (by simp [up2, upd]) ?_
  refine lv_tope (y := nI sp) hsp ?_
  refine lv_iconst (v := 1) hx hb d_Ct_read_14 (by decide) ?_
  refine lv_isub hx hb d_Ct_read_15 ?_
  refine lv_tope (y := nI (sp - 1)) (su_e rfl (rfl : (1 : Int32) = nI 1) (by omega)) ?_
  refine lv_aload_n hx hb d_Ct_read_16 rfl (lv_at hl 0 rfl) ?_
  refine g_Ct_33 V (hR.2.2.2 _ hc).1 rfl d_Ct_read_17 ?_
  refine lv_icmp_ge (tgt := 32) hx hb d_Ct_read_20 (by decide) (fun h20 => ?_) (fun h20 => ?_)
  · have h20 : ¬ sp - 1 < c := by have := (nI_leI (by omega) (by omega)).mp h20; omega
    refine lv_aload_n hx hb d_Ct_read_32 rfl (lv_at hl 0 rfl) ?_
    refine g_Ct_68 V (hR.2.2.2 _ hc).1 rfl d_Ct_read_33 ?_
    refine lv_tope (y := σ 25 c) (by simp [up2, upd]) ?_
    refine lv_tope (y := nI sp) hsp ?_
    refine lv_istore_n (lv' := [(2, .int (nI sp)), (0, .ref (B + (9 + 9 * c))), (1, .ref (B + (2 + 2 * d)))]) hx hb d_Ct_read_36 rfl hl (by decide) rfl (fun ls hl => ?_)
    refine lv_aload_n hx hb d_Ct_read_37 rfl (lv_at hl 2 rfl) ?_
    refine lv_iload_n hx hb d_Ct_read_38 rfl (lv_at hl 0 rfl) ?_
    refine lv_aload_n hx hb d_Ct_read_39 rfl (lv_at hl 1 rfl) ?_
    refine g_Ct_110 V (hR.2.2.2 _ hc).1 rfl d_Ct_read_40 ?_
    refine lv_tope (y := σ 4 c) (by simp [up2, upd]) ?_
    refine lv_tope (y := nI q) hq ?_
    refine g_callS (As := [.int (nI sp), .int (nI q)]) (rest := [.ref (B + (2 + 2 * d))]) (A0 := FC B D0) V (c_Dk_block C hB (up2 σ 20 c ((σ 20 c : Int32) + (1 : Int32))) τ (sp) (q)) v_Ct_113 hR hS hA (fun _ h => h) ⟨by decide, by decide⟩ rfl hl (Nat.le_of_ble_eq_true rfl) d_Ct_read_43 ⟨Nat.le_refl _, Nat.le_refl _⟩ (kI (fun r43 H locs hQ _ hS => ?_))
    obtain ⟨rfl, hR⟩ := hQ
    refine g_callV (As := [.int (nI (10 * (24 * sp + q)))]) (rest := []) (A0 := FC B D0) V (c_Dk_latest C hB (up2 σ 20 c ((σ 20 c : Int32) + (1 : Int32))) τ d hd (10 * (24 * sp + q)) (by omega)) v_Ct_122 (hR.rDk V.2.2.2.2.2.1 hd) hR hS hA (fun _ h => h) ⟨by decide, by decide⟩ rfl hl (Nat.le_of_ble_eq_true rfl) d_Ct_read_46 ⟨Nat.le_refl _, Nat.le_refl _⟩ (kI (fun r46 H locs hQ _ hS => ?_))
    obtain ⟨rfl, hR⟩ := hQ
    refine lv_tope (y := -1) (by simpa [ltI, whl, up2, who, h20] using hT) ?_
    refine lv_istore_n (lv' := [(3, .int (-1)), (2, .int (nI sp)), (0, .ref (B + (9 + 9 * c))), (1, .ref (B + (2 + 2 * d)))]) hx hb d_Ct_read_49 rfl hl (by decide) rfl (fun ls hl => ?_)
    refine lv_aload_n hx hb d_Ct_read_50 rfl (lv_at hl 2 rfl) ?_
    refine lv_dup hx hb d_Ct_read_51 rfl ?_
    refine g_Ct_68 V (hR.2.2.2 _ hc).1 rfl d_Ct_read_52 ?_
    refine lv_tope (y := σ 25 c) (by simp [up2, upd]) ?_
    refine lv_tope (y := nI sp) hsp ?_
    refine lv_iconst (v := 1) hx hb d_Ct_read_55 (by decide) ?_
    refine lv_iadd hx hb d_Ct_read_56 ?_
    refine lv_tope (y := nI (sp + 1)) (ad_e (a := sp) (b := 1) rfl (rfl : (1 : Int32) = nI 1)) ?_
    refine q_Ct_68 V hR hS hF hc d_Ct_read_57 (fun H locs hR hS => ?_)
    refine lv_iload_n hx hb d_Ct_read_60 rfl (lv_at hl 0 rfl) ?_
    refine lv_iconst (v := -1) hx hb d_Ct_read_61 (by decide) ?_
    refine lv_icmp_ne (tgt := 67) hx hb d_Ct_read_62 (by decide) (fun h62 => ?_) (fun h62 => ?_)
    · exact absurd (by decide) h62
    · refine lv_iconst (v := 1) hx hb d_Ct_read_65 (by decide) ?_
      exact e_z V hr hlk hS (Nat.le_refl _) (Nat.le_refl _) d_Ct_read_66 (by decide) ⟨_, rfl, rfl, hR⟩
  · have h20 : sp - 1 < c := by
      rcases Nat.lt_or_ge (sp - 1) c with q | q
      · exact q
      · exact absurd (nI_le q (by omega)) h20
    refine lv_aload_n hx hb d_Ct_read_23 rfl (lv_at hl 0 rfl) ?_
    refine g_Ct_68 V (hR.2.2.2 _ hc).1 rfl d_Ct_read_24 ?_
    refine lv_tope (y := σ 25 c) (by simp [up2, upd]) ?_
    refine lv_tope (y := nI sp) hsp ?_
    refine lv_iconst (v := 1) hx hb d_Ct_read_27 (by decide) ?_
    refine lv_isub hx hb d_Ct_read_28 ?_
    refine lv_tope (y := nI (sp - 1)) (su_e rfl (rfl : (1 : Int32) = nI 1) (by omega)) ?_
    refine lv_goto (tgt := 36) hx hb d_Ct_read_29 (by decide) ?_
    refine lv_istore_n (lv' := [(2, .int (nI (sp - 1))), (0, .ref (B + (9 + 9 * c))), (1, .ref (B + (2 + 2 * d)))]) hx hb d_Ct_read_36 rfl hl (by decide) rfl (fun ls hl => ?_)
    refine lv_aload_n hx hb d_Ct_read_37 rfl (lv_at hl 2 rfl) ?_
    refine lv_iload_n hx hb d_Ct_read_38 rfl (lv_at hl 0 rfl) ?_
    refine lv_aload_n hx hb d_Ct_read_39 rfl (lv_at hl 1 rfl) ?_
    refine g_Ct_110 V (hR.2.2.2 _ hc).1 rfl d_Ct_read_40 ?_
    refine lv_tope (y := σ 4 c) (by simp [up2, upd]) ?_
    refine lv_tope (y := nI q) hq ?_
    refine g_callS (As := [.int (nI (sp - 1)), .int (nI q)]) (rest := [.ref (B + (2 + 2 * d))]) (A0 := FC B D0) V (c_Dk_block C hB (up2 σ 20 c ((σ 20 c : Int32) + (1 : Int32))) τ (sp - 1) (q)) v_Ct_113 hR hS hA (fun _ h => h) ⟨by decide, by decide⟩ rfl hl (Nat.le_of_ble_eq_true rfl) d_Ct_read_43 ⟨Nat.le_refl _, Nat.le_refl _⟩ (kI (fun r43 H locs hQ _ hS => ?_))
    obtain ⟨rfl, hR⟩ := hQ
    refine g_callV (As := [.int (nI (10 * (24 * (sp - 1) + q)))]) (rest := []) (A0 := FC B D0) V (c_Dk_latest C hB (up2 σ 20 c ((σ 20 c : Int32) + (1 : Int32))) τ d hd (10 * (24 * (sp - 1) + q)) (by omega)) v_Ct_122 (hR.rDk V.2.2.2.2.2.1 hd) hR hS hA (fun _ h => h) ⟨by decide, by decide⟩ rfl hl (Nat.le_of_ble_eq_true rfl) d_Ct_read_46 ⟨Nat.le_refl _, Nat.le_refl _⟩ (kI (fun r46 H locs hQ _ hS => ?_))
    obtain ⟨rfl, hR⟩ := hQ
    refine lv_tope (y := -1) (by simpa [ltI, whl, up2, who, h20] using hT) ?_
    refine lv_istore_n (lv' := [(3, .int (-1)), (2, .int (nI (sp - 1))), (0, .ref (B + (9 + 9 * c))), (1, .ref (B + (2 + 2 * d)))]) hx hb d_Ct_read_49 rfl hl (by decide) rfl (fun ls hl => ?_)
    refine lv_aload_n hx hb d_Ct_read_50 rfl (lv_at hl 2 rfl) ?_
    refine lv_dup hx hb d_Ct_read_51 rfl ?_
    refine g_Ct_68 V (hR.2.2.2 _ hc).1 rfl d_Ct_read_52 ?_
    refine lv_tope (y := σ 25 c) (by simp [up2, upd]) ?_
    refine lv_tope (y := nI sp) hsp ?_
    refine lv_iconst (v := 1) hx hb d_Ct_read_55 (by decide) ?_
    refine lv_iadd hx hb d_Ct_read_56 ?_
    refine lv_tope (y := nI (sp + 1)) (ad_e (a := sp) (b := 1) rfl (rfl : (1 : Int32) = nI 1)) ?_
    refine q_Ct_68 V hR hS hF hc d_Ct_read_57 (fun H locs hR hS => ?_)
    refine lv_iload_n hx hb d_Ct_read_60 rfl (lv_at hl 0 rfl) ?_
    refine lv_iconst (v := -1) hx hb d_Ct_read_61 (by decide) ?_
    refine lv_icmp_ne (tgt := 67) hx hb d_Ct_read_62 (by decide) (fun h62 => ?_) (fun h62 => ?_)
    · exact absurd (by decide) h62
    · refine lv_iconst (v := 1) hx hb d_Ct_read_65 (by decide) ?_
      exact e_z V hr hlk hS (Nat.le_refl _) (Nat.le_refl _) d_Ct_read_66 (by decide) ⟨_, rfl, rfl, hR⟩
theorem d_Ct_read_67 : decode b_Ct_read 67 = .ok (.aload_n 0, 1) := by decide +kernel
theorem d_Ct_read_68 : decode b_Ct_read 68 = .ok (.aload_n 0, 1) := by decide +kernel
theorem d_Ct_read_69 : decode b_Ct_read 69 = .ok (.getfield 37, 3) := by decide +kernel
theorem d_Ct_read_72 : decode b_Ct_read 72 = .ok (.aload_n 1, 1) := by decide +kernel
theorem d_Ct_read_73 : decode b_Ct_read 73 = .ok (.getfield 126, 3) := by decide +kernel
theorem d_Ct_read_76 : decode b_Ct_read 76 = .ok (.iload_n 3, 1) := by decide +kernel
theorem d_Ct_read_77 : decode b_Ct_read 77 = .ok (.iconst 1, 1) := by decide +kernel
theorem d_Ct_read_78 : decode b_Ct_read 78 = .ok (.iadd, 1) := by decide +kernel
theorem d_Ct_read_79 : decode b_Ct_read 79 = .ok (.iaload, 1) := by decide +kernel
theorem d_Ct_read_80 : decode b_Ct_read 80 = .ok (.invokestatic 85, 3) := by decide +kernel
theorem d_Ct_read_83 : decode b_Ct_read 83 = .ok (.putfield 37, 3) := by decide +kernel
theorem d_Ct_read_86 : decode b_Ct_read 86 = .ok (.aload_n 1, 1) := by decide +kernel
theorem d_Ct_read_87 : decode b_Ct_read 87 = .ok (.getfield 126, 3) := by decide +kernel
theorem d_Ct_read_90 : decode b_Ct_read 90 = .ok (.iload_n 3, 1) := by decide +kernel
theorem d_Ct_read_91 : decode b_Ct_read 91 = .ok (.iconst 2, 1) := by decide +kernel
theorem d_Ct_read_92 : decode b_Ct_read 92 = .ok (.iadd, 1) := by decide +kernel
theorem d_Ct_read_93 : decode b_Ct_read 93 = .ok (.iaload, 1) := by decide +kernel
theorem d_Ct_read_94 : decode b_Ct_read 94 = .ok (.aload_n 0, 1) := by decide +kernel
theorem d_Ct_read_95 : decode b_Ct_read 95 = .ok (.getfield 94, 3) := by decide +kernel
theorem d_Ct_read_98 : decode b_Ct_read 98 = .ok (.if_icmp .le 27, 3) := by decide +kernel
theorem d_Ct_read_101 : decode b_Ct_read 101 = .ok (.aload_n 0, 1) := by decide +kernel
theorem d_Ct_read_102 : decode b_Ct_read 102 = .ok (.aload_n 1, 1) := by decide +kernel
theorem d_Ct_read_103 : decode b_Ct_read 103 = .ok (.getfield 126, 3) := by decide +kernel
theorem d_Ct_read_106 : decode b_Ct_read 106 = .ok (.iload_n 3, 1) := by decide +kernel
theorem d_Ct_read_107 : decode b_Ct_read 107 = .ok (.iconst 2, 1) := by decide +kernel
theorem d_Ct_read_108 : decode b_Ct_read 108 = .ok (.iadd, 1) := by decide +kernel
theorem d_Ct_read_109 : decode b_Ct_read 109 = .ok (.iaload, 1) := by decide +kernel
theorem d_Ct_read_110 : decode b_Ct_read 110 = .ok (.putfield 94, 3) := by decide +kernel
theorem d_Ct_read_113 : decode b_Ct_read 113 = .ok (.aload_n 0, 1) := by decide +kernel
theorem d_Ct_read_114 : decode b_Ct_read 114 = .ok (.aload_n 1, 1) := by decide +kernel
theorem d_Ct_read_115 : decode b_Ct_read 115 = .ok (.getfield 126, 3) := by decide +kernel
theorem d_Ct_read_118 : decode b_Ct_read 118 = .ok (.iload_n 3, 1) := by decide +kernel
theorem d_Ct_read_119 : decode b_Ct_read 119 = .ok (.iconst 3, 1) := by decide +kernel
theorem d_Ct_read_120 : decode b_Ct_read 120 = .ok (.iadd, 1) := by decide +kernel
theorem d_Ct_read_121 : decode b_Ct_read 121 = .ok (.iaload, 1) := by decide +kernel
theorem d_Ct_read_122 : decode b_Ct_read 122 = .ok (.putfield 100, 3) := by decide +kernel
theorem d_Ct_read_125 : decode b_Ct_read 125 = .ok (.aload_n 1, 1) := by decide +kernel
theorem d_Ct_read_126 : decode b_Ct_read 126 = .ok (.getfield 126, 3) := by decide +kernel
theorem d_Ct_read_129 : decode b_Ct_read 129 = .ok (.iload_n 3, 1) := by decide +kernel
theorem d_Ct_read_130 : decode b_Ct_read 130 = .ok (.iconst 1, 1) := by decide +kernel
theorem d_Ct_read_131 : decode b_Ct_read 131 = .ok (.iadd, 1) := by decide +kernel
theorem d_Ct_read_132 : decode b_Ct_read 132 = .ok (.iaload, 1) := by decide +kernel
theorem d_Ct_read_133 : decode b_Ct_read 133 = .ok (.aload_n 0, 1) := by decide +kernel
theorem d_Ct_read_134 : decode b_Ct_read 134 = .ok (.getfield 82, 3) := by decide +kernel
theorem d_Ct_read_137 : decode b_Ct_read 137 = .ok (.if_icmp .gt 7, 3) := by decide +kernel
theorem d_Ct_read_140 : decode b_Ct_read 140 = .ok (.iconst 1, 1) := by decide +kernel
theorem d_Ct_read_141 : decode b_Ct_read 141 = .ok (.goto 4, 3) := by decide +kernel
theorem d_Ct_read_144 : decode b_Ct_read 144 = .ok (.iconst 0, 1) := by decide +kernel
theorem d_Ct_read_145 : decode b_Ct_read 145 = .ok (.ireturn, 1) := by decide +kernel
set_option maxHeartbeats 4000000 in
set_option maxRecDepth 100000 in
theorem c_Ct_read {l : Launch} {G : Gx} {s0 : State} (C : Cx G s0) {B D0 ea : Nat} (hB : s0.heap.size ≤ B) (σ : Sg) (τ : Tt) (c : Nat) (hc : c < 3) (d : Nat) (hd : d < 3) (q : Nat) (hq : σ 4 c = nI q) (hq4 : q < 24) (sp : Nat) (hsp : σ 25 c = nI sp) (h1sp : 1 ≤ sp) (hs2 : sp ≤ 2) (t : Nat) (ht4 : t + 4 < 720) (hT : ltI σ d (10 * (24 * who c sp + q)) = nI t) : Ct l s0 (FC B D0) 2 0 0 y_Ct_read b_Ct_read 4 (some .boolean) [.ref (B + (9 + 9 * c)), .ref (B + (2 + 2 * d))] (RepC G B D0 ea σ τ) (pI (fun r H => r = bI (!decide (σ 8 c < σ 1 (720 * d + (t + 1)))) ∧ RepC G B D0 ea (cr2 σ c d sp t) τ H)) := by
  refine Ct.of C (by decide) (Nat.le_of_ble_eq_true rfl) ?_
  intro pg ev s mm below meth cd V hr hlk hn hR ls hl
  have hx := V.1
  have hb := V.2.1
  have hS : va_S (FC B D0) s.heap s.heap [] := va_S.rf
  have hF : ∀ q, FC B D0 q → FC B D0 q := fun _ h => h
  have hA : ∀ q, FC B D0 q → s0.heap.size ≤ q := fun q h => by have := hR.1; rcases h with h | h <;> omega
  have hl : lv_has ls 4 [(0, .ref (B + (9 + 9 * c))), (1, .ref (B + (2 + 2 * d)))] := hl
  have hw3 : who c sp < 3 := by unfold who; split <;> omega
  have hW : ltI σ d (10 * (24 * who c sp + q)) = nI t := hT
  refine lv_aload_n hx hb d_Ct_read_0 rfl (lv_at hl 0 rfl) ?_
  refine lv_dup hx hb d_Ct_read_1 rfl ?_
  refine g_Ct_107 V (hR.2.2.2 _ hc).1 rfl d_Ct_read_2 ?_
  refine lv_iconst (v := 1) hx hb d_Ct_read_5 (by decide) ?_
  refine lv_iadd hx hb d_Ct_read_6 ?_
  refine q_Ct_107 V hR hS hF hc d_Ct_read_7 (fun H locs hR hS => ?_)
  refine lv_aload_n hx hb d_Ct_read_10 rfl (lv_at hl 0 rfl) ?_
  refine g_Ct_68 V (hR.2.2.2 _ hc).1 rfl d_Ct_read_11 ?_
  refine lv_tope (y := σ 25 c) (by simp [up2, upd]) ?_
  refine lv_tope (y := nI sp) hsp ?_
  refine lv_iconst (v := 1) hx hb d_Ct_read_14 (by decide) ?_
  refine lv_isub hx hb d_Ct_read_15 ?_
  refine lv_tope (y := nI (sp - 1)) (su_e rfl (rfl : (1 : Int32) = nI 1) (by omega)) ?_
  refine lv_aload_n hx hb d_Ct_read_16 rfl (lv_at hl 0 rfl) ?_
  refine g_Ct_33 V (hR.2.2.2 _ hc).1 rfl d_Ct_read_17 ?_
  refine lv_icmp_ge (tgt := 32) hx hb d_Ct_read_20 (by decide) (fun h20 => ?_) (fun h20 => ?_)
  · have h20 : ¬ sp - 1 < c := by have := (nI_leI (by omega) (by omega)).mp h20; omega
    refine lv_aload_n hx hb d_Ct_read_32 rfl (lv_at hl 0 rfl) ?_
    refine g_Ct_68 V (hR.2.2.2 _ hc).1 rfl d_Ct_read_33 ?_
    refine lv_tope (y := σ 25 c) (by simp [up2, upd]) ?_
    refine lv_tope (y := nI sp) hsp ?_
    refine lv_istore_n (lv' := [(2, .int (nI sp)), (0, .ref (B + (9 + 9 * c))), (1, .ref (B + (2 + 2 * d)))]) hx hb d_Ct_read_36 rfl hl (by decide) rfl (fun ls hl => ?_)
    refine lv_aload_n hx hb d_Ct_read_37 rfl (lv_at hl 2 rfl) ?_
    refine lv_iload_n hx hb d_Ct_read_38 rfl (lv_at hl 0 rfl) ?_
    refine lv_aload_n hx hb d_Ct_read_39 rfl (lv_at hl 1 rfl) ?_
    refine g_Ct_110 V (hR.2.2.2 _ hc).1 rfl d_Ct_read_40 ?_
    refine lv_tope (y := σ 4 c) (by simp [up2, upd]) ?_
    refine lv_tope (y := nI q) hq ?_
    refine g_callS (As := [.int (nI sp), .int (nI q)]) (rest := [.ref (B + (2 + 2 * d))]) (A0 := FC B D0) V (c_Dk_block C hB (up2 σ 20 c ((σ 20 c : Int32) + (1 : Int32))) τ (sp) (q)) v_Ct_113 hR hS hA (fun _ h => h) ⟨by decide, by decide⟩ rfl hl (Nat.le_of_ble_eq_true rfl) d_Ct_read_43 ⟨Nat.le_refl _, Nat.le_refl _⟩ (kI (fun r43 H locs hQ _ hS => ?_))
    obtain ⟨rfl, hR⟩ := hQ
    refine g_callV (As := [.int (nI (10 * (24 * sp + q)))]) (rest := []) (A0 := FC B D0) V (c_Dk_latest C hB (up2 σ 20 c ((σ 20 c : Int32) + (1 : Int32))) τ d hd (10 * (24 * sp + q)) (by omega)) v_Ct_122 (hR.rDk V.2.2.2.2.2.1 hd) hR hS hA (fun _ h => h) ⟨by decide, by decide⟩ rfl hl (Nat.le_of_ble_eq_true rfl) d_Ct_read_46 ⟨Nat.le_refl _, Nat.le_refl _⟩ (kI (fun r46 H locs hQ _ hS => ?_))
    obtain ⟨rfl, hR⟩ := hQ
    refine lv_tope (y := nI t) (by simpa [ltI, whl, up2, who, h20] using hT) ?_
    refine lv_istore_n (lv' := [(3, .int (nI t)), (2, .int (nI sp)), (0, .ref (B + (9 + 9 * c))), (1, .ref (B + (2 + 2 * d)))]) hx hb d_Ct_read_49 rfl hl (by decide) rfl (fun ls hl => ?_)
    refine lv_aload_n hx hb d_Ct_read_50 rfl (lv_at hl 2 rfl) ?_
    refine lv_dup hx hb d_Ct_read_51 rfl ?_
    refine g_Ct_68 V (hR.2.2.2 _ hc).1 rfl d_Ct_read_52 ?_
    refine lv_tope (y := σ 25 c) (by simp [up2, upd]) ?_
    refine lv_tope (y := nI sp) hsp ?_
    refine lv_iconst (v := 1) hx hb d_Ct_read_55 (by decide) ?_
    refine lv_iadd hx hb d_Ct_read_56 ?_
    refine lv_tope (y := nI (sp + 1)) (ad_e (a := sp) (b := 1) rfl (rfl : (1 : Int32) = nI 1)) ?_
    refine q_Ct_68 V hR hS hF hc d_Ct_read_57 (fun H locs hR hS => ?_)
    refine lv_iload_n hx hb d_Ct_read_60 rfl (lv_at hl 0 rfl) ?_
    refine lv_iconst (v := -1) hx hb d_Ct_read_61 (by decide) ?_
    refine lv_icmp_ne (tgt := 67) hx hb d_Ct_read_62 (by decide) (fun h62 => ?_) (fun h62 => ?_)
    · refine lv_aload_n hx hb d_Ct_read_67 rfl (lv_at hl 2 rfl) ?_
      refine lv_aload_n hx hb d_Ct_read_68 rfl (lv_at hl 2 rfl) ?_
      refine g_Ct_37 V (hR.2.2.2 _ hc).1 rfl d_Ct_read_69 ?_
      refine lv_tope (y := σ 13 c) (by simp [up2, upd]) ?_
      refine lv_aload_n hx hb d_Ct_read_72 rfl (lv_at hl 3 rfl) ?_
      refine g_Ct_126 V (hR.2.2.1 _ hd).1 rfl d_Ct_read_73 ?_
      refine lv_iload_n hx hb d_Ct_read_76 rfl (lv_at hl 0 rfl) ?_
      refine lv_iconst (v := 1) hx hb d_Ct_read_77 (by decide) ?_
      refine lv_iadd hx hb d_Ct_read_78 ?_
      refine lv_tope (y := nI (t + 1)) (ad_e (a := t) (b := 1) rfl (rfl : (1 : Int32) = nI 1)) ?_
      refine c_wld V hR hd (t + 1) rfl (by omega) d_Ct_read_79 ?_
      refine lv_tope (y := σ 1 (720 * d + (t + 1))) (by simp [up2, upd]) ?_
      refine x_max V (List.mem_of_getElem? (i := 583) (by decide +kernel)) hl (Nat.le_of_ble_eq_true rfl) ⟨by decide, by decide⟩ (Nat.zero_le _) (Nat.zero_le _) d_Ct_read_80 ?_
      refine q_Ct_37 V hR hS hF hc d_Ct_read_83 (fun H locs hR hS => ?_)
      refine lv_aload_n hx hb d_Ct_read_86 rfl (lv_at hl 3 rfl) ?_
      refine g_Ct_126 V (hR.2.2.1 _ hd).1 rfl d_Ct_read_87 ?_
      refine lv_iload_n hx hb d_Ct_read_90 rfl (lv_at hl 0 rfl) ?_
      refine lv_iconst (v := 2) hx hb d_Ct_read_91 (by decide) ?_
      refine lv_iadd hx hb d_Ct_read_92 ?_
      refine lv_tope (y := nI (t + 2)) (ad_e (a := t) (b := 2) rfl (rfl : (2 : Int32) = nI 2)) ?_
      refine c_wld V hR hd (t + 2) rfl (by omega) d_Ct_read_93 ?_
      refine lv_tope (y := σ 1 (720 * d + (t + 2))) (by simp [up2, upd]) ?_
      refine lv_aload_n hx hb d_Ct_read_94 rfl (lv_at hl 2 rfl) ?_
      refine g_Ct_94 V (hR.2.2.2 _ hc).1 rfl d_Ct_read_95 ?_
      refine lv_tope (y := σ 18 c) (by simp [up2, upd]) ?_
      refine lv_icmp_le (tgt := 125) hx hb d_Ct_read_98 (by decide) (fun h98 => ?_) (fun h98 => ?_)
      · refine lv_aload_n hx hb d_Ct_read_125 rfl (lv_at hl 3 rfl) ?_
        refine g_Ct_126 V (hR.2.2.1 _ hd).1 rfl d_Ct_read_126 ?_
        refine lv_iload_n hx hb d_Ct_read_129 rfl (lv_at hl 0 rfl) ?_
        refine lv_iconst (v := 1) hx hb d_Ct_read_130 (by decide) ?_
        refine lv_iadd hx hb d_Ct_read_131 ?_
        refine lv_tope (y := nI (t + 1)) (ad_e (a := t) (b := 1) rfl (rfl : (1 : Int32) = nI 1)) ?_
        refine c_wld V hR hd (t + 1) rfl (by omega) d_Ct_read_132 ?_
        refine lv_tope (y := σ 1 (720 * d + (t + 1))) (by simp [up2, upd]) ?_
        refine lv_aload_n hx hb d_Ct_read_133 rfl (lv_at hl 2 rfl) ?_
        refine g_Ct_82 V (hR.2.2.2 _ hc).1 rfl d_Ct_read_134 ?_
        refine lv_tope (y := σ 8 c) (by simp [up2, upd]) ?_
        refine lv_icmp_gt (tgt := 144) hx hb d_Ct_read_137 (by decide) (fun h137 => ?_) (fun h137 => ?_)
        · refine lv_iconst (v := 0) hx hb d_Ct_read_144 (by decide) ?_
          exact e_z V hr hlk hS (Nat.le_refl _) (Nat.le_refl _) d_Ct_read_145 (by decide) ⟨_, rfl, by simp [bI, h20, h62, h98, h137], by rw [show cr2 σ c d sp t = (up2 (up2 (up2 σ 20 c ((σ 20 c : Int32) + (1 : Int32))) 25 c (nI (sp + 1))) 13 c (mx (σ 13 c) (σ 1 (720 * d + (t + 1))))) from by simp [cr2, cr1, h98]]; exact hR⟩
        · refine lv_iconst (v := 1) hx hb d_Ct_read_140 (by decide) ?_
          refine lv_goto (tgt := 145) hx hb d_Ct_read_141 (by decide) ?_
          exact e_z V hr hlk hS (Nat.le_refl _) (Nat.le_refl _) d_Ct_read_145 (by decide) ⟨_, rfl, by simp [bI, h20, h62, h98, h137], by rw [show cr2 σ c d sp t = (up2 (up2 (up2 σ 20 c ((σ 20 c : Int32) + (1 : Int32))) 25 c (nI (sp + 1))) 13 c (mx (σ 13 c) (σ 1 (720 * d + (t + 1))))) from by simp [cr2, cr1, h98]]; exact hR⟩
      · refine lv_aload_n hx hb d_Ct_read_101 rfl (lv_at hl 2 rfl) ?_
        refine lv_aload_n hx hb d_Ct_read_102 rfl (lv_at hl 3 rfl) ?_
        refine g_Ct_126 V (hR.2.2.1 _ hd).1 rfl d_Ct_read_103 ?_
        refine lv_iload_n hx hb d_Ct_read_106 rfl (lv_at hl 0 rfl) ?_
        refine lv_iconst (v := 2) hx hb d_Ct_read_107 (by decide) ?_
        refine lv_iadd hx hb d_Ct_read_108 ?_
        refine lv_tope (y := nI (t + 2)) (ad_e (a := t) (b := 2) rfl (rfl : (2 : Int32) = nI 2)) ?_
        refine c_wld V hR hd (t + 2) rfl (by omega) d_Ct_read_109 ?_
        refine lv_tope (y := σ 1 (720 * d + (t + 2))) (by simp [up2, upd]) ?_
        refine q_Ct_94 V hR hS hF hc d_Ct_read_110 (fun H locs hR hS => ?_)
        refine lv_aload_n hx hb d_Ct_read_113 rfl (lv_at hl 2 rfl) ?_
        refine lv_aload_n hx hb d_Ct_read_114 rfl (lv_at hl 3 rfl) ?_
        refine g_Ct_126 V (hR.2.2.1 _ hd).1 rfl d_Ct_read_115 ?_
        refine lv_iload_n hx hb d_Ct_read_118 rfl (lv_at hl 0 rfl) ?_
        refine lv_iconst (v := 3) hx hb d_Ct_read_119 (by decide) ?_
        refine lv_iadd hx hb d_Ct_read_120 ?_
        refine lv_tope (y := nI (t + 3)) (ad_e (a := t) (b := 3) rfl (rfl : (3 : Int32) = nI 3)) ?_
        refine c_wld V hR hd (t + 3) rfl (by omega) d_Ct_read_121 ?_
        refine lv_tope (y := σ 1 (720 * d + (t + 3))) (by simp [up2, upd]) ?_
        refine q_Ct_100 V hR hS hF hc d_Ct_read_122 (fun H locs hR hS => ?_)
        refine lv_aload_n hx hb d_Ct_read_125 rfl (lv_at hl 3 rfl) ?_
        refine g_Ct_126 V (hR.2.2.1 _ hd).1 rfl d_Ct_read_126 ?_
        refine lv_iload_n hx hb d_Ct_read_129 rfl (lv_at hl 0 rfl) ?_
        refine lv_iconst (v := 1) hx hb d_Ct_read_130 (by decide) ?_
        refine lv_iadd hx hb d_Ct_read_131 ?_
        refine lv_tope (y := nI (t + 1)) (ad_e (a := t) (b := 1) rfl (rfl : (1 : Int32) = nI 1)) ?_
        refine c_wld V hR hd (t + 1) rfl (by omega) d_Ct_read_132 ?_
        refine lv_tope (y := σ 1 (720 * d + (t + 1))) (by simp [up2, upd]) ?_
        refine lv_aload_n hx hb d_Ct_read_133 rfl (lv_at hl 2 rfl) ?_
        refine g_Ct_82 V (hR.2.2.2 _ hc).1 rfl d_Ct_read_134 ?_
        refine lv_tope (y := σ 8 c) (by simp [up2, upd]) ?_
        refine lv_icmp_gt (tgt := 144) hx hb d_Ct_read_137 (by decide) (fun h137 => ?_) (fun h137 => ?_)
        · refine lv_iconst (v := 0) hx hb d_Ct_read_144 (by decide) ?_
          exact e_z V hr hlk hS (Nat.le_refl _) (Nat.le_refl _) d_Ct_read_145 (by decide) ⟨_, rfl, by simp [bI, h20, h62, h98, h137], by rw [show cr2 σ c d sp t = (up2 (up2 (up2 (up2 (up2 σ 20 c ((σ 20 c : Int32) + (1 : Int32))) 25 c (nI (sp + 1))) 13 c (mx (σ 13 c) (σ 1 (720 * d + (t + 1))))) 18 c (σ 1 (720 * d + (t + 2)))) 19 c (σ 1 (720 * d + (t + 3)))) from by simp [cr2, cr1, h98]]; exact hR⟩
        · refine lv_iconst (v := 1) hx hb d_Ct_read_140 (by decide) ?_
          refine lv_goto (tgt := 145) hx hb d_Ct_read_141 (by decide) ?_
          exact e_z V hr hlk hS (Nat.le_refl _) (Nat.le_refl _) d_Ct_read_145 (by decide) ⟨_, rfl, by simp [bI, h20, h62, h98, h137], by rw [show cr2 σ c d sp t = (up2 (up2 (up2 (up2 (up2 σ 20 c ((σ 20 c : Int32) + (1 : Int32))) 25 c (nI (sp + 1))) 13 c (mx (σ 13 c) (σ 1 (720 * d + (t + 1))))) 18 c (σ 1 (720 * d + (t + 2)))) 19 c (σ 1 (720 * d + (t + 3)))) from by simp [cr2, cr1, h98]]; exact hR⟩
    · exact absurd h62.symm (m1_ne (by omega))
  · have h20 : sp - 1 < c := by
      rcases Nat.lt_or_ge (sp - 1) c with q | q
      · exact q
      · exact absurd (nI_le q (by omega)) h20
    refine lv_aload_n hx hb d_Ct_read_23 rfl (lv_at hl 0 rfl) ?_
    refine g_Ct_68 V (hR.2.2.2 _ hc).1 rfl d_Ct_read_24 ?_
    refine lv_tope (y := σ 25 c) (by simp [up2, upd]) ?_
    refine lv_tope (y := nI sp) hsp ?_
    refine lv_iconst (v := 1) hx hb d_Ct_read_27 (by decide) ?_
    refine lv_isub hx hb d_Ct_read_28 ?_
    refine lv_tope (y := nI (sp - 1)) (su_e rfl (rfl : (1 : Int32) = nI 1) (by omega)) ?_
    refine lv_goto (tgt := 36) hx hb d_Ct_read_29 (by decide) ?_
    refine lv_istore_n (lv' := [(2, .int (nI (sp - 1))), (0, .ref (B + (9 + 9 * c))), (1, .ref (B + (2 + 2 * d)))]) hx hb d_Ct_read_36 rfl hl (by decide) rfl (fun ls hl => ?_)
    refine lv_aload_n hx hb d_Ct_read_37 rfl (lv_at hl 2 rfl) ?_
    refine lv_iload_n hx hb d_Ct_read_38 rfl (lv_at hl 0 rfl) ?_
    refine lv_aload_n hx hb d_Ct_read_39 rfl (lv_at hl 1 rfl) ?_
    refine g_Ct_110 V (hR.2.2.2 _ hc).1 rfl d_Ct_read_40 ?_
    refine lv_tope (y := σ 4 c) (by simp [up2, upd]) ?_
    refine lv_tope (y := nI q) hq ?_
    refine g_callS (As := [.int (nI (sp - 1)), .int (nI q)]) (rest := [.ref (B + (2 + 2 * d))]) (A0 := FC B D0) V (c_Dk_block C hB (up2 σ 20 c ((σ 20 c : Int32) + (1 : Int32))) τ (sp - 1) (q)) v_Ct_113 hR hS hA (fun _ h => h) ⟨by decide, by decide⟩ rfl hl (Nat.le_of_ble_eq_true rfl) d_Ct_read_43 ⟨Nat.le_refl _, Nat.le_refl _⟩ (kI (fun r43 H locs hQ _ hS => ?_))
    obtain ⟨rfl, hR⟩ := hQ
    refine g_callV (As := [.int (nI (10 * (24 * (sp - 1) + q)))]) (rest := []) (A0 := FC B D0) V (c_Dk_latest C hB (up2 σ 20 c ((σ 20 c : Int32) + (1 : Int32))) τ d hd (10 * (24 * (sp - 1) + q)) (by omega)) v_Ct_122 (hR.rDk V.2.2.2.2.2.1 hd) hR hS hA (fun _ h => h) ⟨by decide, by decide⟩ rfl hl (Nat.le_of_ble_eq_true rfl) d_Ct_read_46 ⟨Nat.le_refl _, Nat.le_refl _⟩ (kI (fun r46 H locs hQ _ hS => ?_))
    obtain ⟨rfl, hR⟩ := hQ
    refine lv_tope (y := nI t) (by simpa [ltI, whl, up2, who, h20] using hT) ?_
    refine lv_istore_n (lv' := [(3, .int (nI t)), (2, .int (nI (sp - 1))), (0, .ref (B + (9 + 9 * c))), (1, .ref (B + (2 + 2 * d)))]) hx hb d_Ct_read_49 rfl hl (by decide) rfl (fun ls hl => ?_)
    refine lv_aload_n hx hb d_Ct_read_50 rfl (lv_at hl 2 rfl) ?_
    refine lv_dup hx hb d_Ct_read_51 rfl ?_
    refine g_Ct_68 V (hR.2.2.2 _ hc).1 rfl d_Ct_read_52 ?_
    refine lv_tope (y := σ 25 c) (by simp [up2, upd]) ?_
    refine lv_tope (y := nI sp) hsp ?_
    refine lv_iconst (v := 1) hx hb d_Ct_read_55 (by decide) ?_
    refine lv_iadd hx hb d_Ct_read_56 ?_
    refine lv_tope (y := nI (sp + 1)) (ad_e (a := sp) (b := 1) rfl (rfl : (1 : Int32) = nI 1)) ?_
    refine q_Ct_68 V hR hS hF hc d_Ct_read_57 (fun H locs hR hS => ?_)
    refine lv_iload_n hx hb d_Ct_read_60 rfl (lv_at hl 0 rfl) ?_
    refine lv_iconst (v := -1) hx hb d_Ct_read_61 (by decide) ?_
    refine lv_icmp_ne (tgt := 67) hx hb d_Ct_read_62 (by decide) (fun h62 => ?_) (fun h62 => ?_)
    · refine lv_aload_n hx hb d_Ct_read_67 rfl (lv_at hl 2 rfl) ?_
      refine lv_aload_n hx hb d_Ct_read_68 rfl (lv_at hl 2 rfl) ?_
      refine g_Ct_37 V (hR.2.2.2 _ hc).1 rfl d_Ct_read_69 ?_
      refine lv_tope (y := σ 13 c) (by simp [up2, upd]) ?_
      refine lv_aload_n hx hb d_Ct_read_72 rfl (lv_at hl 3 rfl) ?_
      refine g_Ct_126 V (hR.2.2.1 _ hd).1 rfl d_Ct_read_73 ?_
      refine lv_iload_n hx hb d_Ct_read_76 rfl (lv_at hl 0 rfl) ?_
      refine lv_iconst (v := 1) hx hb d_Ct_read_77 (by decide) ?_
      refine lv_iadd hx hb d_Ct_read_78 ?_
      refine lv_tope (y := nI (t + 1)) (ad_e (a := t) (b := 1) rfl (rfl : (1 : Int32) = nI 1)) ?_
      refine c_wld V hR hd (t + 1) rfl (by omega) d_Ct_read_79 ?_
      refine lv_tope (y := σ 1 (720 * d + (t + 1))) (by simp [up2, upd]) ?_
      refine x_max V (List.mem_of_getElem? (i := 583) (by decide +kernel)) hl (Nat.le_of_ble_eq_true rfl) ⟨by decide, by decide⟩ (Nat.zero_le _) (Nat.zero_le _) d_Ct_read_80 ?_
      refine q_Ct_37 V hR hS hF hc d_Ct_read_83 (fun H locs hR hS => ?_)
      refine lv_aload_n hx hb d_Ct_read_86 rfl (lv_at hl 3 rfl) ?_
      refine g_Ct_126 V (hR.2.2.1 _ hd).1 rfl d_Ct_read_87 ?_
      refine lv_iload_n hx hb d_Ct_read_90 rfl (lv_at hl 0 rfl) ?_
      refine lv_iconst (v := 2) hx hb d_Ct_read_91 (by decide) ?_
      refine lv_iadd hx hb d_Ct_read_92 ?_
      refine lv_tope (y := nI (t + 2)) (ad_e (a := t) (b := 2) rfl (rfl : (2 : Int32) = nI 2)) ?_
      refine c_wld V hR hd (t + 2) rfl (by omega) d_Ct_read_93 ?_
      refine lv_tope (y := σ 1 (720 * d + (t + 2))) (by simp [up2, upd]) ?_
      refine lv_aload_n hx hb d_Ct_read_94 rfl (lv_at hl 2 rfl) ?_
      refine g_Ct_94 V (hR.2.2.2 _ hc).1 rfl d_Ct_read_95 ?_
      refine lv_tope (y := σ 18 c) (by simp [up2, upd]) ?_
      refine lv_icmp_le (tgt := 125) hx hb d_Ct_read_98 (by decide) (fun h98 => ?_) (fun h98 => ?_)
      · refine lv_aload_n hx hb d_Ct_read_125 rfl (lv_at hl 3 rfl) ?_
        refine g_Ct_126 V (hR.2.2.1 _ hd).1 rfl d_Ct_read_126 ?_
        refine lv_iload_n hx hb d_Ct_read_129 rfl (lv_at hl 0 rfl) ?_
        refine lv_iconst (v := 1) hx hb d_Ct_read_130 (by decide) ?_
        refine lv_iadd hx hb d_Ct_read_131 ?_
        refine lv_tope (y := nI (t + 1)) (ad_e (a := t) (b := 1) rfl (rfl : (1 : Int32) = nI 1)) ?_
        refine c_wld V hR hd (t + 1) rfl (by omega) d_Ct_read_132 ?_
        refine lv_tope (y := σ 1 (720 * d + (t + 1))) (by simp [up2, upd]) ?_
        refine lv_aload_n hx hb d_Ct_read_133 rfl (lv_at hl 2 rfl) ?_
        refine g_Ct_82 V (hR.2.2.2 _ hc).1 rfl d_Ct_read_134 ?_
        refine lv_tope (y := σ 8 c) (by simp [up2, upd]) ?_
        refine lv_icmp_gt (tgt := 144) hx hb d_Ct_read_137 (by decide) (fun h137 => ?_) (fun h137 => ?_)
        · refine lv_iconst (v := 0) hx hb d_Ct_read_144 (by decide) ?_
          exact e_z V hr hlk hS (Nat.le_refl _) (Nat.le_refl _) d_Ct_read_145 (by decide) ⟨_, rfl, by simp [bI, h20, h62, h98, h137], by rw [show cr2 σ c d sp t = (up2 (up2 (up2 σ 20 c ((σ 20 c : Int32) + (1 : Int32))) 25 c (nI (sp + 1))) 13 c (mx (σ 13 c) (σ 1 (720 * d + (t + 1))))) from by simp [cr2, cr1, h98]]; exact hR⟩
        · refine lv_iconst (v := 1) hx hb d_Ct_read_140 (by decide) ?_
          refine lv_goto (tgt := 145) hx hb d_Ct_read_141 (by decide) ?_
          exact e_z V hr hlk hS (Nat.le_refl _) (Nat.le_refl _) d_Ct_read_145 (by decide) ⟨_, rfl, by simp [bI, h20, h62, h98, h137], by rw [show cr2 σ c d sp t = (up2 (up2 (up2 σ 20 c ((σ 20 c : Int32) + (1 : Int32))) 25 c (nI (sp + 1))) 13 c (mx (σ 13 c) (σ 1 (720 * d + (t + 1))))) from by simp [cr2, cr1, h98]]; exact hR⟩
      · refine lv_aload_n hx hb d_Ct_read_101 rfl (lv_at hl 2 rfl) ?_
        refine lv_aload_n hx hb d_Ct_read_102 rfl (lv_at hl 3 rfl) ?_
        refine g_Ct_126 V (hR.2.2.1 _ hd).1 rfl d_Ct_read_103 ?_
        refine lv_iload_n hx hb d_Ct_read_106 rfl (lv_at hl 0 rfl) ?_
        refine lv_iconst (v := 2) hx hb d_Ct_read_107 (by decide) ?_
        refine lv_iadd hx hb d_Ct_read_108 ?_
        refine lv_tope (y := nI (t + 2)) (ad_e (a := t) (b := 2) rfl (rfl : (2 : Int32) = nI 2)) ?_
        refine c_wld V hR hd (t + 2) rfl (by omega) d_Ct_read_109 ?_
        refine lv_tope (y := σ 1 (720 * d + (t + 2))) (by simp [up2, upd]) ?_
        refine q_Ct_94 V hR hS hF hc d_Ct_read_110 (fun H locs hR hS => ?_)
        refine lv_aload_n hx hb d_Ct_read_113 rfl (lv_at hl 2 rfl) ?_
        refine lv_aload_n hx hb d_Ct_read_114 rfl (lv_at hl 3 rfl) ?_
        refine g_Ct_126 V (hR.2.2.1 _ hd).1 rfl d_Ct_read_115 ?_
        refine lv_iload_n hx hb d_Ct_read_118 rfl (lv_at hl 0 rfl) ?_
        refine lv_iconst (v := 3) hx hb d_Ct_read_119 (by decide) ?_
        refine lv_iadd hx hb d_Ct_read_120 ?_
        refine lv_tope (y := nI (t + 3)) (ad_e (a := t) (b := 3) rfl (rfl : (3 : Int32) = nI 3)) ?_
        refine c_wld V hR hd (t + 3) rfl (by omega) d_Ct_read_121 ?_
        refine lv_tope (y := σ 1 (720 * d + (t + 3))) (by simp [up2, upd]) ?_
        refine q_Ct_100 V hR hS hF hc d_Ct_read_122 (fun H locs hR hS => ?_)
        refine lv_aload_n hx hb d_Ct_read_125 rfl (lv_at hl 3 rfl) ?_
        refine g_Ct_126 V (hR.2.2.1 _ hd).1 rfl d_Ct_read_126 ?_
        refine lv_iload_n hx hb d_Ct_read_129 rfl (lv_at hl 0 rfl) ?_
        refine lv_iconst (v := 1) hx hb d_Ct_read_130 (by decide) ?_
        refine lv_iadd hx hb d_Ct_read_131 ?_
        refine lv_tope (y := nI (t + 1)) (ad_e (a := t) (b := 1) rfl (rfl : (1 : Int32) = nI 1)) ?_
        refine c_wld V hR hd (t + 1) rfl (by omega) d_Ct_read_132 ?_
        refine lv_tope (y := σ 1 (720 * d + (t + 1))) (by simp [up2, upd]) ?_
        refine lv_aload_n hx hb d_Ct_read_133 rfl (lv_at hl 2 rfl) ?_
        refine g_Ct_82 V (hR.2.2.2 _ hc).1 rfl d_Ct_read_134 ?_
        refine lv_tope (y := σ 8 c) (by simp [up2, upd]) ?_
        refine lv_icmp_gt (tgt := 144) hx hb d_Ct_read_137 (by decide) (fun h137 => ?_) (fun h137 => ?_)
        · refine lv_iconst (v := 0) hx hb d_Ct_read_144 (by decide) ?_
          exact e_z V hr hlk hS (Nat.le_refl _) (Nat.le_refl _) d_Ct_read_145 (by decide) ⟨_, rfl, by simp [bI, h20, h62, h98, h137], by rw [show cr2 σ c d sp t = (up2 (up2 (up2 (up2 (up2 σ 20 c ((σ 20 c : Int32) + (1 : Int32))) 25 c (nI (sp + 1))) 13 c (mx (σ 13 c) (σ 1 (720 * d + (t + 1))))) 18 c (σ 1 (720 * d + (t + 2)))) 19 c (σ 1 (720 * d + (t + 3)))) from by simp [cr2, cr1, h98]]; exact hR⟩
        · refine lv_iconst (v := 1) hx hb d_Ct_read_140 (by decide) ?_
          refine lv_goto (tgt := 145) hx hb d_Ct_read_141 (by decide) ?_
          exact e_z V hr hlk hS (Nat.le_refl _) (Nat.le_refl _) d_Ct_read_145 (by decide) ⟨_, rfl, by simp [bI, h20, h62, h98, h137], by rw [show cr2 σ c d sp t = (up2 (up2 (up2 (up2 (up2 σ 20 c ((σ 20 c : Int32) + (1 : Int32))) 25 c (nI (sp + 1))) 13 c (mx (σ 13 c) (σ 1 (720 * d + (t + 1))))) 18 c (σ 1 (720 * d + (t + 2)))) 19 c (σ 1 (720 * d + (t + 3)))) from by simp [cr2, cr1, h98]]; exact hR⟩
    · exact absurd h62.symm (m1_ne (by omega))
