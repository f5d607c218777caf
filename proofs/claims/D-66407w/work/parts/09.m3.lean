theorem d_Mo_write_0 : decode b_Mo_write 0 = .ok (.aload_n 0, 1) := by decide +kernel
theorem d_Mo_write_1 : decode b_Mo_write 1 = .ok (.getfield 50, 3) := by decide +kernel
theorem d_Mo_write_4 : decode b_Mo_write 4 = .ok (.iload_n 1, 1) := by decide +kernel
theorem d_Mo_write_5 : decode b_Mo_write 5 = .ok (.iaload, 1) := by decide +kernel
theorem d_Mo_write_6 : decode b_Mo_write 6 = .ok (.iload_n 1, 1) := by decide +kernel
theorem d_Mo_write_7 : decode b_Mo_write 7 = .ok (.aload_n 0, 1) := by decide +kernel
theorem d_Mo_write_8 : decode b_Mo_write 8 = .ok (.getfield 20, 3) := by decide +kernel
theorem d_Mo_write_11 : decode b_Mo_write 11 = .ok (.iload_n 1, 1) := by decide +kernel
theorem d_Mo_write_12 : decode b_Mo_write 12 = .ok (.iaload, 1) := by decide +kernel
theorem d_Mo_write_13 : decode b_Mo_write 13 = .ok (.invokestatic 105, 3) := by decide +kernel
theorem d_Mo_write_16 : decode b_Mo_write 16 = .ok (.istore_n 3, 1) := by decide +kernel
theorem d_Mo_write_17 : decode b_Mo_write 17 = .ok (.aload_n 0, 1) := by decide +kernel
theorem d_Mo_write_18 : decode b_Mo_write 18 = .ok (.iload_n 3, 1) := by decide +kernel
theorem d_Mo_write_19 : decode b_Mo_write 19 = .ok (.invokevirtual 109, 3) := by decide +kernel
theorem d_Mo_write_22 : decode b_Mo_write 22 = .ok (.istore 4, 2) := by decide +kernel
theorem d_Mo_write_24 : decode b_Mo_write 24 = .ok (.iload 4, 2) := by decide +kernel
theorem d_Mo_write_26 : decode b_Mo_write 26 = .ok (.iload_n 3, 1) := by decide +kernel
theorem d_Mo_write_27 : decode b_Mo_write 27 = .ok (.if_icmp .ne 9, 3) := by decide +kernel
theorem d_Mo_write_30 : decode b_Mo_write 30 = .ok (.iload_n 3, 1) := by decide +kernel
theorem d_Mo_write_31 : decode b_Mo_write 31 = .ok (.iconst 5, 1) := by decide +kernel
theorem d_Mo_write_32 : decode b_Mo_write 32 = .ok (.iadd, 1) := by decide +kernel
theorem d_Mo_write_33 : decode b_Mo_write 33 = .ok (.goto 4, 3) := by decide +kernel
theorem d_Mo_write_36 : decode b_Mo_write 36 = .ok (.iload_n 3, 1) := by decide +kernel
theorem d_Mo_write_37 : decode b_Mo_write 37 = .ok (.istore 5, 2) := by decide +kernel
theorem d_Mo_write_39 : decode b_Mo_write 39 = .ok (.iload 4, 2) := by decide +kernel
theorem d_Mo_write_41 : decode b_Mo_write 41 = .ok (.ifCond .ge 7, 3) := by decide +kernel
theorem d_Mo_write_44 : decode b_Mo_write 44 = .ok (.iconst 1, 1) := by decide +kernel
theorem d_Mo_write_45 : decode b_Mo_write 45 = .ok (.goto 12, 3) := by decide +kernel
theorem d_Mo_write_48 : decode b_Mo_write 48 = .ok (.aload_n 0, 1) := by decide +kernel
theorem d_Mo_write_49 : decode b_Mo_write 49 = .ok (.getfield 7, 3) := by decide +kernel
theorem d_Mo_write_52 : decode b_Mo_write 52 = .ok (.iload 4, 2) := by decide +kernel
theorem d_Mo_write_54 : decode b_Mo_write 54 = .ok (.iaload, 1) := by decide +kernel
theorem d_Mo_write_55 : decode b_Mo_write 55 = .ok (.iconst 1, 1) := by decide +kernel
theorem d_Mo_write_56 : decode b_Mo_write 56 = .ok (.iadd, 1) := by decide +kernel
theorem d_Mo_write_57 : decode b_Mo_write 57 = .ok (.istore 6, 2) := by decide +kernel
theorem d_Mo_write_59 : decode b_Mo_write 59 = .ok (.iconst 0, 1) := by decide +kernel
theorem d_Mo_write_60 : decode b_Mo_write 60 = .ok (.istore 7, 2) := by decide +kernel
theorem d_Mo_write_62 : decode b_Mo_write 62 = .ok (.iload 7, 2) := by decide +kernel
theorem d_Mo_write_64 : decode b_Mo_write 64 = .ok (.iload_n 2, 1) := by decide +kernel
theorem d_Mo_write_65 : decode b_Mo_write 65 = .ok (.if_icmp .ge 66, 3) := by decide +kernel
theorem d_Mo_write_68 : decode b_Mo_write 68 = .ok (.aload_n 0, 1) := by decide +kernel
theorem d_Mo_write_69 : decode b_Mo_write 69 = .ok (.getfield 7, 3) := by decide +kernel
theorem d_Mo_write_72 : decode b_Mo_write 72 = .ok (.iload 5, 2) := by decide +kernel
theorem d_Mo_write_74 : decode b_Mo_write 74 = .ok (.iload 7, 2) := by decide +kernel
theorem d_Mo_write_76 : decode b_Mo_write 76 = .ok (.iadd, 1) := by decide +kernel
theorem d_Mo_write_77 : decode b_Mo_write 77 = .ok (.iload 7, 2) := by decide +kernel
theorem d_Mo_write_79 : decode b_Mo_write 79 = .ok (.iconst 1, 1) := by decide +kernel
theorem d_Mo_write_80 : decode b_Mo_write 80 = .ok (.if_icmp .ne 12, 3) := by decide +kernel
theorem d_Mo_write_83 : decode b_Mo_write 83 = .ok (.aload_n 0, 1) := by decide +kernel
theorem d_Mo_write_84 : decode b_Mo_write 84 = .ok (.getfield 32, 3) := by decide +kernel
theorem d_Mo_write_87 : decode b_Mo_write 87 = .ok (.iload_n 1, 1) := by decide +kernel
theorem d_Mo_write_88 : decode b_Mo_write 88 = .ok (.iaload, 1) := by decide +kernel
theorem d_Mo_write_89 : decode b_Mo_write 89 = .ok (.goto 35, 3) := by decide +kernel
theorem d_Mo_write_92 : decode b_Mo_write 92 = .ok (.iload 7, 2) := by decide +kernel
theorem d_Mo_write_94 : decode b_Mo_write 94 = .ok (.iconst 2, 1) := by decide +kernel
theorem d_Mo_write_95 : decode b_Mo_write 95 = .ok (.if_icmp .ne 12, 3) := by decide +kernel
theorem d_Mo_write_98 : decode b_Mo_write 98 = .ok (.aload_n 0, 1) := by decide +kernel
theorem d_Mo_write_99 : decode b_Mo_write 99 = .ok (.getfield 35, 3) := by decide +kernel
theorem d_Mo_write_102 : decode b_Mo_write 102 = .ok (.iload_n 1, 1) := by decide +kernel
theorem d_Mo_write_103 : decode b_Mo_write 103 = .ok (.iaload, 1) := by decide +kernel
theorem d_Mo_write_104 : decode b_Mo_write 104 = .ok (.goto 20, 3) := by decide +kernel
theorem d_Mo_write_107 : decode b_Mo_write 107 = .ok (.iload 7, 2) := by decide +kernel
theorem d_Mo_write_109 : decode b_Mo_write 109 = .ok (.iconst 3, 1) := by decide +kernel
theorem d_Mo_write_110 : decode b_Mo_write 110 = .ok (.if_icmp .ne 12, 3) := by decide +kernel
theorem d_Mo_write_113 : decode b_Mo_write 113 = .ok (.aload_n 0, 1) := by decide +kernel
theorem d_Mo_write_114 : decode b_Mo_write 114 = .ok (.getfield 38, 3) := by decide +kernel
theorem d_Mo_write_117 : decode b_Mo_write 117 = .ok (.iload_n 1, 1) := by decide +kernel
theorem d_Mo_write_118 : decode b_Mo_write 118 = .ok (.iaload, 1) := by decide +kernel
theorem d_Mo_write_119 : decode b_Mo_write 119 = .ok (.goto 5, 3) := by decide +kernel
theorem d_Mo_write_122 : decode b_Mo_write 122 = .ok (.iload 6, 2) := by decide +kernel
theorem d_Mo_write_124 : decode b_Mo_write 124 = .ok (.iastore, 1) := by decide +kernel
theorem d_Mo_write_125 : decode b_Mo_write 125 = .ok (.iinc 7 1, 3) := by decide +kernel
theorem d_Mo_write_128 : decode b_Mo_write 128 = .ok (.goto (-66), 3) := by decide +kernel
theorem d_Mo_write_131 : decode b_Mo_write 131 = .ok (.aload_n 0, 1) := by decide +kernel
theorem d_Mo_write_132 : decode b_Mo_write 132 = .ok (.getfield 68, 3) := by decide +kernel
theorem d_Mo_write_135 : decode b_Mo_write 135 = .ok (.iload_n 1, 1) := by decide +kernel
theorem d_Mo_write_136 : decode b_Mo_write 136 = .ok (.dup2, 1) := by decide +kernel
theorem d_Mo_write_137 : decode b_Mo_write 137 = .ok (.iaload, 1) := by decide +kernel
theorem d_Mo_write_138 : decode b_Mo_write 138 = .ok (.iconst 1, 1) := by decide +kernel
theorem d_Mo_write_139 : decode b_Mo_write 139 = .ok (.iadd, 1) := by decide +kernel
theorem d_Mo_write_140 : decode b_Mo_write 140 = .ok (.iastore, 1) := by decide +kernel
theorem d_Mo_write_141 : decode b_Mo_write 141 = .ok (.return_, 1) := by decide +kernel
set_option maxHeartbeats 4000000 in
set_option maxRecDepth 100000 in
theorem c_Mo_write {l : Launch} {G : Gx} {s0 : State} (C : Cx G s0) {o : Nat} (ho : s0.heap.size ≤ o) (σ : Sg) (c : Nat) (hc : c < 3) (a q : Nat) (ha : σ 14 c = nI a) (ha3 : a < 3) (hq : σ 4 c = nI q) (hq4 : q < 24) (kp : Nat) (hk5 : kp ≤ 5) : Ct l s0 (FM o) 2 0 0 y_Mo_write b_Mo_write 8 none [.ref (o), .int (nI c), .int (nI kp)] (RepM G o σ) (pV (RepM G o (wrM σ c a q kp))) := by
  refine Ct.of C (by decide) (Nat.le_of_ble_eq_true rfl) ?_
  intro pg ev s mm below meth cd V hr hlk hn hR ls hl
  have hx := V.1
  have hb := V.2.1
  have hS : va_S (FM o) s.heap s.heap [] := va_S.rf
  have hF : ∀ q, FM o q → FM o q := fun _ h => h
  have hA : ∀ q, FM o q → s0.heap.size ≤ q := fun _ h => Nat.le_trans ho h.1
  have hl : lv_has ls 8 [(0, .ref (o)), (1, .int (nI c)), (2, .int (nI kp))] := hl
  have loop : ∀ (t : Nat) (n : Int32), t + 5 ≤ 2160 → slt σ (blk a c q) = t → num σ (blk a c q) = n → ∀ (z k : Nat), k ≤ kp → kp < k + z → ∀ (H : Heap) (locs : List Loc) (ls : Array Slot), RepM G o (wrs σ t n (σ 8 c) (σ 9 c) (σ 10 c) k) H → va_S (FM o) s.heap H locs → lv_has ls 8 [(7, .int (nI k)), (6, .int (n)), (5, .int (nI t)), (0, .ref (o)), (1, .int (nI c)), (2, .int (nI kp))] → W pg l ev (rmx 2 0 0) s mm [.ref (o), .int (nI c), .int (nI kp)].toArray below meth cd H locs 0 0 (MQ below (qR (FM o) (pV (RepM G o (wrM σ c a q kp)))) [.ref (o), .int (nI c), .int (nI kp)].toArray s 0 0 (FM o)) (F0 mm 62 ls []) := by
    intro t n ht et en z
    induction z with
    | zero => intro k h1 h2; omega
    | succ z ih =>
      intro k h1 h2 H locs ls hR hS hl
      refine lv_iload hx hb d_Mo_write_62 (lv_at hl 0 rfl) ?_
      refine lv_iload_n hx hb d_Mo_write_64 rfl (lv_at hl 5 rfl) ?_
      refine lv_icmp_ge (tgt := 131) hx hb d_Mo_write_65 (by decide) (fun h65 => ?_) (fun h65 => ?_)
      · obtain rfl : k = kp := by have := (nI_leI (by omega) (by omega)).mp h65; omega
        refine lv_aload_n hx hb d_Mo_write_131 rfl (lv_at hl 3 rfl) ?_
        refine rm_ga V hR 20 (by decide) (by decide) d_Mo_write_132 ?_
        refine lv_iload_n hx hb d_Mo_write_135 rfl (lv_at hl 4 rfl) ?_
        refine lv_dup2_11 hx hb d_Mo_write_136 rfl rfl ?_
        refine rm_ld V hR 20 ⟨by decide, by decide, rfl⟩ (n := 3) ⟨rfl, by decide⟩ (c) rfl (by omega) d_Mo_write_137 ?_
        refine lv_tope (y := σ 20 c) (by rw [wrs_ne (by decide)]) ?_
        refine lv_iconst (v := 1) hx hb d_Mo_write_138 (by decide) ?_
        refine lv_iadd hx hb d_Mo_write_139 ?_
        refine rm_st V hR hS hF 20 ⟨by decide, by decide, rfl⟩ (n := 3) ⟨rfl, by decide⟩ (c) rfl (by omega) d_Mo_write_140 (fun H locs hR hS => ?_)
        exact e_v V hr hlk hS (Nat.le_refl _) (Nat.le_refl _) d_Mo_write_141 ⟨rfl, by unfold wrM; rw [et, en]; exact hR⟩
      · have hkp : k < kp := by
          rcases Nat.lt_or_ge k kp with q | q
          · exact q
          · exact absurd (nI_le q (by omega)) h65
        refine lv_aload_n hx hb d_Mo_write_68 rfl (lv_at hl 3 rfl) ?_
        refine rm_ga V hR 1 (by decide) (by decide) d_Mo_write_69 ?_
        refine lv_iload hx hb d_Mo_write_72 (lv_at hl 2 rfl) ?_
        refine lv_iload hx hb d_Mo_write_74 (lv_at hl 0 rfl) ?_
        refine lv_iadd hx hb d_Mo_write_76 ?_
        refine lv_tope (y := nI (t + k)) (ad_e rfl rfl) ?_
        refine lv_iload hx hb d_Mo_write_77 (lv_at hl 0 rfl) ?_
        refine lv_iconst (v := 1) hx hb d_Mo_write_79 (by decide) ?_
        refine lv_icmp_ne (tgt := 92) hx hb d_Mo_write_80 (by decide) (fun h80 => ?_) (fun h80 => ?_)
        · refine lv_iload hx hb d_Mo_write_92 (lv_at hl 0 rfl) ?_
          refine lv_iconst (v := 2) hx hb d_Mo_write_94 (by decide) ?_
          refine lv_icmp_ne (tgt := 107) hx hb d_Mo_write_95 (by decide) (fun h95 => ?_) (fun h95 => ?_)
          · refine lv_iload hx hb d_Mo_write_107 (lv_at hl 0 rfl) ?_
            refine lv_iconst (v := 3) hx hb d_Mo_write_109 (by decide) ?_
            refine lv_icmp_ne (tgt := 122) hx hb d_Mo_write_110 (by decide) (fun h110 => ?_) (fun h110 => ?_)
            · refine lv_iload hx hb d_Mo_write_122 (lv_at hl 1 rfl) ?_
              refine rm_st V hR hS hF 1 ⟨by decide, by decide, rfl⟩ (n := 2160) ⟨rfl, by decide⟩ (t + k) rfl (by omega) d_Mo_write_124 (fun H locs hR hS => ?_)
              refine lv_iinc (v := nI (k + 1)) (lv' := [(7, .int (nI (k + 1))), (6, .int (n)), (5, .int (nI t)), (0, .ref (o)), (1, .int (nI c)), (2, .int (nI kp))]) hx hb d_Mo_write_125 hl (k := 0) rfl (ad_e rfl (rfl : (1 : Int32) = nI 1)) (by decide) rfl (fun ls hl => ?_)
              refine lv_goto (tgt := 62) hx hb d_Mo_write_128 (by decide) ?_
              have g80 : ¬ k = 1 := fun q => h80 (by rw [q]; rfl)
              have g95 : ¬ k = 2 := fun q => h95 (by rw [q]; rfl)
              have g110 : ¬ k = 3 := fun q => h110 (by rw [q]; rfl)
              exact ih (k + 1) (by omega) (by omega) _ _ ls (by rw [wrs, show wv n (σ 8 c) (σ 9 c) (σ 10 c) k = n from by simp [wv, g80, g95, g110]]; exact hR) hS (lv_sub hl [0, 1, 2, 3, 4, 5] rfl)
            · refine lv_aload_n hx hb d_Mo_write_113 rfl (lv_at hl 3 rfl) ?_
              refine rm_ga V hR 10 (by decide) (by decide) d_Mo_write_114 ?_
              refine lv_iload_n hx hb d_Mo_write_117 rfl (lv_at hl 4 rfl) ?_
              refine rm_ld V hR 10 ⟨by decide, by decide, rfl⟩ (n := 3) ⟨rfl, by decide⟩ (c) rfl (by omega) d_Mo_write_118 ?_
              refine lv_tope (y := σ 10 c) (by rw [wrs_ne (by decide)]) ?_
              refine lv_goto (tgt := 124) hx hb d_Mo_write_119 (by decide) ?_
              refine rm_st V hR hS hF 1 ⟨by decide, by decide, rfl⟩ (n := 2160) ⟨rfl, by decide⟩ (t + k) rfl (by omega) d_Mo_write_124 (fun H locs hR hS => ?_)
              refine lv_iinc (v := nI (k + 1)) (lv' := [(7, .int (nI (k + 1))), (6, .int (n)), (5, .int (nI t)), (0, .ref (o)), (1, .int (nI c)), (2, .int (nI kp))]) hx hb d_Mo_write_125 hl (k := 0) rfl (ad_e rfl (rfl : (1 : Int32) = nI 1)) (by decide) rfl (fun ls hl => ?_)
              refine lv_goto (tgt := 62) hx hb d_Mo_write_128 (by decide) ?_
              have g80 : ¬ k = 1 := fun q => h80 (by rw [q]; rfl)
              have g95 : ¬ k = 2 := fun q => h95 (by rw [q]; rfl)
              have g110 : k = 3 := (nI_eq (b := 3) (by omega) (by decide)).mp h110
              exact ih (k + 1) (by omega) (by omega) _ _ ls (by rw [wrs, show wv n (σ 8 c) (σ 9 c) (σ 10 c) k = σ 10 c from by simp [wv, g80, g95, g110]]; exact hR) hS (lv_sub hl [0, 1, 2, 3, 4, 5] rfl)
          · refine lv_aload_n hx hb d_Mo_write_98 rfl (lv_at hl 3 rfl) ?_
            refine rm_ga V hR 9 (by decide) (by decide) d_Mo_write_99 ?_
            refine lv_iload_n hx hb d_Mo_write_102 rfl (lv_at hl 4 rfl) ?_
            refine rm_ld V hR 9 ⟨by decide, by decide, rfl⟩ (n := 3) ⟨rfl, by decide⟩ (c) rfl (by omega) d_Mo_write_103 ?_
            refine lv_tope (y := σ 9 c) (by rw [wrs_ne (by decide)]) ?_
            refine lv_goto (tgt := 124) hx hb d_Mo_write_104 (by decide) ?_
            refine rm_st V hR hS hF 1 ⟨by decide, by decide, rfl⟩ (n := 2160) ⟨rfl, by decide⟩ (t + k) rfl (by omega) d_Mo_write_124 (fun H locs hR hS => ?_)
            refine lv_iinc (v := nI (k + 1)) (lv' := [(7, .int (nI (k + 1))), (6, .int (n)), (5, .int (nI t)), (0, .ref (o)), (1, .int (nI c)), (2, .int (nI kp))]) hx hb d_Mo_write_125 hl (k := 0) rfl (ad_e rfl (rfl : (1 : Int32) = nI 1)) (by decide) rfl (fun ls hl => ?_)
            refine lv_goto (tgt := 62) hx hb d_Mo_write_128 (by decide) ?_
            have g80 : ¬ k = 1 := fun q => h80 (by rw [q]; rfl)
            have g95 : k = 2 := (nI_eq (b := 2) (by omega) (by decide)).mp h95
            exact ih (k + 1) (by omega) (by omega) _ _ ls (by rw [wrs, show wv n (σ 8 c) (σ 9 c) (σ 10 c) k = σ 9 c from by simp [wv, g80, g95]]; exact hR) hS (lv_sub hl [0, 1, 2, 3, 4, 5] rfl)
        · refine lv_aload_n hx hb d_Mo_write_83 rfl (lv_at hl 3 rfl) ?_
          refine rm_ga V hR 8 (by decide) (by decide) d_Mo_write_84 ?_
          refine lv_iload_n hx hb d_Mo_write_87 rfl (lv_at hl 4 rfl) ?_
          refine rm_ld V hR 8 ⟨by decide, by decide, rfl⟩ (n := 3) ⟨rfl, by decide⟩ (c) rfl (by omega) d_Mo_write_88 ?_
          refine lv_tope (y := σ 8 c) (by rw [wrs_ne (by decide)]) ?_
          refine lv_goto (tgt := 124) hx hb d_Mo_write_89 (by decide) ?_
          refine rm_st V hR hS hF 1 ⟨by decide, by decide, rfl⟩ (n := 2160) ⟨rfl, by decide⟩ (t + k) rfl (by omega) d_Mo_write_124 (fun H locs hR hS => ?_)
          refine lv_iinc (v := nI (k + 1)) (lv' := [(7, .int (nI (k + 1))), (6, .int (n)), (5, .int (nI t)), (0, .ref (o)), (1, .int (nI c)), (2, .int (nI kp))]) hx hb d_Mo_write_125 hl (k := 0) rfl (ad_e rfl (rfl : (1 : Int32) = nI 1)) (by decide) rfl (fun ls hl => ?_)
          refine lv_goto (tgt := 62) hx hb d_Mo_write_128 (by decide) ?_
          have g80 : k = 1 := (nI_eq (b := 1) (by omega) (by decide)).mp h80
          exact ih (k + 1) (by omega) (by omega) _ _ ls (by rw [wrs, show wv n (σ 8 c) (σ 9 c) (σ 10 c) k = σ 8 c from by simp [wv, g80]]; exact hR) hS (lv_sub hl [0, 1, 2, 3, 4, 5] rfl)
  rcases nwt_c σ (10 * (24 * (3 * a + c) + q)) with hN | hN | hN
  · refine lv_aload_n hx hb d_Mo_write_0 rfl (lv_at hl 0 rfl) ?_
    refine rm_ga V hR 14 (by decide) (by decide) d_Mo_write_1 ?_
    refine lv_iload_n hx hb d_Mo_write_4 rfl (lv_at hl 1 rfl) ?_
    refine rm_ld V hR 14 ⟨by decide, by decide, rfl⟩ (n := 3) ⟨rfl, by decide⟩ (c) rfl (by omega) d_Mo_write_5 ?_
    refine lv_tope (y := nI a) ha ?_
    refine lv_iload_n hx hb d_Mo_write_6 rfl (lv_at hl 1 rfl) ?_
    refine lv_aload_n hx hb d_Mo_write_7 rfl (lv_at hl 0 rfl) ?_
    refine rm_ga V hR 4 (by decide) (by decide) d_Mo_write_8 ?_
    refine lv_iload_n hx hb d_Mo_write_11 rfl (lv_at hl 1 rfl) ?_
    refine rm_ld V hR 4 ⟨by decide, by decide, rfl⟩ (n := 3) ⟨rfl, by decide⟩ (c) rfl (by omega) d_Mo_write_12 ?_
    refine lv_tope (y := nI q) hq ?_
    refine g_callS (As := [.int (nI a), .int (nI c), .int (nI q)]) (rest := []) (A0 := FM o) V (c_Mo_block C ho σ (a) (c) (q)) v_Mo_105 hR hS hA (fun _ h => h) ⟨by decide, by decide⟩ rfl hl (Nat.le_of_ble_eq_true rfl) d_Mo_write_13 ⟨Nat.le_refl _, Nat.le_refl _⟩ (kI (fun r13 H locs hQ _ hS => ?_))
    obtain ⟨rfl, hR⟩ := hQ
    refine lv_istore_n (lv' := [(3, .int (nI (10 * (24 * (3 * a + c) + q)))), (0, .ref (o)), (1, .int (nI c)), (2, .int (nI kp))]) hx hb d_Mo_write_16 rfl hl (by decide) rfl (fun ls hl => ?_)
    refine lv_aload_n hx hb d_Mo_write_17 rfl (lv_at hl 1 rfl) ?_
    refine lv_iload_n hx hb d_Mo_write_18 rfl (lv_at hl 0 rfl) ?_
    refine g_callV (As := [.int (nI (10 * (24 * (3 * a + c) + q)))]) (rest := []) (A0 := FM o) V (c_Mo_newest C ho σ (10 * (24 * (3 * a + c) + q)) (by omega)) v_Mo_109 (hR.recv V.2.2.2.2.2.1) hR hS hA (fun _ h => h) ⟨by decide, by decide⟩ rfl hl (Nat.le_of_ble_eq_true rfl) d_Mo_write_19 ⟨Nat.le_refl _, Nat.le_refl _⟩ (kI (fun r19 H locs hQ _ hS => ?_))
    obtain ⟨rfl, hR⟩ := hQ
    refine lv_tope (y := -1) (by rw [hN]; rfl) ?_
    refine lv_istore (lv' := [(4, .int (-1)), (3, .int (nI (10 * (24 * (3 * a + c) + q)))), (0, .ref (o)), (1, .int (nI c)), (2, .int (nI kp))]) hx hb d_Mo_write_22 hl (by decide) rfl (fun ls hl => ?_)
    refine lv_iload hx hb d_Mo_write_24 (lv_at hl 0 rfl) ?_
    refine lv_iload_n hx hb d_Mo_write_26 rfl (lv_at hl 1 rfl) ?_
    refine lv_icmp_ne (tgt := 36) hx hb d_Mo_write_27 (by decide) (fun h27 => ?_) (fun h27 => ?_)
    · refine lv_iload_n hx hb d_Mo_write_36 rfl (lv_at hl 1 rfl) ?_
      refine lv_istore (lv' := [(5, .int (nI (10 * (24 * (3 * a + c) + q)))), (4, .int (-1)), (3, .int (nI (10 * (24 * (3 * a + c) + q)))), (0, .ref (o)), (1, .int (nI c)), (2, .int (nI kp))]) hx hb d_Mo_write_37 hl (by decide) rfl (fun ls hl => ?_)
      refine lv_iload hx hb d_Mo_write_39 (lv_at hl 1 rfl) ?_
      refine lv_if_ge (tgt := 48) hx hb d_Mo_write_41 (by decide) (fun h41 => ?_) (fun h41 => ?_)
      · exact absurd h41 (by decide)
      · refine lv_iconst (v := 1) hx hb d_Mo_write_44 (by decide) ?_
        refine lv_goto (tgt := 57) hx hb d_Mo_write_45 (by decide) ?_
        refine lv_istore (lv' := [(6, .int (1)), (5, .int (nI (10 * (24 * (3 * a + c) + q)))), (4, .int (-1)), (3, .int (nI (10 * (24 * (3 * a + c) + q)))), (0, .ref (o)), (1, .int (nI c)), (2, .int (nI kp))]) hx hb d_Mo_write_57 hl (by decide) rfl (fun ls hl => ?_)
        refine lv_iconst (v := 0) hx hb d_Mo_write_59 (by decide) ?_
        refine lv_istore (lv' := [(7, .int (0)), (6, .int (1)), (5, .int (nI (10 * (24 * (3 * a + c) + q)))), (4, .int (-1)), (3, .int (nI (10 * (24 * (3 * a + c) + q)))), (0, .ref (o)), (1, .int (nI c)), (2, .int (nI kp))]) hx hb d_Mo_write_60 hl (by decide) rfl (fun ls hl => ?_)
        exact loop (10 * (24 * (3 * a + c) + q)) (1) (by omega) (by simp [slt, blk, hN]) (by simp [num, blk, hN]) (kp + 1) 0 (by omega) (by omega) _ _ ls hR hS (lv_sub hl [0, 1, 2, 5, 6, 7] rfl)
    · exact absurd h27 (m1_ne (by omega))
  · refine lv_aload_n hx hb d_Mo_write_0 rfl (lv_at hl 0 rfl) ?_
    refine rm_ga V hR 14 (by decide) (by decide) d_Mo_write_1 ?_
    refine lv_iload_n hx hb d_Mo_write_4 rfl (lv_at hl 1 rfl) ?_
    refine rm_ld V hR 14 ⟨by decide, by decide, rfl⟩ (n := 3) ⟨rfl, by decide⟩ (c) rfl (by omega) d_Mo_write_5 ?_
    refine lv_tope (y := nI a) ha ?_
    refine lv_iload_n hx hb d_Mo_write_6 rfl (lv_at hl 1 rfl) ?_
    refine lv_aload_n hx hb d_Mo_write_7 rfl (lv_at hl 0 rfl) ?_
    refine rm_ga V hR 4 (by decide) (by decide) d_Mo_write_8 ?_
    refine lv_iload_n hx hb d_Mo_write_11 rfl (lv_at hl 1 rfl) ?_
    refine rm_ld V hR 4 ⟨by decide, by decide, rfl⟩ (n := 3) ⟨rfl, by decide⟩ (c) rfl (by omega) d_Mo_write_12 ?_
    refine lv_tope (y := nI q) hq ?_
    refine g_callS (As := [.int (nI a), .int (nI c), .int (nI q)]) (rest := []) (A0 := FM o) V (c_Mo_block C ho σ (a) (c) (q)) v_Mo_105 hR hS hA (fun _ h => h) ⟨by decide, by decide⟩ rfl hl (Nat.le_of_ble_eq_true rfl) d_Mo_write_13 ⟨Nat.le_refl _, Nat.le_refl _⟩ (kI (fun r13 H locs hQ _ hS => ?_))
    obtain ⟨rfl, hR⟩ := hQ
    refine lv_istore_n (lv' := [(3, .int (nI (10 * (24 * (3 * a + c) + q)))), (0, .ref (o)), (1, .int (nI c)), (2, .int (nI kp))]) hx hb d_Mo_write_16 rfl hl (by decide) rfl (fun ls hl => ?_)
    refine lv_aload_n hx hb d_Mo_write_17 rfl (lv_at hl 1 rfl) ?_
    refine lv_iload_n hx hb d_Mo_write_18 rfl (lv_at hl 0 rfl) ?_
    refine g_callV (As := [.int (nI (10 * (24 * (3 * a + c) + q)))]) (rest := []) (A0 := FM o) V (c_Mo_newest C ho σ (10 * (24 * (3 * a + c) + q)) (by omega)) v_Mo_109 (hR.recv V.2.2.2.2.2.1) hR hS hA (fun _ h => h) ⟨by decide, by decide⟩ rfl hl (Nat.le_of_ble_eq_true rfl) d_Mo_write_19 ⟨Nat.le_refl _, Nat.le_refl _⟩ (kI (fun r19 H locs hQ _ hS => ?_))
    obtain ⟨rfl, hR⟩ := hQ
    refine lv_tope (y := nI (10 * (24 * (3 * a + c) + q))) (by rw [hN]; rfl) ?_
    refine lv_istore (lv' := [(4, .int (nI (10 * (24 * (3 * a + c) + q)))), (3, .int (nI (10 * (24 * (3 * a + c) + q)))), (0, .ref (o)), (1, .int (nI c)), (2, .int (nI kp))]) hx hb d_Mo_write_22 hl (by decide) rfl (fun ls hl => ?_)
    refine lv_iload hx hb d_Mo_write_24 (lv_at hl 0 rfl) ?_
    refine lv_iload_n hx hb d_Mo_write_26 rfl (lv_at hl 1 rfl) ?_
    refine lv_icmp_ne (tgt := 36) hx hb d_Mo_write_27 (by decide) (fun h27 => ?_) (fun h27 => ?_)
    · exact absurd rfl h27
    · refine lv_iload_n hx hb d_Mo_write_30 rfl (lv_at hl 1 rfl) ?_
      refine lv_iconst (v := 5) hx hb d_Mo_write_31 (by decide) ?_
      refine lv_iadd hx hb d_Mo_write_32 ?_
      refine lv_tope (y := nI (10 * (24 * (3 * a + c) + q) + 5)) (ad_e rfl (rfl : (5 : Int32) = nI 5)) ?_
      refine lv_goto (tgt := 37) hx hb d_Mo_write_33 (by decide) ?_
      refine lv_istore (lv' := [(5, .int (nI (10 * (24 * (3 * a + c) + q) + 5))), (4, .int (nI (10 * (24 * (3 * a + c) + q)))), (3, .int (nI (10 * (24 * (3 * a + c) + q)))), (0, .ref (o)), (1, .int (nI c)), (2, .int (nI kp))]) hx hb d_Mo_write_37 hl (by decide) rfl (fun ls hl => ?_)
      refine lv_iload hx hb d_Mo_write_39 (lv_at hl 1 rfl) ?_
      refine lv_if_ge (tgt := 48) hx hb d_Mo_write_41 (by decide) (fun h41 => ?_) (fun h41 => ?_)
      · refine lv_aload_n hx hb d_Mo_write_48 rfl (lv_at hl 3 rfl) ?_
        refine rm_ga V hR 1 (by decide) (by decide) d_Mo_write_49 ?_
        refine lv_iload hx hb d_Mo_write_52 (lv_at hl 1 rfl) ?_
        refine rm_ld V hR 1 ⟨by decide, by decide, rfl⟩ (n := 2160) ⟨rfl, by decide⟩ (10 * (24 * (3 * a + c) + q)) rfl (by omega) d_Mo_write_54 ?_
        refine lv_iconst (v := 1) hx hb d_Mo_write_55 (by decide) ?_
        refine lv_iadd hx hb d_Mo_write_56 ?_
        refine lv_istore (lv' := [(6, .int ((σ 1 (10 * (24 * (3 * a + c) + q)) : Int32) + (1 : Int32))), (5, .int (nI (10 * (24 * (3 * a + c) + q) + 5))), (4, .int (nI (10 * (24 * (3 * a + c) + q)))), (3, .int (nI (10 * (24 * (3 * a + c) + q)))), (0, .ref (o)), (1, .int (nI c)), (2, .int (nI kp))]) hx hb d_Mo_write_57 hl (by decide) rfl (fun ls hl => ?_)
        refine lv_iconst (v := 0) hx hb d_Mo_write_59 (by decide) ?_
        refine lv_istore (lv' := [(7, .int (0)), (6, .int ((σ 1 (10 * (24 * (3 * a + c) + q)) : Int32) + (1 : Int32))), (5, .int (nI (10 * (24 * (3 * a + c) + q) + 5))), (4, .int (nI (10 * (24 * (3 * a + c) + q)))), (3, .int (nI (10 * (24 * (3 * a + c) + q)))), (0, .ref (o)), (1, .int (nI c)), (2, .int (nI kp))]) hx hb d_Mo_write_60 hl (by decide) rfl (fun ls hl => ?_)
        exact loop (10 * (24 * (3 * a + c) + q) + 5) ((σ 1 (10 * (24 * (3 * a + c) + q)) : Int32) + (1 : Int32)) (by omega) (by simp [slt, blk, hN]) (by simp [num, blk, hN]) (kp + 1) 0 (by omega) (by omega) _ _ ls hR hS (lv_sub hl [0, 1, 2, 5, 6, 7] rfl)
      · exact absurd (nI_pos' (by omega)) h41
  · refine lv_aload_n hx hb d_Mo_write_0 rfl (lv_at hl 0 rfl) ?_
    refine rm_ga V hR 14 (by decide) (by decide) d_Mo_write_1 ?_
    refine lv_iload_n hx hb d_Mo_write_4 rfl (lv_at hl 1 rfl) ?_
    refine rm_ld V hR 14 ⟨by decide, by decide, rfl⟩ (n := 3) ⟨rfl, by decide⟩ (c) rfl (by omega) d_Mo_write_5 ?_
    refine lv_tope (y := nI a) ha ?_
    refine lv_iload_n hx hb d_Mo_write_6 rfl (lv_at hl 1 rfl) ?_
    refine lv_aload_n hx hb d_Mo_write_7 rfl (lv_at hl 0 rfl) ?_
    refine rm_ga V hR 4 (by decide) (by decide) d_Mo_write_8 ?_
    refine lv_iload_n hx hb d_Mo_write_11 rfl (lv_at hl 1 rfl) ?_
    refine rm_ld V hR 4 ⟨by decide, by decide, rfl⟩ (n := 3) ⟨rfl, by decide⟩ (c) rfl (by omega) d_Mo_write_12 ?_
    refine lv_tope (y := nI q) hq ?_
    refine g_callS (As := [.int (nI a), .int (nI c), .int (nI q)]) (rest := []) (A0 := FM o) V (c_Mo_block C ho σ (a) (c) (q)) v_Mo_105 hR hS hA (fun _ h => h) ⟨by decide, by decide⟩ rfl hl (Nat.le_of_ble_eq_true rfl) d_Mo_write_13 ⟨Nat.le_refl _, Nat.le_refl _⟩ (kI (fun r13 H locs hQ _ hS => ?_))
    obtain ⟨rfl, hR⟩ := hQ
    refine lv_istore_n (lv' := [(3, .int (nI (10 * (24 * (3 * a + c) + q)))), (0, .ref (o)), (1, .int (nI c)), (2, .int (nI kp))]) hx hb d_Mo_write_16 rfl hl (by decide) rfl (fun ls hl => ?_)
    refine lv_aload_n hx hb d_Mo_write_17 rfl (lv_at hl 1 rfl) ?_
    refine lv_iload_n hx hb d_Mo_write_18 rfl (lv_at hl 0 rfl) ?_
    refine g_callV (As := [.int (nI (10 * (24 * (3 * a + c) + q)))]) (rest := []) (A0 := FM o) V (c_Mo_newest C ho σ (10 * (24 * (3 * a + c) + q)) (by omega)) v_Mo_109 (hR.recv V.2.2.2.2.2.1) hR hS hA (fun _ h => h) ⟨by decide, by decide⟩ rfl hl (Nat.le_of_ble_eq_true rfl) d_Mo_write_19 ⟨Nat.le_refl _, Nat.le_refl _⟩ (kI (fun r19 H locs hQ _ hS => ?_))
    obtain ⟨rfl, hR⟩ := hQ
    refine lv_tope (y := nI (10 * (24 * (3 * a + c) + q) + 5)) (by rw [hN]; rfl) ?_
    refine lv_istore (lv' := [(4, .int (nI (10 * (24 * (3 * a + c) + q) + 5))), (3, .int (nI (10 * (24 * (3 * a + c) + q)))), (0, .ref (o)), (1, .int (nI c)), (2, .int (nI kp))]) hx hb d_Mo_write_22 hl (by decide) rfl (fun ls hl => ?_)
    refine lv_iload hx hb d_Mo_write_24 (lv_at hl 0 rfl) ?_
    refine lv_iload_n hx hb d_Mo_write_26 rfl (lv_at hl 1 rfl) ?_
    refine lv_icmp_ne (tgt := 36) hx hb d_Mo_write_27 (by decide) (fun h27 => ?_) (fun h27 => ?_)
    · refine lv_iload_n hx hb d_Mo_write_36 rfl (lv_at hl 1 rfl) ?_
      refine lv_istore (lv' := [(5, .int (nI (10 * (24 * (3 * a + c) + q)))), (4, .int (nI (10 * (24 * (3 * a + c) + q) + 5))), (3, .int (nI (10 * (24 * (3 * a + c) + q)))), (0, .ref (o)), (1, .int (nI c)), (2, .int (nI kp))]) hx hb d_Mo_write_37 hl (by decide) rfl (fun ls hl => ?_)
      refine lv_iload hx hb d_Mo_write_39 (lv_at hl 1 rfl) ?_
      refine lv_if_ge (tgt := 48) hx hb d_Mo_write_41 (by decide) (fun h41 => ?_) (fun h41 => ?_)
      · refine lv_aload_n hx hb d_Mo_write_48 rfl (lv_at hl 3 rfl) ?_
        refine rm_ga V hR 1 (by decide) (by decide) d_Mo_write_49 ?_
        refine lv_iload hx hb d_Mo_write_52 (lv_at hl 1 rfl) ?_
        refine rm_ld V hR 1 ⟨by decide, by decide, rfl⟩ (n := 2160) ⟨rfl, by decide⟩ (10 * (24 * (3 * a + c) + q) + 5) rfl (by omega) d_Mo_write_54 ?_
        refine lv_iconst (v := 1) hx hb d_Mo_write_55 (by decide) ?_
        refine lv_iadd hx hb d_Mo_write_56 ?_
        refine lv_istore (lv' := [(6, .int ((σ 1 (10 * (24 * (3 * a + c) + q) + 5) : Int32) + (1 : Int32))), (5, .int (nI (10 * (24 * (3 * a + c) + q)))), (4, .int (nI (10 * (24 * (3 * a + c) + q) + 5))), (3, .int (nI (10 * (24 * (3 * a + c) + q)))), (0, .ref (o)), (1, .int (nI c)), (2, .int (nI kp))]) hx hb d_Mo_write_57 hl (by decide) rfl (fun ls hl => ?_)
        refine lv_iconst (v := 0) hx hb d_Mo_write_59 (by decide) ?_
        refine lv_istore (lv' := [(7, .int (0)), (6, .int ((σ 1 (10 * (24 * (3 * a + c) + q) + 5) : Int32) + (1 : Int32))), (5, .int (nI (10 * (24 * (3 * a + c) + q)))), (4, .int (nI (10 * (24 * (3 * a + c) + q) + 5))), (3, .int (nI (10 * (24 * (3 * a + c) + q)))), (0, .ref (o)), (1, .int (nI c)), (2, .int (nI kp))]) hx hb d_Mo_write_60 hl (by decide) rfl (fun ls hl => ?_)
        exact loop (10 * (24 * (3 * a + c) + q)) ((σ 1 (10 * (24 * (3 * a + c) + q) + 5) : Int32) + (1 : Int32)) (by omega) (by simp [slt, blk, hN]) (by simp [num, blk, hN]) (kp + 1) 0 (by omega) (by omega) _ _ ls hR hS (lv_sub hl [0, 1, 2, 5, 6, 7] rfl)
      · exact absurd (nI_pos' (by omega)) h41
    · exact absurd ((nI_eq (by omega) (by omega)).mp h27) (by omega)
theorem d_Mo_begin_0 : decode b_Mo_begin 0 = .ok (.aload_n 0, 1) := by decide +kernel
theorem d_Mo_begin_1 : decode b_Mo_begin 1 = .ok (.iload_n 1, 1) := by decide +kernel
theorem d_Mo_begin_2 : decode b_Mo_begin 2 = .ok (.invokevirtual 112, 3) := by decide +kernel
theorem d_Mo_begin_5 : decode b_Mo_begin 5 = .ok (.istore_n 2, 1) := by decide +kernel
theorem d_Mo_begin_6 : decode b_Mo_begin 6 = .ok (.iload_n 2, 1) := by decide +kernel
theorem d_Mo_begin_7 : decode b_Mo_begin 7 = .ok (.ifCond .ge 5, 3) := by decide +kernel
theorem d_Mo_begin_10 : decode b_Mo_begin 10 = .ok (.iconst 0, 1) := by decide +kernel
theorem d_Mo_begin_11 : decode b_Mo_begin 11 = .ok (.ireturn, 1) := by decide +kernel
theorem d_Mo_begin_12 : decode b_Mo_begin 12 = .ok (.aload_n 0, 1) := by decide +kernel
theorem d_Mo_begin_13 : decode b_Mo_begin 13 = .ok (.iload_n 1, 1) := by decide +kernel
theorem d_Mo_begin_14 : decode b_Mo_begin 14 = .ok (.aload_n 0, 1) := by decide +kernel
theorem d_Mo_begin_15 : decode b_Mo_begin 15 = .ok (.getfield 23, 3) := by decide +kernel
theorem d_Mo_begin_18 : decode b_Mo_begin 18 = .ok (.bipush 60, 2) := by decide +kernel
theorem d_Mo_begin_20 : decode b_Mo_begin 20 = .ok (.iload_n 1, 1) := by decide +kernel
theorem d_Mo_begin_21 : decode b_Mo_begin 21 = .ok (.imul, 1) := by decide +kernel
theorem d_Mo_begin_22 : decode b_Mo_begin 22 = .ok (.iload_n 2, 1) := by decide +kernel
theorem d_Mo_begin_23 : decode b_Mo_begin 23 = .ok (.iadd, 1) := by decide +kernel
theorem d_Mo_begin_24 : decode b_Mo_begin 24 = .ok (.iaload, 1) := by decide +kernel
theorem d_Mo_begin_25 : decode b_Mo_begin 25 = .ok (.invokevirtual 115, 3) := by decide +kernel
theorem d_Mo_begin_28 : decode b_Mo_begin 28 = .ok (.ifCond .ne 17, 3) := by decide +kernel
theorem d_Mo_begin_31 : decode b_Mo_begin 31 = .ok (.aload_n 0, 1) := by decide +kernel
theorem d_Mo_begin_32 : decode b_Mo_begin 32 = .ok (.getfield 26, 3) := by decide +kernel
theorem d_Mo_begin_35 : decode b_Mo_begin 35 = .ok (.bipush 60, 2) := by decide +kernel
theorem d_Mo_begin_37 : decode b_Mo_begin 37 = .ok (.iload_n 1, 1) := by decide +kernel
theorem d_Mo_begin_38 : decode b_Mo_begin 38 = .ok (.imul, 1) := by decide +kernel
theorem d_Mo_begin_39 : decode b_Mo_begin 39 = .ok (.iload_n 2, 1) := by decide +kernel
theorem d_Mo_begin_40 : decode b_Mo_begin 40 = .ok (.iadd, 1) := by decide +kernel
theorem d_Mo_begin_41 : decode b_Mo_begin 41 = .ok (.iconst (-1), 1) := by decide +kernel
theorem d_Mo_begin_42 : decode b_Mo_begin 42 = .ok (.iastore, 1) := by decide +kernel
theorem d_Mo_begin_43 : decode b_Mo_begin 43 = .ok (.iconst 1, 1) := by decide +kernel
theorem d_Mo_begin_44 : decode b_Mo_begin 44 = .ok (.ireturn, 1) := by decide +kernel
theorem d_Mo_begin_45 : decode b_Mo_begin 45 = .ok (.aload_n 0, 1) := by decide +kernel
theorem d_Mo_begin_46 : decode b_Mo_begin 46 = .ok (.getfield 32, 3) := by decide +kernel
theorem d_Mo_begin_49 : decode b_Mo_begin 49 = .ok (.iload_n 1, 1) := by decide +kernel
theorem d_Mo_begin_50 : decode b_Mo_begin 50 = .ok (.iaload, 1) := by decide +kernel
theorem d_Mo_begin_51 : decode b_Mo_begin 51 = .ok (.aload_n 0, 1) := by decide +kernel
theorem d_Mo_begin_52 : decode b_Mo_begin 52 = .ok (.getfield 47, 3) := by decide +kernel
theorem d_Mo_begin_55 : decode b_Mo_begin 55 = .ok (.iload_n 1, 1) := by decide +kernel
theorem d_Mo_begin_56 : decode b_Mo_begin 56 = .ok (.iaload, 1) := by decide +kernel
theorem d_Mo_begin_57 : decode b_Mo_begin 57 = .ok (.if_icmp .le 12, 3) := by decide +kernel
theorem d_Mo_begin_60 : decode b_Mo_begin 60 = .ok (.aload_n 0, 1) := by decide +kernel
theorem d_Mo_begin_61 : decode b_Mo_begin 61 = .ok (.getfield 32, 3) := by decide +kernel
theorem d_Mo_begin_64 : decode b_Mo_begin 64 = .ok (.iload_n 1, 1) := by decide +kernel
theorem d_Mo_begin_65 : decode b_Mo_begin 65 = .ok (.iaload, 1) := by decide +kernel
theorem d_Mo_begin_66 : decode b_Mo_begin 66 = .ok (.goto 9, 3) := by decide +kernel
theorem d_Mo_begin_69 : decode b_Mo_begin 69 = .ok (.aload_n 0, 1) := by decide +kernel
theorem d_Mo_begin_70 : decode b_Mo_begin 70 = .ok (.getfield 47, 3) := by decide +kernel
theorem d_Mo_begin_73 : decode b_Mo_begin 73 = .ok (.iload_n 1, 1) := by decide +kernel
theorem d_Mo_begin_74 : decode b_Mo_begin 74 = .ok (.iaload, 1) := by decide +kernel
theorem d_Mo_begin_75 : decode b_Mo_begin 75 = .ok (.istore_n 3, 1) := by decide +kernel
theorem d_Mo_begin_76 : decode b_Mo_begin 76 = .ok (.iload_n 1, 1) := by decide +kernel
theorem d_Mo_begin_77 : decode b_Mo_begin 77 = .ok (.iconst 1, 1) := by decide +kernel
theorem d_Mo_begin_78 : decode b_Mo_begin 78 = .ok (.iadd, 1) := by decide +kernel
theorem d_Mo_begin_79 : decode b_Mo_begin 79 = .ok (.istore 4, 2) := by decide +kernel
theorem d_Mo_begin_81 : decode b_Mo_begin 81 = .ok (.iload 4, 2) := by decide +kernel
theorem d_Mo_begin_83 : decode b_Mo_begin 83 = .ok (.iload_n 3, 1) := by decide +kernel
theorem d_Mo_begin_84 : decode b_Mo_begin 84 = .ok (.if_icmp .gt 12, 3) := by decide +kernel
theorem d_Mo_begin_87 : decode b_Mo_begin 87 = .ok (.iload 4, 2) := by decide +kernel
theorem d_Mo_begin_89 : decode b_Mo_begin 89 = .ok (.iconst 3, 1) := by decide +kernel
theorem d_Mo_begin_90 : decode b_Mo_begin 90 = .ok (.iadd, 1) := by decide +kernel
theorem d_Mo_begin_91 : decode b_Mo_begin 91 = .ok (.istore 4, 2) := by decide +kernel
theorem d_Mo_begin_93 : decode b_Mo_begin 93 = .ok (.goto (-12), 3) := by decide +kernel
theorem d_Mo_begin_96 : decode b_Mo_begin 96 = .ok (.aload_n 0, 1) := by decide +kernel
theorem d_Mo_begin_97 : decode b_Mo_begin 97 = .ok (.getfield 32, 3) := by decide +kernel
theorem d_Mo_begin_100 : decode b_Mo_begin 100 = .ok (.iload_n 1, 1) := by decide +kernel
theorem d_Mo_begin_101 : decode b_Mo_begin 101 = .ok (.iload 4, 2) := by decide +kernel
theorem d_Mo_begin_103 : decode b_Mo_begin 103 = .ok (.iastore, 1) := by decide +kernel
theorem d_Mo_begin_104 : decode b_Mo_begin 104 = .ok (.aload_n 0, 1) := by decide +kernel
theorem d_Mo_begin_105 : decode b_Mo_begin 105 = .ok (.iload_n 1, 1) := by decide +kernel
theorem d_Mo_begin_106 : decode b_Mo_begin 106 = .ok (.iconst 1, 1) := by decide +kernel
theorem d_Mo_begin_107 : decode b_Mo_begin 107 = .ok (.invokevirtual 118, 3) := by decide +kernel
theorem d_Mo_begin_110 : decode b_Mo_begin 110 = .ok (.aload_n 0, 1) := by decide +kernel
theorem d_Mo_begin_111 : decode b_Mo_begin 111 = .ok (.getfield 62, 3) := by decide +kernel
theorem d_Mo_begin_114 : decode b_Mo_begin 114 = .ok (.iload_n 1, 1) := by decide +kernel
theorem d_Mo_begin_115 : decode b_Mo_begin 115 = .ok (.aload_n 0, 1) := by decide +kernel
theorem d_Mo_begin_116 : decode b_Mo_begin 116 = .ok (.getfield 35, 3) := by decide +kernel
theorem d_Mo_begin_119 : decode b_Mo_begin 119 = .ok (.iload_n 1, 1) := by decide +kernel
theorem d_Mo_begin_120 : decode b_Mo_begin 120 = .ok (.iaload, 1) := by decide +kernel
theorem d_Mo_begin_121 : decode b_Mo_begin 121 = .ok (.iastore, 1) := by decide +kernel
theorem d_Mo_begin_122 : decode b_Mo_begin 122 = .ok (.aload_n 0, 1) := by decide +kernel
theorem d_Mo_begin_123 : decode b_Mo_begin 123 = .ok (.getfield 65, 3) := by decide +kernel
theorem d_Mo_begin_126 : decode b_Mo_begin 126 = .ok (.iload_n 1, 1) := by decide +kernel
theorem d_Mo_begin_127 : decode b_Mo_begin 127 = .ok (.aload_n 0, 1) := by decide +kernel
theorem d_Mo_begin_128 : decode b_Mo_begin 128 = .ok (.getfield 38, 3) := by decide +kernel
theorem d_Mo_begin_131 : decode b_Mo_begin 131 = .ok (.iload_n 1, 1) := by decide +kernel
theorem d_Mo_begin_132 : decode b_Mo_begin 132 = .ok (.iaload, 1) := by decide +kernel
theorem d_Mo_begin_133 : decode b_Mo_begin 133 = .ok (.iastore, 1) := by decide +kernel
theorem d_Mo_begin_134 : decode b_Mo_begin 134 = .ok (.iconst 2, 1) := by decide +kernel
theorem d_Mo_begin_135 : decode b_Mo_begin 135 = .ok (.ireturn, 1) := by decide +kernel
set_option maxHeartbeats 4000000 in
set_option maxRecDepth 100000 in
theorem c_Mo_begin {l : Launch} {G : Gx} {s0 : State} (C : Cx G s0) {o : Nat} (ho : s0.heap.size ≤ o) (σ : Sg) (c : Nat) (hc : c < 3) (w : Nat) (hw : σ 7 c = nI w) (hw6 : w ≤ 60) (x y : Nat) (hx8 : σ 8 c = nI x) (hy : σ 13 c = nI y) (hx2 : x < 2 ^ 20) (hy2 : y < 2 ^ 20) (hE : ∀ k, k < w → dN (σ 5 (60 * c + k)) < 3) (hZ : ∀ j, j < 9 → σ 23 j = 0 ∨ σ 23 j = 1) : Ct l s0 (FM o) 2 0 0 y_Mo_begin b_Mo_begin 5 (some .int) [.ref (o), .int (nI c)] (RepM G o σ) (pI (fun r H => r = (bgn σ c w).1 ∧ RepM G o (bgn σ c w).2 H)) := by
  refine Ct.of C (by decide) (Nat.le_of_ble_eq_true rfl) ?_
  intro pg ev s mm below meth cd V hr hlk hn hR ls hl
  have hx := V.1
  have hb := V.2.1
  have hS : va_S (FM o) s.heap s.heap [] := va_S.rf
  have hF : ∀ q, FM o q → FM o q := fun _ h => h
  have hA : ∀ q, FM o q → s0.heap.size ≤ q := fun _ h => Nat.le_trans ho h.1
  have hl : lv_has ls 5 [(0, .ref (o)), (1, .int (nI c))] := hl
  rcases hf : fwF σ c w 0 with _ | k
  · refine lv_aload_n hx hb d_Mo_begin_0 rfl (lv_at hl 0 rfl) ?_
    refine lv_iload_n hx hb d_Mo_begin_1 rfl (lv_at hl 1 rfl) ?_
    refine g_callV (As := [.int (nI c)]) (rest := []) (A0 := FM o) V (c_Mo_firstWish C ho σ c hc w hw hw6) v_Mo_112 (hR.recv V.2.2.2.2.2.1) hR hS hA (fun _ h => h) ⟨by decide, by decide⟩ rfl hl (Nat.le_of_ble_eq_true rfl) d_Mo_begin_2 ⟨Nat.le_refl _, Nat.le_refl _⟩ (kI (fun r2 H locs hQ _ hS => ?_))
    obtain ⟨rfl, hR⟩ := hQ
    refine lv_tope (y := -1) (by rw [hf]; rfl) ?_
    refine lv_istore_n (lv' := [(2, .int (-1)), (0, .ref (o)), (1, .int (nI c))]) hx hb d_Mo_begin_5 rfl hl (by decide) rfl (fun ls hl => ?_)
    refine lv_iload_n hx hb d_Mo_begin_6 rfl (lv_at hl 0 rfl) ?_
    refine lv_if_ge (tgt := 12) hx hb d_Mo_begin_7 (by decide) (fun h7 => ?_) (fun h7 => ?_)
    · exact absurd h7 (by decide)
    · refine lv_iconst (v := 0) hx hb d_Mo_begin_10 (by decide) ?_
      exact e_i V hr hlk hS (Nat.le_refl _) (Nat.le_refl _) d_Mo_begin_11 ⟨_, rfl, by rw [show bgn σ c w = (0, σ) from by simp [bgn, hf, h7]]; exact ⟨rfl, hR⟩⟩
  · obtain ⟨-, hkw, hk6⟩ := fwF_lt hf
    have hkw : k < w := by omega
    have hde := hE k hkw
    have main : ∀ ha : alw σ c (σ 5 (60 * c + k)) = true, ∀ (L : Nat), L < 2 ^ 20 → lst σ c = L → ∀ (z j : Nat), L + 2 ≤ j + z → (j = 0 ∨ c + 1 + 3 * (j - 1) ≤ L) → ∀ (H : Heap) (locs : List Loc) (ls : Array Slot), RepM G o σ H → va_S (FM o) s.heap H locs → lv_has ls 5 [(4, .int (nI (c + 1 + 3 * j))), (3, .int (nI L)), (2, .int (nI k)), (0, .ref (o)), (1, .int (nI c))] → W pg l ev (rmx 2 0 0) s mm [.ref (o), .int (nI c)].toArray below meth cd H locs 0 0 (MQ below (qR (FM o) (pI (fun r H => r = (bgn σ c w).1 ∧ RepM G o (bgn σ c w).2 H))) [.ref (o), .int (nI c)].toArray s 0 0 (FM o)) (F0 mm 81 ls []) := by
      intro ha
      intro L hL eL z
      induction z with
      | zero => intro j h1 h2; omega
      | succ z ih =>
        intro j h1 h2 H locs ls hR hS hl
        refine lv_iload hx hb d_Mo_begin_81 (lv_at hl 0 rfl) ?_
        refine lv_iload_n hx hb d_Mo_begin_83 rfl (lv_at hl 1 rfl) ?_
        refine lv_icmp_gt (tgt := 96) hx hb d_Mo_begin_84 (by decide) (fun h84 => ?_) (fun h84 => ?_)
        · have hj : L < c + 1 + 3 * j := (nI_ltI (by omega) (by omega)).mp h84
          have er := rn_is hj h2
          refine lv_aload_n hx hb d_Mo_begin_96 rfl (lv_at hl 3 rfl) ?_
          refine rm_ga V hR 8 (by decide) (by decide) d_Mo_begin_97 ?_
          refine lv_iload_n hx hb d_Mo_begin_100 rfl (lv_at hl 4 rfl) ?_
          refine lv_iload hx hb d_Mo_begin_101 (lv_at hl 0 rfl) ?_
          refine rm_st V hR hS hF 8 ⟨by decide, by decide, rfl⟩ (n := 3) ⟨rfl, by decide⟩ (c) rfl (by omega) d_Mo_begin_103 (fun H locs hR hS => ?_)
          refine lv_aload_n hx hb d_Mo_begin_104 rfl (lv_at hl 3 rfl) ?_
          refine lv_iload_n hx hb d_Mo_begin_105 rfl (lv_at hl 4 rfl) ?_
          refine lv_iconst (v := 1) hx hb d_Mo_begin_106 (by decide) ?_
          refine g_callV (As := [.int (nI c), .int (1)]) (rest := []) (A0 := FM o) V (c_Mo_enter C ho (up2 σ 8 c (nI (c + 1 + 3 * j))) c hc (1)) v_Mo_118 (hR.recv V.2.2.2.2.2.1) hR hS hA (fun _ h => h) ⟨by decide, by decide⟩ rfl hl (Nat.le_of_ble_eq_true rfl) d_Mo_begin_107 ⟨Nat.le_refl _, Nat.le_refl _⟩ (kV (fun H locs hR _ hS => ?_))
          refine lv_aload_n hx hb d_Mo_begin_110 rfl (lv_at hl 3 rfl) ?_
          refine rm_ga V hR 18 (by decide) (by decide) d_Mo_begin_111 ?_
          refine lv_iload_n hx hb d_Mo_begin_114 rfl (lv_at hl 4 rfl) ?_
          refine lv_aload_n hx hb d_Mo_begin_115 rfl (lv_at hl 3 rfl) ?_
          refine rm_ga V hR 9 (by decide) (by decide) d_Mo_begin_116 ?_
          refine lv_iload_n hx hb d_Mo_begin_119 rfl (lv_at hl 4 rfl) ?_
          refine rm_ld V hR 9 ⟨by decide, by decide, rfl⟩ (n := 3) ⟨rfl, by decide⟩ (c) rfl (by omega) d_Mo_begin_120 ?_
          refine lv_tope (y := σ 9 c) (by simp [ent, up2]) ?_
          refine rm_st V hR hS hF 18 ⟨by decide, by decide, rfl⟩ (n := 3) ⟨rfl, by decide⟩ (c) rfl (by omega) d_Mo_begin_121 (fun H locs hR hS => ?_)
          refine lv_aload_n hx hb d_Mo_begin_122 rfl (lv_at hl 3 rfl) ?_
          refine rm_ga V hR 19 (by decide) (by decide) d_Mo_begin_123 ?_
          refine lv_iload_n hx hb d_Mo_begin_126 rfl (lv_at hl 4 rfl) ?_
          refine lv_aload_n hx hb d_Mo_begin_127 rfl (lv_at hl 3 rfl) ?_
          refine rm_ga V hR 10 (by decide) (by decide) d_Mo_begin_128 ?_
          refine lv_iload_n hx hb d_Mo_begin_131 rfl (lv_at hl 4 rfl) ?_
          refine rm_ld V hR 10 ⟨by decide, by decide, rfl⟩ (n := 3) ⟨rfl, by decide⟩ (c) rfl (by omega) d_Mo_begin_132 ?_
          refine lv_tope (y := (ent (up2 σ 8 c (nI (c + 1 + 3 * j))) c (1)) 10 c) (by simp [up2, upd]) ?_
          refine lv_tope (y := σ 10 c) (by simp [ent, up2]) ?_
          refine rm_st V hR hS hF 19 ⟨by decide, by decide, rfl⟩ (n := 3) ⟨rfl, by decide⟩ (c) rfl (by omega) d_Mo_begin_133 (fun H locs hR hS => ?_)
          refine lv_iconst (v := 2) hx hb d_Mo_begin_134 (by decide) ?_
          exact e_i V hr hlk hS (Nat.le_refl _) (Nat.le_refl _) d_Mo_begin_135 ⟨_, rfl, by rw [show bgn σ c w = (2, (up2 (up2 (ent (up2 σ 8 c (nI (c + 1 + 3 * j))) c (1)) 18 c (σ 9 c)) 19 c (σ 10 c))) from by simp [bgn, hf, ha, eL, ← er, h84]]; exact ⟨rfl, hR⟩⟩
        · refine lv_iload hx hb d_Mo_begin_87 (lv_at hl 0 rfl) ?_
          refine lv_iconst (v := 3) hx hb d_Mo_begin_89 (by decide) ?_
          refine lv_iadd hx hb d_Mo_begin_90 ?_
          refine lv_tope (y := nI (c + 1 + 3 * j + 3)) (ad_e rfl (rfl : (3 : Int32) = nI 3)) ?_
          refine lv_istore (lv' := [(4, .int (nI (c + 1 + 3 * j + 3))), (3, .int (nI L)), (2, .int (nI k)), (0, .ref (o)), (1, .int (nI c))]) hx hb d_Mo_begin_91 hl (by decide) rfl (fun ls hl => ?_)
          refine lv_goto (tgt := 81) hx hb d_Mo_begin_93 (by decide) ?_
          have hj : c + 1 + 3 * j ≤ L := by
            rcases Nat.lt_or_ge L (c + 1 + 3 * j) with q | q
            · exact absurd (nI_lt q (by omega)) h84
            · exact q
          exact ih (j + 1) (by omega) (Or.inr (by omega)) _ _ ls hR hS (by rw [show c + 1 + 3 * (j + 1) = c + 1 + 3 * j + 3 from by omega]; exact lv_sub hl [0, 1, 2, 3, 4] rfl)
    refine lv_aload_n hx hb d_Mo_begin_0 rfl (lv_at hl 0 rfl) ?_
    refine lv_iload_n hx hb d_Mo_begin_1 rfl (lv_at hl 1 rfl) ?_
    refine g_callV (As := [.int (nI c)]) (rest := []) (A0 := FM o) V (c_Mo_firstWish C ho σ c hc w hw hw6) v_Mo_112 (hR.recv V.2.2.2.2.2.1) hR hS hA (fun _ h => h) ⟨by decide, by decide⟩ rfl hl (Nat.le_of_ble_eq_true rfl) d_Mo_begin_2 ⟨Nat.le_refl _, Nat.le_refl _⟩ (kI (fun r2 H locs hQ _ hS => ?_))
    obtain ⟨rfl, hR⟩ := hQ
    refine lv_tope (y := nI k) (by rw [hf]; rfl) ?_
    refine lv_istore_n (lv' := [(2, .int (nI k)), (0, .ref (o)), (1, .int (nI c))]) hx hb d_Mo_begin_5 rfl hl (by decide) rfl (fun ls hl => ?_)
    refine lv_iload_n hx hb d_Mo_begin_6 rfl (lv_at hl 0 rfl) ?_
    refine lv_if_ge (tgt := 12) hx hb d_Mo_begin_7 (by decide) (fun h7 => ?_) (fun h7 => ?_)
    · refine lv_aload_n hx hb d_Mo_begin_12 rfl (lv_at hl 1 rfl) ?_
      refine lv_iload_n hx hb d_Mo_begin_13 rfl (lv_at hl 2 rfl) ?_
      refine lv_aload_n hx hb d_Mo_begin_14 rfl (lv_at hl 1 rfl) ?_
      refine rm_ga V hR 5 (by decide) (by decide) d_Mo_begin_15 ?_
      refine lv_bipush (v := 60) hx hb d_Mo_begin_18 (by decide) ?_
      refine lv_iload_n hx hb d_Mo_begin_20 rfl (lv_at hl 2 rfl) ?_
      refine lv_imul hx hb d_Mo_begin_21 ?_
      refine lv_tope (y := nI (60 * c)) (mu_e (rfl : (60 : Int32) = nI 60) rfl) ?_
      refine lv_iload_n hx hb d_Mo_begin_22 rfl (lv_at hl 0 rfl) ?_
      refine lv_iadd hx hb d_Mo_begin_23 ?_
      refine lv_tope (y := nI (60 * c + k)) (ad_e rfl rfl) ?_
      refine rm_ld V hR 5 ⟨by decide, by decide, rfl⟩ (n := 180) ⟨rfl, by decide⟩ (60 * c + k) rfl (by omega) d_Mo_begin_24 ?_
      refine g_callV (As := [.int (nI c), .int (σ 5 (60 * c + k))]) (rest := []) (A0 := FM o) V (c_Mo_isAllowed C ho σ c hc (σ 5 (60 * c + k)) hde (hZ _ (by omega))) v_Mo_115 (hR.recv V.2.2.2.2.2.1) hR hS hA (fun _ h => h) ⟨by decide, by decide⟩ rfl hl (Nat.le_of_ble_eq_true rfl) d_Mo_begin_25 ⟨Nat.le_refl _, Nat.le_refl _⟩ (kI (fun r25 H locs hQ _ hS => ?_))
      obtain ⟨rfl, hR⟩ := hQ
      refine lv_if_ne (tgt := 45) hx hb d_Mo_begin_28 (by decide) (fun h28 => ?_) (fun h28 => ?_)
      · have h28 := bI_n0.mp h28
        refine lv_aload_n hx hb d_Mo_begin_45 rfl (lv_at hl 1 rfl) ?_
        refine rm_ga V hR 8 (by decide) (by decide) d_Mo_begin_46 ?_
        refine lv_iload_n hx hb d_Mo_begin_49 rfl (lv_at hl 2 rfl) ?_
        refine rm_ld V hR 8 ⟨by decide, by decide, rfl⟩ (n := 3) ⟨rfl, by decide⟩ (c) rfl (by omega) d_Mo_begin_50 ?_
        refine lv_tope (y := nI x) hx8 ?_
        refine lv_aload_n hx hb d_Mo_begin_51 rfl (lv_at hl 1 rfl) ?_
        refine rm_ga V hR 13 (by decide) (by decide) d_Mo_begin_52 ?_
        refine lv_iload_n hx hb d_Mo_begin_55 rfl (lv_at hl 2 rfl) ?_
        refine rm_ld V hR 13 ⟨by decide, by decide, rfl⟩ (n := 3) ⟨rfl, by decide⟩ (c) rfl (by omega) d_Mo_begin_56 ?_
        refine lv_tope (y := nI y) hy ?_
        refine lv_icmp_le (tgt := 69) hx hb d_Mo_begin_57 (by decide) (fun h57 => ?_) (fun h57 => ?_)
        · refine lv_aload_n hx hb d_Mo_begin_69 rfl (lv_at hl 1 rfl) ?_
          refine rm_ga V hR 13 (by decide) (by decide) d_Mo_begin_70 ?_
          refine lv_iload_n hx hb d_Mo_begin_73 rfl (lv_at hl 2 rfl) ?_
          refine rm_ld V hR 13 ⟨by decide, by decide, rfl⟩ (n := 3) ⟨rfl, by decide⟩ (c) rfl (by omega) d_Mo_begin_74 ?_
          refine lv_tope (y := nI y) hy ?_
          refine lv_istore_n (lv' := [(3, .int (nI y)), (2, .int (nI k)), (0, .ref (o)), (1, .int (nI c))]) hx hb d_Mo_begin_75 rfl hl (by decide) rfl (fun ls hl => ?_)
          refine lv_iload_n hx hb d_Mo_begin_76 rfl (lv_at hl 3 rfl) ?_
          refine lv_iconst (v := 1) hx hb d_Mo_begin_77 (by decide) ?_
          refine lv_iadd hx hb d_Mo_begin_78 ?_
          refine lv_tope (y := nI (c + 1)) (ad_e rfl (rfl : (1 : Int32) = nI 1)) ?_
          refine lv_istore (lv' := [(4, .int (nI (c + 1))), (3, .int (nI y)), (2, .int (nI k)), (0, .ref (o)), (1, .int (nI c))]) hx hb d_Mo_begin_79 hl (by decide) rfl (fun ls hl => ?_)
          exact main h28 y (by omega) (by simp [lst, hx8, hy, h57, tN_n (show y < 2 ^ 31 by omega)]) (y + 2) 0 (by omega) (Or.inl rfl) _ _ ls hR hS (lv_sub hl [0, 1, 2, 3, 4] rfl)
        · refine lv_aload_n hx hb d_Mo_begin_60 rfl (lv_at hl 1 rfl) ?_
          refine rm_ga V hR 8 (by decide) (by decide) d_Mo_begin_61 ?_
          refine lv_iload_n hx hb d_Mo_begin_64 rfl (lv_at hl 2 rfl) ?_
          refine rm_ld V hR 8 ⟨by decide, by decide, rfl⟩ (n := 3) ⟨rfl, by decide⟩ (c) rfl (by omega) d_Mo_begin_65 ?_
          refine lv_tope (y := nI x) hx8 ?_
          refine lv_goto (tgt := 75) hx hb d_Mo_begin_66 (by decide) ?_
          refine lv_istore_n (lv' := [(3, .int (nI x)), (2, .int (nI k)), (0, .ref (o)), (1, .int (nI c))]) hx hb d_Mo_begin_75 rfl hl (by decide) rfl (fun ls hl => ?_)
          refine lv_iload_n hx hb d_Mo_begin_76 rfl (lv_at hl 3 rfl) ?_
          refine lv_iconst (v := 1) hx hb d_Mo_begin_77 (by decide) ?_
          refine lv_iadd hx hb d_Mo_begin_78 ?_
          refine lv_tope (y := nI (c + 1)) (ad_e rfl (rfl : (1 : Int32) = nI 1)) ?_
          refine lv_istore (lv' := [(4, .int (nI (c + 1))), (3, .int (nI x)), (2, .int (nI k)), (0, .ref (o)), (1, .int (nI c))]) hx hb d_Mo_begin_79 hl (by decide) rfl (fun ls hl => ?_)
          exact main h28 x (by omega) (by simp [lst, hx8, hy, h57, tN_n (show x < 2 ^ 31 by omega)]) (x + 2) 0 (by omega) (Or.inl rfl) _ _ ls hR hS (lv_sub hl [0, 1, 2, 3, 4] rfl)
      · have h28 := bI_0.mp h28
        refine lv_aload_n hx hb d_Mo_begin_31 rfl (lv_at hl 1 rfl) ?_
        refine rm_ga V hR 6 (by decide) (by decide) d_Mo_begin_32 ?_
        refine lv_bipush (v := 60) hx hb d_Mo_begin_35 (by decide) ?_
        refine lv_iload_n hx hb d_Mo_begin_37 rfl (lv_at hl 2 rfl) ?_
        refine lv_imul hx hb d_Mo_begin_38 ?_
        refine lv_tope (y := nI (60 * c)) (mu_e (rfl : (60 : Int32) = nI 60) rfl) ?_
        refine lv_iload_n hx hb d_Mo_begin_39 rfl (lv_at hl 0 rfl) ?_
        refine lv_iadd hx hb d_Mo_begin_40 ?_
        refine lv_tope (y := nI (60 * c + k)) (ad_e rfl rfl) ?_
        refine lv_iconst (v := -1) hx hb d_Mo_begin_41 (by decide) ?_
        refine rm_st V hR hS hF 6 ⟨by decide, by decide, rfl⟩ (n := 180) ⟨rfl, by decide⟩ (60 * c + k) rfl (by omega) d_Mo_begin_42 (fun H locs hR hS => ?_)
        refine lv_iconst (v := 1) hx hb d_Mo_begin_43 (by decide) ?_
        exact e_i V hr hlk hS (Nat.le_refl _) (Nat.le_refl _) d_Mo_begin_44 ⟨_, rfl, by rw [show bgn σ c w = (1, (up2 σ 6 (60 * c + k) (-1))) from by simp [bgn, hf, h7, h28]]; exact ⟨rfl, hR⟩⟩
    · exact absurd (nI_pos' (by omega)) h7
theorem d_Mo_choose_0 : decode b_Mo_choose 0 = .ok (.aload_n 0, 1) := by decide +kernel
theorem d_Mo_choose_1 : decode b_Mo_choose 1 = .ok (.getfield 38, 3) := by decide +kernel
theorem d_Mo_choose_4 : decode b_Mo_choose 4 = .ok (.iload_n 1, 1) := by decide +kernel
theorem d_Mo_choose_5 : decode b_Mo_choose 5 = .ok (.aload_n 0, 1) := by decide +kernel
theorem d_Mo_choose_6 : decode b_Mo_choose 6 = .ok (.getfield 62, 3) := by decide +kernel
theorem d_Mo_choose_9 : decode b_Mo_choose 9 = .ok (.iload_n 1, 1) := by decide +kernel
theorem d_Mo_choose_10 : decode b_Mo_choose 10 = .ok (.iaload, 1) := by decide +kernel
theorem d_Mo_choose_11 : decode b_Mo_choose 11 = .ok (.ifCond .le 12, 3) := by decide +kernel
theorem d_Mo_choose_14 : decode b_Mo_choose 14 = .ok (.aload_n 0, 1) := by decide +kernel
theorem d_Mo_choose_15 : decode b_Mo_choose 15 = .ok (.getfield 65, 3) := by decide +kernel
theorem d_Mo_choose_18 : decode b_Mo_choose 18 = .ok (.iload_n 1, 1) := by decide +kernel
theorem d_Mo_choose_19 : decode b_Mo_choose 19 = .ok (.iaload, 1) := by decide +kernel
theorem d_Mo_choose_20 : decode b_Mo_choose 20 = .ok (.goto 18, 3) := by decide +kernel
theorem d_Mo_choose_23 : decode b_Mo_choose 23 = .ok (.aload_n 0, 1) := by decide +kernel
theorem d_Mo_choose_24 : decode b_Mo_choose 24 = .ok (.getfield 23, 3) := by decide +kernel
theorem d_Mo_choose_27 : decode b_Mo_choose 27 = .ok (.bipush 60, 2) := by decide +kernel
theorem d_Mo_choose_29 : decode b_Mo_choose 29 = .ok (.iload_n 1, 1) := by decide +kernel
theorem d_Mo_choose_30 : decode b_Mo_choose 30 = .ok (.imul, 1) := by decide +kernel
theorem d_Mo_choose_31 : decode b_Mo_choose 31 = .ok (.aload_n 0, 1) := by decide +kernel
theorem d_Mo_choose_32 : decode b_Mo_choose 32 = .ok (.iload_n 1, 1) := by decide +kernel
theorem d_Mo_choose_33 : decode b_Mo_choose 33 = .ok (.invokevirtual 112, 3) := by decide +kernel
theorem d_Mo_choose_36 : decode b_Mo_choose 36 = .ok (.iadd, 1) := by decide +kernel
theorem d_Mo_choose_37 : decode b_Mo_choose 37 = .ok (.iaload, 1) := by decide +kernel
theorem d_Mo_choose_38 : decode b_Mo_choose 38 = .ok (.iastore, 1) := by decide +kernel
theorem d_Mo_choose_39 : decode b_Mo_choose 39 = .ok (.aload_n 0, 1) := by decide +kernel
theorem d_Mo_choose_40 : decode b_Mo_choose 40 = .ok (.getfield 35, 3) := by decide +kernel
theorem d_Mo_choose_43 : decode b_Mo_choose 43 = .ok (.iload_n 1, 1) := by decide +kernel
theorem d_Mo_choose_44 : decode b_Mo_choose 44 = .ok (.aload_n 0, 1) := by decide +kernel
theorem d_Mo_choose_45 : decode b_Mo_choose 45 = .ok (.getfield 32, 3) := by decide +kernel
theorem d_Mo_choose_48 : decode b_Mo_choose 48 = .ok (.iload_n 1, 1) := by decide +kernel
theorem d_Mo_choose_49 : decode b_Mo_choose 49 = .ok (.iaload, 1) := by decide +kernel
theorem d_Mo_choose_50 : decode b_Mo_choose 50 = .ok (.iastore, 1) := by decide +kernel
theorem d_Mo_choose_51 : decode b_Mo_choose 51 = .ok (.aload_n 0, 1) := by decide +kernel
theorem d_Mo_choose_52 : decode b_Mo_choose 52 = .ok (.iload_n 1, 1) := by decide +kernel
theorem d_Mo_choose_53 : decode b_Mo_choose 53 = .ok (.iconst 2, 1) := by decide +kernel
theorem d_Mo_choose_54 : decode b_Mo_choose 54 = .ok (.invokevirtual 118, 3) := by decide +kernel
theorem d_Mo_choose_57 : decode b_Mo_choose 57 = .ok (.bipush 7, 2) := by decide +kernel
theorem d_Mo_choose_59 : decode b_Mo_choose 59 = .ok (.ireturn, 1) := by decide +kernel
set_option maxHeartbeats 4000000 in
set_option maxRecDepth 100000 in
theorem c_Mo_choose {l : Launch} {G : Gx} {s0 : State} (C : Cx G s0) {o : Nat} (ho : s0.heap.size ≤ o) (σ : Sg) (c : Nat) (hc : c < 3) (w : Nat) (hw : σ 7 c = nI w) (hw6 : w ≤ 60) (hch : σ 18 c ≤ 0 → ∃ k, k < w ∧ fwF σ c w 0 = some k) : Ct l s0 (FM o) 1 0 0 y_Mo_choose b_Mo_choose 2 (some .int) [.ref (o), .int (nI c)] (RepM G o σ) (pI (fun r H => r = 7 ∧ RepM G o (chs σ c w) H)) := by
  refine Ct.of C (by decide) (Nat.le_of_ble_eq_true rfl) ?_
  intro pg ev s mm below meth cd V hr hlk hn hR ls hl
  have hx := V.1
  have hb := V.2.1
  have hS : va_S (FM o) s.heap s.heap [] := va_S.rf
  have hF : ∀ q, FM o q → FM o q := fun _ h => h
  have hA : ∀ q, FM o q → s0.heap.size ≤ q := fun _ h => Nat.le_trans ho h.1
  have hl : lv_has ls 2 [(0, .ref (o)), (1, .int (nI c))] := hl
  refine lv_aload_n hx hb d_Mo_choose_0 rfl (lv_at hl 0 rfl) ?_
  refine rm_ga V hR 10 (by decide) (by decide) d_Mo_choose_1 ?_
  refine lv_iload_n hx hb d_Mo_choose_4 rfl (lv_at hl 1 rfl) ?_
  refine lv_aload_n hx hb d_Mo_choose_5 rfl (lv_at hl 0 rfl) ?_
  refine rm_ga V hR 18 (by decide) (by decide) d_Mo_choose_6 ?_
  refine lv_iload_n hx hb d_Mo_choose_9 rfl (lv_at hl 1 rfl) ?_
  refine rm_ld V hR 18 ⟨by decide, by decide, rfl⟩ (n := 3) ⟨rfl, by decide⟩ (c) rfl (by omega) d_Mo_choose_10 ?_
  refine lv_if_le (tgt := 23) hx hb d_Mo_choose_11 (by decide) (fun h11 => ?_) (fun h11 => ?_)
  · obtain ⟨k, hkw, hf⟩ := hch h11
    refine lv_aload_n hx hb d_Mo_choose_23 rfl (lv_at hl 0 rfl) ?_
    refine rm_ga V hR 5 (by decide) (by decide) d_Mo_choose_24 ?_
    refine lv_bipush (v := 60) hx hb d_Mo_choose_27 (by decide) ?_
    refine lv_iload_n hx hb d_Mo_choose_29 rfl (lv_at hl 1 rfl) ?_
    refine lv_imul hx hb d_Mo_choose_30 ?_
    refine lv_tope (y := nI (60 * c)) (mu_e (rfl : (60 : Int32) = nI 60) rfl) ?_
    refine lv_aload_n hx hb d_Mo_choose_31 rfl (lv_at hl 0 rfl) ?_
    refine lv_iload_n hx hb d_Mo_choose_32 rfl (lv_at hl 1 rfl) ?_
    refine g_callV (As := [.int (nI c)]) (rest := [.int (nI (60 * c)), .ref (o + 5), .int (nI c), .ref (o + 10)]) (A0 := FM o) V (c_Mo_firstWish C ho σ c hc w hw hw6) v_Mo_112 (hR.recv V.2.2.2.2.2.1) hR hS hA (fun _ h => h) ⟨by decide, by decide⟩ rfl hl (Nat.le_of_ble_eq_true rfl) d_Mo_choose_33 ⟨Nat.le_refl _, Nat.le_refl _⟩ (kI (fun r33 H locs hQ _ hS => ?_))
    obtain ⟨rfl, hR⟩ := hQ
    refine lv_tope (y := nI k) (by rw [hf]; rfl) ?_
    refine lv_iadd hx hb d_Mo_choose_36 ?_
    refine lv_tope (y := nI (60 * c + k)) (ad_e rfl rfl) ?_
    refine rm_ld V hR 5 ⟨by decide, by decide, rfl⟩ (n := 180) ⟨rfl, by decide⟩ (60 * c + k) rfl (by omega) d_Mo_choose_37 ?_
    refine rm_st V hR hS hF 10 ⟨by decide, by decide, rfl⟩ (n := 3) ⟨rfl, by decide⟩ (c) rfl (by omega) d_Mo_choose_38 (fun H locs hR hS => ?_)
    refine lv_aload_n hx hb d_Mo_choose_39 rfl (lv_at hl 0 rfl) ?_
    refine rm_ga V hR 9 (by decide) (by decide) d_Mo_choose_40 ?_
    refine lv_iload_n hx hb d_Mo_choose_43 rfl (lv_at hl 1 rfl) ?_
    refine lv_aload_n hx hb d_Mo_choose_44 rfl (lv_at hl 0 rfl) ?_
    refine rm_ga V hR 8 (by decide) (by decide) d_Mo_choose_45 ?_
    refine lv_iload_n hx hb d_Mo_choose_48 rfl (lv_at hl 1 rfl) ?_
    refine rm_ld V hR 8 ⟨by decide, by decide, rfl⟩ (n := 3) ⟨rfl, by decide⟩ (c) rfl (by omega) d_Mo_choose_49 ?_
    refine lv_tope (y := σ 8 c) (by simp [up2, upd]) ?_
    refine rm_st V hR hS hF 9 ⟨by decide, by decide, rfl⟩ (n := 3) ⟨rfl, by decide⟩ (c) rfl (by omega) d_Mo_choose_50 (fun H locs hR hS => ?_)
    refine lv_aload_n hx hb d_Mo_choose_51 rfl (lv_at hl 0 rfl) ?_
    refine lv_iload_n hx hb d_Mo_choose_52 rfl (lv_at hl 1 rfl) ?_
    refine lv_iconst (v := 2) hx hb d_Mo_choose_53 (by decide) ?_
    refine g_callV (As := [.int (nI c), .int (2)]) (rest := []) (A0 := FM o) V (c_Mo_enter C ho (up2 (up2 σ 10 c (σ 5 (60 * c + k))) 9 c (σ 8 c)) c hc (2)) v_Mo_118 (hR.recv V.2.2.2.2.2.1) hR hS hA (fun _ h => h) ⟨by decide, by decide⟩ rfl hl (Nat.le_of_ble_eq_true rfl) d_Mo_choose_54 ⟨Nat.le_refl _, Nat.le_refl _⟩ (kV (fun H locs hR _ hS => ?_))
    refine lv_bipush (v := 7) hx hb d_Mo_choose_57 (by decide) ?_
    exact e_i V hr hlk hS (Nat.le_refl _) (Nat.le_refl _) d_Mo_choose_59 ⟨_, rfl, rfl, by rw [show chs σ c w = (ent (up2 (up2 σ 10 c (σ 5 (60 * c + k))) 9 c (σ 8 c)) c (2)) from by simp [chs, h11, hf]]; exact hR⟩
  · refine lv_aload_n hx hb d_Mo_choose_14 rfl (lv_at hl 0 rfl) ?_
    refine rm_ga V hR 19 (by decide) (by decide) d_Mo_choose_15 ?_
    refine lv_iload_n hx hb d_Mo_choose_18 rfl (lv_at hl 1 rfl) ?_
    refine rm_ld V hR 19 ⟨by decide, by decide, rfl⟩ (n := 3) ⟨rfl, by decide⟩ (c) rfl (by omega) d_Mo_choose_19 ?_
    refine lv_goto (tgt := 38) hx hb d_Mo_choose_20 (by decide) ?_
    refine rm_st V hR hS hF 10 ⟨by decide, by decide, rfl⟩ (n := 3) ⟨rfl, by decide⟩ (c) rfl (by omega) d_Mo_choose_38 (fun H locs hR hS => ?_)
    refine lv_aload_n hx hb d_Mo_choose_39 rfl (lv_at hl 0 rfl) ?_
    refine rm_ga V hR 9 (by decide) (by decide) d_Mo_choose_40 ?_
    refine lv_iload_n hx hb d_Mo_choose_43 rfl (lv_at hl 1 rfl) ?_
    refine lv_aload_n hx hb d_Mo_choose_44 rfl (lv_at hl 0 rfl) ?_
    refine rm_ga V hR 8 (by decide) (by decide) d_Mo_choose_45 ?_
    refine lv_iload_n hx hb d_Mo_choose_48 rfl (lv_at hl 1 rfl) ?_
    refine rm_ld V hR 8 ⟨by decide, by decide, rfl⟩ (n := 3) ⟨rfl, by decide⟩ (c) rfl (by omega) d_Mo_choose_49 ?_
    refine lv_tope (y := σ 8 c) (by simp [up2, upd]) ?_
    refine rm_st V hR hS hF 9 ⟨by decide, by decide, rfl⟩ (n := 3) ⟨rfl, by decide⟩ (c) rfl (by omega) d_Mo_choose_50 (fun H locs hR hS => ?_)
    refine lv_aload_n hx hb d_Mo_choose_51 rfl (lv_at hl 0 rfl) ?_
    refine lv_iload_n hx hb d_Mo_choose_52 rfl (lv_at hl 1 rfl) ?_
    refine lv_iconst (v := 2) hx hb d_Mo_choose_53 (by decide) ?_
    refine g_callV (As := [.int (nI c), .int (2)]) (rest := []) (A0 := FM o) V (c_Mo_enter C ho (up2 (up2 σ 10 c (σ 19 c)) 9 c (σ 8 c)) c hc (2)) v_Mo_118 (hR.recv V.2.2.2.2.2.1) hR hS hA (fun _ h => h) ⟨by decide, by decide⟩ rfl hl (Nat.le_of_ble_eq_true rfl) d_Mo_choose_54 ⟨Nat.le_refl _, Nat.le_refl _⟩ (kV (fun H locs hR _ hS => ?_))
    refine lv_bipush (v := 7) hx hb d_Mo_choose_57 (by decide) ?_
    exact e_i V hr hlk hS (Nat.le_refl _) (Nat.le_refl _) d_Mo_choose_59 ⟨_, rfl, rfl, by rw [show chs σ c w = (ent (up2 (up2 σ 10 c (σ 19 c)) 9 c (σ 8 c)) c (2)) from by simp [chs, h11]]; exact hR⟩
theorem d_Mo_put_0 : decode b_Mo_put 0 = .ok (.aload_n 0, 1) := by decide +kernel
theorem d_Mo_put_1 : decode b_Mo_put 1 = .ok (.getfield 38, 3) := by decide +kernel
theorem d_Mo_put_4 : decode b_Mo_put 4 = .ok (.iload_n 1, 1) := by decide +kernel
theorem d_Mo_put_5 : decode b_Mo_put 5 = .ok (.iaload, 1) := by decide +kernel
theorem d_Mo_put_6 : decode b_Mo_put 6 = .ok (.istore_n 2, 1) := by decide +kernel
theorem d_Mo_put_7 : decode b_Mo_put 7 = .ok (.aload_n 0, 1) := by decide +kernel
theorem d_Mo_put_8 : decode b_Mo_put 8 = .ok (.getfield 17, 3) := by decide +kernel
theorem d_Mo_put_11 : decode b_Mo_put 11 = .ok (.bipush 24, 2) := by decide +kernel
theorem d_Mo_put_13 : decode b_Mo_put 13 = .ok (.iload_n 1, 1) := by decide +kernel
theorem d_Mo_put_14 : decode b_Mo_put 14 = .ok (.imul, 1) := by decide +kernel
theorem d_Mo_put_15 : decode b_Mo_put 15 = .ok (.aload_n 0, 1) := by decide +kernel
theorem d_Mo_put_16 : decode b_Mo_put 16 = .ok (.getfield 20, 3) := by decide +kernel
theorem d_Mo_put_19 : decode b_Mo_put 19 = .ok (.iload_n 1, 1) := by decide +kernel
theorem d_Mo_put_20 : decode b_Mo_put 20 = .ok (.iaload, 1) := by decide +kernel
theorem d_Mo_put_21 : decode b_Mo_put 21 = .ok (.iadd, 1) := by decide +kernel
theorem d_Mo_put_22 : decode b_Mo_put 22 = .ok (.iload_n 2, 1) := by decide +kernel
theorem d_Mo_put_23 : decode b_Mo_put 23 = .ok (.iastore, 1) := by decide +kernel
theorem d_Mo_put_24 : decode b_Mo_put 24 = .ok (.aload_n 0, 1) := by decide +kernel
theorem d_Mo_put_25 : decode b_Mo_put 25 = .ok (.getfield 20, 3) := by decide +kernel
theorem d_Mo_put_28 : decode b_Mo_put 28 = .ok (.iload_n 1, 1) := by decide +kernel
theorem d_Mo_put_29 : decode b_Mo_put 29 = .ok (.dup2, 1) := by decide +kernel
theorem d_Mo_put_30 : decode b_Mo_put 30 = .ok (.iaload, 1) := by decide +kernel
theorem d_Mo_put_31 : decode b_Mo_put 31 = .ok (.iconst 1, 1) := by decide +kernel
theorem d_Mo_put_32 : decode b_Mo_put 32 = .ok (.iadd, 1) := by decide +kernel
theorem d_Mo_put_33 : decode b_Mo_put 33 = .ok (.iastore, 1) := by decide +kernel
theorem d_Mo_put_34 : decode b_Mo_put 34 = .ok (.aload_n 0, 1) := by decide +kernel
theorem d_Mo_put_35 : decode b_Mo_put 35 = .ok (.iload_n 1, 1) := by decide +kernel
theorem d_Mo_put_36 : decode b_Mo_put 36 = .ok (.iload_n 2, 1) := by decide +kernel
theorem d_Mo_put_37 : decode b_Mo_put 37 = .ok (.invokevirtual 132, 3) := by decide +kernel
theorem d_Mo_put_40 : decode b_Mo_put 40 = .ok (.iload_n 2, 1) := by decide +kernel
theorem d_Mo_put_41 : decode b_Mo_put 41 = .ok (.bipush 10, 2) := by decide +kernel
theorem d_Mo_put_43 : decode b_Mo_put 43 = .ok (.ishr, 1) := by decide +kernel
theorem d_Mo_put_44 : decode b_Mo_put 44 = .ok (.iconst 3, 1) := by decide +kernel
theorem d_Mo_put_45 : decode b_Mo_put 45 = .ok (.iand, 1) := by decide +kernel
theorem d_Mo_put_46 : decode b_Mo_put 46 = .ok (.iload_n 1, 1) := by decide +kernel
theorem d_Mo_put_47 : decode b_Mo_put 47 = .ok (.if_icmp .ne 23, 3) := by decide +kernel
theorem d_Mo_put_50 : decode b_Mo_put 50 = .ok (.aload_n 0, 1) := by decide +kernel
theorem d_Mo_put_51 : decode b_Mo_put 51 = .ok (.getfield 26, 3) := by decide +kernel
theorem d_Mo_put_54 : decode b_Mo_put 54 = .ok (.bipush 60, 2) := by decide +kernel
theorem d_Mo_put_56 : decode b_Mo_put 56 = .ok (.iload_n 1, 1) := by decide +kernel
theorem d_Mo_put_57 : decode b_Mo_put 57 = .ok (.imul, 1) := by decide +kernel
theorem d_Mo_put_58 : decode b_Mo_put 58 = .ok (.iload_n 2, 1) := by decide +kernel
theorem d_Mo_put_59 : decode b_Mo_put 59 = .ok (.bipush 12, 2) := by decide +kernel
theorem d_Mo_put_61 : decode b_Mo_put 61 = .ok (.ishr, 1) := by decide +kernel
theorem d_Mo_put_62 : decode b_Mo_put 62 = .ok (.iadd, 1) := by decide +kernel
theorem d_Mo_put_63 : decode b_Mo_put 63 = .ok (.aload_n 0, 1) := by decide +kernel
theorem d_Mo_put_64 : decode b_Mo_put 64 = .ok (.getfield 20, 3) := by decide +kernel
theorem d_Mo_put_67 : decode b_Mo_put 67 = .ok (.iload_n 1, 1) := by decide +kernel
theorem d_Mo_put_68 : decode b_Mo_put 68 = .ok (.iaload, 1) := by decide +kernel
theorem d_Mo_put_69 : decode b_Mo_put 69 = .ok (.iastore, 1) := by decide +kernel
theorem d_Mo_put_70 : decode b_Mo_put 70 = .ok (.aload_n 0, 1) := by decide +kernel
theorem d_Mo_put_71 : decode b_Mo_put 71 = .ok (.getfield 35, 3) := by decide +kernel
theorem d_Mo_put_74 : decode b_Mo_put 74 = .ok (.iload_n 1, 1) := by decide +kernel
theorem d_Mo_put_75 : decode b_Mo_put 75 = .ok (.iconst 0, 1) := by decide +kernel
theorem d_Mo_put_76 : decode b_Mo_put 76 = .ok (.iastore, 1) := by decide +kernel
theorem d_Mo_put_77 : decode b_Mo_put 77 = .ok (.aload_n 0, 1) := by decide +kernel
theorem d_Mo_put_78 : decode b_Mo_put 78 = .ok (.getfield 38, 3) := by decide +kernel
theorem d_Mo_put_81 : decode b_Mo_put 81 = .ok (.iload_n 1, 1) := by decide +kernel
theorem d_Mo_put_82 : decode b_Mo_put 82 = .ok (.iconst 0, 1) := by decide +kernel
theorem d_Mo_put_83 : decode b_Mo_put 83 = .ok (.iastore, 1) := by decide +kernel
theorem d_Mo_put_84 : decode b_Mo_put 84 = .ok (.aload_n 0, 1) := by decide +kernel
theorem d_Mo_put_85 : decode b_Mo_put 85 = .ok (.getfield 44, 3) := by decide +kernel
theorem d_Mo_put_88 : decode b_Mo_put 88 = .ok (.iload_n 1, 1) := by decide +kernel
theorem d_Mo_put_89 : decode b_Mo_put 89 = .ok (.iconst 0, 1) := by decide +kernel
theorem d_Mo_put_90 : decode b_Mo_put 90 = .ok (.iastore, 1) := by decide +kernel
theorem d_Mo_put_91 : decode b_Mo_put 91 = .ok (.bipush 8, 2) := by decide +kernel
theorem d_Mo_put_93 : decode b_Mo_put 93 = .ok (.ireturn, 1) := by decide +kernel
set_option maxHeartbeats 4000000 in
set_option maxRecDepth 100000 in
theorem c_Mo_put {l : Launch} {G : Gx} {s0 : State} (C : Cx G s0) {o : Nat} (ho : s0.heap.size ≤ o) (σ : Sg) (c : Nat) (hc : c < 3) (q : Nat) (hq : σ 4 c = nI q) (hq4 : q < 24) (hd : dN (σ 10 c) < 3) (hk1 : eK (σ 10 c) = 1 → ∃ h, h < 8 ∧ σ 22 (3 * c + dN (σ 10 c)) = nI h) (hwi : eO (σ 10 c) = nI c → ∃ k, k < 60 ∧ eW (σ 10 c) = nI k) : Ct l s0 (FM o) 2 0 0 y_Mo_put b_Mo_put 3 (some .int) [.ref (o), .int (nI c)] (RepM G o σ) (pI (fun r H => r = 8 ∧ RepM G o (putM σ c q) H)) := by
  refine Ct.of C (by decide) (Nat.le_of_ble_eq_true rfl) ?_
  intro pg ev s mm below meth cd V hr hlk hn hR ls hl
  have hx := V.1
  have hb := V.2.1
  have hS : va_S (FM o) s.heap s.heap [] := va_S.rf
  have hF : ∀ q, FM o q → FM o q := fun _ h => h
  have hA : ∀ q, FM o q → s0.heap.size ≤ q := fun _ h => Nat.le_trans ho h.1
  have hl : lv_has ls 3 [(0, .ref (o)), (1, .int (nI c))] := hl
  refine lv_aload_n hx hb d_Mo_put_0 rfl (lv_at hl 0 rfl) ?_
  refine rm_ga V hR 10 (by decide) (by decide) d_Mo_put_1 ?_
  refine lv_iload_n hx hb d_Mo_put_4 rfl (lv_at hl 1 rfl) ?_
  refine rm_ld V hR 10 ⟨by decide, by decide, rfl⟩ (n := 3) ⟨rfl, by decide⟩ (c) rfl (by omega) d_Mo_put_5 ?_
  refine lv_istore_n (lv' := [(2, .int (σ 10 c)), (0, .ref (o)), (1, .int (nI c))]) hx hb d_Mo_put_6 rfl hl (by decide) rfl (fun ls hl => ?_)
  refine lv_aload_n hx hb d_Mo_put_7 rfl (lv_at hl 1 rfl) ?_
  refine rm_ga V hR 3 (by decide) (by decide) d_Mo_put_8 ?_
  refine lv_bipush (v := 24) hx hb d_Mo_put_11 (by decide) ?_
  refine lv_iload_n hx hb d_Mo_put_13 rfl (lv_at hl 2 rfl) ?_
  refine lv_imul hx hb d_Mo_put_14 ?_
  refine lv_tope (y := nI (24 * c)) (mu_e (rfl : (24 : Int32) = nI 24) rfl) ?_
  refine lv_aload_n hx hb d_Mo_put_15 rfl (lv_at hl 1 rfl) ?_
  refine rm_ga V hR 4 (by decide) (by decide) d_Mo_put_16 ?_
  refine lv_iload_n hx hb d_Mo_put_19 rfl (lv_at hl 2 rfl) ?_
  refine rm_ld V hR 4 ⟨by decide, by decide, rfl⟩ (n := 3) ⟨rfl, by decide⟩ (c) rfl (by omega) d_Mo_put_20 ?_
  refine lv_tope (y := nI q) hq ?_
  refine lv_iadd hx hb d_Mo_put_21 ?_
  refine lv_tope (y := nI (24 * c + q)) (ad_e rfl rfl) ?_
  refine lv_iload_n hx hb d_Mo_put_22 rfl (lv_at hl 0 rfl) ?_
  refine rm_st V hR hS hF 3 ⟨by decide, by decide, rfl⟩ (n := 72) ⟨rfl, by decide⟩ (24 * c + q) rfl (by omega) d_Mo_put_23 (fun H locs hR hS => ?_)
  refine lv_aload_n hx hb d_Mo_put_24 rfl (lv_at hl 1 rfl) ?_
  refine rm_ga V hR 4 (by decide) (by decide) d_Mo_put_25 ?_
  refine lv_iload_n hx hb d_Mo_put_28 rfl (lv_at hl 2 rfl) ?_
  refine lv_dup2_11 hx hb d_Mo_put_29 rfl rfl ?_
  refine rm_ld V hR 4 ⟨by decide, by decide, rfl⟩ (n := 3) ⟨rfl, by decide⟩ (c) rfl (by omega) d_Mo_put_30 ?_
  refine lv_tope (y := σ 4 c) (by simp [up2, upd]) ?_
  refine lv_tope (y := nI q) hq ?_
  refine lv_iconst (v := 1) hx hb d_Mo_put_31 (by decide) ?_
  refine lv_iadd hx hb d_Mo_put_32 ?_
  refine lv_tope (y := nI (q + 1)) (ad_e rfl (rfl : (1 : Int32) = nI 1)) ?_
  refine rm_st V hR hS hF 4 ⟨by decide, by decide, rfl⟩ (n := 3) ⟨rfl, by decide⟩ (c) rfl (by omega) d_Mo_put_33 (fun H locs hR hS => ?_)
  refine lv_aload_n hx hb d_Mo_put_34 rfl (lv_at hl 1 rfl) ?_
  refine lv_iload_n hx hb d_Mo_put_35 rfl (lv_at hl 2 rfl) ?_
  refine lv_iload_n hx hb d_Mo_put_36 rfl (lv_at hl 0 rfl) ?_
  refine g_callV (As := [.int (nI c), .int (σ 10 c)]) (rest := []) (A0 := FM o) V (c_Mo_perform C ho (up2 (up2 σ 3 (24 * c + q) (σ 10 c)) 4 c (nI (q + 1))) c hc (σ 10 c) hd (by simpa [up2] using hk1)) v_Mo_132 (hR.recv V.2.2.2.2.2.1) hR hS hA (fun _ h => h) ⟨by decide, by decide⟩ rfl hl (Nat.le_of_ble_eq_true rfl) d_Mo_put_37 ⟨Nat.le_refl _, Nat.le_refl _⟩ (kV (fun H locs hR _ hS => ?_))
  refine lv_iload_n hx hb d_Mo_put_40 rfl (lv_at hl 0 rfl) ?_
  refine lv_bipush (v := 10) hx hb d_Mo_put_41 (by decide) ?_
  refine lv_ishr hx hb d_Mo_put_43 ?_
  refine lv_iconst (v := 3) hx hb d_Mo_put_44 (by decide) ?_
  refine lv_iand hx hb d_Mo_put_45 ?_
  refine lv_tope (y := eO (σ 10 c)) rfl ?_
  refine lv_iload_n hx hb d_Mo_put_46 rfl (lv_at hl 2 rfl) ?_
  refine lv_icmp_ne (tgt := 70) hx hb d_Mo_put_47 (by decide) (fun h47 => ?_) (fun h47 => ?_)
  · refine lv_aload_n hx hb d_Mo_put_70 rfl (lv_at hl 1 rfl) ?_
    refine rm_ga V hR 9 (by decide) (by decide) d_Mo_put_71 ?_
    refine lv_iload_n hx hb d_Mo_put_74 rfl (lv_at hl 2 rfl) ?_
    refine lv_iconst (v := 0) hx hb d_Mo_put_75 (by decide) ?_
    refine rm_st V hR hS hF 9 ⟨by decide, by decide, rfl⟩ (n := 3) ⟨rfl, by decide⟩ (c) rfl (by omega) d_Mo_put_76 (fun H locs hR hS => ?_)
    refine lv_aload_n hx hb d_Mo_put_77 rfl (lv_at hl 1 rfl) ?_
    refine rm_ga V hR 10 (by decide) (by decide) d_Mo_put_78 ?_
    refine lv_iload_n hx hb d_Mo_put_81 rfl (lv_at hl 2 rfl) ?_
    refine lv_iconst (v := 0) hx hb d_Mo_put_82 (by decide) ?_
    refine rm_st V hR hS hF 10 ⟨by decide, by decide, rfl⟩ (n := 3) ⟨rfl, by decide⟩ (c) rfl (by omega) d_Mo_put_83 (fun H locs hR hS => ?_)
    refine lv_aload_n hx hb d_Mo_put_84 rfl (lv_at hl 1 rfl) ?_
    refine rm_ga V hR 12 (by decide) (by decide) d_Mo_put_85 ?_
    refine lv_iload_n hx hb d_Mo_put_88 rfl (lv_at hl 2 rfl) ?_
    refine lv_iconst (v := 0) hx hb d_Mo_put_89 (by decide) ?_
    refine rm_st V hR hS hF 12 ⟨by decide, by decide, rfl⟩ (n := 3) ⟨rfl, by decide⟩ (c) rfl (by omega) d_Mo_put_90 (fun H locs hR hS => ?_)
    refine lv_bipush (v := 8) hx hb d_Mo_put_91 (by decide) ?_
    exact e_i V hr hlk hS (Nat.le_refl _) (Nat.le_refl _) d_Mo_put_93 ⟨_, rfl, rfl, by rw [show putM σ c q = (up2 (up2 (up2 (prf (up2 (up2 σ 3 (24 * c + q) (σ 10 c)) 4 c (nI (q + 1))) c (σ 10 c)) 9 c (0)) 10 c (0)) 12 c (0)) from by simp [putM, h47]]; exact hR⟩
  · obtain ⟨k, hk6, hkw⟩ := hwi h47
    refine lv_aload_n hx hb d_Mo_put_50 rfl (lv_at hl 1 rfl) ?_
    refine rm_ga V hR 6 (by decide) (by decide) d_Mo_put_51 ?_
    refine lv_bipush (v := 60) hx hb d_Mo_put_54 (by decide) ?_
    refine lv_iload_n hx hb d_Mo_put_56 rfl (lv_at hl 2 rfl) ?_
    refine lv_imul hx hb d_Mo_put_57 ?_
    refine lv_tope (y := nI (60 * c)) (mu_e (rfl : (60 : Int32) = nI 60) rfl) ?_
    refine lv_iload_n hx hb d_Mo_put_58 rfl (lv_at hl 0 rfl) ?_
    refine lv_bipush (v := 12) hx hb d_Mo_put_59 (by decide) ?_
    refine lv_ishr hx hb d_Mo_put_61 ?_
    refine lv_tope (y := nI k) hkw ?_
    refine lv_iadd hx hb d_Mo_put_62 ?_
    refine lv_tope (y := nI (60 * c + k)) (ad_e rfl rfl) ?_
    refine lv_aload_n hx hb d_Mo_put_63 rfl (lv_at hl 1 rfl) ?_
    refine rm_ga V hR 4 (by decide) (by decide) d_Mo_put_64 ?_
    refine lv_iload_n hx hb d_Mo_put_67 rfl (lv_at hl 2 rfl) ?_
    refine rm_ld V hR 4 ⟨by decide, by decide, rfl⟩ (n := 3) ⟨rfl, by decide⟩ (c) rfl (by omega) d_Mo_put_68 ?_
    refine lv_tope (y := nI (q + 1)) (by rw [prf_ne (by decide)]; simp [up2, upd]) ?_
    refine rm_st V hR hS hF 6 ⟨by decide, by decide, rfl⟩ (n := 180) ⟨rfl, by decide⟩ (60 * c + k) rfl (by omega) d_Mo_put_69 (fun H locs hR hS => ?_)
    refine lv_aload_n hx hb d_Mo_put_70 rfl (lv_at hl 1 rfl) ?_
    refine rm_ga V hR 9 (by decide) (by decide) d_Mo_put_71 ?_
    refine lv_iload_n hx hb d_Mo_put_74 rfl (lv_at hl 2 rfl) ?_
    refine lv_iconst (v := 0) hx hb d_Mo_put_75 (by decide) ?_
    refine rm_st V hR hS hF 9 ⟨by decide, by decide, rfl⟩ (n := 3) ⟨rfl, by decide⟩ (c) rfl (by omega) d_Mo_put_76 (fun H locs hR hS => ?_)
    refine lv_aload_n hx hb d_Mo_put_77 rfl (lv_at hl 1 rfl) ?_
    refine rm_ga V hR 10 (by decide) (by decide) d_Mo_put_78 ?_
    refine lv_iload_n hx hb d_Mo_put_81 rfl (lv_at hl 2 rfl) ?_
    refine lv_iconst (v := 0) hx hb d_Mo_put_82 (by decide) ?_
    refine rm_st V hR hS hF 10 ⟨by decide, by decide, rfl⟩ (n := 3) ⟨rfl, by decide⟩ (c) rfl (by omega) d_Mo_put_83 (fun H locs hR hS => ?_)
    refine lv_aload_n hx hb d_Mo_put_84 rfl (lv_at hl 1 rfl) ?_
    refine rm_ga V hR 12 (by decide) (by decide) d_Mo_put_85 ?_
    refine lv_iload_n hx hb d_Mo_put_88 rfl (lv_at hl 2 rfl) ?_
    refine lv_iconst (v := 0) hx hb d_Mo_put_89 (by decide) ?_
    refine rm_st V hR hS hF 12 ⟨by decide, by decide, rfl⟩ (n := 3) ⟨rfl, by decide⟩ (c) rfl (by omega) d_Mo_put_90 (fun H locs hR hS => ?_)
    refine lv_bipush (v := 8) hx hb d_Mo_put_91 (by decide) ?_
    exact e_i V hr hlk hS (Nat.le_refl _) (Nat.le_refl _) d_Mo_put_93 ⟨_, rfl, rfl, by rw [show putM σ c q = (up2 (up2 (up2 (up2 (prf (up2 (up2 σ 3 (24 * c + q) (σ 10 c)) 4 c (nI (q + 1))) c (σ 10 c)) 6 (60 * c + k) (nI (q + 1))) 9 c (0)) 10 c (0)) 12 c (0)) from by simp [putM, h47, wN, hkw, tN_n (show k < 2 ^ 31 by omega)]]; exact hR⟩
