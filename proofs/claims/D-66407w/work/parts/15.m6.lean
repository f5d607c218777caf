theorem d_Mo_want_0 : decode b_Mo_want 0 = .ok (.aload_n 0, 1) := by decide +kernel
theorem d_Mo_want_1 : decode b_Mo_want 1 = .ok (.iload_n 1, 1) := by decide +kernel
theorem d_Mo_want_2 : decode b_Mo_want 2 = .ok (.invokestatic 95, 3) := by decide +kernel
theorem d_Mo_want_5 : decode b_Mo_want 5 = .ok (.ifCond .eq 7, 3) := by decide +kernel
theorem d_Mo_want_8 : decode b_Mo_want 8 = .ok (.iconst 0, 1) := by decide +kernel
theorem d_Mo_want_9 : decode b_Mo_want 9 = .ok (.goto 4, 3) := by decide +kernel
theorem d_Mo_want_12 : decode b_Mo_want 12 = .ok (.iconst 1, 1) := by decide +kernel
theorem d_Mo_want_13 : decode b_Mo_want 13 = .ok (.putfield 83, 3) := by decide +kernel
theorem d_Mo_want_16 : decode b_Mo_want 16 = .ok (.aload_n 0, 1) := by decide +kernel
theorem d_Mo_want_17 : decode b_Mo_want 17 = .ok (.getfield 83, 3) := by decide +kernel
theorem d_Mo_want_20 : decode b_Mo_want 20 = .ok (.ifCond .le 5, 3) := by decide +kernel
theorem d_Mo_want_23 : decode b_Mo_want 23 = .ok (.iconst 0, 1) := by decide +kernel
theorem d_Mo_want_24 : decode b_Mo_want 24 = .ok (.ireturn, 1) := by decide +kernel
theorem d_Mo_want_25 : decode b_Mo_want 25 = .ok (.iload_n 2, 1) := by decide +kernel
theorem d_Mo_want_26 : decode b_Mo_want 26 = .ok (.ifCond .lt 39, 3) := by decide +kernel
theorem d_Mo_want_29 : decode b_Mo_want 29 = .ok (.iload_n 2, 1) := by decide +kernel
theorem d_Mo_want_30 : decode b_Mo_want 30 = .ok (.bipush 8, 2) := by decide +kernel
theorem d_Mo_want_32 : decode b_Mo_want 32 = .ok (.if_icmp .ge 33, 3) := by decide +kernel
theorem d_Mo_want_35 : decode b_Mo_want 35 = .ok (.iload_n 3, 1) := by decide +kernel
theorem d_Mo_want_36 : decode b_Mo_want 36 = .ok (.ifCond .lt 29, 3) := by decide +kernel
theorem d_Mo_want_39 : decode b_Mo_want 39 = .ok (.iload_n 3, 1) := by decide +kernel
theorem d_Mo_want_40 : decode b_Mo_want 40 = .ok (.bipush 8, 2) := by decide +kernel
theorem d_Mo_want_42 : decode b_Mo_want 42 = .ok (.if_icmp .ge 23, 3) := by decide +kernel
theorem d_Mo_want_45 : decode b_Mo_want 45 = .ok (.iload 4, 2) := by decide +kernel
theorem d_Mo_want_47 : decode b_Mo_want 47 = .ok (.invokestatic 95, 3) := by decide +kernel
theorem d_Mo_want_50 : decode b_Mo_want 50 = .ok (.ifCond .eq 15, 3) := by decide +kernel
theorem d_Mo_want_53 : decode b_Mo_want 53 = .ok (.iload 5, 2) := by decide +kernel
theorem d_Mo_want_55 : decode b_Mo_want 55 = .ok (.invokestatic 95, 3) := by decide +kernel
theorem d_Mo_want_58 : decode b_Mo_want 58 = .ok (.ifCond .eq 7, 3) := by decide +kernel
theorem d_Mo_want_61 : decode b_Mo_want 61 = .ok (.iconst 1, 1) := by decide +kernel
theorem d_Mo_want_62 : decode b_Mo_want 62 = .ok (.goto 4, 3) := by decide +kernel
theorem d_Mo_want_65 : decode b_Mo_want 65 = .ok (.iconst 0, 1) := by decide +kernel
theorem d_Mo_want_66 : decode b_Mo_want 66 = .ok (.istore 6, 2) := by decide +kernel
theorem d_Mo_want_68 : decode b_Mo_want 68 = .ok (.aload_n 0, 1) := by decide +kernel
theorem d_Mo_want_69 : decode b_Mo_want 69 = .ok (.iload 6, 2) := by decide +kernel
theorem d_Mo_want_71 : decode b_Mo_want 71 = .ok (.ifCond .ne 7, 3) := by decide +kernel
theorem d_Mo_want_74 : decode b_Mo_want 74 = .ok (.iconst 2, 1) := by decide +kernel
theorem d_Mo_want_75 : decode b_Mo_want 75 = .ok (.goto 28, 3) := by decide +kernel
theorem d_Mo_want_78 : decode b_Mo_want 78 = .ok (.aload_n 0, 1) := by decide +kernel
theorem d_Mo_want_79 : decode b_Mo_want 79 = .ok (.getfield 29, 3) := by decide +kernel
theorem d_Mo_want_82 : decode b_Mo_want 82 = .ok (.iload_n 1, 1) := by decide +kernel
theorem d_Mo_want_83 : decode b_Mo_want 83 = .ok (.iaload, 1) := by decide +kernel
theorem d_Mo_want_84 : decode b_Mo_want 84 = .ok (.bipush 60, 2) := by decide +kernel
theorem d_Mo_want_86 : decode b_Mo_want 86 = .ok (.if_icmp .eq 12, 3) := by decide +kernel
theorem d_Mo_want_89 : decode b_Mo_want 89 = .ok (.aload_n 0, 1) := by decide +kernel
theorem d_Mo_want_90 : decode b_Mo_want 90 = .ok (.iload_n 1, 1) := by decide +kernel
theorem d_Mo_want_91 : decode b_Mo_want 91 = .ok (.invokevirtual 99, 3) := by decide +kernel
theorem d_Mo_want_94 : decode b_Mo_want 94 = .ok (.iconst 5, 1) := by decide +kernel
theorem d_Mo_want_95 : decode b_Mo_want 95 = .ok (.if_icmp .ne 7, 3) := by decide +kernel
theorem d_Mo_want_98 : decode b_Mo_want 98 = .ok (.iconst 3, 1) := by decide +kernel
theorem d_Mo_want_99 : decode b_Mo_want 99 = .ok (.goto 4, 3) := by decide +kernel
theorem d_Mo_want_102 : decode b_Mo_want 102 = .ok (.iconst 0, 1) := by decide +kernel
theorem d_Mo_want_103 : decode b_Mo_want 103 = .ok (.putfield 83, 3) := by decide +kernel
theorem d_Mo_want_106 : decode b_Mo_want 106 = .ok (.aload_n 0, 1) := by decide +kernel
theorem d_Mo_want_107 : decode b_Mo_want 107 = .ok (.getfield 83, 3) := by decide +kernel
theorem d_Mo_want_110 : decode b_Mo_want 110 = .ok (.ifCond .le 5, 3) := by decide +kernel
theorem d_Mo_want_113 : decode b_Mo_want 113 = .ok (.iconst 0, 1) := by decide +kernel
theorem d_Mo_want_114 : decode b_Mo_want 114 = .ok (.ireturn, 1) := by decide +kernel
theorem d_Mo_want_115 : decode b_Mo_want 115 = .ok (.aload_n 0, 1) := by decide +kernel
theorem d_Mo_want_116 : decode b_Mo_want 116 = .ok (.getfield 29, 3) := by decide +kernel
theorem d_Mo_want_119 : decode b_Mo_want 119 = .ok (.iload_n 1, 1) := by decide +kernel
theorem d_Mo_want_120 : decode b_Mo_want 120 = .ok (.iaload, 1) := by decide +kernel
theorem d_Mo_want_121 : decode b_Mo_want 121 = .ok (.istore 7, 2) := by decide +kernel
theorem d_Mo_want_123 : decode b_Mo_want 123 = .ok (.aload_n 0, 1) := by decide +kernel
theorem d_Mo_want_124 : decode b_Mo_want 124 = .ok (.getfield 23, 3) := by decide +kernel
theorem d_Mo_want_127 : decode b_Mo_want 127 = .ok (.bipush 60, 2) := by decide +kernel
theorem d_Mo_want_129 : decode b_Mo_want 129 = .ok (.iload_n 1, 1) := by decide +kernel
theorem d_Mo_want_130 : decode b_Mo_want 130 = .ok (.imul, 1) := by decide +kernel
theorem d_Mo_want_131 : decode b_Mo_want 131 = .ok (.iload 7, 2) := by decide +kernel
theorem d_Mo_want_133 : decode b_Mo_want 133 = .ok (.iadd, 1) := by decide +kernel
theorem d_Mo_want_134 : decode b_Mo_want 134 = .ok (.iload_n 2, 1) := by decide +kernel
theorem d_Mo_want_135 : decode b_Mo_want 135 = .ok (.bipush 8, 2) := by decide +kernel
theorem d_Mo_want_137 : decode b_Mo_want 137 = .ok (.iload_n 3, 1) := by decide +kernel
theorem d_Mo_want_138 : decode b_Mo_want 138 = .ok (.imul, 1) := by decide +kernel
theorem d_Mo_want_139 : decode b_Mo_want 139 = .ok (.iadd, 1) := by decide +kernel
theorem d_Mo_want_140 : decode b_Mo_want 140 = .ok (.bipush 64, 2) := by decide +kernel
theorem d_Mo_want_142 : decode b_Mo_want 142 = .ok (.iload 4, 2) := by decide +kernel
theorem d_Mo_want_144 : decode b_Mo_want 144 = .ok (.imul, 1) := by decide +kernel
theorem d_Mo_want_145 : decode b_Mo_want 145 = .ok (.iadd, 1) := by decide +kernel
theorem d_Mo_want_146 : decode b_Mo_want 146 = .ok (.sipush 256, 3) := by decide +kernel
theorem d_Mo_want_149 : decode b_Mo_want 149 = .ok (.iload 5, 2) := by decide +kernel
theorem d_Mo_want_151 : decode b_Mo_want 151 = .ok (.imul, 1) := by decide +kernel
theorem d_Mo_want_152 : decode b_Mo_want 152 = .ok (.iadd, 1) := by decide +kernel
theorem d_Mo_want_153 : decode b_Mo_want 153 = .ok (.sipush 1024, 3) := by decide +kernel
theorem d_Mo_want_156 : decode b_Mo_want 156 = .ok (.iload_n 1, 1) := by decide +kernel
theorem d_Mo_want_157 : decode b_Mo_want 157 = .ok (.imul, 1) := by decide +kernel
theorem d_Mo_want_158 : decode b_Mo_want 158 = .ok (.iadd, 1) := by decide +kernel
theorem d_Mo_want_159 : decode b_Mo_want 159 = .ok (.sipush 4096, 3) := by decide +kernel
theorem d_Mo_want_162 : decode b_Mo_want 162 = .ok (.iload 7, 2) := by decide +kernel
theorem d_Mo_want_164 : decode b_Mo_want 164 = .ok (.imul, 1) := by decide +kernel
theorem d_Mo_want_165 : decode b_Mo_want 165 = .ok (.iadd, 1) := by decide +kernel
theorem d_Mo_want_166 : decode b_Mo_want 166 = .ok (.iastore, 1) := by decide +kernel
theorem d_Mo_want_167 : decode b_Mo_want 167 = .ok (.aload_n 0, 1) := by decide +kernel
theorem d_Mo_want_168 : decode b_Mo_want 168 = .ok (.getfield 26, 3) := by decide +kernel
theorem d_Mo_want_171 : decode b_Mo_want 171 = .ok (.bipush 60, 2) := by decide +kernel
theorem d_Mo_want_173 : decode b_Mo_want 173 = .ok (.iload_n 1, 1) := by decide +kernel
theorem d_Mo_want_174 : decode b_Mo_want 174 = .ok (.imul, 1) := by decide +kernel
theorem d_Mo_want_175 : decode b_Mo_want 175 = .ok (.iload 7, 2) := by decide +kernel
theorem d_Mo_want_177 : decode b_Mo_want 177 = .ok (.iadd, 1) := by decide +kernel
theorem d_Mo_want_178 : decode b_Mo_want 178 = .ok (.iconst 0, 1) := by decide +kernel
theorem d_Mo_want_179 : decode b_Mo_want 179 = .ok (.iastore, 1) := by decide +kernel
theorem d_Mo_want_180 : decode b_Mo_want 180 = .ok (.aload_n 0, 1) := by decide +kernel
theorem d_Mo_want_181 : decode b_Mo_want 181 = .ok (.getfield 29, 3) := by decide +kernel
theorem d_Mo_want_184 : decode b_Mo_want 184 = .ok (.iload_n 1, 1) := by decide +kernel
theorem d_Mo_want_185 : decode b_Mo_want 185 = .ok (.dup2, 1) := by decide +kernel
theorem d_Mo_want_186 : decode b_Mo_want 186 = .ok (.iaload, 1) := by decide +kernel
theorem d_Mo_want_187 : decode b_Mo_want 187 = .ok (.iconst 1, 1) := by decide +kernel
theorem d_Mo_want_188 : decode b_Mo_want 188 = .ok (.iadd, 1) := by decide +kernel
theorem d_Mo_want_189 : decode b_Mo_want 189 = .ok (.iastore, 1) := by decide +kernel
theorem d_Mo_want_190 : decode b_Mo_want 190 = .ok (.iload 7, 2) := by decide +kernel
theorem d_Mo_want_192 : decode b_Mo_want 192 = .ok (.ireturn, 1) := by decide +kernel
set_option maxHeartbeats 4000000 in
set_option maxRecDepth 100000 in
theorem c_Mo_want_bad {l : Launch} {G : Gx} {s0 : State} (C : Cx G s0) {o : Nat} (ho : s0.heap.size ≤ o) (σ : Sg) (x : Int32) (hx1 : one x = false) (k ca d cl : Int32) : Ct l s0 (FM o) 1 0 0 y_Mo_want b_Mo_want 8 (some .int) [.ref (o), .int (x), .int (k), .int (ca), .int (d), .int (cl)] (RepM G o σ) (pI (fun r H => r = 0 ∧ RepM G o (thr σ 1) H)) := by
  refine Ct.of C (by decide) (Nat.le_of_ble_eq_true rfl) ?_
  intro pg ev s mm below meth cd V hr hlk hn hR ls hl
  have hx := V.1
  have hb := V.2.1
  have hS : va_S (FM o) s.heap s.heap [] := va_S.rf
  have hF : ∀ q, FM o q → FM o q := fun _ h => h
  have hA : ∀ q, FM o q → s0.heap.size ≤ q := fun _ h => Nat.le_trans ho h.1
  have hl : lv_has ls 8 [(0, .ref (o)), (1, .int (x)), (2, .int (k)), (3, .int (ca)), (4, .int (d)), (5, .int (cl))] := hl
  refine lv_aload_n hx hb d_Mo_want_0 rfl (lv_at hl 0 rfl) ?_
  refine lv_iload_n hx hb d_Mo_want_1 rfl (lv_at hl 1 rfl) ?_
  refine g_callS (As := [.int (x)]) (rest := [.ref (o)]) (A0 := FM o) V (c_Mo_isOne C ho σ (x)) v_Mo_95 hR hS hA (fun _ h => h) ⟨by decide, by decide⟩ rfl hl (Nat.le_of_ble_eq_true rfl) d_Mo_want_2 ⟨Nat.le_refl _, Nat.le_refl _⟩ (kI (fun r2 H locs hQ _ hS => ?_))
  obtain ⟨rfl, hR⟩ := hQ
  refine lv_tope (y := 0) (by rw [hx1]; rfl) ?_
  refine lv_if_eq (tgt := 12) hx hb d_Mo_want_5 (by decide) (fun h5 => ?_) (fun h5 => ?_)
  · refine lv_iconst (v := 1) hx hb d_Mo_want_12 (by decide) ?_
    refine rm_pt V hR hS (hF _ ⟨Nat.le_refl _, Nat.lt_add_of_pos_right (by decide)⟩) d_Mo_want_13 (fun H locs hR hS => ?_)
    refine lv_aload_n hx hb d_Mo_want_16 rfl (lv_at hl 0 rfl) ?_
    refine rm_gt V hR d_Mo_want_17 ?_
    refine lv_tope (y := 1) (by simp [up2, upd]) ?_
    refine lv_if_le (tgt := 25) hx hb d_Mo_want_20 (by decide) (fun h20 => ?_) (fun h20 => ?_)
    · exact absurd h20 (by decide)
    · refine lv_iconst (v := 0) hx hb d_Mo_want_23 (by decide) ?_
      exact e_i V hr hlk hS (Nat.le_refl _) (Nat.le_refl _) d_Mo_want_24 ⟨_, rfl, rfl, hR⟩
  · exact absurd (by decide) h5
set_option maxHeartbeats 4000000 in
set_option maxRecDepth 100000 in
theorem c_Mo_want {l : Launch} {G : Gx} {s0 : State} (C : Cx G s0) {o : Nat} (ho : s0.heap.size ≤ o) (σ : Sg) (c : Nat) (hc : c < 3) (w : Nat) (hw : σ 7 c = nI w) (hw6 : w ≤ 60) (k ca d cl : Int32) : Ct l s0 (FM o) 1 0 0 y_Mo_want b_Mo_want 8 (some .int) [.ref (o), .int (nI c), .int (k), .int (ca), .int (d), .int (cl)] (RepM G o σ) (pI (fun r H => r = (waM σ c w k ca d cl).1 ∧ RepM G o (waM σ c w k ca d cl).2 H)) := by
  refine Ct.of C (by decide) (Nat.le_of_ble_eq_true rfl) ?_
  intro pg ev s mm below meth cd V hr hlk hn hR ls hl
  have hx := V.1
  have hb := V.2.1
  have hS : va_S (FM o) s.heap s.heap [] := va_S.rf
  have hF : ∀ q, FM o q → FM o q := fun _ h => h
  have hA : ∀ q, FM o q → s0.heap.size ≤ q := fun _ h => Nat.le_trans ho h.1
  have hl : lv_has ls 8 [(0, .ref (o)), (1, .int (nI c)), (2, .int (k)), (3, .int (ca)), (4, .int (d)), (5, .int (cl))] := hl
  refine lv_aload_n hx hb d_Mo_want_0 rfl (lv_at hl 0 rfl) ?_
  refine lv_iload_n hx hb d_Mo_want_1 rfl (lv_at hl 1 rfl) ?_
  refine g_callS (As := [.int (nI c)]) (rest := [.ref (o)]) (A0 := FM o) V (c_Mo_isOne C ho σ (nI c)) v_Mo_95 hR hS hA (fun _ h => h) ⟨by decide, by decide⟩ rfl hl (Nat.le_of_ble_eq_true rfl) d_Mo_want_2 ⟨Nat.le_refl _, Nat.le_refl _⟩ (kI (fun r2 H locs hQ _ hS => ?_))
  obtain ⟨rfl, hR⟩ := hQ
  refine lv_tope (y := 1) (by rw [one_nI hc]; rfl) ?_
  refine lv_if_eq (tgt := 12) hx hb d_Mo_want_5 (by decide) (fun h5 => ?_) (fun h5 => ?_)
  · exact absurd h5 (by decide)
  · refine lv_iconst (v := 0) hx hb d_Mo_want_8 (by decide) ?_
    refine lv_goto (tgt := 13) hx hb d_Mo_want_9 (by decide) ?_
    refine rm_pt V hR hS (hF _ ⟨Nat.le_refl _, Nat.lt_add_of_pos_right (by decide)⟩) d_Mo_want_13 (fun H locs hR hS => ?_)
    refine lv_aload_n hx hb d_Mo_want_16 rfl (lv_at hl 0 rfl) ?_
    refine rm_gt V hR d_Mo_want_17 ?_
    refine lv_tope (y := 0) (by simp [up2, upd]) ?_
    refine lv_if_le (tgt := 25) hx hb d_Mo_want_20 (by decide) (fun h20 => ?_) (fun h20 => ?_)
    · refine lv_iload_n hx hb d_Mo_want_25 rfl (lv_at hl 2 rfl) ?_
      refine lv_if_lt (tgt := 65) hx hb d_Mo_want_26 (by decide) (fun h26 => ?_) (fun h26 => ?_)
      · refine lv_iconst (v := 0) hx hb d_Mo_want_65 (by decide) ?_
        refine lv_istore (lv' := [(6, .int (0)), (0, .ref (o)), (1, .int (nI c)), (2, .int (k)), (3, .int (ca)), (4, .int (d)), (5, .int (cl))]) hx hb d_Mo_want_66 hl (by decide) rfl (fun ls hl => ?_)
        refine lv_aload_n hx hb d_Mo_want_68 rfl (lv_at hl 1 rfl) ?_
        refine lv_iload hx hb d_Mo_want_69 (lv_at hl 0 rfl) ?_
        refine lv_if_ne (tgt := 78) hx hb d_Mo_want_71 (by decide) (fun h71 => ?_) (fun h71 => ?_)
        · exact absurd (by decide) h71
        · refine lv_iconst (v := 2) hx hb d_Mo_want_74 (by decide) ?_
          refine lv_goto (tgt := 103) hx hb d_Mo_want_75 (by decide) ?_
          refine rm_pt V hR hS (hF _ ⟨Nat.le_refl _, Nat.lt_add_of_pos_right (by decide)⟩) d_Mo_want_103 (fun H locs hR hS => ?_)
          refine lv_aload_n hx hb d_Mo_want_106 rfl (lv_at hl 1 rfl) ?_
          refine rm_gt V hR d_Mo_want_107 ?_
          refine lv_tope (y := 2) (by simp [up2, upd]) ?_
          refine lv_if_le (tgt := 115) hx hb d_Mo_want_110 (by decide) (fun h110 => ?_) (fun h110 => ?_)
          · exact absurd h110 (by decide)
          · refine lv_iconst (v := 0) hx hb d_Mo_want_113 (by decide) ?_
            exact e_i V hr hlk hS (Nat.le_refl _) (Nat.le_refl _) d_Mo_want_114 ⟨_, rfl, by rw [show waM σ c w k ca d cl = (0, (up2 (up2 σ 0 0 (0)) 0 0 (2))) from by unfold waM; rw [if_pos (show rgt k ca d cl = false by simp [rgt, h26])]; rfl]; exact ⟨rfl, hR⟩⟩
      · refine lv_iload_n hx hb d_Mo_want_29 rfl (lv_at hl 2 rfl) ?_
        refine lv_bipush (v := 8) hx hb d_Mo_want_30 (by decide) ?_
        refine lv_icmp_ge (tgt := 65) hx hb d_Mo_want_32 (by decide) (fun h32 => ?_) (fun h32 => ?_)
        · refine lv_iconst (v := 0) hx hb d_Mo_want_65 (by decide) ?_
          refine lv_istore (lv' := [(6, .int (0)), (0, .ref (o)), (1, .int (nI c)), (2, .int (k)), (3, .int (ca)), (4, .int (d)), (5, .int (cl))]) hx hb d_Mo_want_66 hl (by decide) rfl (fun ls hl => ?_)
          refine lv_aload_n hx hb d_Mo_want_68 rfl (lv_at hl 1 rfl) ?_
          refine lv_iload hx hb d_Mo_want_69 (lv_at hl 0 rfl) ?_
          refine lv_if_ne (tgt := 78) hx hb d_Mo_want_71 (by decide) (fun h71 => ?_) (fun h71 => ?_)
          · exact absurd (by decide) h71
          · refine lv_iconst (v := 2) hx hb d_Mo_want_74 (by decide) ?_
            refine lv_goto (tgt := 103) hx hb d_Mo_want_75 (by decide) ?_
            refine rm_pt V hR hS (hF _ ⟨Nat.le_refl _, Nat.lt_add_of_pos_right (by decide)⟩) d_Mo_want_103 (fun H locs hR hS => ?_)
            refine lv_aload_n hx hb d_Mo_want_106 rfl (lv_at hl 1 rfl) ?_
            refine rm_gt V hR d_Mo_want_107 ?_
            refine lv_tope (y := 2) (by simp [up2, upd]) ?_
            refine lv_if_le (tgt := 115) hx hb d_Mo_want_110 (by decide) (fun h110 => ?_) (fun h110 => ?_)
            · exact absurd h110 (by decide)
            · refine lv_iconst (v := 0) hx hb d_Mo_want_113 (by decide) ?_
              exact e_i V hr hlk hS (Nat.le_refl _) (Nat.le_refl _) d_Mo_want_114 ⟨_, rfl, by rw [show waM σ c w k ca d cl = (0, (up2 (up2 σ 0 0 (0)) 0 0 (2))) from by unfold waM; rw [if_pos (show rgt k ca d cl = false by simp [rgt, h26, h32])]; rfl]; exact ⟨rfl, hR⟩⟩
        · refine lv_iload_n hx hb d_Mo_want_35 rfl (lv_at hl 3 rfl) ?_
          refine lv_if_lt (tgt := 65) hx hb d_Mo_want_36 (by decide) (fun h36 => ?_) (fun h36 => ?_)
          · refine lv_iconst (v := 0) hx hb d_Mo_want_65 (by decide) ?_
            refine lv_istore (lv' := [(6, .int (0)), (0, .ref (o)), (1, .int (nI c)), (2, .int (k)), (3, .int (ca)), (4, .int (d)), (5, .int (cl))]) hx hb d_Mo_want_66 hl (by decide) rfl (fun ls hl => ?_)
            refine lv_aload_n hx hb d_Mo_want_68 rfl (lv_at hl 1 rfl) ?_
            refine lv_iload hx hb d_Mo_want_69 (lv_at hl 0 rfl) ?_
            refine lv_if_ne (tgt := 78) hx hb d_Mo_want_71 (by decide) (fun h71 => ?_) (fun h71 => ?_)
            · exact absurd (by decide) h71
            · refine lv_iconst (v := 2) hx hb d_Mo_want_74 (by decide) ?_
              refine lv_goto (tgt := 103) hx hb d_Mo_want_75 (by decide) ?_
              refine rm_pt V hR hS (hF _ ⟨Nat.le_refl _, Nat.lt_add_of_pos_right (by decide)⟩) d_Mo_want_103 (fun H locs hR hS => ?_)
              refine lv_aload_n hx hb d_Mo_want_106 rfl (lv_at hl 1 rfl) ?_
              refine rm_gt V hR d_Mo_want_107 ?_
              refine lv_tope (y := 2) (by simp [up2, upd]) ?_
              refine lv_if_le (tgt := 115) hx hb d_Mo_want_110 (by decide) (fun h110 => ?_) (fun h110 => ?_)
              · exact absurd h110 (by decide)
              · refine lv_iconst (v := 0) hx hb d_Mo_want_113 (by decide) ?_
                exact e_i V hr hlk hS (Nat.le_refl _) (Nat.le_refl _) d_Mo_want_114 ⟨_, rfl, by rw [show waM σ c w k ca d cl = (0, (up2 (up2 σ 0 0 (0)) 0 0 (2))) from by unfold waM; rw [if_pos (show rgt k ca d cl = false by simp [rgt, h26, h32, h36])]; rfl]; exact ⟨rfl, hR⟩⟩
          · refine lv_iload_n hx hb d_Mo_want_39 rfl (lv_at hl 3 rfl) ?_
            refine lv_bipush (v := 8) hx hb d_Mo_want_40 (by decide) ?_
            refine lv_icmp_ge (tgt := 65) hx hb d_Mo_want_42 (by decide) (fun h42 => ?_) (fun h42 => ?_)
            · refine lv_iconst (v := 0) hx hb d_Mo_want_65 (by decide) ?_
              refine lv_istore (lv' := [(6, .int (0)), (0, .ref (o)), (1, .int (nI c)), (2, .int (k)), (3, .int (ca)), (4, .int (d)), (5, .int (cl))]) hx hb d_Mo_want_66 hl (by decide) rfl (fun ls hl => ?_)
              refine lv_aload_n hx hb d_Mo_want_68 rfl (lv_at hl 1 rfl) ?_
              refine lv_iload hx hb d_Mo_want_69 (lv_at hl 0 rfl) ?_
              refine lv_if_ne (tgt := 78) hx hb d_Mo_want_71 (by decide) (fun h71 => ?_) (fun h71 => ?_)
              · exact absurd (by decide) h71
              · refine lv_iconst (v := 2) hx hb d_Mo_want_74 (by decide) ?_
                refine lv_goto (tgt := 103) hx hb d_Mo_want_75 (by decide) ?_
                refine rm_pt V hR hS (hF _ ⟨Nat.le_refl _, Nat.lt_add_of_pos_right (by decide)⟩) d_Mo_want_103 (fun H locs hR hS => ?_)
                refine lv_aload_n hx hb d_Mo_want_106 rfl (lv_at hl 1 rfl) ?_
                refine rm_gt V hR d_Mo_want_107 ?_
                refine lv_tope (y := 2) (by simp [up2, upd]) ?_
                refine lv_if_le (tgt := 115) hx hb d_Mo_want_110 (by decide) (fun h110 => ?_) (fun h110 => ?_)
                · exact absurd h110 (by decide)
                · refine lv_iconst (v := 0) hx hb d_Mo_want_113 (by decide) ?_
                  exact e_i V hr hlk hS (Nat.le_refl _) (Nat.le_refl _) d_Mo_want_114 ⟨_, rfl, by rw [show waM σ c w k ca d cl = (0, (up2 (up2 σ 0 0 (0)) 0 0 (2))) from by unfold waM; rw [if_pos (show rgt k ca d cl = false by simp [rgt, h26, h32, h36, h42])]; rfl]; exact ⟨rfl, hR⟩⟩
            · refine lv_iload hx hb d_Mo_want_45 (lv_at hl 4 rfl) ?_
              refine g_callS (As := [.int (d)]) (rest := []) (A0 := FM o) V (c_Mo_isOne C ho (up2 σ 0 0 (0)) (d)) v_Mo_95 hR hS hA (fun _ h => h) ⟨by decide, by decide⟩ rfl hl (Nat.le_of_ble_eq_true rfl) d_Mo_want_47 ⟨Nat.le_refl _, Nat.le_refl _⟩ (kI (fun r47 H locs hQ _ hS => ?_))
              obtain ⟨rfl, hR⟩ := hQ
              refine lv_if_eq (tgt := 65) hx hb d_Mo_want_50 (by decide) (fun h50 => ?_) (fun h50 => ?_)
              · have h50 := bI_0.mp h50
                refine lv_iconst (v := 0) hx hb d_Mo_want_65 (by decide) ?_
                refine lv_istore (lv' := [(6, .int (0)), (0, .ref (o)), (1, .int (nI c)), (2, .int (k)), (3, .int (ca)), (4, .int (d)), (5, .int (cl))]) hx hb d_Mo_want_66 hl (by decide) rfl (fun ls hl => ?_)
                refine lv_aload_n hx hb d_Mo_want_68 rfl (lv_at hl 1 rfl) ?_
                refine lv_iload hx hb d_Mo_want_69 (lv_at hl 0 rfl) ?_
                refine lv_if_ne (tgt := 78) hx hb d_Mo_want_71 (by decide) (fun h71 => ?_) (fun h71 => ?_)
                · exact absurd (by decide) h71
                · refine lv_iconst (v := 2) hx hb d_Mo_want_74 (by decide) ?_
                  refine lv_goto (tgt := 103) hx hb d_Mo_want_75 (by decide) ?_
                  refine rm_pt V hR hS (hF _ ⟨Nat.le_refl _, Nat.lt_add_of_pos_right (by decide)⟩) d_Mo_want_103 (fun H locs hR hS => ?_)
                  refine lv_aload_n hx hb d_Mo_want_106 rfl (lv_at hl 1 rfl) ?_
                  refine rm_gt V hR d_Mo_want_107 ?_
                  refine lv_tope (y := 2) (by simp [up2, upd]) ?_
                  refine lv_if_le (tgt := 115) hx hb d_Mo_want_110 (by decide) (fun h110 => ?_) (fun h110 => ?_)
                  · exact absurd h110 (by decide)
                  · refine lv_iconst (v := 0) hx hb d_Mo_want_113 (by decide) ?_
                    exact e_i V hr hlk hS (Nat.le_refl _) (Nat.le_refl _) d_Mo_want_114 ⟨_, rfl, by rw [show waM σ c w k ca d cl = (0, (up2 (up2 σ 0 0 (0)) 0 0 (2))) from by unfold waM; rw [if_pos (show rgt k ca d cl = false by simp [rgt, h26, h32, h36, h42, h50])]; rfl]; exact ⟨rfl, hR⟩⟩
              · have h50 := bI_n0.mp h50
                refine lv_iload hx hb d_Mo_want_53 (lv_at hl 5 rfl) ?_
                refine g_callS (As := [.int (cl)]) (rest := []) (A0 := FM o) V (c_Mo_isOne C ho (up2 σ 0 0 (0)) (cl)) v_Mo_95 hR hS hA (fun _ h => h) ⟨by decide, by decide⟩ rfl hl (Nat.le_of_ble_eq_true rfl) d_Mo_want_55 ⟨Nat.le_refl _, Nat.le_refl _⟩ (kI (fun r55 H locs hQ _ hS => ?_))
                obtain ⟨rfl, hR⟩ := hQ
                refine lv_if_eq (tgt := 65) hx hb d_Mo_want_58 (by decide) (fun h58 => ?_) (fun h58 => ?_)
                · have h58 := bI_0.mp h58
                  refine lv_iconst (v := 0) hx hb d_Mo_want_65 (by decide) ?_
                  refine lv_istore (lv' := [(6, .int (0)), (0, .ref (o)), (1, .int (nI c)), (2, .int (k)), (3, .int (ca)), (4, .int (d)), (5, .int (cl))]) hx hb d_Mo_want_66 hl (by decide) rfl (fun ls hl => ?_)
                  refine lv_aload_n hx hb d_Mo_want_68 rfl (lv_at hl 1 rfl) ?_
                  refine lv_iload hx hb d_Mo_want_69 (lv_at hl 0 rfl) ?_
                  refine lv_if_ne (tgt := 78) hx hb d_Mo_want_71 (by decide) (fun h71 => ?_) (fun h71 => ?_)
                  · exact absurd (by decide) h71
                  · refine lv_iconst (v := 2) hx hb d_Mo_want_74 (by decide) ?_
                    refine lv_goto (tgt := 103) hx hb d_Mo_want_75 (by decide) ?_
                    refine rm_pt V hR hS (hF _ ⟨Nat.le_refl _, Nat.lt_add_of_pos_right (by decide)⟩) d_Mo_want_103 (fun H locs hR hS => ?_)
                    refine lv_aload_n hx hb d_Mo_want_106 rfl (lv_at hl 1 rfl) ?_
                    refine rm_gt V hR d_Mo_want_107 ?_
                    refine lv_tope (y := 2) (by simp [up2, upd]) ?_
                    refine lv_if_le (tgt := 115) hx hb d_Mo_want_110 (by decide) (fun h110 => ?_) (fun h110 => ?_)
                    · exact absurd h110 (by decide)
                    · refine lv_iconst (v := 0) hx hb d_Mo_want_113 (by decide) ?_
                      exact e_i V hr hlk hS (Nat.le_refl _) (Nat.le_refl _) d_Mo_want_114 ⟨_, rfl, by rw [show waM σ c w k ca d cl = (0, (up2 (up2 σ 0 0 (0)) 0 0 (2))) from by unfold waM; rw [if_pos (show rgt k ca d cl = false by simp [rgt, h26, h32, h36, h42, h50, h58])]; rfl]; exact ⟨rfl, hR⟩⟩
                · have h58 := bI_n0.mp h58
                  refine lv_iconst (v := 1) hx hb d_Mo_want_61 (by decide) ?_
                  refine lv_goto (tgt := 66) hx hb d_Mo_want_62 (by decide) ?_
                  refine lv_istore (lv' := [(6, .int (1)), (0, .ref (o)), (1, .int (nI c)), (2, .int (k)), (3, .int (ca)), (4, .int (d)), (5, .int (cl))]) hx hb d_Mo_want_66 hl (by decide) rfl (fun ls hl => ?_)
                  refine lv_aload_n hx hb d_Mo_want_68 rfl (lv_at hl 1 rfl) ?_
                  refine lv_iload hx hb d_Mo_want_69 (lv_at hl 0 rfl) ?_
                  refine lv_if_ne (tgt := 78) hx hb d_Mo_want_71 (by decide) (fun h71 => ?_) (fun h71 => ?_)
                  · refine lv_aload_n hx hb d_Mo_want_78 rfl (lv_at hl 1 rfl) ?_
                    refine rm_ga V hR 7 (by decide) (by decide) d_Mo_want_79 ?_
                    refine lv_iload_n hx hb d_Mo_want_82 rfl (lv_at hl 2 rfl) ?_
                    refine rm_ld V hR 7 ⟨by decide, by decide, rfl⟩ (n := 3) ⟨rfl, by decide⟩ (c) rfl (by omega) d_Mo_want_83 ?_
                    refine lv_tope (y := σ 7 c) (by simp [up2, upd]) ?_
                    refine lv_tope (y := nI w) hw ?_
                    refine lv_bipush (v := 60) hx hb d_Mo_want_84 (by decide) ?_
                    refine lv_icmp_eq (tgt := 98) hx hb d_Mo_want_86 (by decide) (fun h86 => ?_) (fun h86 => ?_)
                    · refine lv_iconst (v := 3) hx hb d_Mo_want_98 (by decide) ?_
                      refine lv_goto (tgt := 103) hx hb d_Mo_want_99 (by decide) ?_
                      refine rm_pt V hR hS (hF _ ⟨Nat.le_refl _, Nat.lt_add_of_pos_right (by decide)⟩) d_Mo_want_103 (fun H locs hR hS => ?_)
                      refine lv_aload_n hx hb d_Mo_want_106 rfl (lv_at hl 1 rfl) ?_
                      refine rm_gt V hR d_Mo_want_107 ?_
                      refine lv_tope (y := 3) (by simp [up2, upd]) ?_
                      refine lv_if_le (tgt := 115) hx hb d_Mo_want_110 (by decide) (fun h110 => ?_) (fun h110 => ?_)
                      · exact absurd h110 (by decide)
                      · refine lv_iconst (v := 0) hx hb d_Mo_want_113 (by decide) ?_
                        have g86 : w = 60 := (nI_eq (b := 60) (by omega) (by decide)).mp h86
                        exact e_i V hr hlk hS (Nat.le_refl _) (Nat.le_refl _) d_Mo_want_114 ⟨_, rfl, by rw [show waM σ c w k ca d cl = (0, (up2 (up2 σ 0 0 (0)) 0 0 (3))) from by unfold waM; rw [if_neg (show ¬ rgt k ca d cl = false by simp [rgt, h26, h32, h36, h42, h50, h58]), if_pos g86]; rfl]; exact ⟨rfl, hR⟩⟩
                    · refine lv_aload_n hx hb d_Mo_want_89 rfl (lv_at hl 1 rfl) ?_
                      refine lv_iload_n hx hb d_Mo_want_90 rfl (lv_at hl 2 rfl) ?_
                      refine g_callV (As := [.int (nI c)]) (rest := [.ref (o)]) (A0 := FM o) V (c_Mo_waiting C ho (up2 σ 0 0 (0)) c hc w hw hw6) v_Mo_99 (hR.recv V.2.2.2.2.2.1) hR hS hA (fun _ h => h) ⟨by decide, by decide⟩ rfl hl (Nat.le_of_ble_eq_true rfl) d_Mo_want_91 ⟨Nat.le_refl _, Nat.le_refl _⟩ (kI (fun r91 H locs hQ _ hS => ?_))
                      obtain ⟨rfl, hR⟩ := hQ
                      refine lv_iconst (v := 5) hx hb d_Mo_want_94 (by decide) ?_
                      refine lv_icmp_ne (tgt := 102) hx hb d_Mo_want_95 (by decide) (fun h95 => ?_) (fun h95 => ?_)
                      · refine lv_iconst (v := 0) hx hb d_Mo_want_102 (by decide) ?_
                        refine rm_pt V hR hS (hF _ ⟨Nat.le_refl _, Nat.lt_add_of_pos_right (by decide)⟩) d_Mo_want_103 (fun H locs hR hS => ?_)
                        refine lv_aload_n hx hb d_Mo_want_106 rfl (lv_at hl 1 rfl) ?_
                        refine rm_gt V hR d_Mo_want_107 ?_
                        refine lv_tope (y := 0) (by simp [up2, upd]) ?_
                        refine lv_if_le (tgt := 115) hx hb d_Mo_want_110 (by decide) (fun h110 => ?_) (fun h110 => ?_)
                        · have hw5 : w < 60 := by
                            have : ¬ w = 60 := fun z => h86 (by rw [z]; rfl)
                            omega
                          refine lv_aload_n hx hb d_Mo_want_115 rfl (lv_at hl 1 rfl) ?_
                          refine rm_ga V hR 7 (by decide) (by decide) d_Mo_want_116 ?_
                          refine lv_iload_n hx hb d_Mo_want_119 rfl (lv_at hl 2 rfl) ?_
                          refine rm_ld V hR 7 ⟨by decide, by decide, rfl⟩ (n := 3) ⟨rfl, by decide⟩ (c) rfl (by omega) d_Mo_want_120 ?_
                          refine lv_tope (y := σ 7 c) (by simp [up2, upd]) ?_
                          refine lv_tope (y := nI w) hw ?_
                          refine lv_istore (lv' := [(7, .int (nI w)), (6, .int (1)), (0, .ref (o)), (1, .int (nI c)), (2, .int (k)), (3, .int (ca)), (4, .int (d)), (5, .int (cl))]) hx hb d_Mo_want_121 hl (by decide) rfl (fun ls hl => ?_)
                          refine lv_aload_n hx hb d_Mo_want_123 rfl (lv_at hl 2 rfl) ?_
                          refine rm_ga V hR 5 (by decide) (by decide) d_Mo_want_124 ?_
                          refine lv_bipush (v := 60) hx hb d_Mo_want_127 (by decide) ?_
                          refine lv_iload_n hx hb d_Mo_want_129 rfl (lv_at hl 3 rfl) ?_
                          refine lv_imul hx hb d_Mo_want_130 ?_
                          refine lv_tope (y := nI (60 * c)) (mu_e (rfl : (60 : Int32) = nI 60) rfl) ?_
                          refine lv_iload hx hb d_Mo_want_131 (lv_at hl 0 rfl) ?_
                          refine lv_iadd hx hb d_Mo_want_133 ?_
                          refine lv_tope (y := nI (60 * c + w)) (ad_e rfl rfl) ?_
                          refine lv_iload_n hx hb d_Mo_want_134 rfl (lv_at hl 4 rfl) ?_
                          refine lv_bipush (v := 8) hx hb d_Mo_want_135 (by decide) ?_
                          refine lv_iload_n hx hb d_Mo_want_137 rfl (lv_at hl 5 rfl) ?_
                          refine lv_imul hx hb d_Mo_want_138 ?_
                          refine lv_iadd hx hb d_Mo_want_139 ?_
                          refine lv_bipush (v := 64) hx hb d_Mo_want_140 (by decide) ?_
                          refine lv_iload hx hb d_Mo_want_142 (lv_at hl 6 rfl) ?_
                          refine lv_imul hx hb d_Mo_want_144 ?_
                          refine lv_iadd hx hb d_Mo_want_145 ?_
                          refine lv_sipush (v := 256) hx hb d_Mo_want_146 (by decide) ?_
                          refine lv_iload hx hb d_Mo_want_149 (lv_at hl 7 rfl) ?_
                          refine lv_imul hx hb d_Mo_want_151 ?_
                          refine lv_iadd hx hb d_Mo_want_152 ?_
                          refine lv_sipush (v := 1024) hx hb d_Mo_want_153 (by decide) ?_
                          refine lv_iload_n hx hb d_Mo_want_156 rfl (lv_at hl 3 rfl) ?_
                          refine lv_imul hx hb d_Mo_want_157 ?_
                          refine lv_tope (y := nI (1024 * c)) (mu_e (rfl : (1024 : Int32) = nI 1024) rfl) ?_
                          refine lv_iadd hx hb d_Mo_want_158 ?_
                          refine lv_sipush (v := 4096) hx hb d_Mo_want_159 (by decide) ?_
                          refine lv_iload hx hb d_Mo_want_162 (lv_at hl 0 rfl) ?_
                          refine lv_imul hx hb d_Mo_want_164 ?_
                          refine lv_tope (y := nI (4096 * w)) (mu_e (rfl : (4096 : Int32) = nI 4096) rfl) ?_
                          refine lv_iadd hx hb d_Mo_want_165 ?_
                          refine rm_st V hR hS hF 5 ⟨by decide, by decide, rfl⟩ (n := 180) ⟨rfl, by decide⟩ (60 * c + w) rfl (by omega) d_Mo_want_166 (fun H locs hR hS => ?_)
                          refine lv_aload_n hx hb d_Mo_want_167 rfl (lv_at hl 2 rfl) ?_
                          refine rm_ga V hR 6 (by decide) (by decide) d_Mo_want_168 ?_
                          refine lv_bipush (v := 60) hx hb d_Mo_want_171 (by decide) ?_
                          refine lv_iload_n hx hb d_Mo_want_173 rfl (lv_at hl 3 rfl) ?_
                          refine lv_imul hx hb d_Mo_want_174 ?_
                          refine lv_tope (y := nI (60 * c)) (mu_e (rfl : (60 : Int32) = nI 60) rfl) ?_
                          refine lv_iload hx hb d_Mo_want_175 (lv_at hl 0 rfl) ?_
                          refine lv_iadd hx hb d_Mo_want_177 ?_
                          refine lv_tope (y := nI (60 * c + w)) (ad_e rfl rfl) ?_
                          refine lv_iconst (v := 0) hx hb d_Mo_want_178 (by decide) ?_
                          refine rm_st V hR hS hF 6 ⟨by decide, by decide, rfl⟩ (n := 180) ⟨rfl, by decide⟩ (60 * c + w) rfl (by omega) d_Mo_want_179 (fun H locs hR hS => ?_)
                          refine lv_aload_n hx hb d_Mo_want_180 rfl (lv_at hl 2 rfl) ?_
                          refine rm_ga V hR 7 (by decide) (by decide) d_Mo_want_181 ?_
                          refine lv_iload_n hx hb d_Mo_want_184 rfl (lv_at hl 3 rfl) ?_
                          refine lv_dup2_11 hx hb d_Mo_want_185 rfl rfl ?_
                          refine rm_ld V hR 7 ⟨by decide, by decide, rfl⟩ (n := 3) ⟨rfl, by decide⟩ (c) rfl (by omega) d_Mo_want_186 ?_
                          refine lv_tope (y := σ 7 c) (by simp [up2, upd]) ?_
                          refine lv_tope (y := nI w) hw ?_
                          refine lv_iconst (v := 1) hx hb d_Mo_want_187 (by decide) ?_
                          refine lv_iadd hx hb d_Mo_want_188 ?_
                          refine lv_tope (y := nI (w + 1)) (ad_e rfl (rfl : (1 : Int32) = nI 1)) ?_
                          refine rm_st V hR hS hF 7 ⟨by decide, by decide, rfl⟩ (n := 3) ⟨rfl, by decide⟩ (c) rfl (by omega) d_Mo_want_189 (fun H locs hR hS => ?_)
                          refine lv_iload hx hb d_Mo_want_190 (lv_at hl 0 rfl) ?_
                          have g86 : ¬ w = 60 := fun z => h86 (by rw [z]; rfl)
                          have g95 : ¬ wtn σ c w = 5 := fun z => h95 (by rw [wtn_k (σ := σ) (τ := up2 σ 0 0 0) (fun _ => rfl), z]; rfl)
                          exact e_i V hr hlk hS (Nat.le_refl _) (Nat.le_refl _) d_Mo_want_192 ⟨_, rfl, by rw [show waM σ c w k ca d cl = (nI w, (up2 (up2 (up2 (up2 (up2 σ 0 0 (0)) 0 0 (0)) 5 (60 * c + w) ((((((k : Int32) + ((8 : Int32) * (ca : Int32) : Int32) : Int32) + ((64 : Int32) * (d : Int32) : Int32) : Int32) + ((256 : Int32) * (cl : Int32) : Int32) : Int32) + (nI (1024 * c) : Int32) : Int32) + (nI (4096 * w) : Int32))) 6 (60 * c + w) (0)) 7 c (nI (w + 1)))) from by unfold waM; rw [if_neg (show ¬ rgt k ca d cl = false by simp [rgt, h26, h32, h36, h42, h50, h58]), if_neg g86, if_neg g95]; rfl]; exact ⟨rfl, hR⟩⟩
                        · exact absurd (by decide) h110
                      · refine lv_iconst (v := 3) hx hb d_Mo_want_98 (by decide) ?_
                        refine lv_goto (tgt := 103) hx hb d_Mo_want_99 (by decide) ?_
                        refine rm_pt V hR hS (hF _ ⟨Nat.le_refl _, Nat.lt_add_of_pos_right (by decide)⟩) d_Mo_want_103 (fun H locs hR hS => ?_)
                        refine lv_aload_n hx hb d_Mo_want_106 rfl (lv_at hl 1 rfl) ?_
                        refine rm_gt V hR d_Mo_want_107 ?_
                        refine lv_tope (y := 3) (by simp [up2, upd]) ?_
                        refine lv_if_le (tgt := 115) hx hb d_Mo_want_110 (by decide) (fun h110 => ?_) (fun h110 => ?_)
                        · exact absurd h110 (by decide)
                        · refine lv_iconst (v := 0) hx hb d_Mo_want_113 (by decide) ?_
                          have g86 : ¬ w = 60 := fun z => h86 (by rw [z]; rfl)
                          have g95 : wtn σ c w = 5 := by have := (nI_eq (b := 5) (by have := wtn_le (up2 σ 0 0 (0)) c w; omega) (by decide)).mp h95; rwa [wtn_k (σ := σ) (τ := up2 σ 0 0 0) (fun _ => rfl)] at this
                          exact e_i V hr hlk hS (Nat.le_refl _) (Nat.le_refl _) d_Mo_want_114 ⟨_, rfl, by rw [show waM σ c w k ca d cl = (0, (up2 (up2 σ 0 0 (0)) 0 0 (3))) from by unfold waM; rw [if_neg (show ¬ rgt k ca d cl = false by simp [rgt, h26, h32, h36, h42, h50, h58]), if_neg g86, if_pos g95]; rfl]; exact ⟨rfl, hR⟩⟩
                  · exact absurd h71 (by decide)
    · exact absurd (by decide) h20
theorem d_Mo_init_0 : decode b_Mo_init 0 = .ok (.aload_n 0, 1) := by decide +kernel
theorem d_Mo_init_1 : decode b_Mo_init 1 = .ok (.invokespecial 1, 3) := by decide +kernel
theorem d_Mo_init_4 : decode b_Mo_init 4 = .ok (.aload_n 0, 1) := by decide +kernel
theorem d_Mo_init_5 : decode b_Mo_init 5 = .ok (.sipush 2160, 3) := by decide +kernel
theorem d_Mo_init_8 : decode b_Mo_init 8 = .ok (.newarray .int, 2) := by decide +kernel
theorem d_Mo_init_10 : decode b_Mo_init 10 = .ok (.putfield 7, 3) := by decide +kernel
theorem d_Mo_init_13 : decode b_Mo_init 13 = .ok (.aload_n 0, 1) := by decide +kernel
theorem d_Mo_init_14 : decode b_Mo_init 14 = .ok (.iconst 3, 1) := by decide +kernel
theorem d_Mo_init_15 : decode b_Mo_init 15 = .ok (.newarray .boolean, 2) := by decide +kernel
theorem d_Mo_init_17 : decode b_Mo_init 17 = .ok (.putfield 13, 3) := by decide +kernel
theorem d_Mo_init_20 : decode b_Mo_init 20 = .ok (.aload_n 0, 1) := by decide +kernel
theorem d_Mo_init_21 : decode b_Mo_init 21 = .ok (.bipush 72, 2) := by decide +kernel
theorem d_Mo_init_23 : decode b_Mo_init 23 = .ok (.newarray .int, 2) := by decide +kernel
theorem d_Mo_init_25 : decode b_Mo_init 25 = .ok (.putfield 17, 3) := by decide +kernel
theorem d_Mo_init_28 : decode b_Mo_init 28 = .ok (.aload_n 0, 1) := by decide +kernel
theorem d_Mo_init_29 : decode b_Mo_init 29 = .ok (.iconst 3, 1) := by decide +kernel
theorem d_Mo_init_30 : decode b_Mo_init 30 = .ok (.newarray .int, 2) := by decide +kernel
theorem d_Mo_init_32 : decode b_Mo_init 32 = .ok (.putfield 20, 3) := by decide +kernel
theorem d_Mo_init_35 : decode b_Mo_init 35 = .ok (.aload_n 0, 1) := by decide +kernel
theorem d_Mo_init_36 : decode b_Mo_init 36 = .ok (.sipush 180, 3) := by decide +kernel
theorem d_Mo_init_39 : decode b_Mo_init 39 = .ok (.newarray .int, 2) := by decide +kernel
theorem d_Mo_init_41 : decode b_Mo_init 41 = .ok (.putfield 23, 3) := by decide +kernel
theorem d_Mo_init_44 : decode b_Mo_init 44 = .ok (.aload_n 0, 1) := by decide +kernel
theorem d_Mo_init_45 : decode b_Mo_init 45 = .ok (.sipush 180, 3) := by decide +kernel
theorem d_Mo_init_48 : decode b_Mo_init 48 = .ok (.newarray .int, 2) := by decide +kernel
theorem d_Mo_init_50 : decode b_Mo_init 50 = .ok (.putfield 26, 3) := by decide +kernel
theorem d_Mo_init_53 : decode b_Mo_init 53 = .ok (.aload_n 0, 1) := by decide +kernel
theorem d_Mo_init_54 : decode b_Mo_init 54 = .ok (.iconst 3, 1) := by decide +kernel
theorem d_Mo_init_55 : decode b_Mo_init 55 = .ok (.newarray .int, 2) := by decide +kernel
theorem d_Mo_init_57 : decode b_Mo_init 57 = .ok (.putfield 29, 3) := by decide +kernel
theorem d_Mo_init_60 : decode b_Mo_init 60 = .ok (.aload_n 0, 1) := by decide +kernel
theorem d_Mo_init_61 : decode b_Mo_init 61 = .ok (.iconst 3, 1) := by decide +kernel
theorem d_Mo_init_62 : decode b_Mo_init 62 = .ok (.newarray .int, 2) := by decide +kernel
theorem d_Mo_init_64 : decode b_Mo_init 64 = .ok (.putfield 32, 3) := by decide +kernel
theorem d_Mo_init_67 : decode b_Mo_init 67 = .ok (.aload_n 0, 1) := by decide +kernel
theorem d_Mo_init_68 : decode b_Mo_init 68 = .ok (.iconst 3, 1) := by decide +kernel
theorem d_Mo_init_69 : decode b_Mo_init 69 = .ok (.newarray .int, 2) := by decide +kernel
theorem d_Mo_init_71 : decode b_Mo_init 71 = .ok (.putfield 35, 3) := by decide +kernel
theorem d_Mo_init_74 : decode b_Mo_init 74 = .ok (.aload_n 0, 1) := by decide +kernel
theorem d_Mo_init_75 : decode b_Mo_init 75 = .ok (.iconst 3, 1) := by decide +kernel
theorem d_Mo_init_76 : decode b_Mo_init 76 = .ok (.newarray .int, 2) := by decide +kernel
theorem d_Mo_init_78 : decode b_Mo_init 78 = .ok (.putfield 38, 3) := by decide +kernel
theorem d_Mo_init_81 : decode b_Mo_init 81 = .ok (.aload_n 0, 1) := by decide +kernel
theorem d_Mo_init_82 : decode b_Mo_init 82 = .ok (.iconst 3, 1) := by decide +kernel
theorem d_Mo_init_83 : decode b_Mo_init 83 = .ok (.newarray .boolean, 2) := by decide +kernel
theorem d_Mo_init_85 : decode b_Mo_init 85 = .ok (.putfield 41, 3) := by decide +kernel
theorem d_Mo_init_88 : decode b_Mo_init 88 = .ok (.aload_n 0, 1) := by decide +kernel
theorem d_Mo_init_89 : decode b_Mo_init 89 = .ok (.iconst 3, 1) := by decide +kernel
theorem d_Mo_init_90 : decode b_Mo_init 90 = .ok (.newarray .int, 2) := by decide +kernel
theorem d_Mo_init_92 : decode b_Mo_init 92 = .ok (.putfield 44, 3) := by decide +kernel
theorem d_Mo_init_95 : decode b_Mo_init 95 = .ok (.aload_n 0, 1) := by decide +kernel
theorem d_Mo_init_96 : decode b_Mo_init 96 = .ok (.iconst 3, 1) := by decide +kernel
theorem d_Mo_init_97 : decode b_Mo_init 97 = .ok (.newarray .int, 2) := by decide +kernel
theorem d_Mo_init_99 : decode b_Mo_init 99 = .ok (.putfield 47, 3) := by decide +kernel
theorem d_Mo_init_102 : decode b_Mo_init 102 = .ok (.aload_n 0, 1) := by decide +kernel
theorem d_Mo_init_103 : decode b_Mo_init 103 = .ok (.iconst 3, 1) := by decide +kernel
theorem d_Mo_init_104 : decode b_Mo_init 104 = .ok (.newarray .int, 2) := by decide +kernel
theorem d_Mo_init_106 : decode b_Mo_init 106 = .ok (.putfield 50, 3) := by decide +kernel
theorem d_Mo_init_109 : decode b_Mo_init 109 = .ok (.aload_n 0, 1) := by decide +kernel
theorem d_Mo_init_110 : decode b_Mo_init 110 = .ok (.iconst 3, 1) := by decide +kernel
theorem d_Mo_init_111 : decode b_Mo_init 111 = .ok (.newarray .boolean, 2) := by decide +kernel
theorem d_Mo_init_113 : decode b_Mo_init 113 = .ok (.putfield 53, 3) := by decide +kernel
theorem d_Mo_init_116 : decode b_Mo_init 116 = .ok (.aload_n 0, 1) := by decide +kernel
theorem d_Mo_init_117 : decode b_Mo_init 117 = .ok (.iconst 3, 1) := by decide +kernel
theorem d_Mo_init_118 : decode b_Mo_init 118 = .ok (.newarray .int, 2) := by decide +kernel
theorem d_Mo_init_120 : decode b_Mo_init 120 = .ok (.putfield 56, 3) := by decide +kernel
theorem d_Mo_init_123 : decode b_Mo_init 123 = .ok (.aload_n 0, 1) := by decide +kernel
theorem d_Mo_init_124 : decode b_Mo_init 124 = .ok (.iconst 3, 1) := by decide +kernel
theorem d_Mo_init_125 : decode b_Mo_init 125 = .ok (.newarray .int, 2) := by decide +kernel
theorem d_Mo_init_127 : decode b_Mo_init 127 = .ok (.putfield 59, 3) := by decide +kernel
theorem d_Mo_init_130 : decode b_Mo_init 130 = .ok (.aload_n 0, 1) := by decide +kernel
theorem d_Mo_init_131 : decode b_Mo_init 131 = .ok (.iconst 3, 1) := by decide +kernel
theorem d_Mo_init_132 : decode b_Mo_init 132 = .ok (.newarray .int, 2) := by decide +kernel
theorem d_Mo_init_134 : decode b_Mo_init 134 = .ok (.putfield 62, 3) := by decide +kernel
theorem d_Mo_init_137 : decode b_Mo_init 137 = .ok (.aload_n 0, 1) := by decide +kernel
theorem d_Mo_init_138 : decode b_Mo_init 138 = .ok (.iconst 3, 1) := by decide +kernel
theorem d_Mo_init_139 : decode b_Mo_init 139 = .ok (.newarray .int, 2) := by decide +kernel
theorem d_Mo_init_141 : decode b_Mo_init 141 = .ok (.putfield 65, 3) := by decide +kernel
theorem d_Mo_init_144 : decode b_Mo_init 144 = .ok (.aload_n 0, 1) := by decide +kernel
theorem d_Mo_init_145 : decode b_Mo_init 145 = .ok (.iconst 3, 1) := by decide +kernel
theorem d_Mo_init_146 : decode b_Mo_init 146 = .ok (.newarray .int, 2) := by decide +kernel
theorem d_Mo_init_148 : decode b_Mo_init 148 = .ok (.putfield 68, 3) := by decide +kernel
theorem d_Mo_init_151 : decode b_Mo_init 151 = .ok (.aload_n 0, 1) := by decide +kernel
theorem d_Mo_init_152 : decode b_Mo_init 152 = .ok (.bipush 24, 2) := by decide +kernel
theorem d_Mo_init_154 : decode b_Mo_init 154 = .ok (.newarray .int, 2) := by decide +kernel
theorem d_Mo_init_156 : decode b_Mo_init 156 = .ok (.putfield 71, 3) := by decide +kernel
theorem d_Mo_init_159 : decode b_Mo_init 159 = .ok (.aload_n 0, 1) := by decide +kernel
theorem d_Mo_init_160 : decode b_Mo_init 160 = .ok (.bipush 9, 2) := by decide +kernel
theorem d_Mo_init_162 : decode b_Mo_init 162 = .ok (.newarray .int, 2) := by decide +kernel
theorem d_Mo_init_164 : decode b_Mo_init 164 = .ok (.putfield 74, 3) := by decide +kernel
theorem d_Mo_init_167 : decode b_Mo_init 167 = .ok (.aload_n 0, 1) := by decide +kernel
theorem d_Mo_init_168 : decode b_Mo_init 168 = .ok (.bipush 9, 2) := by decide +kernel
theorem d_Mo_init_170 : decode b_Mo_init 170 = .ok (.newarray .boolean, 2) := by decide +kernel
theorem d_Mo_init_172 : decode b_Mo_init 172 = .ok (.putfield 77, 3) := by decide +kernel
theorem d_Mo_init_175 : decode b_Mo_init 175 = .ok (.aload_n 0, 1) := by decide +kernel
theorem d_Mo_init_176 : decode b_Mo_init 176 = .ok (.bipush 9, 2) := by decide +kernel
theorem d_Mo_init_178 : decode b_Mo_init 178 = .ok (.newarray .int, 2) := by decide +kernel
theorem d_Mo_init_180 : decode b_Mo_init 180 = .ok (.putfield 80, 3) := by decide +kernel
theorem d_Mo_init_183 : decode b_Mo_init 183 = .ok (.iconst 0, 1) := by decide +kernel
theorem d_Mo_init_184 : decode b_Mo_init 184 = .ok (.istore_n 1, 1) := by decide +kernel
theorem d_Mo_init_185 : decode b_Mo_init 185 = .ok (.iload_n 1, 1) := by decide +kernel
theorem d_Mo_init_186 : decode b_Mo_init 186 = .ok (.bipush 24, 2) := by decide +kernel
theorem d_Mo_init_188 : decode b_Mo_init 188 = .ok (.if_icmp .ge 16, 3) := by decide +kernel
theorem d_Mo_init_191 : decode b_Mo_init 191 = .ok (.aload_n 0, 1) := by decide +kernel
theorem d_Mo_init_192 : decode b_Mo_init 192 = .ok (.getfield 71, 3) := by decide +kernel
theorem d_Mo_init_195 : decode b_Mo_init 195 = .ok (.iload_n 1, 1) := by decide +kernel
theorem d_Mo_init_196 : decode b_Mo_init 196 = .ok (.iconst 3, 1) := by decide +kernel
theorem d_Mo_init_197 : decode b_Mo_init 197 = .ok (.iastore, 1) := by decide +kernel
theorem d_Mo_init_198 : decode b_Mo_init 198 = .ok (.iinc 1 1, 3) := by decide +kernel
theorem d_Mo_init_201 : decode b_Mo_init 201 = .ok (.goto (-16), 3) := by decide +kernel
theorem d_Mo_init_204 : decode b_Mo_init 204 = .ok (.iconst 0, 1) := by decide +kernel
theorem d_Mo_init_205 : decode b_Mo_init 205 = .ok (.istore_n 1, 1) := by decide +kernel
theorem d_Mo_init_206 : decode b_Mo_init 206 = .ok (.iload_n 1, 1) := by decide +kernel
theorem d_Mo_init_207 : decode b_Mo_init 207 = .ok (.bipush 9, 2) := by decide +kernel
theorem d_Mo_init_209 : decode b_Mo_init 209 = .ok (.if_icmp .ge 23, 3) := by decide +kernel
theorem d_Mo_init_212 : decode b_Mo_init 212 = .ok (.aload_n 0, 1) := by decide +kernel
theorem d_Mo_init_213 : decode b_Mo_init 213 = .ok (.getfield 74, 3) := by decide +kernel
theorem d_Mo_init_216 : decode b_Mo_init 216 = .ok (.iload_n 1, 1) := by decide +kernel
theorem d_Mo_init_217 : decode b_Mo_init 217 = .ok (.iconst (-1), 1) := by decide +kernel
theorem d_Mo_init_218 : decode b_Mo_init 218 = .ok (.iastore, 1) := by decide +kernel
theorem d_Mo_init_219 : decode b_Mo_init 219 = .ok (.aload_n 0, 1) := by decide +kernel
theorem d_Mo_init_220 : decode b_Mo_init 220 = .ok (.getfield 80, 3) := by decide +kernel
theorem d_Mo_init_223 : decode b_Mo_init 223 = .ok (.iload_n 1, 1) := by decide +kernel
theorem d_Mo_init_224 : decode b_Mo_init 224 = .ok (.iconst (-1), 1) := by decide +kernel
theorem d_Mo_init_225 : decode b_Mo_init 225 = .ok (.iastore, 1) := by decide +kernel
theorem d_Mo_init_226 : decode b_Mo_init 226 = .ok (.iinc 1 1, 3) := by decide +kernel
theorem d_Mo_init_229 : decode b_Mo_init 229 = .ok (.goto (-23), 3) := by decide +kernel
theorem d_Mo_init_232 : decode b_Mo_init 232 = .ok (.return_, 1) := by decide +kernel
set_option maxHeartbeats 4000000 in
set_option maxRecDepth 100000 in
theorem c_Mo_init {l : Launch} {G : Gx} {s0 : State} (C : Cx G s0) {o : Nat} (ho : s0.heap.size ≤ o)  : Ct l s0 (FM o) 1 24 2691 y_Mo_init b_Mo_init 2 none [.ref (o)] (IM G o 0) (pV (fun H => RepM G o (ini 24 9) H)) := by
  refine Ct.of C (by decide) (Nat.le_of_ble_eq_true rfl) ?_
  intro pg ev s mm below meth cd V hr hlk hn hI ls hl
  have hx := V.1
  have hb := V.2.1
  have hS : va_S (FM o) s.heap s.heap [] := va_S.rf
  have hF : ∀ q, FM o q → FM o q := fun _ h => h
  have hA : ∀ q, FM o q → s0.heap.size ≤ q := fun _ h => Nat.le_trans ho h.1
  have hl : lv_has ls 2 [(0, .ref (o))] := hl
  have loop2 : ∀ (z k : Nat), k ≤ 9 → 9 < k + z → ∀ (H : Heap) (locs : List Loc) (ls : Array Slot), RepM G o (ini 24 k) H → va_S (FM o) s.heap H locs → lv_has ls 2 [(1, .int (nI k)), (0, .ref (o))] → W pg l ev (rmx 1 24 2691) s mm [.ref o].toArray below meth cd H locs 24 2691 (MQ below (qR (FM o) (pV (fun H => RepM G o (ini 24 9) H))) [.ref o].toArray s 24 2691 (FM o)) (F0 mm 206 ls []) := by
    intro z
    induction z with
    | zero => intro k h1 h2; omega
    | succ z ih =>
      intro k h1 h2 H locs ls hR hS hl
      refine lv_iload_n hx hb d_Mo_init_206 rfl (lv_at hl 0 rfl) ?_
      refine lv_bipush (v := 9) hx hb d_Mo_init_207 (by decide) ?_
      refine lv_icmp_ge (tgt := 232) hx hb d_Mo_init_209 (by decide) (fun h209 => ?_) (fun h209 => ?_)
      · obtain rfl : k = 9 := by have := (nI_leI (a := 9) (by decide) (by omega)).mp h209; omega
        exact e_v V hr hlk hS (Nat.le_refl _) (Nat.le_refl _) d_Mo_init_232 ⟨rfl, hR⟩
      · have hk9 : k < 9 := by
          rcases Nat.lt_or_ge k 9 with q | q
          · exact q
          · exact absurd (nI_le q (by omega)) h209
        refine lv_aload_n hx hb d_Mo_init_212 rfl (lv_at hl 1 rfl) ?_
        refine rm_ga V hR 22 (by decide) (by decide) d_Mo_init_213 ?_
        refine lv_iload_n hx hb d_Mo_init_216 rfl (lv_at hl 0 rfl) ?_
        refine lv_iconst (v := -1) hx hb d_Mo_init_217 (by decide) ?_
        refine rm_st V hR hS hF 22 ⟨by decide, by decide, rfl⟩ (n := 9) ⟨rfl, by decide⟩ (k) rfl (by omega) d_Mo_init_218 (fun H locs hR hS => ?_)
        refine lv_aload_n hx hb d_Mo_init_219 rfl (lv_at hl 1 rfl) ?_
        refine rm_ga V hR 24 (by decide) (by decide) d_Mo_init_220 ?_
        refine lv_iload_n hx hb d_Mo_init_223 rfl (lv_at hl 0 rfl) ?_
        refine lv_iconst (v := -1) hx hb d_Mo_init_224 (by decide) ?_
        refine rm_st V hR hS hF 24 ⟨by decide, by decide, rfl⟩ (n := 9) ⟨rfl, by decide⟩ (k) rfl (by omega) d_Mo_init_225 (fun H locs hR hS => ?_)
        refine lv_iinc (v := nI (k + 1)) (lv' := [(1, .int (nI (k + 1))), (0, .ref (o))]) hx hb d_Mo_init_226 hl (k := 0) rfl (ad_e rfl (rfl : (1 : Int32) = nI 1)) (by decide) rfl (fun ls hl => ?_)
        refine lv_goto (tgt := 206) hx hb d_Mo_init_229 (by decide) ?_
        exact ih (k + 1) (by omega) (by omega) _ _ ls (by rw [← ini_2]; exact hR) hS (lv_sub hl [0, 1] rfl)
  have loop1 : ∀ (z k : Nat), k ≤ 24 → 24 < k + z → ∀ (H : Heap) (locs : List Loc) (ls : Array Slot), RepM G o (ini k 0) H → va_S (FM o) s.heap H locs → lv_has ls 2 [(1, .int (nI k)), (0, .ref (o))] → W pg l ev (rmx 1 24 2691) s mm [.ref o].toArray below meth cd H locs 24 2691 (MQ below (qR (FM o) (pV (fun H => RepM G o (ini 24 9) H))) [.ref o].toArray s 24 2691 (FM o)) (F0 mm 185 ls []) := by
    intro z
    induction z with
    | zero => intro k h1 h2; omega
    | succ z ih =>
      intro k h1 h2 H locs ls hR hS hl
      refine lv_iload_n hx hb d_Mo_init_185 rfl (lv_at hl 0 rfl) ?_
      refine lv_bipush (v := 24) hx hb d_Mo_init_186 (by decide) ?_
      refine lv_icmp_ge (tgt := 204) hx hb d_Mo_init_188 (by decide) (fun h188 => ?_) (fun h188 => ?_)
      · obtain rfl : k = 24 := by have := (nI_leI (a := 24) (by decide) (by omega)).mp h188; omega
        refine lv_iconst (v := 0) hx hb d_Mo_init_204 (by decide) ?_
        refine lv_istore_n (lv' := [(1, .int (0)), (0, .ref (o))]) hx hb d_Mo_init_205 rfl hl (by decide) rfl (fun ls hl => ?_)
        exact loop2 10 0 (by omega) (by omega) _ _ ls hR hS (lv_sub hl [0, 1] rfl)
      · have hk24 : k < 24 := by
          rcases Nat.lt_or_ge k 24 with q | q
          · exact q
          · exact absurd (nI_le q (by omega)) h188
        refine lv_aload_n hx hb d_Mo_init_191 rfl (lv_at hl 1 rfl) ?_
        refine rm_ga V hR 21 (by decide) (by decide) d_Mo_init_192 ?_
        refine lv_iload_n hx hb d_Mo_init_195 rfl (lv_at hl 0 rfl) ?_
        refine lv_iconst (v := 3) hx hb d_Mo_init_196 (by decide) ?_
        refine rm_st V hR hS hF 21 ⟨by decide, by decide, rfl⟩ (n := 24) ⟨rfl, by decide⟩ (k) rfl (by omega) d_Mo_init_197 (fun H locs hR hS => ?_)
        refine lv_iinc (v := nI (k + 1)) (lv' := [(1, .int (nI (k + 1))), (0, .ref (o))]) hx hb d_Mo_init_198 hl (k := 0) rfl (ad_e rfl (rfl : (1 : Int32) = nI 1)) (by decide) rfl (fun ls hl => ?_)
        refine lv_goto (tgt := 185) hx hb d_Mo_init_201 (by decide) ?_
        exact ih (k + 1) (by omega) (by omega) _ _ ls (by rw [← ini_1]; exact hR) hS (lv_sub hl [0, 1] rfl)
  refine lv_aload_n hx hb d_Mo_init_0 rfl (lv_at hl 0 rfl) ?_
  refine x_obj V (List.mem_of_getElem? (i := 775) (by decide +kernel)) hl d_Mo_init_1 ⟨by decide, by decide⟩ (by decide) ?_
  refine lv_aload_n hx hb d_Mo_init_4 rfl (lv_at hl 0 rfl) ?_
  refine lv_sipush (v := 2160) hx hb d_Mo_init_5 (by decide) ?_
  refine rm_mk V hI (by decide) rfl hS (hF _ ⟨Nat.le_refl _, Nat.lt_add_of_pos_right (by decide)⟩) hn 2160 rfl rfl (by decide) (by decide) (by decide) d_Mo_init_8 d_Mo_init_10 (fun H locs hI hS => ?_)
  refine lv_aload_n hx hb d_Mo_init_13 rfl (lv_at hl 0 rfl) ?_
  refine lv_iconst (v := 3) hx hb d_Mo_init_14 (by decide) ?_
  refine rm_mz V hI (by decide) rfl hS (hF _ ⟨Nat.le_refl _, Nat.lt_add_of_pos_right (by decide)⟩) hn 3 rfl rfl (by decide) (by decide) (by decide) d_Mo_init_15 d_Mo_init_17 (fun H locs hI hS => ?_)
  refine lv_aload_n hx hb d_Mo_init_20 rfl (lv_at hl 0 rfl) ?_
  refine lv_bipush (v := 72) hx hb d_Mo_init_21 (by decide) ?_
  refine rm_mk V hI (by decide) rfl hS (hF _ ⟨Nat.le_refl _, Nat.lt_add_of_pos_right (by decide)⟩) hn 72 rfl rfl (by decide) (by decide) (by decide) d_Mo_init_23 d_Mo_init_25 (fun H locs hI hS => ?_)
  refine lv_aload_n hx hb d_Mo_init_28 rfl (lv_at hl 0 rfl) ?_
  refine lv_iconst (v := 3) hx hb d_Mo_init_29 (by decide) ?_
  refine rm_mk V hI (by decide) rfl hS (hF _ ⟨Nat.le_refl _, Nat.lt_add_of_pos_right (by decide)⟩) hn 3 rfl rfl (by decide) (by decide) (by decide) d_Mo_init_30 d_Mo_init_32 (fun H locs hI hS => ?_)
  refine lv_aload_n hx hb d_Mo_init_35 rfl (lv_at hl 0 rfl) ?_
  refine lv_sipush (v := 180) hx hb d_Mo_init_36 (by decide) ?_
  refine rm_mk V hI (by decide) rfl hS (hF _ ⟨Nat.le_refl _, Nat.lt_add_of_pos_right (by decide)⟩) hn 180 rfl rfl (by decide) (by decide) (by decide) d_Mo_init_39 d_Mo_init_41 (fun H locs hI hS => ?_)
  refine lv_aload_n hx hb d_Mo_init_44 rfl (lv_at hl 0 rfl) ?_
  refine lv_sipush (v := 180) hx hb d_Mo_init_45 (by decide) ?_
  refine rm_mk V hI (by decide) rfl hS (hF _ ⟨Nat.le_refl _, Nat.lt_add_of_pos_right (by decide)⟩) hn 180 rfl rfl (by decide) (by decide) (by decide) d_Mo_init_48 d_Mo_init_50 (fun H locs hI hS => ?_)
  refine lv_aload_n hx hb d_Mo_init_53 rfl (lv_at hl 0 rfl) ?_
  refine lv_iconst (v := 3) hx hb d_Mo_init_54 (by decide) ?_
  refine rm_mk V hI (by decide) rfl hS (hF _ ⟨Nat.le_refl _, Nat.lt_add_of_pos_right (by decide)⟩) hn 3 rfl rfl (by decide) (by decide) (by decide) d_Mo_init_55 d_Mo_init_57 (fun H locs hI hS => ?_)
  refine lv_aload_n hx hb d_Mo_init_60 rfl (lv_at hl 0 rfl) ?_
  refine lv_iconst (v := 3) hx hb d_Mo_init_61 (by decide) ?_
  refine rm_mk V hI (by decide) rfl hS (hF _ ⟨Nat.le_refl _, Nat.lt_add_of_pos_right (by decide)⟩) hn 3 rfl rfl (by decide) (by decide) (by decide) d_Mo_init_62 d_Mo_init_64 (fun H locs hI hS => ?_)
  refine lv_aload_n hx hb d_Mo_init_67 rfl (lv_at hl 0 rfl) ?_
  refine lv_iconst (v := 3) hx hb d_Mo_init_68 (by decide) ?_
  refine rm_mk V hI (by decide) rfl hS (hF _ ⟨Nat.le_refl _, Nat.lt_add_of_pos_right (by decide)⟩) hn 3 rfl rfl (by decide) (by decide) (by decide) d_Mo_init_69 d_Mo_init_71 (fun H locs hI hS => ?_)
  refine lv_aload_n hx hb d_Mo_init_74 rfl (lv_at hl 0 rfl) ?_
  refine lv_iconst (v := 3) hx hb d_Mo_init_75 (by decide) ?_
  refine rm_mk V hI (by decide) rfl hS (hF _ ⟨Nat.le_refl _, Nat.lt_add_of_pos_right (by decide)⟩) hn 3 rfl rfl (by decide) (by decide) (by decide) d_Mo_init_76 d_Mo_init_78 (fun H locs hI hS => ?_)
  refine lv_aload_n hx hb d_Mo_init_81 rfl (lv_at hl 0 rfl) ?_
  refine lv_iconst (v := 3) hx hb d_Mo_init_82 (by decide) ?_
  refine rm_mz V hI (by decide) rfl hS (hF _ ⟨Nat.le_refl _, Nat.lt_add_of_pos_right (by decide)⟩) hn 3 rfl rfl (by decide) (by decide) (by decide) d_Mo_init_83 d_Mo_init_85 (fun H locs hI hS => ?_)
  refine lv_aload_n hx hb d_Mo_init_88 rfl (lv_at hl 0 rfl) ?_
  refine lv_iconst (v := 3) hx hb d_Mo_init_89 (by decide) ?_
  refine rm_mk V hI (by decide) rfl hS (hF _ ⟨Nat.le_refl _, Nat.lt_add_of_pos_right (by decide)⟩) hn 3 rfl rfl (by decide) (by decide) (by decide) d_Mo_init_90 d_Mo_init_92 (fun H locs hI hS => ?_)
  refine lv_aload_n hx hb d_Mo_init_95 rfl (lv_at hl 0 rfl) ?_
  refine lv_iconst (v := 3) hx hb d_Mo_init_96 (by decide) ?_
  refine rm_mk V hI (by decide) rfl hS (hF _ ⟨Nat.le_refl _, Nat.lt_add_of_pos_right (by decide)⟩) hn 3 rfl rfl (by decide) (by decide) (by decide) d_Mo_init_97 d_Mo_init_99 (fun H locs hI hS => ?_)
  refine lv_aload_n hx hb d_Mo_init_102 rfl (lv_at hl 0 rfl) ?_
  refine lv_iconst (v := 3) hx hb d_Mo_init_103 (by decide) ?_
  refine rm_mk V hI (by decide) rfl hS (hF _ ⟨Nat.le_refl _, Nat.lt_add_of_pos_right (by decide)⟩) hn 3 rfl rfl (by decide) (by decide) (by decide) d_Mo_init_104 d_Mo_init_106 (fun H locs hI hS => ?_)
  refine lv_aload_n hx hb d_Mo_init_109 rfl (lv_at hl 0 rfl) ?_
  refine lv_iconst (v := 3) hx hb d_Mo_init_110 (by decide) ?_
  refine rm_mz V hI (by decide) rfl hS (hF _ ⟨Nat.le_refl _, Nat.lt_add_of_pos_right (by decide)⟩) hn 3 rfl rfl (by decide) (by decide) (by decide) d_Mo_init_111 d_Mo_init_113 (fun H locs hI hS => ?_)
  refine lv_aload_n hx hb d_Mo_init_116 rfl (lv_at hl 0 rfl) ?_
  refine lv_iconst (v := 3) hx hb d_Mo_init_117 (by decide) ?_
  refine rm_mk V hI (by decide) rfl hS (hF _ ⟨Nat.le_refl _, Nat.lt_add_of_pos_right (by decide)⟩) hn 3 rfl rfl (by decide) (by decide) (by decide) d_Mo_init_118 d_Mo_init_120 (fun H locs hI hS => ?_)
  refine lv_aload_n hx hb d_Mo_init_123 rfl (lv_at hl 0 rfl) ?_
  refine lv_iconst (v := 3) hx hb d_Mo_init_124 (by decide) ?_
  refine rm_mk V hI (by decide) rfl hS (hF _ ⟨Nat.le_refl _, Nat.lt_add_of_pos_right (by decide)⟩) hn 3 rfl rfl (by decide) (by decide) (by decide) d_Mo_init_125 d_Mo_init_127 (fun H locs hI hS => ?_)
  refine lv_aload_n hx hb d_Mo_init_130 rfl (lv_at hl 0 rfl) ?_
  refine lv_iconst (v := 3) hx hb d_Mo_init_131 (by decide) ?_
  refine rm_mk V hI (by decide) rfl hS (hF _ ⟨Nat.le_refl _, Nat.lt_add_of_pos_right (by decide)⟩) hn 3 rfl rfl (by decide) (by decide) (by decide) d_Mo_init_132 d_Mo_init_134 (fun H locs hI hS => ?_)
  refine lv_aload_n hx hb d_Mo_init_137 rfl (lv_at hl 0 rfl) ?_
  refine lv_iconst (v := 3) hx hb d_Mo_init_138 (by decide) ?_
  refine rm_mk V hI (by decide) rfl hS (hF _ ⟨Nat.le_refl _, Nat.lt_add_of_pos_right (by decide)⟩) hn 3 rfl rfl (by decide) (by decide) (by decide) d_Mo_init_139 d_Mo_init_141 (fun H locs hI hS => ?_)
  refine lv_aload_n hx hb d_Mo_init_144 rfl (lv_at hl 0 rfl) ?_
  refine lv_iconst (v := 3) hx hb d_Mo_init_145 (by decide) ?_
  refine rm_mk V hI (by decide) rfl hS (hF _ ⟨Nat.le_refl _, Nat.lt_add_of_pos_right (by decide)⟩) hn 3 rfl rfl (by decide) (by decide) (by decide) d_Mo_init_146 d_Mo_init_148 (fun H locs hI hS => ?_)
  refine lv_aload_n hx hb d_Mo_init_151 rfl (lv_at hl 0 rfl) ?_
  refine lv_bipush (v := 24) hx hb d_Mo_init_152 (by decide) ?_
  refine rm_mk V hI (by decide) rfl hS (hF _ ⟨Nat.le_refl _, Nat.lt_add_of_pos_right (by decide)⟩) hn 24 rfl rfl (by decide) (by decide) (by decide) d_Mo_init_154 d_Mo_init_156 (fun H locs hI hS => ?_)
  refine lv_aload_n hx hb d_Mo_init_159 rfl (lv_at hl 0 rfl) ?_
  refine lv_bipush (v := 9) hx hb d_Mo_init_160 (by decide) ?_
  refine rm_mk V hI (by decide) rfl hS (hF _ ⟨Nat.le_refl _, Nat.lt_add_of_pos_right (by decide)⟩) hn 9 rfl rfl (by decide) (by decide) (by decide) d_Mo_init_162 d_Mo_init_164 (fun H locs hI hS => ?_)
  refine lv_aload_n hx hb d_Mo_init_167 rfl (lv_at hl 0 rfl) ?_
  refine lv_bipush (v := 9) hx hb d_Mo_init_168 (by decide) ?_
  refine rm_mz V hI (by decide) rfl hS (hF _ ⟨Nat.le_refl _, Nat.lt_add_of_pos_right (by decide)⟩) hn 9 rfl rfl (by decide) (by decide) (by decide) d_Mo_init_170 d_Mo_init_172 (fun H locs hI hS => ?_)
  refine lv_aload_n hx hb d_Mo_init_175 rfl (lv_at hl 0 rfl) ?_
  refine lv_bipush (v := 9) hx hb d_Mo_init_176 (by decide) ?_
  refine rm_mk V hI (by decide) rfl hS (hF _ ⟨Nat.le_refl _, Nat.lt_add_of_pos_right (by decide)⟩) hn 9 rfl rfl (by decide) (by decide) (by decide) d_Mo_init_178 d_Mo_init_180 (fun H locs hI hS => ?_)
  refine lv_iconst (v := 0) hx hb d_Mo_init_183 (by decide) ?_
  refine lv_istore_n (lv' := [(1, .int (0)), (0, .ref (o))]) hx hb d_Mo_init_184 rfl hl (by decide) rfl (fun ls hl => ?_)
  exact loop1 25 0 (by omega) (by omega) _ _ ls hI.rep hS (lv_sub hl [0, 1] rfl)
