theorem d_Mo_isAllowed_0 : decode b_Mo_isAllowed 0 = .ok (.bipush 8, 2) := by decide +kernel
theorem d_Mo_isAllowed_2 : decode b_Mo_isAllowed 2 = .ok (.iload_n 1, 1) := by decide +kernel
theorem d_Mo_isAllowed_3 : decode b_Mo_isAllowed 3 = .ok (.imul, 1) := by decide +kernel
theorem d_Mo_isAllowed_4 : decode b_Mo_isAllowed 4 = .ok (.iload_n 2, 1) := by decide +kernel
theorem d_Mo_isAllowed_5 : decode b_Mo_isAllowed 5 = .ok (.iconst 3, 1) := by decide +kernel
theorem d_Mo_isAllowed_6 : decode b_Mo_isAllowed 6 = .ok (.ishr, 1) := by decide +kernel
theorem d_Mo_isAllowed_7 : decode b_Mo_isAllowed 7 = .ok (.bipush 7, 2) := by decide +kernel
theorem d_Mo_isAllowed_9 : decode b_Mo_isAllowed 9 = .ok (.iand, 1) := by decide +kernel
theorem d_Mo_isAllowed_10 : decode b_Mo_isAllowed 10 = .ok (.iadd, 1) := by decide +kernel
theorem d_Mo_isAllowed_11 : decode b_Mo_isAllowed 11 = .ok (.istore_n 3, 1) := by decide +kernel
theorem d_Mo_isAllowed_12 : decode b_Mo_isAllowed 12 = .ok (.iconst 3, 1) := by decide +kernel
theorem d_Mo_isAllowed_13 : decode b_Mo_isAllowed 13 = .ok (.iload_n 1, 1) := by decide +kernel
theorem d_Mo_isAllowed_14 : decode b_Mo_isAllowed 14 = .ok (.imul, 1) := by decide +kernel
theorem d_Mo_isAllowed_15 : decode b_Mo_isAllowed 15 = .ok (.iload_n 2, 1) := by decide +kernel
theorem d_Mo_isAllowed_16 : decode b_Mo_isAllowed 16 = .ok (.bipush 6, 2) := by decide +kernel
theorem d_Mo_isAllowed_18 : decode b_Mo_isAllowed 18 = .ok (.ishr, 1) := by decide +kernel
theorem d_Mo_isAllowed_19 : decode b_Mo_isAllowed 19 = .ok (.iconst 3, 1) := by decide +kernel
theorem d_Mo_isAllowed_20 : decode b_Mo_isAllowed 20 = .ok (.iand, 1) := by decide +kernel
theorem d_Mo_isAllowed_21 : decode b_Mo_isAllowed 21 = .ok (.iadd, 1) := by decide +kernel
theorem d_Mo_isAllowed_22 : decode b_Mo_isAllowed 22 = .ok (.istore 4, 2) := by decide +kernel
theorem d_Mo_isAllowed_24 : decode b_Mo_isAllowed 24 = .ok (.iload_n 2, 1) := by decide +kernel
theorem d_Mo_isAllowed_25 : decode b_Mo_isAllowed 25 = .ok (.bipush 8, 2) := by decide +kernel
theorem d_Mo_isAllowed_27 : decode b_Mo_isAllowed 27 = .ok (.ishr, 1) := by decide +kernel
theorem d_Mo_isAllowed_28 : decode b_Mo_isAllowed 28 = .ok (.iconst 3, 1) := by decide +kernel
theorem d_Mo_isAllowed_29 : decode b_Mo_isAllowed 29 = .ok (.iand, 1) := by decide +kernel
theorem d_Mo_isAllowed_30 : decode b_Mo_isAllowed 30 = .ok (.istore 5, 2) := by decide +kernel
theorem d_Mo_isAllowed_32 : decode b_Mo_isAllowed 32 = .ok (.iload_n 2, 1) := by decide +kernel
theorem d_Mo_isAllowed_33 : decode b_Mo_isAllowed 33 = .ok (.invokestatic 87, 3) := by decide +kernel
theorem d_Mo_isAllowed_36 : decode b_Mo_isAllowed 36 = .ok (.tableswitch 204 0 6 #[44, 92, 120, 136, 152, 179, 187], 44) := by decide +kernel
theorem d_Mo_isAllowed_80 : decode b_Mo_isAllowed 80 = .ok (.aload_n 0, 1) := by decide +kernel
theorem d_Mo_isAllowed_81 : decode b_Mo_isAllowed 81 = .ok (.getfield 71, 3) := by decide +kernel
theorem d_Mo_isAllowed_84 : decode b_Mo_isAllowed 84 = .ok (.iload_n 3, 1) := by decide +kernel
theorem d_Mo_isAllowed_85 : decode b_Mo_isAllowed 85 = .ok (.iaload, 1) := by decide +kernel
theorem d_Mo_isAllowed_86 : decode b_Mo_isAllowed 86 = .ok (.iconst 3, 1) := by decide +kernel
theorem d_Mo_isAllowed_87 : decode b_Mo_isAllowed 87 = .ok (.if_icmp .ne 39, 3) := by decide +kernel
theorem d_Mo_isAllowed_90 : decode b_Mo_isAllowed 90 = .ok (.aload_n 0, 1) := by decide +kernel
theorem d_Mo_isAllowed_91 : decode b_Mo_isAllowed 91 = .ok (.getfield 74, 3) := by decide +kernel
theorem d_Mo_isAllowed_94 : decode b_Mo_isAllowed 94 = .ok (.iload 4, 2) := by decide +kernel
theorem d_Mo_isAllowed_96 : decode b_Mo_isAllowed 96 = .ok (.iaload, 1) := by decide +kernel
theorem d_Mo_isAllowed_97 : decode b_Mo_isAllowed 97 = .ok (.iconst (-1), 1) := by decide +kernel
theorem d_Mo_isAllowed_98 : decode b_Mo_isAllowed 98 = .ok (.if_icmp .ne 28, 3) := by decide +kernel
theorem d_Mo_isAllowed_101 : decode b_Mo_isAllowed 101 = .ok (.aload_n 0, 1) := by decide +kernel
theorem d_Mo_isAllowed_102 : decode b_Mo_isAllowed 102 = .ok (.getfield 77, 3) := by decide +kernel
theorem d_Mo_isAllowed_105 : decode b_Mo_isAllowed 105 = .ok (.iload 4, 2) := by decide +kernel
theorem d_Mo_isAllowed_107 : decode b_Mo_isAllowed 107 = .ok (.baload, 1) := by decide +kernel
theorem d_Mo_isAllowed_108 : decode b_Mo_isAllowed 108 = .ok (.ifCond .ne 18, 3) := by decide +kernel
theorem d_Mo_isAllowed_111 : decode b_Mo_isAllowed 111 = .ok (.aload_n 0, 1) := by decide +kernel
theorem d_Mo_isAllowed_112 : decode b_Mo_isAllowed 112 = .ok (.iload 4, 2) := by decide +kernel
theorem d_Mo_isAllowed_114 : decode b_Mo_isAllowed 114 = .ok (.iload 5, 2) := by decide +kernel
theorem d_Mo_isAllowed_116 : decode b_Mo_isAllowed 116 = .ok (.invokevirtual 91, 3) := by decide +kernel
theorem d_Mo_isAllowed_119 : decode b_Mo_isAllowed 119 = .ok (.ifCond .eq 7, 3) := by decide +kernel
theorem d_Mo_isAllowed_122 : decode b_Mo_isAllowed 122 = .ok (.iconst 1, 1) := by decide +kernel
theorem d_Mo_isAllowed_123 : decode b_Mo_isAllowed 123 = .ok (.goto 4, 3) := by decide +kernel
theorem d_Mo_isAllowed_126 : decode b_Mo_isAllowed 126 = .ok (.iconst 0, 1) := by decide +kernel
theorem d_Mo_isAllowed_127 : decode b_Mo_isAllowed 127 = .ok (.ireturn, 1) := by decide +kernel
theorem d_Mo_isAllowed_128 : decode b_Mo_isAllowed 128 = .ok (.aload_n 0, 1) := by decide +kernel
theorem d_Mo_isAllowed_129 : decode b_Mo_isAllowed 129 = .ok (.getfield 74, 3) := by decide +kernel
theorem d_Mo_isAllowed_132 : decode b_Mo_isAllowed 132 = .ok (.iload 4, 2) := by decide +kernel
theorem d_Mo_isAllowed_134 : decode b_Mo_isAllowed 134 = .ok (.iaload, 1) := by decide +kernel
theorem d_Mo_isAllowed_135 : decode b_Mo_isAllowed 135 = .ok (.iconst (-1), 1) := by decide +kernel
theorem d_Mo_isAllowed_136 : decode b_Mo_isAllowed 136 = .ok (.if_icmp .eq 18, 3) := by decide +kernel
theorem d_Mo_isAllowed_139 : decode b_Mo_isAllowed 139 = .ok (.aload_n 0, 1) := by decide +kernel
theorem d_Mo_isAllowed_140 : decode b_Mo_isAllowed 140 = .ok (.iload 4, 2) := by decide +kernel
theorem d_Mo_isAllowed_142 : decode b_Mo_isAllowed 142 = .ok (.iload 5, 2) := by decide +kernel
theorem d_Mo_isAllowed_144 : decode b_Mo_isAllowed 144 = .ok (.invokevirtual 91, 3) := by decide +kernel
theorem d_Mo_isAllowed_147 : decode b_Mo_isAllowed 147 = .ok (.ifCond .eq 7, 3) := by decide +kernel
theorem d_Mo_isAllowed_150 : decode b_Mo_isAllowed 150 = .ok (.iconst 1, 1) := by decide +kernel
theorem d_Mo_isAllowed_151 : decode b_Mo_isAllowed 151 = .ok (.goto 4, 3) := by decide +kernel
theorem d_Mo_isAllowed_154 : decode b_Mo_isAllowed 154 = .ok (.iconst 0, 1) := by decide +kernel
theorem d_Mo_isAllowed_155 : decode b_Mo_isAllowed 155 = .ok (.ireturn, 1) := by decide +kernel
theorem d_Mo_isAllowed_156 : decode b_Mo_isAllowed 156 = .ok (.aload_n 0, 1) := by decide +kernel
theorem d_Mo_isAllowed_157 : decode b_Mo_isAllowed 157 = .ok (.getfield 71, 3) := by decide +kernel
theorem d_Mo_isAllowed_160 : decode b_Mo_isAllowed 160 = .ok (.iload_n 3, 1) := by decide +kernel
theorem d_Mo_isAllowed_161 : decode b_Mo_isAllowed 161 = .ok (.iaload, 1) := by decide +kernel
theorem d_Mo_isAllowed_162 : decode b_Mo_isAllowed 162 = .ok (.iconst 3, 1) := by decide +kernel
theorem d_Mo_isAllowed_163 : decode b_Mo_isAllowed 163 = .ok (.if_icmp .ne 7, 3) := by decide +kernel
theorem d_Mo_isAllowed_166 : decode b_Mo_isAllowed 166 = .ok (.iconst 1, 1) := by decide +kernel
theorem d_Mo_isAllowed_167 : decode b_Mo_isAllowed 167 = .ok (.goto 4, 3) := by decide +kernel
theorem d_Mo_isAllowed_170 : decode b_Mo_isAllowed 170 = .ok (.iconst 0, 1) := by decide +kernel
theorem d_Mo_isAllowed_171 : decode b_Mo_isAllowed 171 = .ok (.ireturn, 1) := by decide +kernel
theorem d_Mo_isAllowed_172 : decode b_Mo_isAllowed 172 = .ok (.aload_n 0, 1) := by decide +kernel
theorem d_Mo_isAllowed_173 : decode b_Mo_isAllowed 173 = .ok (.getfield 71, 3) := by decide +kernel
theorem d_Mo_isAllowed_176 : decode b_Mo_isAllowed 176 = .ok (.iload_n 3, 1) := by decide +kernel
theorem d_Mo_isAllowed_177 : decode b_Mo_isAllowed 177 = .ok (.iaload, 1) := by decide +kernel
theorem d_Mo_isAllowed_178 : decode b_Mo_isAllowed 178 = .ok (.iconst 4, 1) := by decide +kernel
theorem d_Mo_isAllowed_179 : decode b_Mo_isAllowed 179 = .ok (.if_icmp .ne 7, 3) := by decide +kernel
theorem d_Mo_isAllowed_182 : decode b_Mo_isAllowed 182 = .ok (.iconst 1, 1) := by decide +kernel
theorem d_Mo_isAllowed_183 : decode b_Mo_isAllowed 183 = .ok (.goto 4, 3) := by decide +kernel
theorem d_Mo_isAllowed_186 : decode b_Mo_isAllowed 186 = .ok (.iconst 0, 1) := by decide +kernel
theorem d_Mo_isAllowed_187 : decode b_Mo_isAllowed 187 = .ok (.ireturn, 1) := by decide +kernel
theorem d_Mo_isAllowed_188 : decode b_Mo_isAllowed 188 = .ok (.aload_n 0, 1) := by decide +kernel
theorem d_Mo_isAllowed_189 : decode b_Mo_isAllowed 189 = .ok (.getfield 77, 3) := by decide +kernel
theorem d_Mo_isAllowed_192 : decode b_Mo_isAllowed 192 = .ok (.iload 4, 2) := by decide +kernel
theorem d_Mo_isAllowed_194 : decode b_Mo_isAllowed 194 = .ok (.baload, 1) := by decide +kernel
theorem d_Mo_isAllowed_195 : decode b_Mo_isAllowed 195 = .ok (.ifCond .ne 18, 3) := by decide +kernel
theorem d_Mo_isAllowed_198 : decode b_Mo_isAllowed 198 = .ok (.aload_n 0, 1) := by decide +kernel
theorem d_Mo_isAllowed_199 : decode b_Mo_isAllowed 199 = .ok (.getfield 74, 3) := by decide +kernel
theorem d_Mo_isAllowed_202 : decode b_Mo_isAllowed 202 = .ok (.iload 4, 2) := by decide +kernel
theorem d_Mo_isAllowed_204 : decode b_Mo_isAllowed 204 = .ok (.iaload, 1) := by decide +kernel
theorem d_Mo_isAllowed_205 : decode b_Mo_isAllowed 205 = .ok (.iconst (-1), 1) := by decide +kernel
theorem d_Mo_isAllowed_206 : decode b_Mo_isAllowed 206 = .ok (.if_icmp .ne 7, 3) := by decide +kernel
theorem d_Mo_isAllowed_209 : decode b_Mo_isAllowed 209 = .ok (.iconst 1, 1) := by decide +kernel
theorem d_Mo_isAllowed_210 : decode b_Mo_isAllowed 210 = .ok (.goto 4, 3) := by decide +kernel
theorem d_Mo_isAllowed_213 : decode b_Mo_isAllowed 213 = .ok (.iconst 0, 1) := by decide +kernel
theorem d_Mo_isAllowed_214 : decode b_Mo_isAllowed 214 = .ok (.ireturn, 1) := by decide +kernel
theorem d_Mo_isAllowed_215 : decode b_Mo_isAllowed 215 = .ok (.aload_n 0, 1) := by decide +kernel
theorem d_Mo_isAllowed_216 : decode b_Mo_isAllowed 216 = .ok (.getfield 77, 3) := by decide +kernel
theorem d_Mo_isAllowed_219 : decode b_Mo_isAllowed 219 = .ok (.iload 4, 2) := by decide +kernel
theorem d_Mo_isAllowed_221 : decode b_Mo_isAllowed 221 = .ok (.baload, 1) := by decide +kernel
theorem d_Mo_isAllowed_222 : decode b_Mo_isAllowed 222 = .ok (.ireturn, 1) := by decide +kernel
theorem d_Mo_isAllowed_223 : decode b_Mo_isAllowed 223 = .ok (.aload_n 0, 1) := by decide +kernel
theorem d_Mo_isAllowed_224 : decode b_Mo_isAllowed 224 = .ok (.getfield 80, 3) := by decide +kernel
theorem d_Mo_isAllowed_227 : decode b_Mo_isAllowed 227 = .ok (.iload 4, 2) := by decide +kernel
theorem d_Mo_isAllowed_229 : decode b_Mo_isAllowed 229 = .ok (.iaload, 1) := by decide +kernel
theorem d_Mo_isAllowed_230 : decode b_Mo_isAllowed 230 = .ok (.iconst (-1), 1) := by decide +kernel
theorem d_Mo_isAllowed_231 : decode b_Mo_isAllowed 231 = .ok (.if_icmp .ne 7, 3) := by decide +kernel
theorem d_Mo_isAllowed_234 : decode b_Mo_isAllowed 234 = .ok (.iconst 1, 1) := by decide +kernel
theorem d_Mo_isAllowed_235 : decode b_Mo_isAllowed 235 = .ok (.goto 4, 3) := by decide +kernel
theorem d_Mo_isAllowed_238 : decode b_Mo_isAllowed 238 = .ok (.iconst 0, 1) := by decide +kernel
theorem d_Mo_isAllowed_239 : decode b_Mo_isAllowed 239 = .ok (.ireturn, 1) := by decide +kernel
theorem d_Mo_isAllowed_240 : decode b_Mo_isAllowed 240 = .ok (.aload_n 0, 1) := by decide +kernel
theorem d_Mo_isAllowed_241 : decode b_Mo_isAllowed 241 = .ok (.getfield 80, 3) := by decide +kernel
theorem d_Mo_isAllowed_244 : decode b_Mo_isAllowed 244 = .ok (.iload 4, 2) := by decide +kernel
theorem d_Mo_isAllowed_246 : decode b_Mo_isAllowed 246 = .ok (.iaload, 1) := by decide +kernel
theorem d_Mo_isAllowed_247 : decode b_Mo_isAllowed 247 = .ok (.iload 5, 2) := by decide +kernel
theorem d_Mo_isAllowed_249 : decode b_Mo_isAllowed 249 = .ok (.if_icmp .ne 7, 3) := by decide +kernel
theorem d_Mo_isAllowed_252 : decode b_Mo_isAllowed 252 = .ok (.iconst 1, 1) := by decide +kernel
theorem d_Mo_isAllowed_253 : decode b_Mo_isAllowed 253 = .ok (.goto 4, 3) := by decide +kernel
theorem d_Mo_isAllowed_256 : decode b_Mo_isAllowed 256 = .ok (.iconst 0, 1) := by decide +kernel
theorem d_Mo_isAllowed_257 : decode b_Mo_isAllowed 257 = .ok (.ireturn, 1) := by decide +kernel
set_option maxHeartbeats 4000000 in
set_option maxRecDepth 100000 in
theorem c_Mo_isAllowed {l : Launch} {G : Gx} {s0 : State} (C : Cx G s0) {o : Nat} (ho : s0.heap.size ≤ o) (σ : Sg) (c : Nat) (hc : c < 3) (e : Int32) (hd : dN e < 3) (hz : σ 23 (3 * c + dN e) = 0 ∨ σ 23 (3 * c + dN e) = 1) : Ct l s0 (FM o) 1 0 0 y_Mo_isAllowed b_Mo_isAllowed 6 (some .boolean) [.ref (o), .int (nI c), .int (e)] (RepM G o σ) (pI (fun r H => r = bI (alw σ c e) ∧ RepM G o σ H)) := by
  refine Ct.of C (by decide) (Nat.le_of_ble_eq_true rfl) ?_
  intro pg ev s mm below meth cd V hr hlk hn hR ls hl
  have hx := V.1
  have hb := V.2.1
  have hS : va_S (FM o) s.heap s.heap [] := va_S.rf
  have hF : ∀ q, FM o q → FM o q := fun _ h => h
  have hA : ∀ q, FM o q → s0.heap.size ≤ q := fun _ h => Nat.le_trans ho h.1
  have hl : lv_has ls 6 [(0, .ref (o)), (1, .int (nI c)), (2, .int (e))] := hl
  have hcn := cN_lt e
  refine lv_bipush (v := 8) hx hb d_Mo_isAllowed_0 (by decide) ?_
  refine lv_iload_n hx hb d_Mo_isAllowed_2 rfl (lv_at hl 1 rfl) ?_
  refine lv_imul hx hb d_Mo_isAllowed_3 ?_
  refine lv_tope (y := nI (8 * c)) (mu_e (rfl : (8 : Int32) = nI 8) rfl) ?_
  refine lv_iload_n hx hb d_Mo_isAllowed_4 rfl (lv_at hl 2 rfl) ?_
  refine lv_iconst (v := 3) hx hb d_Mo_isAllowed_5 (by decide) ?_
  refine lv_ishr hx hb d_Mo_isAllowed_6 ?_
  refine lv_bipush (v := 7) hx hb d_Mo_isAllowed_7 (by decide) ?_
  refine lv_iand hx hb d_Mo_isAllowed_9 ?_
  refine lv_tope (y := nI (cN e)) (eC_n e) ?_
  refine lv_iadd hx hb d_Mo_isAllowed_10 ?_
  refine lv_tope (y := nI (8 * c + cN e)) (ad_e rfl rfl) ?_
  refine lv_istore_n (lv' := [(3, .int (nI (8 * c + cN e))), (0, .ref (o)), (1, .int (nI c)), (2, .int (e))]) hx hb d_Mo_isAllowed_11 rfl hl (by decide) rfl (fun ls hl => ?_)
  refine lv_iconst (v := 3) hx hb d_Mo_isAllowed_12 (by decide) ?_
  refine lv_iload_n hx hb d_Mo_isAllowed_13 rfl (lv_at hl 2 rfl) ?_
  refine lv_imul hx hb d_Mo_isAllowed_14 ?_
  refine lv_tope (y := nI (3 * c)) (mu_e (rfl : (3 : Int32) = nI 3) rfl) ?_
  refine lv_iload_n hx hb d_Mo_isAllowed_15 rfl (lv_at hl 3 rfl) ?_
  refine lv_bipush (v := 6) hx hb d_Mo_isAllowed_16 (by decide) ?_
  refine lv_ishr hx hb d_Mo_isAllowed_18 ?_
  refine lv_iconst (v := 3) hx hb d_Mo_isAllowed_19 (by decide) ?_
  refine lv_iand hx hb d_Mo_isAllowed_20 ?_
  refine lv_tope (y := nI (dN e)) (eD_n e) ?_
  refine lv_iadd hx hb d_Mo_isAllowed_21 ?_
  refine lv_tope (y := nI (3 * c + dN e)) (ad_e rfl rfl) ?_
  refine lv_istore (lv' := [(4, .int (nI (3 * c + dN e))), (3, .int (nI (8 * c + cN e))), (0, .ref (o)), (1, .int (nI c)), (2, .int (e))]) hx hb d_Mo_isAllowed_22 hl (by decide) rfl (fun ls hl => ?_)
  refine lv_iload_n hx hb d_Mo_isAllowed_24 rfl (lv_at hl 4 rfl) ?_
  refine lv_bipush (v := 8) hx hb d_Mo_isAllowed_25 (by decide) ?_
  refine lv_ishr hx hb d_Mo_isAllowed_27 ?_
  refine lv_iconst (v := 3) hx hb d_Mo_isAllowed_28 (by decide) ?_
  refine lv_iand hx hb d_Mo_isAllowed_29 ?_
  refine lv_tope (y := eL e) rfl ?_
  refine lv_istore (lv' := [(5, .int (eL e)), (4, .int (nI (3 * c + dN e))), (3, .int (nI (8 * c + cN e))), (0, .ref (o)), (1, .int (nI c)), (2, .int (e))]) hx hb d_Mo_isAllowed_30 hl (by decide) rfl (fun ls hl => ?_)
  refine lv_iload_n hx hb d_Mo_isAllowed_32 rfl (lv_at hl 5 rfl) ?_
  refine g_callS (As := [.int (e)]) (rest := []) (A0 := FM o) V (c_Mo_kindOf C ho σ (e)) v_Mo_87 hR hS hA (fun _ h => h) ⟨by decide, by decide⟩ rfl hl (Nat.le_of_ble_eq_true rfl) d_Mo_isAllowed_33 ⟨Nat.le_refl _, Nat.le_refl _⟩ (kI (fun r33 H locs hQ _ hS => ?_))
  obtain ⟨rfl, hR⟩ := hQ
  rcases eK_c e with hk | hk | hk | hk | hk | hk | hk | hk
  · refine lv_tope hk ?_
    refine lv_tableIn (off := 44) (tgt := 80) hx hb d_Mo_isAllowed_36 (by decide) (by decide) (by decide) (by decide) ?_
    refine lv_aload_n hx hb d_Mo_isAllowed_80 rfl (lv_at hl 3 rfl) ?_
    refine rm_ga V hR 21 (by decide) (by decide) d_Mo_isAllowed_81 ?_
    refine lv_iload_n hx hb d_Mo_isAllowed_84 rfl (lv_at hl 2 rfl) ?_
    refine rm_ld V hR 21 ⟨by decide, by decide, rfl⟩ (n := 24) ⟨rfl, by decide⟩ (8 * c + cN e) rfl (by omega) d_Mo_isAllowed_85 ?_
    refine lv_iconst (v := 3) hx hb d_Mo_isAllowed_86 (by decide) ?_
    refine lv_icmp_ne (tgt := 126) hx hb d_Mo_isAllowed_87 (by decide) (fun h87 => ?_) (fun h87 => ?_)
    · refine lv_iconst (v := 0) hx hb d_Mo_isAllowed_126 (by decide) ?_
      exact e_z V hr hlk hS (Nat.le_refl _) (Nat.le_refl _) d_Mo_isAllowed_127 (by decide) ⟨_, rfl, by simp [alw, bI, hk, h87], hR⟩
    · refine lv_aload_n hx hb d_Mo_isAllowed_90 rfl (lv_at hl 3 rfl) ?_
      refine rm_ga V hR 22 (by decide) (by decide) d_Mo_isAllowed_91 ?_
      refine lv_iload hx hb d_Mo_isAllowed_94 (lv_at hl 1 rfl) ?_
      refine rm_ld V hR 22 ⟨by decide, by decide, rfl⟩ (n := 9) ⟨rfl, by decide⟩ (3 * c + dN e) rfl (by omega) d_Mo_isAllowed_96 ?_
      refine lv_iconst (v := -1) hx hb d_Mo_isAllowed_97 (by decide) ?_
      refine lv_icmp_ne (tgt := 126) hx hb d_Mo_isAllowed_98 (by decide) (fun h98 => ?_) (fun h98 => ?_)
      · refine lv_iconst (v := 0) hx hb d_Mo_isAllowed_126 (by decide) ?_
        exact e_z V hr hlk hS (Nat.le_refl _) (Nat.le_refl _) d_Mo_isAllowed_127 (by decide) ⟨_, rfl, by simp [alw, bI, hk, h87, h98], hR⟩
      · refine lv_aload_n hx hb d_Mo_isAllowed_101 rfl (lv_at hl 3 rfl) ?_
        refine rm_ga V hR 23 (by decide) (by decide) d_Mo_isAllowed_102 ?_
        refine lv_iload hx hb d_Mo_isAllowed_105 (lv_at hl 1 rfl) ?_
        refine rm_lz V hR 23 ⟨by decide, by decide, rfl⟩ (n := 9) ⟨rfl, by decide⟩ (3 * c + dN e) rfl (by omega) d_Mo_isAllowed_107 ?_
        refine lv_if_ne (tgt := 126) hx hb d_Mo_isAllowed_108 (by decide) (fun h108 => ?_) (fun h108 => ?_)
        · refine lv_iconst (v := 0) hx hb d_Mo_isAllowed_126 (by decide) ?_
          exact e_z V hr hlk hS (Nat.le_refl _) (Nat.le_refl _) d_Mo_isAllowed_127 (by decide) ⟨_, rfl, by simp [alw, bI, hk, h87, h98, h108], hR⟩
        · refine lv_aload_n hx hb d_Mo_isAllowed_111 rfl (lv_at hl 3 rfl) ?_
          refine lv_iload hx hb d_Mo_isAllowed_112 (lv_at hl 1 rfl) ?_
          refine lv_iload hx hb d_Mo_isAllowed_114 (lv_at hl 0 rfl) ?_
          refine g_callV (As := [.int (nI (3 * c + dN e)), .int (eL e)]) (rest := []) (A0 := FM o) V (c_Mo_isFree C ho σ (3 * c + dN e) (by omega) (eL e)) v_Mo_91 (hR.recv V.2.2.2.2.2.1) hR hS hA (fun _ h => h) ⟨by decide, by decide⟩ rfl hl (Nat.le_of_ble_eq_true rfl) d_Mo_isAllowed_116 ⟨Nat.le_refl _, Nat.le_refl _⟩ (kI (fun r116 H locs hQ _ hS => ?_))
          obtain ⟨rfl, hR⟩ := hQ
          refine lv_if_eq (tgt := 126) hx hb d_Mo_isAllowed_119 (by decide) (fun h119 => ?_) (fun h119 => ?_)
          · have h119 := bI_0.mp h119
            refine lv_iconst (v := 0) hx hb d_Mo_isAllowed_126 (by decide) ?_
            exact e_z V hr hlk hS (Nat.le_refl _) (Nat.le_refl _) d_Mo_isAllowed_127 (by decide) ⟨_, rfl, by simp [alw, bI, hk, h87, h98, h108, h119], hR⟩
          · have h119 := bI_n0.mp h119
            refine lv_iconst (v := 1) hx hb d_Mo_isAllowed_122 (by decide) ?_
            refine lv_goto (tgt := 127) hx hb d_Mo_isAllowed_123 (by decide) ?_
            exact e_z V hr hlk hS (Nat.le_refl _) (Nat.le_refl _) d_Mo_isAllowed_127 (by decide) ⟨_, rfl, by simp [alw, bI, hk, h87, h98, h108, h119], hR⟩
  · refine lv_tope hk ?_
    refine lv_tableIn (off := 92) (tgt := 128) hx hb d_Mo_isAllowed_36 (by decide) (by decide) (by decide) (by decide) ?_
    refine lv_aload_n hx hb d_Mo_isAllowed_128 rfl (lv_at hl 3 rfl) ?_
    refine rm_ga V hR 22 (by decide) (by decide) d_Mo_isAllowed_129 ?_
    refine lv_iload hx hb d_Mo_isAllowed_132 (lv_at hl 1 rfl) ?_
    refine rm_ld V hR 22 ⟨by decide, by decide, rfl⟩ (n := 9) ⟨rfl, by decide⟩ (3 * c + dN e) rfl (by omega) d_Mo_isAllowed_134 ?_
    refine lv_iconst (v := -1) hx hb d_Mo_isAllowed_135 (by decide) ?_
    refine lv_icmp_eq (tgt := 154) hx hb d_Mo_isAllowed_136 (by decide) (fun h136 => ?_) (fun h136 => ?_)
    · refine lv_iconst (v := 0) hx hb d_Mo_isAllowed_154 (by decide) ?_
      exact e_z V hr hlk hS (Nat.le_refl _) (Nat.le_refl _) d_Mo_isAllowed_155 (by decide) ⟨_, rfl, by simp [alw, bI, hk, h136], hR⟩
    · refine lv_aload_n hx hb d_Mo_isAllowed_139 rfl (lv_at hl 3 rfl) ?_
      refine lv_iload hx hb d_Mo_isAllowed_140 (lv_at hl 1 rfl) ?_
      refine lv_iload hx hb d_Mo_isAllowed_142 (lv_at hl 0 rfl) ?_
      refine g_callV (As := [.int (nI (3 * c + dN e)), .int (eL e)]) (rest := []) (A0 := FM o) V (c_Mo_isFree C ho σ (3 * c + dN e) (by omega) (eL e)) v_Mo_91 (hR.recv V.2.2.2.2.2.1) hR hS hA (fun _ h => h) ⟨by decide, by decide⟩ rfl hl (Nat.le_of_ble_eq_true rfl) d_Mo_isAllowed_144 ⟨Nat.le_refl _, Nat.le_refl _⟩ (kI (fun r144 H locs hQ _ hS => ?_))
      obtain ⟨rfl, hR⟩ := hQ
      refine lv_if_eq (tgt := 154) hx hb d_Mo_isAllowed_147 (by decide) (fun h147 => ?_) (fun h147 => ?_)
      · have h147 := bI_0.mp h147
        refine lv_iconst (v := 0) hx hb d_Mo_isAllowed_154 (by decide) ?_
        exact e_z V hr hlk hS (Nat.le_refl _) (Nat.le_refl _) d_Mo_isAllowed_155 (by decide) ⟨_, rfl, by simp [alw, bI, hk, h136, h147], hR⟩
      · have h147 := bI_n0.mp h147
        refine lv_iconst (v := 1) hx hb d_Mo_isAllowed_150 (by decide) ?_
        refine lv_goto (tgt := 155) hx hb d_Mo_isAllowed_151 (by decide) ?_
        exact e_z V hr hlk hS (Nat.le_refl _) (Nat.le_refl _) d_Mo_isAllowed_155 (by decide) ⟨_, rfl, by simp [alw, bI, hk, h136, h147], hR⟩
  · refine lv_tope hk ?_
    refine lv_tableIn (off := 120) (tgt := 156) hx hb d_Mo_isAllowed_36 (by decide) (by decide) (by decide) (by decide) ?_
    refine lv_aload_n hx hb d_Mo_isAllowed_156 rfl (lv_at hl 3 rfl) ?_
    refine rm_ga V hR 21 (by decide) (by decide) d_Mo_isAllowed_157 ?_
    refine lv_iload_n hx hb d_Mo_isAllowed_160 rfl (lv_at hl 2 rfl) ?_
    refine rm_ld V hR 21 ⟨by decide, by decide, rfl⟩ (n := 24) ⟨rfl, by decide⟩ (8 * c + cN e) rfl (by omega) d_Mo_isAllowed_161 ?_
    refine lv_iconst (v := 3) hx hb d_Mo_isAllowed_162 (by decide) ?_
    refine lv_icmp_ne (tgt := 170) hx hb d_Mo_isAllowed_163 (by decide) (fun h163 => ?_) (fun h163 => ?_)
    · refine lv_iconst (v := 0) hx hb d_Mo_isAllowed_170 (by decide) ?_
      exact e_z V hr hlk hS (Nat.le_refl _) (Nat.le_refl _) d_Mo_isAllowed_171 (by decide) ⟨_, rfl, by simp [alw, bI, hk, h163], hR⟩
    · refine lv_iconst (v := 1) hx hb d_Mo_isAllowed_166 (by decide) ?_
      refine lv_goto (tgt := 171) hx hb d_Mo_isAllowed_167 (by decide) ?_
      exact e_z V hr hlk hS (Nat.le_refl _) (Nat.le_refl _) d_Mo_isAllowed_171 (by decide) ⟨_, rfl, by simp [alw, bI, hk, h163], hR⟩
  · refine lv_tope hk ?_
    refine lv_tableIn (off := 136) (tgt := 172) hx hb d_Mo_isAllowed_36 (by decide) (by decide) (by decide) (by decide) ?_
    refine lv_aload_n hx hb d_Mo_isAllowed_172 rfl (lv_at hl 3 rfl) ?_
    refine rm_ga V hR 21 (by decide) (by decide) d_Mo_isAllowed_173 ?_
    refine lv_iload_n hx hb d_Mo_isAllowed_176 rfl (lv_at hl 2 rfl) ?_
    refine rm_ld V hR 21 ⟨by decide, by decide, rfl⟩ (n := 24) ⟨rfl, by decide⟩ (8 * c + cN e) rfl (by omega) d_Mo_isAllowed_177 ?_
    refine lv_iconst (v := 4) hx hb d_Mo_isAllowed_178 (by decide) ?_
    refine lv_icmp_ne (tgt := 186) hx hb d_Mo_isAllowed_179 (by decide) (fun h179 => ?_) (fun h179 => ?_)
    · refine lv_iconst (v := 0) hx hb d_Mo_isAllowed_186 (by decide) ?_
      exact e_z V hr hlk hS (Nat.le_refl _) (Nat.le_refl _) d_Mo_isAllowed_187 (by decide) ⟨_, rfl, by simp [alw, bI, hk, h179], hR⟩
    · refine lv_iconst (v := 1) hx hb d_Mo_isAllowed_182 (by decide) ?_
      refine lv_goto (tgt := 187) hx hb d_Mo_isAllowed_183 (by decide) ?_
      exact e_z V hr hlk hS (Nat.le_refl _) (Nat.le_refl _) d_Mo_isAllowed_187 (by decide) ⟨_, rfl, by simp [alw, bI, hk, h179], hR⟩
  · refine lv_tope hk ?_
    refine lv_tableIn (off := 152) (tgt := 188) hx hb d_Mo_isAllowed_36 (by decide) (by decide) (by decide) (by decide) ?_
    refine lv_aload_n hx hb d_Mo_isAllowed_188 rfl (lv_at hl 3 rfl) ?_
    refine rm_ga V hR 23 (by decide) (by decide) d_Mo_isAllowed_189 ?_
    refine lv_iload hx hb d_Mo_isAllowed_192 (lv_at hl 1 rfl) ?_
    refine rm_lz V hR 23 ⟨by decide, by decide, rfl⟩ (n := 9) ⟨rfl, by decide⟩ (3 * c + dN e) rfl (by omega) d_Mo_isAllowed_194 ?_
    refine lv_if_ne (tgt := 213) hx hb d_Mo_isAllowed_195 (by decide) (fun h195 => ?_) (fun h195 => ?_)
    · refine lv_iconst (v := 0) hx hb d_Mo_isAllowed_213 (by decide) ?_
      exact e_z V hr hlk hS (Nat.le_refl _) (Nat.le_refl _) d_Mo_isAllowed_214 (by decide) ⟨_, rfl, by simp [alw, bI, hk, h195], hR⟩
    · refine lv_aload_n hx hb d_Mo_isAllowed_198 rfl (lv_at hl 3 rfl) ?_
      refine rm_ga V hR 22 (by decide) (by decide) d_Mo_isAllowed_199 ?_
      refine lv_iload hx hb d_Mo_isAllowed_202 (lv_at hl 1 rfl) ?_
      refine rm_ld V hR 22 ⟨by decide, by decide, rfl⟩ (n := 9) ⟨rfl, by decide⟩ (3 * c + dN e) rfl (by omega) d_Mo_isAllowed_204 ?_
      refine lv_iconst (v := -1) hx hb d_Mo_isAllowed_205 (by decide) ?_
      refine lv_icmp_ne (tgt := 213) hx hb d_Mo_isAllowed_206 (by decide) (fun h206 => ?_) (fun h206 => ?_)
      · refine lv_iconst (v := 0) hx hb d_Mo_isAllowed_213 (by decide) ?_
        exact e_z V hr hlk hS (Nat.le_refl _) (Nat.le_refl _) d_Mo_isAllowed_214 (by decide) ⟨_, rfl, by simp [alw, bI, hk, h195, h206], hR⟩
      · refine lv_iconst (v := 1) hx hb d_Mo_isAllowed_209 (by decide) ?_
        refine lv_goto (tgt := 214) hx hb d_Mo_isAllowed_210 (by decide) ?_
        exact e_z V hr hlk hS (Nat.le_refl _) (Nat.le_refl _) d_Mo_isAllowed_214 (by decide) ⟨_, rfl, by simp [alw, bI, hk, h195, h206], hR⟩
  · refine lv_tope hk ?_
    refine lv_tableIn (off := 179) (tgt := 215) hx hb d_Mo_isAllowed_36 (by decide) (by decide) (by decide) (by decide) ?_
    refine lv_aload_n hx hb d_Mo_isAllowed_215 rfl (lv_at hl 3 rfl) ?_
    refine rm_ga V hR 23 (by decide) (by decide) d_Mo_isAllowed_216 ?_
    refine lv_iload hx hb d_Mo_isAllowed_219 (lv_at hl 1 rfl) ?_
    refine rm_lz V hR 23 ⟨by decide, by decide, rfl⟩ (n := 9) ⟨rfl, by decide⟩ (3 * c + dN e) rfl (by omega) d_Mo_isAllowed_221 ?_
    exact e_z V hr hlk hS (Nat.le_refl _) (Nat.le_refl _) d_Mo_isAllowed_222 hz ⟨_, rfl, by rcases hz with hz | hz <;> simp [alw, hk, bI, hz], hR⟩
  · refine lv_tope hk ?_
    refine lv_tableIn (off := 187) (tgt := 223) hx hb d_Mo_isAllowed_36 (by decide) (by decide) (by decide) (by decide) ?_
    refine lv_aload_n hx hb d_Mo_isAllowed_223 rfl (lv_at hl 3 rfl) ?_
    refine rm_ga V hR 24 (by decide) (by decide) d_Mo_isAllowed_224 ?_
    refine lv_iload hx hb d_Mo_isAllowed_227 (lv_at hl 1 rfl) ?_
    refine rm_ld V hR 24 ⟨by decide, by decide, rfl⟩ (n := 9) ⟨rfl, by decide⟩ (3 * c + dN e) rfl (by omega) d_Mo_isAllowed_229 ?_
    refine lv_iconst (v := -1) hx hb d_Mo_isAllowed_230 (by decide) ?_
    refine lv_icmp_ne (tgt := 238) hx hb d_Mo_isAllowed_231 (by decide) (fun h231 => ?_) (fun h231 => ?_)
    · refine lv_iconst (v := 0) hx hb d_Mo_isAllowed_238 (by decide) ?_
      exact e_z V hr hlk hS (Nat.le_refl _) (Nat.le_refl _) d_Mo_isAllowed_239 (by decide) ⟨_, rfl, by simp [alw, bI, hk, h231], hR⟩
    · refine lv_iconst (v := 1) hx hb d_Mo_isAllowed_234 (by decide) ?_
      refine lv_goto (tgt := 239) hx hb d_Mo_isAllowed_235 (by decide) ?_
      exact e_z V hr hlk hS (Nat.le_refl _) (Nat.le_refl _) d_Mo_isAllowed_239 (by decide) ⟨_, rfl, by simp [alw, bI, hk, h231], hR⟩
  · refine lv_tope hk ?_
    refine lv_tableOut (tgt := 240) hx hb d_Mo_isAllowed_36 (by decide) (by decide) ?_
    refine lv_aload_n hx hb d_Mo_isAllowed_240 rfl (lv_at hl 3 rfl) ?_
    refine rm_ga V hR 24 (by decide) (by decide) d_Mo_isAllowed_241 ?_
    refine lv_iload hx hb d_Mo_isAllowed_244 (lv_at hl 1 rfl) ?_
    refine rm_ld V hR 24 ⟨by decide, by decide, rfl⟩ (n := 9) ⟨rfl, by decide⟩ (3 * c + dN e) rfl (by omega) d_Mo_isAllowed_246 ?_
    refine lv_iload hx hb d_Mo_isAllowed_247 (lv_at hl 0 rfl) ?_
    refine lv_icmp_ne (tgt := 256) hx hb d_Mo_isAllowed_249 (by decide) (fun h249 => ?_) (fun h249 => ?_)
    · refine lv_iconst (v := 0) hx hb d_Mo_isAllowed_256 (by decide) ?_
      exact e_z V hr hlk hS (Nat.le_refl _) (Nat.le_refl _) d_Mo_isAllowed_257 (by decide) ⟨_, rfl, by simp [alw, bI, hk, h249], hR⟩
    · refine lv_iconst (v := 1) hx hb d_Mo_isAllowed_252 (by decide) ?_
      refine lv_goto (tgt := 257) hx hb d_Mo_isAllowed_253 (by decide) ?_
      exact e_z V hr hlk hS (Nat.le_refl _) (Nat.le_refl _) d_Mo_isAllowed_257 (by decide) ⟨_, rfl, by simp [alw, bI, hk, ← h249], hR⟩
theorem d_Mo_perform_0 : decode b_Mo_perform 0 = .ok (.iload_n 2, 1) := by decide +kernel
theorem d_Mo_perform_1 : decode b_Mo_perform 1 = .ok (.iconst 3, 1) := by decide +kernel
theorem d_Mo_perform_2 : decode b_Mo_perform 2 = .ok (.ishr, 1) := by decide +kernel
theorem d_Mo_perform_3 : decode b_Mo_perform 3 = .ok (.bipush 7, 2) := by decide +kernel
theorem d_Mo_perform_5 : decode b_Mo_perform 5 = .ok (.iand, 1) := by decide +kernel
theorem d_Mo_perform_6 : decode b_Mo_perform 6 = .ok (.istore_n 3, 1) := by decide +kernel
theorem d_Mo_perform_7 : decode b_Mo_perform 7 = .ok (.iconst 3, 1) := by decide +kernel
theorem d_Mo_perform_8 : decode b_Mo_perform 8 = .ok (.iload_n 1, 1) := by decide +kernel
theorem d_Mo_perform_9 : decode b_Mo_perform 9 = .ok (.imul, 1) := by decide +kernel
theorem d_Mo_perform_10 : decode b_Mo_perform 10 = .ok (.iload_n 2, 1) := by decide +kernel
theorem d_Mo_perform_11 : decode b_Mo_perform 11 = .ok (.bipush 6, 2) := by decide +kernel
theorem d_Mo_perform_13 : decode b_Mo_perform 13 = .ok (.ishr, 1) := by decide +kernel
theorem d_Mo_perform_14 : decode b_Mo_perform 14 = .ok (.iconst 3, 1) := by decide +kernel
theorem d_Mo_perform_15 : decode b_Mo_perform 15 = .ok (.iand, 1) := by decide +kernel
theorem d_Mo_perform_16 : decode b_Mo_perform 16 = .ok (.iadd, 1) := by decide +kernel
theorem d_Mo_perform_17 : decode b_Mo_perform 17 = .ok (.istore 4, 2) := by decide +kernel
theorem d_Mo_perform_19 : decode b_Mo_perform 19 = .ok (.iload_n 2, 1) := by decide +kernel
theorem d_Mo_perform_20 : decode b_Mo_perform 20 = .ok (.bipush 8, 2) := by decide +kernel
theorem d_Mo_perform_22 : decode b_Mo_perform 22 = .ok (.ishr, 1) := by decide +kernel
theorem d_Mo_perform_23 : decode b_Mo_perform 23 = .ok (.iconst 3, 1) := by decide +kernel
theorem d_Mo_perform_24 : decode b_Mo_perform 24 = .ok (.iand, 1) := by decide +kernel
theorem d_Mo_perform_25 : decode b_Mo_perform 25 = .ok (.istore 5, 2) := by decide +kernel
theorem d_Mo_perform_27 : decode b_Mo_perform 27 = .ok (.iload_n 2, 1) := by decide +kernel
theorem d_Mo_perform_28 : decode b_Mo_perform 28 = .ok (.invokestatic 87, 3) := by decide +kernel
theorem d_Mo_perform_31 : decode b_Mo_perform 31 = .ok (.istore 6, 2) := by decide +kernel
theorem d_Mo_perform_33 : decode b_Mo_perform 33 = .ok (.iload 6, 2) := by decide +kernel
theorem d_Mo_perform_35 : decode b_Mo_perform 35 = .ok (.ifCond .ne 31, 3) := by decide +kernel
theorem d_Mo_perform_38 : decode b_Mo_perform 38 = .ok (.aload_n 0, 1) := by decide +kernel
theorem d_Mo_perform_39 : decode b_Mo_perform 39 = .ok (.getfield 71, 3) := by decide +kernel
theorem d_Mo_perform_42 : decode b_Mo_perform 42 = .ok (.bipush 8, 2) := by decide +kernel
theorem d_Mo_perform_44 : decode b_Mo_perform 44 = .ok (.iload_n 1, 1) := by decide +kernel
theorem d_Mo_perform_45 : decode b_Mo_perform 45 = .ok (.imul, 1) := by decide +kernel
theorem d_Mo_perform_46 : decode b_Mo_perform 46 = .ok (.iload_n 3, 1) := by decide +kernel
theorem d_Mo_perform_47 : decode b_Mo_perform 47 = .ok (.iadd, 1) := by decide +kernel
theorem d_Mo_perform_48 : decode b_Mo_perform 48 = .ok (.iload_n 2, 1) := by decide +kernel
theorem d_Mo_perform_49 : decode b_Mo_perform 49 = .ok (.bipush 6, 2) := by decide +kernel
theorem d_Mo_perform_51 : decode b_Mo_perform 51 = .ok (.ishr, 1) := by decide +kernel
theorem d_Mo_perform_52 : decode b_Mo_perform 52 = .ok (.iconst 3, 1) := by decide +kernel
theorem d_Mo_perform_53 : decode b_Mo_perform 53 = .ok (.iand, 1) := by decide +kernel
theorem d_Mo_perform_54 : decode b_Mo_perform 54 = .ok (.iastore, 1) := by decide +kernel
theorem d_Mo_perform_55 : decode b_Mo_perform 55 = .ok (.aload_n 0, 1) := by decide +kernel
theorem d_Mo_perform_56 : decode b_Mo_perform 56 = .ok (.getfield 74, 3) := by decide +kernel
theorem d_Mo_perform_59 : decode b_Mo_perform 59 = .ok (.iload 4, 2) := by decide +kernel
theorem d_Mo_perform_61 : decode b_Mo_perform 61 = .ok (.iload_n 3, 1) := by decide +kernel
theorem d_Mo_perform_62 : decode b_Mo_perform 62 = .ok (.iastore, 1) := by decide +kernel
theorem d_Mo_perform_63 : decode b_Mo_perform 63 = .ok (.goto 128, 3) := by decide +kernel
theorem d_Mo_perform_66 : decode b_Mo_perform 66 = .ok (.iload 6, 2) := by decide +kernel
theorem d_Mo_perform_68 : decode b_Mo_perform 68 = .ok (.iconst 1, 1) := by decide +kernel
theorem d_Mo_perform_69 : decode b_Mo_perform 69 = .ok (.if_icmp .ne 32, 3) := by decide +kernel
theorem d_Mo_perform_72 : decode b_Mo_perform 72 = .ok (.aload_n 0, 1) := by decide +kernel
theorem d_Mo_perform_73 : decode b_Mo_perform 73 = .ok (.getfield 71, 3) := by decide +kernel
theorem d_Mo_perform_76 : decode b_Mo_perform 76 = .ok (.bipush 8, 2) := by decide +kernel
theorem d_Mo_perform_78 : decode b_Mo_perform 78 = .ok (.iload_n 1, 1) := by decide +kernel
theorem d_Mo_perform_79 : decode b_Mo_perform 79 = .ok (.imul, 1) := by decide +kernel
theorem d_Mo_perform_80 : decode b_Mo_perform 80 = .ok (.aload_n 0, 1) := by decide +kernel
theorem d_Mo_perform_81 : decode b_Mo_perform 81 = .ok (.getfield 74, 3) := by decide +kernel
theorem d_Mo_perform_84 : decode b_Mo_perform 84 = .ok (.iload 4, 2) := by decide +kernel
theorem d_Mo_perform_86 : decode b_Mo_perform 86 = .ok (.iaload, 1) := by decide +kernel
theorem d_Mo_perform_87 : decode b_Mo_perform 87 = .ok (.iadd, 1) := by decide +kernel
theorem d_Mo_perform_88 : decode b_Mo_perform 88 = .ok (.iconst 3, 1) := by decide +kernel
theorem d_Mo_perform_89 : decode b_Mo_perform 89 = .ok (.iastore, 1) := by decide +kernel
theorem d_Mo_perform_90 : decode b_Mo_perform 90 = .ok (.aload_n 0, 1) := by decide +kernel
theorem d_Mo_perform_91 : decode b_Mo_perform 91 = .ok (.getfield 74, 3) := by decide +kernel
theorem d_Mo_perform_94 : decode b_Mo_perform 94 = .ok (.iload 4, 2) := by decide +kernel
theorem d_Mo_perform_96 : decode b_Mo_perform 96 = .ok (.iconst (-1), 1) := by decide +kernel
theorem d_Mo_perform_97 : decode b_Mo_perform 97 = .ok (.iastore, 1) := by decide +kernel
theorem d_Mo_perform_98 : decode b_Mo_perform 98 = .ok (.goto 93, 3) := by decide +kernel
theorem d_Mo_perform_101 : decode b_Mo_perform 101 = .ok (.iload 6, 2) := by decide +kernel
theorem d_Mo_perform_103 : decode b_Mo_perform 103 = .ok (.iconst 2, 1) := by decide +kernel
theorem d_Mo_perform_104 : decode b_Mo_perform 104 = .ok (.if_icmp .eq 9, 3) := by decide +kernel
theorem d_Mo_perform_107 : decode b_Mo_perform 107 = .ok (.iload 6, 2) := by decide +kernel
theorem d_Mo_perform_109 : decode b_Mo_perform 109 = .ok (.iconst 3, 1) := by decide +kernel
theorem d_Mo_perform_110 : decode b_Mo_perform 110 = .ok (.if_icmp .ne 28, 3) := by decide +kernel
theorem d_Mo_perform_113 : decode b_Mo_perform 113 = .ok (.aload_n 0, 1) := by decide +kernel
theorem d_Mo_perform_114 : decode b_Mo_perform 114 = .ok (.getfield 71, 3) := by decide +kernel
theorem d_Mo_perform_117 : decode b_Mo_perform 117 = .ok (.bipush 8, 2) := by decide +kernel
theorem d_Mo_perform_119 : decode b_Mo_perform 119 = .ok (.iload_n 1, 1) := by decide +kernel
theorem d_Mo_perform_120 : decode b_Mo_perform 120 = .ok (.imul, 1) := by decide +kernel
theorem d_Mo_perform_121 : decode b_Mo_perform 121 = .ok (.iload_n 3, 1) := by decide +kernel
theorem d_Mo_perform_122 : decode b_Mo_perform 122 = .ok (.iadd, 1) := by decide +kernel
theorem d_Mo_perform_123 : decode b_Mo_perform 123 = .ok (.iload 6, 2) := by decide +kernel
theorem d_Mo_perform_125 : decode b_Mo_perform 125 = .ok (.iconst 2, 1) := by decide +kernel
theorem d_Mo_perform_126 : decode b_Mo_perform 126 = .ok (.if_icmp .ne 7, 3) := by decide +kernel
theorem d_Mo_perform_129 : decode b_Mo_perform 129 = .ok (.iconst 4, 1) := by decide +kernel
theorem d_Mo_perform_130 : decode b_Mo_perform 130 = .ok (.goto 4, 3) := by decide +kernel
theorem d_Mo_perform_133 : decode b_Mo_perform 133 = .ok (.iconst 3, 1) := by decide +kernel
theorem d_Mo_perform_134 : decode b_Mo_perform 134 = .ok (.iastore, 1) := by decide +kernel
theorem d_Mo_perform_135 : decode b_Mo_perform 135 = .ok (.goto 56, 3) := by decide +kernel
theorem d_Mo_perform_138 : decode b_Mo_perform 138 = .ok (.iload 6, 2) := by decide +kernel
theorem d_Mo_perform_140 : decode b_Mo_perform 140 = .ok (.iconst 4, 1) := by decide +kernel
theorem d_Mo_perform_141 : decode b_Mo_perform 141 = .ok (.if_icmp .eq 9, 3) := by decide +kernel
theorem d_Mo_perform_144 : decode b_Mo_perform 144 = .ok (.iload 6, 2) := by decide +kernel
theorem d_Mo_perform_146 : decode b_Mo_perform 146 = .ok (.iconst 5, 1) := by decide +kernel
theorem d_Mo_perform_147 : decode b_Mo_perform 147 = .ok (.if_icmp .ne 24, 3) := by decide +kernel
theorem d_Mo_perform_150 : decode b_Mo_perform 150 = .ok (.aload_n 0, 1) := by decide +kernel
theorem d_Mo_perform_151 : decode b_Mo_perform 151 = .ok (.getfield 77, 3) := by decide +kernel
theorem d_Mo_perform_154 : decode b_Mo_perform 154 = .ok (.iload 4, 2) := by decide +kernel
theorem d_Mo_perform_156 : decode b_Mo_perform 156 = .ok (.iload 6, 2) := by decide +kernel
theorem d_Mo_perform_158 : decode b_Mo_perform 158 = .ok (.iconst 4, 1) := by decide +kernel
theorem d_Mo_perform_159 : decode b_Mo_perform 159 = .ok (.if_icmp .ne 7, 3) := by decide +kernel
theorem d_Mo_perform_162 : decode b_Mo_perform 162 = .ok (.iconst 1, 1) := by decide +kernel
theorem d_Mo_perform_163 : decode b_Mo_perform 163 = .ok (.goto 4, 3) := by decide +kernel
theorem d_Mo_perform_166 : decode b_Mo_perform 166 = .ok (.iconst 0, 1) := by decide +kernel
theorem d_Mo_perform_167 : decode b_Mo_perform 167 = .ok (.bastore, 1) := by decide +kernel
theorem d_Mo_perform_168 : decode b_Mo_perform 168 = .ok (.goto 23, 3) := by decide +kernel
theorem d_Mo_perform_171 : decode b_Mo_perform 171 = .ok (.aload_n 0, 1) := by decide +kernel
theorem d_Mo_perform_172 : decode b_Mo_perform 172 = .ok (.getfield 80, 3) := by decide +kernel
theorem d_Mo_perform_175 : decode b_Mo_perform 175 = .ok (.iload 4, 2) := by decide +kernel
theorem d_Mo_perform_177 : decode b_Mo_perform 177 = .ok (.iload 6, 2) := by decide +kernel
theorem d_Mo_perform_179 : decode b_Mo_perform 179 = .ok (.bipush 6, 2) := by decide +kernel
theorem d_Mo_perform_181 : decode b_Mo_perform 181 = .ok (.if_icmp .ne 8, 3) := by decide +kernel
theorem d_Mo_perform_184 : decode b_Mo_perform 184 = .ok (.iload 5, 2) := by decide +kernel
theorem d_Mo_perform_186 : decode b_Mo_perform 186 = .ok (.goto 4, 3) := by decide +kernel
theorem d_Mo_perform_189 : decode b_Mo_perform 189 = .ok (.iconst (-1), 1) := by decide +kernel
theorem d_Mo_perform_190 : decode b_Mo_perform 190 = .ok (.iastore, 1) := by decide +kernel
theorem d_Mo_perform_191 : decode b_Mo_perform 191 = .ok (.return_, 1) := by decide +kernel
set_option maxHeartbeats 4000000 in
set_option maxRecDepth 100000 in
theorem c_Mo_perform {l : Launch} {G : Gx} {s0 : State} (C : Cx G s0) {o : Nat} (ho : s0.heap.size ≤ o) (σ : Sg) (c : Nat) (hc : c < 3) (e : Int32) (hd : dN e < 3) (hk1 : eK e = 1 → ∃ h, h < 8 ∧ σ 22 (3 * c + dN e) = nI h) : Ct l s0 (FM o) 1 0 0 y_Mo_perform b_Mo_perform 7 none [.ref (o), .int (nI c), .int (e)] (RepM G o σ) (pV (RepM G o (prf σ c e))) := by
  refine Ct.of C (by decide) (Nat.le_of_ble_eq_true rfl) ?_
  intro pg ev s mm below meth cd V hr hlk hn hR ls hl
  have hx := V.1
  have hb := V.2.1
  have hS : va_S (FM o) s.heap s.heap [] := va_S.rf
  have hF : ∀ q, FM o q → FM o q := fun _ h => h
  have hA : ∀ q, FM o q → s0.heap.size ≤ q := fun _ h => Nat.le_trans ho h.1
  have hl : lv_has ls 7 [(0, .ref (o)), (1, .int (nI c)), (2, .int (e))] := hl
  have hcn := cN_lt e
  refine lv_iload_n hx hb d_Mo_perform_0 rfl (lv_at hl 2 rfl) ?_
  refine lv_iconst (v := 3) hx hb d_Mo_perform_1 (by decide) ?_
  refine lv_ishr hx hb d_Mo_perform_2 ?_
  refine lv_bipush (v := 7) hx hb d_Mo_perform_3 (by decide) ?_
  refine lv_iand hx hb d_Mo_perform_5 ?_
  refine lv_tope (y := nI (cN e)) (eC_n e) ?_
  refine lv_istore_n (lv' := [(3, .int (nI (cN e))), (0, .ref (o)), (1, .int (nI c)), (2, .int (e))]) hx hb d_Mo_perform_6 rfl hl (by decide) rfl (fun ls hl => ?_)
  refine lv_iconst (v := 3) hx hb d_Mo_perform_7 (by decide) ?_
  refine lv_iload_n hx hb d_Mo_perform_8 rfl (lv_at hl 2 rfl) ?_
  refine lv_imul hx hb d_Mo_perform_9 ?_
  refine lv_tope (y := nI (3 * c)) (mu_e (rfl : (3 : Int32) = nI 3) rfl) ?_
  refine lv_iload_n hx hb d_Mo_perform_10 rfl (lv_at hl 3 rfl) ?_
  refine lv_bipush (v := 6) hx hb d_Mo_perform_11 (by decide) ?_
  refine lv_ishr hx hb d_Mo_perform_13 ?_
  refine lv_iconst (v := 3) hx hb d_Mo_perform_14 (by decide) ?_
  refine lv_iand hx hb d_Mo_perform_15 ?_
  refine lv_tope (y := nI (dN e)) (eD_n e) ?_
  refine lv_iadd hx hb d_Mo_perform_16 ?_
  refine lv_tope (y := nI (3 * c + dN e)) (ad_e rfl rfl) ?_
  refine lv_istore (lv' := [(4, .int (nI (3 * c + dN e))), (3, .int (nI (cN e))), (0, .ref (o)), (1, .int (nI c)), (2, .int (e))]) hx hb d_Mo_perform_17 hl (by decide) rfl (fun ls hl => ?_)
  refine lv_iload_n hx hb d_Mo_perform_19 rfl (lv_at hl 4 rfl) ?_
  refine lv_bipush (v := 8) hx hb d_Mo_perform_20 (by decide) ?_
  refine lv_ishr hx hb d_Mo_perform_22 ?_
  refine lv_iconst (v := 3) hx hb d_Mo_perform_23 (by decide) ?_
  refine lv_iand hx hb d_Mo_perform_24 ?_
  refine lv_tope (y := eL e) rfl ?_
  refine lv_istore (lv' := [(5, .int (eL e)), (4, .int (nI (3 * c + dN e))), (3, .int (nI (cN e))), (0, .ref (o)), (1, .int (nI c)), (2, .int (e))]) hx hb d_Mo_perform_25 hl (by decide) rfl (fun ls hl => ?_)
  refine lv_iload_n hx hb d_Mo_perform_27 rfl (lv_at hl 5 rfl) ?_
  refine g_callS (As := [.int (e)]) (rest := []) (A0 := FM o) V (c_Mo_kindOf C ho σ (e)) v_Mo_87 hR hS hA (fun _ h => h) ⟨by decide, by decide⟩ rfl hl (Nat.le_of_ble_eq_true rfl) d_Mo_perform_28 ⟨Nat.le_refl _, Nat.le_refl _⟩ (kI (fun r28 H locs hQ _ hS => ?_))
  obtain ⟨rfl, hR⟩ := hQ
  refine lv_istore (lv' := [(6, .int (eK e)), (5, .int (eL e)), (4, .int (nI (3 * c + dN e))), (3, .int (nI (cN e))), (0, .ref (o)), (1, .int (nI c)), (2, .int (e))]) hx hb d_Mo_perform_31 hl (by decide) rfl (fun ls hl => ?_)
  refine lv_iload hx hb d_Mo_perform_33 (lv_at hl 0 rfl) ?_
  refine lv_if_ne (tgt := 66) hx hb d_Mo_perform_35 (by decide) (fun h35 => ?_) (fun h35 => ?_)
  · refine lv_iload hx hb d_Mo_perform_66 (lv_at hl 0 rfl) ?_
    refine lv_iconst (v := 1) hx hb d_Mo_perform_68 (by decide) ?_
    refine lv_icmp_ne (tgt := 101) hx hb d_Mo_perform_69 (by decide) (fun h69 => ?_) (fun h69 => ?_)
    · refine lv_iload hx hb d_Mo_perform_101 (lv_at hl 0 rfl) ?_
      refine lv_iconst (v := 2) hx hb d_Mo_perform_103 (by decide) ?_
      refine lv_icmp_eq (tgt := 113) hx hb d_Mo_perform_104 (by decide) (fun h104 => ?_) (fun h104 => ?_)
      · refine lv_aload_n hx hb d_Mo_perform_113 rfl (lv_at hl 4 rfl) ?_
        refine rm_ga V hR 21 (by decide) (by decide) d_Mo_perform_114 ?_
        refine lv_bipush (v := 8) hx hb d_Mo_perform_117 (by decide) ?_
        refine lv_iload_n hx hb d_Mo_perform_119 rfl (lv_at hl 5 rfl) ?_
        refine lv_imul hx hb d_Mo_perform_120 ?_
        refine lv_tope (y := nI (8 * c)) (mu_e (rfl : (8 : Int32) = nI 8) rfl) ?_
        refine lv_iload_n hx hb d_Mo_perform_121 rfl (lv_at hl 3 rfl) ?_
        refine lv_iadd hx hb d_Mo_perform_122 ?_
        refine lv_tope (y := nI (8 * c + cN e)) (ad_e rfl rfl) ?_
        refine lv_iload hx hb d_Mo_perform_123 (lv_at hl 0 rfl) ?_
        refine lv_iconst (v := 2) hx hb d_Mo_perform_125 (by decide) ?_
        refine lv_icmp_ne (tgt := 133) hx hb d_Mo_perform_126 (by decide) (fun h126 => ?_) (fun h126 => ?_)
        · exact absurd h104 h126
        · refine lv_iconst (v := 4) hx hb d_Mo_perform_129 (by decide) ?_
          refine lv_goto (tgt := 134) hx hb d_Mo_perform_130 (by decide) ?_
          refine rm_st V hR hS hF 21 ⟨by decide, by decide, rfl⟩ (n := 24) ⟨rfl, by decide⟩ (8 * c + cN e) rfl (by omega) d_Mo_perform_134 (fun H locs hR hS => ?_)
          refine lv_goto (tgt := 191) hx hb d_Mo_perform_135 (by decide) ?_
          exact e_v V hr hlk hS (Nat.le_refl _) (Nat.le_refl _) d_Mo_perform_191 ⟨rfl, by rw [show prf σ c e = (up2 σ 21 (8 * c + cN e) (4)) from by simp [prf, h35, h69, h104, h126]]; exact hR⟩
      · refine lv_iload hx hb d_Mo_perform_107 (lv_at hl 0 rfl) ?_
        refine lv_iconst (v := 3) hx hb d_Mo_perform_109 (by decide) ?_
        refine lv_icmp_ne (tgt := 138) hx hb d_Mo_perform_110 (by decide) (fun h110 => ?_) (fun h110 => ?_)
        · refine lv_iload hx hb d_Mo_perform_138 (lv_at hl 0 rfl) ?_
          refine lv_iconst (v := 4) hx hb d_Mo_perform_140 (by decide) ?_
          refine lv_icmp_eq (tgt := 150) hx hb d_Mo_perform_141 (by decide) (fun h141 => ?_) (fun h141 => ?_)
          · refine lv_aload_n hx hb d_Mo_perform_150 rfl (lv_at hl 4 rfl) ?_
            refine rm_ga V hR 23 (by decide) (by decide) d_Mo_perform_151 ?_
            refine lv_iload hx hb d_Mo_perform_154 (lv_at hl 2 rfl) ?_
            refine lv_iload hx hb d_Mo_perform_156 (lv_at hl 0 rfl) ?_
            refine lv_iconst (v := 4) hx hb d_Mo_perform_158 (by decide) ?_
            refine lv_icmp_ne (tgt := 166) hx hb d_Mo_perform_159 (by decide) (fun h159 => ?_) (fun h159 => ?_)
            · exact absurd h141 h159
            · refine lv_iconst (v := 1) hx hb d_Mo_perform_162 (by decide) ?_
              refine lv_goto (tgt := 167) hx hb d_Mo_perform_163 (by decide) ?_
              refine rm_sz V hR hS hF 23 ⟨by decide, by decide, rfl⟩ (n := 9) ⟨rfl, by decide⟩ (3 * c + dN e) rfl (by omega) (by decide) d_Mo_perform_167 (fun H locs hR hS => ?_)
              refine lv_goto (tgt := 191) hx hb d_Mo_perform_168 (by decide) ?_
              exact e_v V hr hlk hS (Nat.le_refl _) (Nat.le_refl _) d_Mo_perform_191 ⟨rfl, by rw [show prf σ c e = (up2 σ 23 (3 * c + dN e) (1)) from by simp [prf, h35, h69, h104, h110, h141, h159]]; exact hR⟩
          · refine lv_iload hx hb d_Mo_perform_144 (lv_at hl 0 rfl) ?_
            refine lv_iconst (v := 5) hx hb d_Mo_perform_146 (by decide) ?_
            refine lv_icmp_ne (tgt := 171) hx hb d_Mo_perform_147 (by decide) (fun h147 => ?_) (fun h147 => ?_)
            · refine lv_aload_n hx hb d_Mo_perform_171 rfl (lv_at hl 4 rfl) ?_
              refine rm_ga V hR 24 (by decide) (by decide) d_Mo_perform_172 ?_
              refine lv_iload hx hb d_Mo_perform_175 (lv_at hl 2 rfl) ?_
              refine lv_iload hx hb d_Mo_perform_177 (lv_at hl 0 rfl) ?_
              refine lv_bipush (v := 6) hx hb d_Mo_perform_179 (by decide) ?_
              refine lv_icmp_ne (tgt := 189) hx hb d_Mo_perform_181 (by decide) (fun h181 => ?_) (fun h181 => ?_)
              · refine lv_iconst (v := -1) hx hb d_Mo_perform_189 (by decide) ?_
                refine rm_st V hR hS hF 24 ⟨by decide, by decide, rfl⟩ (n := 9) ⟨rfl, by decide⟩ (3 * c + dN e) rfl (by omega) d_Mo_perform_190 (fun H locs hR hS => ?_)
                exact e_v V hr hlk hS (Nat.le_refl _) (Nat.le_refl _) d_Mo_perform_191 ⟨rfl, by rw [show prf σ c e = (up2 σ 24 (3 * c + dN e) (-1)) from by simp [prf, h35, h69, h104, h110, h141, h147, h181]]; exact hR⟩
              · refine lv_iload hx hb d_Mo_perform_184 (lv_at hl 1 rfl) ?_
                refine lv_goto (tgt := 190) hx hb d_Mo_perform_186 (by decide) ?_
                refine rm_st V hR hS hF 24 ⟨by decide, by decide, rfl⟩ (n := 9) ⟨rfl, by decide⟩ (3 * c + dN e) rfl (by omega) d_Mo_perform_190 (fun H locs hR hS => ?_)
                exact e_v V hr hlk hS (Nat.le_refl _) (Nat.le_refl _) d_Mo_perform_191 ⟨rfl, by rw [show prf σ c e = (up2 σ 24 (3 * c + dN e) (eL e)) from by simp [prf, h35, h69, h104, h110, h141, h147, h181]]; exact hR⟩
            · refine lv_aload_n hx hb d_Mo_perform_150 rfl (lv_at hl 4 rfl) ?_
              refine rm_ga V hR 23 (by decide) (by decide) d_Mo_perform_151 ?_
              refine lv_iload hx hb d_Mo_perform_154 (lv_at hl 2 rfl) ?_
              refine lv_iload hx hb d_Mo_perform_156 (lv_at hl 0 rfl) ?_
              refine lv_iconst (v := 4) hx hb d_Mo_perform_158 (by decide) ?_
              refine lv_icmp_ne (tgt := 166) hx hb d_Mo_perform_159 (by decide) (fun h159 => ?_) (fun h159 => ?_)
              · refine lv_iconst (v := 0) hx hb d_Mo_perform_166 (by decide) ?_
                refine rm_sz V hR hS hF 23 ⟨by decide, by decide, rfl⟩ (n := 9) ⟨rfl, by decide⟩ (3 * c + dN e) rfl (by omega) (by decide) d_Mo_perform_167 (fun H locs hR hS => ?_)
                refine lv_goto (tgt := 191) hx hb d_Mo_perform_168 (by decide) ?_
                exact e_v V hr hlk hS (Nat.le_refl _) (Nat.le_refl _) d_Mo_perform_191 ⟨rfl, by rw [show prf σ c e = (up2 σ 23 (3 * c + dN e) (0)) from by simp [prf, h35, h69, h104, h110, h141, h147, h159]]; exact hR⟩
              · exact absurd h159 h141
        · refine lv_aload_n hx hb d_Mo_perform_113 rfl (lv_at hl 4 rfl) ?_
          refine rm_ga V hR 21 (by decide) (by decide) d_Mo_perform_114 ?_
          refine lv_bipush (v := 8) hx hb d_Mo_perform_117 (by decide) ?_
          refine lv_iload_n hx hb d_Mo_perform_119 rfl (lv_at hl 5 rfl) ?_
          refine lv_imul hx hb d_Mo_perform_120 ?_
          refine lv_tope (y := nI (8 * c)) (mu_e (rfl : (8 : Int32) = nI 8) rfl) ?_
          refine lv_iload_n hx hb d_Mo_perform_121 rfl (lv_at hl 3 rfl) ?_
          refine lv_iadd hx hb d_Mo_perform_122 ?_
          refine lv_tope (y := nI (8 * c + cN e)) (ad_e rfl rfl) ?_
          refine lv_iload hx hb d_Mo_perform_123 (lv_at hl 0 rfl) ?_
          refine lv_iconst (v := 2) hx hb d_Mo_perform_125 (by decide) ?_
          refine lv_icmp_ne (tgt := 133) hx hb d_Mo_perform_126 (by decide) (fun h126 => ?_) (fun h126 => ?_)
          · refine lv_iconst (v := 3) hx hb d_Mo_perform_133 (by decide) ?_
            refine rm_st V hR hS hF 21 ⟨by decide, by decide, rfl⟩ (n := 24) ⟨rfl, by decide⟩ (8 * c + cN e) rfl (by omega) d_Mo_perform_134 (fun H locs hR hS => ?_)
            refine lv_goto (tgt := 191) hx hb d_Mo_perform_135 (by decide) ?_
            exact e_v V hr hlk hS (Nat.le_refl _) (Nat.le_refl _) d_Mo_perform_191 ⟨rfl, by rw [show prf σ c e = (up2 σ 21 (8 * c + cN e) (3)) from by simp [prf, h35, h69, h104, h110, h126]]; exact hR⟩
          · exact absurd h126 h104
    · refine lv_aload_n hx hb d_Mo_perform_72 rfl (lv_at hl 4 rfl) ?_
      refine rm_ga V hR 21 (by decide) (by decide) d_Mo_perform_73 ?_
      refine lv_bipush (v := 8) hx hb d_Mo_perform_76 (by decide) ?_
      refine lv_iload_n hx hb d_Mo_perform_78 rfl (lv_at hl 5 rfl) ?_
      refine lv_imul hx hb d_Mo_perform_79 ?_
      refine lv_tope (y := nI (8 * c)) (mu_e (rfl : (8 : Int32) = nI 8) rfl) ?_
      obtain ⟨h, h8, he⟩ := hk1 h69
      refine lv_aload_n hx hb d_Mo_perform_80 rfl (lv_at hl 4 rfl) ?_
      refine rm_ga V hR 22 (by decide) (by decide) d_Mo_perform_81 ?_
      refine lv_iload hx hb d_Mo_perform_84 (lv_at hl 2 rfl) ?_
      refine rm_ld V hR 22 ⟨by decide, by decide, rfl⟩ (n := 9) ⟨rfl, by decide⟩ (3 * c + dN e) rfl (by omega) d_Mo_perform_86 ?_
      refine lv_tope (y := nI h) he ?_
      refine lv_iadd hx hb d_Mo_perform_87 ?_
      refine lv_tope (y := nI (8 * c + h)) (ad_e rfl rfl) ?_
      refine lv_iconst (v := 3) hx hb d_Mo_perform_88 (by decide) ?_
      refine rm_st V hR hS hF 21 ⟨by decide, by decide, rfl⟩ (n := 24) ⟨rfl, by decide⟩ (8 * c + h) rfl (by omega) d_Mo_perform_89 (fun H locs hR hS => ?_)
      refine lv_aload_n hx hb d_Mo_perform_90 rfl (lv_at hl 4 rfl) ?_
      refine rm_ga V hR 22 (by decide) (by decide) d_Mo_perform_91 ?_
      refine lv_iload hx hb d_Mo_perform_94 (lv_at hl 2 rfl) ?_
      refine lv_iconst (v := -1) hx hb d_Mo_perform_96 (by decide) ?_
      refine rm_st V hR hS hF 22 ⟨by decide, by decide, rfl⟩ (n := 9) ⟨rfl, by decide⟩ (3 * c + dN e) rfl (by omega) d_Mo_perform_97 (fun H locs hR hS => ?_)
      refine lv_goto (tgt := 191) hx hb d_Mo_perform_98 (by decide) ?_
      exact e_v V hr hlk hS (Nat.le_refl _) (Nat.le_refl _) d_Mo_perform_191 ⟨rfl, by rw [show prf σ c e = (up2 (up2 σ 21 (8 * c + h) (3)) 22 (3 * c + dN e) (-1)) from by simp [prf, h35, h69, hN, he, nI_clamp (show h < 2 ^ 31 by omega)]]; exact hR⟩
  · refine lv_aload_n hx hb d_Mo_perform_38 rfl (lv_at hl 4 rfl) ?_
    refine rm_ga V hR 21 (by decide) (by decide) d_Mo_perform_39 ?_
    refine lv_bipush (v := 8) hx hb d_Mo_perform_42 (by decide) ?_
    refine lv_iload_n hx hb d_Mo_perform_44 rfl (lv_at hl 5 rfl) ?_
    refine lv_imul hx hb d_Mo_perform_45 ?_
    refine lv_tope (y := nI (8 * c)) (mu_e (rfl : (8 : Int32) = nI 8) rfl) ?_
    refine lv_iload_n hx hb d_Mo_perform_46 rfl (lv_at hl 3 rfl) ?_
    refine lv_iadd hx hb d_Mo_perform_47 ?_
    refine lv_tope (y := nI (8 * c + cN e)) (ad_e rfl rfl) ?_
    refine lv_iload_n hx hb d_Mo_perform_48 rfl (lv_at hl 6 rfl) ?_
    refine lv_bipush (v := 6) hx hb d_Mo_perform_49 (by decide) ?_
    refine lv_ishr hx hb d_Mo_perform_51 ?_
    refine lv_iconst (v := 3) hx hb d_Mo_perform_52 (by decide) ?_
    refine lv_iand hx hb d_Mo_perform_53 ?_
    refine lv_tope (y := nI (dN e)) (eD_n e) ?_
    refine rm_st V hR hS hF 21 ⟨by decide, by decide, rfl⟩ (n := 24) ⟨rfl, by decide⟩ (8 * c + cN e) rfl (by omega) d_Mo_perform_54 (fun H locs hR hS => ?_)
    refine lv_aload_n hx hb d_Mo_perform_55 rfl (lv_at hl 4 rfl) ?_
    refine rm_ga V hR 22 (by decide) (by decide) d_Mo_perform_56 ?_
    refine lv_iload hx hb d_Mo_perform_59 (lv_at hl 2 rfl) ?_
    refine lv_iload_n hx hb d_Mo_perform_61 rfl (lv_at hl 3 rfl) ?_
    refine rm_st V hR hS hF 22 ⟨by decide, by decide, rfl⟩ (n := 9) ⟨rfl, by decide⟩ (3 * c + dN e) rfl (by omega) d_Mo_perform_62 (fun H locs hR hS => ?_)
    refine lv_goto (tgt := 191) hx hb d_Mo_perform_63 (by decide) ?_
    exact e_v V hr hlk hS (Nat.le_refl _) (Nat.le_refl _) d_Mo_perform_191 ⟨rfl, by rw [show prf σ c e = (up2 (up2 σ 21 (8 * c + cN e) (nI (dN e))) 22 (3 * c + dN e) (nI (cN e))) from by simp [prf, h35]]; exact hR⟩
theorem d_Mo_waiting_0 : decode b_Mo_waiting 0 = .ok (.iconst 0, 1) := by decide +kernel
theorem d_Mo_waiting_1 : decode b_Mo_waiting 1 = .ok (.istore_n 2, 1) := by decide +kernel
theorem d_Mo_waiting_2 : decode b_Mo_waiting 2 = .ok (.iconst 0, 1) := by decide +kernel
theorem d_Mo_waiting_3 : decode b_Mo_waiting 3 = .ok (.istore_n 3, 1) := by decide +kernel
theorem d_Mo_waiting_4 : decode b_Mo_waiting 4 = .ok (.iload_n 3, 1) := by decide +kernel
theorem d_Mo_waiting_5 : decode b_Mo_waiting 5 = .ok (.aload_n 0, 1) := by decide +kernel
theorem d_Mo_waiting_6 : decode b_Mo_waiting 6 = .ok (.getfield 29, 3) := by decide +kernel
theorem d_Mo_waiting_9 : decode b_Mo_waiting 9 = .ok (.iload_n 1, 1) := by decide +kernel
theorem d_Mo_waiting_10 : decode b_Mo_waiting 10 = .ok (.iaload, 1) := by decide +kernel
theorem d_Mo_waiting_11 : decode b_Mo_waiting 11 = .ok (.if_icmp .ge 31, 3) := by decide +kernel
theorem d_Mo_waiting_14 : decode b_Mo_waiting 14 = .ok (.aload_n 0, 1) := by decide +kernel
theorem d_Mo_waiting_15 : decode b_Mo_waiting 15 = .ok (.getfield 26, 3) := by decide +kernel
theorem d_Mo_waiting_18 : decode b_Mo_waiting 18 = .ok (.bipush 60, 2) := by decide +kernel
theorem d_Mo_waiting_20 : decode b_Mo_waiting 20 = .ok (.iload_n 1, 1) := by decide +kernel
theorem d_Mo_waiting_21 : decode b_Mo_waiting 21 = .ok (.imul, 1) := by decide +kernel
theorem d_Mo_waiting_22 : decode b_Mo_waiting 22 = .ok (.iload_n 3, 1) := by decide +kernel
theorem d_Mo_waiting_23 : decode b_Mo_waiting 23 = .ok (.iadd, 1) := by decide +kernel
theorem d_Mo_waiting_24 : decode b_Mo_waiting 24 = .ok (.iaload, 1) := by decide +kernel
theorem d_Mo_waiting_25 : decode b_Mo_waiting 25 = .ok (.ifCond .ne 9, 3) := by decide +kernel
theorem d_Mo_waiting_28 : decode b_Mo_waiting 28 = .ok (.iload_n 2, 1) := by decide +kernel
theorem d_Mo_waiting_29 : decode b_Mo_waiting 29 = .ok (.iconst 1, 1) := by decide +kernel
theorem d_Mo_waiting_30 : decode b_Mo_waiting 30 = .ok (.iadd, 1) := by decide +kernel
theorem d_Mo_waiting_31 : decode b_Mo_waiting 31 = .ok (.goto 4, 3) := by decide +kernel
theorem d_Mo_waiting_34 : decode b_Mo_waiting 34 = .ok (.iload_n 2, 1) := by decide +kernel
theorem d_Mo_waiting_35 : decode b_Mo_waiting 35 = .ok (.istore_n 2, 1) := by decide +kernel
theorem d_Mo_waiting_36 : decode b_Mo_waiting 36 = .ok (.iinc 3 1, 3) := by decide +kernel
theorem d_Mo_waiting_39 : decode b_Mo_waiting 39 = .ok (.goto (-35), 3) := by decide +kernel
theorem d_Mo_waiting_42 : decode b_Mo_waiting 42 = .ok (.iload_n 2, 1) := by decide +kernel
theorem d_Mo_waiting_43 : decode b_Mo_waiting 43 = .ok (.ireturn, 1) := by decide +kernel
set_option maxHeartbeats 4000000 in
set_option maxRecDepth 100000 in
theorem c_Mo_waiting {l : Launch} {G : Gx} {s0 : State} (C : Cx G s0) {o : Nat} (ho : s0.heap.size ≤ o) (σ : Sg) (c : Nat) (hc : c < 3) (w : Nat) (hw : σ 7 c = nI w) (hw6 : w ≤ 60) : Ct l s0 (FM o) 0 0 0 y_Mo_waiting b_Mo_waiting 4 (some .int) [.ref (o), .int (nI c)] (RepM G o σ) (pI (fun r H => r = nI (wtn σ c w) ∧ RepM G o σ H)) := by
  refine Ct.of C (by decide) (Nat.le_of_ble_eq_true rfl) ?_
  intro pg ev s mm below meth cd V hr hlk hn hR ls hl
  have hx := V.1
  have hb := V.2.1
  have hS : va_S (FM o) s.heap s.heap [] := va_S.rf
  have hF : ∀ q, FM o q → FM o q := fun _ h => h
  have hA : ∀ q, FM o q → s0.heap.size ≤ q := fun _ h => Nat.le_trans ho h.1
  have hl : lv_has ls 4 [(0, .ref (o)), (1, .int (nI c))] := hl
  have loop : ∀ (n k : Nat), k ≤ w → w < k + n → ∀ ls : Array Slot, lv_has ls 4 [(3, .int (nI k)), (2, .int (nI (wtn σ c k))), (0, .ref (o)), (1, .int (nI c))] → W pg l ev (rmx 0 0 0) s mm [.ref (o), .int (nI c)].toArray below meth cd s.heap [] 0 0 (MQ below (qR (FM o) (pI (fun r H => r = nI (wtn σ c w) ∧ RepM G o σ H))) [.ref (o), .int (nI c)].toArray s 0 0 (FM o)) (F0 mm 4 ls []) := by
    intro n
    induction n with
    | zero => intro k h1 h2; omega
    | succ n ih =>
      intro k h1 h2 ls hl
      refine lv_iload_n hx hb d_Mo_waiting_4 rfl (lv_at hl 0 rfl) ?_
      refine lv_aload_n hx hb d_Mo_waiting_5 rfl (lv_at hl 2 rfl) ?_
      refine rm_ga V hR 7 (by decide) (by decide) d_Mo_waiting_6 ?_
      refine lv_iload_n hx hb d_Mo_waiting_9 rfl (lv_at hl 3 rfl) ?_
      refine rm_ld V hR 7 ⟨by decide, by decide, rfl⟩ (n := 3) ⟨rfl, by decide⟩ (c) rfl (by omega) d_Mo_waiting_10 ?_
      refine lv_tope (y := nI w) hw ?_
      refine lv_icmp_ge (tgt := 42) hx hb d_Mo_waiting_11 (by decide) (fun h11 => ?_) (fun h11 => ?_)
      · refine lv_iload_n hx hb d_Mo_waiting_42 rfl (lv_at hl 1 rfl) ?_
        exact e_i V hr hlk hS (Nat.le_refl _) (Nat.le_refl _) d_Mo_waiting_43 ⟨_, rfl, by rw [show k = w from by have := (nI_leI (by omega) (by omega)).mp h11; omega], hR⟩
      · have hkw : k < w := by
          rcases Nat.lt_or_ge k w with q | q
          · exact q
          · exact absurd (nI_le q (by omega)) h11
        refine lv_aload_n hx hb d_Mo_waiting_14 rfl (lv_at hl 2 rfl) ?_
        refine rm_ga V hR 6 (by decide) (by decide) d_Mo_waiting_15 ?_
        refine lv_bipush (v := 60) hx hb d_Mo_waiting_18 (by decide) ?_
        refine lv_iload_n hx hb d_Mo_waiting_20 rfl (lv_at hl 3 rfl) ?_
        refine lv_imul hx hb d_Mo_waiting_21 ?_
        refine lv_tope (y := nI (60 * c)) (mu_e (rfl : (60 : Int32) = nI 60) rfl) ?_
        refine lv_iload_n hx hb d_Mo_waiting_22 rfl (lv_at hl 0 rfl) ?_
        refine lv_iadd hx hb d_Mo_waiting_23 ?_
        refine lv_tope (y := nI (60 * c + k)) (ad_e rfl rfl) ?_
        refine rm_ld V hR 6 ⟨by decide, by decide, rfl⟩ (n := 180) ⟨rfl, by decide⟩ (60 * c + k) rfl (by omega) d_Mo_waiting_24 ?_
        refine lv_if_ne (tgt := 34) hx hb d_Mo_waiting_25 (by decide) (fun h25 => ?_) (fun h25 => ?_)
        · refine lv_iload_n hx hb d_Mo_waiting_34 rfl (lv_at hl 1 rfl) ?_
          refine lv_istore_n (lv' := [(2, .int (nI (wtn σ c k))), (3, .int (nI k)), (0, .ref (o)), (1, .int (nI c))]) hx hb d_Mo_waiting_35 rfl hl (by decide) rfl (fun ls hl => ?_)
          refine lv_iinc (v := nI (k + 1)) (lv' := [(3, .int (nI (k + 1))), (2, .int (nI (wtn σ c k))), (0, .ref (o)), (1, .int (nI c))]) hx hb d_Mo_waiting_36 hl (k := 1) rfl (ad_e rfl (rfl : (1 : Int32) = nI 1)) (by decide) rfl (fun ls hl => ?_)
          refine lv_goto (tgt := 4) hx hb d_Mo_waiting_39 (by decide) ?_
          have ew : wtn σ c (k + 1) = wtn σ c k := by simp [wtn, h25]
          exact ih (k + 1) (by omega) (by omega) ls (by rw [ew]; exact lv_sub hl [0, 1, 2, 3] rfl)
        · refine lv_iload_n hx hb d_Mo_waiting_28 rfl (lv_at hl 1 rfl) ?_
          refine lv_iconst (v := 1) hx hb d_Mo_waiting_29 (by decide) ?_
          refine lv_iadd hx hb d_Mo_waiting_30 ?_
          refine lv_tope (y := nI (wtn σ c k + 1)) (ad_e rfl (rfl : (1 : Int32) = nI 1)) ?_
          refine lv_goto (tgt := 35) hx hb d_Mo_waiting_31 (by decide) ?_
          refine lv_istore_n (lv' := [(2, .int (nI (wtn σ c k + 1))), (3, .int (nI k)), (0, .ref (o)), (1, .int (nI c))]) hx hb d_Mo_waiting_35 rfl hl (by decide) rfl (fun ls hl => ?_)
          refine lv_iinc (v := nI (k + 1)) (lv' := [(3, .int (nI (k + 1))), (2, .int (nI (wtn σ c k + 1))), (0, .ref (o)), (1, .int (nI c))]) hx hb d_Mo_waiting_36 hl (k := 1) rfl (ad_e rfl (rfl : (1 : Int32) = nI 1)) (by decide) rfl (fun ls hl => ?_)
          refine lv_goto (tgt := 4) hx hb d_Mo_waiting_39 (by decide) ?_
          have ew : wtn σ c (k + 1) = wtn σ c k + 1 := by simp [wtn, h25]
          exact ih (k + 1) (by omega) (by omega) ls (by rw [ew]; exact lv_sub hl [0, 1, 2, 3] rfl)
  refine lv_iconst (v := 0) hx hb d_Mo_waiting_0 (by decide) ?_
  refine lv_istore_n (lv' := [(2, .int (0)), (0, .ref (o)), (1, .int (nI c))]) hx hb d_Mo_waiting_1 rfl hl (by decide) rfl (fun ls hl => ?_)
  refine lv_iconst (v := 0) hx hb d_Mo_waiting_2 (by decide) ?_
  refine lv_istore_n (lv' := [(3, .int (0)), (2, .int (0)), (0, .ref (o)), (1, .int (nI c))]) hx hb d_Mo_waiting_3 rfl hl (by decide) rfl (fun ls hl => ?_)
  exact loop (w + 1) 0 (by omega) (by omega) ls (lv_sub hl [0, 1, 2, 3] rfl)
theorem d_Mo_firstWish_0 : decode b_Mo_firstWish 0 = .ok (.iconst 0, 1) := by decide +kernel
theorem d_Mo_firstWish_1 : decode b_Mo_firstWish 1 = .ok (.istore_n 2, 1) := by decide +kernel
theorem d_Mo_firstWish_2 : decode b_Mo_firstWish 2 = .ok (.iload_n 2, 1) := by decide +kernel
theorem d_Mo_firstWish_3 : decode b_Mo_firstWish 3 = .ok (.aload_n 0, 1) := by decide +kernel
theorem d_Mo_firstWish_4 : decode b_Mo_firstWish 4 = .ok (.getfield 29, 3) := by decide +kernel
theorem d_Mo_firstWish_7 : decode b_Mo_firstWish 7 = .ok (.iload_n 1, 1) := by decide +kernel
theorem d_Mo_firstWish_8 : decode b_Mo_firstWish 8 = .ok (.iaload, 1) := by decide +kernel
theorem d_Mo_firstWish_9 : decode b_Mo_firstWish 9 = .ok (.if_icmp .ge 25, 3) := by decide +kernel
theorem d_Mo_firstWish_12 : decode b_Mo_firstWish 12 = .ok (.aload_n 0, 1) := by decide +kernel
theorem d_Mo_firstWish_13 : decode b_Mo_firstWish 13 = .ok (.getfield 26, 3) := by decide +kernel
theorem d_Mo_firstWish_16 : decode b_Mo_firstWish 16 = .ok (.bipush 60, 2) := by decide +kernel
theorem d_Mo_firstWish_18 : decode b_Mo_firstWish 18 = .ok (.iload_n 1, 1) := by decide +kernel
theorem d_Mo_firstWish_19 : decode b_Mo_firstWish 19 = .ok (.imul, 1) := by decide +kernel
theorem d_Mo_firstWish_20 : decode b_Mo_firstWish 20 = .ok (.iload_n 2, 1) := by decide +kernel
theorem d_Mo_firstWish_21 : decode b_Mo_firstWish 21 = .ok (.iadd, 1) := by decide +kernel
theorem d_Mo_firstWish_22 : decode b_Mo_firstWish 22 = .ok (.iaload, 1) := by decide +kernel
theorem d_Mo_firstWish_23 : decode b_Mo_firstWish 23 = .ok (.ifCond .ne 5, 3) := by decide +kernel
theorem d_Mo_firstWish_26 : decode b_Mo_firstWish 26 = .ok (.iload_n 2, 1) := by decide +kernel
theorem d_Mo_firstWish_27 : decode b_Mo_firstWish 27 = .ok (.ireturn, 1) := by decide +kernel
theorem d_Mo_firstWish_28 : decode b_Mo_firstWish 28 = .ok (.iinc 2 1, 3) := by decide +kernel
theorem d_Mo_firstWish_31 : decode b_Mo_firstWish 31 = .ok (.goto (-29), 3) := by decide +kernel
theorem d_Mo_firstWish_34 : decode b_Mo_firstWish 34 = .ok (.iconst (-1), 1) := by decide +kernel
theorem d_Mo_firstWish_35 : decode b_Mo_firstWish 35 = .ok (.ireturn, 1) := by decide +kernel
set_option maxHeartbeats 4000000 in
set_option maxRecDepth 100000 in
theorem c_Mo_firstWish {l : Launch} {G : Gx} {s0 : State} (C : Cx G s0) {o : Nat} (ho : s0.heap.size ≤ o) (σ : Sg) (c : Nat) (hc : c < 3) (w : Nat) (hw : σ 7 c = nI w) (hw6 : w ≤ 60) : Ct l s0 (FM o) 0 0 0 y_Mo_firstWish b_Mo_firstWish 3 (some .int) [.ref (o), .int (nI c)] (RepM G o σ) (pI (fun r H => r = oI (fwF σ c w 0) ∧ RepM G o σ H)) := by
  refine Ct.of C (by decide) (Nat.le_of_ble_eq_true rfl) ?_
  intro pg ev s mm below meth cd V hr hlk hn hR ls hl
  have hx := V.1
  have hb := V.2.1
  have hS : va_S (FM o) s.heap s.heap [] := va_S.rf
  have hF : ∀ q, FM o q → FM o q := fun _ h => h
  have hA : ∀ q, FM o q → s0.heap.size ≤ q := fun _ h => Nat.le_trans ho h.1
  have hl : lv_has ls 3 [(0, .ref (o)), (1, .int (nI c))] := hl
  have loop : ∀ (n k : Nat), k ≤ w → w < k + n → fwF σ c w 0 = fwF σ c (w - k) k → ∀ ls : Array Slot, lv_has ls 3 [(2, .int (nI k)), (0, .ref (o)), (1, .int (nI c))] → W pg l ev (rmx 0 0 0) s mm [.ref (o), .int (nI c)].toArray below meth cd s.heap [] 0 0 (MQ below (qR (FM o) (pI (fun r H => r = oI (fwF σ c w 0) ∧ RepM G o σ H))) [.ref (o), .int (nI c)].toArray s 0 0 (FM o)) (F0 mm 2 ls []) := by
    intro n
    induction n with
    | zero => intro k h1 h2; omega
    | succ n ih =>
      intro k h1 h2 hf ls hl
      refine lv_iload_n hx hb d_Mo_firstWish_2 rfl (lv_at hl 0 rfl) ?_
      refine lv_aload_n hx hb d_Mo_firstWish_3 rfl (lv_at hl 1 rfl) ?_
      refine rm_ga V hR 7 (by decide) (by decide) d_Mo_firstWish_4 ?_
      refine lv_iload_n hx hb d_Mo_firstWish_7 rfl (lv_at hl 2 rfl) ?_
      refine rm_ld V hR 7 ⟨by decide, by decide, rfl⟩ (n := 3) ⟨rfl, by decide⟩ (c) rfl (by omega) d_Mo_firstWish_8 ?_
      refine lv_tope (y := nI w) hw ?_
      refine lv_icmp_ge (tgt := 34) hx hb d_Mo_firstWish_9 (by decide) (fun h9 => ?_) (fun h9 => ?_)
      · refine lv_iconst (v := -1) hx hb d_Mo_firstWish_34 (by decide) ?_
        exact e_i V hr hlk hS (Nat.le_refl _) (Nat.le_refl _) d_Mo_firstWish_35 ⟨_, rfl, by rw [hf, show w - k = 0 from by have := (nI_leI (by omega) (by omega)).mp h9; omega]; rfl, hR⟩
      · have hkw : k < w := by
          rcases Nat.lt_or_ge k w with q | q
          · exact q
          · exact absurd (nI_le q (by omega)) h9
        refine lv_aload_n hx hb d_Mo_firstWish_12 rfl (lv_at hl 1 rfl) ?_
        refine rm_ga V hR 6 (by decide) (by decide) d_Mo_firstWish_13 ?_
        refine lv_bipush (v := 60) hx hb d_Mo_firstWish_16 (by decide) ?_
        refine lv_iload_n hx hb d_Mo_firstWish_18 rfl (lv_at hl 2 rfl) ?_
        refine lv_imul hx hb d_Mo_firstWish_19 ?_
        refine lv_tope (y := nI (60 * c)) (mu_e (rfl : (60 : Int32) = nI 60) rfl) ?_
        refine lv_iload_n hx hb d_Mo_firstWish_20 rfl (lv_at hl 0 rfl) ?_
        refine lv_iadd hx hb d_Mo_firstWish_21 ?_
        refine lv_tope (y := nI (60 * c + k)) (ad_e rfl rfl) ?_
        refine rm_ld V hR 6 ⟨by decide, by decide, rfl⟩ (n := 180) ⟨rfl, by decide⟩ (60 * c + k) rfl (by omega) d_Mo_firstWish_22 ?_
        refine lv_if_ne (tgt := 28) hx hb d_Mo_firstWish_23 (by decide) (fun h23 => ?_) (fun h23 => ?_)
        · refine lv_iinc (v := nI (k + 1)) (lv' := [(2, .int (nI (k + 1))), (0, .ref (o)), (1, .int (nI c))]) hx hb d_Mo_firstWish_28 hl (k := 0) rfl (ad_e rfl (rfl : (1 : Int32) = nI 1)) (by decide) rfl (fun ls hl => ?_)
          refine lv_goto (tgt := 2) hx hb d_Mo_firstWish_31 (by decide) ?_
          exact ih (k + 1) (by omega) (by omega) (by rw [hf, show w - k = (w - (k + 1)) + 1 from by omega]; simp [fwF, h23]) ls (lv_sub hl [0, 1, 2] rfl)
        · refine lv_iload_n hx hb d_Mo_firstWish_26 rfl (lv_at hl 0 rfl) ?_
          exact e_i V hr hlk hS (Nat.le_refl _) (Nat.le_refl _) d_Mo_firstWish_27 ⟨_, rfl, by rw [hf, show w - k = (w - (k + 1)) + 1 from by omega]; simp [fwF, h23, oI], hR⟩
  refine lv_iconst (v := 0) hx hb d_Mo_firstWish_0 (by decide) ?_
  refine lv_istore_n (lv' := [(2, .int (0)), (0, .ref (o)), (1, .int (nI c))]) hx hb d_Mo_firstWish_1 rfl hl (by decide) rfl (fun ls hl => ?_)
  exact loop (w + 1) 0 (by omega) (by omega) rfl ls (lv_sub hl [0, 1, 2] rfl)
theorem d_Mo_newest_0 : decode b_Mo_newest 0 = .ok (.aload_n 0, 1) := by decide +kernel
theorem d_Mo_newest_1 : decode b_Mo_newest 1 = .ok (.iload_n 1, 1) := by decide +kernel
theorem d_Mo_newest_2 : decode b_Mo_newest 2 = .ok (.invokevirtual 102, 3) := by decide +kernel
theorem d_Mo_newest_5 : decode b_Mo_newest 5 = .ok (.istore_n 2, 1) := by decide +kernel
theorem d_Mo_newest_6 : decode b_Mo_newest 6 = .ok (.aload_n 0, 1) := by decide +kernel
theorem d_Mo_newest_7 : decode b_Mo_newest 7 = .ok (.iload_n 1, 1) := by decide +kernel
theorem d_Mo_newest_8 : decode b_Mo_newest 8 = .ok (.iconst 5, 1) := by decide +kernel
theorem d_Mo_newest_9 : decode b_Mo_newest 9 = .ok (.iadd, 1) := by decide +kernel
theorem d_Mo_newest_10 : decode b_Mo_newest 10 = .ok (.invokevirtual 102, 3) := by decide +kernel
theorem d_Mo_newest_13 : decode b_Mo_newest 13 = .ok (.istore_n 3, 1) := by decide +kernel
theorem d_Mo_newest_14 : decode b_Mo_newest 14 = .ok (.iload_n 3, 1) := by decide +kernel
theorem d_Mo_newest_15 : decode b_Mo_newest 15 = .ok (.ifCond .eq 30, 3) := by decide +kernel
theorem d_Mo_newest_18 : decode b_Mo_newest 18 = .ok (.iload_n 2, 1) := by decide +kernel
theorem d_Mo_newest_19 : decode b_Mo_newest 19 = .ok (.ifCond .eq 20, 3) := by decide +kernel
theorem d_Mo_newest_22 : decode b_Mo_newest 22 = .ok (.aload_n 0, 1) := by decide +kernel
theorem d_Mo_newest_23 : decode b_Mo_newest 23 = .ok (.getfield 7, 3) := by decide +kernel
theorem d_Mo_newest_26 : decode b_Mo_newest 26 = .ok (.iload_n 1, 1) := by decide +kernel
theorem d_Mo_newest_27 : decode b_Mo_newest 27 = .ok (.iconst 5, 1) := by decide +kernel
theorem d_Mo_newest_28 : decode b_Mo_newest 28 = .ok (.iadd, 1) := by decide +kernel
theorem d_Mo_newest_29 : decode b_Mo_newest 29 = .ok (.iaload, 1) := by decide +kernel
theorem d_Mo_newest_30 : decode b_Mo_newest 30 = .ok (.aload_n 0, 1) := by decide +kernel
theorem d_Mo_newest_31 : decode b_Mo_newest 31 = .ok (.getfield 7, 3) := by decide +kernel
theorem d_Mo_newest_34 : decode b_Mo_newest 34 = .ok (.iload_n 1, 1) := by decide +kernel
theorem d_Mo_newest_35 : decode b_Mo_newest 35 = .ok (.iaload, 1) := by decide +kernel
theorem d_Mo_newest_36 : decode b_Mo_newest 36 = .ok (.if_icmp .le 9, 3) := by decide +kernel
theorem d_Mo_newest_39 : decode b_Mo_newest 39 = .ok (.iload_n 1, 1) := by decide +kernel
theorem d_Mo_newest_40 : decode b_Mo_newest 40 = .ok (.iconst 5, 1) := by decide +kernel
theorem d_Mo_newest_41 : decode b_Mo_newest 41 = .ok (.iadd, 1) := by decide +kernel
theorem d_Mo_newest_42 : decode b_Mo_newest 42 = .ok (.goto 12, 3) := by decide +kernel
theorem d_Mo_newest_45 : decode b_Mo_newest 45 = .ok (.iload_n 2, 1) := by decide +kernel
theorem d_Mo_newest_46 : decode b_Mo_newest 46 = .ok (.ifCond .eq 7, 3) := by decide +kernel
theorem d_Mo_newest_49 : decode b_Mo_newest 49 = .ok (.iload_n 1, 1) := by decide +kernel
theorem d_Mo_newest_50 : decode b_Mo_newest 50 = .ok (.goto 4, 3) := by decide +kernel
theorem d_Mo_newest_53 : decode b_Mo_newest 53 = .ok (.iconst (-1), 1) := by decide +kernel
theorem d_Mo_newest_54 : decode b_Mo_newest 54 = .ok (.ireturn, 1) := by decide +kernel
set_option maxHeartbeats 4000000 in
set_option maxRecDepth 100000 in
theorem c_Mo_newest {l : Launch} {G : Gx} {s0 : State} (C : Cx G s0) {o : Nat} (ho : s0.heap.size ≤ o) (σ : Sg) (b : Nat) (hb9 : b + 9 < 2160) : Ct l s0 (FM o) 1 0 0 y_Mo_newest b_Mo_newest 4 (some .int) [.ref (o), .int (nI b)] (RepM G o σ) (pI (fun r H => r = oI (nwt σ b) ∧ RepM G o σ H)) := by
  refine Ct.of C (by decide) (Nat.le_of_ble_eq_true rfl) ?_
  intro pg ev s mm below meth cd V hr hlk hn hR ls hl
  have hx := V.1
  have hb := V.2.1
  have hS : va_S (FM o) s.heap s.heap [] := va_S.rf
  have hF : ∀ q, FM o q → FM o q := fun _ h => h
  have hA : ∀ q, FM o q → s0.heap.size ≤ q := fun _ h => Nat.le_trans ho h.1
  have hl : lv_has ls 4 [(0, .ref (o)), (1, .int (nI b))] := hl
  refine lv_aload_n hx hb d_Mo_newest_0 rfl (lv_at hl 0 rfl) ?_
  refine lv_iload_n hx hb d_Mo_newest_1 rfl (lv_at hl 1 rfl) ?_
  refine g_callV (As := [.int (nI b)]) (rest := []) (A0 := FM o) V (c_Mo_isWhole C ho σ (b) (by omega)) v_Mo_102 (hR.recv V.2.2.2.2.2.1) hR hS hA (fun _ h => h) ⟨by decide, by decide⟩ rfl hl (Nat.le_of_ble_eq_true rfl) d_Mo_newest_2 ⟨Nat.le_refl _, Nat.le_refl _⟩ (kI (fun r2 H locs hQ _ hS => ?_))
  obtain ⟨rfl, hR⟩ := hQ
  refine lv_istore_n (lv' := [(2, .int (bI (whl σ b))), (0, .ref (o)), (1, .int (nI b))]) hx hb d_Mo_newest_5 rfl hl (by decide) rfl (fun ls hl => ?_)
  refine lv_aload_n hx hb d_Mo_newest_6 rfl (lv_at hl 1 rfl) ?_
  refine lv_iload_n hx hb d_Mo_newest_7 rfl (lv_at hl 2 rfl) ?_
  refine lv_iconst (v := 5) hx hb d_Mo_newest_8 (by decide) ?_
  refine lv_iadd hx hb d_Mo_newest_9 ?_
  refine lv_tope (y := nI (b + 5)) (ad_e rfl (rfl : (5 : Int32) = nI 5)) ?_
  refine g_callV (As := [.int (nI (b + 5))]) (rest := []) (A0 := FM o) V (c_Mo_isWhole C ho σ (b + 5) (by omega)) v_Mo_102 (hR.recv V.2.2.2.2.2.1) hR hS hA (fun _ h => h) ⟨by decide, by decide⟩ rfl hl (Nat.le_of_ble_eq_true rfl) d_Mo_newest_10 ⟨Nat.le_refl _, Nat.le_refl _⟩ (kI (fun r10 H locs hQ _ hS => ?_))
  obtain ⟨rfl, hR⟩ := hQ
  refine lv_istore_n (lv' := [(3, .int (bI (whl σ (b + 5)))), (2, .int (bI (whl σ b))), (0, .ref (o)), (1, .int (nI b))]) hx hb d_Mo_newest_13 rfl hl (by decide) rfl (fun ls hl => ?_)
  refine lv_iload_n hx hb d_Mo_newest_14 rfl (lv_at hl 0 rfl) ?_
  refine lv_if_eq (tgt := 45) hx hb d_Mo_newest_15 (by decide) (fun h15 => ?_) (fun h15 => ?_)
  · have h15 := bI_0.mp h15
    refine lv_iload_n hx hb d_Mo_newest_45 rfl (lv_at hl 1 rfl) ?_
    refine lv_if_eq (tgt := 53) hx hb d_Mo_newest_46 (by decide) (fun h46 => ?_) (fun h46 => ?_)
    · have h46 := bI_0.mp h46
      refine lv_iconst (v := -1) hx hb d_Mo_newest_53 (by decide) ?_
      exact e_i V hr hlk hS (Nat.le_refl _) (Nat.le_refl _) d_Mo_newest_54 ⟨_, rfl, by simp [nwt, oI, h15, h46], hR⟩
    · have h46 := bI_n0.mp h46
      refine lv_iload_n hx hb d_Mo_newest_49 rfl (lv_at hl 3 rfl) ?_
      refine lv_goto (tgt := 54) hx hb d_Mo_newest_50 (by decide) ?_
      exact e_i V hr hlk hS (Nat.le_refl _) (Nat.le_refl _) d_Mo_newest_54 ⟨_, rfl, by simp [nwt, oI, h15, h46], hR⟩
  · have h15 := bI_n0.mp h15
    refine lv_iload_n hx hb d_Mo_newest_18 rfl (lv_at hl 1 rfl) ?_
    refine lv_if_eq (tgt := 39) hx hb d_Mo_newest_19 (by decide) (fun h19 => ?_) (fun h19 => ?_)
    · have h19 := bI_0.mp h19
      refine lv_iload_n hx hb d_Mo_newest_39 rfl (lv_at hl 3 rfl) ?_
      refine lv_iconst (v := 5) hx hb d_Mo_newest_40 (by decide) ?_
      refine lv_iadd hx hb d_Mo_newest_41 ?_
      refine lv_tope (y := nI (b + 5)) (ad_e rfl (rfl : (5 : Int32) = nI 5)) ?_
      refine lv_goto (tgt := 54) hx hb d_Mo_newest_42 (by decide) ?_
      exact e_i V hr hlk hS (Nat.le_refl _) (Nat.le_refl _) d_Mo_newest_54 ⟨_, rfl, by simp [nwt, oI, h15, h19], hR⟩
    · have h19 := bI_n0.mp h19
      refine lv_aload_n hx hb d_Mo_newest_22 rfl (lv_at hl 2 rfl) ?_
      refine rm_ga V hR 1 (by decide) (by decide) d_Mo_newest_23 ?_
      refine lv_iload_n hx hb d_Mo_newest_26 rfl (lv_at hl 3 rfl) ?_
      refine lv_iconst (v := 5) hx hb d_Mo_newest_27 (by decide) ?_
      refine lv_iadd hx hb d_Mo_newest_28 ?_
      refine lv_tope (y := nI (b + 5)) (ad_e rfl (rfl : (5 : Int32) = nI 5)) ?_
      refine rm_ld V hR 1 ⟨by decide, by decide, rfl⟩ (n := 2160) ⟨rfl, by decide⟩ (b + 5) rfl (by omega) d_Mo_newest_29 ?_
      refine lv_aload_n hx hb d_Mo_newest_30 rfl (lv_at hl 2 rfl) ?_
      refine rm_ga V hR 1 (by decide) (by decide) d_Mo_newest_31 ?_
      refine lv_iload_n hx hb d_Mo_newest_34 rfl (lv_at hl 3 rfl) ?_
      refine rm_ld V hR 1 ⟨by decide, by decide, rfl⟩ (n := 2160) ⟨rfl, by decide⟩ (b) rfl (by omega) d_Mo_newest_35 ?_
      refine lv_icmp_le (tgt := 45) hx hb d_Mo_newest_36 (by decide) (fun h36 => ?_) (fun h36 => ?_)
      · refine lv_iload_n hx hb d_Mo_newest_45 rfl (lv_at hl 1 rfl) ?_
        refine lv_if_eq (tgt := 53) hx hb d_Mo_newest_46 (by decide) (fun h46 => ?_) (fun h46 => ?_)
        · have h46 := bI_0.mp h46
          exact absurd (h19.symm.trans h46) (by decide)
        · have h46 := bI_n0.mp h46
          refine lv_iload_n hx hb d_Mo_newest_49 rfl (lv_at hl 3 rfl) ?_
          refine lv_goto (tgt := 54) hx hb d_Mo_newest_50 (by decide) ?_
          exact e_i V hr hlk hS (Nat.le_refl _) (Nat.le_refl _) d_Mo_newest_54 ⟨_, rfl, by simp [nwt, oI, h15, h19, h36, h46], hR⟩
      · refine lv_iload_n hx hb d_Mo_newest_39 rfl (lv_at hl 3 rfl) ?_
        refine lv_iconst (v := 5) hx hb d_Mo_newest_40 (by decide) ?_
        refine lv_iadd hx hb d_Mo_newest_41 ?_
        refine lv_tope (y := nI (b + 5)) (ad_e rfl (rfl : (5 : Int32) = nI 5)) ?_
        refine lv_goto (tgt := 54) hx hb d_Mo_newest_42 (by decide) ?_
        exact e_i V hr hlk hS (Nat.le_refl _) (Nat.le_refl _) d_Mo_newest_54 ⟨_, rfl, by simp [nwt, oI, h15, h19, h36], hR⟩
theorem d_Mo_goOn_0 : decode b_Mo_goOn 0 = .ok (.aload_n 0, 1) := by decide +kernel
theorem d_Mo_goOn_1 : decode b_Mo_goOn 1 = .ok (.getfield 53, 3) := by decide +kernel
theorem d_Mo_goOn_4 : decode b_Mo_goOn 4 = .ok (.iload_n 1, 1) := by decide +kernel
theorem d_Mo_goOn_5 : decode b_Mo_goOn 5 = .ok (.iconst 0, 1) := by decide +kernel
theorem d_Mo_goOn_6 : decode b_Mo_goOn 6 = .ok (.bastore, 1) := by decide +kernel
theorem d_Mo_goOn_7 : decode b_Mo_goOn 7 = .ok (.aload_n 0, 1) := by decide +kernel
theorem d_Mo_goOn_8 : decode b_Mo_goOn 8 = .ok (.getfield 56, 3) := by decide +kernel
theorem d_Mo_goOn_11 : decode b_Mo_goOn 11 = .ok (.iload_n 1, 1) := by decide +kernel
theorem d_Mo_goOn_12 : decode b_Mo_goOn 12 = .ok (.iconst 0, 1) := by decide +kernel
theorem d_Mo_goOn_13 : decode b_Mo_goOn 13 = .ok (.iastore, 1) := by decide +kernel
theorem d_Mo_goOn_14 : decode b_Mo_goOn 14 = .ok (.aload_n 0, 1) := by decide +kernel
theorem d_Mo_goOn_15 : decode b_Mo_goOn 15 = .ok (.getfield 50, 3) := by decide +kernel
theorem d_Mo_goOn_18 : decode b_Mo_goOn 18 = .ok (.iload_n 1, 1) := by decide +kernel
theorem d_Mo_goOn_19 : decode b_Mo_goOn 19 = .ok (.dup2, 1) := by decide +kernel
theorem d_Mo_goOn_20 : decode b_Mo_goOn 20 = .ok (.iaload, 1) := by decide +kernel
theorem d_Mo_goOn_21 : decode b_Mo_goOn 21 = .ok (.iconst 1, 1) := by decide +kernel
theorem d_Mo_goOn_22 : decode b_Mo_goOn 22 = .ok (.iadd, 1) := by decide +kernel
theorem d_Mo_goOn_23 : decode b_Mo_goOn 23 = .ok (.iastore, 1) := by decide +kernel
theorem d_Mo_goOn_24 : decode b_Mo_goOn 24 = .ok (.aload_n 0, 1) := by decide +kernel
theorem d_Mo_goOn_25 : decode b_Mo_goOn 25 = .ok (.getfield 50, 3) := by decide +kernel
theorem d_Mo_goOn_28 : decode b_Mo_goOn 28 = .ok (.iload_n 1, 1) := by decide +kernel
theorem d_Mo_goOn_29 : decode b_Mo_goOn 29 = .ok (.iaload, 1) := by decide +kernel
theorem d_Mo_goOn_30 : decode b_Mo_goOn 30 = .ok (.iconst 3, 1) := by decide +kernel
theorem d_Mo_goOn_31 : decode b_Mo_goOn 31 = .ok (.if_icmp .ne 17, 3) := by decide +kernel
theorem d_Mo_goOn_34 : decode b_Mo_goOn 34 = .ok (.aload_n 0, 1) := by decide +kernel
theorem d_Mo_goOn_35 : decode b_Mo_goOn 35 = .ok (.getfield 50, 3) := by decide +kernel
theorem d_Mo_goOn_38 : decode b_Mo_goOn 38 = .ok (.iload_n 1, 1) := by decide +kernel
theorem d_Mo_goOn_39 : decode b_Mo_goOn 39 = .ok (.iconst 0, 1) := by decide +kernel
theorem d_Mo_goOn_40 : decode b_Mo_goOn 40 = .ok (.iastore, 1) := by decide +kernel
theorem d_Mo_goOn_41 : decode b_Mo_goOn 41 = .ok (.aload_n 0, 1) := by decide +kernel
theorem d_Mo_goOn_42 : decode b_Mo_goOn 42 = .ok (.getfield 59, 3) := by decide +kernel
theorem d_Mo_goOn_45 : decode b_Mo_goOn 45 = .ok (.iload_n 1, 1) := by decide +kernel
theorem d_Mo_goOn_46 : decode b_Mo_goOn 46 = .ok (.iconst 0, 1) := by decide +kernel
theorem d_Mo_goOn_47 : decode b_Mo_goOn 47 = .ok (.iastore, 1) := by decide +kernel
theorem d_Mo_goOn_48 : decode b_Mo_goOn 48 = .ok (.return_, 1) := by decide +kernel
set_option maxHeartbeats 4000000 in
set_option maxRecDepth 100000 in
theorem c_Mo_goOn {l : Launch} {G : Gx} {s0 : State} (C : Cx G s0) {o : Nat} (ho : s0.heap.size ≤ o) (σ : Sg) (c : Nat) (hc : c < 3) : Ct l s0 (FM o) 0 0 0 y_Mo_goOn b_Mo_goOn 2 none [.ref (o), .int (nI c)] (RepM G o σ) (pV (RepM G o (gon σ c))) := by
  refine Ct.of C (by decide) (Nat.le_of_ble_eq_true rfl) ?_
  intro pg ev s mm below meth cd V hr hlk hn hR ls hl
  have hx := V.1
  have hb := V.2.1
  have hS : va_S (FM o) s.heap s.heap [] := va_S.rf
  have hF : ∀ q, FM o q → FM o q := fun _ h => h
  have hA : ∀ q, FM o q → s0.heap.size ≤ q := fun _ h => Nat.le_trans ho h.1
  have hl : lv_has ls 2 [(0, .ref (o)), (1, .int (nI c))] := hl
  refine lv_aload_n hx hb d_Mo_goOn_0 rfl (lv_at hl 0 rfl) ?_
  refine rm_ga V hR 15 (by decide) (by decide) d_Mo_goOn_1 ?_
  refine lv_iload_n hx hb d_Mo_goOn_4 rfl (lv_at hl 1 rfl) ?_
  refine lv_iconst (v := 0) hx hb d_Mo_goOn_5 (by decide) ?_
  refine rm_sz V hR hS hF 15 ⟨by decide, by decide, rfl⟩ (n := 3) ⟨rfl, by decide⟩ (c) rfl (by omega) (by decide) d_Mo_goOn_6 (fun H locs hR hS => ?_)
  refine lv_aload_n hx hb d_Mo_goOn_7 rfl (lv_at hl 0 rfl) ?_
  refine rm_ga V hR 16 (by decide) (by decide) d_Mo_goOn_8 ?_
  refine lv_iload_n hx hb d_Mo_goOn_11 rfl (lv_at hl 1 rfl) ?_
  refine lv_iconst (v := 0) hx hb d_Mo_goOn_12 (by decide) ?_
  refine rm_st V hR hS hF 16 ⟨by decide, by decide, rfl⟩ (n := 3) ⟨rfl, by decide⟩ (c) rfl (by omega) d_Mo_goOn_13 (fun H locs hR hS => ?_)
  refine lv_aload_n hx hb d_Mo_goOn_14 rfl (lv_at hl 0 rfl) ?_
  refine rm_ga V hR 14 (by decide) (by decide) d_Mo_goOn_15 ?_
  refine lv_iload_n hx hb d_Mo_goOn_18 rfl (lv_at hl 1 rfl) ?_
  refine lv_dup2_11 hx hb d_Mo_goOn_19 rfl rfl ?_
  refine rm_ld V hR 14 ⟨by decide, by decide, rfl⟩ (n := 3) ⟨rfl, by decide⟩ (c) rfl (by omega) d_Mo_goOn_20 ?_
  refine lv_tope (y := σ 14 c) (by simp [up2, upd]) ?_
  refine lv_iconst (v := 1) hx hb d_Mo_goOn_21 (by decide) ?_
  refine lv_iadd hx hb d_Mo_goOn_22 ?_
  refine rm_st V hR hS hF 14 ⟨by decide, by decide, rfl⟩ (n := 3) ⟨rfl, by decide⟩ (c) rfl (by omega) d_Mo_goOn_23 (fun H locs hR hS => ?_)
  refine lv_aload_n hx hb d_Mo_goOn_24 rfl (lv_at hl 0 rfl) ?_
  refine rm_ga V hR 14 (by decide) (by decide) d_Mo_goOn_25 ?_
  refine lv_iload_n hx hb d_Mo_goOn_28 rfl (lv_at hl 1 rfl) ?_
  refine rm_ld V hR 14 ⟨by decide, by decide, rfl⟩ (n := 3) ⟨rfl, by decide⟩ (c) rfl (by omega) d_Mo_goOn_29 ?_
  refine lv_tope (y := (σ 14 c : Int32) + (1 : Int32)) (by simp [up2, upd]) ?_
  refine lv_iconst (v := 3) hx hb d_Mo_goOn_30 (by decide) ?_
  refine lv_icmp_ne (tgt := 48) hx hb d_Mo_goOn_31 (by decide) (fun h31 => ?_) (fun h31 => ?_)
  · exact e_v V hr hlk hS (Nat.le_refl _) (Nat.le_refl _) d_Mo_goOn_48 ⟨rfl, by rw [show gon σ c = (up2 (up2 (up2 σ 15 c (0)) 16 c (0)) 14 c ((σ 14 c : Int32) + (1 : Int32))) from by simp [gon, h31]]; exact hR⟩
  · refine lv_aload_n hx hb d_Mo_goOn_34 rfl (lv_at hl 0 rfl) ?_
    refine rm_ga V hR 14 (by decide) (by decide) d_Mo_goOn_35 ?_
    refine lv_iload_n hx hb d_Mo_goOn_38 rfl (lv_at hl 1 rfl) ?_
    refine lv_iconst (v := 0) hx hb d_Mo_goOn_39 (by decide) ?_
    refine rm_st V hR hS hF 14 ⟨by decide, by decide, rfl⟩ (n := 3) ⟨rfl, by decide⟩ (c) rfl (by omega) d_Mo_goOn_40 (fun H locs hR hS => ?_)
    refine lv_aload_n hx hb d_Mo_goOn_41 rfl (lv_at hl 0 rfl) ?_
    refine rm_ga V hR 17 (by decide) (by decide) d_Mo_goOn_42 ?_
    refine lv_iload_n hx hb d_Mo_goOn_45 rfl (lv_at hl 1 rfl) ?_
    refine lv_iconst (v := 0) hx hb d_Mo_goOn_46 (by decide) ?_
    refine rm_st V hR hS hF 17 ⟨by decide, by decide, rfl⟩ (n := 3) ⟨rfl, by decide⟩ (c) rfl (by omega) d_Mo_goOn_47 (fun H locs hR hS => ?_)
    exact e_v V hr hlk hS (Nat.le_refl _) (Nat.le_refl _) d_Mo_goOn_48 ⟨rfl, by rw [show gon σ c = (up2 (up2 (up2 (up2 (up2 σ 15 c (0)) 16 c (0)) 14 c ((σ 14 c : Int32) + (1 : Int32))) 14 c (0)) 17 c (0)) from by simp [gon, h31]]; exact hR⟩
