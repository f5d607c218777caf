theorem d_Mo_readNext_0 : decode b_Mo_readNext 0 = .ok (.aload_n 0, 1) := by decide +kernel
theorem d_Mo_readNext_1 : decode b_Mo_readNext 1 = .ok (.getfield 56, 3) := by decide +kernel
theorem d_Mo_readNext_4 : decode b_Mo_readNext 4 = .ok (.iload_n 1, 1) := by decide +kernel
theorem d_Mo_readNext_5 : decode b_Mo_readNext 5 = .ok (.iaload, 1) := by decide +kernel
theorem d_Mo_readNext_6 : decode b_Mo_readNext 6 = .ok (.ifCond .ne 15, 3) := by decide +kernel
theorem d_Mo_readNext_9 : decode b_Mo_readNext 9 = .ok (.iload_n 1, 1) := by decide +kernel
theorem d_Mo_readNext_10 : decode b_Mo_readNext 10 = .ok (.ifCond .ne 7, 3) := by decide +kernel
theorem d_Mo_readNext_13 : decode b_Mo_readNext 13 = .ok (.iconst 1, 1) := by decide +kernel
theorem d_Mo_readNext_14 : decode b_Mo_readNext 14 = .ok (.goto 17, 3) := by decide +kernel
theorem d_Mo_readNext_17 : decode b_Mo_readNext 17 = .ok (.iconst 0, 1) := by decide +kernel
theorem d_Mo_readNext_18 : decode b_Mo_readNext 18 = .ok (.goto 13, 3) := by decide +kernel
theorem d_Mo_readNext_21 : decode b_Mo_readNext 21 = .ok (.iload_n 1, 1) := by decide +kernel
theorem d_Mo_readNext_22 : decode b_Mo_readNext 22 = .ok (.iconst 2, 1) := by decide +kernel
theorem d_Mo_readNext_23 : decode b_Mo_readNext 23 = .ok (.if_icmp .ne 7, 3) := by decide +kernel
theorem d_Mo_readNext_26 : decode b_Mo_readNext 26 = .ok (.iconst 1, 1) := by decide +kernel
theorem d_Mo_readNext_27 : decode b_Mo_readNext 27 = .ok (.goto 4, 3) := by decide +kernel
theorem d_Mo_readNext_30 : decode b_Mo_readNext 30 = .ok (.iconst 2, 1) := by decide +kernel
theorem d_Mo_readNext_31 : decode b_Mo_readNext 31 = .ok (.istore_n 2, 1) := by decide +kernel
theorem d_Mo_readNext_32 : decode b_Mo_readNext 32 = .ok (.aload_n 0, 1) := by decide +kernel
theorem d_Mo_readNext_33 : decode b_Mo_readNext 33 = .ok (.aload_n 0, 1) := by decide +kernel
theorem d_Mo_readNext_34 : decode b_Mo_readNext 34 = .ok (.getfield 50, 3) := by decide +kernel
theorem d_Mo_readNext_37 : decode b_Mo_readNext 37 = .ok (.iload_n 1, 1) := by decide +kernel
theorem d_Mo_readNext_38 : decode b_Mo_readNext 38 = .ok (.iaload, 1) := by decide +kernel
theorem d_Mo_readNext_39 : decode b_Mo_readNext 39 = .ok (.iload_n 2, 1) := by decide +kernel
theorem d_Mo_readNext_40 : decode b_Mo_readNext 40 = .ok (.aload_n 0, 1) := by decide +kernel
theorem d_Mo_readNext_41 : decode b_Mo_readNext 41 = .ok (.getfield 20, 3) := by decide +kernel
theorem d_Mo_readNext_44 : decode b_Mo_readNext 44 = .ok (.iload_n 1, 1) := by decide +kernel
theorem d_Mo_readNext_45 : decode b_Mo_readNext 45 = .ok (.iaload, 1) := by decide +kernel
theorem d_Mo_readNext_46 : decode b_Mo_readNext 46 = .ok (.invokestatic 105, 3) := by decide +kernel
theorem d_Mo_readNext_49 : decode b_Mo_readNext 49 = .ok (.invokevirtual 109, 3) := by decide +kernel
theorem d_Mo_readNext_52 : decode b_Mo_readNext 52 = .ok (.istore_n 3, 1) := by decide +kernel
theorem d_Mo_readNext_53 : decode b_Mo_readNext 53 = .ok (.iload_n 3, 1) := by decide +kernel
theorem d_Mo_readNext_54 : decode b_Mo_readNext 54 = .ok (.ifCond .ge 7, 3) := by decide +kernel
theorem d_Mo_readNext_57 : decode b_Mo_readNext 57 = .ok (.iconst 0, 1) := by decide +kernel
theorem d_Mo_readNext_58 : decode b_Mo_readNext 58 = .ok (.goto 11, 3) := by decide +kernel
theorem d_Mo_readNext_61 : decode b_Mo_readNext 61 = .ok (.aload_n 0, 1) := by decide +kernel
theorem d_Mo_readNext_62 : decode b_Mo_readNext 62 = .ok (.getfield 7, 3) := by decide +kernel
theorem d_Mo_readNext_65 : decode b_Mo_readNext 65 = .ok (.iload_n 3, 1) := by decide +kernel
theorem d_Mo_readNext_66 : decode b_Mo_readNext 66 = .ok (.iconst 1, 1) := by decide +kernel
theorem d_Mo_readNext_67 : decode b_Mo_readNext 67 = .ok (.iadd, 1) := by decide +kernel
theorem d_Mo_readNext_68 : decode b_Mo_readNext 68 = .ok (.iaload, 1) := by decide +kernel
theorem d_Mo_readNext_69 : decode b_Mo_readNext 69 = .ok (.istore 4, 2) := by decide +kernel
theorem d_Mo_readNext_71 : decode b_Mo_readNext 71 = .ok (.iload_n 3, 1) := by decide +kernel
theorem d_Mo_readNext_72 : decode b_Mo_readNext 72 = .ok (.ifCond .ge 7, 3) := by decide +kernel
theorem d_Mo_readNext_75 : decode b_Mo_readNext 75 = .ok (.iconst 0, 1) := by decide +kernel
theorem d_Mo_readNext_76 : decode b_Mo_readNext 76 = .ok (.goto 11, 3) := by decide +kernel
theorem d_Mo_readNext_79 : decode b_Mo_readNext 79 = .ok (.aload_n 0, 1) := by decide +kernel
theorem d_Mo_readNext_80 : decode b_Mo_readNext 80 = .ok (.getfield 7, 3) := by decide +kernel
theorem d_Mo_readNext_83 : decode b_Mo_readNext 83 = .ok (.iload_n 3, 1) := by decide +kernel
theorem d_Mo_readNext_84 : decode b_Mo_readNext 84 = .ok (.iconst 2, 1) := by decide +kernel
theorem d_Mo_readNext_85 : decode b_Mo_readNext 85 = .ok (.iadd, 1) := by decide +kernel
theorem d_Mo_readNext_86 : decode b_Mo_readNext 86 = .ok (.iaload, 1) := by decide +kernel
theorem d_Mo_readNext_87 : decode b_Mo_readNext 87 = .ok (.istore 5, 2) := by decide +kernel
theorem d_Mo_readNext_89 : decode b_Mo_readNext 89 = .ok (.aload_n 0, 1) := by decide +kernel
theorem d_Mo_readNext_90 : decode b_Mo_readNext 90 = .ok (.getfield 68, 3) := by decide +kernel
theorem d_Mo_readNext_93 : decode b_Mo_readNext 93 = .ok (.iload_n 1, 1) := by decide +kernel
theorem d_Mo_readNext_94 : decode b_Mo_readNext 94 = .ok (.dup2, 1) := by decide +kernel
theorem d_Mo_readNext_95 : decode b_Mo_readNext 95 = .ok (.iaload, 1) := by decide +kernel
theorem d_Mo_readNext_96 : decode b_Mo_readNext 96 = .ok (.iconst 1, 1) := by decide +kernel
theorem d_Mo_readNext_97 : decode b_Mo_readNext 97 = .ok (.iadd, 1) := by decide +kernel
theorem d_Mo_readNext_98 : decode b_Mo_readNext 98 = .ok (.iastore, 1) := by decide +kernel
theorem d_Mo_readNext_99 : decode b_Mo_readNext 99 = .ok (.aload_n 0, 1) := by decide +kernel
theorem d_Mo_readNext_100 : decode b_Mo_readNext 100 = .ok (.getfield 47, 3) := by decide +kernel
theorem d_Mo_readNext_103 : decode b_Mo_readNext 103 = .ok (.iload_n 1, 1) := by decide +kernel
theorem d_Mo_readNext_104 : decode b_Mo_readNext 104 = .ok (.iload 4, 2) := by decide +kernel
theorem d_Mo_readNext_106 : decode b_Mo_readNext 106 = .ok (.aload_n 0, 1) := by decide +kernel
theorem d_Mo_readNext_107 : decode b_Mo_readNext 107 = .ok (.getfield 47, 3) := by decide +kernel
theorem d_Mo_readNext_110 : decode b_Mo_readNext 110 = .ok (.iload_n 1, 1) := by decide +kernel
theorem d_Mo_readNext_111 : decode b_Mo_readNext 111 = .ok (.iaload, 1) := by decide +kernel
theorem d_Mo_readNext_112 : decode b_Mo_readNext 112 = .ok (.if_icmp .le 8, 3) := by decide +kernel
theorem d_Mo_readNext_115 : decode b_Mo_readNext 115 = .ok (.iload 4, 2) := by decide +kernel
theorem d_Mo_readNext_117 : decode b_Mo_readNext 117 = .ok (.goto 9, 3) := by decide +kernel
theorem d_Mo_readNext_120 : decode b_Mo_readNext 120 = .ok (.aload_n 0, 1) := by decide +kernel
theorem d_Mo_readNext_121 : decode b_Mo_readNext 121 = .ok (.getfield 47, 3) := by decide +kernel
theorem d_Mo_readNext_124 : decode b_Mo_readNext 124 = .ok (.iload_n 1, 1) := by decide +kernel
theorem d_Mo_readNext_125 : decode b_Mo_readNext 125 = .ok (.iaload, 1) := by decide +kernel
theorem d_Mo_readNext_126 : decode b_Mo_readNext 126 = .ok (.iastore, 1) := by decide +kernel
theorem d_Mo_readNext_127 : decode b_Mo_readNext 127 = .ok (.iload 5, 2) := by decide +kernel
theorem d_Mo_readNext_129 : decode b_Mo_readNext 129 = .ok (.aload_n 0, 1) := by decide +kernel
theorem d_Mo_readNext_130 : decode b_Mo_readNext 130 = .ok (.getfield 62, 3) := by decide +kernel
theorem d_Mo_readNext_133 : decode b_Mo_readNext 133 = .ok (.iload_n 1, 1) := by decide +kernel
theorem d_Mo_readNext_134 : decode b_Mo_readNext 134 = .ok (.iaload, 1) := by decide +kernel
theorem d_Mo_readNext_135 : decode b_Mo_readNext 135 = .ok (.if_icmp .le 25, 3) := by decide +kernel
theorem d_Mo_readNext_138 : decode b_Mo_readNext 138 = .ok (.aload_n 0, 1) := by decide +kernel
theorem d_Mo_readNext_139 : decode b_Mo_readNext 139 = .ok (.getfield 62, 3) := by decide +kernel
theorem d_Mo_readNext_142 : decode b_Mo_readNext 142 = .ok (.iload_n 1, 1) := by decide +kernel
theorem d_Mo_readNext_143 : decode b_Mo_readNext 143 = .ok (.iload 5, 2) := by decide +kernel
theorem d_Mo_readNext_145 : decode b_Mo_readNext 145 = .ok (.iastore, 1) := by decide +kernel
theorem d_Mo_readNext_146 : decode b_Mo_readNext 146 = .ok (.aload_n 0, 1) := by decide +kernel
theorem d_Mo_readNext_147 : decode b_Mo_readNext 147 = .ok (.getfield 65, 3) := by decide +kernel
theorem d_Mo_readNext_150 : decode b_Mo_readNext 150 = .ok (.iload_n 1, 1) := by decide +kernel
theorem d_Mo_readNext_151 : decode b_Mo_readNext 151 = .ok (.aload_n 0, 1) := by decide +kernel
theorem d_Mo_readNext_152 : decode b_Mo_readNext 152 = .ok (.getfield 7, 3) := by decide +kernel
theorem d_Mo_readNext_155 : decode b_Mo_readNext 155 = .ok (.iload_n 3, 1) := by decide +kernel
theorem d_Mo_readNext_156 : decode b_Mo_readNext 156 = .ok (.iconst 3, 1) := by decide +kernel
theorem d_Mo_readNext_157 : decode b_Mo_readNext 157 = .ok (.iadd, 1) := by decide +kernel
theorem d_Mo_readNext_158 : decode b_Mo_readNext 158 = .ok (.iaload, 1) := by decide +kernel
theorem d_Mo_readNext_159 : decode b_Mo_readNext 159 = .ok (.iastore, 1) := by decide +kernel
theorem d_Mo_readNext_160 : decode b_Mo_readNext 160 = .ok (.aload_n 0, 1) := by decide +kernel
theorem d_Mo_readNext_161 : decode b_Mo_readNext 161 = .ok (.getfield 56, 3) := by decide +kernel
theorem d_Mo_readNext_164 : decode b_Mo_readNext 164 = .ok (.iload_n 1, 1) := by decide +kernel
theorem d_Mo_readNext_165 : decode b_Mo_readNext 165 = .ok (.dup2, 1) := by decide +kernel
theorem d_Mo_readNext_166 : decode b_Mo_readNext 166 = .ok (.iaload, 1) := by decide +kernel
theorem d_Mo_readNext_167 : decode b_Mo_readNext 167 = .ok (.iconst 1, 1) := by decide +kernel
theorem d_Mo_readNext_168 : decode b_Mo_readNext 168 = .ok (.iadd, 1) := by decide +kernel
theorem d_Mo_readNext_169 : decode b_Mo_readNext 169 = .ok (.iastore, 1) := by decide +kernel
theorem d_Mo_readNext_170 : decode b_Mo_readNext 170 = .ok (.iload 4, 2) := by decide +kernel
theorem d_Mo_readNext_172 : decode b_Mo_readNext 172 = .ok (.aload_n 0, 1) := by decide +kernel
theorem d_Mo_readNext_173 : decode b_Mo_readNext 173 = .ok (.getfield 32, 3) := by decide +kernel
theorem d_Mo_readNext_176 : decode b_Mo_readNext 176 = .ok (.iload_n 1, 1) := by decide +kernel
theorem d_Mo_readNext_177 : decode b_Mo_readNext 177 = .ok (.iaload, 1) := by decide +kernel
theorem d_Mo_readNext_178 : decode b_Mo_readNext 178 = .ok (.if_icmp .le 13, 3) := by decide +kernel
theorem d_Mo_readNext_181 : decode b_Mo_readNext 181 = .ok (.aload_n 0, 1) := by decide +kernel
theorem d_Mo_readNext_182 : decode b_Mo_readNext 182 = .ok (.getfield 44, 3) := by decide +kernel
theorem d_Mo_readNext_185 : decode b_Mo_readNext 185 = .ok (.iload_n 1, 1) := by decide +kernel
theorem d_Mo_readNext_186 : decode b_Mo_readNext 186 = .ok (.iconst 0, 1) := by decide +kernel
theorem d_Mo_readNext_187 : decode b_Mo_readNext 187 = .ok (.iastore, 1) := by decide +kernel
theorem d_Mo_readNext_188 : decode b_Mo_readNext 188 = .ok (.bipush 6, 2) := by decide +kernel
theorem d_Mo_readNext_190 : decode b_Mo_readNext 190 = .ok (.ireturn, 1) := by decide +kernel
theorem d_Mo_readNext_191 : decode b_Mo_readNext 191 = .ok (.aload_n 0, 1) := by decide +kernel
theorem d_Mo_readNext_192 : decode b_Mo_readNext 192 = .ok (.getfield 56, 3) := by decide +kernel
theorem d_Mo_readNext_195 : decode b_Mo_readNext 195 = .ok (.iload_n 1, 1) := by decide +kernel
theorem d_Mo_readNext_196 : decode b_Mo_readNext 196 = .ok (.iaload, 1) := by decide +kernel
theorem d_Mo_readNext_197 : decode b_Mo_readNext 197 = .ok (.iconst 2, 1) := by decide +kernel
theorem d_Mo_readNext_198 : decode b_Mo_readNext 198 = .ok (.if_icmp .ge 5, 3) := by decide +kernel
theorem d_Mo_readNext_201 : decode b_Mo_readNext 201 = .ok (.iconst 5, 1) := by decide +kernel
theorem d_Mo_readNext_202 : decode b_Mo_readNext 202 = .ok (.ireturn, 1) := by decide +kernel
theorem d_Mo_readNext_203 : decode b_Mo_readNext 203 = .ok (.aload_n 0, 1) := by decide +kernel
theorem d_Mo_readNext_204 : decode b_Mo_readNext 204 = .ok (.getfield 59, 3) := by decide +kernel
theorem d_Mo_readNext_207 : decode b_Mo_readNext 207 = .ok (.iload_n 1, 1) := by decide +kernel
theorem d_Mo_readNext_208 : decode b_Mo_readNext 208 = .ok (.dup2, 1) := by decide +kernel
theorem d_Mo_readNext_209 : decode b_Mo_readNext 209 = .ok (.iaload, 1) := by decide +kernel
theorem d_Mo_readNext_210 : decode b_Mo_readNext 210 = .ok (.iconst 1, 1) := by decide +kernel
theorem d_Mo_readNext_211 : decode b_Mo_readNext 211 = .ok (.iadd, 1) := by decide +kernel
theorem d_Mo_readNext_212 : decode b_Mo_readNext 212 = .ok (.iastore, 1) := by decide +kernel
theorem d_Mo_readNext_213 : decode b_Mo_readNext 213 = .ok (.aload_n 0, 1) := by decide +kernel
theorem d_Mo_readNext_214 : decode b_Mo_readNext 214 = .ok (.getfield 59, 3) := by decide +kernel
theorem d_Mo_readNext_217 : decode b_Mo_readNext 217 = .ok (.iload_n 1, 1) := by decide +kernel
theorem d_Mo_readNext_218 : decode b_Mo_readNext 218 = .ok (.iaload, 1) := by decide +kernel
theorem d_Mo_readNext_219 : decode b_Mo_readNext 219 = .ok (.iconst 2, 1) := by decide +kernel
theorem d_Mo_readNext_220 : decode b_Mo_readNext 220 = .ok (.if_icmp .ne 27, 3) := by decide +kernel
theorem d_Mo_readNext_223 : decode b_Mo_readNext 223 = .ok (.aload_n 0, 1) := by decide +kernel
theorem d_Mo_readNext_224 : decode b_Mo_readNext 224 = .ok (.getfield 44, 3) := by decide +kernel
theorem d_Mo_readNext_227 : decode b_Mo_readNext 227 = .ok (.iload_n 1, 1) := by decide +kernel
theorem d_Mo_readNext_228 : decode b_Mo_readNext 228 = .ok (.iaload, 1) := by decide +kernel
theorem d_Mo_readNext_229 : decode b_Mo_readNext 229 = .ok (.iconst 1, 1) := by decide +kernel
theorem d_Mo_readNext_230 : decode b_Mo_readNext 230 = .ok (.if_icmp .ne 11, 3) := by decide +kernel
theorem d_Mo_readNext_233 : decode b_Mo_readNext 233 = .ok (.aload_n 0, 1) := by decide +kernel
theorem d_Mo_readNext_234 : decode b_Mo_readNext 234 = .ok (.iload_n 1, 1) := by decide +kernel
theorem d_Mo_readNext_235 : decode b_Mo_readNext 235 = .ok (.invokevirtual 122, 3) := by decide +kernel
theorem d_Mo_readNext_238 : decode b_Mo_readNext 238 = .ok (.goto 8, 3) := by decide +kernel
theorem d_Mo_readNext_241 : decode b_Mo_readNext 241 = .ok (.aload_n 0, 1) := by decide +kernel
theorem d_Mo_readNext_242 : decode b_Mo_readNext 242 = .ok (.iload_n 1, 1) := by decide +kernel
theorem d_Mo_readNext_243 : decode b_Mo_readNext 243 = .ok (.invokevirtual 125, 3) := by decide +kernel
theorem d_Mo_readNext_246 : decode b_Mo_readNext 246 = .ok (.ireturn, 1) := by decide +kernel
theorem d_Mo_readNext_247 : decode b_Mo_readNext 247 = .ok (.aload_n 0, 1) := by decide +kernel
theorem d_Mo_readNext_248 : decode b_Mo_readNext 248 = .ok (.iload_n 1, 1) := by decide +kernel
theorem d_Mo_readNext_249 : decode b_Mo_readNext 249 = .ok (.invokevirtual 128, 3) := by decide +kernel
theorem d_Mo_readNext_252 : decode b_Mo_readNext 252 = .ok (.iconst 5, 1) := by decide +kernel
theorem d_Mo_readNext_253 : decode b_Mo_readNext 253 = .ok (.ireturn, 1) := by decide +kernel
set_option maxHeartbeats 4000000 in
set_option maxRecDepth 100000 in
theorem c_Mo_readNext {l : Launch} {G : Gx} {s0 : State} (C : Cx G s0) {o : Nat} (ho : s0.heap.size ≤ o) (σ : Sg) (c : Nat) (hc : c < 3) (a q w : Nat) (ha : σ 14 c = nI a) (ha3 : a < 3) (hq : σ 4 c = nI q) (hq4 : q < 24) (hw : σ 7 c = nI w) (hw6 : w ≤ 60) (hb0 : 0 ≤ σ 18 c) (hch : σ 12 c = 1 → rdC σ c (rdF σ (nwt σ (blk a (oth σ c) q)) 1) (rdF σ (nwt σ (blk a (oth σ c) q)) 2) (rdF σ (nwt σ (blk a (oth σ c) q)) 3) w) (hpt : (¬ σ 12 c = 1 ∧ 2 ≤ σ 16 c + 1 ∧ σ 17 c + 1 = 2) → rdP σ c (rdF σ (nwt σ (blk a (oth σ c) q)) 1) (rdF σ (nwt σ (blk a (oth σ c) q)) 2) (rdF σ (nwt σ (blk a (oth σ c) q)) 3)) : Ct l s0 (FM o) 3 0 0 y_Mo_readNext b_Mo_readNext 6 (some .int) [.ref (o), .int (nI c)] (RepM G o σ) (pI (fun r H => r = (rdN σ c a q w).1 ∧ RepM G o (rdN σ c a q w).2 H)) := by
  refine Ct.of C (by decide) (Nat.le_of_ble_eq_true rfl) ?_
  intro pg ev s mm below meth cd V hr hlk hn hR ls hl
  have hx := V.1
  have hb := V.2.1
  have hS : va_S (FM o) s.heap s.heap [] := va_S.rf
  have hF : ∀ q, FM o q → FM o q := fun _ h => h
  have hA : ∀ q, FM o q → s0.heap.size ≤ q := fun _ h => Nat.le_trans ho h.1
  have hl : lv_has ls 6 [(0, .ref (o)), (1, .int (nI c))] := hl
  have r160 : ∀ (sl rd it en : Int32), rdN σ c a q w = rdX σ c rd it en w q → (σ 12 c = 1 → rdC σ c rd it en w) → ((¬ σ 12 c = 1 ∧ 2 ≤ σ 16 c + 1 ∧ σ 17 c + 1 = 2) → rdP σ c rd it en) → ∀ (H : Heap) (locs : List Loc) (ls : Array Slot), RepM G o (rdB σ c rd it en) H → va_S (FM o) s.heap H locs → lv_has ls 6 [(4, .int (rd)), (5, .int (it)), (3, .int (sl)), (0, .ref (o)), (1, .int (nI c))] → W pg l ev (rmx 3 0 0) s mm [.ref (o), .int (nI c)].toArray below meth cd H locs 0 0 (MQ below (qR (FM o) (pI (fun r H => r = (rdN σ c a q w).1 ∧ RepM G o (rdN σ c a q w).2 H))) [.ref (o), .int (nI c)].toArray s 0 0 (FM o)) (F0 mm 160 ls []) := by
    intro sl rd it en ex hch hpt H locs ls hR hS hl
    refine lv_aload_n hx hb d_Mo_readNext_160 rfl (lv_at hl 3 rfl) ?_
    refine rm_ga V hR 16 (by decide) (by decide) d_Mo_readNext_161 ?_
    refine lv_iload_n hx hb d_Mo_readNext_164 rfl (lv_at hl 4 rfl) ?_
    refine lv_dup2_11 hx hb d_Mo_readNext_165 rfl rfl ?_
    refine rm_ld V hR 16 ⟨by decide, by decide, rfl⟩ (n := 3) ⟨rfl, by decide⟩ (c) rfl (by omega) d_Mo_readNext_166 ?_
    refine lv_tope (y := σ 16 c) (by rw [rdB_ne (by decide) (by decide) (by decide) (by decide)]) ?_
    refine lv_iconst (v := 1) hx hb d_Mo_readNext_167 (by decide) ?_
    refine lv_iadd hx hb d_Mo_readNext_168 ?_
    refine rm_st V hR hS hF 16 ⟨by decide, by decide, rfl⟩ (n := 3) ⟨rfl, by decide⟩ (c) rfl (by omega) d_Mo_readNext_169 (fun H locs hR hS => ?_)
    refine lv_iload hx hb d_Mo_readNext_170 (lv_at hl 0 rfl) ?_
    refine lv_aload_n hx hb d_Mo_readNext_172 rfl (lv_at hl 3 rfl) ?_
    refine rm_ga V hR 8 (by decide) (by decide) d_Mo_readNext_173 ?_
    refine lv_iload_n hx hb d_Mo_readNext_176 rfl (lv_at hl 4 rfl) ?_
    refine rm_ld V hR 8 ⟨by decide, by decide, rfl⟩ (n := 3) ⟨rfl, by decide⟩ (c) rfl (by omega) d_Mo_readNext_177 ?_
    refine lv_tope (y := (rdB σ c rd it en) 8 c) (by simp [up2, upd]) ?_
    refine lv_tope (y := σ 8 c) (by rw [rdB_ne (by decide) (by decide) (by decide) (by decide)]) ?_
    refine lv_icmp_le (tgt := 191) hx hb d_Mo_readNext_178 (by decide) (fun h178 => ?_) (fun h178 => ?_)
    · refine lv_aload_n hx hb d_Mo_readNext_191 rfl (lv_at hl 3 rfl) ?_
      refine rm_ga V hR 16 (by decide) (by decide) d_Mo_readNext_192 ?_
      refine lv_iload_n hx hb d_Mo_readNext_195 rfl (lv_at hl 4 rfl) ?_
      refine rm_ld V hR 16 ⟨by decide, by decide, rfl⟩ (n := 3) ⟨rfl, by decide⟩ (c) rfl (by omega) d_Mo_readNext_196 ?_
      refine lv_tope (y := (σ 16 c : Int32) + (1 : Int32)) (by simp [up2, upd]) ?_
      refine lv_iconst (v := 2) hx hb d_Mo_readNext_197 (by decide) ?_
      refine lv_icmp_ge (tgt := 203) hx hb d_Mo_readNext_198 (by decide) (fun h198 => ?_) (fun h198 => ?_)
      · refine lv_aload_n hx hb d_Mo_readNext_203 rfl (lv_at hl 3 rfl) ?_
        refine rm_ga V hR 17 (by decide) (by decide) d_Mo_readNext_204 ?_
        refine lv_iload_n hx hb d_Mo_readNext_207 rfl (lv_at hl 4 rfl) ?_
        refine lv_dup2_11 hx hb d_Mo_readNext_208 rfl rfl ?_
        refine rm_ld V hR 17 ⟨by decide, by decide, rfl⟩ (n := 3) ⟨rfl, by decide⟩ (c) rfl (by omega) d_Mo_readNext_209 ?_
        refine lv_tope (y := (rdB σ c rd it en) 17 c) (by simp [up2, upd]) ?_
        refine lv_tope (y := σ 17 c) (by rw [rdB_ne (by decide) (by decide) (by decide) (by decide)]) ?_
        refine lv_iconst (v := 1) hx hb d_Mo_readNext_210 (by decide) ?_
        refine lv_iadd hx hb d_Mo_readNext_211 ?_
        refine rm_st V hR hS hF 17 ⟨by decide, by decide, rfl⟩ (n := 3) ⟨rfl, by decide⟩ (c) rfl (by omega) d_Mo_readNext_212 (fun H locs hR hS => ?_)
        refine lv_aload_n hx hb d_Mo_readNext_213 rfl (lv_at hl 3 rfl) ?_
        refine rm_ga V hR 17 (by decide) (by decide) d_Mo_readNext_214 ?_
        refine lv_iload_n hx hb d_Mo_readNext_217 rfl (lv_at hl 4 rfl) ?_
        refine rm_ld V hR 17 ⟨by decide, by decide, rfl⟩ (n := 3) ⟨rfl, by decide⟩ (c) rfl (by omega) d_Mo_readNext_218 ?_
        refine lv_tope (y := (σ 17 c : Int32) + (1 : Int32)) (by simp [up2, upd]) ?_
        refine lv_iconst (v := 2) hx hb d_Mo_readNext_219 (by decide) ?_
        refine lv_icmp_ne (tgt := 247) hx hb d_Mo_readNext_220 (by decide) (fun h220 => ?_) (fun h220 => ?_)
        · refine lv_aload_n hx hb d_Mo_readNext_247 rfl (lv_at hl 3 rfl) ?_
          refine lv_iload_n hx hb d_Mo_readNext_248 rfl (lv_at hl 4 rfl) ?_
          refine g_callV (As := [.int (nI c)]) (rest := []) (A0 := FM o) V (c_Mo_goOn C ho (up2 (up2 (rdB σ c rd it en) 16 c ((σ 16 c : Int32) + (1 : Int32))) 17 c ((σ 17 c : Int32) + (1 : Int32))) c hc) v_Mo_128 (hR.recv V.2.2.2.2.2.1) hR hS hA (fun _ h => h) ⟨by decide, by decide⟩ rfl hl (Nat.le_of_ble_eq_true rfl) d_Mo_readNext_249 ⟨Nat.le_refl _, Nat.le_refl _⟩ (kV (fun H locs hR _ hS => ?_))
          refine lv_iconst (v := 5) hx hb d_Mo_readNext_252 (by decide) ?_
          exact e_i V hr hlk hS (Nat.le_refl _) (Nat.le_refl _) d_Mo_readNext_253 ⟨_, rfl, by rw [ex, show rdX σ c rd it en w q = (5, (gon (up2 (up2 (rdB σ c rd it en) 16 c ((σ 16 c : Int32) + (1 : Int32))) 17 c ((σ 17 c : Int32) + (1 : Int32))) c)) from by simp [rdX, h178, h198, h220]]; exact ⟨rfl, hR⟩⟩
        · refine lv_aload_n hx hb d_Mo_readNext_223 rfl (lv_at hl 3 rfl) ?_
          refine rm_ga V hR 12 (by decide) (by decide) d_Mo_readNext_224 ?_
          refine lv_iload_n hx hb d_Mo_readNext_227 rfl (lv_at hl 4 rfl) ?_
          refine rm_ld V hR 12 ⟨by decide, by decide, rfl⟩ (n := 3) ⟨rfl, by decide⟩ (c) rfl (by omega) d_Mo_readNext_228 ?_
          refine lv_tope (y := (rdB σ c rd it en) 12 c) (by simp [up2, upd]) ?_
          refine lv_tope (y := σ 12 c) (by rw [rdB_ne (by decide) (by decide) (by decide) (by decide)]) ?_
          refine lv_iconst (v := 1) hx hb d_Mo_readNext_229 (by decide) ?_
          refine lv_icmp_ne (tgt := 241) hx hb d_Mo_readNext_230 (by decide) (fun h230 => ?_) (fun h230 => ?_)
          · refine lv_aload_n hx hb d_Mo_readNext_241 rfl (lv_at hl 3 rfl) ?_
            refine lv_iload_n hx hb d_Mo_readNext_242 rfl (lv_at hl 4 rfl) ?_
            refine g_callV (As := [.int (nI c)]) (rest := []) (A0 := FM o) V (c_Mo_put C ho (up2 (up2 (rdB σ c rd it en) 16 c ((σ 16 c : Int32) + (1 : Int32))) 17 c ((σ 17 c : Int32) + (1 : Int32))) c hc q (by rw [u2_n (by decide), u2_n (by decide), rdB_ne (by decide) (by decide) (by decide) (by decide)]; exact hq) hq4 (hpt ⟨h230, h198, h220⟩).1 (hpt ⟨h230, h198, h220⟩).2.1 (hpt ⟨h230, h198, h220⟩).2.2) v_Mo_125 (hR.recv V.2.2.2.2.2.1) hR hS hA (fun _ h => h) ⟨by decide, by decide⟩ rfl hl (Nat.le_of_ble_eq_true rfl) d_Mo_readNext_243 ⟨Nat.le_refl _, Nat.le_refl _⟩ (kI (fun r243 H locs hQ _ hS => ?_))
            obtain ⟨rfl, hR⟩ := hQ
            exact e_i V hr hlk hS (Nat.le_refl _) (Nat.le_refl _) d_Mo_readNext_246 ⟨_, rfl, by rw [ex, show rdX σ c rd it en w q = (8, (putM (up2 (up2 (rdB σ c rd it en) 16 c ((σ 16 c : Int32) + (1 : Int32))) 17 c ((σ 17 c : Int32) + (1 : Int32))) c q)) from by simp [rdX, h178, h198, h220, h230]]; exact ⟨rfl, hR⟩⟩
          · refine lv_aload_n hx hb d_Mo_readNext_233 rfl (lv_at hl 3 rfl) ?_
            refine lv_iload_n hx hb d_Mo_readNext_234 rfl (lv_at hl 4 rfl) ?_
            refine g_callV (As := [.int (nI c)]) (rest := []) (A0 := FM o) V (c_Mo_choose C ho (up2 (up2 (rdB σ c rd it en) 16 c ((σ 16 c : Int32) + (1 : Int32))) 17 c ((σ 17 c : Int32) + (1 : Int32))) c hc w (by rw [u2_n (by decide), u2_n (by decide), rdB_ne (by decide) (by decide) (by decide) (by decide)]; exact hw) hw6 (hch h230)) v_Mo_122 (hR.recv V.2.2.2.2.2.1) hR hS hA (fun _ h => h) ⟨by decide, by decide⟩ rfl hl (Nat.le_of_ble_eq_true rfl) d_Mo_readNext_235 ⟨Nat.le_refl _, Nat.le_refl _⟩ (kI (fun r235 H locs hQ _ hS => ?_))
            obtain ⟨rfl, hR⟩ := hQ
            refine lv_goto (tgt := 246) hx hb d_Mo_readNext_238 (by decide) ?_
            exact e_i V hr hlk hS (Nat.le_refl _) (Nat.le_refl _) d_Mo_readNext_246 ⟨_, rfl, by rw [ex, show rdX σ c rd it en w q = (7, (chs (up2 (up2 (rdB σ c rd it en) 16 c ((σ 16 c : Int32) + (1 : Int32))) 17 c ((σ 17 c : Int32) + (1 : Int32))) c w)) from by simp [rdX, h178, h198, h220, h230]]; exact ⟨rfl, hR⟩⟩
      · refine lv_iconst (v := 5) hx hb d_Mo_readNext_201 (by decide) ?_
        exact e_i V hr hlk hS (Nat.le_refl _) (Nat.le_refl _) d_Mo_readNext_202 ⟨_, rfl, by rw [ex, show rdX σ c rd it en w q = (5, (up2 (rdB σ c rd it en) 16 c ((σ 16 c : Int32) + (1 : Int32)))) from by simp [rdX, h178, h198]]; exact ⟨rfl, hR⟩⟩
    · refine lv_aload_n hx hb d_Mo_readNext_181 rfl (lv_at hl 3 rfl) ?_
      refine rm_ga V hR 12 (by decide) (by decide) d_Mo_readNext_182 ?_
      refine lv_iload_n hx hb d_Mo_readNext_185 rfl (lv_at hl 4 rfl) ?_
      refine lv_iconst (v := 0) hx hb d_Mo_readNext_186 (by decide) ?_
      refine rm_st V hR hS hF 12 ⟨by decide, by decide, rfl⟩ (n := 3) ⟨rfl, by decide⟩ (c) rfl (by omega) d_Mo_readNext_187 (fun H locs hR hS => ?_)
      refine lv_bipush (v := 6) hx hb d_Mo_readNext_188 (by decide) ?_
      exact e_i V hr hlk hS (Nat.le_refl _) (Nat.le_refl _) d_Mo_readNext_190 ⟨_, rfl, by rw [ex, show rdX σ c rd it en w q = (6, (up2 (up2 (rdB σ c rd it en) 16 c ((σ 16 c : Int32) + (1 : Int32))) 12 c (0))) from by simp [rdX, h178]]; exact ⟨rfl, hR⟩⟩
  have r32 : ∀ (ls : Array Slot), lv_has ls 6 [(2, .int (nI (oth σ c))), (0, .ref o), (1, .int (nI c))] → W pg l ev (rmx 3 0 0) s mm [.ref (o), .int (nI c)].toArray below meth cd s.heap [] 0 0 (MQ below (qR (FM o) (pI (fun r H => r = (rdN σ c a q w).1 ∧ RepM G o (rdN σ c a q w).2 H))) [.ref (o), .int (nI c)].toArray s 0 0 (FM o)) (F0 mm 32 ls []) := by
    intro ls hl
    have ho3 := oth_lt σ c
    rcases hN : nwt σ (10 * (24 * (3 * a + oth σ c) + q)) with _ | t
    · refine lv_aload_n hx hb d_Mo_readNext_32 rfl (lv_at hl 1 rfl) ?_
      refine lv_aload_n hx hb d_Mo_readNext_33 rfl (lv_at hl 1 rfl) ?_
      refine rm_ga V hR 14 (by decide) (by decide) d_Mo_readNext_34 ?_
      refine lv_iload_n hx hb d_Mo_readNext_37 rfl (lv_at hl 2 rfl) ?_
      refine rm_ld V hR 14 ⟨by decide, by decide, rfl⟩ (n := 3) ⟨rfl, by decide⟩ (c) rfl (by omega) d_Mo_readNext_38 ?_
      refine lv_tope (y := nI a) ha ?_
      refine lv_iload_n hx hb d_Mo_readNext_39 rfl (lv_at hl 0 rfl) ?_
      refine lv_aload_n hx hb d_Mo_readNext_40 rfl (lv_at hl 1 rfl) ?_
      refine rm_ga V hR 4 (by decide) (by decide) d_Mo_readNext_41 ?_
      refine lv_iload_n hx hb d_Mo_readNext_44 rfl (lv_at hl 2 rfl) ?_
      refine rm_ld V hR 4 ⟨by decide, by decide, rfl⟩ (n := 3) ⟨rfl, by decide⟩ (c) rfl (by omega) d_Mo_readNext_45 ?_
      refine lv_tope (y := nI q) hq ?_
      refine g_callS (As := [.int (nI a), .int (nI (oth σ c)), .int (nI q)]) (rest := [.ref (o)]) (A0 := FM o) V (c_Mo_block C ho σ (a) (oth σ c) (q)) v_Mo_105 hR hS hA (fun _ h => h) ⟨by decide, by decide⟩ rfl hl (Nat.le_of_ble_eq_true rfl) d_Mo_readNext_46 ⟨Nat.le_refl _, Nat.le_refl _⟩ (kI (fun r46 H locs hQ _ hS => ?_))
      obtain ⟨rfl, hR⟩ := hQ
      refine g_callV (As := [.int (nI (10 * (24 * (3 * a + oth σ c) + q)))]) (rest := []) (A0 := FM o) V (c_Mo_newest C ho σ (10 * (24 * (3 * a + oth σ c) + q)) (by omega)) v_Mo_109 (hR.recv V.2.2.2.2.2.1) hR hS hA (fun _ h => h) ⟨by decide, by decide⟩ rfl hl (Nat.le_of_ble_eq_true rfl) d_Mo_readNext_49 ⟨Nat.le_refl _, Nat.le_refl _⟩ (kI (fun r49 H locs hQ _ hS => ?_))
      obtain ⟨rfl, hR⟩ := hQ
      refine lv_tope (y := -1) (by rw [hN]; rfl) ?_
      refine lv_istore_n (lv' := [(3, .int (-1)), (2, .int (nI (oth σ c))), (0, .ref (o)), (1, .int (nI c))]) hx hb d_Mo_readNext_52 rfl hl (by decide) rfl (fun ls hl => ?_)
      refine lv_iload_n hx hb d_Mo_readNext_53 rfl (lv_at hl 0 rfl) ?_
      refine lv_if_ge (tgt := 61) hx hb d_Mo_readNext_54 (by decide) (fun h54 => ?_) (fun h54 => ?_)
      · exact absurd h54 (by decide)
      · refine lv_iconst (v := 0) hx hb d_Mo_readNext_57 (by decide) ?_
        refine lv_goto (tgt := 69) hx hb d_Mo_readNext_58 (by decide) ?_
        refine lv_istore (lv' := [(4, .int (0)), (3, .int (-1)), (2, .int (nI (oth σ c))), (0, .ref (o)), (1, .int (nI c))]) hx hb d_Mo_readNext_69 hl (by decide) rfl (fun ls hl => ?_)
        refine lv_iload_n hx hb d_Mo_readNext_71 rfl (lv_at hl 1 rfl) ?_
        refine lv_if_ge (tgt := 79) hx hb d_Mo_readNext_72 (by decide) (fun h72 => ?_) (fun h72 => ?_)
        · exact absurd h72 (by decide)
        · refine lv_iconst (v := 0) hx hb d_Mo_readNext_75 (by decide) ?_
          refine lv_goto (tgt := 87) hx hb d_Mo_readNext_76 (by decide) ?_
          refine lv_istore (lv' := [(5, .int (0)), (4, .int (0)), (3, .int (-1)), (2, .int (nI (oth σ c))), (0, .ref (o)), (1, .int (nI c))]) hx hb d_Mo_readNext_87 hl (by decide) rfl (fun ls hl => ?_)
          refine lv_aload_n hx hb d_Mo_readNext_89 rfl (lv_at hl 4 rfl) ?_
          refine rm_ga V hR 20 (by decide) (by decide) d_Mo_readNext_90 ?_
          refine lv_iload_n hx hb d_Mo_readNext_93 rfl (lv_at hl 5 rfl) ?_
          refine lv_dup2_11 hx hb d_Mo_readNext_94 rfl rfl ?_
          refine rm_ld V hR 20 ⟨by decide, by decide, rfl⟩ (n := 3) ⟨rfl, by decide⟩ (c) rfl (by omega) d_Mo_readNext_95 ?_
          refine lv_iconst (v := 1) hx hb d_Mo_readNext_96 (by decide) ?_
          refine lv_iadd hx hb d_Mo_readNext_97 ?_
          refine rm_st V hR hS hF 20 ⟨by decide, by decide, rfl⟩ (n := 3) ⟨rfl, by decide⟩ (c) rfl (by omega) d_Mo_readNext_98 (fun H locs hR hS => ?_)
          refine lv_aload_n hx hb d_Mo_readNext_99 rfl (lv_at hl 4 rfl) ?_
          refine rm_ga V hR 13 (by decide) (by decide) d_Mo_readNext_100 ?_
          refine lv_iload_n hx hb d_Mo_readNext_103 rfl (lv_at hl 5 rfl) ?_
          refine lv_iload hx hb d_Mo_readNext_104 (lv_at hl 1 rfl) ?_
          refine lv_aload_n hx hb d_Mo_readNext_106 rfl (lv_at hl 4 rfl) ?_
          refine rm_ga V hR 13 (by decide) (by decide) d_Mo_readNext_107 ?_
          refine lv_iload_n hx hb d_Mo_readNext_110 rfl (lv_at hl 5 rfl) ?_
          refine rm_ld V hR 13 ⟨by decide, by decide, rfl⟩ (n := 3) ⟨rfl, by decide⟩ (c) rfl (by omega) d_Mo_readNext_111 ?_
          refine lv_tope (y := σ 13 c) (by simp [up2, upd]) ?_
          refine lv_icmp_le (tgt := 120) hx hb d_Mo_readNext_112 (by decide) (fun h112 => ?_) (fun h112 => ?_)
          · refine lv_aload_n hx hb d_Mo_readNext_120 rfl (lv_at hl 4 rfl) ?_
            refine rm_ga V hR 13 (by decide) (by decide) d_Mo_readNext_121 ?_
            refine lv_iload_n hx hb d_Mo_readNext_124 rfl (lv_at hl 5 rfl) ?_
            refine rm_ld V hR 13 ⟨by decide, by decide, rfl⟩ (n := 3) ⟨rfl, by decide⟩ (c) rfl (by omega) d_Mo_readNext_125 ?_
            refine lv_tope (y := σ 13 c) (by simp [up2, upd]) ?_
            refine rm_st V hR hS hF 13 ⟨by decide, by decide, rfl⟩ (n := 3) ⟨rfl, by decide⟩ (c) rfl (by omega) d_Mo_readNext_126 (fun H locs hR hS => ?_)
            refine lv_iload hx hb d_Mo_readNext_127 (lv_at hl 0 rfl) ?_
            refine lv_aload_n hx hb d_Mo_readNext_129 rfl (lv_at hl 4 rfl) ?_
            refine rm_ga V hR 18 (by decide) (by decide) d_Mo_readNext_130 ?_
            refine lv_iload_n hx hb d_Mo_readNext_133 rfl (lv_at hl 5 rfl) ?_
            refine rm_ld V hR 18 ⟨by decide, by decide, rfl⟩ (n := 3) ⟨rfl, by decide⟩ (c) rfl (by omega) d_Mo_readNext_134 ?_
            refine lv_tope (y := σ 18 c) (by simp [up2, upd]) ?_
            refine lv_icmp_le (tgt := 160) hx hb d_Mo_readNext_135 (by decide) (fun h135 => ?_) (fun h135 => ?_)
            · exact r160 (-1) (0) (0) (0) (by simp only [rdN, blk, hN, rdF]; rfl) (fun h => by have := hch h; simp only [blk, hN, rdF] at this; exact this) (fun h => by have := hpt h; simp only [blk, hN, rdF] at this; exact this) _ _ ls (by rw [show rdB σ c (0) (0) (0) = (up2 (up2 σ 20 c ((σ 20 c : Int32) + (1 : Int32))) 13 c (σ 13 c)) from by simp [rdB, h112, h135]]; exact hR) hS (lv_sub hl [1, 0, 2, 4, 5] rfl)
            · exact absurd hb0 h135
          · refine lv_iload hx hb d_Mo_readNext_115 (lv_at hl 1 rfl) ?_
            refine lv_goto (tgt := 126) hx hb d_Mo_readNext_117 (by decide) ?_
            refine rm_st V hR hS hF 13 ⟨by decide, by decide, rfl⟩ (n := 3) ⟨rfl, by decide⟩ (c) rfl (by omega) d_Mo_readNext_126 (fun H locs hR hS => ?_)
            refine lv_iload hx hb d_Mo_readNext_127 (lv_at hl 0 rfl) ?_
            refine lv_aload_n hx hb d_Mo_readNext_129 rfl (lv_at hl 4 rfl) ?_
            refine rm_ga V hR 18 (by decide) (by decide) d_Mo_readNext_130 ?_
            refine lv_iload_n hx hb d_Mo_readNext_133 rfl (lv_at hl 5 rfl) ?_
            refine rm_ld V hR 18 ⟨by decide, by decide, rfl⟩ (n := 3) ⟨rfl, by decide⟩ (c) rfl (by omega) d_Mo_readNext_134 ?_
            refine lv_tope (y := σ 18 c) (by simp [up2, upd]) ?_
            refine lv_icmp_le (tgt := 160) hx hb d_Mo_readNext_135 (by decide) (fun h135 => ?_) (fun h135 => ?_)
            · exact r160 (-1) (0) (0) (0) (by simp only [rdN, blk, hN, rdF]; rfl) (fun h => by have := hch h; simp only [blk, hN, rdF] at this; exact this) (fun h => by have := hpt h; simp only [blk, hN, rdF] at this; exact this) _ _ ls (by rw [show rdB σ c (0) (0) (0) = (up2 (up2 σ 20 c ((σ 20 c : Int32) + (1 : Int32))) 13 c (0)) from by simp [rdB, h112, h135]]; exact hR) hS (lv_sub hl [1, 0, 2, 4, 5] rfl)
            · exact absurd hb0 h135
    · have ht9 := nwt_lt hN
      refine lv_aload_n hx hb d_Mo_readNext_32 rfl (lv_at hl 1 rfl) ?_
      refine lv_aload_n hx hb d_Mo_readNext_33 rfl (lv_at hl 1 rfl) ?_
      refine rm_ga V hR 14 (by decide) (by decide) d_Mo_readNext_34 ?_
      refine lv_iload_n hx hb d_Mo_readNext_37 rfl (lv_at hl 2 rfl) ?_
      refine rm_ld V hR 14 ⟨by decide, by decide, rfl⟩ (n := 3) ⟨rfl, by decide⟩ (c) rfl (by omega) d_Mo_readNext_38 ?_
      refine lv_tope (y := nI a) ha ?_
      refine lv_iload_n hx hb d_Mo_readNext_39 rfl (lv_at hl 0 rfl) ?_
      refine lv_aload_n hx hb d_Mo_readNext_40 rfl (lv_at hl 1 rfl) ?_
      refine rm_ga V hR 4 (by decide) (by decide) d_Mo_readNext_41 ?_
      refine lv_iload_n hx hb d_Mo_readNext_44 rfl (lv_at hl 2 rfl) ?_
      refine rm_ld V hR 4 ⟨by decide, by decide, rfl⟩ (n := 3) ⟨rfl, by decide⟩ (c) rfl (by omega) d_Mo_readNext_45 ?_
      refine lv_tope (y := nI q) hq ?_
      refine g_callS (As := [.int (nI a), .int (nI (oth σ c)), .int (nI q)]) (rest := [.ref (o)]) (A0 := FM o) V (c_Mo_block C ho σ (a) (oth σ c) (q)) v_Mo_105 hR hS hA (fun _ h => h) ⟨by decide, by decide⟩ rfl hl (Nat.le_of_ble_eq_true rfl) d_Mo_readNext_46 ⟨Nat.le_refl _, Nat.le_refl _⟩ (kI (fun r46 H locs hQ _ hS => ?_))
      obtain ⟨rfl, hR⟩ := hQ
      refine g_callV (As := [.int (nI (10 * (24 * (3 * a + oth σ c) + q)))]) (rest := []) (A0 := FM o) V (c_Mo_newest C ho σ (10 * (24 * (3 * a + oth σ c) + q)) (by omega)) v_Mo_109 (hR.recv V.2.2.2.2.2.1) hR hS hA (fun _ h => h) ⟨by decide, by decide⟩ rfl hl (Nat.le_of_ble_eq_true rfl) d_Mo_readNext_49 ⟨Nat.le_refl _, Nat.le_refl _⟩ (kI (fun r49 H locs hQ _ hS => ?_))
      obtain ⟨rfl, hR⟩ := hQ
      refine lv_tope (y := nI t) (by rw [hN]; rfl) ?_
      refine lv_istore_n (lv' := [(3, .int (nI t)), (2, .int (nI (oth σ c))), (0, .ref (o)), (1, .int (nI c))]) hx hb d_Mo_readNext_52 rfl hl (by decide) rfl (fun ls hl => ?_)
      refine lv_iload_n hx hb d_Mo_readNext_53 rfl (lv_at hl 0 rfl) ?_
      refine lv_if_ge (tgt := 61) hx hb d_Mo_readNext_54 (by decide) (fun h54 => ?_) (fun h54 => ?_)
      · refine lv_aload_n hx hb d_Mo_readNext_61 rfl (lv_at hl 2 rfl) ?_
        refine rm_ga V hR 1 (by decide) (by decide) d_Mo_readNext_62 ?_
        refine lv_iload_n hx hb d_Mo_readNext_65 rfl (lv_at hl 0 rfl) ?_
        refine lv_iconst (v := 1) hx hb d_Mo_readNext_66 (by decide) ?_
        refine lv_iadd hx hb d_Mo_readNext_67 ?_
        refine lv_tope (y := nI (t + 1)) (ad_e (a := t) (b := 1) rfl (rfl : (1 : Int32) = nI 1)) ?_
        refine rm_ld V hR 1 ⟨by decide, by decide, rfl⟩ (n := 2160) ⟨rfl, by decide⟩ (t + 1) rfl (by omega) d_Mo_readNext_68 ?_
        refine lv_istore (lv' := [(4, .int (σ 1 (t + 1))), (3, .int (nI t)), (2, .int (nI (oth σ c))), (0, .ref (o)), (1, .int (nI c))]) hx hb d_Mo_readNext_69 hl (by decide) rfl (fun ls hl => ?_)
        refine lv_iload_n hx hb d_Mo_readNext_71 rfl (lv_at hl 1 rfl) ?_
        refine lv_if_ge (tgt := 79) hx hb d_Mo_readNext_72 (by decide) (fun h72 => ?_) (fun h72 => ?_)
        · refine lv_aload_n hx hb d_Mo_readNext_79 rfl (lv_at hl 3 rfl) ?_
          refine rm_ga V hR 1 (by decide) (by decide) d_Mo_readNext_80 ?_
          refine lv_iload_n hx hb d_Mo_readNext_83 rfl (lv_at hl 1 rfl) ?_
          refine lv_iconst (v := 2) hx hb d_Mo_readNext_84 (by decide) ?_
          refine lv_iadd hx hb d_Mo_readNext_85 ?_
          refine lv_tope (y := nI (t + 2)) (ad_e (a := t) (b := 2) rfl (rfl : (2 : Int32) = nI 2)) ?_
          refine rm_ld V hR 1 ⟨by decide, by decide, rfl⟩ (n := 2160) ⟨rfl, by decide⟩ (t + 2) rfl (by omega) d_Mo_readNext_86 ?_
          refine lv_istore (lv' := [(5, .int (σ 1 (t + 2))), (4, .int (σ 1 (t + 1))), (3, .int (nI t)), (2, .int (nI (oth σ c))), (0, .ref (o)), (1, .int (nI c))]) hx hb d_Mo_readNext_87 hl (by decide) rfl (fun ls hl => ?_)
          refine lv_aload_n hx hb d_Mo_readNext_89 rfl (lv_at hl 4 rfl) ?_
          refine rm_ga V hR 20 (by decide) (by decide) d_Mo_readNext_90 ?_
          refine lv_iload_n hx hb d_Mo_readNext_93 rfl (lv_at hl 5 rfl) ?_
          refine lv_dup2_11 hx hb d_Mo_readNext_94 rfl rfl ?_
          refine rm_ld V hR 20 ⟨by decide, by decide, rfl⟩ (n := 3) ⟨rfl, by decide⟩ (c) rfl (by omega) d_Mo_readNext_95 ?_
          refine lv_iconst (v := 1) hx hb d_Mo_readNext_96 (by decide) ?_
          refine lv_iadd hx hb d_Mo_readNext_97 ?_
          refine rm_st V hR hS hF 20 ⟨by decide, by decide, rfl⟩ (n := 3) ⟨rfl, by decide⟩ (c) rfl (by omega) d_Mo_readNext_98 (fun H locs hR hS => ?_)
          refine lv_aload_n hx hb d_Mo_readNext_99 rfl (lv_at hl 4 rfl) ?_
          refine rm_ga V hR 13 (by decide) (by decide) d_Mo_readNext_100 ?_
          refine lv_iload_n hx hb d_Mo_readNext_103 rfl (lv_at hl 5 rfl) ?_
          refine lv_iload hx hb d_Mo_readNext_104 (lv_at hl 1 rfl) ?_
          refine lv_aload_n hx hb d_Mo_readNext_106 rfl (lv_at hl 4 rfl) ?_
          refine rm_ga V hR 13 (by decide) (by decide) d_Mo_readNext_107 ?_
          refine lv_iload_n hx hb d_Mo_readNext_110 rfl (lv_at hl 5 rfl) ?_
          refine rm_ld V hR 13 ⟨by decide, by decide, rfl⟩ (n := 3) ⟨rfl, by decide⟩ (c) rfl (by omega) d_Mo_readNext_111 ?_
          refine lv_tope (y := σ 13 c) (by simp [up2, upd]) ?_
          refine lv_icmp_le (tgt := 120) hx hb d_Mo_readNext_112 (by decide) (fun h112 => ?_) (fun h112 => ?_)
          · refine lv_aload_n hx hb d_Mo_readNext_120 rfl (lv_at hl 4 rfl) ?_
            refine rm_ga V hR 13 (by decide) (by decide) d_Mo_readNext_121 ?_
            refine lv_iload_n hx hb d_Mo_readNext_124 rfl (lv_at hl 5 rfl) ?_
            refine rm_ld V hR 13 ⟨by decide, by decide, rfl⟩ (n := 3) ⟨rfl, by decide⟩ (c) rfl (by omega) d_Mo_readNext_125 ?_
            refine lv_tope (y := σ 13 c) (by simp [up2, upd]) ?_
            refine rm_st V hR hS hF 13 ⟨by decide, by decide, rfl⟩ (n := 3) ⟨rfl, by decide⟩ (c) rfl (by omega) d_Mo_readNext_126 (fun H locs hR hS => ?_)
            refine lv_iload hx hb d_Mo_readNext_127 (lv_at hl 0 rfl) ?_
            refine lv_aload_n hx hb d_Mo_readNext_129 rfl (lv_at hl 4 rfl) ?_
            refine rm_ga V hR 18 (by decide) (by decide) d_Mo_readNext_130 ?_
            refine lv_iload_n hx hb d_Mo_readNext_133 rfl (lv_at hl 5 rfl) ?_
            refine rm_ld V hR 18 ⟨by decide, by decide, rfl⟩ (n := 3) ⟨rfl, by decide⟩ (c) rfl (by omega) d_Mo_readNext_134 ?_
            refine lv_tope (y := σ 18 c) (by simp [up2, upd]) ?_
            refine lv_icmp_le (tgt := 160) hx hb d_Mo_readNext_135 (by decide) (fun h135 => ?_) (fun h135 => ?_)
            · exact r160 (nI t) (σ 1 (t + 1)) (σ 1 (t + 2)) (σ 1 (t + 3)) (by simp only [rdN, blk, hN, rdF]; rfl) (fun h => by have := hch h; simp only [blk, hN, rdF] at this; exact this) (fun h => by have := hpt h; simp only [blk, hN, rdF] at this; exact this) _ _ ls (by rw [show rdB σ c (σ 1 (t + 1)) (σ 1 (t + 2)) (σ 1 (t + 3)) = (up2 (up2 σ 20 c ((σ 20 c : Int32) + (1 : Int32))) 13 c (σ 13 c)) from by simp [rdB, h54, h72, h112, h135]]; exact hR) hS (lv_sub hl [1, 0, 2, 4, 5] rfl)
            · refine lv_aload_n hx hb d_Mo_readNext_138 rfl (lv_at hl 4 rfl) ?_
              refine rm_ga V hR 18 (by decide) (by decide) d_Mo_readNext_139 ?_
              refine lv_iload_n hx hb d_Mo_readNext_142 rfl (lv_at hl 5 rfl) ?_
              refine lv_iload hx hb d_Mo_readNext_143 (lv_at hl 0 rfl) ?_
              refine rm_st V hR hS hF 18 ⟨by decide, by decide, rfl⟩ (n := 3) ⟨rfl, by decide⟩ (c) rfl (by omega) d_Mo_readNext_145 (fun H locs hR hS => ?_)
              refine lv_aload_n hx hb d_Mo_readNext_146 rfl (lv_at hl 4 rfl) ?_
              refine rm_ga V hR 19 (by decide) (by decide) d_Mo_readNext_147 ?_
              refine lv_iload_n hx hb d_Mo_readNext_150 rfl (lv_at hl 5 rfl) ?_
              refine lv_aload_n hx hb d_Mo_readNext_151 rfl (lv_at hl 4 rfl) ?_
              refine rm_ga V hR 1 (by decide) (by decide) d_Mo_readNext_152 ?_
              refine lv_iload_n hx hb d_Mo_readNext_155 rfl (lv_at hl 2 rfl) ?_
              refine lv_iconst (v := 3) hx hb d_Mo_readNext_156 (by decide) ?_
              refine lv_iadd hx hb d_Mo_readNext_157 ?_
              refine lv_tope (y := nI (t + 3)) (ad_e (a := t) (b := 3) rfl (rfl : (3 : Int32) = nI 3)) ?_
              refine rm_ld V hR 1 ⟨by decide, by decide, rfl⟩ (n := 2160) ⟨rfl, by decide⟩ (t + 3) rfl (by omega) d_Mo_readNext_158 ?_
              refine lv_tope (y := σ 1 (t + 3)) (by simp [up2, upd]) ?_
              refine rm_st V hR hS hF 19 ⟨by decide, by decide, rfl⟩ (n := 3) ⟨rfl, by decide⟩ (c) rfl (by omega) d_Mo_readNext_159 (fun H locs hR hS => ?_)
              exact r160 (nI t) (σ 1 (t + 1)) (σ 1 (t + 2)) (σ 1 (t + 3)) (by simp only [rdN, blk, hN, rdF]; rfl) (fun h => by have := hch h; simp only [blk, hN, rdF] at this; exact this) (fun h => by have := hpt h; simp only [blk, hN, rdF] at this; exact this) _ _ ls (by rw [show rdB σ c (σ 1 (t + 1)) (σ 1 (t + 2)) (σ 1 (t + 3)) = (up2 (up2 (up2 (up2 σ 20 c ((σ 20 c : Int32) + (1 : Int32))) 13 c (σ 13 c)) 18 c (σ 1 (t + 2))) 19 c (σ 1 (t + 3))) from by simp [rdB, h54, h72, h112, h135]]; exact hR) hS (lv_sub hl [1, 0, 2, 4, 5] rfl)
          · refine lv_iload hx hb d_Mo_readNext_115 (lv_at hl 1 rfl) ?_
            refine lv_goto (tgt := 126) hx hb d_Mo_readNext_117 (by decide) ?_
            refine rm_st V hR hS hF 13 ⟨by decide, by decide, rfl⟩ (n := 3) ⟨rfl, by decide⟩ (c) rfl (by omega) d_Mo_readNext_126 (fun H locs hR hS => ?_)
            refine lv_iload hx hb d_Mo_readNext_127 (lv_at hl 0 rfl) ?_
            refine lv_aload_n hx hb d_Mo_readNext_129 rfl (lv_at hl 4 rfl) ?_
            refine rm_ga V hR 18 (by decide) (by decide) d_Mo_readNext_130 ?_
            refine lv_iload_n hx hb d_Mo_readNext_133 rfl (lv_at hl 5 rfl) ?_
            refine rm_ld V hR 18 ⟨by decide, by decide, rfl⟩ (n := 3) ⟨rfl, by decide⟩ (c) rfl (by omega) d_Mo_readNext_134 ?_
            refine lv_tope (y := σ 18 c) (by simp [up2, upd]) ?_
            refine lv_icmp_le (tgt := 160) hx hb d_Mo_readNext_135 (by decide) (fun h135 => ?_) (fun h135 => ?_)
            · exact r160 (nI t) (σ 1 (t + 1)) (σ 1 (t + 2)) (σ 1 (t + 3)) (by simp only [rdN, blk, hN, rdF]; rfl) (fun h => by have := hch h; simp only [blk, hN, rdF] at this; exact this) (fun h => by have := hpt h; simp only [blk, hN, rdF] at this; exact this) _ _ ls (by rw [show rdB σ c (σ 1 (t + 1)) (σ 1 (t + 2)) (σ 1 (t + 3)) = (up2 (up2 σ 20 c ((σ 20 c : Int32) + (1 : Int32))) 13 c (σ 1 (t + 1))) from by simp [rdB, h54, h72, h112, h135]]; exact hR) hS (lv_sub hl [1, 0, 2, 4, 5] rfl)
            · refine lv_aload_n hx hb d_Mo_readNext_138 rfl (lv_at hl 4 rfl) ?_
              refine rm_ga V hR 18 (by decide) (by decide) d_Mo_readNext_139 ?_
              refine lv_iload_n hx hb d_Mo_readNext_142 rfl (lv_at hl 5 rfl) ?_
              refine lv_iload hx hb d_Mo_readNext_143 (lv_at hl 0 rfl) ?_
              refine rm_st V hR hS hF 18 ⟨by decide, by decide, rfl⟩ (n := 3) ⟨rfl, by decide⟩ (c) rfl (by omega) d_Mo_readNext_145 (fun H locs hR hS => ?_)
              refine lv_aload_n hx hb d_Mo_readNext_146 rfl (lv_at hl 4 rfl) ?_
              refine rm_ga V hR 19 (by decide) (by decide) d_Mo_readNext_147 ?_
              refine lv_iload_n hx hb d_Mo_readNext_150 rfl (lv_at hl 5 rfl) ?_
              refine lv_aload_n hx hb d_Mo_readNext_151 rfl (lv_at hl 4 rfl) ?_
              refine rm_ga V hR 1 (by decide) (by decide) d_Mo_readNext_152 ?_
              refine lv_iload_n hx hb d_Mo_readNext_155 rfl (lv_at hl 2 rfl) ?_
              refine lv_iconst (v := 3) hx hb d_Mo_readNext_156 (by decide) ?_
              refine lv_iadd hx hb d_Mo_readNext_157 ?_
              refine lv_tope (y := nI (t + 3)) (ad_e (a := t) (b := 3) rfl (rfl : (3 : Int32) = nI 3)) ?_
              refine rm_ld V hR 1 ⟨by decide, by decide, rfl⟩ (n := 2160) ⟨rfl, by decide⟩ (t + 3) rfl (by omega) d_Mo_readNext_158 ?_
              refine lv_tope (y := σ 1 (t + 3)) (by simp [up2, upd]) ?_
              refine rm_st V hR hS hF 19 ⟨by decide, by decide, rfl⟩ (n := 3) ⟨rfl, by decide⟩ (c) rfl (by omega) d_Mo_readNext_159 (fun H locs hR hS => ?_)
              exact r160 (nI t) (σ 1 (t + 1)) (σ 1 (t + 2)) (σ 1 (t + 3)) (by simp only [rdN, blk, hN, rdF]; rfl) (fun h => by have := hch h; simp only [blk, hN, rdF] at this; exact this) (fun h => by have := hpt h; simp only [blk, hN, rdF] at this; exact this) _ _ ls (by rw [show rdB σ c (σ 1 (t + 1)) (σ 1 (t + 2)) (σ 1 (t + 3)) = (up2 (up2 (up2 (up2 σ 20 c ((σ 20 c : Int32) + (1 : Int32))) 13 c (σ 1 (t + 1))) 18 c (σ 1 (t + 2))) 19 c (σ 1 (t + 3))) from by simp [rdB, h54, h72, h112, h135]]; exact hR) hS (lv_sub hl [1, 0, 2, 4, 5] rfl)
        · exact absurd (nI_pos' (by omega)) h72
      · exact absurd (nI_pos' (by omega)) h54
  refine lv_aload_n hx hb d_Mo_readNext_0 rfl (lv_at hl 0 rfl) ?_
  refine rm_ga V hR 16 (by decide) (by decide) d_Mo_readNext_1 ?_
  refine lv_iload_n hx hb d_Mo_readNext_4 rfl (lv_at hl 1 rfl) ?_
  refine rm_ld V hR 16 ⟨by decide, by decide, rfl⟩ (n := 3) ⟨rfl, by decide⟩ (c) rfl (by omega) d_Mo_readNext_5 ?_
  refine lv_if_ne (tgt := 21) hx hb d_Mo_readNext_6 (by decide) (fun h6 => ?_) (fun h6 => ?_)
  · refine lv_iload_n hx hb d_Mo_readNext_21 rfl (lv_at hl 1 rfl) ?_
    refine lv_iconst (v := 2) hx hb d_Mo_readNext_22 (by decide) ?_
    refine lv_icmp_ne (tgt := 30) hx hb d_Mo_readNext_23 (by decide) (fun h23 => ?_) (fun h23 => ?_)
    · refine lv_iconst (v := 2) hx hb d_Mo_readNext_30 (by decide) ?_
      refine lv_istore_n (lv' := [(2, .int (2)), (0, .ref (o)), (1, .int (nI c))]) hx hb d_Mo_readNext_31 rfl hl (by decide) rfl (fun ls hl => ?_)
      have g23 := (not_congr (c_2 hc)).mp h23
      exact r32 ls (by rw [show nI (oth σ c) = (2 : Int32) from by unfold oth; rw [if_neg h6, if_neg g23]; rfl]; exact lv_sub hl [0, 1, 2] rfl)
    · refine lv_iconst (v := 1) hx hb d_Mo_readNext_26 (by decide) ?_
      refine lv_goto (tgt := 31) hx hb d_Mo_readNext_27 (by decide) ?_
      refine lv_istore_n (lv' := [(2, .int (1)), (0, .ref (o)), (1, .int (nI c))]) hx hb d_Mo_readNext_31 rfl hl (by decide) rfl (fun ls hl => ?_)
      have g23 := (c_2 hc).mp h23
      exact r32 ls (by rw [show nI (oth σ c) = (1 : Int32) from by unfold oth; rw [if_neg h6, if_pos g23]; rfl]; exact lv_sub hl [0, 1, 2] rfl)
  · refine lv_iload_n hx hb d_Mo_readNext_9 rfl (lv_at hl 1 rfl) ?_
    refine lv_if_ne (tgt := 17) hx hb d_Mo_readNext_10 (by decide) (fun h10 => ?_) (fun h10 => ?_)
    · refine lv_iconst (v := 0) hx hb d_Mo_readNext_17 (by decide) ?_
      refine lv_goto (tgt := 31) hx hb d_Mo_readNext_18 (by decide) ?_
      refine lv_istore_n (lv' := [(2, .int (0)), (0, .ref (o)), (1, .int (nI c))]) hx hb d_Mo_readNext_31 rfl hl (by decide) rfl (fun ls hl => ?_)
      have g10 := (not_congr (c_0 hc)).mp h10
      exact r32 ls (by rw [show nI (oth σ c) = (0 : Int32) from by unfold oth; rw [if_pos h6, if_neg g10]; rfl]; exact lv_sub hl [0, 1, 2] rfl)
    · refine lv_iconst (v := 1) hx hb d_Mo_readNext_13 (by decide) ?_
      refine lv_goto (tgt := 31) hx hb d_Mo_readNext_14 (by decide) ?_
      refine lv_istore_n (lv' := [(2, .int (1)), (0, .ref (o)), (1, .int (nI c))]) hx hb d_Mo_readNext_31 rfl hl (by decide) rfl (fun ls hl => ?_)
      have g10 := (c_0 hc).mp h10
      exact r32 ls (by rw [show nI (oth σ c) = (1 : Int32) from by unfold oth; rw [if_pos h6, if_pos g10]; rfl]; exact lv_sub hl [0, 1, 2] rfl)
