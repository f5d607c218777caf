/-! ===== the reference: one object, 24 arrays behind it ===== -/
def up2 (σ : Nat → Nat → Int32) (k j : Nat) (x : Int32) : Nat → Nat → Int32 := fun a => if a = k then upd (σ a) j x else σ a
theorem u2_s {σ : Nat → Nat → Int32} {k j : Nat} {x : Int32} : up2 σ k j x k j = x := by simp [up2, upd]
theorem u2_n {σ : Nat → Nat → Int32} {k j a : Nat} {x : Int32} (h : a ≠ k) : up2 σ k j x a = σ a := by simp [up2, h]
theorem u2_j {σ : Nat → Nat → Int32} {k j i : Nat} {x : Int32} (h : i ≠ j) : up2 σ k j x k i = σ k i := by simp [up2, upd, h]
theorem u2_a {σ : Nat → Nat → Int32} {k j : Nat} {x : Int32} : up2 σ k j x k = upd (σ k) j x := by simp [up2]
def mB (k : Nat) : Bool := k == 2 || k == 11 || k == 15 || k == 23
def mL (k : Nat) : Nat := match k with
  | 1 => 2160 | 2 => 3 | 3 => 72 | 4 => 3 | 5 => 180 | 6 => 180 | 7 => 3 | 8 => 3 | 9 => 3 | 10 => 3 | 11 => 3 | 12 => 3 | 13 => 3 | 14 => 3 | 15 => 3 | 16 => 3 | 17 => 3 | 18 => 3 | 19 => 3 | 20 => 3 | 21 => 24 | _ => 9
def mF (o : Nat) (σ : Nat → Nat → Int32) : List Value := [.int (σ 0 0), .ref (o + 1), .ref (o + 2), .ref (o + 3), .ref (o + 4), .ref (o + 5), .ref (o + 6), .ref (o + 7), .ref (o + 8), .ref (o + 9), .ref (o + 10), .ref (o + 11), .ref (o + 12), .ref (o + 13), .ref (o + 14), .ref (o + 15), .ref (o + 16), .ref (o + 17), .ref (o + 18), .ref (o + 19), .ref (o + 20), .ref (o + 21), .ref (o + 22), .ref (o + 23), .ref (o + 24)]
def mA (G : Gx) (k : Nat) : ClassId := if mB k = true then G.2 1 else G.2 0
def RepM (G : Gx) (o : Nat) (σ : Nat → Nat → Int32) (H : Heap) : Prop :=
  va_at G.1 classes (o, .inr (8, mF o σ)) H ∧ ∀ k : Nat, 1 ≤ k → k ≤ 24 → va_at G.1 classes (o + k, .inl (mA G k, (mL k, .inl (σ k)))) H
def FM (o : Nat) : Nat → Prop := fun q => o ≤ q ∧ q < o + 25
theorem mF_at (o : Nat) (σ : Nat → Nat → Int32) (k : Nat) (h1 : 1 ≤ k) (h2 : k ≤ 24) : (mF o σ)[k]? = some (.ref (o + k)) := by
  have : k = 1 ∨ k = 2 ∨ k = 3 ∨ k = 4 ∨ k = 5 ∨ k = 6 ∨ k = 7 ∨ k = 8 ∨ k = 9 ∨ k = 10 ∨ k = 11 ∨ k = 12 ∨ k = 13 ∨ k = 14 ∨ k = 15 ∨ k = 16 ∨ k = 17 ∨ k = 18 ∨ k = 19 ∨ k = 20 ∨ k = 21 ∨ k = 22 ∨ k = 23 ∨ k = 24 := by omega
  rcases this with rfl | rfl | rfl | rfl | rfl | rfl | rfl | rfl | rfl | rfl | rfl | rfl | rfl | rfl | rfl | rfl | rfl | rfl | rfl | rfl | rfl | rfl | rfl | rfl <;> rfl
def iMo (k : Nat) : Nat := match k with
  | 0 => 83 | 1 => 7 | 2 => 13 | 3 => 17 | 4 => 20 | 5 => 23 | 6 => 26 | 7 => 29 | 8 => 32 | 9 => 35 | 10 => 38 | 11 => 41 | 12 => 44 | 13 => 47 | 14 => 50 | 15 => 53 | 16 => 56 | 17 => 59 | 18 => 62 | 19 => 65 | 20 => 68 | 21 => 71 | 22 => 74 | 23 => 77 | _ => 80
theorem fl_Mo : ∀ k, k < 25 → Cond.fieldLink R_Mo (iMo k) R_Mo (F_Mo k).2.1 (F_Mo k).2.2.1 ∈ lw_tbl := by decide +kernel
theorem i_Mo : ∀ w ∈ u_ws R_Mo F_Mo 25, w ∈ Tb := tb_in (by decide +kernel) (by decide +kernel)
theorem mo_decl : ∀ k, (F_Mo k).1 = R_Mo := by
  intro k
  unfold F_Mo
  split <;> rfl
theorem ad_e {x y : Int32} {a b : Nat} (h1 : x = nI a) (h2 : y = nI b) : x + y = nI (a + b) := by rw [h1, h2, nI_add]
theorem mu_e {x y : Int32} {a b : Nat} (h1 : x = nI a) (h2 : y = nI b) : x * y = nI (a * b) := by rw [h1, h2, pk_mul]
theorem su_e {x y : Int32} {a b : Nat} (h1 : x = nI a) (h2 : y = nI b) (h : b ≤ a) : x - y = nI (a - b) := by rw [h1, h2, pk_sub h]
theorem mA_i {G : Gx} {k : Nat} (h : mB k = false) : mA G k = G.2 0 := by simp [mA, h]
theorem mA_z {G : Gx} {k : Nat} (h : mB k = true) : mA G k = G.2 1 := by simp [mA, h]
theorem RepM.set {G : Gx} {o k j : Nat} {σ : Nat → Nat → Int32} {x : Int32} {H H1 : Heap} (h : RepM G o σ H) (h1 : 1 ≤ k) (h2 : k ≤ 24) (hat : va_at G.1 classes (o + k, .inl (mA G k, (mL k, .inl (upd (σ k) j x)))) H1) (oq : ∀ q : Nat, q ≠ o + k → H1[q]? = H[q]?) : RepM G o (up2 σ k j x) H1 := by
  refine ⟨?_, fun i g1 g2 => ?_⟩
  · have e : mF o (up2 σ k j x) = mF o σ := by
      have : up2 σ k j x 0 0 = σ 0 0 := by rw [u2_n (by omega)]
      simp only [mF, this]
    rw [e]
    exact h.1.kept (oq o (by omega))
  · by_cases hi : i = k
    · subst hi
      rw [u2_a]
      exact hat
    · rw [u2_n hi]
      exact (h.2 i g1 g2).kept (oq (o + i) (by omega))
theorem RepM.thr {G : Gx} {o : Nat} {σ : Nat → Nat → Int32} {x : Int32} {H H1 : Heap} (h : RepM G o σ H) (hat : va_at G.1 classes (o, .inr (8, (mF o σ).set 0 (.int x))) H1) (oq : ∀ q : Nat, q ≠ o → H1[q]? = H[q]?) : RepM G o (up2 σ 0 0 x) H1 := by
  refine ⟨?_, fun i g1 g2 => ?_⟩
  · have e : mF o (up2 σ 0 0 x) = (mF o σ).set 0 (.int x) := by
      have : up2 σ 0 0 x 0 0 = x := u2_s
      simp only [mF, this]
      rfl
    rw [e]
    exact hat
  · rw [u2_n (by omega)]
    exact (h.2 i g1 g2).kept (oq (o + i) (by omega))
theorem RepM.kept {G : Gx} {o : Nat} {σ : Nat → Nat → Int32} {H H1 : Heap} (h : RepM G o σ H) (oq : ∀ q : Nat, FM o q → H1[q]? = H[q]?) : RepM G o σ H1 :=
  ⟨h.1.kept (oq o ⟨Nat.le_refl _, Nat.lt_add_of_pos_right (by decide)⟩), fun i g1 g2 => (h.2 i g1 g2).kept (oq (o + i) ⟨Nat.le_add_right _ _, Nat.add_lt_add_left (by omega) _⟩)⟩
theorem RepM.lt {G : Gx} {o : Nat} {σ : Nat → Nat → Int32} {H : Heap} (h : RepM G o σ H) : o + 24 < H.size := va_at.lt (h.2 24 (by decide) (by decide))
theorem RepM.recv {G : Gx} {o : Nat} {σ : Nat → Nat → Int32} {H : Heap} {s : State} (h : RepM G o σ H) (hK : Kx G s) : ∃ cell : Cell, H[o]? = some cell ∧ cell.vm.isStatics = false ∧ s.vm.findClass R_Mo = some cell.cls :=
  va_recv hK (x_one h.1) (ci := 8) (q0 := 0) rfl rfl
section RM
variable {p : Program} {l : Launch} {e : Env} {R : Room} {s : State} {m : MethodId} {args : Array Value} {below : List Frame} {meth : Method} {c : Code} {H : Heap} {locs : List Loc} {cells slots : Nat} {Q : State → Prop}
variable {cc : ByteArray} {pc : Nat} {ls : Array Slot} {rest : List Value} {F : Nat → Prop} {G : Gx} {s0 : State} {own : String} {nL o : Nat} {σ : Nat → Nat → Int32}
theorem lv_tope {x y : Int32} (h : x = y) (k : W p l e R s m args below meth c H locs cells slots Q (F0 m pc ls (.int y :: rest))) : W p l e R s m args below meth c H locs cells slots Q (F0 m pc ls (.int x :: rest)) := by rw [h]; exact k
theorem rm_ga (V : Vx G s0 p s m c cc nL R_Mo) (hR : RepM G o σ H) (k : Nat) (h1 : 1 ≤ k) (h2 : k ≤ 24) (hdg : decode cc pc = .ok (.getfield (iMo k), 3))
    (kk : W p l e R s m args below meth c H locs cells slots Q (F0 m (pc + 3) ls (.ref (o + k) :: rest))) : W p l e R s m args below meth c H locs cells slots Q (F0 m pc ls (.ref o :: rest)) :=
  x_get V.1 V.2.1 (wd_ts V.2.2.2.2.1 args) i_Mo V.2.2.2.1 V.2.2.2.2.2.1 hR.1 rfl k (Nat.lt_succ_of_le h2) (V.2.2.2.2.1 _ (fl_Mo k (Nat.lt_succ_of_le h2)) rfl args) (fun x h => by rw [mo_decl] at h; exact h) (mF_at o σ k h1 h2) hdg kk
theorem rm_gt (V : Vx G s0 p s m c cc nL R_Mo) (hR : RepM G o σ H) (hdg : decode cc pc = .ok (.getfield 83, 3))
    (kk : W p l e R s m args below meth c H locs cells slots Q (F0 m (pc + 3) ls (.int (σ 0 0) :: rest))) : W p l e R s m args below meth c H locs cells slots Q (F0 m pc ls (.ref o :: rest)) :=
  x_get V.1 V.2.1 (wd_ts V.2.2.2.2.1 args) i_Mo V.2.2.2.1 V.2.2.2.2.2.1 hR.1 rfl 0 (by decide) (V.2.2.2.2.1 _ (fl_Mo 0 (by decide)) rfl args) (fun x h => by rw [mo_decl] at h; exact h) rfl hdg kk
theorem rm_pt (V : Vx G s0 p s m c cc nL R_Mo) (hR : RepM G o σ H) (hS : va_S F s.heap H locs) (hF : F o) {x : Int32} (hdg : decode cc pc = .ok (.putfield 83, 3))
    (kk : ∀ (H1 : Heap) (locs1 : List Loc), RepM G o (up2 σ 0 0 x) H1 → va_S F s.heap H1 locs1 → W p l e R s m args below meth c H1 locs1 cells slots Q (F0 m (pc + 3) ls rest)) : W p l e R s m args below meth c H locs cells slots Q (F0 m pc ls (.int x :: .ref o :: rest)) :=
  x_put V.1 V.2.1 (wd_ts V.2.2.2.2.1 args) i_Mo t_Mo t_Mo_ok n_Mo V.2.2.2.1 V.2.2.2.2.2.1 hR.1 rfl 0 (by decide) (V.2.2.2.2.1 _ (fl_Mo 0 (by decide)) rfl args) (fun x h => by rw [mo_decl] at h; exact h) rfl rfl rfl (Nat.le_of_ble_eq_true rfl) hdg
    (fun H1 _ hat z oq => kk H1 _ (hR.thr hat oq) (hS.put z oq hF))
theorem rm_ld (V : Vx G s0 p s m c cc nL own) (hR : RepM G o σ H) (k : Nat) (hk : 1 ≤ k ∧ k ≤ 24 ∧ mB k = false) {n : Nat} (hn : mL k = n ∧ n < 2 ^ 31) {i : Int32} (j : Nat) (hi : i = nI j) (hj : j < n) (hdg : decode cc pc = .ok (.iaload, 1))
    (kk : W p l e R s m args below meth c H locs cells slots Q (F0 m (pc + 1) ls (.int (σ k j) :: rest))) : W p l e R s m args below meth c H locs cells slots Q (F0 m pc ls (.int i :: .ref (o + k) :: rest)) := by
  have h := hR.2 k hk.1 hk.2.1
  rw [mA_i hk.2.2, hn.1] at h
  exact x_iald V.1 V.2.1 V.2.2.2.2.2.1 0 h rfl j hi hj hn.2 hdg kk
theorem rm_lz (V : Vx G s0 p s m c cc nL own) (hR : RepM G o σ H) (k : Nat) (hk : 1 ≤ k ∧ k ≤ 24 ∧ mB k = true) {n : Nat} (hn : mL k = n ∧ n < 2 ^ 31) {i : Int32} (j : Nat) (hi : i = nI j) (hj : j < n) (hdg : decode cc pc = .ok (.baload, 1))
    (kk : W p l e R s m args below meth c H locs cells slots Q (F0 m (pc + 1) ls (.int (σ k j) :: rest))) : W p l e R s m args below meth c H locs cells slots Q (F0 m pc ls (.int i :: .ref (o + k) :: rest)) := by
  have h := hR.2 k hk.1 hk.2.1
  rw [mA_z hk.2.2, hn.1] at h
  exact x_zald V.1 V.2.1 V.2.2.2.2.2.1 1 h rfl j hi hj hn.2 hdg kk
theorem rm_st (V : Vx G s0 p s m c cc nL own) (hR : RepM G o σ H) (hS : va_S F s.heap H locs) (hF : ∀ q, FM o q → F q) (k : Nat) (hk : 1 ≤ k ∧ k ≤ 24 ∧ mB k = false) {n : Nat} (hn : mL k = n ∧ n < 2 ^ 31) {i x : Int32} (j : Nat) (hi : i = nI j) (hj : j < n) (hdg : decode cc pc = .ok (.iastore, 1))
    (kk : ∀ (H1 : Heap) (locs1 : List Loc), RepM G o (up2 σ k j x) H1 → va_S F s.heap H1 locs1 → W p l e R s m args below meth c H1 locs1 cells slots Q (F0 m (pc + 1) ls rest)) : W p l e R s m args below meth c H locs cells slots Q (F0 m pc ls (.int x :: .int i :: .ref (o + k) :: rest)) := by
  have h := hR.2 k hk.1 hk.2.1
  rw [mA_i hk.2.2, hn.1] at h
  exact x_iast V.1 V.2.1 V.2.2.2.2.2.1 0 h rfl j hi hj hn.2 hdg (fun H1 _ hat z oq => kk H1 _ (hR.set hk.1 hk.2.1 (by rw [mA_i hk.2.2, hn.1]; exact hat) oq) (hS.put z oq (hF _ ⟨Nat.le_add_right _ _, by omega⟩)))
theorem rm_sz (V : Vx G s0 p s m c cc nL own) (hR : RepM G o σ H) (hS : va_S F s.heap H locs) (hF : ∀ q, FM o q → F q) (k : Nat) (hk : 1 ≤ k ∧ k ≤ 24 ∧ mB k = true) {n : Nat} (hn : mL k = n ∧ n < 2 ^ 31) {i x : Int32} (j : Nat) (hi : i = nI j) (hj : j < n) (hx : x = 0 ∨ x = 1) (hdg : decode cc pc = .ok (.bastore, 1))
    (kk : ∀ (H1 : Heap) (locs1 : List Loc), RepM G o (up2 σ k j x) H1 → va_S F s.heap H1 locs1 → W p l e R s m args below meth c H1 locs1 cells slots Q (F0 m (pc + 1) ls rest)) : W p l e R s m args below meth c H locs cells slots Q (F0 m pc ls (.int x :: .int i :: .ref (o + k) :: rest)) := by
  have h := hR.2 k hk.1 hk.2.1
  rw [mA_z hk.2.2, hn.1] at h
  exact x_zast V.1 V.2.1 V.2.2.2.2.2.1 1 h rfl j hi hj hn.2 hx hdg (fun H1 _ hat z oq => kk H1 _ (hR.set hk.1 hk.2.1 (by rw [mA_z hk.2.2, hn.1]; exact hat) oq) (hS.put z oq (hF _ ⟨Nat.le_add_right _ _, by omega⟩)))
end RM
