/-! ===== the reference's constructor ===== -/
def iF (o k : Nat) : List Value := .int 0 :: (List.range 24).map (fun i => if i < k then .ref (o + (i + 1)) else .null)
theorem lt24 {P : Nat → Prop} (k : Nat) (hk : k < 24) (h : P 0 ∧ P 1 ∧ P 2 ∧ P 3 ∧ P 4 ∧ P 5 ∧ P 6 ∧ P 7 ∧ P 8 ∧ P 9 ∧ P 10 ∧ P 11 ∧ P 12 ∧ P 13 ∧ P 14 ∧ P 15 ∧ P 16 ∧ P 17 ∧ P 18 ∧ P 19 ∧ P 20 ∧ P 21 ∧ P 22 ∧ P 23) : P k := by
  obtain ⟨h0, h1, h2, h3, h4, h5, h6, h7, h8, h9, h10, h11, h12, h13, h14, h15, h16, h17, h18, h19, h20, h21, h22, h23⟩ := h
  have : k = 0 ∨ k = 1 ∨ k = 2 ∨ k = 3 ∨ k = 4 ∨ k = 5 ∨ k = 6 ∨ k = 7 ∨ k = 8 ∨ k = 9 ∨ k = 10 ∨ k = 11 ∨ k = 12 ∨ k = 13 ∨ k = 14 ∨ k = 15 ∨ k = 16 ∨ k = 17 ∨ k = 18 ∨ k = 19 ∨ k = 20 ∨ k = 21 ∨ k = 22 ∨ k = 23 := by omega
  rcases this with rfl | rfl | rfl | rfl | rfl | rfl | rfl | rfl | rfl | rfl | rfl | rfl | rfl | rfl | rfl | rfl | rfl | rfl | rfl | rfl | rfl | rfl | rfl | rfl <;> assumption
theorem iF_set (o k : Nat) (hk : k < 24) : (iF o k).set (k + 1) (.ref (o + (k + 1))) = iF o (k + 1) := by
  refine lt24 (P := fun k => (iF o k).set (k + 1) (.ref (o + (k + 1))) = iF o (k + 1)) k hk ?_
  refine ⟨?_, ?_, ?_, ?_, ?_, ?_, ?_, ?_, ?_, ?_, ?_, ?_, ?_, ?_, ?_, ?_, ?_, ?_, ?_, ?_, ?_, ?_, ?_, ?_⟩ <;> rfl
theorem mo_ref (a k : Nat) (hk : k < 24) : narrow (t_Mo (k + 1)) (.ref a) = .ref a ∧ fits (t_Mo (k + 1)) (.ref a) = true ∧ (F_Mo (k + 1)).2.2.2 = true := by
  refine lt24 (P := fun k => narrow (t_Mo (k + 1)) (.ref a) = .ref a ∧ fits (t_Mo (k + 1)) (.ref a) = true ∧ (F_Mo (k + 1)).2.2.2 = true) k hk ?_
  refine ⟨?_, ?_, ?_, ?_, ?_, ?_, ?_, ?_, ?_, ?_, ?_, ?_, ?_, ?_, ?_, ?_, ?_, ?_, ?_, ?_, ?_, ?_, ?_, ?_⟩ <;> exact ⟨rfl, rfl, rfl⟩
def IM (G : Gx) (o k : Nat) (H : Heap) : Prop :=
  H.size = o + 1 + k ∧ va_at G.1 classes (o, .inr (8, iF o k)) H ∧ ∀ i : Nat, 1 ≤ i → i ≤ k → va_at G.1 classes (o + i, .inl (mA G i, (mL i, .inl (fun _ => 0)))) H
def ini (k n : Nat) : Sg := fun a j => if a = 21 then (if j < k then 3 else 0) else if a = 22 then (if j < n then -1 else 0) else if a = 24 then (if j < n then -1 else 0) else 0
theorem ini_1 (k n : Nat) : up2 (ini k n) 21 k 3 = ini (k + 1) n := by
  funext a j
  by_cases h : a = 21
  · subst h
    by_cases hj : j = k
    · subst hj; simp [up2, upd, ini]
    · by_cases h2 : j < k
      · simp [up2, upd, ini, hj, h2, Nat.lt_succ_of_lt h2]
      · have : ¬ j < k + 1 := by omega
        simp [up2, upd, ini, hj, h2, this]
  · simp [up2, upd, ini, h]
theorem ini_2 (k n : Nat) : up2 (up2 (ini k n) 22 n (-1)) 24 n (-1) = ini k (n + 1) := by
  funext a j
  by_cases h : a = 24
  · subst h
    by_cases hj : j = n
    · subst hj; simp [up2, upd, ini]
    · by_cases h2 : j < n
      · simp [up2, upd, ini, hj, h2, Nat.lt_succ_of_lt h2]
      · have : ¬ j < n + 1 := by omega
        simp [up2, upd, ini, hj, h2, this]
  · by_cases h3 : a = 22
    · subst h3
      by_cases hj : j = n
      · subst hj; simp [up2, upd, ini]
      · by_cases h2 : j < n
        · simp [up2, upd, ini, hj, h2, Nat.lt_succ_of_lt h2]
        · have : ¬ j < n + 1 := by omega
          simp [up2, upd, ini, hj, h2, this]
    · simp [up2, upd, ini, h, h3]
theorem IM.rep {G : Gx} {o : Nat} {H : Heap} (h : IM G o 24 H) : RepM G o (ini 0 0) H := by
  refine ⟨h.2.1, fun k h1 h2 => ?_⟩
  have : ini 0 0 k = fun _ => 0 := by
    funext j
    simp [ini]
  rw [this]
  exact h.2.2 k h1 h2
section RI
variable {p : Program} {l : Launch} {e : Env} {R : Room} {s : State} {m : MethodId} {args : Array Value} {below : List Frame} {meth : Method} {c : Code} {H : Heap} {locs : List Loc} {cells slots : Nat} {Q : State → Prop}
variable {cc : ByteArray} {pc : Nat} {ls : Array Slot} {rest : List Value} {F : Nat → Prop} {G : Gx} {s0 : State} {own : String} {nL o : Nat} {σ : Nat → Nat → Int32}
theorem IM.put {k : Nat} {H1 H2 : Heap} (hI : IM G o k H) (h1 : va_at G.1 classes (H.size, .inl (mA G (k + 1), (mL (k + 1), .inl (fun _ => 0)))) H1) (z1 : H1.size = H.size + 1) (o1 : ∀ q, q < H.size → H1[q]? = H[q]?) (hk : k < 24)
    (h2 : va_at G.1 classes (o, .inr (8, (iF o k).set (k + 1) (.ref H.size))) H2) (z2 : H2.size = H1.size) (o2 : ∀ q, q ≠ o → H2[q]? = H1[q]?) : IM G o (k + 1) H2 := by
  obtain ⟨a1, a2, a3⟩ := hI
  have hz : H.size = o + (k + 1) := by omega
  refine ⟨by omega, ?_, fun i g1 g2 => ?_⟩
  · rw [hz, iF_set o k hk] at h2
    exact h2
  · by_cases hi : i = k + 1
    · subst hi
      rw [hz] at h1
      exact h1.kept (o2 _ (by omega))
    · exact (a3 i g1 (by omega)).kept ((o2 _ (by omega)).trans (o1 _ (by omega)))
theorem rm_mk (V : Vx G s0 p s m c cc nL R_Mo) {k : Nat} (hI : IM G o k H) (hk : k < 24) (hB : mB (k + 1) = false) (hS : va_S F s.heap H locs) (hF : F o) (hn : meth.name = "<init>") {n : Int32} (N : Nat) (hN : mL (k + 1) = N) (hnN : n = nI N) (hN5 : N < 100000) (hcells : cells + 1 ≤ R.cells) (hslots : slots + N ≤ R.slots) (hd1 : decode cc pc = .ok (.newarray .int, 2)) (hd2 : decode cc (pc + 2) = .ok (.putfield (iMo (k + 1)), 3))
    (kk : ∀ (H1 : Heap) (locs1 : List Loc), IM G o (k + 1) H1 → va_S F s.heap H1 locs1 → W p l e R s m args below meth c H1 locs1 (cells + 1) (slots + N) Q (F0 m (pc + 5) ls rest)) : W p l e R s m args below meth c H locs cells slots Q (F0 m pc ls (.int n :: .ref o :: rest)) := by
  refine x_newi V N hnN hN5 hcells hslots hd1 fun H1 h1 z1 o1 => ?_
  have hat := hI.2.1.kept (o1 o (by have := hI.1; omega))
  refine x_putF V i_Mo t_Mo t_Mo_ok n_Mo hat rfl (k + 1) (by omega) (fl_Mo (k + 1) (by omega)) (fun x h => by rw [mo_decl] at h; exact h) (mo_ref 0 k hk).2.2 hn (mo_decl _) (mo_ref _ k hk).1 (mo_ref _ k hk).2.1 (by show k + 1 < 25; omega) hd2 fun H2 i h2 z2 o2 => ?_
  exact kk H2 _ (hI.put (by rw [mA_i hB, hN]; exact h1) z1 o1 hk h2 z2 o2) ((S_new hS z1 o1).put z2 o2 hF)
theorem rm_mz (V : Vx G s0 p s m c cc nL R_Mo) {k : Nat} (hI : IM G o k H) (hk : k < 24) (hB : mB (k + 1) = true) (hS : va_S F s.heap H locs) (hF : F o) (hn : meth.name = "<init>") {n : Int32} (N : Nat) (hN : mL (k + 1) = N) (hnN : n = nI N) (hN5 : N < 100000) (hcells : cells + 1 ≤ R.cells) (hslots : slots + N ≤ R.slots) (hd1 : decode cc pc = .ok (.newarray .boolean, 2)) (hd2 : decode cc (pc + 2) = .ok (.putfield (iMo (k + 1)), 3))
    (kk : ∀ (H1 : Heap) (locs1 : List Loc), IM G o (k + 1) H1 → va_S F s.heap H1 locs1 → W p l e R s m args below meth c H1 locs1 (cells + 1) (slots + N) Q (F0 m (pc + 5) ls rest)) : W p l e R s m args below meth c H locs cells slots Q (F0 m pc ls (.int n :: .ref o :: rest)) := by
  refine x_newz V N hnN hN5 hcells hslots hd1 fun H1 h1 z1 o1 => ?_
  have hat := hI.2.1.kept (o1 o (by have := hI.1; omega))
  refine x_putF V i_Mo t_Mo t_Mo_ok n_Mo hat rfl (k + 1) (by omega) (fl_Mo (k + 1) (by omega)) (fun x h => by rw [mo_decl] at h; exact h) (mo_ref 0 k hk).2.2 hn (mo_decl _) (mo_ref _ k hk).1 (mo_ref _ k hk).2.1 (by show k + 1 < 25; omega) hd2 fun H2 i h2 z2 o2 => ?_
  exact kk H2 _ (hI.put (by rw [mA_z hB, hN]; exact h1) z1 o1 hk h2 z2 o2) ((S_new hS z1 o1).put z2 o2 hF)
end RI
