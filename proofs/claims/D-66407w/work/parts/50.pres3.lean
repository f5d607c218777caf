/-! ===== a controller's own numbers change ===== -/
def Lu (k : Nat) : Prop := k = 0 ∨ (8 ≤ k ∧ k ≤ 20) ∨ k = 25 ∨ k = 26
def LU (σ τ : Sg) (c : Nat) : Prop := (∀ k, ¬ Lu k → τ k = σ k) ∧ ∀ k c', c' ≠ c → k ≠ 0 → τ k c' = σ k c'
theorem LU.rf {σ : Sg} {c : Nat} : LU σ σ c := ⟨fun _ _ => rfl, fun _ _ _ _ => rfl⟩
theorem LU.up {σ τ : Sg} {c : Nat} (h : LU σ τ c) {k : Nat} (hk : Lu k) (x : Int32) : LU σ (up2 τ k c x) c := by
  refine ⟨fun k' hk' => ?_, fun k' c' hc' h0 => ?_⟩
  · rw [u2_n (fun e => hk' (by rw [e]; exact hk))]
    exact h.1 k' hk'
  · by_cases e : k' = k
    · rw [e, u2_j hc', ← e]
      exact h.2 k' c' hc' h0
    · rw [u2_n e]
      exact h.2 k' c' hc' h0
theorem LU.t0 {σ τ : Sg} {c : Nat} (h : LU σ τ c) (x : Int32) : LU σ (Jvm.Pilot.CDiskArbitersLaw_law_r5576_a5df70.thr τ x) c := by
  unfold Jvm.Pilot.CDiskArbitersLaw_law_r5576_a5df70.thr
  refine ⟨fun k' hk' => ?_, fun k' c' hc' h0 => ?_⟩
  · rw [u2_n (fun e => hk' (Or.inl e))]
    exact h.1 k' hk'
  · rw [u2_n h0]
    exact h.2 k' c' hc' h0
def LN (Λ Λ' : Ln) (c : Nat) : Prop := (∀ k c', c' ≠ c → Λ' k c' = Λ k c') ∧ Λ' 4 c = Λ 4 c ∧ Λ' 7 c = Λ 7 c
theorem LN.rf {Λ : Ln} {c : Nat} : LN Λ Λ c := ⟨fun _ _ _ => rfl, rfl, rfl⟩
theorem LN.up {Λ Λ' : Ln} {c : Nat} (h : LN Λ Λ' c) {k : Nat} (h4 : 4 ≠ k) (h7 : 7 ≠ k) (x : Nat) : LN Λ (uN Λ' k c x) c :=
  ⟨fun k' c' hc' => by rw [uN_j hc']; exact h.1 k' c' hc', by rw [uN_n h4]; exact h.2.1, by rw [uN_n h7]; exact h.2.2⟩
theorem Inv.lu {σ τ : Sg} {Λ Λ' : Ln} {m m' : Nat → Nat} {n n' c : Nat} (hI : Inv σ Λ m n) (hc : c < 3) (hn : n ≤ n') (hm : ∀ i, m i ≤ m' i) (hsum : m' 0 + m' 1 + m' 2 ≤ n') (hu : LU σ τ c) (hN : LN Λ Λ' c)
    (hl : Lc τ Λ' c) (ho : Ok Λ' c (m' c) n') (hst : τ 11 c = 0 → ¬ Λ' 12 c = 0 → Λ' 25 c = Λ' 15 c + Λ' 16 c) (hvo : 0 < Λ' 9 c → Vok σ Λ m (τ 10 c) (Λ 4 c) (fun Y => Y ≠ c)) (hbt : Λ' 12 c = 1 → 0 < Λ' 18 c → Vok σ Λ m (τ 19 c) (Λ 4 c) (fun Y => Y ≠ c))
    (hfs : Λ' 12 c = 1 → ∃ k, fwF σ c (Λ 7 c) 0 = some k ∧ alw σ c (σ 5 (60 * c + k)) = true) (hup : (τ 11 c = 0 ∧ τ 26 c = 1) ∨ (τ 11 c = 1 ∧ τ 26 c = 0)) : Inv τ Λ' m' n' := by
  have e : ∀ k, (1 ≤ k ∧ k < 8) ∨ (21 ≤ k ∧ k < 25) ∨ k = 27 → τ k = σ k := fun k hk => hu.1 k (by unfold Lu; omega)
  refine hI.loc hc hn hm hsum (e 1 (by omega)) (e 2 (by omega)) (e 5 (by omega)) (e 6 (by omega)) (e 21 (by omega)) (e 22 (by omega)) (e 23 (by omega)) (e 24 (by omega)) (e 27 (by omega)) (fun k c' hc' hk => hu.2 k c' hc' ?_) hN.1 hN.2.1 hN.2.2 hl ho hst hvo hbt hfs hup
  rcases hk with hk | rfl | rfl | rfl | rfl
  · rcases hk with rfl | rfl | rfl | rfl | rfl | rfl | rfl | rfl | rfl | rfl | rfl | rfl <;> decide
  · decide
  · decide
  · decide
  · decide
theorem Inv.restart {σ : Sg} {Λ : Ln} {m : Nat → Nat} {n c : Nat} (hI : Inv σ Λ m n) (hc : c < 3) : Inv (up2 (up2 (up2 (up2 σ 11 c 0) 12 c 0) 13 c 0) 26 c 1) (uN (uN Λ 12 c 0) 13 c 0) m n := by
  have hI' := hI
  obtain ⟨i1, i2, i3, i4, i5, i6, i7, i8, i9, i10, i11, i12, i13⟩ := hI'
  have hL := i2 c hc
  refine hI.lu hc (Nat.le_refl _) (fun _ => Nat.le_refl _) i1 ((((LU.rf.up (by unfold Lu; omega) _).up (by unfold Lu; omega) _).up (by unfold Lu; omega) _).up (by unfold Lu; omega) _) ((LN.rf.up (by decide) (by decide) _).up (by decide) (by decide) _) ?_ ?_ ?_ ?_ ?_ ?_ ?_
  · intro k hk
    have := hL k hk
    rcases hk with rfl | rfl | rfl | rfl | rfl | rfl | rfl | rfl | rfl | rfl | rfl | rfl
    all_goals first | (simp [up2, upd, uN, nI_0]; done) | (simp only [up2, upd, uN]; simpa using this)
  · have h := i3 c hc
    unfold Ok pg at *
    simp only [uN]
    simp
    omega
  · intro _ z
    exact absurd (by simp [uN]) z
  · intro z
    have z : 0 < Λ 9 c := by simpa [uN] using z
    have := i9 c hc z
    simpa [up2] using this
  · intro z
    exact absurd z (by simp [uN])
  · intro z
    exact absurd z (by simp [uN])
  · exact Or.inl ⟨by simp [up2, upd], by simp [up2, upd]⟩
