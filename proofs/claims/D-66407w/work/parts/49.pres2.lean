/-! ===== small operations ===== -/
theorem Inv.cong {σ τ : Sg} {Λ : Ln} {m m' : Nat → Nat} {n n' : Nat} (hI : Inv σ Λ m n) (hn : n ≤ n') (hm : ∀ i, m i ≤ m' i) (hsum : m' 0 + m' 1 + m' 2 ≤ n') (e : ∀ k, k ≠ 0 → k ≠ 3 → k ≠ 20 → τ k = σ k) : Inv τ Λ m' n' := by
  have h0 : (0 : Nat) < 3 := by decide
  have ek : ∀ k, Lk k → τ k = σ k := fun k hk => e k (by rcases hk with rfl | rfl | rfl | rfl | rfl | rfl | rfl | rfl | rfl | rfl | rfl | rfl <;> decide) (by rcases hk with rfl | rfl | rfl | rfl | rfl | rfl | rfl | rfl | rfl | rfl | rfl | rfl <;> decide) (by rcases hk with rfl | rfl | rfl | rfl | rfl | rfl | rfl | rfl | rfl | rfl | rfl | rfl <;> decide)
  have e10 := e 10 (by decide) (by decide) (by decide)
  have e11 := e 11 (by decide) (by decide) (by decide)
  have e19 := e 19 (by decide) (by decide) (by decide)
  have e26 := e 26 (by decide) (by decide) (by decide)
  have hI' := hI
  obtain ⟨i1, i2, i3, i4, i5, i6, i7, i8, i9, i10, i11, i12, i13⟩ := hI'
  refine hI.loc (c := 0) h0 hn hm hsum (e 1 (by decide) (by decide) (by decide)) (e 2 (by decide) (by decide) (by decide)) (e 5 (by decide) (by decide) (by decide)) (e 6 (by decide) (by decide) (by decide)) (e 21 (by decide) (by decide) (by decide)) (e 22 (by decide) (by decide) (by decide)) (e 23 (by decide) (by decide) (by decide)) (e 24 (by decide) (by decide) (by decide)) (e 27 (by decide) (by decide) (by decide)) (fun k c' _ hk => ?_) (fun _ _ _ => rfl) rfl rfl (fun k hk => by rw [ek k hk]; exact i2 0 h0 k hk) ?_ (by rw [e11]; exact i4 0 h0) (by rw [e10]; exact i9 0 h0) (by rw [e19]; exact i10 0 h0) (i11 0 h0) (by rw [e11, e26]; exact i12 0 h0)
  · rcases hk with hk | rfl | rfl | rfl | rfl
    · rw [ek k hk]
    · rw [e10]
    · rw [e11]
    · rw [e19]
    · rw [e26]
  · have := i3 0 h0
    have := hm 0
    unfold Ok pg at *
    omega
theorem Inv.thr {σ : Sg} {Λ : Ln} {m : Nat → Nat} {n : Nat} (hI : Inv σ Λ m n) (k : Int32) : Inv (thr σ k) Λ m (n + 1) :=
  hI.cong (by omega) (fun _ => Nat.le_refl _) (by have := hI.1; omega) (fun k h1 _ _ => by unfold Jvm.Pilot.CDiskArbitersLaw_law_r5576_a5df70.thr; rw [u2_n h1])
theorem Inv.thr0 {σ : Sg} {Λ : Ln} {m : Nat → Nat} {n : Nat} (hI : Inv σ Λ m n) (k : Int32) : Inv (Jvm.Pilot.CDiskArbitersLaw_law_r5576_a5df70.thr σ k) Λ m n :=
  hI.cong (Nat.le_refl _) (fun _ => Nat.le_refl _) hI.1 (fun k h1 _ _ => by unfold Jvm.Pilot.CDiskArbitersLaw_law_r5576_a5df70.thr; rw [u2_n h1])
theorem Inv.tick {σ : Sg} {Λ : Ln} {m : Nat → Nat} {n : Nat} (hI : Inv σ Λ m n) : Inv σ Λ m (n + 1) :=
  hI.cong (by omega) (fun _ => Nat.le_refl _) (by have := hI.1; omega) (fun _ _ _ _ => rfl)
theorem Inv.crash {σ : Sg} {Λ : Ln} {m : Nat → Nat} {n c : Nat} (hI : Inv σ Λ m n) (hc : c < 3) : Inv (up2 (up2 σ 11 c 1) 26 c 0) Λ m n := by
  have hI' := hI
  obtain ⟨i1, i2, i3, i4, i5, i6, i7, i8, i9, i10, i11, i12, i13⟩ := hI'
  have e : ∀ k, k ≠ 11 → k ≠ 26 → (up2 (up2 σ 11 c 1) 26 c 0) k = σ k := fun k h1 h2 => by rw [u2_n h2, u2_n h1]
  have ek : ∀ k, Lk k → (up2 (up2 σ 11 c 1) 26 c 0) k = σ k := fun k hk => e k (by rcases hk with rfl | rfl | rfl | rfl | rfl | rfl | rfl | rfl | rfl | rfl | rfl | rfl <;> decide) (by rcases hk with rfl | rfl | rfl | rfl | rfl | rfl | rfl | rfl | rfl | rfl | rfl | rfl <;> decide)
  have e11 : (up2 (up2 σ 11 c 1) 26 c 0) 11 c = 1 := by rw [u2_n (by decide), u2_s]
  have e26 : (up2 (up2 σ 11 c 1) 26 c 0) 26 c = 0 := u2_s
  refine hI.loc (c := c) hc (Nat.le_refl _) (fun _ => Nat.le_refl _) i1 (e 1 (by decide) (by decide)) (e 2 (by decide) (by decide)) (e 5 (by decide) (by decide)) (e 6 (by decide) (by decide)) (e 21 (by decide) (by decide)) (e 22 (by decide) (by decide)) (e 23 (by decide) (by decide)) (e 24 (by decide) (by decide)) (e 27 (by decide) (by decide)) (fun k c' hcc hk => ?_) (fun _ _ _ => rfl) rfl rfl (fun k hk => by rw [ek k hk]; exact i2 c hc k hk) (i3 c hc) (fun z => by rw [e11] at z; exact absurd z (by decide)) (by rw [e 10 (by decide) (by decide)]; exact i9 c hc) (by rw [e 19 (by decide) (by decide)]; exact i10 c hc) (i11 c hc) (Or.inr ⟨e11, e26⟩)
  rcases hk with hk | rfl | rfl | rfl | rfl
  · rw [ek k hk]
  · rw [e 10 (by decide) (by decide)]
  · rw [u2_n (by decide), u2_j hcc]
  · rw [e 19 (by decide) (by decide)]
  · rw [u2_j hcc, u2_n (by decide)]
theorem Inv.disk {σ : Sg} {Λ : Ln} {m : Nat → Nat} {n d : Nat} {x y : Int32} (hI : Inv σ Λ m n) (hd : d < 3) (h : (x = 0 ∧ y = 1) ∨ (x = 1 ∧ y = 0)) : Inv (up2 (up2 σ 2 d x) 27 d y) Λ m n := by
  have hI' := hI
  obtain ⟨i1, i2, i3, i4, i5, i6, i7, i8, i9, i10, i11, i12, i13⟩ := hI'
  have e : ∀ k, k ≠ 2 → k ≠ 27 → (up2 (up2 σ 2 d x) 27 d y) k = σ k := fun k h1 h2 => by rw [u2_n h2, u2_n h1]
  have e1 := e 1 (by decide) (by decide)
  have g : Gr σ Λ m (up2 (up2 σ 2 d x) 27 d y) Λ m := fun Y hY => ⟨Nat.le_refl _, Nat.le_refl _, Or.inl ⟨rfl, fun d _ => by rw [e 22 (by decide) (by decide)]⟩⟩
  refine ⟨i1, fun c hc k hk => by rw [e k (by rcases hk with rfl | rfl | rfl | rfl | rfl | rfl | rfl | rfl | rfl | rfl | rfl | rfl <;> decide) (by rcases hk with rfl | rfl | rfl | rfl | rfl | rfl | rfl | rfl | rfl | rfl | rfl | rfl <;> decide)]; exact i2 c hc k hk, i3, fun c hc => by rw [e 11 (by decide) (by decide)]; exact i4 c hc, fun c j hc hj => by rw [e 5 (by decide) (by decide)]; exact i5 c j hc hj, fun a c q h1 h2 h3 => (i6 a c q h1 h2 h3).k e1 (Nat.le_refl _), fun a c q h1 h2 h3 => ⟨(i7 a c q h1 h2 h3).1.k e1 (Nat.le_refl _) g, (i7 a c q h1 h2 h3).2.k e1 (Nat.le_refl _) g⟩, fun c d hc hd => by rw [e 22 (by decide) (by decide), e 23 (by decide) (by decide)]; exact i8 c d hc hd, fun c hc z => by rw [e 10 (by decide) (by decide)]; exact (i9 c hc z).gr g, fun c hc z1 z2 => by rw [e 19 (by decide) (by decide)]; exact (i10 c hc z1 z2).gr g, fun c hc z => ?_, fun c hc => by rw [e 11 (by decide) (by decide), e 26 (by decide) (by decide)]; exact i12 c hc, fun d' hd' => ?_⟩
  · obtain ⟨k, k1, k2⟩ := i11 c hc z
    exact ⟨k, by rw [← k1]; exact fwF_k (fun j => by rw [e 6 (by decide) (by decide)]) _ _, by rw [alw_k (e 21 (by decide) (by decide)) (e 22 (by decide) (by decide)) (e 23 (by decide) (by decide)) (e 24 (by decide) (by decide)), e 5 (by decide) (by decide)]; exact k2⟩
  · by_cases hh : d' = d
    · subst hh
      rw [show (up2 (up2 σ 2 d' x) 27 d' y) 2 d' = x from by rw [u2_n (by decide), u2_s], u2_s]
      exact h
    · rw [show (up2 (up2 σ 2 d x) 27 d y) 2 d' = σ 2 d' from by rw [u2_n (by decide), u2_j hh], u2_j hh, u2_n (by decide)]
      exact i13 d' hd'
