/-! ===== the invariant is kept ===== -/
theorem alw_k {σ τ : Sg} (h21 : τ 21 = σ 21) (h22 : τ 22 = σ 22) (h23 : τ 23 = σ 23) (h24 : τ 24 = σ 24) (c : Nat) (e : Int32) : alw τ c e = alw σ c e := by
  unfold alw fr
  rw [h21, h22, h23, h24]
theorem Bn.k {σ τ : Sg} {n n' b : Nat} (h1 : τ 1 = σ 1) (hn : n ≤ n') (h : Bn σ n b) : Bn τ n' b := by
  obtain ⟨w0, w4, v0, v4, a1, a2, a3, a4, a5, a6, a7, a8, a9, a10, a11⟩ := h
  exact ⟨w0, w4, v0, v4, by rw [h1]; exact a1, by rw [h1]; exact a2, by rw [h1]; exact a3, by rw [h1]; exact a4, by omega, by omega, by omega, by omega, by rw [nwt_k h1]; exact a9, by rw [nwt_k h1]; exact a10, by rw [nwt_k h1]; exact a11⟩
theorem Bs.k {σ τ : Sg} {Λ Λ' : Ln} {m m' : Nat → Nat} {n n' p t : Nat} (h1 : τ 1 = σ 1) (hn : n ≤ n') (g : Gr σ Λ m τ Λ' m') (h : Bs σ Λ m n p t) : Bs τ Λ' m' n' p t := by
  obtain ⟨⟨r, v, a1, a2, a3, a4⟩, a5⟩ := h
  refine ⟨⟨r, v, by rw [h1]; exact a1, by rw [h1]; exact a2, by omega, by omega⟩, ?_⟩
  rw [whl_k h1, h1]
  exact fun x y => (a5 x y).gr g
/-- only what belongs to the controller c has changed, its log and library have not -/
theorem Inv.loc {σ τ : Sg} {Λ Λ' : Ln} {m m' : Nat → Nat} {n n' c : Nat} (hI : Inv σ Λ m n) (hc : c < 3) (hn : n ≤ n') (hm : ∀ i, m i ≤ m' i) (hsum : m' 0 + m' 1 + m' 2 ≤ n')
    (e1 : τ 1 = σ 1) (e2 : τ 2 = σ 2) (e5 : τ 5 = σ 5) (e6 : τ 6 = σ 6) (e21 : τ 21 = σ 21) (e22 : τ 22 = σ 22) (e23 : τ 23 = σ 23) (e24 : τ 24 = σ 24) (e27 : τ 27 = σ 27)
    (eo : ∀ k c', c' ≠ c → (Lk k ∨ k = 10 ∨ k = 11 ∨ k = 19 ∨ k = 26) → τ k c' = σ k c') (lo : ∀ k c', c' ≠ c → Λ' k c' = Λ k c') (l4 : Λ' 4 c = Λ 4 c) (l7 : Λ' 7 c = Λ 7 c)
    (hl : Lc τ Λ' c) (ho : Ok Λ' c (m' c) n') (hst : τ 11 c = 0 → ¬ Λ' 12 c = 0 → Λ' 25 c = Λ' 15 c + Λ' 16 c) (hvo : 0 < Λ' 9 c → Vok σ Λ m (τ 10 c) (Λ 4 c) (fun Y => Y ≠ c)) (hbt : Λ' 12 c = 1 → 0 < Λ' 18 c → Vok σ Λ m (τ 19 c) (Λ 4 c) (fun Y => Y ≠ c))
    (hfs : Λ' 12 c = 1 → ∃ k, fwF σ c (Λ 7 c) 0 = some k ∧ alw σ c (σ 5 (60 * c + k)) = true) (hup : (τ 11 c = 0 ∧ τ 26 c = 1) ∨ (τ 11 c = 1 ∧ τ 26 c = 0)) : Inv τ Λ' m' n' := by
  obtain ⟨i1, i2, i3, i4, i5, i6, i7, i8, i9, i10, i11, i12, i13⟩ := hI
  have L4 : ∀ c', Λ' 4 c' = Λ 4 c' := fun c' => by by_cases h : c' = c; · rw [h]; exact l4
                                                   · exact lo 4 c' h
  have L7 : ∀ c', Λ' 7 c' = Λ 7 c' := fun c' => by by_cases h : c' = c; · rw [h]; exact l7
                                                   · exact lo 7 c' h
  have g : Gr σ Λ m τ Λ' m' := fun Y hY => ⟨hm Y, by rw [L7]; exact Nat.le_refl _, Or.inl ⟨L4 Y, fun d _ => by rw [e22]⟩⟩
  refine ⟨hsum, fun c' hc' => ?_, fun c' hc' => ?_, fun c' hc' => ?_, fun c' j hc' hj => ?_, fun a c' q h1 h2 h3 => (i6 a c' q h1 h2 h3).k e1 hn, fun a c' q h1 h2 h3 => ⟨(i7 a c' q h1 h2 h3).1.k e1 hn g, (i7 a c' q h1 h2 h3).2.k e1 hn g⟩, fun c' d hc' hd => ?_, fun c' hc' => ?_, fun c' hc' => ?_, fun c' hc' => ?_, fun c' hc' => ?_, fun d hd => by rw [e2, e27]; exact i13 d hd⟩
  · by_cases h : c' = c
    · rw [h]; exact hl
    · intro k hk
      rw [eo k c' h (Or.inl hk), lo k c' h]
      exact i2 c' hc' k hk
  · by_cases h : c' = c
    · rw [h]; exact ho
    · have := i3 c' hc'
      have := hm c'
      unfold Ok pg at *
      simp only [lo _ c' h]
      omega
  · by_cases h : c' = c
    · rw [h]; exact hst
    · rw [eo 11 c' h (by simp), lo 12 c' h, lo 25 c' h, lo 15 c' h, lo 16 c' h]
      exact i4 c' hc'
  · rw [e5]
    exact i5 c' j hc' (by rw [← L7]; exact hj)
  · rw [e22, e23, L4]
    exact i8 c' d hc' hd
  · by_cases h : c' = c
    · rw [h, l4]; exact fun z => (hvo z).gr g
    · rw [lo 9 c' h, eo 10 c' h (by simp), L4]
      exact fun z => (i9 c' hc' z).gr g
  · by_cases h : c' = c
    · rw [h, l4]; exact fun z1 z2 => (hbt z1 z2).gr g
    · rw [lo 12 c' h, lo 18 c' h, eo 19 c' h (by simp), L4]
      exact fun z1 z2 => (i10 c' hc' z1 z2).gr g
  · have key : Λ' 12 c' = 1 → ∃ k, fwF σ c' (Λ 7 c') 0 = some k ∧ alw σ c' (σ 5 (60 * c' + k)) = true := by
      by_cases h : c' = c
      · rw [h]; exact hfs
      · rw [lo 12 c' h]; exact i11 c' hc'
    intro z
    obtain ⟨k, k1, k2⟩ := key z
    exact ⟨k, by rw [L7, ← k1]; exact fwF_k (fun j => by rw [e6]) _ _, by rw [alw_k e21 e22 e23 e24, e5]; exact k2⟩
  · by_cases h : c' = c
    · rw [h]; exact hup
    · rw [eo 11 c' h (by simp), eo 26 c' h (by simp)]
      exact i12 c' hc'
