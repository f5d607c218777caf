/-! ===== steps within a place ===== -/
def mU (m : Nat → Nat) (c : Nat) : Nat → Nat := fun i => if i = c then m i + 1 else m i
theorem mU_le (m : Nat → Nat) (c i : Nat) : m i ≤ mU m c i := by unfold mU; split <;> omega
theorem mU_s (m : Nat → Nat) (c : Nat) : mU m c c = m c + 1 := if_pos rfl
theorem mU_sum (m : Nat → Nat) {c : Nat} (hc : c < 3) : mU m c 0 + mU m c 1 + mU m c 2 = m 0 + m 1 + m 2 + 1 := by
  unfold mU
  rcases (show c = 0 ∨ c = 1 ∨ c = 2 by omega) with rfl | rfl | rfl <;> simp <;> omega
theorem jn_up {σc σm : Sg} {c : Nat} {v : Int32} (h25 : σc 25 = upd (σm 25) c v) (h26 : σc 26 = σm 26) (h27 : σc 27 = σm 27) : jn σc σm = up2 σm 25 c v := by
  funext k
  by_cases e : k = 25
  · subst e; rw [jn_c (by simp), u2_a, h25]
  · rw [u2_n e]
    by_cases e2 : k = 26
    · subst e2; rw [jn_c (by simp), h26]
    · by_cases e3 : k = 27
      · subst e3; rw [jn_c (by simp), h27]
      · rw [jn_m e e2 e3]
theorem jn_same {σc σm : Sg} (h25 : σc 25 = σm 25) (h26 : σc 26 = σm 26) (h27 : σc 27 = σm 27) : jn σc σm = σm := by
  funext k
  by_cases e : k = 25
  · subst e; rw [jn_c (by simp), h25]
  · by_cases e2 : k = 26
    · subst e2; rw [jn_c (by simp), h26]
    · by_cases e3 : k = 27
      · subst e3; rw [jn_c (by simp), h27]
      · rw [jn_m e e2 e3]
theorem lu8 {k : Nat} (h : 8 ≤ k ∧ k ≤ 20 ∨ k = 25) : Lu k := by unfold Lu; omega
theorem Inv.begin {σ : Sg} {Λ : Ln} {m : Nat → Nat} {n c R k : Nat} (hI : Inv σ Λ m n) (hc : c < 3) (h0 : Λ 12 c = 0) (hq : Λ 4 c < 24) (hR1 : 1 ≤ R) (hR : R ≤ 3 * n + 3) (hf : fwF σ c (Λ 7 c) 0 = some k) (ha : alw σ c (σ 5 (60 * c + k)) = true) :
    Inv (up2 (up2 (up2 (ent (up2 σ 8 c (nI R)) c 1) 18 c (σ 9 c)) 19 c (σ 10 c)) 25 c 0) (uN (uN (uN (uN (uN (uN (uN (uN Λ 8 c R) 12 c 1) 14 c 0) 17 c 0) 15 c 0) 16 c 0) 18 c (Λ 9 c)) 25 c 0) (mU m c) (n + 1) := by
  have hI' := hI
  obtain ⟨i1, i2, i3, i4, i5, i6, i7, i8, i9, i10, i11, i12, i13⟩ := hI'
  have hL := i2 c hc
  have h9 := hL 9 (by unfold Lk; omega)
  obtain ⟨-, hk7, -⟩ := fwF_lt hf
  refine hI.lu hc (by omega) (mU_le m c) (by have := mU_sum m hc; omega) ?_ ?_ ?_ ?_ ?_ ?_ ?_ ?_ ?_
  · unfold ent
    exact (((((((((LU.rf.up (lu8 (by omega)) _).up (lu8 (by omega)) _).up (lu8 (by omega)) _).up (lu8 (by omega)) _).up (lu8 (by omega)) _).up (lu8 (by omega)) _).up (lu8 (by omega)) _).up (lu8 (by omega)) _).up (lu8 (by omega)) _)
  · exact ((((((((LN.rf.up (by decide) (by decide) _).up (by decide) (by decide) _).up (by decide) (by decide) _).up (by decide) (by decide) _).up (by decide) (by decide) _).up (by decide) (by decide) _).up (by decide) (by decide) _).up (by decide) (by decide) _)
  · intro k hk
    have := hL k hk
    rcases hk with rfl | rfl | rfl | rfl | rfl | rfl | rfl | rfl | rfl | rfl | rfl | rfl
    all_goals first | (simp [ent, up2, upd, uN, nI_0, h9]; done) | (simp only [ent, up2, upd, uN]; simpa using this) | (simp [ent, up2, upd, uN]; rfl)
  · have h := i3 c hc
    unfold Ok pg at *
    rw [mU_s]
    simp only [uN]
    simp
    omega
  · intro _ _
    simp [uN]
  · intro z
    have z : 0 < Λ 9 c := by simpa [uN] using z
    have := i9 c hc z
    simpa [ent, up2] using this
  · intro _ z
    have z : 0 < Λ 9 c := by simpa [uN] using z
    have := i9 c hc z
    simpa [ent, up2, upd] using this
  · intro _
    exact ⟨k, hf, ha⟩
  · have := i12 c hc
    simpa [ent, up2] using this
theorem Inv.gon {σ : Sg} {Λ : Ln} {m : Nat → Nat} {n c : Nat} (hI : Inv σ Λ m n) (hc : c < 3) (h0 : ¬ Λ 12 c = 0) :
    Inv (up2 (gon σ c) 25 c 0) (uN (if Λ 14 c + 1 = 3 then uN (uN (uN (uN Λ 15 c 0) 16 c 0) 14 c 0) 17 c 0 else uN (uN (uN Λ 15 c 0) 16 c 0) 14 c (Λ 14 c + 1)) 25 c 0) m n := by
  have hI' := hI
  obtain ⟨i1, i2, i3, i4, i5, i6, i7, i8, i9, i10, i11, i12, i13⟩ := hI'
  have hL := i2 c hc
  have h14 := hL 14 (by unfold Lk; omega)
  have h := i3 c hc
  have h3 : Λ 14 c < 3 := by unfold Ok at h; omega
  have hp : Λ 12 c = 1 ∨ Λ 12 c = 2 := by unfold Ok at h; omega
  have e14 : σ 14 c + 1 = 3 ↔ Λ 14 c + 1 = 3 := by
    rw [h14, nI_1]
    exact nI_eq (b := 3) (by omega) (by decide)
  by_cases g : Λ 14 c + 1 = 3
  · rw [if_pos g]
    unfold Jvm.Pilot.CDiskArbitersLaw_law_r5576_a5df70.gon
    rw [if_pos (e14.mpr g)]
    refine hI.lu hc (Nat.le_refl _) (fun _ => Nat.le_refl _) i1 ((((((LU.rf.up (lu8 (by omega)) _).up (lu8 (by omega)) _).up (lu8 (by omega)) _).up (lu8 (by omega)) _).up (lu8 (by omega)) _).up (lu8 (by omega)) _) (((((LN.rf.up (by decide) (by decide) _).up (by decide) (by decide) _).up (by decide) (by decide) _).up (by decide) (by decide) _).up (by decide) (by decide) _) ?_ ?_ ?_ ?_ ?_ ?_ ?_
    · intro k hk
      have := hL k hk
      rcases hk with rfl | rfl | rfl | rfl | rfl | rfl | rfl | rfl | rfl | rfl | rfl | rfl
      all_goals first | (simp [up2, upd, uN, nI_0]; done) | (simp only [up2, upd, uN]; simpa using this)
    · unfold Ok pg at *
      simp only [uN]
      rcases hp with e | e
      · simp [e] at h ⊢
        omega
      · simp [e] at h ⊢
        omega
    · intro _ _
      simp [uN]
    · intro z
      have := i9 c hc (by simpa [uN] using z)
      simpa [up2] using this
    · intro z1 z2
      have := i10 c hc (by simpa [uN] using z1) (by simpa [uN] using z2)
      simpa [up2] using this
    · intro z
      exact i11 c hc (by simpa [uN] using z)
    · have := i12 c hc
      simpa [up2] using this
  · rw [if_neg g]
    unfold Jvm.Pilot.CDiskArbitersLaw_law_r5576_a5df70.gon
    rw [if_neg (fun z => g (e14.mp z))]
    refine hI.lu hc (Nat.le_refl _) (fun _ => Nat.le_refl _) i1 ((((LU.rf.up (lu8 (by omega)) _).up (lu8 (by omega)) _).up (lu8 (by omega)) _).up (lu8 (by omega)) _) ((((LN.rf.up (by decide) (by decide) _).up (by decide) (by decide) _).up (by decide) (by decide) _).up (by decide) (by decide) _) ?_ ?_ ?_ ?_ ?_ ?_ ?_
    · intro k hk
      have := hL k hk
      rcases hk with rfl | rfl | rfl | rfl | rfl | rfl | rfl | rfl | rfl | rfl | rfl | rfl
      all_goals first | (simp [up2, upd, uN, nI_0]; done) | (simp only [up2, upd, uN]; simpa using this) | (simp [up2, upd, uN, h14, nI_1]; done)
    · unfold Ok pg at *
      simp only [uN]
      rcases hp with e | e
      · simp [e] at h ⊢
        omega
      · simp [e] at h ⊢
        omega
    · intro _ _
      simp [uN]
    · intro z
      have := i9 c hc (by simpa [uN] using z)
      simpa [up2] using this
    · intro z1 z2
      have := i10 c hc (by simpa [uN] using z1) (by simpa [uN] using z2)
      simpa [up2] using this
    · intro z
      exact i11 c hc (by simpa [uN] using z)
    · have := i12 c hc
      simpa [up2] using this
