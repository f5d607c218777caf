/-! ===== the component computes what the reference computes ===== -/
theorem blk_eq (a c q : Nat) : blk a c q = 720 * a + 10 * (24 * c + q) := by unfold blk; omega
theorem lt_nw (σ : Sg) (d b : Nat) : (nwt σ (720 * d + b) = none ∧ ltI σ d b = -1) ∨ (nwt σ (720 * d + b) = some (720 * d + b) ∧ ltI σ d b = nI b) ∨ (nwt σ (720 * d + b) = some (720 * d + b + 5) ∧ ltI σ d b = nI (b + 5)) := by
  unfold nwt ltI
  rw [← Nat.add_assoc]
  cases h1 : whl σ (720 * d + b) <;> cases h2 : whl σ (720 * d + b + 5)
  · left; simp
  · right; right; simp
  · right; left; simp
  · by_cases h3 : σ 1 (720 * d + b + 5) ≤ σ 1 (720 * d + b)
    · right; left; simp [h3]
    · right; right; simp [h3]
theorem tC_eq (σ : Sg) (d b : Nat) (hb : b < 2 ^ 20) : 720 * d + tC σ d b = slt σ (720 * d + b) ∧ nC σ d b = num σ (720 * d + b) := by
  unfold tC slt nC num
  rcases lt_nw σ d b with ⟨h1, h2⟩ | ⟨h1, h2⟩ | ⟨h1, h2⟩
  · rw [h1, h2, if_neg (m1_ne (by omega)), if_pos rfl, if_neg (by simp)]
    exact ⟨rfl, rfl⟩
  · rw [h1, h2, if_pos rfl, if_neg (mt1 (by omega)), if_pos rfl, tN_n (by omega)]
    exact ⟨by omega, rfl⟩
  · rw [h1, h2, if_neg (fun z => by have := (nI_eq (by omega) (by omega)).mp z; omega), if_neg (mt1 (by omega)), if_neg (fun z => by have := Option.some.inj z; omega), tN_n (by omega), Nat.add_assoc]
    exact ⟨rfl, rfl⟩
theorem whl_k {σ τ : Sg} (h : τ 1 = σ 1) (t : Nat) : whl τ t = whl σ t := by unfold whl; rw [h]
theorem ltI_k {σ τ : Sg} (h : τ 1 = σ 1) (d b : Nat) : ltI τ d b = ltI σ d b := by unfold ltI; rw [whl_k h, whl_k h, h]
theorem nwt_k {σ τ : Sg} (h : τ 1 = σ 1) (b : Nat) : nwt τ b = nwt σ b := by unfold nwt; rw [whl_k h, whl_k h, h]
theorem wrs_up {σ : Sg} {t : Nat} {n r v e x : Int32} {a i : Nat} (h : a ≠ 1) : ∀ k, wrs (up2 σ a i x) t n r v e k = up2 (wrs σ t n r v e k) a i x
  | 0 => rfl
  | k + 1 => by rw [wrs, wrs, wrs_up h k, up2_comm h]
theorem cwr_eq (σ : Sg) (c d q k : Nat) (hq : q < 24) (hc : c < 3) : cwr σ c d q k = wrM σ c d q k := by
  unfold cwr wrM wrC
  have h1 : (up2 σ 20 c (σ 20 c + 1)) 1 = σ 1 := u2_n (by decide)
  have e1 : tC (up2 σ 20 c (σ 20 c + 1)) d (10 * (24 * c + q)) = tC σ d (10 * (24 * c + q)) := by unfold tC; rw [ltI_k h1]
  have e2 : nC (up2 σ 20 c (σ 20 c + 1)) d (10 * (24 * c + q)) = nC σ d (10 * (24 * c + q)) := by unfold nC; rw [ltI_k h1, h1]
  rw [e1, e2, (tC_eq σ d (10 * (24 * c + q)) (by omega)).1, (tC_eq σ d (10 * (24 * c + q)) (by omega)).2, wrs_up (by decide), ← blk_eq]
theorem AG.rf (σ : Sg) : AG σ σ := fun _ _ => rfl
theorem upd_self (f : Nat → Int32) (j : Nat) : upd f j (f j) = f := by
  funext i
  by_cases h : i = j
  · subst h; simp [upd]
  · simp [upd, h]
theorem upd_upd (f : Nat → Int32) (j : Nat) (x y : Int32) : upd (upd f j x) j y = upd f j y := by
  funext i
  by_cases h : i = j
  · subst h; simp [upd]
  · simp [upd, h]
theorem cnx_gon (σ : Sg) (c : Nat) : AG (cnx σ c) (gon σ c) := by
  intro k hk
  unfold sh at hk
  unfold cnx gon cbg
  split
  · simp only [up2]
    repeat' split
    all_goals first | rfl | omega | (have : k = 12 := by omega
                                     subst this
                                     exact upd_self _ _) | skip
  · simp only [up2]
    repeat' split
    all_goals first | rfl | omega | skip
theorem idl_bgn (σ : Sg) (c w : Nat) : (idl σ c w).1 = (bgn σ c w).1 ∧ AG (idl σ c w).2 (bgn σ c w).2 := by
  unfold idl bgn
  cases fwF σ c w 0 with
  | none => exact ⟨rfl, AG.rf _⟩
  | some k =>
    dsimp only
    by_cases ha : alw σ c (σ 5 (60 * c + k)) = false
    · rw [if_pos ha, if_pos ha]
      exact ⟨rfl, AG.rf _⟩
    · rw [if_neg ha, if_neg ha]
      refine ⟨rfl, ?_⟩
      intro k hk
      unfold sh at hk
      obtain ⟨-, -, -, h15, h16, h25, -, -⟩ := hk
      have : k = 8 ∨ k = 12 ∨ k = 14 ∨ k = 17 ∨ k = 18 ∨ k = 19 ∨ (k ≠ 8 ∧ k ≠ 12 ∧ k ≠ 14 ∧ k ≠ 17 ∧ k ≠ 18 ∧ k ≠ 19) := by omega
      rcases this with rfl | rfl | rfl | rfl | rfl | rfl | ⟨h1, h2, h3, h4, h5, h6⟩
      · rfl
      · rfl
      · rfl
      · rfl
      · rfl
      · rfl
      · simp only [cbg, ent]
        rw [u2_n h25, u2_n h4, u2_n h3, u2_n h2, u2_n h6, u2_n h5, u2_n h1, u2_n h6, u2_n h5, u2_n h16, u2_n h15, u2_n h4, u2_n h3, u2_n h2, u2_n h1]
theorem cbg_ent (σ : Sg) (c : Nat) (x : Int32) : AG (cbg σ c x) (ent σ c x) := by
  intro k hk
  unfold sh at hk
  simp only [cbg, ent, up2]
  repeat' split
  all_goals first | rfl | omega | skip
theorem cdc_put (σ : Sg) (c q : Nat) : cdc σ c q = putM σ c q := by
  unfold cdc putM
  rw [up2_comm (a := 4) (b := 3) (by decide)]
