/-! ===== idle, decide, goOn, go ===== -/
theorem div3 {a : Nat} (h : a < 2 ^ 31) : nI a / 3 = nI (a / 3) := by
  apply Int32.toInt_inj.mp
  rw [Int32.toInt_div, nI_toInt h, nI_toInt (by omega)]
  have e : (3 : Int32).toInt = 3 := rfl
  rw [e]
  have e2 : ((a : Int).tdiv 3) = ((a / 3 : Nat) : Int) := by
    rw [Int.tdiv_eq_ediv_of_nonneg (by omega)]
    omega
  rw [e2]
  exact Int.bmod_eq_of_le (by omega) (by omega)
theorem rem3 {a : Nat} (h : a < 2 ^ 31) : nI a - nI a / 3 * 3 = nI (a % 3) := by
  rw [div3 h, mu_e (a := a / 3) (b := 3) rfl (rfl : (3 : Int32) = nI 3), su_e (a := a) (b := a / 3 * 3) rfl rfl (by omega)]
  congr 1
  omega
theorem rn_mod (c L : Nat) : rn c L % 3 = (c + 1) % 3 ∧ L < rn c L ∧ (c < 3 → rn c L ≤ L + 3) := by
  unfold rn
  split <;> refine ⟨?_, ?_, ?_⟩ <;> omega
theorem rn_eq {c L r : Nat} (h1 : L < r) (h2 : r ≤ rn c L) (h3 : r % 3 = (c + 1) % 3) (hc : c < 3) : r = rn c L := by
  obtain ⟨a, b, d⟩ := rn_mod c L
  have := d hc
  omega
theorem mx_lst {σ : Sg} {c x y : Nat} (hx : σ 8 c = nI x) (hy : σ 13 c = nI y) (hx2 : x < 2 ^ 20) (hy2 : y < 2 ^ 20) : mx (σ 8 c) (σ 13 c) = nI (lst σ c) ∧ lst σ c < 2 ^ 20 := by
  unfold mx lst
  rw [hx, hy, tN_n (by omega), tN_n (by omega)]
  by_cases h : x < y
  · rw [if_pos (nI_lt h (by omega)), if_pos (nI_le (by omega) (by omega))]
    exact ⟨rfl, hy2⟩
  · rw [if_neg (nI_nlt (by omega) (by omega))]
    by_cases h2 : x = y
    · subst h2
      rw [if_pos (nI_le (Nat.le_refl _) (by omega))]
      exact ⟨rfl, hy2⟩
    · rw [if_neg (nI_ge (by omega) (by omega))]
      exact ⟨rfl, hx2⟩
def idl (σ : Sg) (c w : Nat) : Int32 × Sg := match fwF σ c w 0 with
  | none => (0, σ)
  | some k => if alw σ c (σ 5 (60 * c + k)) = false then (1, up2 σ 6 (60 * c + k) (-1))
    else (2, cbg (up2 (up2 (up2 σ 8 c (nI (rn c (lst σ c)))) 18 c (σ 9 c)) 19 c (σ 10 c)) c 1)
def cdc (σ : Sg) (c q : Nat) : Sg :=
  up2 (up2 (up2 (if eO (σ 10 c) = nI c then up2 (prf (up2 (up2 σ 4 c (nI (q + 1))) 3 (24 * c + q) (σ 10 c)) c (σ 10 c)) 6 (60 * c + wN (σ 10 c)) (nI (q + 1)) else prf (up2 (up2 σ 4 c (nI (q + 1))) 3 (24 * c + q) (σ 10 c)) c (σ 10 c)) 9 c 0) 10 c 0) 12 c 0
def cwe (σ : Sg) (c w : Nat) : Int32 := match fwF σ c w 0 with
  | none => σ 19 c
  | some k => σ 5 (60 * c + k)
def cgn (σ : Sg) (c w q : Nat) : Int32 × Sg :=
  if σ 12 c = 2 then (8, cdc σ c q) else (7, cbg (up2 (up2 σ 9 c (σ 8 c)) 10 c (if 0 < σ 18 c then σ 19 c else cwe σ c w)) c 2)
def okD (σ : Sg) (c w : Nat) : Prop := dN (σ 10 c) < 3 ∧ (eK (σ 10 c) = 1 → ∃ h, h < 8 ∧ σ 22 (3 * c + dN (σ 10 c)) = nI h) ∧ (eO (σ 10 c) = nI c → ∃ k, k < w ∧ eW (σ 10 c) = nI k)
def okI (σ : Sg) (c w : Nat) : Prop := (∃ x y : Nat, σ 8 c = nI x ∧ σ 13 c = nI y ∧ x < 2 ^ 20 ∧ y < 2 ^ 20) ∧ (∀ k, k < w → dN (σ 5 (60 * c + k)) < 3) ∧ ∀ j, j < 9 → σ 23 j = 0 ∨ σ 23 j = 1
def crd (σ : Sg) (c a q sp : Nat) : Bool × Sg :=
  if ltI σ a (10 * (24 * who c sp + q)) = -1 then (true, cr1 σ c sp)
  else (!decide (σ 8 c < σ 1 (720 * a + (tN (ltI σ a (10 * (24 * who c sp + q))) + 1))), cr2 σ c a sp (tN (ltI σ a (10 * (24 * who c sp + q)))))
def cgo (σ : Sg) (c w a q sp : Nat) : Int32 × Sg :=
  if σ 12 c = 0 then idl σ c w
  else if σ 27 a = 0 then (3, cnx σ c)
  else if sp = 0 then (4, up2 (cwr σ c a q 5) 25 c 1)
  else if (crd σ c a q sp).1 = false then (6, up2 (crd σ c a q sp).2 12 c 0)
  else if sp = 1 then (5, (crd σ c a q sp).2)
  else if σ 17 c + 1 = 2 then cgn (up2 (crd σ c a q sp).2 17 c (σ 17 c + 1)) c w q
  else (5, cnx (up2 (crd σ c a q sp).2 17 c (σ 17 c + 1)) c)
theorem cr1_ne {σ : Sg} {c sp k : Nat} (h1 : k ≠ 20) (h2 : k ≠ 25) : cr1 σ c sp k = σ k := by unfold cr1; rw [u2_n h2, u2_n h1]
theorem cr2_ne {σ : Sg} {c d sp t k : Nat} (h1 : k ≠ 20) (h2 : k ≠ 25) (h3 : k ≠ 13) (h4 : k ≠ 18) (h5 : k ≠ 19) : cr2 σ c d sp t k = σ k := by
  unfold cr2
  split
  · rw [u2_n h3, cr1_ne h1 h2]
  · rw [u2_n h5, u2_n h4, u2_n h3, cr1_ne h1 h2]
theorem crd_ne {σ : Sg} {c a q sp k : Nat} (h1 : k ≠ 20) (h2 : k ≠ 25) (h3 : k ≠ 13) (h4 : k ≠ 18) (h5 : k ≠ 19) : (crd σ c a q sp).2 k = σ k := by
  unfold crd
  split
  · exact cr1_ne h1 h2
  · exact cr2_ne h1 h2 h3 h4 h5
theorem crd_25 {σ : Sg} {c a q sp : Nat} : (crd σ c a q sp).2 25 c = nI (sp + 1) := by
  unfold crd
  split
  · show cr1 σ c sp 25 c = _
    unfold cr1; rw [u2_s]
  · show cr2 σ c a sp _ 25 c = _
    unfold cr2
    split
    · rw [u2_n (by decide)]; unfold cr1; rw [u2_s]
    · rw [u2_n (by decide), u2_n (by decide), u2_n (by decide)]; unfold cr1; rw [u2_s]
