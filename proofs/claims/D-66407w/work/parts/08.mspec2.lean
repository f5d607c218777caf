/-! ===== what the reference's steps compute ===== -/
def blk (a c q : Nat) : Nat := 10 * (24 * (3 * a + c) + q)
def slt (σ : Sg) (b : Nat) : Nat := if nwt σ b = some b then b + 5 else b
def num (σ : Sg) (b : Nat) : Int32 := match nwt σ b with
  | none => 1
  | some t => σ 1 t + 1
def wv (n r v e : Int32) (k : Nat) : Int32 := if k = 1 then r else if k = 2 then v else if k = 3 then e else n
def wrs (σ : Sg) (t : Nat) (n r v e : Int32) : Nat → Sg
  | 0 => σ
  | k + 1 => up2 (wrs σ t n r v e k) 1 (t + k) (wv n r v e k)
theorem wrs_ne {σ : Sg} {t : Nat} {n r v e : Int32} {a : Nat} (h : a ≠ 1) : ∀ k, wrs σ t n r v e k a = σ a
  | 0 => rfl
  | k + 1 => by rw [wrs, u2_n h]; exact wrs_ne h k
def wrM (σ : Sg) (c a q keep : Nat) : Sg := up2 (wrs σ (slt σ (blk a c q)) (num σ (blk a c q)) (σ 8 c) (σ 9 c) (σ 10 c) keep) 20 c (σ 20 c + 1)
theorem nwt_c (σ : Sg) (b : Nat) : nwt σ b = none ∨ nwt σ b = some b ∨ nwt σ b = some (b + 5) := by
  unfold nwt
  split
  · exact Or.inr (Or.inr rfl)
  · split
    · exact Or.inr (Or.inl rfl)
    · exact Or.inl rfl
theorem m1_ne {b : Nat} (h : b < 2 ^ 31) : ¬ (-1 : Int32) = nI b := by
  intro q
  have h1 := nI_toInt h
  rw [← q] at h1
  have : (-1 : Int32).toInt = -1 := by decide
  omega
theorem nI_nge {n : Nat} (h : n < 2 ^ 31) : ¬ ¬ 0 ≤ nI n := fun q => q (nI_pos' h)
def rn (c L : Nat) : Nat := if L < c + 1 then c + 1 else c + 1 + 3 * ((L - (c + 1)) / 3 + 1)
theorem rn_is {c L j : Nat} (h1 : L < c + 1 + 3 * j) (h2 : j = 0 ∨ c + 1 + 3 * (j - 1) ≤ L) : c + 1 + 3 * j = rn c L := by
  unfold rn
  split
  · rcases h2 with rfl | h2
    · omega
    · omega
  · rcases h2 with rfl | h2
    · omega
    · omega
def tN (x : Int32) : Nat := x.toNatClampNeg
theorem tN_n {n : Nat} (h : n < 2 ^ 31) : tN (nI n) = n := nI_clamp h
def lst (σ : Sg) (c : Nat) : Nat := if σ 8 c ≤ σ 13 c then tN (σ 13 c) else tN (σ 8 c)
def bgn (σ : Sg) (c w : Nat) : Int32 × Sg := match fwF σ c w 0 with
  | none => (0, σ)
  | some k => if alw σ c (σ 5 (60 * c + k)) = false then (1, up2 σ 6 (60 * c + k) (-1))
    else (2, up2 (up2 (ent (up2 σ 8 c (nI (rn c (lst σ c)))) c 1) 18 c (σ 9 c)) 19 c (σ 10 c))
def chs (σ : Sg) (c w : Nat) : Sg := ent (up2 (up2 σ 10 c (if σ 18 c ≤ 0 then σ 5 (60 * c + (fwF σ c w 0).getD 0) else σ 19 c)) 9 c (σ 8 c)) c 2
def wN (e : Int32) : Nat := tN (eW e)
def putM (σ : Sg) (c q : Nat) : Sg :=
  up2 (up2 (up2 (if eO (σ 10 c) = nI c then up2 (prf (up2 (up2 σ 3 (24 * c + q) (σ 10 c)) 4 c (nI (q + 1))) c (σ 10 c)) 6 (60 * c + wN (σ 10 c)) (nI (q + 1)) else prf (up2 (up2 σ 3 (24 * c + q) (σ 10 c)) 4 c (nI (q + 1))) c (σ 10 c)) 9 c 0) 10 c 0) 12 c 0
theorem prf_ne {σ : Sg} {c : Nat} {e : Int32} {a : Nat} (h1 : a < 21) : prf σ c e a = σ a := by
  have g1 : a ≠ 21 := by omega
  have g2 : a ≠ 22 := by omega
  have g3 : a ≠ 23 := by omega
  have g4 : a ≠ 24 := by omega
  unfold prf
  split
  · rw [u2_n g2, u2_n g1]
  · split
    · rw [u2_n g2, u2_n g1]
    · split
      · rw [u2_n g1]
      · split
        · rw [u2_n g1]
        · split
          · rw [u2_n g3]
          · split
            · rw [u2_n g3]
            · split
              · rw [u2_n g4]
              · rw [u2_n g4]
def oth (σ : Sg) (c : Nat) : Nat := if σ 16 c = 0 then (if c = 0 then 1 else 0) else (if c = 2 then 1 else 2)
theorem c_0 {c : Nat} (h : c < 3) : nI c = 0 ↔ c = 0 := nI_eq (b := 0) (by omega) (by decide)
theorem c_2 {c : Nat} (h : c < 3) : nI c = 2 ↔ c = 2 := nI_eq (b := 2) (by omega) (by decide)
theorem oth_lt (σ : Sg) (c : Nat) : oth σ c < 3 := by
  unfold oth
  split <;> split <;> decide
/-- accesses, seen, best -/
def rdB (σ : Sg) (c : Nat) (rd it en : Int32) : Sg :=
  if it ≤ σ 18 c then up2 (up2 σ 20 c (σ 20 c + 1)) 13 c (if rd ≤ σ 13 c then σ 13 c else rd)
  else up2 (up2 (up2 (up2 σ 20 c (σ 20 c + 1)) 13 c (if rd ≤ σ 13 c then σ 13 c else rd)) 18 c it) 19 c en
theorem rdB_ne {σ : Sg} {c : Nat} {rd it en : Int32} {a : Nat} (h1 : a ≠ 20) (h2 : a ≠ 13) (h3 : a ≠ 18) (h4 : a ≠ 19) : rdB σ c rd it en a = σ a := by
  unfold rdB
  split
  · rw [u2_n h2, u2_n h1]
  · rw [u2_n h4, u2_n h3, u2_n h2, u2_n h1]
def rdF (σ : Sg) (x : Option Nat) (i : Nat) : Int32 := match x with
  | none => 0
  | some t => σ 1 (t + i)
def rdN (σ : Sg) (c a q w : Nat) : Int32 × Sg :=
  let x := nwt σ (blk a (oth σ c) q)
  let s := up2 (rdB σ c (rdF σ x 1) (rdF σ x 2) (rdF σ x 3)) 16 c (σ 16 c + 1)
  if ¬ rdF σ x 1 ≤ σ 8 c then (6, up2 s 12 c 0)
  else if ¬ 2 ≤ σ 16 c + 1 then (5, s)
  else if σ 17 c + 1 = 2 then (if σ 12 c = 1 then (7, chs (up2 s 17 c (σ 17 c + 1)) c w) else (8, putM (up2 s 17 c (σ 17 c + 1)) c q))
  else (5, gon (up2 s 17 c (σ 17 c + 1)) c)
theorem fwF_k {σ τ : Sg} {c : Nat} (h : ∀ j, τ 6 j = σ 6 j) : ∀ n k, fwF τ c n k = fwF σ c n k
  | 0, _ => rfl
  | n + 1, k => by simp only [fwF, h]; rw [fwF_k h n (k + 1)]
theorem fwF_lt {σ : Sg} {c : Nat} : ∀ {n k0 k : Nat}, fwF σ c n k0 = some k → k0 ≤ k ∧ k < k0 + n ∧ σ 6 (60 * c + k) = 0
  | 0, _, _, h => by cases h
  | n + 1, k0, k, h => by
    simp only [fwF] at h
    split at h
    · next h6 =>
      cases h
      exact ⟨Nat.le_refl _, by omega, h6⟩
    · obtain ⟨h1, h2, h3⟩ := fwF_lt h
      exact ⟨by omega, by omega, h3⟩
