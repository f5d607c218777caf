/-! ===== the reference's public methods ===== -/
def thr (σ : Sg) (k : Int32) : Sg := up2 σ 0 0 k
def crM (σ : Sg) (c : Nat) : Int32 × Sg := if σ 11 c = 0 then (1, up2 (thr σ 0) 11 c 1) else (0, thr σ 0)
def rsM (σ : Sg) (c : Nat) : Int32 × Sg := if σ 11 c = 0 then (0, thr σ 0) else (1, up2 (up2 (up2 (thr σ 0) 11 c 0) 12 c 0) 13 c 0)
def phM (σ : Sg) (c : Nat) : Int32 × Sg := (if σ 11 c = 0 then σ 12 c else -1, thr σ 0)
def voM (σ : Sg) (c : Nat) (b : Int32) : Int32 × Sg := (if b = 0 then σ 9 c else σ 10 c, thr σ 0)
def enM (σ : Sg) (c : Nat) (x : Int32) : Int32 × Sg :=
  if x < 0 then (0, thr σ 1) else if ¬ x < 24 then (0, thr σ 1) else if ¬ x < σ 4 c then (0, thr σ 2) else (σ 3 (24 * c + tN x), thr σ 0)
def ouM (σ : Sg) (c : Nat) (x : Int32) : Int32 × Sg :=
  if x < 0 then (0, thr σ 2) else if ¬ x < σ 7 c then (0, thr σ 2) else (σ 6 (60 * c + tN x), thr σ 0)
def whM (σ : Sg) (c : Nat) (x : Int32) : Int32 × Sg :=
  if x < 0 then (0, thr σ 1) else if 8 ≤ x then (0, thr σ 1) else (σ 21 (8 * c + tN x), thr σ 0)
def reM (σ : Sg) (c d : Nat) : Int32 × Sg := (σ 24 (3 * c + d) + (if σ 23 (3 * c + d) = 0 then 0 else 10), thr σ 0)
def woM (σ : Sg) (a c : Nat) (x y : Int32) : Int32 × Sg :=
  if x < 0 then (0, thr σ 1) else if ¬ x < 24 then (0, thr σ 1) else if y < 0 then (0, thr σ 2) else if ¬ y ≤ 9 then (0, thr σ 2) else (σ 1 (blk a c (tN x) + tN y), thr σ 0)
def dkM (σ : Sg) (d : Nat) (b : Int32) : Int32 × Sg := if σ 2 d = b then (1, up2 (thr σ 0) 2 d (if b = 0 then 1 else 0)) else (0, thr σ 0)
def stM (σ : Sg) (c a q w : Nat) : Int32 × Sg :=
  if σ 12 c = 0 then bgn σ c w else if ¬ σ 2 a = 0 then (3, gon σ c) else if σ 15 c = 0 then (4, up2 (wrM σ c a q 5) 15 c 1) else rdN σ c a q w
def trM (σ : Sg) (c a q kp : Nat) : Int32 × Sg :=
  if σ 12 c = 0 then (0, σ) else if q = 24 then (0, σ) else if ¬ σ 2 a = 0 then (0, σ) else if ¬ σ 15 c = 0 then (0, σ) else (1, up2 (wrM σ c a q kp) 11 c 1)
def rgt (k ca d cl : Int32) : Bool := !decide (k < 0) && (!decide (8 ≤ k) && (!decide (ca < 0) && (!decide (8 ≤ ca) && (one d && one cl))))
def enc (k ca d cl : Int32) (c n : Nat) : Int32 := k + 8 * ca + 64 * d + 256 * cl + nI (1024 * c) + nI (4096 * n)
def waM (σ : Sg) (c w : Nat) (k ca d cl : Int32) : Int32 × Sg :=
  if rgt k ca d cl = false then (0, thr (thr σ 0) 2)
  else if w = 60 then (0, thr (thr σ 0) 3)
  else if wtn σ c w = 5 then (0, thr (thr σ 0) 3)
  else (nI w, up2 (up2 (up2 (thr (thr σ 0) 0) 5 (60 * c + w) (enc k ca d cl c w)) 6 (60 * c + w) 0) 7 c (nI (w + 1)))
theorem ix_of {x y : Int32} {n : Nat} (hy : y = nI n) (h0 : ¬ x < 0) (h : x < y) (hn : n < 2 ^ 31) : ∃ j : Nat, j < n ∧ x = nI j := by
  rcases pk_ix x hn with g | g | g
  · exact absurd g h0
  · rw [hy] at h
    rw [Int32.le_iff_toInt_le] at g
    rw [Int32.lt_iff_toInt_lt] at h
    omega
  · exact g
theorem ix_ge {x y : Int32} {n : Nat} (hy : y = nI n) (h0 : ¬ x < 0) (h : ¬ y ≤ x) (hn : n < 2 ^ 31) : ∃ j : Nat, j < n ∧ x = nI j := by
  rcases pk_ix x hn with g | g | g
  · exact absurd g h0
  · rw [hy] at h; exact absurd g h
  · exact g
theorem ix_le {x : Int32} {n : Nat} (h0 : ¬ x < 0) (h : x ≤ nI n) (hn : n + 1 < 2 ^ 31) : ∃ j : Nat, j ≤ n ∧ x = nI j := by
  rcases pk_ix x hn with g | g | g
  · exact absurd g h0
  · rw [Int32.le_iff_toInt_le, nI_toInt hn] at g
    rw [Int32.le_iff_toInt_le, nI_toInt (by omega)] at h
    omega
  · obtain ⟨j, h1, h2⟩ := g
    exact ⟨j, by omega, h2⟩
theorem wtn_k {σ τ : Sg} {c : Nat} (h : ∀ j, τ 6 j = σ 6 j) : ∀ n, wtn τ c n = wtn σ c n
  | 0 => rfl
  | n + 1 => by simp only [wtn, h]; rw [wtn_k h n]
theorem wtn_le (σ : Sg) (c : Nat) : ∀ n, wtn σ c n ≤ n
  | 0 => Nat.le_refl _
  | n + 1 => by
    have := wtn_le σ c n
    simp only [wtn]
    split <;> omega
/-- behind the reading: rdN, with what was read as numbers -/
def rdX (σ : Sg) (c : Nat) (rd it en : Int32) (w q : Nat) : Int32 × Sg :=
  if ¬ rd ≤ σ 8 c then (6, up2 (up2 (rdB σ c rd it en) 16 c (σ 16 c + 1)) 12 c 0)
  else if ¬ 2 ≤ σ 16 c + 1 then (5, up2 (rdB σ c rd it en) 16 c (σ 16 c + 1))
  else if σ 17 c + 1 = 2 then (if σ 12 c = 1 then (7, chs (up2 (up2 (rdB σ c rd it en) 16 c (σ 16 c + 1)) 17 c (σ 17 c + 1)) c w) else (8, putM (up2 (up2 (rdB σ c rd it en) 16 c (σ 16 c + 1)) 17 c (σ 17 c + 1)) c q))
  else (5, gon (up2 (up2 (rdB σ c rd it en) 16 c (σ 16 c + 1)) 17 c (σ 17 c + 1)) c)
def rdT (σ : Sg) (c : Nat) (rd it en : Int32) : Sg := up2 (up2 (rdB σ c rd it en) 16 c (σ 16 c + 1)) 17 c (σ 17 c + 1)
/-- what choose, put ask of the state at which they are called -/
def rdC (σ : Sg) (c : Nat) (rd it en : Int32) (w : Nat) : Prop := rdT σ c rd it en 18 c ≤ 0 → ∃ k, k < w ∧ fwF (rdT σ c rd it en) c w 0 = some k
def okP (τ : Sg) (c : Nat) : Prop := dN (τ 10 c) < 3 ∧ (eK (τ 10 c) = 1 → ∃ h, h < 8 ∧ τ 22 (3 * c + dN (τ 10 c)) = nI h) ∧ (eO (τ 10 c) = nI c → ∃ k, k < 60 ∧ eW (τ 10 c) = nI k)
def rdP (σ : Sg) (c : Nat) (rd it en : Int32) : Prop := okP (rdT σ c rd it en) c
theorem nwt_lt {σ : Sg} {b t : Nat} (h : nwt σ b = some t) : b ≤ t ∧ t ≤ b + 5 := by
  rcases nwt_c σ b with g | g | g <;> rw [g] at h <;> cases h <;> omega
