/-! ===== the invariant, in plain terms ===== -/
abbrev Ln : Type := Nat → Nat → Nat
def uN (Λ : Ln) (k j v : Nat) : Ln := fun a i => if a = k ∧ i = j then v else Λ a i
theorem uN_s {Λ : Ln} {k j v : Nat} : uN Λ k j v k j = v := by simp [uN]
theorem uN_n {Λ : Ln} {k j v a i : Nat} (h : a ≠ k) : uN Λ k j v a i = Λ a i := by simp [uN, h]
theorem uN_j {Λ : Ln} {k j v a i : Nat} (h : i ≠ j) : uN Λ k j v a i = Λ a i := by simp [uN, h]
def Lk (k : Nat) : Prop := k = 4 ∨ k = 7 ∨ k = 8 ∨ k = 9 ∨ k = 12 ∨ k = 13 ∨ k = 14 ∨ k = 15 ∨ k = 16 ∨ k = 17 ∨ k = 18 ∨ k = 25
/-- the counters of a controller are naturals: 4 places, 7 wished, 8 started, 9 vote's round, 12 phase, 13 seen, 14 disk, 15 written, 16 read, 17 done, 18 best, 25 step -/
def Lc (σ : Sg) (Λ : Ln) (c : Nat) : Prop := ∀ k, Lk k → σ k c = nI (Λ k c)
def pg (Λ : Ln) (c : Nat) : Nat := if Λ 12 c = 0 then 0 else if Λ 12 c = 1 then 1 + 3 * Λ 17 c + (Λ 15 c + Λ 16 c) else 3 * Λ 17 c + (Λ 15 c + Λ 16 c)
def Ok (Λ : Ln) (c m n : Nat) : Prop :=
  Λ 4 c ≤ 24 ∧ Λ 7 c ≤ 60 ∧ Λ 8 c ≤ 3 * n ∧ Λ 9 c ≤ 3 * n ∧ Λ 13 c ≤ 3 * n ∧ Λ 18 c ≤ 3 * n ∧ Λ 14 c < 3 ∧ Λ 12 c ≤ 2 ∧ Λ 25 c ≤ 3 ∧ Λ 17 c ≤ 2 ∧ Λ 15 c ≤ 1 ∧ Λ 16 c ≤ 2 ∧
  (¬ Λ 12 c = 0 → Λ 4 c < 24 ∧ Λ 17 c ≤ 1 ∧ Λ 16 c ≤ 1 ∧ (Λ 15 c = 0 → Λ 16 c = 0) ∧ 1 ≤ Λ 7 c ∧ 1 ≤ Λ 8 c) ∧ (Λ 12 c = 2 → 0 < Λ 9 c) ∧ (0 < Λ 9 c → 1 ≤ Λ 7 c) ∧
  Λ 7 c + 13 * Λ 4 c + (if 0 < Λ 9 c then 7 else 0) + pg Λ c ≤ m
def Vok (σ : Sg) (Λ : Ln) (m : Nat → Nat) (e : Int32) (p : Nat) (fr : Nat → Prop) : Prop :=
  dN e < 3 ∧ ∃ Y k, Y < 3 ∧ eO e = nI Y ∧ eW e = nI k ∧ k < Λ 7 Y ∧ (eK e = 1 → 1 ≤ p ∧ p ≤ Λ 4 Y ∧ (fr Y → 13 * p + 9 ≤ m Y) ∧ (Λ 4 Y = p → ∃ h, h < 8 ∧ σ 22 (3 * Y + dN e) = nI h))
def Bn (σ : Sg) (n b : Nat) : Prop :=
  ∃ w0 w4 v0 v4 : Nat, σ 1 b = nI w0 ∧ σ 1 (b + 4) = nI w4 ∧ σ 1 (b + 5) = nI v0 ∧ σ 1 (b + 9) = nI v4 ∧ w0 ≤ n ∧ w4 ≤ n ∧ v0 ≤ n ∧ v4 ≤ n ∧ (nwt σ b = none → w4 = 0 ∧ v4 = 0) ∧ (nwt σ b = some b → v4 ≤ w0) ∧ (nwt σ b = some (b + 5) → w4 ≤ v0)
def Bs (σ : Sg) (Λ : Ln) (m : Nat → Nat) (n p t : Nat) : Prop :=
  (∃ r v : Nat, σ 1 (t + 1) = nI r ∧ σ 1 (t + 2) = nI v ∧ r ≤ 3 * n ∧ v ≤ 3 * n) ∧ (whl σ t = true → ¬ σ 1 (t + 2) = 0 → Vok σ Λ m (σ 1 (t + 3)) p (fun _ => True))
def iSt (σ : Sg) (Λ : Ln) : Prop := ∀ c, c < 3 → σ 11 c = 0 → ¬ Λ 12 c = 0 → Λ 25 c = Λ 15 c + Λ 16 c
def iWs (σ : Sg) (Λ : Ln) : Prop := ∀ c j, c < 3 → j < Λ 7 c → dN (σ 5 (60 * c + j)) < 3 ∧ eO (σ 5 (60 * c + j)) = nI c ∧ eW (σ 5 (60 * c + j)) = nI j
def iBn (σ : Sg) (n : Nat) : Prop := ∀ a c q, a < 3 → c < 3 → q < 24 → Bn σ n (blk a c q)
def iBs (σ : Sg) (Λ : Ln) (m : Nat → Nat) (n : Nat) : Prop := ∀ a c q, a < 3 → c < 3 → q < 24 → Bs σ Λ m n q (blk a c q) ∧ Bs σ Λ m n q (blk a c q + 5)
def iLi (σ : Sg) (Λ : Ln) : Prop := ∀ c d, c < 3 → d < 3 → (σ 22 (3 * c + d) = -1 ∨ ∃ h, h < 8 ∧ σ 22 (3 * c + d) = nI h) ∧ (σ 23 (3 * c + d) = 0 ∨ σ 23 (3 * c + d) = 1) ∧ (Λ 4 c = 0 → σ 22 (3 * c + d) = -1)
def iVo (σ : Sg) (Λ : Ln) (m : Nat → Nat) : Prop := ∀ c, c < 3 → 0 < Λ 9 c → Vok σ Λ m (σ 10 c) (Λ 4 c) (fun Y => Y ≠ c)
def iBt (σ : Sg) (Λ : Ln) (m : Nat → Nat) : Prop := ∀ c, c < 3 → Λ 12 c = 1 → 0 < Λ 18 c → Vok σ Λ m (σ 19 c) (Λ 4 c) (fun Y => Y ≠ c)
def iFs (σ : Sg) (Λ : Ln) : Prop := ∀ c, c < 3 → Λ 12 c = 1 → ∃ k, fwF σ c (Λ 7 c) 0 = some k ∧ alw σ c (σ 5 (60 * c + k)) = true
def iUp (σ : Sg) : Prop := ∀ c, c < 3 → (σ 11 c = 0 ∧ σ 26 c = 1) ∨ (σ 11 c = 1 ∧ σ 26 c = 0)
def iWk (σ : Sg) : Prop := ∀ d, d < 3 → (σ 2 d = 0 ∧ σ 27 d = 1) ∨ (σ 2 d = 1 ∧ σ 27 d = 0)
def Inv (σ : Sg) (Λ : Ln) (m : Nat → Nat) (n : Nat) : Prop :=
  m 0 + m 1 + m 2 ≤ n ∧ (∀ c, c < 3 → Lc σ Λ c) ∧ (∀ c, c < 3 → Ok Λ c (m c) n) ∧ iSt σ Λ ∧ iWs σ Λ ∧ iBn σ n ∧ iBs σ Λ m n ∧ iLi σ Λ ∧ iVo σ Λ m ∧ iBt σ Λ m ∧ iFs σ Λ ∧ iUp σ ∧ iWk σ
/-- what only grows -/
def Gr (σ : Sg) (Λ : Ln) (m : Nat → Nat) (σ' : Sg) (Λ' : Ln) (m' : Nat → Nat) : Prop :=
  ∀ Y, Y < 3 → m Y ≤ m' Y ∧ Λ 7 Y ≤ Λ' 7 Y ∧ ((Λ' 4 Y = Λ 4 Y ∧ ∀ d, d < 3 → σ' 22 (3 * Y + d) = σ 22 (3 * Y + d)) ∨ Λ 4 Y < Λ' 4 Y)
theorem Vok.gr {σ σ' : Sg} {Λ Λ' : Ln} {m m' : Nat → Nat} {e : Int32} {p : Nat} {fr : Nat → Prop} (h : Vok σ Λ m e p fr) (g : Gr σ Λ m σ' Λ' m') : Vok σ' Λ' m' e p fr := by
  obtain ⟨h1, Y, k, hY, h2, h3, h4, h5⟩ := h
  obtain ⟨g1, g2, g3⟩ := g Y hY
  refine ⟨h1, Y, k, hY, h2, h3, Nat.lt_of_lt_of_le h4 g2, fun hk => ?_⟩
  obtain ⟨a1, a2, a3, a4⟩ := h5 hk
  rcases g3 with ⟨b1, b2⟩ | b1
  · exact ⟨a1, by omega, fun z => Nat.le_trans (a3 z) g1, fun z => by rw [b2 _ h1]; exact a4 (by omega)⟩
  · exact ⟨a1, by omega, fun z => Nat.le_trans (a3 z) g1, fun z => by omega⟩
theorem Vok.weak {σ : Sg} {Λ : Ln} {m : Nat → Nat} {e : Int32} {p : Nat} {fr fr' : Nat → Prop} (h : Vok σ Λ m e p fr) (g : ∀ Y, fr' Y → fr Y) : Vok σ Λ m e p fr' := by
  obtain ⟨h1, Y, k, hY, h2, h3, h4, h5⟩ := h
  refine ⟨h1, Y, k, hY, h2, h3, h4, fun hk => ?_⟩
  obtain ⟨a1, a2, a3, a4⟩ := h5 hk
  exact ⟨a1, a2, fun z => a3 (g Y z), a4⟩
theorem Gr.rf {σ : Sg} {Λ : Ln} {m : Nat → Nat} : Gr σ Λ m σ Λ m := fun _ _ => ⟨Nat.le_refl _, Nat.le_refl _, Or.inl ⟨rfl, fun _ _ => rfl⟩⟩
/-- the ids that component and reference share -/
def sh (k : Nat) : Prop := k ≠ 0 ∧ k ≠ 2 ∧ k ≠ 11 ∧ k ≠ 15 ∧ k ≠ 16 ∧ k ≠ 25 ∧ k ≠ 26 ∧ k ≠ 27
def AG (σc σm : Sg) : Prop := ∀ k, sh k → σc k = σm k
def jn (σc σm : Sg) : Sg := fun k => if k = 25 ∨ k = 26 ∨ k = 27 then σc k else σm k
theorem jn_m {σc σm : Sg} {k : Nat} (h1 : k ≠ 25) (h2 : k ≠ 26) (h3 : k ≠ 27) : jn σc σm k = σm k := by unfold jn; rw [if_neg (by omega)]
theorem jn_c {σc σm : Sg} {k : Nat} (h : k = 25 ∨ k = 26 ∨ k = 27) : jn σc σm k = σc k := by unfold jn; rw [if_pos h]
theorem repM_jn {G : Gx} {o : Nat} {σc σm : Sg} {H : Heap} (h : RepM G o σm H) : RepM G o (jn σc σm) H := by
  refine ⟨by rw [show mF o (jn σc σm) = mF o σm from by unfold mF; rw [jn_m (by decide) (by decide) (by decide)]]; exact h.1, fun k h1 h2 => ?_⟩
  rw [jn_m (by omega) (by omega) (by omega)]
  exact h.2 k h1 h2
theorem repC_jn {G : Gx} {B D0 ea : Nat} {τ : Tt} {σc σm : Sg} {H : Heap} (h : RepC G B D0 ea σc τ H) (g : AG σc σm) : RepC G B D0 ea (jn σc σm) τ H := by
  have e : ∀ k, k ≠ 0 → k ≠ 2 → k ≠ 11 → k ≠ 15 → k ≠ 16 → σc k = jn σc σm k := by
    intro k a1 a2 a3 a4 a5
    by_cases hk : k = 25 ∨ k = 26 ∨ k = 27
    · rw [jn_c hk]
    · rw [jn_m (by omega) (by omega) (by omega)]
      exact g k ⟨a1, a2, a3, a4, a5, by omega, by omega, by omega⟩
  obtain ⟨h1, h2, h3, h4⟩ := h
  have e1 := e 1 (by decide) (by decide) (by decide) (by decide) (by decide)
  have e3 := e 3 (by decide) (by decide) (by decide) (by decide) (by decide)
  have e5 := e 5 (by decide) (by decide) (by decide) (by decide) (by decide)
  have e6 := e 6 (by decide) (by decide) (by decide) (by decide) (by decide)
  have e7 := e 7 (by decide) (by decide) (by decide) (by decide) (by decide)
  have e21 := e 21 (by decide) (by decide) (by decide) (by decide) (by decide)
  have e22 := e 22 (by decide) (by decide) (by decide) (by decide) (by decide)
  have e23 := e 23 (by decide) (by decide) (by decide) (by decide) (by decide)
  have e24 := e 24 (by decide) (by decide) (by decide) (by decide) (by decide)
  have e27 := e 27 (by decide) (by decide) (by decide) (by decide) (by decide)
  refine ⟨h1, h2, fun d hd => (h3 d hd).tell (by rw [e27]) (fun j _ => by rw [e1]), fun c hc => (h4 c hc).tell ?_ (fun j _ => by rw [e3]) (fun j _ => by rw [e21]) (fun d _ => by rw [e22, e23, e24]; exact ⟨rfl, rfl, rfl⟩) (by rw [e7]) (fun j _ => by rw [e5, e6]; exact ⟨rfl, rfl⟩)⟩
  unfold ctF
  rw [e 4 (by decide) (by decide) (by decide) (by decide) (by decide), e 8 (by decide) (by decide) (by decide) (by decide) (by decide), e 9 (by decide) (by decide) (by decide) (by decide) (by decide), e 10 (by decide) (by decide) (by decide) (by decide) (by decide), e 26 (by decide) (by decide) (by decide) (by decide) (by decide), e 13 (by decide) (by decide) (by decide) (by decide) (by decide), e 12 (by decide) (by decide) (by decide) (by decide) (by decide), e 14 (by decide) (by decide) (by decide) (by decide) (by decide), e 17 (by decide) (by decide) (by decide) (by decide) (by decide), e 25 (by decide) (by decide) (by decide) (by decide) (by decide), e 18 (by decide) (by decide) (by decide) (by decide) (by decide), e 19 (by decide) (by decide) (by decide) (by decide) (by decide), e 20 (by decide) (by decide) (by decide) (by decide) (by decide)]
