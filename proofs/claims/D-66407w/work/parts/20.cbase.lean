/-! ===== the component's cells: 36 at fixed places from B on; wishes and their arrays from D0 on ===== -/
abbrev Tt : Type := (Nat → Nat → Nat) × (Nat → Nat) × (Nat → Nat) × (Nat → Int32) × (Nat → Nat)
def ctF (B : Nat) (σ : Sg) (c : Nat) : List Value := [.int (nI c), .ref (B + (10 + 9 * c)), .int (σ 4 c), .ref (B + (11 + 9 * c)), .int (σ 8 c), .int (σ 9 c), .int (σ 10 c), .ref (B + (12 + 9 * c)), .int (σ 26 c), .int (σ 13 c), .int (σ 12 c), .int (σ 14 c), .int (σ 17 c), .int (σ 25 c), .int (σ 18 c), .int (σ 19 c), .int (σ 20 c)]
abbrev vq (f : Nat → Option Nat) : (Nat → Int32) ⊕ (Nat → Int64) ⊕ (Nat → UInt32) ⊕ (Nat → UInt64) ⊕ (Nat → Option Nat) := .inr (.inr (.inr (.inr f)))
def wsF (τ : Tt) (c w : Nat) : Nat → Option Nat := fun j => if j < w then some (τ.1 c j) else none
def RpD (G : Gx) (B : Nat) (σ : Sg) (H : Heap) (d : Nat) : Prop :=
  va_at G.1 classes (B + (2 + 2 * d), .inr (1, [.int (σ 27 d), .ref (B + (3 + 2 * d))])) H ∧ va_at G.1 classes (B + (3 + 2 * d), .inl (G.2 0, (720, .inl (fun j => σ 1 (720 * d + j))))) H
def RpL (G : Gx) (B : Nat) (σ : Sg) (H : Heap) (c : Nat) : Prop :=
  va_at G.1 classes (B + (12 + 9 * c), .inr (4, [.ref (B + (13 + 9 * c)), .ref (B + (14 + 9 * c))])) H ∧ va_at G.1 classes (B + (13 + 9 * c), .inl (G.2 0, (8, .inl (fun j => σ 21 (8 * c + j))))) H ∧ va_at G.1 classes (B + (14 + 9 * c), .inl (G.2 5, (3, vq (fun j => some (B + (15 + 9 * c + j)))))) H ∧ ∀ d, d < 3 → va_at G.1 classes (B + (15 + 9 * c + d), .inr (5, [.int (σ 22 (3 * c + d)), .int (σ 23 (3 * c + d)), .int (σ 24 (3 * c + d))])) H
def RpW (G : Gx) (B D0 ea : Nat) (σ : Sg) (τ : Tt) (H : Heap) (c : Nat) : Prop :=
  va_at G.1 classes (B + (11 + 9 * c), .inr (3, [.ref (τ.2.1 c), .int (σ 7 c), .int (τ.2.2.2.1 c)])) H ∧ ∃ w, σ 7 c = nI w ∧ w ≤ τ.2.2.1 c ∧ w ≤ 60 ∧ τ.2.2.1 c ≤ 200 ∧ (τ.2.2.1 c = 0 → τ.2.1 c = ea) ∧ (0 < τ.2.2.1 c → D0 ≤ τ.2.1 c ∧ τ.2.2.2.2 (τ.2.1 c) = c ∧ va_at G.1 classes (τ.2.1 c, .inl (G.2 6, (τ.2.2.1 c, vq (wsF τ c w)))) H) ∧
    ∀ j, j < w → D0 ≤ τ.1 c j ∧ τ.2.2.2.2 (τ.1 c j) = 3 + 3 * j + c ∧ va_at G.1 classes (τ.1 c j, .inr (6, [.int (σ 5 (60 * c + j)), .int (σ 6 (60 * c + j))])) H
def RpC (G : Gx) (B D0 ea : Nat) (σ : Sg) (τ : Tt) (H : Heap) (c : Nat) : Prop :=
  va_at G.1 classes (B + (9 + 9 * c), .inr (2, ctF B σ c)) H ∧ va_at G.1 classes (B + (10 + 9 * c), .inl (G.2 0, (24, .inl (fun j => σ 3 (24 * c + j))))) H ∧ RpL G B σ H c ∧ RpW G B D0 ea σ τ H c
def RpA (G : Gx) (B : Nat) (H : Heap) : Prop :=
  va_at G.1 classes (B, .inr (0, [.ref (B + 1), .ref (B + 8)])) H ∧ va_at G.1 classes (B + 1, .inl (G.2 3, (3, vq (fun j => some (B + (2 + 2 * j)))))) H ∧ va_at G.1 classes (B + 8, .inl (G.2 4, (3, vq (fun j => some (B + (9 + 9 * j)))))) H
def RepC (G : Gx) (B D0 ea : Nat) (σ : Sg) (τ : Tt) (H : Heap) : Prop :=
  B + 36 ≤ D0 ∧ RpA G B H ∧ (∀ d, d < 3 → RpD G B σ H d) ∧ ∀ c, c < 3 → RpC G B D0 ea σ τ H c
def FC (B D0 : Nat) : Nat → Prop := fun q => (B ≤ q ∧ q < B + 36) ∨ D0 ≤ q
theorem at_ci {G : Gx} {q n : Nat} {cA : ClassId} {f g : Nat → Int32} {H : Heap} (h : va_at G.1 classes (q, .inl (cA, (n, .inl f))) H) (hfg : ∀ j, j < n → f j = g j) : va_at G.1 classes (q, .inl (cA, (n, .inl g))) H := by
  have e : vp_cell cA (n, .inl f) = vp_cell cA (n, .inl g) := by
    rw [vp_cell_i, vp_cell_i]
    unfold arrV
    congr 1
    congr 1
    funext j
    show Value.int (f j.val) = Value.int (g j.val)
    rw [hfg j.val j.isLt]
  show H[q]? = some (vp_cell cA (n, .inl g))
  rw [← e]
  exact h
theorem at_cq {G : Gx} {q n : Nat} {cA : ClassId} {f g : Nat → Option Nat} {H : Heap} (h : va_at G.1 classes (q, .inl (cA, (n, vq f))) H) (hfg : ∀ j, j < n → f j = g j) : va_at G.1 classes (q, .inl (cA, (n, vq g))) H := by
  have e : vp_cell cA (n, vq f) = vp_cell cA (n, vq g) := by
    rw [vp_cell_q, vp_cell_q]
    unfold arrV
    congr 1
    congr 1
    funext j
    show va_rf (f j.val) = va_rf (g j.val)
    rw [hfg j.val j.isLt]
  show H[q]? = some (vp_cell cA (n, vq g))
  rw [← e]
  exact h
section KP
variable {G : Gx} {B D0 ea : Nat} {σ : Sg} {τ : Tt} {H H1 : Heap}
theorem RpL.kept {c : Nat} (h : RpL G B σ H c) (oq : ∀ q, q < H.size → B + (12 + 9 * c) ≤ q → q < B + (18 + 9 * c) → H1[q]? = H[q]?) : RpL G B σ H1 c := by
  obtain ⟨h1, h2, h3, h4⟩ := h
  exact ⟨h1.kept (oq _ h1.lt (by omega) (by omega)), h2.kept (oq _ h2.lt (by omega) (by omega)), h3.kept (oq _ h3.lt (by omega) (by omega)), fun d hd => (h4 d hd).kept (oq _ (h4 d hd).lt (by omega) (by omega))⟩
theorem RpW.kept {c : Nat} (h : RpW G B D0 ea σ τ H c) (oq : ∀ q, q < H.size → (q = B + (11 + 9 * c) ∨ D0 ≤ q) → H1[q]? = H[q]?) : RpW G B D0 ea σ τ H1 c := by
  obtain ⟨h1, w, h2, h3, h4, h5, h6, h7, h8⟩ := h
  refine ⟨h1.kept (oq _ h1.lt (Or.inl rfl)), w, h2, h3, h4, h5, h6, fun hc => ?_, fun j hj => ?_⟩
  · obtain ⟨g1, g2, g3⟩ := h7 hc
    exact ⟨g1, g2, g3.kept (oq _ g3.lt (Or.inr g1))⟩
  · obtain ⟨g1, g2, g3⟩ := h8 j hj
    exact ⟨g1, g2, g3.kept (oq _ g3.lt (Or.inr g1))⟩
theorem RpC.kept {c : Nat} (h : RpC G B D0 ea σ τ H c) (oq : ∀ q, q < H.size → ((B + (9 + 9 * c) ≤ q ∧ q < B + (18 + 9 * c)) ∨ D0 ≤ q) → H1[q]? = H[q]?) : RpC G B D0 ea σ τ H1 c := by
  obtain ⟨h1, h2, h3, h4⟩ := h
  exact ⟨h1.kept (oq _ h1.lt (Or.inl ⟨by omega, by omega⟩)), h2.kept (oq _ h2.lt (Or.inl ⟨by omega, by omega⟩)), h3.kept (fun q hq g1 g2 => oq q hq (Or.inl ⟨by omega, by omega⟩)), h4.kept (fun q hq g => oq q hq (by rcases g with g | g; exact Or.inl ⟨by omega, by omega⟩; exact Or.inr g))⟩
theorem RpA.kept (h : RpA G B H) (oq : ∀ q, q < H.size → (q = B ∨ q = B + 1 ∨ q = B + 8) → H1[q]? = H[q]?) : RpA G B H1 := by
  obtain ⟨h1, h2, h3⟩ := h
  exact ⟨h1.kept (oq _ h1.lt (Or.inl rfl)), h2.kept (oq _ h2.lt (Or.inr (Or.inl rfl))), h3.kept (oq _ h3.lt (Or.inr (Or.inr rfl)))⟩
theorem RpD.kept {d : Nat} (h : RpD G B σ H d) (oq : ∀ q, q < H.size → (q = B + (2 + 2 * d) ∨ q = B + (3 + 2 * d)) → H1[q]? = H[q]?) : RpD G B σ H1 d :=
  ⟨h.1.kept (oq _ h.1.lt (Or.inl rfl)), h.2.kept (oq _ h.2.lt (Or.inr rfl))⟩
theorem RepC.kept (h : RepC G B D0 ea σ τ H) (oq : ∀ q, q < H.size → FC B D0 q → H1[q]? = H[q]?) : RepC G B D0 ea σ τ H1 := by
  obtain ⟨h1, h2, h3, h4⟩ := h
  refine ⟨h1, h2.kept (fun q hq g => oq q hq (Or.inl (by omega))), fun d hd => (h3 d hd).kept (fun q hq g => oq q hq (Or.inl (by omega))), fun c hc => (h4 c hc).kept (fun q hq g => oq q hq ?_)⟩
  rcases g with g | g
  · exact Or.inl ⟨by omega, by omega⟩
  · exact Or.inr g
theorem RepC.grow (h : RepC G B D0 ea σ τ H) (oq : ∀ q, q < H.size → H1[q]? = H[q]?) : RepC G B D0 ea σ τ H1 := h.kept (fun q hq _ => oq q hq)
/-- the same cells, told of another pure state -/
theorem RpL.tell {σ' : Sg} {c : Nat} (h : RpL G B σ H c) (e1 : ∀ j, j < 8 → σ 21 (8 * c + j) = σ' 21 (8 * c + j)) (e2 : ∀ d, d < 3 → σ 22 (3 * c + d) = σ' 22 (3 * c + d) ∧ σ 23 (3 * c + d) = σ' 23 (3 * c + d) ∧ σ 24 (3 * c + d) = σ' 24 (3 * c + d)) : RpL G B σ' H c := by
  obtain ⟨h1, h2, h3, h4⟩ := h
  exact ⟨h1, at_ci h2 e1, h3, fun d hd => by rw [← (e2 d hd).1, ← (e2 d hd).2.1, ← (e2 d hd).2.2]; exact h4 d hd⟩
theorem RpW.tell {σ' : Sg} {c : Nat} (h : RpW G B D0 ea σ τ H c) (e7 : σ 7 c = σ' 7 c) (e5 : ∀ j, j < 60 → σ 5 (60 * c + j) = σ' 5 (60 * c + j) ∧ σ 6 (60 * c + j) = σ' 6 (60 * c + j)) : RpW G B D0 ea σ' τ H c := by
  obtain ⟨h1, w, h2, h3, h4, h5, h6, h7, h8⟩ := h
  refine ⟨by rw [← e7]; exact h1, w, by rw [← e7]; exact h2, h3, h4, h5, h6, h7, fun j hj => ?_⟩
  obtain ⟨g1, g2, g3⟩ := h8 j hj
  exact ⟨g1, g2, by rw [← (e5 j (by omega)).1, ← (e5 j (by omega)).2]; exact g3⟩
theorem RpD.tell {σ' : Sg} {d : Nat} (h : RpD G B σ H d) (e1 : σ 27 d = σ' 27 d) (e2 : ∀ j, j < 720 → σ 1 (720 * d + j) = σ' 1 (720 * d + j)) : RpD G B σ' H d :=
  ⟨by rw [← e1]; exact h.1, at_ci h.2 e2⟩
theorem RpC.tell {σ' : Sg} {c : Nat} (h : RpC G B D0 ea σ τ H c) (e0 : ctF B σ c = ctF B σ' c) (e3 : ∀ j, j < 24 → σ 3 (24 * c + j) = σ' 3 (24 * c + j)) (e1 : ∀ j, j < 8 → σ 21 (8 * c + j) = σ' 21 (8 * c + j)) (e2 : ∀ d, d < 3 → σ 22 (3 * c + d) = σ' 22 (3 * c + d) ∧ σ 23 (3 * c + d) = σ' 23 (3 * c + d) ∧ σ 24 (3 * c + d) = σ' 24 (3 * c + d)) (e7 : σ 7 c = σ' 7 c) (e5 : ∀ j, j < 60 → σ 5 (60 * c + j) = σ' 5 (60 * c + j) ∧ σ 6 (60 * c + j) = σ' 6 (60 * c + j)) : RpC G B D0 ea σ' τ H c := by
  obtain ⟨h1, h2, h3, h4⟩ := h
  exact ⟨by rw [← e0]; exact h1, at_ci h2 e3, h3.tell e1 e2, h4.tell e7 e5⟩
end KP
