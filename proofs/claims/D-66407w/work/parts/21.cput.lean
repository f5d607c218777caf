/-! ===== the component's cells behind a store ===== -/
def okA (a f : Nat) : Prop := (∀ (B : Nat) (σ : Sg) (c : Nat) (v : Int32), (ctF B σ c).set f (.int v) = ctF B (up2 σ a c v) c) ∧ (∀ (B : Nat) (σ : Sg) (c c' : Nat) (v : Int32), c' ≠ c → ctF B σ c' = ctF B (up2 σ a c v) c') ∧ 1 ≠ a ∧ 3 ≠ a ∧ 5 ≠ a ∧ 6 ≠ a ∧ 7 ≠ a ∧ 21 ≠ a ∧ 22 ≠ a ∧ 23 ≠ a ∧ 24 ≠ a ∧ 27 ≠ a ∧ f < 17
theorem okA_of {a f : Nat} (h1 : ∀ (B : Nat) (σ : Sg) (c : Nat) (v : Int32), (ctF B σ c).set f (.int v) = ctF B (up2 σ a c v) c) (h2 : 1 ≠ a ∧ 3 ≠ a ∧ 5 ≠ a ∧ 6 ≠ a ∧ 7 ≠ a ∧ 21 ≠ a ∧ 22 ≠ a ∧ 23 ≠ a ∧ 24 ≠ a ∧ 27 ≠ a ∧ f < 17) : okA a f := by
  refine ⟨h1, fun B σ c c' v hc => ?_, h2⟩
  have e : ∀ k, up2 σ a c v k c' = σ k c' := by
    intro k
    by_cases hk : k = a
    · subst hk; rw [u2_j hc]
    · rw [u2_n hk]
  simp only [ctF, e]
theorem okA_4 : okA 4 2 := okA_of (fun B σ c v => by simp [ctF, up2, upd]) (by decide)
theorem okA_8 : okA 8 4 := okA_of (fun B σ c v => by simp [ctF, up2, upd]) (by decide)
theorem okA_9 : okA 9 5 := okA_of (fun B σ c v => by simp [ctF, up2, upd]) (by decide)
theorem okA_10 : okA 10 6 := okA_of (fun B σ c v => by simp [ctF, up2, upd]) (by decide)
theorem okA_26 : okA 26 8 := okA_of (fun B σ c v => by simp [ctF, up2, upd]) (by decide)
theorem okA_13 : okA 13 9 := okA_of (fun B σ c v => by simp [ctF, up2, upd]) (by decide)
theorem okA_12 : okA 12 10 := okA_of (fun B σ c v => by simp [ctF, up2, upd]) (by decide)
theorem okA_14 : okA 14 11 := okA_of (fun B σ c v => by simp [ctF, up2, upd]) (by decide)
theorem okA_17 : okA 17 12 := okA_of (fun B σ c v => by simp [ctF, up2, upd]) (by decide)
theorem okA_25 : okA 25 13 := okA_of (fun B σ c v => by simp [ctF, up2, upd]) (by decide)
theorem okA_18 : okA 18 14 := okA_of (fun B σ c v => by simp [ctF, up2, upd]) (by decide)
theorem okA_19 : okA 19 15 := okA_of (fun B σ c v => by simp [ctF, up2, upd]) (by decide)
theorem okA_20 : okA 20 16 := okA_of (fun B σ c v => by simp [ctF, up2, upd]) (by decide)
section PU
variable {G : Gx} {B D0 ea : Nat} {σ : Sg} {τ : Tt} {H H1 : Heap}
theorem RepC.pct {a f c : Nat} {v : Int32} (ok : okA a f) (h : RepC G B D0 ea σ τ H) (hc : c < 3) (hat : va_at G.1 classes (B + (9 + 9 * c), .inr (2, (ctF B σ c).set f (.int v))) H1) (oq : ∀ q, q ≠ B + (9 + 9 * c) → H1[q]? = H[q]?) : RepC G B D0 ea (up2 σ a c v) τ H1 := by
  obtain ⟨k1, k2, n1, n3, n5, n6, n7, n21, n22, n23, n24, n27, -⟩ := ok
  obtain ⟨h1, h2, h3, h4⟩ := h
  refine ⟨h1, h2.kept (fun q _ g => oq q (by omega)), fun d hd => ((h3 d hd).kept (fun q _ g => oq q (by omega))).tell (by rw [u2_n n27]) (fun j _ => by rw [u2_n n1]), fun c' hc' => ?_⟩
  have E1 : ∀ j, j < 8 → σ 21 (8 * c' + j) = up2 σ a c v 21 (8 * c' + j) := fun j _ => by rw [u2_n n21]
  have E2 : ∀ d, d < 3 → σ 22 (3 * c' + d) = up2 σ a c v 22 (3 * c' + d) ∧ σ 23 (3 * c' + d) = up2 σ a c v 23 (3 * c' + d) ∧ σ 24 (3 * c' + d) = up2 σ a c v 24 (3 * c' + d) := fun d _ => by rw [u2_n n22, u2_n n23, u2_n n24]; exact ⟨rfl, rfl, rfl⟩
  have E5 : ∀ j, j < 60 → σ 5 (60 * c' + j) = up2 σ a c v 5 (60 * c' + j) ∧ σ 6 (60 * c' + j) = up2 σ a c v 6 (60 * c' + j) := fun j _ => by rw [u2_n n5, u2_n n6]; exact ⟨rfl, rfl⟩
  by_cases hcc : c' = c
  · subst hcc
    obtain ⟨g1, g2, g3, g4⟩ := h4 c' hc
    exact ⟨by rw [← k1]; exact hat, at_ci (g2.kept (oq _ (by omega))) (fun j _ => by rw [u2_n n3]), (g3.kept (fun q _ a1 a2 => oq q (by omega))).tell E1 E2, (g4.kept (fun q _ g => oq q (by omega))).tell (by rw [u2_n n7]) E5⟩
  · exact ((h4 c' hc').kept (fun q _ g => oq q (by omega))).tell (k2 B σ c c' v hcc) (fun j _ => by rw [u2_n n3]) E1 E2 (by rw [u2_n n7]) E5
theorem ctF_eq {σ' : Sg} {c : Nat} (h : ∀ k, k ≠ 1 → k ≠ 3 → k ≠ 5 → k ≠ 6 → k ≠ 7 → k ≠ 21 → k ≠ 22 → k ≠ 23 → k ≠ 24 → k ≠ 27 → σ k = σ' k) : ctF B σ c = ctF B σ' c := by
  simp only [ctF, h 4 (by decide) (by decide) (by decide) (by decide) (by decide) (by decide) (by decide) (by decide) (by decide) (by decide), h 8 (by decide) (by decide) (by decide) (by decide) (by decide) (by decide) (by decide) (by decide) (by decide) (by decide), h 9 (by decide) (by decide) (by decide) (by decide) (by decide) (by decide) (by decide) (by decide) (by decide) (by decide), h 10 (by decide) (by decide) (by decide) (by decide) (by decide) (by decide) (by decide) (by decide) (by decide) (by decide), h 26 (by decide) (by decide) (by decide) (by decide) (by decide) (by decide) (by decide) (by decide) (by decide) (by decide), h 13 (by decide) (by decide) (by decide) (by decide) (by decide) (by decide) (by decide) (by decide) (by decide) (by decide), h 12 (by decide) (by decide) (by decide) (by decide) (by decide) (by decide) (by decide) (by decide) (by decide) (by decide), h 14 (by decide) (by decide) (by decide) (by decide) (by decide) (by decide) (by decide) (by decide) (by decide) (by decide), h 17 (by decide) (by decide) (by decide) (by decide) (by decide) (by decide) (by decide) (by decide) (by decide) (by decide), h 25 (by decide) (by decide) (by decide) (by decide) (by decide) (by decide) (by decide) (by decide) (by decide) (by decide), h 18 (by decide) (by decide) (by decide) (by decide) (by decide) (by decide) (by decide) (by decide) (by decide) (by decide), h 19 (by decide) (by decide) (by decide) (by decide) (by decide) (by decide) (by decide) (by decide) (by decide) (by decide), h 20 (by decide) (by decide) (by decide) (by decide) (by decide) (by decide) (by decide) (by decide) (by decide) (by decide)]
/-- an array id that the controllers' fields don't know: their cells are as told before -/
theorem ctF_up {a i c : Nat} {v : Int32} (ha : a = 1 ∨ a = 3 ∨ a = 5 ∨ a = 6 ∨ a = 7 ∨ a = 21 ∨ a = 22 ∨ a = 23 ∨ a = 24 ∨ a = 27) : ctF B σ c = ctF B (up2 σ a i v) c :=
  ctF_eq (fun k h1 h2 h3 h4 h5 h6 h7 h8 h9 h10 => by rw [u2_n (by omega)])
theorem RpC.up {a i c : Nat} {v : Int32} (h : RpC G B D0 ea σ τ H c) (ha : a = 1 ∨ a = 27) : RpC G B D0 ea (up2 σ a i v) τ H c :=
  h.tell (ctF_up (by omega)) (fun j _ => by rw [u2_n (by omega)]) (fun j _ => by rw [u2_n (by omega)]) (fun d _ => by rw [u2_n (by omega), u2_n (by omega), u2_n (by omega)]; exact ⟨rfl, rfl, rfl⟩) (by rw [u2_n (by omega)]) (fun j _ => by rw [u2_n (by omega), u2_n (by omega)]; exact ⟨rfl, rfl⟩)
theorem RepC.pwk {d : Nat} {v : Int32} (h : RepC G B D0 ea σ τ H) (hd : d < 3) (hat : va_at G.1 classes (B + (2 + 2 * d), .inr (1, [.int v, .ref (B + (3 + 2 * d))])) H1) (oq : ∀ q, q ≠ B + (2 + 2 * d) → H1[q]? = H[q]?) : RepC G B D0 ea (up2 σ 27 d v) τ H1 := by
  obtain ⟨h1, h2, h3, h4⟩ := h
  refine ⟨h1, h2.kept (fun q _ g => oq q (by omega)), fun d' hd' => ?_, fun c hc => ((h4 c hc).kept (fun q _ g => oq q (by omega))).up (Or.inr rfl)⟩
  by_cases he : d' = d
  · subst he
    exact ⟨by rw [u2_s]; exact hat, at_ci ((h3 d' hd).2.kept (oq _ (by omega))) (fun j _ => by rw [u2_n (by decide)])⟩
  · exact ((h3 d' hd').kept (fun q _ g => oq q (by omega))).tell (by rw [u2_j he]) (fun j _ => by rw [u2_n (by decide)])
theorem RepC.pwd {d j : Nat} {v : Int32} (h : RepC G B D0 ea σ τ H) (hd : d < 3) (hj : j < 720) (hat : va_at G.1 classes (B + (3 + 2 * d), .inl (G.2 0, (720, .inl (upd (fun i => σ 1 (720 * d + i)) j v)))) H1) (oq : ∀ q, q ≠ B + (3 + 2 * d) → H1[q]? = H[q]?) : RepC G B D0 ea (up2 σ 1 (720 * d + j) v) τ H1 := by
  obtain ⟨h1, h2, h3, h4⟩ := h
  refine ⟨h1, h2.kept (fun q _ g => oq q (by omega)), fun d' hd' => ?_, fun c hc => ((h4 c hc).kept (fun q _ g => oq q (by omega))).up (Or.inl rfl)⟩
  by_cases he : d' = d
  · subst he
    refine ⟨by rw [u2_n (by decide)]; exact (h3 d' hd).1.kept (oq _ (by omega)), at_ci hat (fun i _ => ?_)⟩
    by_cases hi : i = j
    · subst hi; rw [u2_s]; simp [upd]
    · rw [u2_j (by omega)]; simp [upd, hi]
  · exact ((h3 d' hd').kept (fun q _ g => oq q (by omega))).tell (by rw [u2_n (by decide)]) (fun i hi => by rw [u2_j (by omega)])
theorem RepC.plg {c j : Nat} {v : Int32} (h : RepC G B D0 ea σ τ H) (hc : c < 3) (hj : j < 24) (hat : va_at G.1 classes (B + (10 + 9 * c), .inl (G.2 0, (24, .inl (upd (fun i => σ 3 (24 * c + i)) j v)))) H1) (oq : ∀ q, q ≠ B + (10 + 9 * c) → H1[q]? = H[q]?) : RepC G B D0 ea (up2 σ 3 (24 * c + j) v) τ H1 := by
  obtain ⟨h1, h2, h3, h4⟩ := h
  have E1 : ∀ c' j', j' < 8 → σ 21 (8 * c' + j') = up2 σ 3 (24 * c + j) v 21 (8 * c' + j') := fun _ j _ => by rw [u2_n (by decide)]
  have E2 : ∀ c' d, d < 3 → σ 22 (3 * c' + d) = up2 σ 3 (24 * c + j) v 22 (3 * c' + d) ∧ σ 23 (3 * c' + d) = up2 σ 3 (24 * c + j) v 23 (3 * c' + d) ∧ σ 24 (3 * c' + d) = up2 σ 3 (24 * c + j) v 24 (3 * c' + d) := fun _ d _ => by rw [u2_n (by decide), u2_n (by decide), u2_n (by decide)]; exact ⟨rfl, rfl, rfl⟩
  have E5 : ∀ c' j', j' < 60 → σ 5 (60 * c' + j') = up2 σ 3 (24 * c + j) v 5 (60 * c' + j') ∧ σ 6 (60 * c' + j') = up2 σ 3 (24 * c + j) v 6 (60 * c' + j') := fun _ j _ => by rw [u2_n (by decide), u2_n (by decide)]; exact ⟨rfl, rfl⟩
  refine ⟨h1, h2.kept (fun q _ g => oq q (by omega)), fun d hd => ((h3 d hd).kept (fun q _ g => oq q (by omega))).tell (by rw [u2_n (by decide)]) (fun j _ => by rw [u2_n (by decide)]), fun c' hc' => ?_⟩
  by_cases he : c' = c
  · subst he
    obtain ⟨g1, g2, g3, g4⟩ := h4 c' hc
    refine ⟨by rw [← ctF_up (by omega)]; exact g1.kept (oq _ (by omega)), at_ci hat (fun i _ => ?_), (g3.kept (fun q _ a1 a2 => oq q (by omega))).tell (E1 c') (E2 c'), (g4.kept (fun q _ g => oq q (by omega))).tell (by rw [u2_n (by decide)]) (E5 c')⟩
    by_cases hi : i = j
    · subst hi; rw [u2_s]; simp [upd]
    · rw [u2_j (by omega)]; simp [upd, hi]
  · exact ((h4 c' hc').kept (fun q _ g => oq q (by omega))).tell (ctF_up (by omega)) (fun i hi => by rw [u2_j (by omega)]) (E1 c') (E2 c') (by rw [u2_n (by decide)]) (E5 c')
/-- a store in the library -/
theorem RepC.plb {σ' : Sg} {c : Nat} (h : RepC G B D0 ea σ τ H) (hc : c < 3) (hL : RpL G B σ' H1 c) (oq : ∀ q, (q < B + (12 + 9 * c) ∨ B + (18 + 9 * c) ≤ q) → H1[q]? = H[q]?) (e0 : ∀ k, k ≠ 21 → k ≠ 22 → k ≠ 23 → k ≠ 24 → σ k = σ' k)
    (e1 : ∀ c' j, c' ≠ c → j < 8 → σ 21 (8 * c' + j) = σ' 21 (8 * c' + j)) (e2 : ∀ c' d, c' ≠ c → d < 3 → σ 22 (3 * c' + d) = σ' 22 (3 * c' + d) ∧ σ 23 (3 * c' + d) = σ' 23 (3 * c' + d) ∧ σ 24 (3 * c' + d) = σ' 24 (3 * c' + d)) : RepC G B D0 ea σ' τ H1 := by
  obtain ⟨h1, h2, h3, h4⟩ := h
  have E0 : ∀ c', ctF B σ c' = ctF B σ' c' := fun c' => ctF_eq (fun k _ _ _ _ _ a1 a2 a3 a4 _ => e0 k a1 a2 a3 a4)
  have E5 : ∀ c' j', j' < 60 → σ 5 (60 * c' + j') = σ' 5 (60 * c' + j') ∧ σ 6 (60 * c' + j') = σ' 6 (60 * c' + j') := fun _ j _ => by rw [e0 5 (by decide) (by decide) (by decide) (by decide), e0 6 (by decide) (by decide) (by decide) (by decide)]; exact ⟨rfl, rfl⟩
  refine ⟨h1, h2.kept (fun q _ g => oq q (by omega)), fun d hd => ((h3 d hd).kept (fun q _ g => oq q (by omega))).tell (by rw [e0 27 (by decide) (by decide) (by decide) (by decide)]) (fun j _ => by rw [e0 1 (by decide) (by decide) (by decide) (by decide)]), fun c' hc' => ?_⟩
  by_cases he : c' = c
  · subst he
    obtain ⟨g1, g2, g3, g4⟩ := h4 c' hc
    exact ⟨by rw [← E0]; exact g1.kept (oq _ (by omega)), at_ci (g2.kept (oq _ (by omega))) (fun i _ => by rw [e0 3 (by decide) (by decide) (by decide) (by decide)]), hL, (g4.kept (fun q _ g => oq q (by omega))).tell (by rw [e0 7 (by decide) (by decide) (by decide) (by decide)]) (E5 c')⟩
  · exact ((h4 c' hc').kept (fun q _ g => oq q (by omega))).tell (E0 c') (fun i hi => by rw [e0 3 (by decide) (by decide) (by decide) (by decide)]) (fun j hj => e1 c' j he hj) (fun d hd => e2 c' d he hd) (by rw [e0 7 (by decide) (by decide) (by decide) (by decide)]) (E5 c')
theorem RepC.pwh {c j : Nat} {v : Int32} (h : RepC G B D0 ea σ τ H) (hc : c < 3) (hj : j < 8) (hat : va_at G.1 classes (B + (13 + 9 * c), .inl (G.2 0, (8, .inl (upd (fun i => σ 21 (8 * c + i)) j v)))) H1) (oq : ∀ q, q ≠ B + (13 + 9 * c) → H1[q]? = H[q]?) : RepC G B D0 ea (up2 σ 21 (8 * c + j) v) τ H1 := by
  refine h.plb hc ?_ (fun q g => oq q (by omega)) (fun k a1 a2 a3 a4 => by rw [u2_n a1]) (fun c' i hcc hi => by rw [u2_j (by omega)]) (fun c' d _ _ => by rw [u2_n (by decide), u2_n (by decide), u2_n (by decide)]; exact ⟨rfl, rfl, rfl⟩)
  obtain ⟨g1, g2, g3, g4⟩ := (h.2.2.2 c hc).2.2.1
  refine ⟨g1.kept (oq _ (by omega)), at_ci hat (fun i _ => ?_), g3.kept (oq _ (by omega)), fun d hd => ?_⟩
  · by_cases hi : i = j
    · subst hi; rw [u2_s]; simp [upd]
    · rw [u2_j (by omega)]; simp [upd, hi]
  · rw [u2_n (by decide), u2_n (by decide), u2_n (by decide)]
    exact (g4 d hd).kept (oq _ (by omega))
theorem RepC.pdr {c d f a : Nat} {v : Int32} (h : RepC G B D0 ea σ τ H) (hc : c < 3) (hd : d < 3) (ha : (f = 0 ∧ a = 22) ∨ (f = 1 ∧ a = 23) ∨ (f = 2 ∧ a = 24)) (hat : va_at G.1 classes (B + (15 + 9 * c + d), .inr (5, [.int (σ 22 (3 * c + d)), .int (σ 23 (3 * c + d)), .int (σ 24 (3 * c + d))].set f (.int v))) H1) (oq : ∀ q, q ≠ B + (15 + 9 * c + d) → H1[q]? = H[q]?) : RepC G B D0 ea (up2 σ a (3 * c + d) v) τ H1 := by
  refine h.plb hc ?_ (fun q g => oq q (by omega)) (fun k a1 a2 a3 a4 => by rw [u2_n (by omega)]) (fun c' i hcc hi => by rw [u2_n (by omega)]) (fun c' e hcc he => ?_)
  · obtain ⟨g1, g2, g3, g4⟩ := (h.2.2.2 c hc).2.2.1
    refine ⟨g1.kept (oq _ (by omega)), at_ci (g2.kept (oq _ (by omega))) (fun i _ => by rw [u2_n (by omega)]), g3.kept (oq _ (by omega)), fun e he => ?_⟩
    by_cases hde : e = d
    · subst hde
      rcases ha with ⟨rfl, rfl⟩ | ⟨rfl, rfl⟩ | ⟨rfl, rfl⟩
      · rw [u2_s, u2_n (by decide), u2_n (by decide)]; exact hat
      · rw [u2_s, u2_n (by decide), u2_n (by decide)]; exact hat
      · rw [u2_s, u2_n (by decide), u2_n (by decide)]; exact hat
    · have E : ∀ k, up2 σ a (3 * c + d) v k (3 * c + e) = σ k (3 * c + e) := fun k => by
        by_cases hk : k = a
        · subst hk; rw [u2_j (by omega)]
        · rw [u2_n hk]
      rw [E, E, E]
      exact (g4 e he).kept (oq _ (by omega))
  · have E : ∀ k, up2 σ a (3 * c + d) v k (3 * c' + e) = σ k (3 * c' + e) := fun k => by
      by_cases hk : k = a
      · subst hk; rw [u2_j (by omega)]
      · rw [u2_n hk]
    rw [E, E, E]
    exact ⟨rfl, rfl, rfl⟩
/-- a store in a wish -/
theorem RepC.pwo {c j w : Nat} {v : Int32} (h : RepC G B D0 ea σ τ H) (hc : c < 3) (hw : σ 7 c = nI w) (hw6 : w ≤ 60) (hj : j < w) (hat : va_at G.1 classes (τ.1 c j, .inr (6, [.int (σ 5 (60 * c + j)), .int v])) H1) (oq : ∀ q, q ≠ τ.1 c j → H1[q]? = H[q]?) : RepC G B D0 ea (up2 σ 6 (60 * c + j) v) τ H1 := by
  obtain ⟨h1, h2, h3, h4⟩ := h
  have hD : D0 ≤ τ.1 c j ∧ τ.2.2.2.2 (τ.1 c j) = 3 + 3 * j + c := by
    obtain ⟨-, w', a1, a2, a3, a4, a5, a6, a7⟩ := (h4 c hc).2.2.2
    have hww : w' = w := (nI_eq (by omega) (by omega)).mp (a1.symm.trans hw)
    subst hww
    exact ⟨(a7 j hj).1, (a7 j hj).2.1⟩
  refine ⟨h1, h2.kept (fun q _ g => oq q (by omega)), fun d hd => ((h3 d hd).kept (fun q _ g => oq q (by omega))).tell (by rw [u2_n (by decide)]) (fun j _ => by rw [u2_n (by decide)]), fun c' hc' => ?_⟩
  obtain ⟨g1, g2, g3, g4, w', a1, a2, a3, a4, a5, a6, a7⟩ := h4 c' hc'
  refine ⟨by rw [← ctF_up (by omega)]; exact g1.kept (oq _ (by omega)), at_ci (g2.kept (oq _ (by omega))) (fun i _ => by rw [u2_n (by decide)]), (g3.kept (fun q _ b1 b2 => oq q (by omega))).tell (fun j _ => by rw [u2_n (by decide)]) (fun d _ => by rw [u2_n (by decide), u2_n (by decide), u2_n (by decide)]; exact ⟨rfl, rfl, rfl⟩), by rw [u2_n (by decide)]; exact g4.kept (oq _ (by omega)), w', by rw [u2_n (by decide)]; exact a1, a2, a3, a4, a5, fun hcp => ?_, fun i hi => ?_⟩
  · obtain ⟨b1, b2, b3⟩ := a6 hcp
    exact ⟨b1, b2, b3.kept (oq _ (fun e => by have e : τ.2.1 c' = τ.1 c j := e; rw [e] at b2; omega))⟩
  · obtain ⟨b1, b2, b3⟩ := a7 i hi
    refine ⟨b1, b2, ?_⟩
    by_cases he : c' = c ∧ i = j
    · obtain ⟨rfl, rfl⟩ := he
      rw [u2_s, u2_n (by decide)]
      exact hat
    · rw [u2_n (by decide), u2_j (by omega)]
      exact b3.kept (oq _ (fun e => by have e : τ.1 c' i = τ.1 c j := e; rw [e] at b2; omega))
end PU
