/-! ===== what the component's constructors leave ===== -/
def DkI (G : Gx) (o z : Nat) (H : Heap) : Prop := va_at G.1 classes (o, .inr (1, [.int 1, .ref z])) H ∧ va_at G.1 classes (z, .inl (G.2 0, (720, .inl (fun _ => 0)))) H
def LbI (G : Gx) (o z : Nat) (H : Heap) : Prop := va_at G.1 classes (o, .inr (4, [.ref z, .ref (z + 1)])) H ∧ va_at G.1 classes (z, .inl (G.2 0, (8, .inl (fun _ => 3)))) H ∧ va_at G.1 classes (z + 1, .inl (G.2 5, (3, vq (fun j => some (z + 2 + j))))) H ∧ ∀ d, d < 3 → va_at G.1 classes (z + 2 + d, .inr (5, [.int (-1), .int 0, .int (-1)])) H
def CtI (G : Gx) (ea o z c : Nat) (H : Heap) : Prop := va_at G.1 classes (o, .inr (2, [.int (nI c), .ref z, .int 0, .ref (z + 1), .int 0, .int 0, .int 0, .ref (z + 2), .int 1, .int 0, .int 0, .int 0, .int 0, .int 0, .int 0, .int 0, .int 0])) H ∧ va_at G.1 classes (z, .inl (G.2 0, (24, .inl (fun _ => 0)))) H ∧ va_at G.1 classes (z + 1, .inr (3, [.ref ea, .int 0, .int 0])) H ∧ LbI G (z + 2) (z + 3) H
section KI
variable {G : Gx} {H H1 : Heap} {o z c ea : Nat}
theorem DkI.kept (h : DkI G o z H) (oq : ∀ q, q < H.size → (q = o ∨ q = z) → H1[q]? = H[q]?) : DkI G o z H1 := ⟨h.1.kept (oq _ h.1.lt (Or.inl rfl)), h.2.kept (oq _ h.2.lt (Or.inr rfl))⟩
theorem LbI.kept (h : LbI G o z H) (oq : ∀ q, q < H.size → (q = o ∨ (z ≤ q ∧ q < z + 5)) → H1[q]? = H[q]?) : LbI G o z H1 :=
  ⟨h.1.kept (oq _ h.1.lt (Or.inl rfl)), h.2.1.kept (oq _ h.2.1.lt (Or.inr ⟨Nat.le_refl _, by show z < z + 5; omega⟩)), h.2.2.1.kept (oq _ h.2.2.1.lt (Or.inr ⟨by show z ≤ z + 1; omega, by show z + 1 < z + 5; omega⟩)), fun d hd => (h.2.2.2 d hd).kept (oq _ (h.2.2.2 d hd).lt (Or.inr ⟨by show z ≤ z + 2 + d; omega, by show z + 2 + d < z + 5; omega⟩))⟩
theorem CtI.kept (h : CtI G ea o z c H) (oq : ∀ q, q < H.size → (q = o ∨ (z ≤ q ∧ q < z + 8)) → H1[q]? = H[q]?) : CtI G ea o z c H1 :=
  ⟨h.1.kept (oq _ h.1.lt (Or.inl rfl)), h.2.1.kept (oq _ h.2.1.lt (Or.inr ⟨Nat.le_refl _, by show z < z + 8; omega⟩)), h.2.2.1.kept (oq _ h.2.2.1.lt (Or.inr ⟨by show z ≤ z + 1; omega, by show z + 1 < z + 8; omega⟩)), h.2.2.2.kept (fun q g1 g2 => oq q g1 (Or.inr (by omega)))⟩
def iJ : Sg := fun a j => if a = 26 then 1 else if a = 27 then 1 else ini 24 9 a j
def t0 (ea : Nat) : Tt := (fun _ _ => 0, fun _ => ea, fun _ => 0, fun _ => 0, fun _ => 0)
theorem iJ_0 {a : Nat} (h1 : a ≠ 26) (h2 : a ≠ 27) (h3 : a ≠ 21) (h4 : a ≠ 22) (h5 : a ≠ 24) (j : Nat) : iJ a j = 0 := by simp [iJ, ini, h1, h2, h3, h4, h5]
theorem RpD.init {d : Nat} (h : DkI G (o + (2 + 2 * d)) (o + (3 + 2 * d)) H) : RpD G o iJ H d := by
  refine ⟨?_, at_ci h.2 (fun j _ => (iJ_0 (by decide) (by decide) (by decide) (by decide) (by decide) _).symm)⟩
  have : iJ 27 d = 1 := rfl
  rw [this]
  exact h.1
theorem RpC.init {D0 : Nat} (hc : c < 3) (h : CtI G ea (o + (9 + 9 * c)) (o + (10 + 9 * c)) c H) : RpC G o D0 ea iJ (t0 ea) H c := by
  obtain ⟨h1, h2, h3, h4, h5, h6, h7⟩ := h
  refine ⟨?_, at_ci h2 (fun j _ => (iJ_0 (by decide) (by decide) (by decide) (by decide) (by decide) _).symm), ⟨?_, ?_, ?_, ?_⟩, ?_, 0, ?_, Nat.zero_le _, Nat.zero_le _, Nat.zero_le _, fun _ => rfl, fun h => absurd h (Nat.lt_irrefl 0), fun j hj => absurd hj (Nat.not_lt_zero _)⟩
  · have e : ctF o iJ c = [.int (nI c), .ref (o + (10 + 9 * c)), .int 0, .ref (o + (10 + 9 * c) + 1), .int 0, .int 0, .int 0, .ref (o + (10 + 9 * c) + 2), .int 1, .int 0, .int 0, .int 0, .int 0, .int 0, .int 0, .int 0, .int 0] := by
      have e26 : iJ 26 c = 1 := rfl
      simp only [ctF, e26, iJ_0 (a := 4) (by decide) (by decide) (by decide) (by decide) (by decide), iJ_0 (a := 8) (by decide) (by decide) (by decide) (by decide) (by decide), iJ_0 (a := 9) (by decide) (by decide) (by decide) (by decide) (by decide), iJ_0 (a := 10) (by decide) (by decide) (by decide) (by decide) (by decide), iJ_0 (a := 13) (by decide) (by decide) (by decide) (by decide) (by decide), iJ_0 (a := 12) (by decide) (by decide) (by decide) (by decide) (by decide), iJ_0 (a := 14) (by decide) (by decide) (by decide) (by decide) (by decide), iJ_0 (a := 17) (by decide) (by decide) (by decide) (by decide) (by decide), iJ_0 (a := 25) (by decide) (by decide) (by decide) (by decide) (by decide), iJ_0 (a := 18) (by decide) (by decide) (by decide) (by decide) (by decide), iJ_0 (a := 19) (by decide) (by decide) (by decide) (by decide) (by decide), iJ_0 (a := 20) (by decide) (by decide) (by decide) (by decide) (by decide)]
      rw [show o + (11 + 9 * c) = o + (10 + 9 * c) + 1 from by omega, show o + (12 + 9 * c) = o + (10 + 9 * c) + 2 from by omega]
    rw [e]
    exact h1
  · rw [show o + (12 + 9 * c) = o + (10 + 9 * c) + 2 from by omega, show o + (13 + 9 * c) = o + (10 + 9 * c) + 3 from by omega, show o + (14 + 9 * c) = o + (10 + 9 * c) + 3 + 1 from by omega]
    exact h4
  · rw [show o + (13 + 9 * c) = o + (10 + 9 * c) + 3 from by omega]
    refine at_ci h5 (fun j hj => ?_)
    show (3 : Int32) = iJ 21 (8 * c + j)
    simp [iJ, ini, show 8 * c + j < 24 from by omega]
  · rw [show o + (14 + 9 * c) = o + (10 + 9 * c) + 3 + 1 from by omega]
    exact at_cq h6 (fun j hj => by rw [show o + (10 + 9 * c) + 3 + 2 + j = o + (15 + 9 * c + j) from by omega])
  · intro d hd
    have e22 : iJ 22 (3 * c + d) = -1 := by simp [iJ, ini, show 3 * c + d < 9 from by omega]
    have e24 : iJ 24 (3 * c + d) = -1 := by simp [iJ, ini, show 3 * c + d < 9 from by omega]
    rw [e22, e24, iJ_0 (a := 23) (by decide) (by decide) (by decide) (by decide) (by decide), show o + (15 + 9 * c + d) = o + (10 + 9 * c) + 3 + 2 + d from by omega]
    exact h7 d hd
  · rw [iJ_0 (a := 7) (by decide) (by decide) (by decide) (by decide) (by decide), show o + (11 + 9 * c) = o + (10 + 9 * c) + 1 from by omega]
    exact h3
  · exact iJ_0 (a := 7) (by decide) (by decide) (by decide) (by decide) (by decide) c
end KI
