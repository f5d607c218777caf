/-! ===== one more wish ===== -/
def waC (σ : Sg) (c w : Nat) (e : Int32) : Sg := up2 (up2 (up2 σ 5 (60 * c + w) e) 6 (60 * c + w) 0) 7 c (nI (w + 1))
def tAdd (τ : Tt) (c w y arr cap : Nat) (mo : Int32) : Tt := (fun c' j => if c' = c ∧ j = w then y else τ.1 c' j, fun c' => if c' = c then arr else τ.2.1 c', fun c' => if c' = c then cap else τ.2.2.1 c', fun c' => if c' = c then mo else τ.2.2.2.1 c', fun q => if q = y then 3 + 3 * w + c else if q = arr then c else τ.2.2.2.2 q)
theorem waC_ne {σ : Sg} {c w : Nat} {e : Int32} {k : Nat} (h5 : k ≠ 5) (h6 : k ≠ 6) (h7 : k ≠ 7) : waC σ c w e k = σ k := by unfold waC; rw [u2_n h7, u2_n h6, u2_n h5]
theorem RepC.addw {G : Gx} {B D0 ea : Nat} {σ : Sg} {τ : Tt} {H0 H1 : Heap} {c w y arr cap : Nat} {mo e : Int32} {f : Nat → Option Nat} (h : RepC G B D0 ea σ τ H0) (hc : c < 3) (hw : σ 7 c = nI w) (hw6 : w < 60) (hD : D0 ≤ H0.size) (hy : H0.size ≤ y) (hya : arr ≠ y) (ha : H0.size ≤ arr ∨ (arr = τ.2.1 c ∧ 0 < τ.2.2.1 c))
    (hAl : va_at G.1 classes (B + (11 + 9 * c), .inr (3, [.ref arr, .int (nI (w + 1)), .int mo])) H1) (hAr : va_at G.1 classes (arr, .inl (G.2 6, (cap, vq f))) H1) (hf : ∀ j, j < cap → f j = if j < w then some (τ.1 c j) else if j = w then some y else none) (hwc : w + 1 ≤ cap) (hc2 : cap ≤ 200) (hY : va_at G.1 classes (y, .inr (6, [.int e, .int 0])) H1)
    (oq : ∀ q, q < H0.size → q ≠ B + (11 + 9 * c) → (q ≠ τ.2.1 c ∨ τ.2.2.1 c = 0) → H1[q]? = H0[q]?) : RepC G B D0 ea (waC σ c w e) (tAdd τ c w y arr cap mo) H1 := by
  obtain ⟨h1, h2, h3, h4⟩ := h
  have hed : 0 < τ.2.2.1 c → D0 ≤ τ.2.1 c ∧ τ.2.2.2.2 (τ.2.1 c) = c := by
    intro hp
    obtain ⟨-, w', a1, a2, a3, a4, a5, a6, a7⟩ := (h4 c hc).2.2.2
    exact ⟨(a6 hp).1, (a6 hp).2.1⟩
  have low : ∀ q, q < H0.size → q < D0 → q ≠ B + (11 + 9 * c) → H1[q]? = H0[q]? := by
    intro q g1 g2 g3
    refine oq q g1 g3 ?_
    rcases Nat.eq_zero_or_pos (τ.2.2.1 c) with z | z
    · exact Or.inr z
    · exact Or.inl (by have := (hed z).1; omega)
  have high : ∀ q, q < H0.size → D0 ≤ q → τ.2.2.2.2 q ≠ c → H1[q]? = H0[q]? := by
    intro q g1 g2 g3
    refine oq q g1 (by omega) ?_
    rcases Nat.eq_zero_or_pos (τ.2.2.1 c) with z | z
    · exact Or.inr z
    · exact Or.inl (fun e => g3 (by rw [e]; exact (hed z).2))
  have tag : ∀ q, q < H0.size → τ.2.2.2.2 q ≠ c → (tAdd τ c w y arr cap mo).2.2.2.2 q = τ.2.2.2.2 q := by
    intro q g1 g3
    show (if q = y then _ else if q = arr then c else τ.2.2.2.2 q) = _
    rw [if_neg (by omega), if_neg]
    intro e
    rcases ha with ha | ⟨ha, hp⟩
    · omega
    · exact g3 (by rw [e, ha]; exact (hed hp).2)
  refine ⟨h1, h2.kept (fun q g1 g2 => low q g1 (by omega) (by omega)), fun d hd => ((h3 d hd).kept (fun q g1 g2 => low q g1 (by omega) (by omega))).tell (by rw [waC_ne (by decide) (by decide) (by decide)]) (fun j _ => by rw [waC_ne (by decide) (by decide) (by decide)]), fun c' hc' => ?_⟩
  obtain ⟨k1, k2, k3, k4⟩ := h4 c' hc'
  have k3' := k3.kept (H1 := H1) (fun q g1 g2 g3 => low q g1 (by omega) (by omega))
  refine ⟨?_, at_ci (k2.kept (low _ k2.lt (by show B + _ < D0; omega) (by show B + _ ≠ _; omega))) (fun j _ => by rw [waC_ne (by decide) (by decide) (by decide)]), k3'.tell (fun j _ => by rw [waC_ne (by decide) (by decide) (by decide)]) (fun d _ => by rw [waC_ne (by decide) (by decide) (by decide), waC_ne (by decide) (by decide) (by decide), waC_ne (by decide) (by decide) (by decide)]; exact ⟨rfl, rfl, rfl⟩), ?_⟩
  · have e0 : ctF B (waC σ c w e) c' = ctF B σ c' := by
      simp only [ctF, waC_ne (σ := σ) (c := c) (w := w) (e := e) (k := 4) (by decide) (by decide) (by decide), waC_ne (σ := σ) (c := c) (w := w) (e := e) (k := 8) (by decide) (by decide) (by decide), waC_ne (σ := σ) (c := c) (w := w) (e := e) (k := 9) (by decide) (by decide) (by decide), waC_ne (σ := σ) (c := c) (w := w) (e := e) (k := 10) (by decide) (by decide) (by decide), waC_ne (σ := σ) (c := c) (w := w) (e := e) (k := 26) (by decide) (by decide) (by decide), waC_ne (σ := σ) (c := c) (w := w) (e := e) (k := 13) (by decide) (by decide) (by decide), waC_ne (σ := σ) (c := c) (w := w) (e := e) (k := 12) (by decide) (by decide) (by decide), waC_ne (σ := σ) (c := c) (w := w) (e := e) (k := 14) (by decide) (by decide) (by decide), waC_ne (σ := σ) (c := c) (w := w) (e := e) (k := 17) (by decide) (by decide) (by decide), waC_ne (σ := σ) (c := c) (w := w) (e := e) (k := 25) (by decide) (by decide) (by decide), waC_ne (σ := σ) (c := c) (w := w) (e := e) (k := 18) (by decide) (by decide) (by decide), waC_ne (σ := σ) (c := c) (w := w) (e := e) (k := 19) (by decide) (by decide) (by decide), waC_ne (σ := σ) (c := c) (w := w) (e := e) (k := 20) (by decide) (by decide) (by decide)]
    rw [e0]
    exact k1.kept (low _ k1.lt (by show B + _ < D0; omega) (by show B + _ ≠ _; omega))
  · obtain ⟨b1, w', b2, b3, b4, b5, b6, b7, b8⟩ := k4
    by_cases hcc : c' = c
    · subst hcc
      have hww : w' = w := (nI_eq (by omega) (by omega)).mp (b2.symm.trans hw)
      subst hww
      have t2 : (tAdd τ c' w' y arr cap mo).2.1 c' = arr := if_pos rfl
      have t3 : (tAdd τ c' w' y arr cap mo).2.2.1 c' = cap := if_pos rfl
      have t4 : (tAdd τ c' w' y arr cap mo).2.2.2.1 c' = mo := if_pos rfl
      have s7 : waC σ c' w' e 7 c' = nI (w' + 1) := u2_s
      unfold RpW
      rw [t2, t3, t4, s7]
      refine ⟨hAl, w' + 1, rfl, hwc, by omega, hc2, fun z => by omega, fun _ => ⟨?_, ?_, ?_⟩, fun j hj => ?_⟩
      · rcases ha with ha | ⟨ha, hp⟩
        · omega
        · rw [ha]; exact (hed hp).1
      · show (if arr = y then _ else if arr = arr then c' else τ.2.2.2.2 arr) = c'
        rw [if_neg hya, if_pos rfl]
      · refine at_cq hAr (fun j hj => ?_)
        rw [hf j hj]
        show _ = if j < w' + 1 then some (if c' = c' ∧ j = w' then y else τ.1 c' j) else none
        by_cases g1 : j < w'
        · rw [if_pos g1, if_pos (by omega), if_neg (by omega)]
        · rw [if_neg g1]
          by_cases g2 : j = w'
          · rw [if_pos g2, if_pos (by omega), if_pos ⟨rfl, g2⟩]
          · rw [if_neg g2, if_neg (by omega)]
      · by_cases g2 : j = w'
        · subst g2
          have t1 : (tAdd τ c' j y arr cap mo).1 c' j = y := if_pos ⟨rfl, rfl⟩
          rw [t1]
          refine ⟨by omega, if_pos rfl, ?_⟩
          have s5 : waC σ c' j e 5 (60 * c' + j) = e := by unfold waC; rw [u2_n (by decide), u2_n (by decide), u2_s]
          have s6 : waC σ c' j e 6 (60 * c' + j) = 0 := by unfold waC; rw [u2_n (by decide), u2_s]
          rw [s5, s6]
          exact hY
        · have t1 : (tAdd τ c' w' y arr cap mo).1 c' j = τ.1 c' j := if_neg (fun z => g2 z.2)
          obtain ⟨d1, d2, d3⟩ := b8 j (by omega)
          rw [t1, tag _ d3.lt (by show τ.2.2.2.2 (τ.1 c' j) ≠ c'; omega)]
          refine ⟨d1, d2, ?_⟩
          have s5 : waC σ c' w' e 5 (60 * c' + j) = σ 5 (60 * c' + j) := by unfold waC; rw [u2_n (by decide), u2_n (by decide), u2_j (by omega)]
          have s6 : waC σ c' w' e 6 (60 * c' + j) = σ 6 (60 * c' + j) := by unfold waC; rw [u2_n (by decide), u2_j (by omega), u2_n (by decide)]
          rw [s5, s6]
          exact d3.kept (high _ d3.lt d1 (by show τ.2.2.2.2 (τ.1 c' j) ≠ c'; omega))
    · have t2 : (tAdd τ c w y arr cap mo).2.1 c' = τ.2.1 c' := if_neg hcc
      have t3 : (tAdd τ c w y arr cap mo).2.2.1 c' = τ.2.2.1 c' := if_neg hcc
      have t4 : (tAdd τ c w y arr cap mo).2.2.2.1 c' = τ.2.2.2.1 c' := if_neg hcc
      have s7 : waC σ c w e 7 c' = σ 7 c' := by unfold waC; rw [u2_j hcc, u2_n (by decide), u2_n (by decide)]
      have hws : wsF (tAdd τ c w y arr cap mo) c' w' = wsF τ c' w' := by
        funext j
        show (if j < w' then some (if c' = c ∧ j = w then y else τ.1 c' j) else none) = _
        rw [show (if c' = c ∧ j = w then y else τ.1 c' j) = τ.1 c' j from if_neg (fun z => hcc z.1)]
        rfl
      unfold RpW
      rw [t2, t3, t4, s7]
      refine ⟨b1.kept (low _ b1.lt (by show B + _ < D0; omega) (by show B + _ ≠ _; omega)), w', b2, b3, b4, b5, b6, fun hp => ?_, fun j hj => ?_⟩
      · obtain ⟨d1, d2, d3⟩ := b7 hp
        rw [tag _ d3.lt (by show τ.2.2.2.2 (τ.2.1 c') ≠ c; omega), hws]
        exact ⟨d1, d2, d3.kept (high _ d3.lt d1 (by show τ.2.2.2.2 (τ.2.1 c') ≠ c; omega))⟩
      · have t1 : (tAdd τ c w y arr cap mo).1 c' j = τ.1 c' j := if_neg (fun z => hcc z.1)
        obtain ⟨d1, d2, d3⟩ := b8 j hj
        rw [t1, tag _ d3.lt (by show τ.2.2.2.2 (τ.1 c' j) ≠ c; omega)]
        refine ⟨d1, d2, ?_⟩
        have s5 : waC σ c w e 5 (60 * c' + j) = σ 5 (60 * c' + j) := by unfold waC; rw [u2_n (by decide), u2_n (by decide), u2_j (by omega)]
        have s6 : waC σ c w e 6 (60 * c' + j) = σ 6 (60 * c' + j) := by unfold waC; rw [u2_n (by decide), u2_j (by omega), u2_n (by decide)]
        rw [s5, s6]
        exact d3.kept (high _ d3.lt d1 (by show τ.2.2.2.2 (τ.1 c' j) ≠ c; omega))
