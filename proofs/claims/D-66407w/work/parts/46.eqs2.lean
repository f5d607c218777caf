/-! ===== steps: the component's and the reference's ===== -/
theorem AG.tr {x y z : Sg} (h : AG x y) (g : AG y z) : AG x z := fun k hk => (h k hk).trans (g k hk)
theorem AG.up {x y : Sg} (h : AG x y) (k i : Nat) (v : Int32) : AG (up2 x k i v) (up2 y k i v) := by
  intro k' hk'
  by_cases e : k' = k
  · subst e; rw [u2_a, u2_a, h k' hk']
  · rw [u2_n e, u2_n e, h k' hk']
theorem AG.upc {x y : Sg} (h : AG x y) {k : Nat} (hk : ¬ sh k) (i : Nat) (v : Int32) : AG (up2 x k i v) y := by
  intro k' hk'
  have hne : k' ≠ k := fun e => hk (by rw [← e]; exact hk')
  rw [u2_n hne]
  exact h k' hk'
theorem AG.upm {x y : Sg} (h : AG x y) {k : Nat} (hk : ¬ sh k) (i : Nat) (v : Int32) : AG x (up2 y k i v) := by
  intro k' hk'
  have hne : k' ≠ k := fun e => hk (by rw [← e]; exact hk')
  rw [u2_n hne]
  exact h k' hk'
theorem s4 : sh 4 := by unfold sh; decide
theorem s6 : sh 6 := by unfold sh; decide
theorem s8 : sh 8 := by unfold sh; decide
theorem s10 : sh 10 := by unfold sh; decide
theorem s12 : sh 12 := by unfold sh; decide
theorem s14 : sh 14 := by unfold sh; decide
theorem s18 : sh 18 := by unfold sh; decide
theorem s19 : sh 19 := by unfold sh; decide
theorem s5 : sh 5 := by unfold sh; decide
theorem s22 : sh 22 := by unfold sh; decide
theorem AG.gon {x y : Sg} (h : AG x y) (c : Nat) : AG (gon x c) (gon y c) := by
  unfold Jvm.Pilot.CDiskArbitersLaw_law_r5576_a5df70.gon
  rw [h 14 s14]
  split
  · exact ((((h.up _ _ _).up _ _ _).up _ _ _).up _ _ _).up _ _ _
  · exact ((h.up _ _ _).up _ _ _).up _ _ _
theorem AG.prf {x y : Sg} (h : AG x y) (c : Nat) (e : Int32) : AG (prf x c e) (prf y c e) := by
  unfold Jvm.Pilot.CDiskArbitersLaw_law_r5576_a5df70.prf hN
  rw [h 22 s22]
  split
  · exact (h.up _ _ _).up _ _ _
  · split
    · exact (h.up _ _ _).up _ _ _
    · split
      · exact h.up _ _ _
      · split
        · exact h.up _ _ _
        · split
          · exact h.up _ _ _
          · split
            · exact h.up _ _ _
            · split
              · exact h.up _ _ _
              · first | exact h.up _ _ _ | exact h
theorem AG.put {x y : Sg} (h : AG x y) (c q : Nat) : AG (putM x c q) (putM y c q) := by
  unfold putM
  rw [h 10 s10]
  refine (AG.up (AG.up (AG.up ?_ _ _ _) _ _ _) _ _ _)
  split
  · exact (((h.up _ _ _).up _ _ _).prf _ _).up _ _ _
  · exact ((h.up _ _ _).up _ _ _).prf _ _
theorem who_oth {σ : Sg} {c rd : Nat} (hc : c < 3) (h : σ 16 c = nI rd) (hr : rd ≤ 1) : who c (rd + 1) = oth σ c := by
  unfold who oth
  rw [h]
  rcases (show rd = 0 ∨ rd = 1 by omega) with rfl | rfl
  · rw [if_pos (show nI 0 = 0 from rfl)]
    rcases (show c = 0 ∨ c = 1 ∨ c = 2 by omega) with rfl | rfl | rfl <;> rfl
  · rw [if_neg (show ¬ nI 1 = 0 by decide)]
    rcases (show c = 0 ∨ c = 1 ∨ c = 2 by omega) with rfl | rfl | rfl <;> rfl
theorem mx_if (x y : Int32) : mx x y = if y ≤ x then x else y := by
  unfold mx
  by_cases h : x < y
  · rw [if_pos h, if_neg (Int32.not_le.mpr h)]
  · rw [if_neg h, if_pos (Int32.not_lt.mp h)]
theorem AG.of3 {x y : Sg} (h : ∀ k, sh k → x k = y k) : AG x y := h
theorem ns25 : ¬ sh 25 := fun h => h.2.2.2.2.2.1 rfl
theorem ns16 : ¬ sh 16 := fun h => h.2.2.2.2.1 rfl
theorem ns15 : ¬ sh 15 := fun h => h.2.2.2.1 rfl
theorem up_self (σ : Sg) (k j : Nat) : up2 σ k j (σ k j) = σ := by
  funext a
  by_cases h : a = k
  · subst h; rw [u2_a, upd_self]
  · rw [u2_n h]
theorem crd_rd {σ : Sg} {c a q rd : Nat} (hc : c < 3) (hq : q < 24) (h16 : σ 16 c = nI rd) (hr : rd ≤ 1) (h18 : 0 ≤ σ 18 c) (h13 : 0 ≤ σ 13 c) (h8 : 0 ≤ σ 8 c) :
    (crd σ c a q (rd + 1)).1 = decide (rdF σ (nwt σ (blk a (oth σ c) q)) 1 ≤ σ 8 c) ∧ AG (crd σ c a q (rd + 1)).2 (up2 (rdB σ c (rdF σ (nwt σ (blk a (oth σ c) q)) 1) (rdF σ (nwt σ (blk a (oth σ c) q)) 2) (rdF σ (nwt σ (blk a (oth σ c) q)) 3)) 16 c (σ 16 c + 1)) := by
  have hw := who_oth hc h16 hr
  have ho := oth_lt σ c
  unfold crd
  rw [hw, blk_eq]
  rcases lt_nw σ a (10 * (24 * oth σ c + q)) with ⟨g1, g2⟩ | ⟨g1, g2⟩ | ⟨g1, g2⟩
  · rw [g1, g2, if_pos rfl]
    refine ⟨by simp [rdF, h8], ?_⟩
    refine AG.upm ?_ ns16 _ _
    have e : rdB σ c (rdF σ none 1) (rdF σ none 2) (rdF σ none 3) = up2 σ 20 c (σ 20 c + 1) := by
      have e1 := up_self (up2 σ 20 c (σ 20 c + 1)) 13 c
      rw [u2_n (show 13 ≠ 20 by decide)] at e1
      unfold rdB
      rw [if_pos (show rdF σ none 2 ≤ σ 18 c from h18), if_pos (show rdF σ none 1 ≤ σ 13 c from h13)]
      exact e1
    rw [e]
    exact AG.upc (AG.rf _) ns25 _ _
  · rw [g1, g2, if_neg (mt1 (by omega)), tN_n (by omega)]
    simp only [rdF, Nat.add_assoc]
    refine ⟨?_, ?_⟩
    · by_cases h : σ 8 c < σ 1 (720 * a + (10 * (24 * oth σ c + q) + 1))
      · simp [h, Int32.not_le.mpr h]
      · simp [h, Int32.not_lt.mp h]
    · refine AG.upm ?_ ns16 _ _
      unfold cr2 rdB cr1
      rw [mx_if]
      split
      · exact (AG.upc (AG.rf _) ns25 _ _).up _ _ _
      · exact (((AG.upc (AG.rf _) ns25 _ _).up _ _ _).up _ _ _).up _ _ _
  · rw [g1, g2, if_neg (mt1 (by omega)), tN_n (by omega)]
    simp only [rdF, Nat.add_assoc]
    refine ⟨?_, ?_⟩
    · by_cases h : σ 8 c < σ 1 (720 * a + (10 * (24 * oth σ c + q) + (5 + 1)))
      · simp only [h, Int32.not_le.mpr h, decide_true, decide_false, Bool.not_true]
      · simp only [h, Int32.not_lt.mp h, decide_true, decide_false, Bool.not_false]
    · refine AG.upm ?_ ns16 _ _
      unfold cr2 rdB cr1
      simp only [Nat.add_assoc]
      rw [mx_if]
      split
      · exact (AG.upc (AG.rf _) ns25 _ _).up _ _ _
      · exact (((AG.upc (AG.rf _) ns25 _ _).up _ _ _).up _ _ _).up _ _ _
