/-! ===== one step ===== -/
theorem AG.ent {x y : Sg} (h : AG x y) (c : Nat) (v : Int32) : AG (ent x c v) (ent y c v) := by
  unfold Jvm.Pilot.CDiskArbitersLaw_law_r5576_a5df70.ent
  exact ((((h.up _ _ _).up _ _ _).up _ _ _).up _ _ _).up _ _ _
theorem cgn_chs {x y : Sg} {c w k : Nat} {q : Nat} (h : AG x y) (h12 : ¬ x 12 c = 2) (hf : fwF x c w 0 = some k) : (cgn x c w q).1 = 7 ∧ AG (cgn x c w q).2 (chs y c w) := by
  unfold cgn
  rw [if_neg h12]
  refine ⟨rfl, ?_⟩
  have hf2 : fwF y c w 0 = some k := by rw [← hf]; exact fwF_k (fun j => by rw [h 6 s6]) _ _
  have ee : (if 0 < x 18 c then x 19 c else cwe x c w) = (if y 18 c ≤ 0 then y 5 (60 * c + (fwF y c w 0).getD 0) else y 19 c) := by
    rw [hf2, ← h 18 s18, ← h 5 s5, ← h 19 s19]
    unfold cwe
    rw [hf]
    by_cases g : 0 < x 18 c
    · rw [if_pos g, if_neg (Int32.not_le.mpr g)]
    · rw [if_neg g, if_pos (Int32.not_lt.mp g)]
      rfl
  show AG (cbg (up2 (up2 x 9 c (x 8 c)) 10 c (if 0 < x 18 c then x 19 c else cwe x c w)) c 2) (chs y c w)
  refine (cbg_ent _ c 2).tr ?_
  unfold chs
  rw [← ee, ← h 8 s8, up2_comm (a := 10) (b := 9) (by decide)]
  exact ((h.up _ _ _).up _ _ _).ent _ _
theorem cgn_put {x y : Sg} {c w q : Nat} (h : AG x y) (h12 : x 12 c = 2) : (cgn x c w q).1 = 8 ∧ AG (cgn x c w q).2 (putM y c q) := by
  unfold cgn
  rw [if_pos h12]
  refine ⟨rfl, ?_⟩
  show AG (cdc x c q) (putM y c q)
  rw [cdc_put]
  exact h.put c q
theorem cgo_st {σ : Sg} {c a q w sp ph wr rd : Nat} (hc : c < 3) (hq : q < 24) (h12 : σ 12 c = nI ph) (hp2 : ph ≤ 2) (h15 : σ 15 c = nI wr) (hwr : wr ≤ 1) (h16 : σ 16 c = nI rd) (on : ¬ ph = 0 → rd ≤ 1 ∧ (wr = 0 → rd = 0)) (hsp : ¬ ph = 0 → sp = wr + rd) (hk : (σ 2 a = 0 ∧ σ 27 a = 1) ∨ (σ 2 a = 1 ∧ σ 27 a = 0)) (h18 : 0 ≤ σ 18 c) (h13 : 0 ≤ σ 13 c) (h8 : 0 ≤ σ 8 c) (hf : ph = 1 → ∃ k, fwF σ c w 0 = some k) :
    (cgo σ c w a q sp).1 = (stM σ c a q w).1 ∧ AG (cgo σ c w a q sp).2 (stM σ c a q w).2 := by
  unfold cgo stM
  by_cases p0 : σ 12 c = 0
  · rw [if_pos p0, if_pos p0]
    exact idl_bgn σ c w
  · rw [if_neg p0, if_neg p0]
    have hph : ¬ ph = 0 := fun z => p0 (by rw [h12, z]; rfl)
    obtain ⟨hrd, hw0⟩ := on hph
    have hsp := hsp hph
    rcases hk with ⟨k1, k2⟩ | ⟨k1, k2⟩
    · rw [if_neg (show ¬ σ 27 a = 0 by rw [k2]; decide), if_neg (show ¬ ¬ σ 2 a = 0 from fun z => z k1)]
      by_cases w0 : wr = 0
      · rw [if_pos (show sp = 0 by have := hw0 w0; omega), if_pos (show σ 15 c = 0 by rw [h15, w0]; rfl)]
        refine ⟨rfl, ?_⟩
        show AG (up2 (cwr σ c a q 5) 25 c 1) (up2 (wrM σ c a q 5) 15 c 1)
        rw [cwr_eq σ c a q 5 hq hc]
        exact ((AG.rf _).upc ns25 _ _).upm ns15 _ _
      · obtain rfl : sp = rd + 1 := by omega
        rw [if_neg (show ¬ rd + 1 = 0 by omega), if_neg (show ¬ σ 15 c = 0 by rw [h15]; exact nI_ne0 (by omega) (by omega))]
        obtain ⟨r1, r2⟩ := crd_rd (a := a) hc hq h16 hrd h18 h13 h8
        unfold rdN
        dsimp only
        generalize hX : nwt σ (blk a (oth σ c) q) = X at r1 r2 ⊢
        generalize hCc : crd σ c a q (rd + 1) = Cc at r1 r2 ⊢
        have hne : ∀ k, k ≠ 20 → k ≠ 25 → k ≠ 13 → k ≠ 18 → k ≠ 19 → Cc.2 k = σ k := fun k a1 a2 a3 a4 a5 => by rw [← hCc]; exact crd_ne a1 a2 a3 a4 a5
        by_cases g : rdF σ X 1 ≤ σ 8 c
        · rw [if_neg (show ¬ Cc.1 = false by rw [r1]; simp [g]), if_neg (show ¬ ¬ rdF σ X 1 ≤ σ 8 c from fun z => z g)]
          rcases (show rd = 0 ∨ rd = 1 by omega) with hr | hr
          · rw [if_pos (show rd + 1 = 1 by omega), if_pos (show ¬ 2 ≤ σ 16 c + 1 by rw [h16, hr]; decide)]
            exact ⟨rfl, r2⟩
          · rw [if_neg (show ¬ rd + 1 = 1 by omega), if_neg (show ¬ ¬ 2 ≤ σ 16 c + 1 by rw [h16, hr]; decide)]
            by_cases d2 : σ 17 c + 1 = 2
            · rw [if_pos d2, if_pos d2]
              have h12x : up2 Cc.2 17 c (σ 17 c + 1) 12 c = σ 12 c := by rw [u2_n (by decide), hne 12 (by decide) (by decide) (by decide) (by decide) (by decide)]
              rcases (show ph = 1 ∨ ph = 2 by omega) with e1 | e1
              · rw [if_pos (show σ 12 c = 1 by rw [h12, e1]; rfl)]
                obtain ⟨k, hk⟩ := hf e1
                exact cgn_chs (r2.up 17 c _) (by rw [h12x, h12, e1]; decide) (k := k) (by rw [← hk]; exact fwF_k (fun j => by rw [u2_n (by decide), hne 6 (by decide) (by decide) (by decide) (by decide) (by decide)]) _ _)
              · rw [if_neg (show ¬ σ 12 c = 1 by rw [h12, e1]; decide)]
                exact cgn_put (r2.up 17 c _) (by rw [h12x, h12, e1]; rfl)
            · rw [if_neg d2, if_neg d2]
              exact ⟨rfl, (cnx_gon _ c).tr (AG.gon (r2.up 17 c _) c)⟩
        · rw [if_pos (show Cc.1 = false by rw [r1]; simp [g]), if_pos g]
          exact ⟨rfl, r2.up 12 c 0⟩
    · rw [if_pos k2, if_pos (show ¬ σ 2 a = 0 by rw [k1]; decide)]
      exact ⟨rfl, cnx_gon σ c⟩
