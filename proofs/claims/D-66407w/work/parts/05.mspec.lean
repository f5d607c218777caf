/-! ===== what the reference's methods compute ===== -/
def bI (b : Bool) : Int32 := if b = true then 1 else 0
theorem bI_0 {b : Bool} : bI b = 0 ↔ b = false := by cases b <;> simp [bI]
theorem bI_n0 {b : Bool} : ¬ bI b = 0 ↔ b = true := by cases b <;> simp [bI]
theorem bI_01 (b : Bool) : bI b = 0 ∨ bI b = 1 := by cases b <;> simp [bI]
def pI (P : Int32 → Heap → Prop) : Option Value → Heap → Prop := fun v H => ∃ r, v = some (.int r) ∧ P r H
def pV (P : Heap → Prop) : Option Value → Heap → Prop := fun v H => v = none ∧ P H
def pA (P : Nat → Heap → Prop) : Option Value → Heap → Prop := fun v H => ∃ a, v = some (.ref a) ∧ P a H
section KI
variable {p : Program} {l : Launch} {e : Env} {R : Room} {s : State} {m : MethodId} {args : Array Value} {below : List Frame} {meth : Method} {c : Code} {H : Heap} {cells slots : Nat} {Q : State → Prop} {pc : Nat} {ls : Array Slot} {rest : List Value} {A0 F : Nat → Prop}
theorem kI {P : Int32 → Heap → Prop} (kk : ∀ (r : Int32) (H1 : Heap) (locs1 : List Loc), P r H1 → Kp F H H1 → va_S A0 s.heap H1 locs1 → W p l e R s m args below meth c H1 locs1 cells slots Q (F0 m pc ls (.int r :: rest))) :
    ∀ (v : Option Value) (H1 : Heap) (locs1 : List Loc), pI P v H1 → Kp F H H1 → va_S A0 s.heap H1 locs1 → W p l e R s m args below meth c H1 locs1 cells slots Q (F0 m pc ls (v.toList ++ rest)) := by
  rintro v H1 locs1 ⟨r, rfl, hp⟩ hk hS
  exact kk r H1 locs1 hp hk hS
theorem kV {P : Heap → Prop} (kk : ∀ (H1 : Heap) (locs1 : List Loc), P H1 → Kp F H H1 → va_S A0 s.heap H1 locs1 → W p l e R s m args below meth c H1 locs1 cells slots Q (F0 m pc ls rest)) :
    ∀ (v : Option Value) (H1 : Heap) (locs1 : List Loc), pV P v H1 → Kp F H H1 → va_S A0 s.heap H1 locs1 → W p l e R s m args below meth c H1 locs1 cells slots Q (F0 m pc ls (v.toList ++ rest)) := by
  rintro v H1 locs1 ⟨rfl, hp⟩ hk hS
  exact kk H1 locs1 hp hk hS
theorem kA {P : Nat → Heap → Prop} (kk : ∀ (r : Nat) (H1 : Heap) (locs1 : List Loc), P r H1 → Kp F H H1 → va_S A0 s.heap H1 locs1 → W p l e R s m args below meth c H1 locs1 cells slots Q (F0 m pc ls (.ref r :: rest))) :
    ∀ (v : Option Value) (H1 : Heap) (locs1 : List Loc), pA P v H1 → Kp F H H1 → va_S A0 s.heap H1 locs1 → W p l e R s m args below meth c H1 locs1 cells slots Q (F0 m pc ls (v.toList ++ rest)) := by
  rintro v H1 locs1 ⟨r, rfl, hp⟩ hk hS
  exact kk r H1 locs1 hp hk hS
end KI
abbrev Sg : Type := Nat → Nat → Int32
def one (x : Int32) : Bool := !decide (x < 0) && !decide (3 ≤ x)
theorem one_of {x : Int32} (h : one x = true) : ∃ c : Nat, c < 3 ∧ x = nI c := by
  simp only [one, Bool.and_eq_true, Bool.not_eq_true', decide_eq_false_iff_not] at h
  rcases pk_ix x (n := 3) (by decide) with g | g | g
  · exact absurd g h.1
  · exact absurd g h.2
  · exact g
theorem one_nI {c : Nat} (h : c < 3) : one (nI c) = true := by
  have : c = 0 ∨ c = 1 ∨ c = 2 := by omega
  rcases this with rfl | rfl | rfl <;> decide
def eK (e : Int32) : Int32 := (e : Int32) &&& (7 : Int32)
def eC (e : Int32) : Int32 := (e >>> ((3 : Int32) &&& 31)) &&& (7 : Int32)
def eD (e : Int32) : Int32 := (e >>> ((6 : Int32) &&& 31)) &&& (3 : Int32)
def eL (e : Int32) : Int32 := (e >>> ((8 : Int32) &&& 31)) &&& (3 : Int32)
def eO (e : Int32) : Int32 := (e >>> ((10 : Int32) &&& 31)) &&& (3 : Int32)
def eW (e : Int32) : Int32 := e >>> ((12 : Int32) &&& 31)
def cN (e : Int32) : Nat := (eC e).toNatClampNeg
def dN (e : Int32) : Nat := (eD e).toNatClampNeg
theorem eC_n (e : Int32) : eC e = nI (cN e) := by
  obtain ⟨j, h1, h2⟩ := pk_andE (e >>> ((3 : Int32) &&& 31)) (m := 7) 3 (by decide)
  unfold cN eC
  rw [h2, nI_clamp (by omega)]
theorem cN_lt (e : Int32) : cN e < 8 := by
  obtain ⟨j, h1, h2⟩ := pk_andE (e >>> ((3 : Int32) &&& 31)) (m := 7) 3 (by decide)
  unfold cN eC
  rw [h2, nI_clamp (by omega)]
  exact h1
theorem eD_n (e : Int32) : eD e = nI (dN e) := by
  obtain ⟨j, h1, h2⟩ := pk_andE (e >>> ((6 : Int32) &&& 31)) (m := 3) 2 (by decide)
  unfold dN eD
  rw [h2, nI_clamp (by omega)]
theorem dN_lt (e : Int32) : dN e < 4 := by
  obtain ⟨j, h1, h2⟩ := pk_andE (e >>> ((6 : Int32) &&& 31)) (m := 3) 2 (by decide)
  unfold dN eD
  rw [h2, nI_clamp (by omega)]
  exact h1
theorem eK_c (e : Int32) : eK e = 0 ∨ eK e = 1 ∨ eK e = 2 ∨ eK e = 3 ∨ eK e = 4 ∨ eK e = 5 ∨ eK e = 6 ∨ eK e = 7 := by
  obtain ⟨j, h1, h2⟩ := pk_andE e (m := 7) 3 (by decide)
  have h3 : eK e = nI j := h2
  rw [h3]
  have : j = 0 ∨ j = 1 ∨ j = 2 ∨ j = 3 ∨ j = 4 ∨ j = 5 ∨ j = 6 ∨ j = 7 := by omega
  rcases this with rfl | rfl | rfl | rfl | rfl | rfl | rfl | rfl <;> decide
def fr (σ : Sg) (d : Nat) (cl : Int32) : Bool := decide (σ 24 d = -1) || decide (σ 24 d = cl)
def alw (σ : Sg) (c : Nat) (e : Int32) : Bool :=
  if eK e = 0 then decide (σ 21 (8 * c + cN e) = 3) && (decide (σ 22 (3 * c + dN e) = -1) && (decide (σ 23 (3 * c + dN e) = 0) && fr σ (3 * c + dN e) (eL e)))
  else if eK e = 1 then !decide (σ 22 (3 * c + dN e) = -1) && fr σ (3 * c + dN e) (eL e)
  else if eK e = 2 then decide (σ 21 (8 * c + cN e) = 3)
  else if eK e = 3 then decide (σ 21 (8 * c + cN e) = 4)
  else if eK e = 4 then decide (σ 23 (3 * c + dN e) = 0) && decide (σ 22 (3 * c + dN e) = -1)
  else if eK e = 5 then !decide (σ 23 (3 * c + dN e) = 0)
  else if eK e = 6 then decide (σ 24 (3 * c + dN e) = -1)
  else decide (σ 24 (3 * c + dN e) = eL e)
def hN (σ : Sg) (d : Nat) : Nat := (σ 22 d).toNatClampNeg
def prf (σ : Sg) (c : Nat) (e : Int32) : Sg :=
  if eK e = 0 then up2 (up2 σ 21 (8 * c + cN e) (nI (dN e))) 22 (3 * c + dN e) (nI (cN e))
  else if eK e = 1 then up2 (up2 σ 21 (8 * c + hN σ (3 * c + dN e)) 3) 22 (3 * c + dN e) (-1)
  else if eK e = 2 then up2 σ 21 (8 * c + cN e) 4
  else if eK e = 3 then up2 σ 21 (8 * c + cN e) 3
  else if eK e = 4 then up2 σ 23 (3 * c + dN e) 1
  else if eK e = 5 then up2 σ 23 (3 * c + dN e) 0
  else if eK e = 6 then up2 σ 24 (3 * c + dN e) (eL e)
  else up2 σ 24 (3 * c + dN e) (-1)
def wtn (σ : Sg) (c : Nat) : Nat → Nat
  | 0 => 0
  | k + 1 => wtn σ c k + (if σ 6 (60 * c + k) = 0 then 1 else 0)
def fwF (σ : Sg) (c : Nat) : Nat → Nat → Option Nat
  | 0, _ => none
  | n + 1, k => if σ 6 (60 * c + k) = 0 then some k else fwF σ c n (k + 1)
def oI (x : Option Nat) : Int32 := match x with
  | none => -1
  | some k => nI k
def ent (σ : Sg) (c : Nat) (to : Int32) : Sg := up2 (up2 (up2 (up2 (up2 σ 12 c to) 14 c 0) 17 c 0) 15 c 0) 16 c 0
def whl (σ : Sg) (s : Nat) : Bool := decide (σ 1 s = σ 1 (s + 4)) && !decide (σ 1 s = 0)
def nwt (σ : Sg) (b : Nat) : Option Nat :=
  if whl σ (b + 5) && (!whl σ b || !decide (σ 1 (b + 5) ≤ σ 1 b)) then some (b + 5) else if whl σ b then some b else none
def gon (σ : Sg) (c : Nat) : Sg :=
  if σ 14 c + 1 = 3 then up2 (up2 (up2 (up2 (up2 σ 15 c 0) 16 c 0) 14 c (σ 14 c + 1)) 14 c 0) 17 c 0 else up2 (up2 (up2 σ 15 c 0) 16 c 0) 14 c (σ 14 c + 1)
theorem tn_nI {n : Nat} (h : n < 2 ^ 31) : (nI n).toNatClampNeg = n := nI_clamp h
