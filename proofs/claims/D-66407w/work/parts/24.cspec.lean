/-! ===== what the component's methods compute ===== -/
def cbg (σ : Sg) (c : Nat) (np : Int32) : Sg := up2 (up2 (up2 (up2 σ 12 c np) 14 c 0) 17 c 0) 25 c 0
def cnx (σ : Sg) (c : Nat) : Sg := if σ 14 c + 1 = 3 then cbg (up2 (up2 σ 25 c 0) 14 c (σ 14 c + 1)) c (σ 12 c) else up2 (up2 σ 25 c 0) 14 c (σ 14 c + 1)
def cup (σ : Sg) (c : Nat) : Sg := up2 (up2 (up2 σ 26 c 1) 13 c 0) 12 c 0
def tC (σ : Sg) (d b : Nat) : Nat := if ltI σ d b = nI b then b + 5 else b
def nC (σ : Sg) (d b : Nat) : Int32 := if ltI σ d b = -1 then 1 else σ 1 (720 * d + tN (ltI σ d b)) + 1
def wrC (σ : Sg) (d b : Nat) (r v e : Int32) (k : Nat) : Sg := wrs σ (720 * d + tC σ d b) (nC σ d b) r v e k
theorem ltI_c (σ : Sg) (d b : Nat) : ltI σ d b = -1 ∨ ltI σ d b = nI b ∨ ltI σ d b = nI (b + 5) := by
  unfold ltI
  split
  · split
    · exact Or.inr (Or.inr rfl)
    · exact Or.inl rfl
  · split
    · split
      · exact Or.inr (Or.inl rfl)
      · exact Or.inr (Or.inr rfl)
    · exact Or.inr (Or.inl rfl)
def cwr (σ : Sg) (c d q kp : Nat) : Sg := wrC (up2 σ 20 c (σ 20 c + 1)) d (10 * (24 * c + q)) (σ 8 c) (σ 9 c) (σ 10 c) kp
def mx (x y : Int32) : Int32 := if x < y then y else x
def who (c sp : Nat) : Nat := if sp - 1 < c then sp - 1 else sp
def cr1 (σ : Sg) (c sp : Nat) : Sg := up2 (up2 σ 20 c (σ 20 c + 1)) 25 c (nI (sp + 1))
def cr2 (σ : Sg) (c d sp t : Nat) : Sg :=
  if σ 1 (720 * d + (t + 2)) ≤ σ 18 c then up2 (cr1 σ c sp) 13 c (mx (σ 13 c) (σ 1 (720 * d + (t + 1)))) else up2 (up2 (up2 (cr1 σ c sp) 13 c (mx (σ 13 c) (σ 1 (720 * d + (t + 1))))) 18 c (σ 1 (720 * d + (t + 2)))) 19 c (σ 1 (720 * d + (t + 3)))
section KO
variable {p : Program} {l : Launch} {e : Env} {R : Room} {s : State} {m : MethodId} {args : Array Value} {below : List Frame} {meth : Method} {c : Code} {H : Heap} {cells slots : Nat} {Q : State → Prop} {pc : Nat} {ls : Array Slot} {rest : List Value} {A0 F : Nat → Prop}
def pO (P : Option Nat → Heap → Prop) : Option Value → Heap → Prop := fun v H => ∃ a, v = some (va_rf a) ∧ P a H
theorem kO {P : Option Nat → Heap → Prop} (kk : ∀ (r : Option Nat) (H1 : Heap) (locs1 : List Loc), P r H1 → Kp F H H1 → va_S A0 s.heap H1 locs1 → W p l e R s m args below meth c H1 locs1 cells slots Q (F0 m pc ls (va_rf r :: rest))) :
    ∀ (v : Option Value) (H1 : Heap) (locs1 : List Loc), pO P v H1 → Kp F H H1 → va_S A0 s.heap H1 locs1 → W p l e R s m args below meth c H1 locs1 cells slots Q (F0 m pc ls (v.toList ++ rest)) := by
  rintro v H1 locs1 ⟨r, rfl, hp⟩ hk hS
  exact kk r H1 locs1 hp hk hS
end KO
section MM
variable {p : Program} {l : Launch} {e : Env} {R : Room} {s : State} {m : MethodId} {args : Array Value} {below : List Frame} {meth : Method} {c : Code} {H : Heap} {locs : List Loc} {cells slots : Nat} {Q : State → Prop}
variable {cc : ByteArray} {pc : Nat} {ls : Array Slot} {rest : List Value} {G : Gx} {s0 : State} {own : String} {nL : Nat}
theorem x_max (V : Vx G s0 p s m c cc nL own) {index : Nat} (w3 : Cond.methodLink own index Lib.Math.max.name ∈ lw_tbl) {lv : List (Nat × Value)} (hl : lv_has ls nL lv) (hst : (rest.map fun v => v.category).sum ≤ 8) (hR : 1 ≤ R.frames ∧ 200 ≤ R.locals) (hc : cells ≤ R.cells) (hs : slots ≤ R.slots) {x y : Int32} (hdg : decode cc pc = .ok (.invokestatic index, 3))
    (kk : W p l e R s m args below meth c H locs cells slots Q (F0 m (pc + 3) ls (.int (mx x y) :: rest))) : W p l e R s m args below meth c H locs cells slots Q (F0 m pc ls (.int y :: .int x :: rest)) :=
  va_mmax V.1 V.2.1 (V.2.2.1.trans hl.1.symm) V.2.2.2.1 (V.2.2.2.2.1 _ w3 rfl args) (V.2.2.2.2.1 (.static Lib.Math.max.name) (List.mem_of_getElem? (i := 480) (by decide +kernel)) rfl args) (V.2.2.2.2.1 (.initialized "java/lang/Math") (List.mem_of_getElem? (i := 50) (by decide +kernel)) rfl args) (V.2.2.2.2.1 (.code Lib.Math.max.name Lib.Math.max.code 2 (some .int)) (List.mem_of_getElem? (i := 481) (by decide +kernel)) rfl args) hR.1 (by omega) hc hs hdg kk
end MM
