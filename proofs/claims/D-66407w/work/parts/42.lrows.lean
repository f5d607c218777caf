/-! ===== rows for the law: the out array, calls out of any room ===== -/
def Ou (G : Gx) (oa : Nat) (v : Int64) (H : Heap) : Prop := va_at G.1 classes (oa, .inl (G.2 2, (1, .inr (.inl (fun _ => v))))) H
def JC (G : Gx) (B D0 ea oa : Nat) (σ : Sg) (τ : Tt) (v : Int64) (H : Heap) : Prop := RepC G B D0 ea σ τ H ∧ D0 ≤ H.size ∧ Ou G oa v H ∧ B + 36 ≤ oa ∧ oa < D0
def FW (B D0 oa : Nat) : Nat → Prop := fun q => FC B D0 q ∨ q = oa
theorem isa_f {s0 : State} {X Y : String} {a : Array Value} (h : (Cond.not (.castable X Y)).before a s0 = true) : Isa s0 X Y false := by
  intro cx cy h1 h2
  by_cases h3 : s0.vm.assignable cx cy = true
  · have : (Cond.castable X Y).before a s0 = true := by simp [Cond.before, Cond.holds, Cond.value, h1, h2, h3]
    exfalso
    simp [Cond.before, Cond.holds, Cond.value, h1, h2, h3] at h
  · simpa using h3
def N0 (s0 : State) : Prop := Isa s0 "java/lang/IllegalArgumentException" "java/lang/IndexOutOfBoundsException" false ∧ Isa s0 "java/lang/UnsupportedOperationException" "java/lang/IndexOutOfBoundsException" false ∧ Isa s0 "java/lang/UnsupportedOperationException" "java/lang/IllegalArgumentException" false ∧ Isa s0 "java/lang/IllegalStateException" "java/lang/IndexOutOfBoundsException" false ∧ Isa s0 "java/util/NoSuchElementException" "java/lang/IndexOutOfBoundsException" false ∧ Isa s0 "java/util/NoSuchElementException" "java/lang/IllegalStateException" false ∧ Isa s0 "java/lang/IllegalStateException" "java/lang/IllegalArgumentException" false
section LR
variable {p : Program} {l : Launch} {e : Env} {R : Room} {s : State} {m : MethodId} {args : Array Value} {below : List Frame} {meth : Method} {c : Code} {H : Heap} {locs : List Loc} {cells slots : Nat} {Q : State → Prop}
variable {cc : ByteArray} {pc : Nat} {ls : Array Slot} {rest As : List Value} {A0 F : Nat → Prop} {Post : Option Value → Heap → Prop} {P : Heap → Prop} {G : Gx} {s0 : State} {own : String} {nL mc ms d' maxL index n b oa : Nat} {y : MethodName} {bytes : ByteArray} {ret : Option FieldType} {lv : List (Nat × Value)} {v x : Int64}
theorem x_ost (V : Vx G s0 p s m c cc nL own) (hO : Ou G oa v H) (hdg : decode cc pc = .ok (.lastore, 1))
    (kk : ∀ (H1 : Heap) (i : Nat), Ou G oa x H1 → H1.size = H.size → (∀ q : Nat, q ≠ oa → H1[q]? = H[q]?) → W p l e R s m args below meth c H1 (locs ++ [⟨oa, i⟩]) cells slots Q (F0 m (pc + 1) ls rest)) : W p l e R s m args below meth c H locs cells slots Q (F0 m pc ls (.long x :: .int 0 :: .ref oa :: rest)) := by
  refine W.last V.1 V.2.1 (x_one hO 0 _ rfl) ((V.2.2.2.2.2.1.2 2 _ rfl).1 1 (fun j => .long v)) (fun q => by cases q) (by show ¬ ((0 : Int32) < 0 ∨ (arrV _ _ _).slots.size ≤ _); rw [arrV_size]; show ¬ ((0 : Int32) < 0 ∨ 1 ≤ (0 : Int32).toNatClampNeg); decide) rfl rfl hdg fun H1 e1 z oq => ?_
  refine kk H1 _ ?_ z oq
  show H1[oa]? = some (vp_cell _ _)
  rw [e1]
  rw [vp_cell_l, vp_cell_l, arrV_store]
  have hcl : (0 : Int32).toNatClampNeg = 0 := rfl
  rw [hcl]
  unfold arrV
  congr 2
theorem x_old (V : Vx G s0 p s m c cc nL own) (hO : Ou G oa v H) (hdg : decode cc pc = .ok (.laload, 1))
    (kk : W p l e R s m args below meth c H locs cells slots Q (F0 m (pc + 1) ls (.long v :: rest))) : W p l e R s m args below meth c H locs cells slots Q (F0 m pc ls (.int 0 :: .ref oa :: rest)) :=
  va_lald (i := 0) V.1 V.2.1 V.2.2.2.2.2.1 (x_one hO) 0 2 rfl rfl (by show ¬ ((0 : Int32) < 0 ∨ 1 ≤ _); decide) hdg kk
theorem run_WR {st : List Value} {aa : Array Value} (hr : va_Run p l e R s m args below meth c H locs cells slots mc ms (F0 m pc ls st) rest (qR F Post aa) F) (hS : va_S A0 s.heap H locs) (hF : ∀ q, F q → A0 q)
    (kk : ∀ (v : Option Value) (H1 : Heap) (locs1 : List Loc), Post v H1 → Kp F H H1 → va_S A0 s.heap H1 locs1 → W p l e R s m args below meth c H1 locs1 (cells + mc) (slots + ms) Q (F0 m (pc + 3) ls (v.toList ++ rest))) :
    W p l e R s m args below meth c H locs cells slots Q (F0 m pc ls st) := by
  intro T hT X
  obtain ⟨v, st₀, t, T', L, h0, X', hL, e1, e2, ⟨v', hv, hp, hk⟩, st⟩ := hr T hT X
  cases hv
  rw [h0] at hk
  rw [← e1] at hp hk
  obtain ⟨t2, a1, b1⟩ := kk v T'.heap (locs ++ L) hp hk (S_call hS hF hk hL) T' rfl X'
  exact ⟨t2, st t2 a1, b1⟩
theorem g_callVR (V : Vx G s0 p s m c cc nL own) (hM : Ct l s0 F d' mc ms y bytes maxL ret (.ref b :: As) P Post) (w : CV own index y bytes maxL ret n) (hrec : ∃ cell : Cell, H[b]? = some cell ∧ cell.vm.isStatics = false ∧ s.vm.findClass y.cls = some cell.cls) (hP : P H) (hS : va_S A0 s.heap H locs) (hA : ∀ q, A0 q → s0.heap.size ≤ q) (hF : ∀ q, F q → A0 q)
    (hd : d' + 7 ≤ R.frames ∧ 8 + (maxL + 11) + (60 * d' + 200) ≤ R.locals) (hn : As.length = n) (hl : lv_has ls nL lv) (hst : (rest.map fun v => v.category).sum ≤ 8) (hdg : decode cc pc = .ok (.invokevirtual index, 3)) (hf : cells + mc ≤ R.cells ∧ slots + ms ≤ R.slots)
    (kk : ∀ (v : Option Value) (H1 : Heap) (locs1 : List Loc), Post v H1 → Kp F H H1 → va_S A0 s.heap H1 locs1 → W p l e R s m args below meth c H1 locs1 (cells + mc) (slots + ms) Q (F0 m (pc + 3) ls (v.toList ++ rest))) :
    W p l e R s m args below meth c H locs cells slots Q (F0 m pc ls (As.reverse ++ .ref b :: rest)) := by
  obtain ⟨hx, hb, hml, hown, hwd, hK, hs⟩ := V
  obtain ⟨⟨w1, w2, w3⟩, ⟨w4, w5⟩, w6, w7, w8⟩ := w
  refine run_WR (F := F) (Post := Post) (va_runV (Ts := Tb) (n := n) (C := y.cls) ⟨hx, hb, hml, hown, wd_ts hwd args⟩ hM ⟨⟨rfl, rfl, hd.1, hd.2, ?_, List.mem_singleton.mpr rfl, hwd _ w1 rfl args, hwd _ w2 rfl args, ⟨w6, w7⟩, len_of w8, hwd _ w3 rfl args⟩, hwd _ w4 rfl args, hwd _ w5 rfl args⟩ ⟨pc_blind, hrec, fun U hU hW => ⟨rfl, Sn_at hs hS hA hU hW, by rw [hU]; exact hP⟩⟩ rfl hn hl.1 rfl (lv_room hst) hdg hf) hS hF kk
  intro w hw a' U hW
  rw [List.mem_singleton.mp hw]
  exact okw_mv rfl hW (hwd _ w1 rfl args) a'
theorem g_callIR (V : Vx G s0 p s m c cc nL own) (hM : Ct l s0 F d' mc ms y bytes maxL none (.ref b :: As) P Post) (w : CI own index y bytes maxL n) (hP : P H) (hS : va_S A0 s.heap H locs) (hA : ∀ q, A0 q → s0.heap.size ≤ q) (hF : ∀ q, F q → A0 q)
    (hd : d' + 7 ≤ R.frames ∧ 8 + (maxL + 11) + (60 * d' + 200) ≤ R.locals) (hn : As.length = n) (hl : lv_has ls nL lv) (hst : (rest.map fun v => v.category).sum ≤ 8) (hdg : decode cc pc = .ok (.invokespecial index, 3)) (hf : cells + mc ≤ R.cells ∧ slots + ms ≤ R.slots)
    (kk : ∀ (v : Option Value) (H1 : Heap) (locs1 : List Loc), Post v H1 → Kp F H H1 → va_S A0 s.heap H1 locs1 → W p l e R s m args below meth c H1 locs1 (cells + mc) (slots + ms) Q (F0 m (pc + 3) ls (v.toList ++ rest))) :
    W p l e R s m args below meth c H locs cells slots Q (F0 m pc ls (As.reverse ++ .ref b :: rest)) := by
  obtain ⟨hx, hb, hml, hown, hwd, hK, hs⟩ := V
  obtain ⟨⟨w1, w2, w3⟩, ⟨w4, w5⟩, w6, w7, w8⟩ := w
  refine run_WR (F := F) (Post := Post) (va_runI (Ts := Tb) (n := n) ⟨hx, hb, hml, hown, wd_ts hwd args⟩ hM ⟨⟨rfl, rfl, hd.1, hd.2, ?_, List.mem_singleton.mpr rfl, hwd _ w1 rfl args, hwd _ w2 rfl args, ⟨w6, w7⟩, len_of w8, hwd _ w3 rfl args⟩, w5, hwd _ w4 rfl args⟩ ⟨pc_blind, fun U hU hW => ⟨rfl, Sn_at hs hS hA hU hW, by rw [hU]; exact hP⟩⟩ rfl hn hl.1 rfl (lv_room hst) hdg hf) hS hF kk
  intro w hw a' U hW
  rw [List.mem_singleton.mp hw]
  exact okw_mv rfl hW (hwd _ w1 rfl args) a'
end LR
