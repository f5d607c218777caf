/-! ===== exceptions: made and thrown ===== -/
theorem ls_mv {s0 s : State} (h : Sn s0 s) {C n d : String} {a0 : Array Value} (hl : (Cond.laysStatic C n d).before a0 s0 = true) (args : Array Value) : (Cond.laysStatic C n d).before args s = true := by
  obtain ⟨c, k, i, f, a, cell, hc, hi, hst, ha, hcell, hs, hcls, hlt, hty⟩ := Cond.laysStatic_spec hl
  obtain ⟨k', hi', he⟩ := State.fieldFound?_setVm h.1.alike hi
  have hfc : s.vm.findClass C = some c := by rw [h.1.alike.findClass]; exact hc
  have hcell' : s.heap[a]? = some cell := by rw [h.2.2 a (Array.getElem?_eq_some_iff.mp hcell).1]; exact hcell
  have ha' : k'.statics = some a := by rw [he]; exact ha
  have hty' : k'.staticTypes[f.slot]? = some f.type := by rw [he]; exact hty
  have hi2 : s.fieldFound? C n d = some (c, k', i, f) := hi'
  simp [Cond.before, Cond.holds, Cond.value, hfc, hi2, ha', hcell', hst, hs, hcls, hlt, hty']
theorem ir_mv {s0 s : State} (h : Sn s0 s) {C n d : String} {a0 : Array Value} (hl : (Cond.laysStatic C n d).before a0 s0 = true) (hr : (Cond.isRef (.static C n d)).before a0 s0 = true) (args : Array Value) : (Cond.isRef (.static C n d)).before args s = true := by
  obtain ⟨c, k, i, f, a, cell, hc, hi, hst, ha, hcell, hs, hcls, hlt, hty⟩ := Cond.laysStatic_spec hl
  obtain ⟨k', hi', he⟩ := State.fieldFound?_setVm h.1.alike hi
  have hcell' : s.heap[a]? = some cell := by rw [h.2.2 a (Array.getElem?_eq_some_iff.mp hcell).1]; exact hcell
  have ha' : k'.statics = some a := by rw [he]; exact ha
  have hi2 : s.fieldFound? C n d = some (c, k', i, f) := hi'
  have e0 : (Term.static C n d).eval a0 s0 none [] s0 = cell.slots[f.slot]? := by
    simp [Term.eval, State.fieldNamed?, hi, hst, ha, hcell, hs]
  have e1 : (Term.static C n d).eval args s none [] s = cell.slots[f.slot]? := by
    simp [Term.eval, State.fieldNamed?, hi2, hst, ha', hcell', hs]
  simp only [Cond.before, Cond.holds, Cond.value] at hr ⊢
  rw [e0] at hr
  rw [e1]
  exact hr
/-- the two statics of Throwable -/
def Ts0 (s0 : State) : Prop := (Cond.laysStatic "java/lang/Throwable" "UNASSIGNED_STACK" "[Ljava/lang/StackTraceElement;").before #[] s0 = true ∧ (Cond.isRef (.static "java/lang/Throwable" "UNASSIGNED_STACK" "[Ljava/lang/StackTraceElement;")).before #[] s0 = true ∧ (Cond.laysStatic "java/lang/Throwable" "SUPPRESSED_SENTINEL" "Ljava/util/List;").before #[] s0 = true ∧ (Cond.isRef (.static "java/lang/Throwable" "SUPPRESSED_SENTINEL" "Ljava/util/List;")).before #[] s0 = true
theorem hears_mv {s s' : State} {m : MethodId} {below : List Frame} (h : s.vm.Alike s'.vm) : s'.hears m below = s.hears m below := by
  unfold State.hears
  have e1 : ∀ x, s'.code? x = s.code? x := fun x => by rw [State.code?_eq, State.code?_eq, h.method?]
  have e2 : s'.vm.method? m = s.vm.method? m := by rw [h.method?]
  split <;> simp [e1, e2]
section RB
variable {p : Program} {l : Launch} {e : Env} {R : Room} {s : State} {m : MethodId} {args : Array Value} {below : List Frame} {meth : Method} {c : Code} {T : State} {locs : List Loc} {cells slots : Nat}
def rbs (T : State) (m : MethodId) (args : Array Value) (below : List Frame) : State := T.setFrames (.invoking m args :: below)
/-- the walk goes on as if the method had been entered just now -/
theorem rebase (X : Stand p l e R s m args below meth c T locs cells slots) (hcR : cells ≤ R.cells) (hsR : slots ≤ R.slots) : Stand p l e { R with cells := R.cells - cells, slots := R.slots - slots } (rbs T m args below) m args below meth c T [] 0 0 := by
  obtain ⟨g₀, hfr⟩ := X.frames_eq
  have hcur : T.cur < T.threads.size := State.cur_lt_of_frames hfr
  have hf : (rbs T m args below).frames = .invoking m args :: below := State.frames_setFrames _ hcur
  have hm : (rbs T m args below).vm.method? m = some meth := X.method'
  have hlim : e.platform.stackLimits (rbs T m args below).me = e.platform.stackLimits s.me := by
    rw [rbs, State.stackLimits_setFrames]; exact X.limits
  have hby : (rbs T m args below).me.stackBytes = s.me.stackBytes := by
    rw [rbs, State.stackBytes_setFrames]; exact X.bytes
  obtain ⟨t, ht, -⟩ := State.frames_cons hfr
  refine ⟨X.admits, X.cas, X.clock, hf, ?_, ?_, hm, X.code, X.here, X.tail, State.WarmedH.refl T, ?_, ?_, ?_⟩
  · have h := X.room
    have hl0 := State.localsInUse_invoking X.frames X.method X.code
    have hl1 := State.localsInUse_invoking hf hm X.code
    have hz := X.heapSize
    have hu := X.used
    have hb := X.book
    simp only [State.hasRoom, Bool.and_eq_true, decide_eq_true_eq] at h ⊢
    rw [hl1, hf, hlim, hby]
    rw [hl0, X.frames] at h
    refine ⟨⟨⟨⟨h.1.1.1.1, h.1.1.1.2⟩, ?_⟩, ?_⟩, hb⟩
    · show T.heap.size + (R.cells - cells) ≤ _
      have := h.1.1.2
      omega
    · show T.slotsUsed + (R.slots - slots) ≤ _
      have := h.1.2
      omega
  · rw [hears_mv (s := s) (s' := rbs T m args below) X.warmed.alike]
    exact X.hears
  · rw [rbs, State.stackLimits_setFrames]
  · rw [rbs, State.stackBytes_setFrames]
  · refine ⟨?_, Nat.le_refl _, Nat.le_refl _, ?_, ?_, fun a c h => ⟨c, h, rfl, rfl, fun _ _ => rfl⟩⟩
    · show T = { (T.setFrames (.invoking m args :: below)).setFrames T.frames with heap := T.heap, slotsUsed := T.slotsUsed }
      rw [State.setFrames_setFrames, State.setFrames_self ht]
    · show T.slotsUsed = T.slotsUsed + ((T.heap.toList.drop T.heap.size).map (·.slots.size)).sum
      rw [← Array.length_toList, List.drop_length]
      rfl
    · show ((T.heap.toList.drop T.heap.size).map (·.slots.size)).sum ≤ 0
      rw [← Array.length_toList, List.drop_length]
      exact Nat.le_refl _
end RB
/-! the throw of a new one -/
def ExA (s0 : State) (X : String) (x : Nat) (H : Heap) : Prop := ∃ ce : Cell, H[x]? = some ce ∧ ce.vm.isStatics = false ∧ s0.vm.findClass X = some ce.cls
def TN (s : State) (below : List Frame) (X : String) : State → Prop := fun t => ∃ x, t.status = .running ∧ Ended t below (.threw x) ∧ s.WarmedH t.vm ∧ s.sameButNew ({ t with vm := s.vm } : State) [] 1 6 ∧ s.heap.size ≤ x ∧ ExA s X x t.heap
/-- the words of 'throw new X()' in a method of own, at the entries ik, ic -/
def CX (own : String) (ik ic : Nat) (X : String) : Prop := (Cond.classLink own ik X ∈ lw_tbl ∧ Cond.instantiable X 6 ∈ lw_tbl ∧ Cond.initialized X ∈ lw_tbl) ∧ Bundle.fit X = true ∧ ∀ a ∈ Bundle.ownAtoms0 own ic X ["java/lang/RuntimeException", "java/lang/Exception"], (a ∈ lw_tbl ∧ okw a = true) ∨ a ∈ ([.laysStatic "java/lang/Throwable" "UNASSIGNED_STACK" "[Ljava/lang/StackTraceElement;", .isRef (.static "java/lang/Throwable" "UNASSIGNED_STACK" "[Ljava/lang/StackTraceElement;"), .laysStatic "java/lang/Throwable" "SUPPRESSED_SENTINEL" "Ljava/util/List;", .isRef (.static "java/lang/Throwable" "SUPPRESSED_SENTINEL" "Ljava/util/List;")] : List Cond)
section TN
variable {p : Program} {l : Launch} {e : Env} {R : Room} {s : State} {m : MethodId} {args : Array Value} {below : List Frame} {meth : Method} {c : Code} {H : Heap} {locs : List Loc} {cells slots : Nat}
variable {cc : ByteArray} {pc : Nat} {ls : Array Slot} {rest : List Value} {G : Gx} {s0 : State} {own X : String} {nL ik ic : Nat} {lv : List (Nat × Value)}
theorem cx_atoms (C0 : Ts0 s0) (hs : Sn s0 s) (hwd : wd s) (w : CX own ik ic X) : ∀ a ∈ Bundle.ownAtoms0 own ic X ["java/lang/RuntimeException", "java/lang/Exception"], a.before args s = true := by
  intro a ha
  rcases w.2.2 a ha with ⟨h1, h2⟩ | h
  · exact hwd a h1 h2 args
  · simp only [List.mem_cons, List.not_mem_nil, or_false] at h
    rcases h with rfl | rfl | rfl | rfl
    · exact ls_mv hs C0.1 args
    · exact ir_mv hs C0.1 C0.2.1 args
    · exact ls_mv hs C0.2.2.1 args
    · exact ir_mv hs C0.2.2.1 C0.2.2.2 args
theorem tn0 (V : Vx G s0 p s m c cc nL own) (C0 : Ts0 s0) (hfl : l.flags = pinnedFlags ++ [noTraceFlag]) (w : CX own ik ic X) (hlk : meth.locks = false) (hout : ∀ x ∈ c.exceptionTable.toList, covers x (pc + 7) = false) (hl : lv_has ls nL lv) (hst : (rest.map fun v => v.category).sum ≤ 8) (hR : 6 ≤ R.frames ∧ 200 ≤ R.locals ∧ 1 ≤ R.cells ∧ 6 ≤ R.slots)
    (d1 : decode cc pc = .ok (.new ik, 3)) (d2 : decode cc (pc + 3) = .ok (.dup, 1)) (d3 : decode cc (pc + 4) = .ok (.invokespecial ic, 3)) (d4 : decode cc (pc + 7) = .ok (.athrow, 1)) :
    W p l e R s m args below meth c s.heap [] 0 0 (TN s below X) (F0 m pc ls rest) := by
  obtain ⟨hx, hb, hml, hown, hwd, hK, hs⟩ := V
  obtain ⟨⟨w1, w2, w3⟩, w4, w5⟩ := id w
  refine W.newc hx hb hown (hwd _ w1 rfl args) (hwd _ w2 rfl args) (hwd _ w3 rfl args) rfl d1 (by omega) (by omega) fun cC kC h1 h2 h3 h4 => ?_
  refine lv_dup hx hb d2 rfl ?_
  intro T hT X0
  have hsz : (F0 m (pc + 3 + 1) ls (.ref s.heap.size :: .ref s.heap.size :: rest)).locals.size = c.maxLocals := hl.1.trans hml.symm
  obtain ⟨U, st, hrun, hend, hW, hsame, ce, hce, hoc⟩ := X0.ctorThrow0 hx (Launch.traces_off hfl X0.admits) hown w4 (by decide) (cx_atoms C0 hs hwd w) (fun x h => by cases h) h1 h2 (a := s.heap.size) (by rw [hT]; exact Array.getElem?_push_size) (Nat.le_refl _) (g := F0 m (pc + 3 + 1) ls (.ref s.heap.size :: .ref s.heap.size :: rest)) rfl hsz rfl rfl rfl (by rw [hb]; exact d3) (by rw [hb]; exact d4) hout (by show 2 + 3 < R.frames; omega) (by
      have h := lv_room (m := m) (pc := pc) (ls := ls) (rest := rest) hst
      show 2 * 0 + (1 + (rest.map fun v => v.category).sum) + _ ≤ R.locals
      show 2 * 0 + (1 + (rest.map fun v => v.category).sum) + (13 * (2 + 1) + 41) ≤ R.locals
      omega) hlk
  exact ⟨U, st, s.heap.size, hrun, hend, hW, by simpa using hsame, Nat.le_refl _, ce, hce, by rw [hoc.vm]; rfl, hoc.cls⟩
end TN
