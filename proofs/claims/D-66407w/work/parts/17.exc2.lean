/-! ===== contracts of methods that throw ===== -/
def qT (s0 : State) (F : Nat → Prop) (X : String) (Post : Heap → Prop) : Array Value → State → Outcome → State → Prop := fun _ st o t => ∃ x, o = .threw x ∧ ExA s0 X x t.heap ∧ Post t.heap ∧ Kp F st.heap t.heap
def MT (below : List Frame) (Qc : Array Value → State → Outcome → State → Prop) (a : Array Value) (s : State) (mc ms : Nat) (free : Nat → Prop) : State → Prop := fun t =>
  ∃ o, t.status = .running ∧ Ended t below o ∧ Qc a s o t ∧ ∃ L, (s.WarmedH t.vm ∧ s.sameButNew ({ t with vm := s.vm } : State) L mc ms) ∧ ∀ q ∈ L, free q.base
def CtT (l : Launch) (s0 : State) (F : Nat → Prop) (d mc ms : Nat) (y : MethodName) (wc : Cond) (av : List Value) (P : Heap → Prop) (X : String) (Post : Heap → Prop) : Prop :=
  MetFree l y (headSpec [wc] (rmx d mc ms)) (va_Pc av (fun U => Sn s0 U ∧ P U.heap)) (fun _ _ _ _ _ => True) (fun a st o t => qT s0 F X Post a st o t ∧ ∃ L, (st.WarmedH t.vm ∧ st.sameButNew ({ t with vm := st.vm } : State) L mc ms) ∧ ∀ q ∈ L, F q.base)
/-- what a 'code' word, with a table of handlers or without, says -/
def cdw (wc : Cond) (y : MethodName) (b : ByteArray) (maxL : Nat) (ret : Option FieldType) (hh : List (Nat × Nat × Nat × Nat)) : Prop := ∀ (a : Array Value) (s : State), wc.before a s = true → ∃ m meth c, s.methodNamed? y = some m ∧ s.vm.method? m = some meth ∧ meth.code = some c ∧ c.code = b ∧ c.maxLocals = maxL ∧ c.exceptionTable.toList.map (fun h => (h.startPc, h.endPc, h.handlerPc, h.catchType)) = hh ∧ meth.sig.returnType = ret ∧ meth.locks = false ∧ parseMethodDescriptor y.desc = some meth.sig
theorem cdw_code {y : MethodName} {b : ByteArray} {maxL : Nat} {ret : Option FieldType} : cdw (.code y b maxL ret) y b maxL ret [] := by
  intro a s h
  obtain ⟨m, hn⟩ := Cond.code_named h
  obtain ⟨meth, c, h1, h2, h3, h4, h5, h6, h7, h8⟩ := Cond.code_spec hn h
  refine ⟨m, meth, c, hn, h1, h2, h3, h4, ?_, h5, h6, h8⟩
  have : c.exceptionTable.toList = [] := by
    have := Array.isEmpty_iff.mp h7
    rw [this]
  rw [this]
  rfl
theorem cdw_with {y : MethodName} {b : ByteArray} {maxL : Nat} {ret : Option FieldType} {hh : List (Nat × Nat × Nat × Nat)} : cdw (.codeWith y b maxL ret hh) y b maxL ret hh := fun _ _ h => Cond.codeWith_spec h
theorem CtT.of {l : Launch} {G : Gx} {s0 : State} {F : Nat → Prop} {d mc ms : Nat} {y : MethodName} {wc : Cond} {b : ByteArray} {maxL : Nat} {ret : Option FieldType} {hh : List (Nat × Nat × Nat × Nat)} {av : List Value} {P : Heap → Prop} {X : String} {Post : Heap → Prop}
    (C : Cx G s0) (hcd : cdw wc y b maxL ret hh) (hy : plainName y.cls = true) (hsz : (lg_sl av).length ≤ maxL)
    (body : ∀ (p : Program) (e : Env) (s : State) (m : MethodId) (below : List Frame) (meth : Method) (c : Code), Vx G s0 p s m c b maxL y.cls → meth.sig.returnType = ret → meth.locks = false → c.exceptionTable.toList.map (fun h => (h.startPc, h.endPc, h.handlerPc, h.catchType)) = hh → P s.heap → ∀ ls : Array Slot, lv_has ls maxL (lv_args 0 av) →
      W p l e (rmx d mc ms) s m av.toArray below meth c s.heap [] 0 0 (MT below (qT s0 F X Post) av.toArray s mc ms F) (F0 m 0 ls [])) : CtT l s0 F d mc ms y wc av P X Post := by
  refine MetFree.of_bodyS (code := b) (maxLocals := maxL) (ret := ret) hy ?_ ?_
  · intro args s m h hn
    obtain ⟨m9, meth, c, hn9, h1, h2, h3, h4, -, h5, h6, -⟩ := hcd _ _ (atoms_spec (ws := [wc]) h _ List.mem_cons_self)
    cases hn.symm.trans hn9
    exact ⟨meth, c, h1, h2, h3, h4, h5, h6⟩
  · intro p e s m args below meth c s₁ B hml hv _
    obtain ⟨rfl, hs, hP⟩ := hv
    have hh0 : s₁.heap = s.heap := by rw [B.state]; rfl
    have hl := lv_entry av (n := maxL) hsz
    obtain ⟨m9, meth9, c9, hn9, h1, h2, -, -, ht, -⟩ := hcd _ _ (atoms_spec (ws := [wc]) B.pre _ List.mem_cons_self)
    cases B.named.symm.trans hn9
    cases B.method.symm.trans h1
    cases (Stand.of_body B).code.symm.trans h2
    have K := body p e s m below meth c ⟨B.exec, B.bytes, hml, findClass_of_methodNamed B.named, wd_mv hs.1 C.1, va_K.moved hs.1.alike C.2, hs⟩ B.returns B.notSynchronized ht hP _ hl
    rw [← lg_entry_eq] at K
    obtain ⟨t, a1, o, b1, b2, b3, b4⟩ := K s₁ hh0 (Stand.of_body B)
    exact ⟨t, o, a1, b1, b2, ⟨b3, b4⟩⟩
theorem out_of {c : Code} {hh : List (Nat × Nat × Nat × Nat)} {pc : Nat} (h : c.exceptionTable.toList.map (fun h => (h.startPc, h.endPc, h.handlerPc, h.catchType)) = hh) (hp : hh.all (fun q => !(decide (q.1 ≤ pc) && decide (pc < q.2.1))) = true) : ∀ x ∈ c.exceptionTable.toList, covers x pc = false := by
  intro x hx
  have h1 : (x.startPc, x.endPc, x.handlerPc, x.catchType) ∈ hh := by rw [← h]; exact List.mem_map.mpr ⟨x, hx, rfl⟩
  have h2 := List.all_eq_true.mp hp _ h1
  simp [covers] at h2 ⊢
  omega
theorem same_nil {s t : State} {k n : Nat} (h : s.sameButNew t [] k n) : ∀ q : Nat, q < s.heap.size → t.heap[q]? = s.heap[q]? := by
  intro q hq
  obtain ⟨c', h1, h2, h3, h4⟩ := h.2.2.2.2.2 q s.heap[q] (Array.getElem?_eq_getElem hq)
  rw [Array.getElem?_eq_getElem hq, h1, h2]
  congr 1
  have : c'.slots = s.heap[q].slots := by
    apply Array.ext_getElem?
    intro i
    exact h4 i (fun z => by cases z)
  rw [this]
section TR
variable {p : Program} {l : Launch} {e : Env} {R : Room} {s : State} {m : MethodId} {args : Array Value} {below : List Frame} {meth : Method} {c : Code} {H : Heap} {locs : List Loc} {cells slots : Nat} {Q : State → Prop}
variable {cc : ByteArray} {pc : Nat} {ls : Array Slot} {rest As : List Value} {A0 F : Nat → Prop} {Post : Heap → Prop} {P : Heap → Prop} {G : Gx} {s0 : State} {own X : String} {nL mc ms mc0 ms0 d d' maxL index n b ik ic : Nat} {y : MethodName} {bytes : ByteArray} {ret : Option FieldType} {lv : List (Nat × Value)} {wc : Cond} {hh : List (Nat × Nat × Nat × Nat)}
theorem V_mv {T : State} (V : Vx G s0 p s m c cc nL own) (hS : va_S A0 s.heap H locs) (hA : ∀ q, A0 q → s0.heap.size ≤ q) (hT : T.heap = H) (hW : s.WarmedH T.vm) : Vx G s0 p T m c cc nL own :=
  ⟨V.1, V.2.1, V.2.2.1, by rw [hW.alike.findClass]; exact V.2.2.2.1, wd_mv hW V.2.2.2.2.1, va_K.moved hW.alike V.2.2.2.2.2.1, Sn_at V.2.2.2.2.2.2 hS hA hT hW⟩
/-- 'throw new X()', from the 'new' on -/
theorem tn (V : Vx G s0 p s m c cc nL own) (C0 : Ts0 s0) (hfl : l.flags = pinnedFlags ++ [noTraceFlag]) (w : CX own ik ic X) (hlk : meth.locks = false) (hout : ∀ x ∈ c.exceptionTable.toList, covers x (pc + 7) = false) (hl : lv_has ls nL lv) (hst : (rest.map fun v => v.category).sum ≤ 8) (hR : 6 ≤ R.frames ∧ 200 ≤ R.locals ∧ cells + 1 ≤ R.cells ∧ slots + 6 ≤ R.slots) (hS : va_S F s.heap H locs) (hA : ∀ q, F q → s0.heap.size ≤ q) (hc : cells + 1 ≤ mc) (hs6 : slots + 6 ≤ ms)
    (d1 : decode cc pc = .ok (.new ik, 3)) (d2 : decode cc (pc + 3) = .ok (.dup, 1)) (d3 : decode cc (pc + 4) = .ok (.invokespecial ic, 3)) (d4 : decode cc (pc + 7) = .ok (.athrow, 1))
    (hq : ∀ H1 : Heap, H.size ≤ H1.size → (∀ q, q < H.size → H1[q]? = H[q]?) → Post H1) :
    W p l e R s m args below meth c H locs cells slots (MT below (qT s0 F X Post) args s mc ms F) (F0 m pc ls rest) := by
  intro T hT X0
  have V' : Vx G s0 p (rbs T m args below) m c cc nL own := V_mv V hS hA hT X0.warmed
  have hfX := V'
  have X1 := rebase X0 (by omega) (by omega)
  obtain ⟨t, st, x, hrun, hend, hW, hsame, hx, ce, hce, hst0, hcl⟩ := tn0 (R := { R with cells := R.cells - cells, slots := R.slots - slots }) V' C0 hfl w hlk hout hl hst ⟨hR.1, hR.2.1, by show 1 ≤ R.cells - cells; omega, by show 6 ≤ R.slots - slots; omega⟩ d1 d2 d3 d4 T rfl X1
  have hkeep : ∀ q : Nat, q < H.size → t.heap[q]? = H[q]? := fun q hq => by
    have := same_nil hsame q (by show q < T.heap.size; rw [hT]; exact hq)
    rw [← hT]; exact this
  have hgrow : H.size ≤ t.heap.size := by have := hsame.2.1; rw [← hT]; exact this
  have hB : T.sameButNew ({ t with vm := T.vm } : State) [] 1 6 := by
    obtain ⟨e1, e2⟩ := hsame
    refine ⟨?_, e2⟩
    have e3 : ({ t with vm := T.vm } : State) = { (rbs T m args below).setFrames t.frames with heap := t.heap, slotsUsed := t.slotsUsed } := e1
    have e4 : (rbs T m args below).setFrames t.frames = T.setFrames t.frames := by rw [rbs, State.setFrames_setFrames]
    rw [e4] at e3
    exact e3
  have hsm := X0.same.trans (hB.setVm s.vm)
  rw [List.append_nil] at hsm
  have hcl0 : s0.vm.findClass X = some ce.cls := by
    have := V.2.2.2.2.2.2.1.alike.trans X0.warmed.alike
    rw [← this.findClass]; exact hcl
  refine ⟨t, st, .threw x, hrun, hend, ⟨x, rfl, ⟨ce, hce, hst0, hcl0⟩, hq _ hgrow hkeep, ⟨Nat.le_trans hS.1 hgrow, fun q h1 h2 => (hkeep q (Nat.lt_of_lt_of_le h1 hS.1)).trans (hS.2.1 q h1 h2)⟩⟩, locs, ⟨State.WarmedH.trans X0.warmed hW, hsm.mono hc hs6⟩, hS.2.2⟩
/-- an exception x is being thrown over the frame g -/
def WT (p : Program) (l : Launch) (e : Env) (R : Room) (s : State) (m : MethodId) (args : Array Value) (below : List Frame) (meth : Method) (c : Code) (H : Heap) (locs : List Loc) (cells slots : Nat) (Q : State → Prop) (g : JFrame) (x : Nat) : Prop :=
  ∀ T : State, T.heap = H → Stand p l e R s m args below meth c T locs cells slots → ∃ t, Steps p.tables e below ((T.setTop g).pushFrame (.throwing x)) t ∧ Q t
theorem wt_leave {x : Nat} {st : List Value} (hlk : meth.locks = false) (hout : ∀ x ∈ c.exceptionTable.toList, covers x pc = false) (hS : va_S F s.heap H locs) (hc : cells ≤ mc) (hs : slots ≤ ms) (hex : ExA s0 X x H) (hq : Post H) :
    WT p l e R s m args below meth c H locs cells slots (MT below (qT s0 F X Post) args s mc ms F) (F0 m pc ls st) x := by
  intro T hT X0
  obtain ⟨h1, h2, h3, h4, h5⟩ := X0.leaveThrown x (g := F0 m pc ls st) rfl rfl rfl hout hlk
  refine ⟨_, h1, .threw x, h2, h3, ⟨x, rfl, ?_, ?_, ?_⟩, locs, ⟨h4, h5.mono hc hs⟩, hS.2.2⟩
  · show ExA s0 X x T.heap
    rw [hT]; exact hex
  · show Post T.heap
    rw [hT]; exact hq
  · show Kp F s.heap T.heap
    rw [hT]; exact x_Kp hS
/-- a call of a method that throws: what the machine comes to -/
theorem coreT {T : State} {sargs a : Array Value} {av : List Value} {locsT : List Loc} {g : JFrame} {mk : MethodId} {ig : Instr} {len : Nat} (X0 : Stand p l e (rmx d mc0 ms0) s m sargs below meth c T locsT cells slots) (hM : CtT l s0 F d' mc ms y wc av P X Post) (hcd : cdw wc y bytes maxL ret hh)
    (hg : g.method = m) (hsize : g.locals.size = c.maxLocals) (hdg : decode c.code g.pc = .ok (ig, len)) (hW : 2 * g.monitorRoom + (g.stack.map fun v => v.category).sum ≤ 8) (hn : T.methodNamed? y = some mk) (hwc : ∀ a' U, T.vm = U.vm → wc.before a' U = true) (hini : ∀ a', (Cond.initialized y.cls).before a' T = true)
    (hd : d' < d ∧ maxL ≤ 40) (hf : cells + mc ≤ mc0 ∧ slots + ms ≤ ms0) (ha : a = av.toArray) (hsn : Sn s0 T) (hP : P T.heap) :
    ∃ (x : Nat) (T' : State) (L : List Loc), Stand p l e (rmx d mc0 ms0) s m sargs below meth c T' (locsT ++ L) (cells + mc) (slots + ms) ∧ (∀ q ∈ L, F q.base) ∧ ExA s0 X x T'.heap ∧ Post T'.heap ∧ Kp F T.heap T'.heap ∧ Steps p.tables e below (doInvoke e (T.setTop g) [] mk a).1 ((T'.setTop g).pushFrame (.throwing x)) := by
  obtain ⟨m9, methY, cY, hn9, hmY, hcY, -, hlY, -⟩ := hcd _ _ (hwc a T rfl)
  cases hn.symm.trans hn9
  obtain ⟨kY, hkY, -⟩ := className_of_methodNamed hn
  have hinitY : kY.init = .initialized := Cond.initialized_spec (findClass_of_methodNamed hn) hkY (hini a)
  have h : At T g.method c below := by rw [hg]; exact X0.here
  have happ : (headSpec [wc] (rmx d' mc ms)).appliesLoose y e.platform (T.calling g mk a) = true :=
    Spec.appliesLoose_calling (g := g) h hdg hn hkY hinitY
      (X0.room_calling (g := g) (R' := rmx d' mc ms) hsize hmY hcY (by show d' + 6 + 1 ≤ d + 6; omega) (by show _ + _ + (60 * d' + 200) ≤ 60 * d + 200; rw [hlY]; omega) hf.1 hf.2) (atoms_intro fun w hw => by rw [List.mem_singleton.mp hw]; exact hwc a T rfl)
  obtain ⟨mid, hmid⟩ := h.above
  have hfr : (T.setTop g).frames = (.java g :: mid) ++ below := by rw [State.frames_setTop' g h.top, hmid]; rfl
  obtain ⟨o, s₂, hsteps, -, hend, ⟨x, rfl, hex, hpost, hk⟩, L, ⟨hW2, hsame⟩, hL⟩ := Steps.callFree hM p X0.admits X0.cas X0.clock (acts := []) hfr happ ⟨ha, hsn, hP⟩ trivial
  rw [State.frames_setTop' g h.top, X0.tail] at hend
  obtain ⟨T', X', -, -, ht⟩ := X0.outOfThrown (mk := mk) (a := a) hg hend hW2 hsame
  have hheap : s₂.heap = T'.heap := by rw [ht]; exact Stand.throwing_heap T' g x
  refine ⟨x, T', L, X', hL, by rw [← hheap]; exact hex, by rw [← hheap]; exact hpost, by rw [← hheap]; exact hk, ?_⟩
  rw [← ht]
  exact hsteps
theorem t_callS (V : Vx G s0 p s m c cc nL own) (hM : CtT l s0 F d' mc ms y wc As P X Post) (hcd : cdw wc y bytes maxL ret hh) (hwc : wc ∈ lw_tbl ∧ okw wc = true) (w2 : Cond.initialized y.cls ∈ lw_tbl) (w3 : Cond.methodLink own index y ∈ lw_tbl) (w4 : Cond.static y ∈ lw_tbl) (w5 : y.cls ≠ "java/lang/invoke/MethodHandle" ∧ y.cls ≠ "java/lang/invoke/VarHandle" ∧ (parseMethodDescriptor y.desc).map (fun d => d.parameters.length) = some n) (hP : P H) (hS : va_S A0 s.heap H locs) (hA : ∀ q, A0 q → s0.heap.size ≤ q) (hF : ∀ q, F q → A0 q)
    (hd : d' < d ∧ maxL ≤ 40) (hn : As.length = n) (hl : lv_has ls nL lv) (hst : (rest.map fun v => v.category).sum ≤ 8) (hdg : decode cc pc = .ok (.invokestatic index, 3)) (hf : cells + mc ≤ mc0 ∧ slots + ms ≤ ms0)
    (kk : ∀ (x : Nat) (H1 : Heap) (locs1 : List Loc), ExA s0 X x H1 → Post H1 → Kp F H H1 → va_S A0 s.heap H1 locs1 → WT p l e (rmx d mc0 ms0) s m args below meth c H1 locs1 (cells + mc) (slots + ms) Q (F0 m pc ls rest) x) :
    W p l e (rmx d mc0 ms0) s m args below meth c H locs cells slots Q (F0 m pc ls (As.reverse ++ rest)) := by
  obtain ⟨hx, hb, hml, hown, hwd, hK, hs⟩ := V
  intro T hT X0
  have hwc0 := hwd _ hwc.1 hwc.2 args
  obtain ⟨mk, methM, cM, hnamed, hmethM, -, -, -, -, -, -, hsigM⟩ := hcd _ _ hwc0
  have hstatic : methM.isStatic = true := Cond.static_spec hnamed hmethM (hwd _ w4 rfl args)
  obtain ⟨kP, hkP, -⟩ := className_of_methodNamed hnamed
  have hinitP : kP.init = .initialized := Cond.initialized_spec (findClass_of_methodNamed hnamed) hkP (hwd _ w2 rfl args)
  obtain ⟨vm₁, X₁, hstep₁⟩ := X0.invokestatic hx hown (hwd _ w3 rfl args) hnamed hmethM hstatic hkP hinitP ⟨w5.1, w5.2.1⟩ (g := F0 m pc ls (As.reverse ++ rest)) rfl (argsL := As) (rest := rest) (hn.trans (len_of w5.2.2 _ hsigM)) rfl (by rw [hb]; exact hdg)
  have hwd1 : wd (T.setVm vm₁) := wd_mv (U := T.setVm vm₁) X₁.warmed hwd
  obtain ⟨x, T', L, X', hL, hex, hpost, hk, hsteps⟩ := coreT X₁ hM hcd (g := F0 m pc ls rest) rfl (hl.1.trans hml.symm) (by rw [hb]; exact hdg) (lv_room hst) (X₁.named hnamed) (fun a' U hU => okw_mv hwc.2 (s := T.setVm vm₁) (by rw [← hU]; exact State.WarmedH.refl _) (hwd1 _ hwc.1 hwc.2 #[]) a') (fun a' => hwd1 _ w2 rfl a') hd hf rfl (Sn_at hs hS hA hT X₁.warmed) (by show P T.heap; rw [hT]; exact hP)
  have hk' : Kp F H T'.heap := by rw [← hT]; exact hk
  obtain ⟨t2, a1, b1⟩ := kk x T'.heap (locs ++ L) hex hpost hk' (S_call hS hF hk' hL) T' rfl X'
  exact ⟨t2, hstep₁ _ fun acts => by rw [doInvoke_state]; exact hsteps.trans a1, b1⟩
theorem t_callV (V : Vx G s0 p s m c cc nL own) (hM : CtT l s0 F d' mc ms y wc (.ref b :: As) P X Post) (hcd : cdw wc y bytes maxL ret hh) (hwc : wc ∈ lw_tbl ∧ okw wc = true) (w2 : Cond.initialized y.cls ∈ lw_tbl) (w3 : Cond.methodLink own index y ∈ lw_tbl) (w4 : Cond.instanceMethod y ∈ lw_tbl ∧ Cond.selects y.cls y y ∈ lw_tbl) (w5 : y.cls ≠ "java/lang/invoke/MethodHandle" ∧ y.cls ≠ "java/lang/invoke/VarHandle" ∧ (parseMethodDescriptor y.desc).map (fun d => d.parameters.length) = some n) (hrec : ∃ cell : Cell, H[b]? = some cell ∧ cell.vm.isStatics = false ∧ s.vm.findClass y.cls = some cell.cls) (hP : P H) (hS : va_S A0 s.heap H locs) (hA : ∀ q, A0 q → s0.heap.size ≤ q) (hF : ∀ q, F q → A0 q)
    (hd : d' < d ∧ maxL ≤ 40) (hn : As.length = n) (hl : lv_has ls nL lv) (hst : (rest.map fun v => v.category).sum ≤ 8) (hdg : decode cc pc = .ok (.invokevirtual index, 3)) (hf : cells + mc ≤ mc0 ∧ slots + ms ≤ ms0)
    (kk : ∀ (x : Nat) (H1 : Heap) (locs1 : List Loc), ExA s0 X x H1 → Post H1 → Kp F H H1 → va_S A0 s.heap H1 locs1 → WT p l e (rmx d mc0 ms0) s m args below meth c H1 locs1 (cells + mc) (slots + ms) Q (F0 m pc ls rest) x) :
    W p l e (rmx d mc0 ms0) s m args below meth c H locs cells slots Q (F0 m pc ls (As.reverse ++ .ref b :: rest)) := by
  obtain ⟨hx, hb, hml, hown, hwd, hK, hs⟩ := V
  obtain ⟨cellB, hcell, hobj, hcls⟩ := hrec
  intro T hT X0
  have hwc0 := hwd _ hwc.1 hwc.2 args
  obtain ⟨mk, methM, hnamed, hmethM, hstM, habM⟩ := Cond.instanceMethod_spec (hwd _ w4.1 rfl args)
  obtain ⟨mk', methM', cM, hnamed', hmethM', -, -, -, -, -, -, hsigM⟩ := hcd _ _ hwc0
  cases hnamed.symm.trans hnamed'
  cases hmethM.symm.trans hmethM'
  obtain ⟨c2, r2, m2, q1, q2, q3, q4, kP, hkP, hkPi⟩ := Cond.selects_spec (hwd _ w4.2 rfl args)
  cases hcls.symm.trans q1
  cases (State.methodFound?_of_named hnamed ⟨w5.1, w5.2.1⟩).symm.trans q2
  cases hnamed.symm.trans q3
  have hselP : selectMethod e.platform s.vm cellB.cls mk = .method mk := by rw [Launch.admits_selectMethod X0.admits]; exact q4
  obtain ⟨vm₁, X₁, hstep₁⟩ := X0.invokevirtual hx hown (hwd _ w3 rfl args) hnamed hmethM hstM hkP hkPi ⟨w5.1, w5.2.1⟩ (a := b) (cell := cellB) (by rw [hT]; exact hcell)
    (fun z h => by rw [h] at hobj; cases hobj) hselP hmethM habM hkP hkPi (g := F0 m pc ls (As.reverse ++ .ref b :: rest)) rfl (argsL := As) (rest := rest) (hn.trans (len_of w5.2.2 _ hsigM)) rfl (by rw [hb]; exact hdg)
  have hwd1 : wd (T.setVm vm₁) := wd_mv (U := T.setVm vm₁) X₁.warmed hwd
  obtain ⟨x, T', L, X', hL, hex, hpost, hk, hsteps⟩ := coreT X₁ hM hcd (g := F0 m pc ls rest) rfl (hl.1.trans hml.symm) (by rw [hb]; exact hdg) (lv_room hst) (X₁.named hnamed) (fun a' U hU => okw_mv hwc.2 (s := T.setVm vm₁) (by rw [← hU]; exact State.WarmedH.refl _) (hwd1 _ hwc.1 hwc.2 #[]) a') (fun a' => hwd1 _ w2 rfl a') hd hf rfl (Sn_at hs hS hA hT X₁.warmed) (by show P T.heap; rw [hT]; exact hP)
  have hk' : Kp F H T'.heap := by rw [← hT]; exact hk
  obtain ⟨t2, a1, b1⟩ := kk x T'.heap (locs ++ L) hex hpost hk' (S_call hS hF hk' hL) T' rfl X'
  exact ⟨t2, hstep₁ _ fun acts => by rw [doInvoke_state]; exact hsteps.trans a1, b1⟩
theorem t_callVN (V : Vx G s0 p s m c cc nL own) (hM : CtT l s0 F d' mc ms y wc (.ref b :: As) P X Post) (hcd : cdw wc y bytes maxL ret hh) (hwc : wc ∈ lw_tbl ∧ okw wc = true) (w2 : Cond.initialized y.cls ∈ lw_tbl) (w3 : Cond.methodLinkNest own index y "DiskArbiters" ∈ lw_tbl) (w4 : Cond.instanceMethod y ∈ lw_tbl ∧ Cond.selects y.cls y y ∈ lw_tbl) (w5 : y.cls ≠ "java/lang/invoke/MethodHandle" ∧ y.cls ≠ "java/lang/invoke/VarHandle" ∧ (parseMethodDescriptor y.desc).map (fun d => d.parameters.length) = some n) (hrec : ∃ cell : Cell, H[b]? = some cell ∧ cell.vm.isStatics = false ∧ s.vm.findClass y.cls = some cell.cls) (hP : P H) (hS : va_S A0 s.heap H locs) (hA : ∀ q, A0 q → s0.heap.size ≤ q) (hF : ∀ q, F q → A0 q)
    (hd : d' < d ∧ maxL ≤ 40) (hn : As.length = n) (hl : lv_has ls nL lv) (hst : (rest.map fun v => v.category).sum ≤ 8) (hdg : decode cc pc = .ok (.invokevirtual index, 3)) (hf : cells + mc ≤ mc0 ∧ slots + ms ≤ ms0)
    (kk : ∀ (x : Nat) (H1 : Heap) (locs1 : List Loc), ExA s0 X x H1 → Post H1 → Kp F H H1 → va_S A0 s.heap H1 locs1 → WT p l e (rmx d mc0 ms0) s m args below meth c H1 locs1 (cells + mc) (slots + ms) Q (F0 m pc ls rest) x) :
    W p l e (rmx d mc0 ms0) s m args below meth c H locs cells slots Q (F0 m pc ls (As.reverse ++ .ref b :: rest)) := by
  obtain ⟨hx, hb, hml, hown, hwd, hK, hs⟩ := V
  obtain ⟨cellB, hcell, hobj, hcls⟩ := hrec
  intro T hT X0
  have hwc0 := hwd _ hwc.1 hwc.2 args
  obtain ⟨mk, methM, hnamed, hmethM, hstM, habM⟩ := Cond.instanceMethod_spec (hwd _ w4.1 rfl args)
  obtain ⟨mk', methM', cM, hnamed', hmethM', -, -, -, -, -, -, hsigM⟩ := hcd _ _ hwc0
  cases hnamed.symm.trans hnamed'
  cases hmethM.symm.trans hmethM'
  obtain ⟨c2, r2, m2, q1, q2, q3, q4, kP, hkP, hkPi⟩ := Cond.selects_spec (hwd _ w4.2 rfl args)
  cases hcls.symm.trans q1
  cases (State.methodFound?_of_named hnamed ⟨w5.1, w5.2.1⟩).symm.trans q2
  cases hnamed.symm.trans q3
  have hselP : selectMethod e.platform s.vm cellB.cls mk = .method mk := by rw [Launch.admits_selectMethod X0.admits]; exact q4
  obtain ⟨vm₁, X₁, hstep₁⟩ := X0.invokevirtualNest hx hown (hwd _ w3 rfl args) hnamed hmethM hstM hkP hkPi ⟨w5.1, w5.2.1⟩ (a := b) (cell := cellB) (by rw [hT]; exact hcell)
    (fun z h => by rw [h] at hobj; cases hobj) hselP hmethM habM hkP hkPi (g := F0 m pc ls (As.reverse ++ .ref b :: rest)) rfl (argsL := As) (rest := rest) (hn.trans (len_of w5.2.2 _ hsigM)) rfl (by rw [hb]; exact hdg)
  have hwd1 : wd (T.setVm vm₁) := wd_mv (U := T.setVm vm₁) X₁.warmed hwd
  obtain ⟨x, T', L, X', hL, hex, hpost, hk, hsteps⟩ := coreT X₁ hM hcd (g := F0 m pc ls rest) rfl (hl.1.trans hml.symm) (by rw [hb]; exact hdg) (lv_room hst) (X₁.named hnamed) (fun a' U hU => okw_mv hwc.2 (s := T.setVm vm₁) (by rw [← hU]; exact State.WarmedH.refl _) (hwd1 _ hwc.1 hwc.2 #[]) a') (fun a' => hwd1 _ w2 rfl a') hd hf rfl (Sn_at hs hS hA hT X₁.warmed) (by show P T.heap; rw [hT]; exact hP)
  have hk' : Kp F H T'.heap := by rw [← hT]; exact hk
  obtain ⟨t2, a1, b1⟩ := kk x T'.heap (locs ++ L) hex hpost hk' (S_call hS hF hk' hL) T' rfl X'
  exact ⟨t2, hstep₁ _ fun acts => by rw [doInvoke_state]; exact hsteps.trans a1, b1⟩
end TR
