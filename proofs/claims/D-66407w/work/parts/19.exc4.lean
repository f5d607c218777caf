/-! ===== methods with a table of handlers, where they return ===== -/
def CtR (l : Launch) (s0 : State) (F : Nat → Prop) (d mc ms : Nat) (y : MethodName) (wc : Cond) (av : List Value) (P : Heap → Prop) (Post : Option Value → Heap → Prop) : Prop :=
  Met l y [wc] (rmx d mc ms) (va_Pc av (fun U => Sn s0 U ∧ P U.heap)) (qR F Post) mc ms F
theorem CtR.of {l : Launch} {G : Gx} {s0 : State} {F : Nat → Prop} {d mc ms : Nat} {y : MethodName} {wc : Cond} {b : ByteArray} {maxL : Nat} {ret : Option FieldType} {hh : List (Nat × Nat × Nat × Nat)} {av : List Value} {P : Heap → Prop} {Post : Option Value → Heap → Prop}
    (C : Cx G s0) (hcd : cdw wc y b maxL ret hh) (hy : plainName y.cls = true) (hsz : (lg_sl av).length ≤ maxL)
    (body : ∀ (p : Program) (e : Env) (s : State) (m : MethodId) (below : List Frame) (meth : Method) (c : Code), Vx G s0 p s m c b maxL y.cls → meth.sig.returnType = ret → meth.locks = false → c.exceptionTable.toList.map (fun h => (h.startPc, h.endPc, h.handlerPc, h.catchType)) = hh → P s.heap → ∀ ls : Array Slot, lv_has ls maxL (lv_args 0 av) →
      W p l e (rmx d mc ms) s m av.toArray below meth c s.heap [] 0 0 (MQ below (qR F Post) av.toArray s mc ms F) (F0 m 0 ls [])) : CtR l s0 F d mc ms y wc av P Post := by
  unfold CtR Met
  refine MetFree.of_bodyS (code := b) (maxLocals := maxL) (ret := ret) hy ?_ ?_
  · intro args s m h hn
    obtain ⟨m9, meth, c, hn9, h1, h2, h3, h4, -, h5, h6, -⟩ := hcd _ _ (atoms_spec (ws := [wc]) h _ List.mem_cons_self)
    cases hn.symm.trans hn9
    exact ⟨meth, c, h1, h2, h3, h4, h5, h6⟩
  · intro p e s m args below meth c s₁ B hml hv _
    obtain ⟨rfl, hs, hP⟩ := hv
    have hh0 : s₁.heap = s.heap := by rw [B.state]; rfl
    have hl := lv_entry av (n := maxL) hsz
    obtain ⟨m9, meth9, c9, hn9, h1, h2, -, -, ht, -⟩ := hcd _ _ (atoms_spec (ws := [wc]) B.pre _ List.mem_cons_self)
    cases B.named.symm.trans hn9
    cases B.method.symm.trans h1
    cases (Stand.of_body B).code.symm.trans h2
    have K := body p e s m below meth c ⟨B.exec, B.bytes, hml, findClass_of_methodNamed B.named, wd_mv hs.1 C.1, va_K.moved hs.1.alike C.2, hs⟩ B.returns B.notSynchronized ht hP _ hl
    rw [← lg_entry_eq] at K
    obtain ⟨t, a1, o, b1, b2, b3, b4⟩ := K s₁ hh0 (Stand.of_body B)
    exact ⟨t, o, a1, b1, b2, ⟨b3, b4⟩⟩
section RW
variable {p : Program} {l : Launch} {e : Env} {s : State} {m : MethodId} {args : Array Value} {below : List Frame} {meth : Method} {c : Code} {H : Heap} {locs : List Loc} {cells slots : Nat} {Q : State → Prop}
variable {cc : ByteArray} {pc : Nat} {ls : Array Slot} {rest As : List Value} {A0 F : Nat → Prop} {Post : Option Value → Heap → Prop} {P : Heap → Prop} {G : Gx} {s0 : State} {own : String} {nL mc ms mc0 ms0 d d' maxL index n b : Nat} {y : MethodName} {bytes : ByteArray} {ret : Option FieldType} {lv : List (Nat × Value)} {hh : List (Nat × Nat × Nat × Nat)}
theorem r_callS {R : Room} (hR : rmx d' mc ms = rmx d' mc ms ∧ d' + 7 ≤ R.frames ∧ 8 + (maxL + 11) + (60 * d' + 200) ≤ R.locals) (V : Vx G s0 p s m c cc nL own) (hM : CtR l s0 F d' mc ms y (.codeWith y bytes maxL ret hh) As P Post) (w1 : Cond.codeWith y bytes maxL ret hh ∈ lw_tbl) (w2 : Cond.initialized y.cls ∈ lw_tbl) (w3 : Cond.methodLink own index y ∈ lw_tbl) (w4 : Cond.static y ∈ lw_tbl) (w5 : y.cls ≠ "java/lang/invoke/MethodHandle" ∧ y.cls ≠ "java/lang/invoke/VarHandle" ∧ (parseMethodDescriptor y.desc).map (fun d => d.parameters.length) = some n) (hP : P H) (hS : va_S A0 s.heap H locs) (hA : ∀ q, A0 q → s0.heap.size ≤ q) (hF : ∀ q, F q → A0 q)
    (hn : As.length = n) (hl : lv_has ls nL lv) (hst : (rest.map fun v => v.category).sum ≤ 8) (hdg : decode cc pc = .ok (.invokestatic index, 3)) (hf : cells + mc ≤ R.cells ∧ slots + ms ≤ R.slots)
    (kk : ∀ (v : Option Value) (H1 : Heap) (locs1 : List Loc), Post v H1 → Kp F H H1 → va_S A0 s.heap H1 locs1 → W p l e R s m args below meth c H1 locs1 (cells + mc) (slots + ms) Q (F0 m (pc + 3) ls (v.toList ++ rest))) :
    W p l e R s m args below meth c H locs cells slots Q (F0 m pc ls (As.reverse ++ rest)) := by
  obtain ⟨hx, hb, hml, hown, hwd, hK, hs⟩ := V
  have hB : Back l R p e below s args y 3 8 (PreOf R mc ms (va_Pc As (fun U => Sn s0 U ∧ P U.heap))) (PostOf (qR F Post) mc ms F) :=
    va_backW (hh := hh) (bytes := bytes) (maxL := maxL) (ret := ret) hM pc_blind rfl rfl hR.2.1 hR.2.2 (fun w hw a' U hW => by rw [List.mem_singleton.mp hw]; exact okw_mv rfl hW (hwd _ w1 rfl args) a') (List.mem_singleton.mpr rfl) (fun a' U hW => okw_mv rfl hW (hwd _ w2 rfl args) a')
  intro T hT X0
  obtain ⟨mk, methM, cM, hnamed, hmethM, -, -, -, -, -, -, hsigM⟩ := cdw_with _ _ (hwd _ w1 rfl args)
  have hstatic : methM.isStatic = true := Cond.static_spec hnamed hmethM (hwd _ w4 rfl args)
  obtain ⟨kP, hkP, -⟩ := className_of_methodNamed hnamed
  have hinitP : kP.init = .initialized := Cond.initialized_spec (findClass_of_methodNamed hnamed) hkP (hwd _ w2 rfl args)
  obtain ⟨vm₁, X₁, hstep₁⟩ := X0.invokestatic hx hown (hwd _ w3 rfl args) hnamed hmethM hstatic hkP hinitP ⟨w5.1, w5.2.1⟩ (g := F0 m pc ls (As.reverse ++ rest)) rfl (argsL := As) (rest := rest) (hn.trans (len_of w5.2.2 _ hsigM)) rfl (by rw [hb]; exact hdg)
  obtain ⟨v, ⟨U', l2, c2, s2⟩, X', ⟨g', mk', t, L, e1, e2, ⟨v', hv, hp, hk⟩, h1, hL, h2, h3⟩, hsteps⟩ := hB m meth c ⟨T.setVm vm₁, locs, cells, slots⟩ (F0 m pc ls rest) (.invokestatic index) mk As.toArray X₁ rfl (hl.1.trans hml.symm) (by rw [hb]; exact hdg) (lv_room hst) (X₁.named hnamed) ⟨hf.1, hf.2, rfl, Sn_at hs hS hA hT X₁.warmed, by show P T.heap; rw [hT]; exact hP⟩
  dsimp only [Pt.U, Pt.locs, Pt.cells, Pt.slots] at X' e1 e2 h1 h2 h3 hsteps
  cases hv
  subst h1; subst h2; subst h3
  have hk' : Kp F H U'.heap := by rw [e1, ← hT]; exact hk
  rw [← e1] at hp
  obtain ⟨t2, a1, b1⟩ := kk v U'.heap (locs ++ L) hp hk' (S_call hS hF hk' hL) U' rfl X'
  exact ⟨t2, hstep₁ _ fun acts => by rw [doInvoke_state]; exact hsteps.trans a1, b1⟩
theorem r_callV (V : Vx G s0 p s m c cc nL own) (hM : CtR l s0 F d' mc ms y (.codeWith y bytes maxL ret hh) (.ref b :: As) P Post) (w1 : Cond.codeWith y bytes maxL ret hh ∈ lw_tbl) (w2 : Cond.initialized y.cls ∈ lw_tbl) (w3 : Cond.methodLink own index y ∈ lw_tbl) (w4 : Cond.instanceMethod y ∈ lw_tbl ∧ Cond.selects y.cls y y ∈ lw_tbl) (w5 : y.cls ≠ "java/lang/invoke/MethodHandle" ∧ y.cls ≠ "java/lang/invoke/VarHandle" ∧ (parseMethodDescriptor y.desc).map (fun d => d.parameters.length) = some n) (hrec : ∃ cell : Cell, H[b]? = some cell ∧ cell.vm.isStatics = false ∧ s.vm.findClass y.cls = some cell.cls) (hP : P H) (hS : va_S A0 s.heap H locs) (hA : ∀ q, A0 q → s0.heap.size ≤ q) (hF : ∀ q, F q → A0 q)
    (hd : d' < d ∧ maxL ≤ 40) (hn : As.length = n) (hl : lv_has ls nL lv) (hst : (rest.map fun v => v.category).sum ≤ 8) (hdg : decode cc pc = .ok (.invokevirtual index, 3)) (hf : cells + mc ≤ mc0 ∧ slots + ms ≤ ms0)
    (kk : ∀ (v : Option Value) (H1 : Heap) (locs1 : List Loc), Post v H1 → Kp F H H1 → va_S A0 s.heap H1 locs1 → W p l e (rmx d mc0 ms0) s m args below meth c H1 locs1 (cells + mc) (slots + ms) Q (F0 m (pc + 3) ls (v.toList ++ rest))) :
    W p l e (rmx d mc0 ms0) s m args below meth c H locs cells slots Q (F0 m pc ls (As.reverse ++ .ref b :: rest)) := by
  obtain ⟨hx, hb, hml, hown, hwd, hK, hs⟩ := V
  obtain ⟨cellB, hcell, hobj, hcls⟩ := hrec
  have hB : Back l (rmx d mc0 ms0) p e below s args y 3 8 (PreOf (rmx d mc0 ms0) mc ms (va_Pc (.ref b :: As) (fun U => Sn s0 U ∧ P U.heap))) (PostOf (qR F Post) mc ms F) :=
    va_backW (hh := hh) (bytes := bytes) (maxL := maxL) (ret := ret) hM pc_blind rfl rfl (by show d' + 6 + 1 ≤ d + 6; omega) (by show 8 + (maxL + 11) + (60 * d' + 200) ≤ 60 * d + 200; omega) (fun w hw a' U hW => by rw [List.mem_singleton.mp hw]; exact okw_mv rfl hW (hwd _ w1 rfl args) a') (List.mem_singleton.mpr rfl) (fun a' U hW => okw_mv rfl hW (hwd _ w2 rfl args) a')
  intro T hT X0
  obtain ⟨mk, methM, hnamed, hmethM, hstM, habM⟩ := Cond.instanceMethod_spec (hwd _ w4.1 rfl args)
  obtain ⟨mk', methM', cM, hnamed', hmethM', -, -, -, -, -, -, hsigM⟩ := cdw_with _ _ (hwd _ w1 rfl args)
  cases hnamed.symm.trans hnamed'
  cases hmethM.symm.trans hmethM'
  obtain ⟨c2, r2, m2, q1, q2, q3, q4, kP, hkP, hkPi⟩ := Cond.selects_spec (hwd _ w4.2 rfl args)
  cases hcls.symm.trans q1
  cases (State.methodFound?_of_named hnamed ⟨w5.1, w5.2.1⟩).symm.trans q2
  cases hnamed.symm.trans q3
  have hselP : selectMethod e.platform s.vm cellB.cls mk = .method mk := by rw [Launch.admits_selectMethod X0.admits]; exact q4
  obtain ⟨vm₁, X₁, hstep₁⟩ := X0.invokevirtual hx hown (hwd _ w3 rfl args) hnamed hmethM hstM hkP hkPi ⟨w5.1, w5.2.1⟩ (a := b) (cell := cellB) (by rw [hT]; exact hcell)
    (fun z h => by rw [h] at hobj; cases hobj) hselP hmethM habM hkP hkPi (g := F0 m pc ls (As.reverse ++ .ref b :: rest)) rfl (argsL := As) (rest := rest) (hn.trans (len_of w5.2.2 _ hsigM)) rfl (by rw [hb]; exact hdg)
  obtain ⟨v, ⟨U', l2, c2, s2⟩, X', ⟨g', mk', t, L, e1, e2, ⟨v', hv, hp, hk⟩, h1, hL, h2, h3⟩, hsteps⟩ := hB m meth c ⟨T.setVm vm₁, locs, cells, slots⟩ (F0 m pc ls rest) (.invokevirtual index) mk (Value.ref b :: As).toArray X₁ rfl (hl.1.trans hml.symm) (by rw [hb]; exact hdg) (lv_room hst) (X₁.named hnamed) ⟨hf.1, hf.2, rfl, Sn_at hs hS hA hT X₁.warmed, by show P T.heap; rw [hT]; exact hP⟩
  dsimp only [Pt.U, Pt.locs, Pt.cells, Pt.slots] at X' e1 e2 h1 h2 h3 hsteps
  cases hv
  subst h1; subst h2; subst h3
  have hk' : Kp F H U'.heap := by rw [e1, ← hT]; exact hk
  rw [← e1] at hp
  obtain ⟨t2, a1, b1⟩ := kk v U'.heap (locs ++ L) hp hk' (S_call hS hF hk' hL) U' rfl X'
  exact ⟨t2, hstep₁ _ fun acts => by rw [doInvoke_state]; exact hsteps.trans a1, b1⟩
end RW
