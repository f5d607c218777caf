/-! ===== exceptions caught ===== -/
section FC
variable {e : Env} {s : State} {f : JFrame} {a : Addr}
def GoC (e : Env) (s : State) (f : JFrame) (a : Addr) (es : List ExceptionTableEntry) (pc : Nat) (vm' : Vm) : Prop := ∀ (Q : Handler → Jvm.Pre) (E : Jvm.CtlPost) (d : Bool) (acts : List Action), wp (findHandler.go f a es) Q E e d acts s ↔ Q (.found pc) d acts (s.setVm vm')
theorem goC_hit {x : ExceptionTableEntry} {t : List ExceptionTableEntry} {ci : ClassId} {cell : Cell} (hx : covers x f.pc = true) (h0 : x.catchType ≠ 0) (hcl : s.vm.ClassLinks e.platform f.method.cls x.catchType ci) (hcell : s.heap[a]? = some cell) (hobj : ∀ k, cell.vm ≠ .statics k)
    (hk : ∃ k, (s.vm.noted f.method.cls x.catchType (.cls ci)).classes[cell.cls]? = some k) (hc : ∃ k, (s.vm.noted f.method.cls x.catchType (.cls ci)).classes[ci]? = some k) (hfit : (s.vm.noted f.method.cls x.catchType (.cls ci)).assignable cell.cls ci = true)
    (hsz : (s.vm.noted f.method.cls x.catchType (.cls ci)).classes.size ≤ s.vm.classes.size) : GoC e s f a (x :: t) x.handlerPc (s.vm.noted f.method.cls x.catchType (.cls ci)) := by
  intro Q E d acts
  obtain ⟨ha, ht⟩ := (resolveClass_links e.toSetting hcl).op (op := VmOp.resolveClass f.method.cls x.catchType) rfl
  simp only [covers] at hx
  simp [findHandler.go, hx, h0, ha, ht, hsz, hcell, hobj, hk, hc, hfit, VmOp.dirties, VmOp.acts]
theorem goC_pass {x : ExceptionTableEntry} {t : List ExceptionTableEntry} {ci : ClassId} {cell : Cell} {pc : Nat} {vm' : Vm} (hx : covers x f.pc = true) (h0 : x.catchType ≠ 0) (hcl : s.vm.ClassLinks e.platform f.method.cls x.catchType ci) (hcell : s.heap[a]? = some cell) (hobj : ∀ k, cell.vm ≠ .statics k)
    (hk : ∃ k, (s.vm.noted f.method.cls x.catchType (.cls ci)).classes[cell.cls]? = some k) (hc : ∃ k, (s.vm.noted f.method.cls x.catchType (.cls ci)).classes[ci]? = some k) (hfit : (s.vm.noted f.method.cls x.catchType (.cls ci)).assignable cell.cls ci = false)
    (hsz : (s.vm.noted f.method.cls x.catchType (.cls ci)).classes.size ≤ s.vm.classes.size) (hgo : GoC e (s.setVm (s.vm.noted f.method.cls x.catchType (.cls ci))) f a t pc vm') : GoC e s f a (x :: t) pc vm' := by
  intro Q E d acts
  obtain ⟨ha, ht⟩ := (resolveClass_links e.toSetting hcl).op (op := VmOp.resolveClass f.method.cls x.catchType) rfl
  simp only [covers] at hx
  simp [findHandler.go, hx, h0, ha, ht, hsz, hcell, hobj, hk, hc, hfit, VmOp.dirties, VmOp.acts]
  exact hgo Q E d acts
end FC
theorem stepThrowing_catchC {e : Env} {s : State} {a : Addr} {f : JFrame} {r : List Frame} {pc : Nat} {vm' : Vm} {meth : Method} {code : Code} (hm : s.vm.method? f.method = some meth) (hc : meth.code = some code) (hfind : GoC e s f a code.exceptionTable.toList pc vm') :
    (stepThrowing e s a (.java f :: r)).Is ((s.setVm vm').setFrames (.java { f with pc := pc, stack := [.ref a] } :: r)) [] := by
  simp only [stepThrowing, searchFrame, vmDo]
  generalize hr : Sem.go _ e false [] s = res
  obtain ⟨as, rfl, ha⟩ := Sem.eq_ok_of hr (a := Handler.found pc) (s' := s.setVm vm') (acts' := []) (by simp [W.findHandler_eq hm hc, hfind _ _ _ _])
  exact ⟨rfl, ha⟩
section CT
variable {p : Program} {l : Launch} {e : Env} {R : Room} {s : State} {m : MethodId} {args : Array Value} {below : List Frame} {meth : Method} {c : Code} {H : Heap} {locs : List Loc} {cells slots : Nat} {Q : State → Prop}
variable {cc : ByteArray} {pc : Nat} {ls : Array Slot} {st : List Value} {G : Gx} {s0 : State} {own X : String} {nL x : Nat}
theorem caughtC {T : State} {g : JFrame} {pc : Nat} {vm' : Vm} {target : State} (h : At T g.method c below) (hm : T.vm.method? g.method = some meth) (hc : meth.code = some c) (hfind : GoC e ((T.setTop g).pushFrame (.throwing x)) g x c.exceptionTable.toList pc vm')
    (hrest : Steps p.tables e below ((T.setVm vm').setTop { g with pc := pc, stack := [.ref x] }) target) :
    Steps p.tables e below ((T.setTop g).pushFrame (.throwing x)) target := by
  obtain ⟨hgo, hw⟩ := h.throwing x
  refine Steps.head hgo hw ?_
  rw [stepThread_throwing (frames_entered h.top _), (stepThrowing_catchC (s := (T.setTop g).pushFrame (.throwing x)) (by rw [Stand.throwing_vm]; exact hm) hc hfind).1]
  obtain ⟨g₀, hg⟩ := Option.isSome_iff_exists.mp h.top
  obtain ⟨r, hr⟩ := State.topJava?_eq_some.mp hg
  have hr' : (T.setVm vm').frames = .java g₀ :: r := hr
  rw [State.setTop_of_frames _ hr'] at hrest
  have e1 : (((T.setTop g).pushFrame (.throwing x)).setVm vm').setFrames (.java { g with pc := pc, stack := [.ref x] } :: T.frames.tail) = (T.setVm vm').setFrames (.java { g with pc := pc, stack := [.ref x] } :: r) := by
    rw [State.pushFrame, State.setTop_of_frames _ hr, State.setFrames_setFrames, hr]
    show ((T.setFrames _).setVm vm').setFrames _ = _
    have : (T.setFrames (.throwing x :: (T.setFrames (.java g :: r)).frames)).setVm vm' = (T.setVm vm').setFrames (.throwing x :: (T.setFrames (.java g :: r)).frames) := rfl
    rw [this, State.setFrames_setFrames]
    rfl
  rw [e1]
  exact hrest
/-- the class of a catch clause, by its word -/
theorem ct_link {T : State} (X0 : Stand p l e R s m args below meth c T locs cells slots) (V : Vx G s0 p s m c cc nL own) {index : Nat} {Y : String} (w : Cond.classLink own index Y ∈ lw_tbl) : ∃ ci, s.vm.findClass Y = some ci ∧ T.vm.ClassLinks e.platform m.cls index ci ∧ s.WarmedH (T.vm.noted m.cls index (.cls ci)) ∧ (∃ k, s.vm.classes[ci]? = some k) := by
  have hpl : e.platform.magicAccessors = ({} : Platform).magicAccessors := by rw [X0.admits.platform]
  obtain ⟨ci, hc', hcl⟩ := Cond.classLink_spec V.2.2.2.1 (V.2.2.2.2.1 _ w rfl args) e.platform hpl
  obtain ⟨dk, _, _, kt, hd, _, _, _, _, hkt, _, hopen⟩ := hcl.here
  exact ⟨ci, hc', X0.warmed.classLinks hcl, X0.warmed.noted hd hopen (State.rightAt_cls hcl), kt, hkt⟩
theorem noted_size (vm : Vm) (d i : Nat) (r : Resolved) : (vm.noted d i r).classes.size ≤ vm.classes.size := by
  simp [Vm.noted]
/-- is an X a Y? -/
def Isa (s0 : State) (X Y : String) (b : Bool) : Prop := ∀ cx cy, s0.vm.findClass X = some cx → s0.vm.findClass Y = some cy → s0.vm.assignable cx cy = b
theorem wt_c0 (V : Vx G s0 p s m c cc nL own) {a1 b1 h1 k1 : Nat} {hh : List (Nat × Nat × Nat × Nat)} {Y : String} (ht : c.exceptionTable.toList.map (fun h => (h.startPc, h.endPc, h.handlerPc, h.catchType)) = (a1, b1, h1, k1) :: hh) (hp : a1 ≤ pc ∧ pc < b1) (hk1 : k1 ≠ 0) (w : Cond.classLink own k1 Y ∈ lw_tbl) (hex : ExA s0 X x H) (hisa : Isa s0 X Y true)
    (kk : W p l e R s m args below meth c H locs cells slots Q (F0 m h1 ls [.ref x])) : WT p l e R s m args below meth c H locs cells slots Q (F0 m pc ls st) x := by
  intro T hT X0
  obtain ⟨ce, hce, hstat, hfc⟩ := hex
  obtain ⟨ci, hcy, hcl, hW, kt, hkt⟩ := ct_link X0 V w
  have hal0 := V.2.2.2.2.2.2.1.alike
  have hal := hW.alike
  have hcy0 : s0.vm.findClass Y = some ci := by rw [← hal0.findClass]; exact hcy
  have hasg : s.vm.assignable ce.cls ci = true := by rw [hal0.assignable]; exact hisa _ _ hfc hcy0
  obtain ⟨ks, hks⟩ := Vm.classAt_of_assignable hasg ⟨kt, hkt⟩
  obtain ⟨ks', hks', -⟩ := hal.2.2 _ _ hks
  obtain ⟨kt', hkt', -⟩ := hal.2.2 _ _ hkt
  obtain ⟨t2, a2, b2⟩ := kk (T.setVm (T.vm.noted m.cls k1 (.cls ci))) hT (X0.noted hW)
  cases hes : c.exceptionTable.toList with
  | nil => rw [hes] at ht; cases ht
  | cons y ys =>
    rw [hes, List.map_cons] at ht
    injection ht with e1 e2
    injection e1 with f1 f2
    injection f2 with f2 f3
    injection f3 with f3 f4
    subst f1; subst f2; subst f3; subst f4
    refine ⟨t2, caughtC (g := F0 m pc ls st) (c := c) X0.here X0.method' X0.code (pc := y.handlerPc) (vm' := T.vm.noted m.cls y.catchType (.cls ci)) ?_ a2, b2⟩
    rw [hes]
    have hvm : ((T.setTop (F0 m pc ls st)).pushFrame (.throwing x)).vm = T.vm := Stand.throwing_vm T _ x
    have hh := goC_hit (e := e) (s := (T.setTop (F0 m pc ls st)).pushFrame (.throwing x)) (f := F0 m pc ls st) (a := x) (x := y) (t := ys) (ci := ci) (cell := ce) (by simp [covers]; exact hp) hk1 (by rw [hvm]; exact hcl) (by rw [Stand.throwing_heap, hT]; exact hce) (VmData.ne_statics_of hstat) (by rw [hvm]; exact ⟨ks', hks'⟩) (by rw [hvm]; exact ⟨kt', hkt'⟩) (by rw [hvm]; show (T.vm.noted m.cls y.catchType (.cls ci)).assignable _ _ = true; rw [hal.assignable]; exact hasg) (noted_size _ _ _ _)
    rw [hvm] at hh
    exact hh
theorem ex_cls {ce : Cell} (hal : s0.vm.Alike s.vm) (hfc : s0.vm.findClass X = some ce.cls) : ∃ k, s.vm.classes[ce.cls]? = some k := by
  have : s.vm.findClass X = some ce.cls := by rw [hal.findClass]; exact hfc
  exact Vm.classAt_of_findClass this
theorem isa_at {ce : Cell} {Y : String} {b : Bool} {ci : ClassId} (hal : s0.vm.Alike s.vm) (h : Isa s0 X Y b) (hfc : s0.vm.findClass X = some ce.cls) (hcy : s.vm.findClass Y = some ci) : s.vm.assignable ce.cls ci = b := by
  rw [hal.assignable]
  exact h _ _ hfc (by rw [← hal.findClass]; exact hcy)
theorem wt_c1 (V : Vx G s0 p s m c cc nL own) {a1 b1 h1 k1 a2 b2 h2 k2 : Nat} {hh : List (Nat × Nat × Nat × Nat)} {Y1 Y2 : String} (ht : c.exceptionTable.toList.map (fun h => (h.startPc, h.endPc, h.handlerPc, h.catchType)) = (a1, b1, h1, k1) :: (a2, b2, h2, k2) :: hh) (hp : (a1 ≤ pc ∧ pc < b1) ∧ a2 ≤ pc ∧ pc < b2) (hk : k1 ≠ 0 ∧ k2 ≠ 0) (w1 : Cond.classLink own k1 Y1 ∈ lw_tbl) (w2 : Cond.classLink own k2 Y2 ∈ lw_tbl) (hex : ExA s0 X x H) (hn1 : Isa s0 X Y1 false) (hisa : Isa s0 X Y2 true)
    (kk : W p l e R s m args below meth c H locs cells slots Q (F0 m h2 ls [.ref x])) : WT p l e R s m args below meth c H locs cells slots Q (F0 m pc ls st) x := by
  intro T hT X0
  obtain ⟨ce, hce, hstat, hfc⟩ := hex
  have hal0 := V.2.2.2.2.2.2.1.alike
  obtain ⟨ks, hks⟩ := ex_cls (s := s) hal0 hfc
  obtain ⟨c1, hcy1, hcl1, hW1, kt1, hkt1⟩ := ct_link X0 V w1
  have X1 := X0.noted hW1
  obtain ⟨c2, hcy2, hcl2, hW2, kt2, hkt2⟩ := ct_link X1 V w2
  obtain ⟨ka, hka, -⟩ := hW1.alike.2.2 _ _ hks
  obtain ⟨kb, hkb, -⟩ := hW1.alike.2.2 _ _ hkt1
  obtain ⟨kc, hkc, -⟩ := hW2.alike.2.2 _ _ hks
  obtain ⟨kd, hkd, -⟩ := hW2.alike.2.2 _ _ hkt2
  have as1 := isa_at hal0 hn1 hfc hcy1
  have as2 := isa_at hal0 hisa hfc hcy2
  obtain ⟨t2, g1, g2⟩ := kk ((T.setVm (T.vm.noted m.cls k1 (.cls c1))).setVm ((T.vm.noted m.cls k1 (.cls c1)).noted m.cls k2 (.cls c2))) hT (X1.noted hW2)
  cases hes : c.exceptionTable.toList with
  | nil => rw [hes] at ht; cases ht
  | cons y ys =>
    rw [hes, List.map_cons] at ht
    injection ht with e1 e2
    injection e1 with f1 f2
    injection f2 with f2 f3
    injection f3 with f3 f4
    subst f1; subst f2; subst f3; subst f4
    cases ys with
    | nil => cases e2
    | cons z zs =>
      rw [List.map_cons] at e2
      injection e2 with e1 e2
      injection e1 with f1 f2
      injection f2 with f2 f3
      injection f3 with f3 f4
      subst f1; subst f2; subst f3; subst f4
      refine ⟨t2, caughtC (g := F0 m pc ls st) (c := c) X0.here X0.method' X0.code (pc := z.handlerPc) (vm' := (T.vm.noted m.cls y.catchType (.cls c1)).noted m.cls z.catchType (.cls c2)) ?_ g1, g2⟩
      rw [hes]
      have hvm : ((T.setTop (F0 m pc ls st)).pushFrame (.throwing x)).vm = T.vm := Stand.throwing_vm T _ x
      have hheap : ((T.setTop (F0 m pc ls st)).pushFrame (.throwing x)).heap[x]? = some ce := by rw [Stand.throwing_heap, hT]; exact hce
      refine goC_pass (ci := c1) (cell := ce) (by simp [covers]; exact hp.1) hk.1 (by rw [hvm]; exact hcl1) hheap (VmData.ne_statics_of hstat) (by rw [hvm]; exact ⟨ka, hka⟩) (by rw [hvm]; exact ⟨kb, hkb⟩) (by rw [hvm]; show (T.vm.noted m.cls y.catchType (.cls c1)).assignable _ _ = false; rw [hW1.alike.assignable]; exact as1) (noted_size _ _ _ _) ?_
      rw [hvm]
      exact goC_hit (s := ((T.setTop (F0 m pc ls st)).pushFrame (.throwing x)).setVm (T.vm.noted m.cls y.catchType (.cls c1))) (f := F0 m pc ls st) (ci := c2) (cell := ce) (by simp [covers]; exact hp.2) hk.2 hcl2 hheap (VmData.ne_statics_of hstat) ⟨kc, hkc⟩ ⟨kd, hkd⟩ (by show ((T.vm.noted m.cls y.catchType (.cls c1)).noted m.cls z.catchType (.cls c2)).assignable _ _ = true; exact (hW2.alike.assignable _ _).trans as2) (noted_size _ _ _ _)
theorem wt_c2 (V : Vx G s0 p s m c cc nL own) {a1 b1 h1 k1 a2 b2 h2 k2 a3 b3 h3 k3 : Nat} {hh : List (Nat × Nat × Nat × Nat)} {Y1 Y2 Y3 : String} (ht : c.exceptionTable.toList.map (fun h => (h.startPc, h.endPc, h.handlerPc, h.catchType)) = (a1, b1, h1, k1) :: (a2, b2, h2, k2) :: (a3, b3, h3, k3) :: hh) (hp : (a1 ≤ pc ∧ pc < b1) ∧ (a2 ≤ pc ∧ pc < b2) ∧ a3 ≤ pc ∧ pc < b3) (hk : k1 ≠ 0 ∧ k2 ≠ 0 ∧ k3 ≠ 0) (w1 : Cond.classLink own k1 Y1 ∈ lw_tbl) (w2 : Cond.classLink own k2 Y2 ∈ lw_tbl) (w3 : Cond.classLink own k3 Y3 ∈ lw_tbl) (hex : ExA s0 X x H) (hn1 : Isa s0 X Y1 false) (hn2 : Isa s0 X Y2 false) (hisa : Isa s0 X Y3 true)
    (kk : W p l e R s m args below meth c H locs cells slots Q (F0 m h3 ls [.ref x])) : WT p l e R s m args below meth c H locs cells slots Q (F0 m pc ls st) x := by
  intro T hT X0
  obtain ⟨ce, hce, hstat, hfc⟩ := hex
  have hal0 := V.2.2.2.2.2.2.1.alike
  obtain ⟨ks, hks⟩ := ex_cls (s := s) hal0 hfc
  obtain ⟨c1, hcy1, hcl1, hW1, kt1, hkt1⟩ := ct_link X0 V w1
  have X1 := X0.noted hW1
  obtain ⟨c2, hcy2, hcl2, hW2, kt2, hkt2⟩ := ct_link X1 V w2
  have X2 := X1.noted hW2
  obtain ⟨c3, hcy3, hcl3, hW3, kt3, hkt3⟩ := ct_link X2 V w3
  obtain ⟨ka, hka, -⟩ := hW1.alike.2.2 _ _ hks
  obtain ⟨kb, hkb, -⟩ := hW1.alike.2.2 _ _ hkt1
  obtain ⟨kc, hkc, -⟩ := hW2.alike.2.2 _ _ hks
  obtain ⟨kd, hkd, -⟩ := hW2.alike.2.2 _ _ hkt2
  obtain ⟨ke, hke, -⟩ := hW3.alike.2.2 _ _ hks
  obtain ⟨kf, hkf, -⟩ := hW3.alike.2.2 _ _ hkt3
  have as1 := isa_at hal0 hn1 hfc hcy1
  have as2 := isa_at hal0 hn2 hfc hcy2
  have as3 := isa_at hal0 hisa hfc hcy3
  obtain ⟨t2, g1, g2⟩ := kk (((T.setVm (T.vm.noted m.cls k1 (.cls c1))).setVm ((T.vm.noted m.cls k1 (.cls c1)).noted m.cls k2 (.cls c2))).setVm (((T.vm.noted m.cls k1 (.cls c1)).noted m.cls k2 (.cls c2)).noted m.cls k3 (.cls c3))) hT (X2.noted hW3)
  cases hes : c.exceptionTable.toList with
  | nil => rw [hes] at ht; cases ht
  | cons y ys =>
    rw [hes, List.map_cons] at ht
    injection ht with e1 e2
    injection e1 with f1 f2
    injection f2 with f2 f3
    injection f3 with f3 f4
    subst f1; subst f2; subst f3; subst f4
    cases ys with
    | nil => cases e2
    | cons z zs =>
      rw [List.map_cons] at e2
      injection e2 with e1 e2
      injection e1 with f1 f2
      injection f2 with f2 f3
      injection f3 with f3 f4
      subst f1; subst f2; subst f3; subst f4
      cases zs with
      | nil => cases e2
      | cons u us =>
        rw [List.map_cons] at e2
        injection e2 with e1 e2
        injection e1 with f1 f2
        injection f2 with f2 f3
        injection f3 with f3 f4
        subst f1; subst f2; subst f3; subst f4
        refine ⟨t2, caughtC (g := F0 m pc ls st) (c := c) X0.here X0.method' X0.code (pc := u.handlerPc) (vm' := ((T.vm.noted m.cls y.catchType (.cls c1)).noted m.cls z.catchType (.cls c2)).noted m.cls u.catchType (.cls c3)) ?_ g1, g2⟩
        rw [hes]
        have hvm : ((T.setTop (F0 m pc ls st)).pushFrame (.throwing x)).vm = T.vm := Stand.throwing_vm T _ x
        have hheap : ((T.setTop (F0 m pc ls st)).pushFrame (.throwing x)).heap[x]? = some ce := by rw [Stand.throwing_heap, hT]; exact hce
        refine goC_pass (ci := c1) (cell := ce) (by simp [covers]; exact hp.1) hk.1 (by rw [hvm]; exact hcl1) hheap (VmData.ne_statics_of hstat) (by rw [hvm]; exact ⟨ka, hka⟩) (by rw [hvm]; exact ⟨kb, hkb⟩) (by rw [hvm]; show (T.vm.noted m.cls y.catchType (.cls c1)).assignable _ _ = false; rw [hW1.alike.assignable]; exact as1) (noted_size _ _ _ _) ?_
        rw [hvm]
        refine goC_pass (s := ((T.setTop (F0 m pc ls st)).pushFrame (.throwing x)).setVm (T.vm.noted m.cls y.catchType (.cls c1))) (f := F0 m pc ls st) (ci := c2) (cell := ce) (by simp [covers]; exact hp.2.1) hk.2.1 hcl2 hheap (VmData.ne_statics_of hstat) ⟨kc, hkc⟩ ⟨kd, hkd⟩ ((hW2.alike.assignable _ _).trans as2) (noted_size _ _ _ _) ?_
        exact goC_hit (s := ((T.setTop (F0 m pc ls st)).pushFrame (.throwing x)).setVm ((T.vm.noted m.cls y.catchType (.cls c1)).noted m.cls z.catchType (.cls c2))) (f := F0 m pc ls st) (ci := c3) (cell := ce) (by simp [covers]; exact hp.2.2) hk.2.2 hcl3 hheap (VmData.ne_statics_of hstat) ⟨ke, hke⟩ ⟨kf, hkf⟩ ((hW3.alike.assignable _ _).trans as3) (noted_size _ _ _ _)
end CT
