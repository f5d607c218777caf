def R_Da : String := "DiskArbiters"
def F_Da : u_T := fun k => match k with
  | 0 => ("DiskArbiters", "disks", "[LDiskArbiters$Disk;", true)
  | _ => ("DiskArbiters", "controllers", "[LDiskArbiters$Controller;", true)
def t_Da : Nat → FieldType := fun k => match k with
  | 0 => .array (.object "DiskArbiters$Disk")
  | _ => .array (.object "DiskArbiters$Controller")
def R_Dk : String := "DiskArbiters$Disk"
def F_Dk : u_T := fun k => match k with
  | 0 => ("DiskArbiters$Disk", "works", "Z", false)
  | _ => ("DiskArbiters$Disk", "words", "[I", true)
def t_Dk : Nat → FieldType := fun k => match k with
  | 0 => .boolean
  | _ => .array (.int)
def R_Ct : String := "DiskArbiters$Controller"
def F_Ct : u_T := fun k => match k with
  | 0 => ("DiskArbiters$Controller", "number", "I", true)
  | 1 => ("DiskArbiters$Controller", "log", "[I", true)
  | 2 => ("DiskArbiters$Controller", "length", "I", false)
  | 3 => ("DiskArbiters$Controller", "wishes", "Ljava/util/ArrayList;", true)
  | 4 => ("DiskArbiters$Controller", "started", "I", false)
  | 5 => ("DiskArbiters$Controller", "voteRound", "I", false)
  | 6 => ("DiskArbiters$Controller", "voteEntry", "I", false)
  | 7 => ("DiskArbiters$Controller", "library", "LDiskArbiters$Library;", true)
  | 8 => ("DiskArbiters$Controller", "up", "Z", false)
  | 9 => ("DiskArbiters$Controller", "seen", "I", false)
  | 10 => ("DiskArbiters$Controller", "phase", "I", false)
  | 11 => ("DiskArbiters$Controller", "disk", "I", false)
  | 12 => ("DiskArbiters$Controller", "done", "I", false)
  | 13 => ("DiskArbiters$Controller", "step", "I", false)
  | 14 => ("DiskArbiters$Controller", "bestRound", "I", false)
  | 15 => ("DiskArbiters$Controller", "bestEntry", "I", false)
  | _ => ("DiskArbiters$Controller", "accesses", "I", false)
def t_Ct : Nat → FieldType := fun k => match k with
  | 0 => .int
  | 1 => .array (.int)
  | 2 => .int
  | 3 => .object "java/util/ArrayList"
  | 4 => .int
  | 5 => .int
  | 6 => .int
  | 7 => .object "DiskArbiters$Library"
  | 8 => .boolean
  | 9 => .int
  | 10 => .int
  | 11 => .int
  | 12 => .int
  | 13 => .int
  | 14 => .int
  | 15 => .int
  | _ => .int
def R_Al : String := "java/util/ArrayList"
def F_Al : u_T := fun k => match k with
  | 0 => ("java/util/ArrayList", "elementData", "[Ljava/lang/Object;", false)
  | 1 => ("java/util/ArrayList", "size", "I", false)
  | _ => ("java/util/AbstractList", "modCount", "I", false)
def t_Al : Nat → FieldType := fun k => match k with
  | 0 => .array (.object "java/lang/Object")
  | 1 => .int
  | _ => .int
def R_Lb : String := "DiskArbiters$Library"
def F_Lb : u_T := fun k => match k with
  | 0 => ("DiskArbiters$Library", "where", "[I", true)
  | _ => ("DiskArbiters$Library", "drives", "[LDiskArbiters$Drive;", true)
def t_Lb : Nat → FieldType := fun k => match k with
  | 0 => .array (.int)
  | _ => .array (.object "DiskArbiters$Drive")
def R_Dr : String := "DiskArbiters$Drive"
def F_Dr : u_T := fun k => match k with
  | 0 => ("DiskArbiters$Drive", "holds", "I", false)
  | 1 => ("DiskArbiters$Drive", "off", "Z", false)
  | _ => ("DiskArbiters$Drive", "reserved", "I", false)
def t_Dr : Nat → FieldType := fun k => match k with
  | 0 => .int
  | 1 => .boolean
  | _ => .int
def R_Wi : String := "DiskArbiters$Wish"
def F_Wi : u_T := fun k => match k with
  | 0 => ("DiskArbiters$Wish", "entry", "I", true)
  | _ => ("DiskArbiters$Wish", "outcome", "I", false)
def t_Wi : Nat → FieldType := fun k => match k with
  | 0 => .int
  | _ => .int
def R_It : String := "java/util/ArrayList$Itr"
def F_It : u_T := fun k => match k with
  | 0 => ("java/util/ArrayList$Itr", "cursor", "I", false)
  | 1 => ("java/util/ArrayList$Itr", "lastRet", "I", false)
  | 2 => ("java/util/ArrayList$Itr", "expectedModCount", "I", false)
  | _ => ("java/util/ArrayList$Itr", "this$0", "Ljava/util/ArrayList;", true)
def t_It : Nat → FieldType := fun k => match k with
  | 0 => .int
  | 1 => .int
  | 2 => .int
  | _ => .object "java/util/ArrayList"
def R_Mo : String := "DiskArbitersModel"
def F_Mo : u_T := fun k => match k with
  | 0 => ("DiskArbitersModel", "thrown", "I", false)
  | 1 => ("DiskArbitersModel", "words", "[I", true)
  | 2 => ("DiskArbitersModel", "failed", "[Z", true)
  | 3 => ("DiskArbitersModel", "logs", "[I", true)
  | 4 => ("DiskArbitersModel", "places", "[I", true)
  | 5 => ("DiskArbitersModel", "wishes", "[I", true)
  | 6 => ("DiskArbitersModel", "outcomes", "[I", true)
  | 7 => ("DiskArbitersModel", "wished", "[I", true)
  | 8 => ("DiskArbitersModel", "started", "[I", true)
  | 9 => ("DiskArbitersModel", "voteRound", "[I", true)
  | 10 => ("DiskArbitersModel", "voteEntry", "[I", true)
  | 11 => ("DiskArbitersModel", "down", "[Z", true)
  | 12 => ("DiskArbitersModel", "phase", "[I", true)
  | 13 => ("DiskArbitersModel", "seen", "[I", true)
  | 14 => ("DiskArbitersModel", "at", "[I", true)
  | 15 => ("DiskArbitersModel", "written", "[Z", true)
  | 16 => ("DiskArbitersModel", "read", "[I", true)
  | 17 => ("DiskArbitersModel", "done", "[I", true)
  | 18 => ("DiskArbitersModel", "bestRound", "[I", true)
  | 19 => ("DiskArbitersModel", "bestEntry", "[I", true)
  | 20 => ("DiskArbitersModel", "accesses", "[I", true)
  | 21 => ("DiskArbitersModel", "where", "[I", true)
  | 22 => ("DiskArbitersModel", "holds", "[I", true)
  | 23 => ("DiskArbitersModel", "off", "[Z", true)
  | _ => ("DiskArbitersModel", "reserved", "[I", true)
def t_Mo : Nat → FieldType := fun k => match k with
  | 0 => .int
  | 1 => .array (.int)
  | 2 => .array (.boolean)
  | 3 => .array (.int)
  | 4 => .array (.int)
  | 5 => .array (.int)
  | 6 => .array (.int)
  | 7 => .array (.int)
  | 8 => .array (.int)
  | 9 => .array (.int)
  | 10 => .array (.int)
  | 11 => .array (.boolean)
  | 12 => .array (.int)
  | 13 => .array (.int)
  | 14 => .array (.int)
  | 15 => .array (.boolean)
  | 16 => .array (.int)
  | 17 => .array (.int)
  | 18 => .array (.int)
  | 19 => .array (.int)
  | 20 => .array (.int)
  | 21 => .array (.int)
  | 22 => .array (.int)
  | 23 => .array (.boolean)
  | _ => .array (.int)
abbrev classes : List vw_C := [(R_Da, F_Da, 2), (R_Dk, F_Dk, 2), (R_Ct, F_Ct, 17), (R_Al, F_Al, 3), (R_Lb, F_Lb, 2), (R_Dr, F_Dr, 3), (R_Wi, F_Wi, 2), (R_It, F_It, 4), (R_Mo, F_Mo, 25)]
theorem n_Da : ∀ a, a < 2 → ∀ b, b < 2 → a ≠ b → (F_Da a).2.1 ≠ (F_Da b).2.1 := by decide +kernel
theorem t_Da_ok : ∀ k, k < 2 → parseFieldDescriptor (F_Da k).2.2.1 = some (t_Da k) := by decide +kernel
theorem n_Dk : ∀ a, a < 2 → ∀ b, b < 2 → a ≠ b → (F_Dk a).2.1 ≠ (F_Dk b).2.1 := by decide +kernel
theorem t_Dk_ok : ∀ k, k < 2 → parseFieldDescriptor (F_Dk k).2.2.1 = some (t_Dk k) := by decide +kernel
theorem n_Ct : ∀ a, a < 17 → ∀ b, b < 17 → a ≠ b → (F_Ct a).2.1 ≠ (F_Ct b).2.1 := by decide +kernel
theorem t_Ct_ok : ∀ k, k < 17 → parseFieldDescriptor (F_Ct k).2.2.1 = some (t_Ct k) := by decide +kernel
theorem n_Al : ∀ a, a < 3 → ∀ b, b < 3 → a ≠ b → (F_Al a).2.1 ≠ (F_Al b).2.1 := by decide +kernel
theorem t_Al_ok : ∀ k, k < 3 → parseFieldDescriptor (F_Al k).2.2.1 = some (t_Al k) := by decide +kernel
theorem n_Lb : ∀ a, a < 2 → ∀ b, b < 2 → a ≠ b → (F_Lb a).2.1 ≠ (F_Lb b).2.1 := by decide +kernel
theorem t_Lb_ok : ∀ k, k < 2 → parseFieldDescriptor (F_Lb k).2.2.1 = some (t_Lb k) := by decide +kernel
theorem n_Dr : ∀ a, a < 3 → ∀ b, b < 3 → a ≠ b → (F_Dr a).2.1 ≠ (F_Dr b).2.1 := by decide +kernel
theorem t_Dr_ok : ∀ k, k < 3 → parseFieldDescriptor (F_Dr k).2.2.1 = some (t_Dr k) := by decide +kernel
theorem n_Wi : ∀ a, a < 2 → ∀ b, b < 2 → a ≠ b → (F_Wi a).2.1 ≠ (F_Wi b).2.1 := by decide +kernel
theorem t_Wi_ok : ∀ k, k < 2 → parseFieldDescriptor (F_Wi k).2.2.1 = some (t_Wi k) := by decide +kernel
theorem n_It : ∀ a, a < 4 → ∀ b, b < 4 → a ≠ b → (F_It a).2.1 ≠ (F_It b).2.1 := by decide +kernel
theorem t_It_ok : ∀ k, k < 4 → parseFieldDescriptor (F_It k).2.2.1 = some (t_It k) := by decide +kernel
theorem n_Mo : ∀ a, a < 25 → ∀ b, b < 25 → a ≠ b → (F_Mo a).2.1 ≠ (F_Mo b).2.1 := by decide +kernel
theorem t_Mo_ok : ∀ k, k < 25 → parseFieldDescriptor (F_Mo k).2.2.1 = some (t_Mo k) := by decide +kernel
/-! ===== the words, wherever the tables are warmer than at the law's start ===== -/
def okw : Cond → Bool
  | .arrayClass _ => true
  | .fieldLinkNest .. => true
  | .methodLinkNest .. => true
  | .arrayOver (.object _) => true
  | w => w.onTables && w.keepsFace
def Tb : List Cond := lw_tbl.filter okw
def wd (s : State) : Prop := ∀ w ∈ lw_tbl, okw w = true → ∀ args : Array Value, w.before args s = true
theorem okw_mv {w : Cond} (hok : okw w = true) {s U : State} (hW : s.WarmedH U.vm) {a0 : Array Value} (h0 : w.before a0 s = true) (args : Array Value) : w.before args U = true := by
  unfold okw at hok
  split at hok
  · have h1 := Cond.before_shiftedFace (State.Shifted.of_warmed hW) _ rfl h0
    exact h1
  · exact va_Nw.use rfl (va_Nw.warmF hW (va_Nw.of rfl h0))
  · exact va_Nw.use rfl (va_Nw.warmM hW (va_Nw.of rfl h0))
  · exact va_AO.use (va_AO.moved hW.alike (va_AO.of h0))
  · simp only [Bool.and_eq_true] at hok
    have h1 := Cond.before_shiftedFace (State.Shifted.of_warmed hW) _ hok.2 h0
    have e := Cond.onTables_vm (A := args) (A' := a0) (U := U) (U' := s) U.vm _ hok.1
    have h2 : U.setVm U.vm = U := rfl
    rw [h2] at e
    rw [e]
    exact h1
theorem wd_mv {s U : State} (hW : s.WarmedH U.vm) (h : wd s) : wd U := fun w hw hok args => okw_mv hok hW (h w hw hok #[]) args
theorem wd_of {s : State} {a0 : Array Value} (h : ∀ w ∈ lw_tbl, w.before a0 s = true) : wd s := fun w hw hok args => okw_mv hok (State.WarmedH.refl s) (h w hw) args
theorem wd_ts {s : State} (h : wd s) (args : Array Value) : ∀ w ∈ Tb, w.before args s = true := fun w hw => h w (List.mem_filter.mp hw).1 (List.mem_filter.mp hw).2 args
theorem tb_in {ws : List Cond} (h : ∀ w ∈ ws, w ∈ lw_tbl) (h2 : ws.all okw = true) : ∀ w ∈ ws, w ∈ Tb := fun w hw => List.mem_filter.mpr ⟨h w hw, List.all_eq_true.mp h2 w hw⟩
/-- what is known since the law's start s0: the tables are warmer, the old cells as they were -/
def Sn (s0 U : State) : Prop := s0.WarmedH U.vm ∧ s0.heap.size ≤ U.heap.size ∧ ∀ q : Nat, q < s0.heap.size → U.heap[q]? = s0.heap[q]?
abbrev Gx : Type := va_G × (Nat → ClassId)
abbrev atys (aC : Nat → ClassId) : List (ClassId × FieldType) := [(aC 0, .int), (aC 1, .boolean), (aC 2, .long), (aC 3, .object "DiskArbiters$Disk"), (aC 4, .object "DiskArbiters$Controller"), (aC 5, .object "DiskArbiters$Drive"), (aC 6, .object "java/lang/Object")]
def Kx (G : Gx) (U : State) : Prop := va_K G.1 classes (atys G.2) U
def Cx (G : Gx) (s0 : State) : Prop := wd s0 ∧ Kx G s0
/-- what a walk stands on -/
abbrev Vx (G : Gx) (s0 : State) (p : Program) (s : State) (m : MethodId) (c : Code) (cc : ByteArray) (nL : Nat) (own : String) : Prop :=
  p.tables.exec = Jvm.exec ∧ c.code = cc ∧ c.maxLocals = nL ∧ s.vm.findClass own = some m.cls ∧ wd s ∧ Kx G s ∧ Sn s0 s
def Kp (F : Nat → Prop) (H H1 : Heap) : Prop := H.size ≤ H1.size ∧ ∀ q : Nat, q < H.size → ¬ F q → H1[q]? = H[q]?
theorem Kp.rf {F : Nat → Prop} {H : Heap} : Kp F H H := ⟨Nat.le_refl _, fun _ _ _ => rfl⟩
def qR (F : Nat → Prop) (Post : Option Value → Heap → Prop) : Array Value → State → Outcome → State → Prop := fun _ st o t => ∃ v, o = .returned v ∧ Post v t.heap ∧ Kp F st.heap t.heap
def rmx (d mc ms : Nat) : Room := { frames := d + 6, cells := mc, slots := ms, locals := 60 * d + 200 }
/-- a method's contract, where it returns -/
def Ct (l : Launch) (s0 : State) (F : Nat → Prop) (d mc ms : Nat) (y : MethodName) (b : ByteArray) (maxL : Nat) (ret : Option FieldType) (av : List Value) (P : Heap → Prop) (Post : Option Value → Heap → Prop) : Prop :=
  Met l y [Cond.code y b maxL ret] (rmx d mc ms) (va_Pc av (fun U => Sn s0 U ∧ P U.heap)) (qR F Post) mc ms F
theorem Ct.of {l : Launch} {G : Gx} {s0 : State} {F : Nat → Prop} {d mc ms : Nat} {y : MethodName} {b : ByteArray} {maxL : Nat} {ret : Option FieldType} {av : List Value} {P : Heap → Prop} {Post : Option Value → Heap → Prop}
    (C : Cx G s0) (hy : plainName y.cls = true) (hsz : (lg_sl av).length ≤ maxL)
    (body : ∀ (p : Program) (e : Env) (s : State) (m : MethodId) (below : List Frame) (meth : Method) (c : Code), Vx G s0 p s m c b maxL y.cls → meth.sig.returnType = ret → meth.locks = false → meth.name = y.name → P s.heap → ∀ ls : Array Slot, lv_has ls maxL (lv_args 0 av) →
      W p l e (rmx d mc ms) s m av.toArray below meth c s.heap [] 0 0 (MQ below (qR F Post) av.toArray s mc ms F) (F0 m 0 ls [])) : Ct l s0 F d mc ms y b maxL ret av P Post := by
  refine Met.ofW (cc := b) (maxL := maxL) (ret := ret) hy rfl ?_
  intro p e s m args below meth c s₁ B hml hv
  obtain ⟨rfl, hs, hP⟩ := hv
  have hl := lv_entry av (n := maxL) hsz
  rw [lg_entry_eq]
  exact body p e s m below meth c ⟨B.exec, B.bytes, hml, findClass_of_methodNamed B.named, wd_mv hs.1 C.1, va_K.moved hs.1.alike C.2, hs⟩ B.returns B.notSynchronized (name_of_methodNamed B.named B.method).1 hP _ hl
section XE
variable {p : Program} {l : Launch} {e : Env} {R : Room} {s : State} {m : MethodId} {args : Array Value} {below : List Frame} {meth : Method} {c : Code} {H : Heap} {locs : List Loc} {cells slots : Nat} {Q : State → Prop}
variable {cc : ByteArray} {pc : Nat} {ls : Array Slot} {rest : List Value} {F : Nat → Prop} {Post : Option Value → Heap → Prop} {G : Gx} {s0 : State} {own : String} {nL mc ms : Nat}
theorem x_Kp (hS : va_S F s.heap H locs) : Kp F s.heap H := ⟨hS.1, hS.2.1⟩
theorem e_i {v : Int32} (V : Vx G s0 p s m c cc nL own) (hr : meth.sig.returnType = some .int) (hlk : meth.locks = false) (hS : va_S F s.heap H locs) (hc : cells ≤ mc) (hs : slots ≤ ms) (hdg : decode cc pc = .ok (.ireturn, 1)) (hq : Post (some (.int v)) H) :
    W p l e R s m args below meth c H locs cells slots (MQ below (qR F Post) args s mc ms F) (F0 m pc ls [.int v]) :=
  W.widen hc hs (W.iret (v := v) V.1 V.2.1 hr (fun t ht _ => ⟨_, rfl, by rw [ht]; exact hq, by rw [ht]; exact x_Kp hS⟩) hS.2.2 hdg hlk)
theorem e_z {v : Int32} (V : Vx G s0 p s m c cc nL own) (hr : meth.sig.returnType = some .boolean) (hlk : meth.locks = false) (hS : va_S F s.heap H locs) (hc : cells ≤ mc) (hs : slots ≤ ms) (hdg : decode cc pc = .ok (.ireturn, 1)) (hv : v = 0 ∨ v = 1) (hq : Post (some (.int v)) H) :
    W p l e R s m args below meth c H locs cells slots (MQ below (qR F Post) args s mc ms F) (F0 m pc ls [.int v]) :=
  W.widen hc hs (W.zret (v := v) V.1 V.2.1 hr (by rcases hv with rfl | rfl <;> rfl) (fun t ht _ => ⟨_, rfl, by rw [ht]; exact hq, by rw [ht]; exact x_Kp hS⟩) hS.2.2 hdg hlk)
theorem e_v (V : Vx G s0 p s m c cc nL own) (hr : meth.sig.returnType = none) (hlk : meth.locks = false) (hS : va_S F s.heap H locs) (hc : cells ≤ mc) (hs : slots ≤ ms) (hdg : decode cc pc = .ok (.return_, 1)) (hq : Post none H) :
    W p l e R s m args below meth c H locs cells slots (MQ below (qR F Post) args s mc ms F) (F0 m pc ls []) :=
  W.widen hc hs (W.vret V.1 V.2.1 hr (fun t ht _ => ⟨_, rfl, by rw [ht]; exact hq, by rw [ht]; exact x_Kp hS⟩) hS.2.2 hdg hlk)
theorem e_a {a : Nat} {C : String} (V : Vx G s0 p s m c cc nL own) (hr : meth.sig.returnType = some (.object C)) (hlk : meth.locks = false) (hS : va_S F s.heap H locs) (hc : cells ≤ mc) (hs : slots ≤ ms) (hdg : decode cc pc = .ok (.areturn, 1)) (hq : Post (some (.ref a)) H) :
    W p l e R s m args below meth c H locs cells slots (MQ below (qR F Post) args s mc ms F) (F0 m pc ls [.ref a]) :=
  W.widen hc hs (W.aret (v := .ref a) V.1 V.2.1 hr (Or.inl ⟨_, rfl⟩) (Or.inr ⟨_, rfl⟩) (fun t ht _ => ⟨_, rfl, by rw [ht]; exact hq, by rw [ht]; exact x_Kp hS⟩) hS.2.2 hdg hlk)
theorem e_n {C : String} (V : Vx G s0 p s m c cc nL own) (hr : meth.sig.returnType = some (.object C)) (hlk : meth.locks = false) (hS : va_S F s.heap H locs) (hc : cells ≤ mc) (hs : slots ≤ ms) (hdg : decode cc pc = .ok (.areturn, 1)) (hq : Post (some .null) H) :
    W p l e R s m args below meth c H locs cells slots (MQ below (qR F Post) args s mc ms F) (F0 m pc ls [.null]) :=
  W.widen hc hs (W.aret (v := .null) V.1 V.2.1 hr (Or.inl ⟨_, rfl⟩) (Or.inl rfl) (fun t ht _ => ⟨_, rfl, by rw [ht]; exact hq, by rw [ht]; exact x_Kp hS⟩) hS.2.2 hdg hlk)
end XE
/-! ===== single cells ===== -/
section XR
variable {p : Program} {l : Launch} {e : Env} {R : Room} {s : State} {m : MethodId} {args : Array Value} {below : List Frame} {meth : Method} {c : Code} {H : Heap} {locs : List Loc} {cells slots : Nat} {Q : State → Prop}
variable {cc : ByteArray} {pc : Nat} {ls : Array Slot} {rest : List Value} {D : va_G} {cl : List vw_C} {a : Nat} {tys : List (ClassId × FieldType)}
theorem x_one {q : Nat × va_E} (h : va_at D cl q H) : va_P D cl [q] H := by
  intro k r hk
  cases k with
  | zero => cases hk; exact h
  | succ k => simp at hk
theorem x_oneD {q : Nat × va_E} : va_D (fun _ => True) [q] := by
  refine ⟨fun i j x y hi hj _ => ?_, fun _ _ _ => trivial⟩
  have h1 := (List.getElem?_eq_some_iff.mp hi).1
  have h2 := (List.getElem?_eq_some_iff.mp hj).1
  simp at h1 h2
  omega
theorem x_get (hexec : p.tables.exec = Jvm.exec) (hb : c.code = cc) {own ref C : String} {T : u_T} {N ci index : Nat} {Ts : List Cond} (hts : ∀ w ∈ Ts, w.before args s = true) (hin : ∀ w ∈ u_ws C T N, w ∈ Ts) (hown : s.vm.findClass own = some m.cls) (hK : va_K D cl tys s) {fs : List Value} (hat : va_at D cl (a, .inr (ci, fs)) H) (hc : cl[ci]? = some (C, T, N)) (k : Nat) (hk : k < N) (hlink : (Cond.fieldLink own index ref (T k).2.1 (T k).2.2.1).before args s = true) (hsame : ∀ x, s.fieldFound? (T k).1 (T k).2.1 (T k).2.2.1 = some x → s.fieldFound? ref (T k).2.1 (T k).2.2.1 = some x) {v : Value} (hv : fs[k]? = some v) (hdg : decode cc pc = .ok (.getfield index, 3))
    (kk : W p l e R s m args below meth c H locs cells slots Q (F0 m (pc + 3) ls (v :: rest))) : W p l e R s m args below meth c H locs cells slots Q (F0 m pc ls (.ref a :: rest)) :=
  va_get hexec hb hts hin hown hK (x_one hat) 0 rfl hc k hk hlink hsame hv hdg kk
theorem x_getN (hexec : p.tables.exec = Jvm.exec) (hb : c.code = cc) {own ref C host : String} {T : u_T} {N ci index : Nat} {Ts : List Cond} (hts : ∀ w ∈ Ts, w.before args s = true) (hin : ∀ w ∈ u_ws C T N, w ∈ Ts) (hown : s.vm.findClass own = some m.cls) (hK : va_K D cl tys s) {fs : List Value} (hat : va_at D cl (a, .inr (ci, fs)) H) (hc : cl[ci]? = some (C, T, N)) (k : Nat) (hk : k < N) (hlink : (Cond.fieldLinkNest own index ref (T k).2.1 (T k).2.2.1 host).before args s = true) (hsame : ∀ x, s.fieldFound? (T k).1 (T k).2.1 (T k).2.2.1 = some x → s.fieldFound? ref (T k).2.1 (T k).2.2.1 = some x) {v : Value} (hv : fs[k]? = some v) (hdg : decode cc pc = .ok (.getfield index, 3))
    (kk : W p l e R s m args below meth c H locs cells slots Q (F0 m (pc + 3) ls (v :: rest))) : W p l e R s m args below meth c H locs cells slots Q (F0 m pc ls (.ref a :: rest)) :=
  va_getN hexec hb hts hin hown hK (x_one hat) 0 rfl hc k hk hlink hsame hv hdg kk
theorem x_put (hexec : p.tables.exec = Jvm.exec) (hb : c.code = cc) {own ref C : String} {T : u_T} {N ci index : Nat} {Ts : List Cond} (hts : ∀ w ∈ Ts, w.before args s = true) (hin : ∀ w ∈ u_ws C T N, w ∈ Ts) (ty0 : Nat → FieldType) (hty : ∀ k, k < N → parseFieldDescriptor (T k).2.2.1 = some (ty0 k)) (hnm : ∀ a, a < N → ∀ b, b < N → a ≠ b → (T a).2.1 ≠ (T b).2.1) (hown : s.vm.findClass own = some m.cls) (hK : va_K D cl tys s) {fs : List Value} (hat : va_at D cl (a, .inr (ci, fs)) H) (hc : cl[ci]? = some (C, T, N)) (k : Nat) (hk : k < N) (hlink : (Cond.fieldLink own index ref (T k).2.1 (T k).2.2.1).before args s = true) (hsame : ∀ x, s.fieldFound? (T k).1 (T k).2.1 (T k).2.2.1 = some x → s.fieldFound? ref (T k).2.1 (T k).2.2.1 = some x) (hfin : (T k).2.2.2 = false) {v : Value} (hn : narrow (ty0 k) v = v) (hfit : fits (ty0 k) v = true) (hl : k < fs.length)
    (hdg : decode cc pc = .ok (.putfield index, 3)) (kk : ∀ (H1 : Heap) (i : Nat), va_at D cl (a, .inr (ci, fs.set k v)) H1 → H1.size = H.size → (∀ q : Nat, q ≠ a → H1[q]? = H[q]?) → W p l e R s m args below meth c H1 (locs ++ [⟨a, i⟩]) cells slots Q (F0 m (pc + 3) ls rest)) : W p l e R s m args below meth c H locs cells slots Q (F0 m pc ls (v :: .ref a :: rest)) := by
  have hap := va_apart (own := own) hts hin ty0 hty hnm hK hc
  obtain ⟨r, h1, cell, q1, q2, q3, q4⟩ := hat
  have hr : r = (C, T, N) := Option.some.inj (h1.symm.trans hc)
  subst hr
  obtain ⟨hS, hfc, kC, hkC, hkind⟩ := hK.1 ci _ hc
  obtain ⟨cf, kf, fi, f, hi, hsl⟩ := hS k hk
  have hlay := hts _ (hin _ (u_in_lay hk))
  unfold u_lay at hlay
  rw [if_neg (by rw [hfin]; decide)] at hlay
  have hst := (u_facts hfc hkC (u_lays hts hin hk) hi).1
  have h6 := u_store hfc hkC hkind hlay hi (hty k hk) hn hfit
  refine W.putK hexec hb (f := f) ⟨hown, hlink, ⟨_, _, _, hsame _ hi⟩, hst⟩ (by rw [q2]; exact h6) q1 q3 (by rw [hsl]; exact k2_hasslot (q4 k hk)) rfl rfl hdg fun H' e1 e2 e3 => ?_
  rw [hsl] at e1
  exact kk H' _ ⟨_, hc, t_OB.to (V := updV (vp_V fs) k v) ⟨_, e1, q2, q3, t_set q4 hap hk v⟩ (fun j _ => vp_updV_set hl v j)⟩ e2 e3
theorem x_putN (hexec : p.tables.exec = Jvm.exec) (hb : c.code = cc) {own ref C host : String} {T : u_T} {N ci index : Nat} {Ts : List Cond} (hts : ∀ w ∈ Ts, w.before args s = true) (hin : ∀ w ∈ u_ws C T N, w ∈ Ts) (ty0 : Nat → FieldType) (hty : ∀ k, k < N → parseFieldDescriptor (T k).2.2.1 = some (ty0 k)) (hnm : ∀ a, a < N → ∀ b, b < N → a ≠ b → (T a).2.1 ≠ (T b).2.1) (hown : s.vm.findClass own = some m.cls) (hK : va_K D cl tys s) {fs : List Value} (hat : va_at D cl (a, .inr (ci, fs)) H) (hc : cl[ci]? = some (C, T, N)) (k : Nat) (hk : k < N) (hlink : (Cond.fieldLinkNest own index ref (T k).2.1 (T k).2.2.1 host).before args s = true) (hsame : ∀ x, s.fieldFound? (T k).1 (T k).2.1 (T k).2.2.1 = some x → s.fieldFound? ref (T k).2.1 (T k).2.2.1 = some x) (hfin : (T k).2.2.2 = false) {v : Value} (hn : narrow (ty0 k) v = v) (hfit : fits (ty0 k) v = true) (hl : k < fs.length)
    (hdg : decode cc pc = .ok (.putfield index, 3)) (kk : ∀ (H1 : Heap) (i : Nat), va_at D cl (a, .inr (ci, fs.set k v)) H1 → H1.size = H.size → (∀ q : Nat, q ≠ a → H1[q]? = H[q]?) → W p l e R s m args below meth c H1 (locs ++ [⟨a, i⟩]) cells slots Q (F0 m (pc + 3) ls rest)) : W p l e R s m args below meth c H locs cells slots Q (F0 m pc ls (v :: .ref a :: rest)) := by
  have hap := va_apart (own := own) hts hin ty0 hty hnm hK hc
  obtain ⟨r, h1, cell, q1, q2, q3, q4⟩ := hat
  have hr : r = (C, T, N) := Option.some.inj (h1.symm.trans hc)
  subst hr
  obtain ⟨hS, hfc, kC, hkC, hkind⟩ := hK.1 ci _ hc
  obtain ⟨cf, kf, fi, f, hi, hsl⟩ := hS k hk
  have hlay := hts _ (hin _ (u_in_lay hk))
  unfold u_lay at hlay
  rw [if_neg (by rw [hfin]; decide)] at hlay
  have hst := (u_facts hfc hkC (u_lays hts hin hk) hi).1
  have h6 := u_store hfc hkC hkind hlay hi (hty k hk) hn hfit
  refine va_WputK hexec hb (f := f) hown hlink (hsame _ hi) hst (by rw [q2]; exact h6) q1 q3 (by rw [hsl]; exact k2_hasslot (q4 k hk)) rfl rfl hdg fun H' e1 e2 e3 => ?_
  rw [hsl] at e1
  exact kk H' _ ⟨_, hc, t_OB.to (V := updV (vp_V fs) k v) ⟨_, e1, q2, q3, t_set q4 hap hk v⟩ (fun j _ => vp_updV_set hl v j)⟩ e2 e3
theorem x_iald (hexec : p.tables.exec = Jvm.exec) (hb : c.code = cc) (hK : va_K D cl tys s) (t0 : Nat) {cA : ClassId} {n : Nat} {f : Nat → Int32} (hat : va_at D cl (a, .inl (cA, n, .inl f)) H) (ht : tys[t0]? = some (cA, .int)) {i : Int32} (j : Nat) (hi : i = nI j) (hj : j < n) (hn : n < 2 ^ 31) (hdg : decode cc pc = .ok (.iaload, 1))
    (kk : W p l e R s m args below meth c H locs cells slots Q (F0 m (pc + 1) ls (.int (f j) :: rest))) : W p l e R s m args below meth c H locs cells slots Q (F0 m pc ls (.int i :: .ref a :: rest)) := by
  subst hi
  refine va_iald (i := nI j) hexec hb hK (x_one hat) 0 t0 rfl ht (vp_in_nI hj hn) hdg ?_
  rw [nI_clamp (Nat.lt_trans hj hn)]
  exact kk
theorem x_zald (hexec : p.tables.exec = Jvm.exec) (hb : c.code = cc) (hK : va_K D cl tys s) (t0 : Nat) {cA : ClassId} {n : Nat} {f : Nat → Int32} (hat : va_at D cl (a, .inl (cA, n, .inl f)) H) (ht : tys[t0]? = some (cA, .boolean)) {i : Int32} (j : Nat) (hi : i = nI j) (hj : j < n) (hn : n < 2 ^ 31) (hdg : decode cc pc = .ok (.baload, 1))
    (kk : W p l e R s m args below meth c H locs cells slots Q (F0 m (pc + 1) ls (.int (f j) :: rest))) : W p l e R s m args below meth c H locs cells slots Q (F0 m pc ls (.int i :: .ref a :: rest)) := by
  subst hi
  refine va_zald (i := nI j) hexec hb hK (x_one hat) 0 t0 rfl ht (vp_in_nI hj hn) hdg ?_
  rw [nI_clamp (Nat.lt_trans hj hn)]
  exact kk
theorem x_iast (hexec : p.tables.exec = Jvm.exec) (hb : c.code = cc) (hK : va_K D cl tys s) (t0 : Nat) {cA : ClassId} {n : Nat} {f : Nat → Int32} (hat : va_at D cl (a, .inl (cA, n, .inl f)) H) (ht : tys[t0]? = some (cA, .int)) {i x : Int32} (j : Nat) (hi : i = nI j) (hj : j < n) (hn : n < 2 ^ 31) (hdg : decode cc pc = .ok (.iastore, 1))
    (kk : ∀ (H1 : Heap) (i : Nat), va_at D cl (a, .inl (cA, n, .inl (upd f j x))) H1 → H1.size = H.size → (∀ q : Nat, q ≠ a → H1[q]? = H[q]?) → W p l e R s m args below meth c H1 (locs ++ [⟨a, i⟩]) cells slots Q (F0 m (pc + 1) ls rest)) : W p l e R s m args below meth c H locs cells slots Q (F0 m pc ls (.int x :: .int i :: .ref a :: rest)) := by
  subst hi
  have hcl : (nI j).toNatClampNeg = j := nI_clamp (Nat.lt_trans hj hn)
  refine W.iast hexec hb hat ((hK.2 t0 _ ht).1 n (fun j => .int (f j))) (fun q => by cases q) (by show ¬ (nI j < 0 ∨ (arrV _ _ _).slots.size ≤ _); rw [arrV_size]; exact vp_in_nI hj hn) rfl rfl hdg fun H1 e1 z oq => ?_
  refine kk H1 _ ?_ z oq
  show H1[a]? = some (vp_cell _ _)
  rw [e1, hcl]
  rw [vp_cell_i, vp_cell_i, arrV_store]
  congr 2
  funext q
  by_cases hq : q = j
  · subst hq
    simp [updV, upd]
  · simp [updV, upd, hq]
theorem x_zast (hexec : p.tables.exec = Jvm.exec) (hb : c.code = cc) (hK : va_K D cl tys s) (t0 : Nat) {cA : ClassId} {n : Nat} {f : Nat → Int32} (hat : va_at D cl (a, .inl (cA, n, .inl f)) H) (ht : tys[t0]? = some (cA, .boolean)) {i x : Int32} (j : Nat) (hi : i = nI j) (hj : j < n) (hn : n < 2 ^ 31) (hx : x = 0 ∨ x = 1) (hdg : decode cc pc = .ok (.bastore, 1))
    (kk : ∀ (H1 : Heap) (i : Nat), va_at D cl (a, .inl (cA, n, .inl (upd f j x))) H1 → H1.size = H.size → (∀ q : Nat, q ≠ a → H1[q]? = H[q]?) → W p l e R s m args below meth c H1 (locs ++ [⟨a, i⟩]) cells slots Q (F0 m (pc + 1) ls rest)) : W p l e R s m args below meth c H locs cells slots Q (F0 m pc ls (.int x :: .int i :: .ref a :: rest)) := by
  subst hi
  have hcl : (nI j).toNatClampNeg = j := nI_clamp (Nat.lt_trans hj hn)
  refine W.zast hexec hb hat ((hK.2 t0 _ ht).1 n (fun j => .int (f j))) (fun q => by cases q) (by show ¬ (nI j < 0 ∨ (arrV _ _ _).slots.size ≤ _); rw [arrV_size]; exact vp_in_nI hj hn) rfl rfl hdg fun H1 e1 z oq => ?_
  refine kk H1 _ ?_ z oq
  show H1[a]? = some (vp_cell _ _)
  rw [e1, hcl]
  rw [vp_cell_i, vp_cell_i, arrV_store]
  congr 2
  funext q
  by_cases hq : q = j
  · subst hq
    rcases hx with rfl | rfl <;> simp [updV, upd] <;> rfl
  · simp [updV, upd, hq]
end XR
