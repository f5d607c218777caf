/-! ===== rows for the list, its iterator and its arrays ===== -/
abbrev n_has : MethodName := ⟨"java/util/Iterator", "hasNext", "()Z"⟩
abbrev n_nxt : MethodName := ⟨"java/util/Iterator", "next", "()Ljava/lang/Object;"⟩
def Es0 (s0 : State) (ea mi : Nat) : Prop := va_Z "java/util/ArrayList" "DEFAULTCAPACITY_EMPTY_ELEMENTDATA" "[Ljava/lang/Object;" (.ref ea) (fun q => s0.heap.size ≤ q) s0 s0.heap ∧ va_T (.object "java/lang/Object") ea 0 (fun _ => .null) (fun q => s0.heap.size ≤ q) s0 s0.heap ∧ va_Mi "[Ljava/lang/Object;" mi s0 ∧ va_Fw "java/util/ArrayList$Itr" n_has y_It_hasNext s0 ∧ va_Fw "java/util/ArrayList$Itr" n_nxt y_It_next s0
section ES
variable {s0 s : State} {ea mi : Nat} {A0 : Nat → Prop}
theorem Es0.z (E : Es0 s0 ea mi) (hs : Sn s0 s) (hA : ∀ q, A0 q → s0.heap.size ≤ q) : va_Z "java/util/ArrayList" "DEFAULTCAPACITY_EMPTY_ELEMENTDATA" "[Ljava/lang/Object;" (.ref ea) A0 s s.heap := ((E.1.moved hs.1.alike).kept (fun a h1 h2 => hs.2.2 a h1)).narrow hA
theorem Es0.t (E : Es0 s0 ea mi) (hs : Sn s0 s) (hA : ∀ q, A0 q → s0.heap.size ≤ q) : va_T (.object "java/lang/Object") ea 0 (fun _ => .null) A0 s s.heap := ((E.2.1.moved hs.1.alike).kept (fun a h1 h2 => hs.2.2 a h1)).narrow hA
theorem Es0.m (E : Es0 s0 ea mi) (hs : Sn s0 s) : va_Mi "[Ljava/lang/Object;" mi s := E.2.2.1.moved hs.1.alike
theorem Es0.has (E : Es0 s0 ea mi) (hs : Sn s0 s) : va_Fw "java/util/ArrayList$Itr" n_has y_It_hasNext s := va_Fw.moved ⟨by decide, by decide⟩ hs.1.alike E.2.2.2.1
theorem Es0.nxt (E : Es0 s0 ea mi) (hs : Sn s0 s) : va_Fw "java/util/ArrayList$Itr" n_nxt y_It_next s := va_Fw.moved ⟨by decide, by decide⟩ hs.1.alike E.2.2.2.2
end ES
/-- the words of a call through an interface -/
def CF (own : String) (index : Nat) (C : String) (x y : MethodName) (bytes : ByteArray) (maxL : Nat) (ret : Option FieldType) (n : Nat) : Prop :=
  (Cond.code y bytes maxL ret ∈ lw_tbl ∧ Cond.initialized y.cls ∈ lw_tbl ∧ Cond.methodLink own index x ∈ lw_tbl) ∧ (Cond.instanceMethod y ∈ lw_tbl ∧ Cond.selects C x y ∈ lw_tbl) ∧ x.cls ≠ "java/lang/invoke/MethodHandle" ∧ x.cls ≠ "java/lang/invoke/VarHandle" ∧ (parseMethodDescriptor x.desc).map (fun d => d.parameters.length) = some n
section JR
variable {p : Program} {l : Launch} {e : Env} {R : Room} {s : State} {m : MethodId} {args : Array Value} {below : List Frame} {meth : Method} {c : Code} {H : Heap} {locs : List Loc} {cells slots : Nat} {Q : State → Prop}
variable {cc : ByteArray} {pc : Nat} {ls : Array Slot} {rest As : List Value} {A0 F : Nat → Prop} {Post : Option Value → Heap → Prop} {P : Heap → Prop} {G : Gx} {s0 : State} {own : String} {nL mc ms mc0 ms0 d d' maxL index n a b ea mi : Nat} {x y : MethodName} {bytes : ByteArray} {ret : Option FieldType} {lv : List (Nat × Value)}
theorem run_W5 {st : List Value} {aa : Array Value} (hr : va_Run5 p l e (rmx d mc0 ms0) s m args below meth c H locs cells slots mc ms (F0 m pc ls st) rest (qR F Post aa) F) (hS : va_S A0 s.heap H locs) (hF : ∀ q, F q → A0 q)
    (kk : ∀ (v : Option Value) (H1 : Heap) (locs1 : List Loc), Post v H1 → Kp F H H1 → va_S A0 s.heap H1 locs1 → W p l e (rmx d mc0 ms0) s m args below meth c H1 locs1 (cells + mc) (slots + ms) Q (F0 m (pc + 5) ls (v.toList ++ rest))) :
    W p l e (rmx d mc0 ms0) s m args below meth c H locs cells slots Q (F0 m pc ls st) := by
  intro T hT X
  obtain ⟨v, st₀, t, T', L, h0, X', hL, e1, e2, ⟨v', hv, hp, hk⟩, st⟩ := hr T hT X
  cases hv
  rw [h0] at hk
  rw [← e1] at hp hk
  obtain ⟨t2, a1, b1⟩ := kk v T'.heap (locs ++ L) hp hk (S_call hS hF hk hL) T' rfl X'
  exact ⟨t2, st t2 a1, b1⟩
theorem g_callF {cnt : Nat} (V : Vx G s0 p s m c cc nL own) (hM : Ct l s0 F d' mc ms y bytes maxL ret (.ref b :: As) P Post) (w : CF own index "java/util/ArrayList$Itr" x y bytes maxL ret n) (hFw : va_Fw "java/util/ArrayList$Itr" x y s) (hrec : ∃ cell : Cell, H[b]? = some cell ∧ cell.vm.isStatics = false ∧ s.vm.findClass "java/util/ArrayList$Itr" = some cell.cls) (hP : P H) (hS : va_S A0 s.heap H locs) (hA : ∀ q, A0 q → s0.heap.size ≤ q) (hF : ∀ q, F q → A0 q)
    (hd : d' < d ∧ maxL ≤ 40) (hn : As.length = n) (hl : lv_has ls nL lv) (hst : (rest.map fun v => v.category).sum ≤ 8) (hdg : decode cc pc = .ok (.invokeinterface index cnt, 5)) (hf : cells + mc ≤ mc0 ∧ slots + ms ≤ ms0)
    (kk : ∀ (v : Option Value) (H1 : Heap) (locs1 : List Loc), Post v H1 → Kp F H H1 → va_S A0 s.heap H1 locs1 → W p l e (rmx d mc0 ms0) s m args below meth c H1 locs1 (cells + mc) (slots + ms) Q (F0 m (pc + 5) ls (v.toList ++ rest))) :
    W p l e (rmx d mc0 ms0) s m args below meth c H locs cells slots Q (F0 m pc ls (As.reverse ++ .ref b :: rest)) := by
  obtain ⟨hx, hb, hml, hown, hwd, hK, hs⟩ := V
  obtain ⟨⟨w1, w2, w3⟩, ⟨w4, w5⟩, w6, w7, w8⟩ := w
  refine run_W5 (F := F) (Post := Post) (va_runF (Ts := Tb) (n := n) (C := "java/util/ArrayList$Itr") (hK.1 7 _ rfl).2 ⟨hx, hb, hml, hown, wd_ts hwd args⟩ hM ⟨⟨rfl, rfl, ?_, ?_, ?_, List.mem_singleton.mpr rfl⟩, hwd _ w3 rfl args, va_any rfl hFw.1, va_any rfl hFw.2.1, hwd _ w5 rfl args, hwd _ w4 rfl args, va_any rfl hFw.2.2.1, va_any rfl hFw.2.2.2.1, va_any rfl hFw.2.2.2.2, hwd _ w2 rfl args, hwd _ w1 rfl args, ⟨w6, w7⟩, len_of w8⟩ ⟨pc_blind, hrec, fun U hU hW => ⟨rfl, Sn_at hs hS hA hU hW, by rw [hU]; exact hP⟩⟩ rfl hn hl.1 rfl (lv_room hst) hdg hf) hS hF kk
  · show d' + 6 + 1 ≤ d + 6
    omega
  · show 8 + (maxL + 11) + (60 * d' + 200) ≤ 60 * d + 200
    omega
  · intro w hw a' U hW
    rw [List.mem_singleton.mp hw]
    exact okw_mv rfl hW (hwd _ w1 rfl args) a'
theorem x_gets (V : Vx G s0 p s m c cc nL own) (E : Es0 s0 ea mi) (hS : va_S A0 s.heap H locs) (hA : ∀ q, A0 q → s0.heap.size ≤ q) (w : Cond.fieldLink own index "java/util/ArrayList" "DEFAULTCAPACITY_EMPTY_ELEMENTDATA" "[Ljava/lang/Object;" ∈ lw_tbl) (hdg : decode cc pc = .ok (.getstatic index, 3))
    (kk : W p l e R s m args below meth c H locs cells slots Q (F0 m (pc + 3) ls (.ref ea :: rest))) : W p l e R s m args below meth c H locs cells slots Q (F0 m pc ls rest) :=
  va_gets V.1 V.2.1 (E.z V.2.2.2.2.2.2 hA) hS V.2.2.2.1 (V.2.2.2.2.1 _ w rfl args) (fun x h => h) hdg kk
theorem x_tlen (V : Vx G s0 p s m c cc nL own) (E : Es0 s0 ea mi) (hS : va_S A0 s.heap H locs) (hA : ∀ q, A0 q → s0.heap.size ≤ q) (hdg : decode cc pc = .ok (.arraylength, 1))
    (kk : W p l e R s m args below meth c H locs cells slots Q (F0 m (pc + 1) ls (.int 0 :: rest))) : W p l e R s m args below meth c H locs cells slots Q (F0 m pc ls (.ref ea :: rest)) :=
  va_tlen V.1 V.2.1 (E.t V.2.2.2.2.2.2 hA) hS rfl hdg kk
theorem x_alen (V : Vx G s0 p s m c cc nL own) (t0 : Nat) {cA : ClassId} {ty : FieldType} {k : Nat} {f : Nat → Option Nat} (hat : va_at G.1 classes (a, .inl (cA, (k, vq f))) H) (ht : (atys G.2)[t0]? = some (cA, ty)) (hdg : decode cc pc = .ok (.arraylength, 1))
    (kk : W p l e R s m args below meth c H locs cells slots Q (F0 m (pc + 1) ls (.int (nI k) :: rest))) : W p l e R s m args below meth c H locs cells slots Q (F0 m pc ls (.ref a :: rest)) :=
  va_alen V.1 V.2.1 V.2.2.2.2.2.1 (x_one hat) 0 t0 rfl ht rfl hdg kk
theorem x_aast (V : Vx G s0 p s m c cc nL own) (t0 : Nat) {E C : String} {cA : ClassId} {n v : Nat} {f : Nat → Option Nat} (hat : va_at G.1 classes (a, .inl (cA, (n, vq f))) H) (ht : (atys G.2)[t0]? = some (cA, .object E)) (hr : ∃ cellV : Cell, H[v]? = some cellV ∧ cellV.vm.isStatics = false ∧ s.vm.findClass C = some cellV.cls) (hasg : ∀ comp c0 : ClassId, s.vm.findClass E = some comp → s.vm.findClass C = some c0 → s.vm.assignable c0 comp = true) {i : Int32} (j : Nat) (hi : i = nI j) (hj : j < n) (hn : n < 2 ^ 31) (hdg : decode cc pc = .ok (.aastore, 1))
    (kk : ∀ (H1 : Heap) (i : Nat), va_at G.1 classes (a, .inl (cA, (n, vq (va_up f j (some v))))) H1 → H1.size = H.size → (∀ q : Nat, q ≠ a → H1[q]? = H[q]?) → W p l e R s m args below meth c H1 (locs ++ [⟨a, i⟩]) cells slots Q (F0 m (pc + 1) ls rest)) : W p l e R s m args below meth c H locs cells slots Q (F0 m pc ls (.ref v :: .int i :: .ref a :: rest)) := by
  subst hi
  have hcl : (nI j).toNatClampNeg = j := nI_clamp (Nat.lt_trans hj hn)
  have hlt : (nI j).toNatClampNeg < n := by rw [hcl]; exact hj
  obtain ⟨cellV, g1, g3, g2⟩ := hr
  obtain ⟨kA, comp, k1, k2, k3, -⟩ := (V.2.2.2.2.2.1.2 t0 _ ht).2
  obtain ⟨kE, hkE, -⟩ := Vm.findClass_spec k3
  obtain ⟨kC, hkC, -⟩ := Vm.findClass_spec g2
  refine W.aast V.1 V.2.1 (x_one hat 0 _ rfl) (fun q h => by cases h) (fun h => by cases h) k1 k2 rfl hkE ⟨nI_pos (by omega), by show _ < (arrV _ _ _).slots.size; rw [arrV_size]; exact hlt⟩ g1 (fun q h => by rw [h] at g3; cases g3) hkC (hasg _ _ k3 g2) rfl rfl hdg fun H1 e1 z oq => ?_
  refine kk H1 _ ?_ z oq
  show H1[a]? = some (vp_cell _ _)
  rw [e1, hcl, vp_cell_q, vp_cell_q, arrV_store]
  congr 2
  funext q
  by_cases hq : q = j
  · subst hq
    simp [updV, va_up, va_rf]
  · simp [updV, va_up, hq]
theorem x_asgW (V : Vx G s0 p s m c cc nL own) (comp c0 : ClassId) (h1 : s.vm.findClass "java/lang/Object" = some comp) (h2 : s.vm.findClass "DiskArbiters$Wish" = some c0) : s.vm.assignable c0 comp = true :=
  vb_asgC (va_Nw.of rfl (V.2.2.2.2.1 (.castable "DiskArbiters$Wish" "java/lang/Object") (List.mem_of_getElem? (i := 1003) (by decide +kernel)) rfl #[])) comp c0 h1 h2
/-- checkcast to Wish of a wish -/
theorem x_cast {fs : List Value} (V : Vx G s0 p s m c cc nL own) (w : Cond.classLink own index "DiskArbiters$Wish" ∈ lw_tbl) (hat : va_at G.1 classes (a, .inr (6, fs)) H) (hdg : decode cc pc = .ok (.checkcast index, 3))
    (kk : W p l e R s m args below meth c H locs cells slots Q (F0 m (pc + 3) ls (.ref a :: rest))) : W p l e R s m args below meth c H locs cells slots Q (F0 m pc ls (.ref a :: rest)) :=
  va_castS V.1 V.2.1 V.2.2.2.1 (V.2.2.2.2.1 _ w rfl args) (V.2.2.2.2.2.1.1 6 _ rfl).2 (va_recv V.2.2.2.2.2.1 (x_one hat) (ci := 6) (q0 := 0) rfl rfl) hdg kk
theorem x_min (V : Vx G s0 p s m c cc nL own) {index : Nat} (w3 : Cond.methodLink own index Lib.Math.min.name ∈ lw_tbl) {lv : List (Nat × Value)} (hl : lv_has ls nL lv) (hst : (rest.map fun v => v.category).sum ≤ 8) (hR : 1 ≤ R.frames ∧ 200 ≤ R.locals) (hc : cells ≤ R.cells) (hs : slots ≤ R.slots) {x y : Int32} (hdg : decode cc pc = .ok (.invokestatic index, 3))
    (kk : W p l e R s m args below meth c H locs cells slots Q (F0 m (pc + 3) ls (.int (if y < x then y else x) :: rest))) : W p l e R s m args below meth c H locs cells slots Q (F0 m pc ls (.int y :: .int x :: rest)) :=
  va_mmin V.1 V.2.1 (V.2.2.1.trans hl.1.symm) V.2.2.2.1 (V.2.2.2.2.1 _ w3 rfl args) (V.2.2.2.2.1 (.static Lib.Math.min.name) (List.mem_of_getElem? (i := 515) (by decide +kernel)) rfl args) (V.2.2.2.2.1 (.initialized "java/lang/Math") (List.mem_of_getElem? (i := 50) (by decide +kernel)) rfl args) (V.2.2.2.2.1 (.code Lib.Math.min.name Lib.Math.min.code 2 (some .int)) (List.mem_of_getElem? (i := 516) (by decide +kernel)) rfl args) hR.1 (by omega) hc hs hdg kk
theorem x_ldcM (V : Vx G s0 p s m c cc nL own) (E : Es0 s0 ea mi) (w : Cond.classLink own index "[Ljava/lang/Object;" ∈ lw_tbl) (hdg : decode cc pc = .ok (.ldc index, 2))
    (kk : W p l e R s m args below meth c H locs cells slots Q (F0 m (pc + 2) ls (.ref mi :: rest))) : W p l e R s m args below meth c H locs cells slots Q (F0 m pc ls rest) :=
  va_ldcM V.1 V.2.1 V.2.2.2.1 (V.2.2.2.2.1 _ w rfl args) (E.m V.2.2.2.2.2.2) hdg kk
abbrev getClassN : MethodName := ⟨"java/lang/Object", "getClass", "()Ljava/lang/Class;"⟩
theorem x_getC {k : Nat} {f : Nat → Option Nat} (V : Vx G s0 p s m c cc nL own) (E : Es0 s0 ea mi) (w : Cond.methodLink own index getClassN ∈ lw_tbl) (hat : va_at G.1 classes (a, .inl (G.2 6, (k, vq f))) H) {lv : List (Nat × Value)} (hl : lv_has ls nL lv) (hst : (rest.map fun v => v.category).sum ≤ 8) (hR : 1 ≤ R.frames ∧ 200 ≤ R.locals) (hdg : decode cc pc = .ok (.invokevirtual index, 3))
    (kk : W p l e R s m args below meth c H locs cells slots Q (F0 m (pc + 3) ls (.ref mi :: rest))) : W p l e R s m args below meth c H locs cells slots Q (F0 m pc ls (.ref a :: rest)) :=
  va_getC (C := "[Ljava/lang/Object;") V.1 V.2.1 (V.2.2.1.trans hl.1.symm) V.2.2.2.1 (V.2.2.2.2.1 _ w rfl args) (V.2.2.2.2.1 (.declares getClassN) (List.mem_of_getElem? (i := 996) (by decide +kernel)) rfl args) (V.2.2.2.2.1 (.selects "[Ljava/lang/Object;" getClassN getClassN) (List.mem_of_getElem? (i := 995) (by decide +kernel)) rfl args) (V.2.2.2.2.1 (.instanceMethod getClassN) (List.mem_of_getElem? (i := 490) (by decide +kernel)) rfl args) (V.2.2.2.2.1 (.native getClassN) (List.mem_of_getElem? (i := 507) (by decide +kernel)) rfl args) (E.m V.2.2.2.2.2.2)
    ⟨_, x_one hat 0 _ rfl, rfl, va_nmO (V.2.2.2.2.2.1.2 6 _ rfl).2 rfl⟩ hR.1 (by omega) hdg kk
/-- System.arraycopy of the n0 wishes of an array into a new one -/
theorem x_copy {a0 n0 n1 : Nat} {f g : Nat → Option Nat} (V : Vx G s0 p s m c cc nL own) (w : Cond.methodLink own index arraycopyName ∈ lw_tbl) (hne : a0 ≠ a) (h0 : va_at G.1 classes (a0, .inl (G.2 6, (n0, vq f))) H) (h1 : va_at G.1 classes (a, .inl (G.2 6, (n1, vq g))) H) (hS : va_S (fun q => q = a0 ∨ q = a) s.heap H locs) (hn01 : n0 ≤ n1) (hn1 : n1 < 1000)
    (hel : ∀ i y : Nat, i < n0 → f i = some y → ∃ fs, va_at G.1 classes (y, .inr (6, fs)) H) {lv : List (Nat × Value)} (hl : lv_has ls nL lv) (hst : (rest.map fun v => v.category).sum ≤ 8) (hR : 1 ≤ R.frames ∧ 200 ≤ R.locals) (hdg : decode cc pc = .ok (.invokestatic index, 3))
    (kk : ∀ (H1 : Heap) (locs1 : List Loc), va_at G.1 classes (a0, .inl (G.2 6, (n0, vq f))) H1 → va_at G.1 classes (a, .inl (G.2 6, (n1, vq (va_cpy f g 0 0 n0)))) H1 → va_S (fun q => q = a0 ∨ q = a) s.heap H1 locs1 → W p l e R s m args below meth c H1 locs1 cells slots Q (F0 m (pc + 3) ls rest)) : W p l e R s m args below meth c H locs cells slots Q (F0 m pc ls (.int (nI n0) :: .int 0 :: .ref a :: .int 0 :: .ref a0 :: rest)) := by
  have hcl : (nI n0).toNatClampNeg = n0 := nI_clamp (by omega)
  have hP : va_P G.1 classes [(a0, .inl (G.2 6, (n0, vq f))), (a, .inl (G.2 6, (n1, vq g)))] H := by
    intro k r hk
    match k with
    | 0 => cases hk; exact h0
    | 1 => cases hk; exact h1
    | k + 2 => simp at hk
  have hD : va_D (fun q => q = a0 ∨ q = a) [(a0, .inl (G.2 6, (n0, vq f))), (a, .inl (G.2 6, (n1, vq g)))] := by
    refine ⟨fun i j x y hi hj hxy => ?_, fun i x hi => ?_⟩
    · match i, j with
      | 0, 0 => rfl
      | 1, 1 => rfl
      | 0, 1 => cases hi; cases hj; exact absurd hxy hne
      | 1, 0 => cases hi; cases hj; exact absurd hxy.symm hne
      | i + 2, _ => simp at hi
      | 0, j + 2 => simp at hj
      | 1, j + 2 => simp at hj
    · match i with
      | 0 => cases hi; exact Or.inl rfl
      | 1 => cases hi; exact Or.inr rfl
      | i + 2 => simp at hi
  refine va_copyq (C := "DiskArbiters$Wish") (E0 := "java/lang/Object") (E1 := "java/lang/Object") (sp := 0) (dp := 0) (n := nI n0) V.1 V.2.1 (V.2.2.1.trans hl.1.symm) V.2.2.2.1 (V.2.2.2.2.1 _ w rfl args) (V.2.2.2.2.1 (.native arraycopyName) (List.mem_of_getElem? (i := 519) (by decide +kernel)) rfl args) (V.2.2.2.2.1 (.static arraycopyName) (List.mem_of_getElem? (i := 518) (by decide +kernel)) rfl args) (V.2.2.2.2.1 (.initialized "java/lang/System") (List.mem_of_getElem? (i := 52) (by decide +kernel)) rfl args) V.2.2.2.2.2.1 hP hD hS 0 1 6 6 rfl rfl rfl rfl (by decide) (by decide) (nI_pos (by omega)) (by rw [hcl]; show 0 + n0 ≤ n0; omega) (by rw [hcl]; show 0 + n0 ≤ n1; omega) ?_ (fun _ _ => x_asgW V _ _) hR.1 ?_ hdg ?_
  · intro i hi y hy
    rw [hcl] at hi
    obtain ⟨fs, hat⟩ := hel i y hi (by have e0 : (0 : Int32).toNatClampNeg = 0 := rfl; rw [e0, Nat.zero_add] at hy; exact hy)
    exact va_recv V.2.2.2.2.2.1 (x_one hat) (ci := 6) (q0 := 0) rfl rfl
  · have hw : nativeFrameWords "java/lang/System" "arraycopy" 5 ≤ 40 := by decide
    omega
  · intro H1 locs1 hP1 hD1 hS1
    rw [hcl] at hP1
    exact kk H1 locs1 (hP1 0 _ rfl) (hP1 1 _ rfl) hS1
theorem e_q {a : Nat} {C : String} (V : Vx G s0 p s m c cc nL own) (hr : meth.sig.returnType = some (.array (.object C))) (hlk : meth.locks = false) (hS : va_S F s.heap H locs) (hc : cells ≤ mc) (hs : slots ≤ ms) (hdg : decode cc pc = .ok (.areturn, 1)) (hq : Post (some (.ref a)) H) :
    W p l e R s m args below meth c H locs cells slots (MQ below (qR F Post) args s mc ms F) (F0 m pc ls [.ref a]) :=
  W.widen hc hs (W.aret (v := .ref a) V.1 V.2.1 hr (Or.inr ⟨_, rfl⟩) (Or.inr ⟨_, rfl⟩) (fun t ht _ => ⟨_, rfl, by rw [ht]; exact hq, by rw [ht]; exact x_Kp hS⟩) hS.2.2 hdg hlk)
end JR
