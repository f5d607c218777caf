/-! ===== calls whose contract is a Ct ===== -/
/-- the words of a virtual call, of a static one, of a constructor's -/
def CV (own : String) (index : Nat) (y : MethodName) (bytes : ByteArray) (maxL : Nat) (ret : Option FieldType) (n : Nat) : Prop :=
  (Cond.code y bytes maxL ret ∈ lw_tbl ∧ Cond.initialized y.cls ∈ lw_tbl ∧ Cond.methodLink own index y ∈ lw_tbl) ∧ (Cond.instanceMethod y ∈ lw_tbl ∧ Cond.selects y.cls y y ∈ lw_tbl) ∧ y.cls ≠ "java/lang/invoke/MethodHandle" ∧ y.cls ≠ "java/lang/invoke/VarHandle" ∧ (parseMethodDescriptor y.desc).map (fun d => d.parameters.length) = some n
def CS (own : String) (index : Nat) (y : MethodName) (bytes : ByteArray) (maxL : Nat) (ret : Option FieldType) (n : Nat) : Prop :=
  (Cond.code y bytes maxL ret ∈ lw_tbl ∧ Cond.initialized y.cls ∈ lw_tbl ∧ Cond.methodLink own index y ∈ lw_tbl) ∧ Cond.static y ∈ lw_tbl ∧ y.cls ≠ "java/lang/invoke/MethodHandle" ∧ y.cls ≠ "java/lang/invoke/VarHandle" ∧ (parseMethodDescriptor y.desc).map (fun d => d.parameters.length) = some n
def CI (own : String) (index : Nat) (y : MethodName) (bytes : ByteArray) (maxL : Nat) (n : Nat) : Prop :=
  (Cond.code y bytes maxL none ∈ lw_tbl ∧ Cond.initialized y.cls ∈ lw_tbl ∧ Cond.methodLink own index y ∈ lw_tbl) ∧ (Cond.instanceMethod y ∈ lw_tbl ∧ y.name = "<init>") ∧ y.cls ≠ "java/lang/invoke/MethodHandle" ∧ y.cls ≠ "java/lang/invoke/VarHandle" ∧ (parseMethodDescriptor y.desc).map (fun d => d.parameters.length) = some n
def CVN (own : String) (index : Nat) (y : MethodName) (bytes : ByteArray) (maxL : Nat) (ret : Option FieldType) (n : Nat) : Prop :=
  (Cond.code y bytes maxL ret ∈ lw_tbl ∧ Cond.initialized y.cls ∈ lw_tbl ∧ Cond.methodLinkNest own index y "DiskArbiters" ∈ lw_tbl) ∧ (Cond.instanceMethod y ∈ lw_tbl ∧ Cond.selects y.cls y y ∈ lw_tbl) ∧ y.cls ≠ "java/lang/invoke/MethodHandle" ∧ y.cls ≠ "java/lang/invoke/VarHandle" ∧ (parseMethodDescriptor y.desc).map (fun d => d.parameters.length) = some n
def CSN (own : String) (index : Nat) (y : MethodName) (bytes : ByteArray) (maxL : Nat) (ret : Option FieldType) (n : Nat) : Prop :=
  (Cond.code y bytes maxL ret ∈ lw_tbl ∧ Cond.initialized y.cls ∈ lw_tbl ∧ Cond.methodLinkNest own index y "DiskArbiters" ∈ lw_tbl) ∧ Cond.static y ∈ lw_tbl ∧ y.cls ≠ "java/lang/invoke/MethodHandle" ∧ y.cls ≠ "java/lang/invoke/VarHandle" ∧ (parseMethodDescriptor y.desc).map (fun d => d.parameters.length) = some n
def CIN (own : String) (index : Nat) (y : MethodName) (bytes : ByteArray) (maxL : Nat) (n : Nat) : Prop :=
  (Cond.code y bytes maxL none ∈ lw_tbl ∧ Cond.initialized y.cls ∈ lw_tbl ∧ Cond.methodLinkNest own index y "DiskArbiters" ∈ lw_tbl) ∧ (Cond.instanceMethod y ∈ lw_tbl ∧ y.name = "<init>") ∧ y.cls ≠ "java/lang/invoke/MethodHandle" ∧ y.cls ≠ "java/lang/invoke/VarHandle" ∧ (parseMethodDescriptor y.desc).map (fun d => d.parameters.length) = some n
theorem Sn_at {s0 s U : State} {H : Heap} {locs : List Loc} {A0 : Nat → Prop} (h : Sn s0 s) (hS : va_S A0 s.heap H locs) (hA : ∀ q, A0 q → s0.heap.size ≤ q) (hU : U.heap = H) (hW : s.WarmedH U.vm) : Sn s0 U :=
  ⟨State.WarmedH.trans h.1 hW, by rw [hU]; exact Nat.le_trans h.2.1 hS.1, fun q hq => by
    rw [hU, hS.2.1 q (Nat.lt_of_lt_of_le hq h.2.1) (fun z => absurd (hA q z) (Nat.not_le.mpr hq))]
    exact h.2.2 q hq⟩
theorem pc_blind {s0 : State} {P : Heap → Prop} {av : List Value} : FrameBlind (va_Pc av (fun U => Sn s0 U ∧ P U.heap)) := fun _ _ _ _ h => h
theorem S_call {A0 F : Nat → Prop} {H0 H H1 : Heap} {locs L : List Loc} (hS : va_S A0 H0 H locs) (hF : ∀ q, F q → A0 q) (hk : Kp F H H1) (hL : ∀ q ∈ L, F q.base) : va_S A0 H0 H1 (locs ++ L) :=
  ⟨Nat.le_trans hS.1 hk.1, fun q h1 h2 => (hk.2 q (Nat.lt_of_lt_of_le h1 hS.1) (fun z => h2 (hF q z))).trans (hS.2.1 q h1 h2), fun q hq => by
    rcases List.mem_append.mp hq with h | h
    · exact hS.2.2 q h
    · exact hF _ (hL q h)⟩
theorem len_of {y : MethodName} {n : Nat} (h : (parseMethodDescriptor y.desc).map (fun d => d.parameters.length) = some n) : ∀ sig, parseMethodDescriptor y.desc = some sig → n = sig.parameters.length := by
  intro sig hs
  rw [hs] at h
  exact (Option.some.inj h).symm
section CALL
variable {p : Program} {l : Launch} {e : Env} {s : State} {m : MethodId} {args : Array Value} {below : List Frame} {meth : Method} {c : Code} {H : Heap} {locs : List Loc} {cells slots : Nat} {Q : State → Prop}
variable {cc : ByteArray} {pc : Nat} {ls : Array Slot} {rest As : List Value} {A0 F : Nat → Prop} {Post : Option Value → Heap → Prop} {P : Heap → Prop} {G : Gx} {s0 : State} {own : String} {nL mc ms mc0 ms0 d d' maxL index n b : Nat} {y : MethodName} {bytes : ByteArray} {ret : Option FieldType} {lv : List (Nat × Value)}
theorem run_W {st : List Value} {aa : Array Value} (hr : va_Run p l e (rmx d mc0 ms0) s m args below meth c H locs cells slots mc ms (F0 m pc ls st) rest (qR F Post aa) F) (hS : va_S A0 s.heap H locs) (hF : ∀ q, F q → A0 q)
    (kk : ∀ (v : Option Value) (H1 : Heap) (locs1 : List Loc), Post v H1 → Kp F H H1 → va_S A0 s.heap H1 locs1 → W p l e (rmx d mc0 ms0) s m args below meth c H1 locs1 (cells + mc) (slots + ms) Q (F0 m (pc + 3) ls (v.toList ++ rest))) :
    W p l e (rmx d mc0 ms0) s m args below meth c H locs cells slots Q (F0 m pc ls st) := by
  intro T hT X
  obtain ⟨v, st₀, t, T', L, h0, X', hL, e1, e2, ⟨v', hv, hp, hk⟩, st⟩ := hr T hT X
  cases hv
  rw [h0] at hk
  rw [← e1] at hp hk
  obtain ⟨t2, a1, b1⟩ := kk v T'.heap (locs ++ L) hp hk (S_call hS hF hk hL) T' rfl X'
  exact ⟨t2, st t2 a1, b1⟩
theorem g_callV (V : Vx G s0 p s m c cc nL own) (hM : Ct l s0 F d' mc ms y bytes maxL ret (.ref b :: As) P Post) (w : CV own index y bytes maxL ret n) (hrec : ∃ cell : Cell, H[b]? = some cell ∧ cell.vm.isStatics = false ∧ s.vm.findClass y.cls = some cell.cls) (hP : P H) (hS : va_S A0 s.heap H locs) (hA : ∀ q, A0 q → s0.heap.size ≤ q) (hF : ∀ q, F q → A0 q)
    (hd : d' < d ∧ maxL ≤ 40) (hn : As.length = n) (hl : lv_has ls nL lv) (hst : (rest.map fun v => v.category).sum ≤ 8) (hdg : decode cc pc = .ok (.invokevirtual index, 3)) (hf : cells + mc ≤ mc0 ∧ slots + ms ≤ ms0)
    (kk : ∀ (v : Option Value) (H1 : Heap) (locs1 : List Loc), Post v H1 → Kp F H H1 → va_S A0 s.heap H1 locs1 → W p l e (rmx d mc0 ms0) s m args below meth c H1 locs1 (cells + mc) (slots + ms) Q (F0 m (pc + 3) ls (v.toList ++ rest))) :
    W p l e (rmx d mc0 ms0) s m args below meth c H locs cells slots Q (F0 m pc ls (As.reverse ++ .ref b :: rest)) := by
  obtain ⟨hx, hb, hml, hown, hwd, hK, hs⟩ := V
  obtain ⟨⟨w1, w2, w3⟩, ⟨w4, w5⟩, w6, w7, w8⟩ := w
  refine run_W (F := F) (Post := Post) (va_runV (Ts := Tb) (n := n) (C := y.cls) ⟨hx, hb, hml, hown, wd_ts hwd args⟩ hM ⟨⟨rfl, rfl, ?_, ?_, ?_, List.mem_singleton.mpr rfl, hwd _ w1 rfl args, hwd _ w2 rfl args, ⟨w6, w7⟩, len_of w8, hwd _ w3 rfl args⟩, hwd _ w4 rfl args, hwd _ w5 rfl args⟩ ⟨pc_blind, hrec, fun U hU hW => ⟨rfl, Sn_at hs hS hA hU hW, by rw [hU]; exact hP⟩⟩ rfl hn hl.1 rfl (lv_room hst) hdg hf) hS hF kk
  · show d' + 6 + 1 ≤ d + 6
    omega
  · show 8 + (maxL + 11) + (60 * d' + 200) ≤ 60 * d + 200
    omega
  · intro w hw a' U hW
    rw [List.mem_singleton.mp hw]
    exact okw_mv rfl hW (hwd _ w1 rfl args) a'
theorem g_callS (V : Vx G s0 p s m c cc nL own) (hM : Ct l s0 F d' mc ms y bytes maxL ret As P Post) (w : CS own index y bytes maxL ret n) (hP : P H) (hS : va_S A0 s.heap H locs) (hA : ∀ q, A0 q → s0.heap.size ≤ q) (hF : ∀ q, F q → A0 q)
    (hd : d' < d ∧ maxL ≤ 40) (hn : As.length = n) (hl : lv_has ls nL lv) (hst : (rest.map fun v => v.category).sum ≤ 8) (hdg : decode cc pc = .ok (.invokestatic index, 3)) (hf : cells + mc ≤ mc0 ∧ slots + ms ≤ ms0)
    (kk : ∀ (v : Option Value) (H1 : Heap) (locs1 : List Loc), Post v H1 → Kp F H H1 → va_S A0 s.heap H1 locs1 → W p l e (rmx d mc0 ms0) s m args below meth c H1 locs1 (cells + mc) (slots + ms) Q (F0 m (pc + 3) ls (v.toList ++ rest))) :
    W p l e (rmx d mc0 ms0) s m args below meth c H locs cells slots Q (F0 m pc ls (As.reverse ++ rest)) := by
  obtain ⟨hx, hb, hml, hown, hwd, hK, hs⟩ := V
  obtain ⟨⟨w1, w2, w3⟩, w4, w6, w7, w8⟩ := w
  refine run_W (F := F) (Post := Post) (va_runS (Ts := Tb) (n := n) ⟨hx, hb, hml, hown, wd_ts hwd args⟩ hM ⟨⟨rfl, rfl, ?_, ?_, ?_, List.mem_singleton.mpr rfl, hwd _ w1 rfl args, hwd _ w2 rfl args, ⟨w6, w7⟩, len_of w8, hwd _ w3 rfl args⟩, hwd _ w4 rfl args⟩ ⟨pc_blind, fun U hU hW => ⟨rfl, Sn_at hs hS hA hU hW, by rw [hU]; exact hP⟩⟩ rfl hn hl.1 rfl (lv_room hst) hdg hf) hS hF kk
  · show d' + 6 + 1 ≤ d + 6
    omega
  · show 8 + (maxL + 11) + (60 * d' + 200) ≤ 60 * d + 200
    omega
  · intro w hw a' U hW
    rw [List.mem_singleton.mp hw]
    exact okw_mv rfl hW (hwd _ w1 rfl args) a'
theorem g_callI (V : Vx G s0 p s m c cc nL own) (hM : Ct l s0 F d' mc ms y bytes maxL none (.ref b :: As) P Post) (w : CI own index y bytes maxL n) (hP : P H) (hS : va_S A0 s.heap H locs) (hA : ∀ q, A0 q → s0.heap.size ≤ q) (hF : ∀ q, F q → A0 q)
    (hd : d' < d ∧ maxL ≤ 40) (hn : As.length = n) (hl : lv_has ls nL lv) (hst : (rest.map fun v => v.category).sum ≤ 8) (hdg : decode cc pc = .ok (.invokespecial index, 3)) (hf : cells + mc ≤ mc0 ∧ slots + ms ≤ ms0)
    (kk : ∀ (v : Option Value) (H1 : Heap) (locs1 : List Loc), Post v H1 → Kp F H H1 → va_S A0 s.heap H1 locs1 → W p l e (rmx d mc0 ms0) s m args below meth c H1 locs1 (cells + mc) (slots + ms) Q (F0 m (pc + 3) ls (v.toList ++ rest))) :
    W p l e (rmx d mc0 ms0) s m args below meth c H locs cells slots Q (F0 m pc ls (As.reverse ++ .ref b :: rest)) := by
  obtain ⟨hx, hb, hml, hown, hwd, hK, hs⟩ := V
  obtain ⟨⟨w1, w2, w3⟩, ⟨w4, w5⟩, w6, w7, w8⟩ := w
  refine run_W (F := F) (Post := Post) (va_runI (Ts := Tb) (n := n) ⟨hx, hb, hml, hown, wd_ts hwd args⟩ hM ⟨⟨rfl, rfl, ?_, ?_, ?_, List.mem_singleton.mpr rfl, hwd _ w1 rfl args, hwd _ w2 rfl args, ⟨w6, w7⟩, len_of w8, hwd _ w3 rfl args⟩, w5, hwd _ w4 rfl args⟩ ⟨pc_blind, fun U hU hW => ⟨rfl, Sn_at hs hS hA hU hW, by rw [hU]; exact hP⟩⟩ rfl hn hl.1 rfl (lv_room hst) hdg hf) hS hF kk
  · show d' + 6 + 1 ≤ d + 6
    omega
  · show 8 + (maxL + 11) + (60 * d' + 200) ≤ 60 * d + 200
    omega
  · intro w hw a' U hW
    rw [List.mem_singleton.mp hw]
    exact okw_mv rfl hW (hwd _ w1 rfl args) a'
theorem g_callVN (V : Vx G s0 p s m c cc nL own) (hM : Ct l s0 F d' mc ms y bytes maxL ret (.ref b :: As) P Post) (w : CVN own index y bytes maxL ret n) (hrec : ∃ cell : Cell, H[b]? = some cell ∧ cell.vm.isStatics = false ∧ s.vm.findClass y.cls = some cell.cls) (hP : P H) (hS : va_S A0 s.heap H locs) (hA : ∀ q, A0 q → s0.heap.size ≤ q) (hF : ∀ q, F q → A0 q)
    (hd : d' < d ∧ maxL ≤ 40) (hn : As.length = n) (hl : lv_has ls nL lv) (hst : (rest.map fun v => v.category).sum ≤ 8) (hdg : decode cc pc = .ok (.invokevirtual index, 3)) (hf : cells + mc ≤ mc0 ∧ slots + ms ≤ ms0)
    (kk : ∀ (v : Option Value) (H1 : Heap) (locs1 : List Loc), Post v H1 → Kp F H H1 → va_S A0 s.heap H1 locs1 → W p l e (rmx d mc0 ms0) s m args below meth c H1 locs1 (cells + mc) (slots + ms) Q (F0 m (pc + 3) ls (v.toList ++ rest))) :
    W p l e (rmx d mc0 ms0) s m args below meth c H locs cells slots Q (F0 m pc ls (As.reverse ++ .ref b :: rest)) := by
  obtain ⟨hx, hb, hml, hown, hwd, hK, hs⟩ := V
  obtain ⟨⟨w1, w2, w3⟩, ⟨w4, w5⟩, w6, w7, w8⟩ := w
  refine run_W (F := F) (Post := Post) (va_runVN (Ts := Tb) (n := n) (C := y.cls) (host := "DiskArbiters") ⟨hx, hb, hml, hown, wd_ts hwd args⟩ hM ⟨⟨⟨rfl, rfl, ?_, ?_, ?_, List.mem_singleton.mpr rfl⟩, hwd _ w1 rfl args, hwd _ w2 rfl args, ⟨w6, w7⟩, len_of w8, hwd _ w3 rfl args⟩, hwd _ w4 rfl args, hwd _ w5 rfl args⟩ ⟨pc_blind, hrec, fun U hU hW => ⟨rfl, Sn_at hs hS hA hU hW, by rw [hU]; exact hP⟩⟩ rfl hn hl.1 rfl (lv_room hst) hdg hf) hS hF kk
  · show d' + 6 + 1 ≤ d + 6
    omega
  · show 8 + (maxL + 11) + (60 * d' + 200) ≤ 60 * d + 200
    omega
  · intro w hw a' U hW
    rw [List.mem_singleton.mp hw]
    exact okw_mv rfl hW (hwd _ w1 rfl args) a'
theorem g_callSN (V : Vx G s0 p s m c cc nL own) (hM : Ct l s0 F d' mc ms y bytes maxL ret As P Post) (w : CSN own index y bytes maxL ret n) (hP : P H) (hS : va_S A0 s.heap H locs) (hA : ∀ q, A0 q → s0.heap.size ≤ q) (hF : ∀ q, F q → A0 q)
    (hd : d' < d ∧ maxL ≤ 40) (hn : As.length = n) (hl : lv_has ls nL lv) (hst : (rest.map fun v => v.category).sum ≤ 8) (hdg : decode cc pc = .ok (.invokestatic index, 3)) (hf : cells + mc ≤ mc0 ∧ slots + ms ≤ ms0)
    (kk : ∀ (v : Option Value) (H1 : Heap) (locs1 : List Loc), Post v H1 → Kp F H H1 → va_S A0 s.heap H1 locs1 → W p l e (rmx d mc0 ms0) s m args below meth c H1 locs1 (cells + mc) (slots + ms) Q (F0 m (pc + 3) ls (v.toList ++ rest))) :
    W p l e (rmx d mc0 ms0) s m args below meth c H locs cells slots Q (F0 m pc ls (As.reverse ++ rest)) := by
  obtain ⟨hx, hb, hml, hown, hwd, hK, hs⟩ := V
  obtain ⟨⟨w1, w2, w3⟩, w4, w6, w7, w8⟩ := w
  refine run_W (F := F) (Post := Post) (va_runSN (Ts := Tb) (n := n) (host := "DiskArbiters") ⟨hx, hb, hml, hown, wd_ts hwd args⟩ hM ⟨⟨⟨rfl, rfl, ?_, ?_, ?_, List.mem_singleton.mpr rfl⟩, hwd _ w1 rfl args, hwd _ w2 rfl args, ⟨w6, w7⟩, len_of w8, hwd _ w3 rfl args⟩, hwd _ w4 rfl args, trivial⟩ ⟨pc_blind, fun U hU hW => ⟨rfl, Sn_at hs hS hA hU hW, by rw [hU]; exact hP⟩⟩ rfl hn hl.1 rfl (lv_room hst) hdg hf) hS hF kk
  · show d' + 6 + 1 ≤ d + 6
    omega
  · show 8 + (maxL + 11) + (60 * d' + 200) ≤ 60 * d + 200
    omega
  · intro w hw a' U hW
    rw [List.mem_singleton.mp hw]
    exact okw_mv rfl hW (hwd _ w1 rfl args) a'
theorem g_callIN (V : Vx G s0 p s m c cc nL own) (hM : Ct l s0 F d' mc ms y bytes maxL none (.ref b :: As) P Post) (w : CIN own index y bytes maxL n) (hP : P H) (hS : va_S A0 s.heap H locs) (hA : ∀ q, A0 q → s0.heap.size ≤ q) (hF : ∀ q, F q → A0 q)
    (hd : d' < d ∧ maxL ≤ 40) (hn : As.length = n) (hl : lv_has ls nL lv) (hst : (rest.map fun v => v.category).sum ≤ 8) (hdg : decode cc pc = .ok (.invokespecial index, 3)) (hf : cells + mc ≤ mc0 ∧ slots + ms ≤ ms0)
    (kk : ∀ (v : Option Value) (H1 : Heap) (locs1 : List Loc), Post v H1 → Kp F H H1 → va_S A0 s.heap H1 locs1 → W p l e (rmx d mc0 ms0) s m args below meth c H1 locs1 (cells + mc) (slots + ms) Q (F0 m (pc + 3) ls (v.toList ++ rest))) :
    W p l e (rmx d mc0 ms0) s m args below meth c H locs cells slots Q (F0 m pc ls (As.reverse ++ .ref b :: rest)) := by
  obtain ⟨hx, hb, hml, hown, hwd, hK, hs⟩ := V
  obtain ⟨⟨w1, w2, w3⟩, ⟨w4, w5⟩, w6, w7, w8⟩ := w
  refine run_W (F := F) (Post := Post) (va_runIN (Ts := Tb) (n := n) (host := "DiskArbiters") ⟨hx, hb, hml, hown, wd_ts hwd args⟩ hM ⟨⟨⟨rfl, rfl, ?_, ?_, ?_, List.mem_singleton.mpr rfl⟩, hwd _ w1 rfl args, hwd _ w2 rfl args, ⟨w6, w7⟩, len_of w8, hwd _ w3 rfl args⟩, w5, hwd _ w4 rfl args⟩ ⟨pc_blind, fun U hU hW => ⟨rfl, Sn_at hs hS hA hU hW, by rw [hU]; exact hP⟩⟩ rfl hn hl.1 rfl (lv_room hst) hdg hf) hS hF kk
  · show d' + 6 + 1 ≤ d + 6
    omega
  · show 8 + (maxL + 11) + (60 * d' + 200) ≤ 60 * d + 200
    omega
  · intro w hw a' U hW
    rw [List.mem_singleton.mp hw]
    exact okw_mv rfl hW (hwd _ w1 rfl args) a'
end CALL
