/-! ===== new cells ===== -/
section AL
variable {p : Program} {l : Launch} {e : Env} {R : Room} {s : State} {m : MethodId} {args : Array Value} {below : List Frame} {meth : Method} {c : Code} {H : Heap} {locs : List Loc} {cells slots : Nat} {Q : State → Prop}
variable {cc : ByteArray} {pc : Nat} {ls : Array Slot} {rest : List Value} {F : Nat → Prop} {G : Gx} {s0 : State} {own : String} {nL o : Nat}
theorem x_newi (V : Vx G s0 p s m c cc nL own) {n : Int32} (N : Nat) (hn : n = nI N) (hN : N < 100000) (hcells : cells + 1 ≤ R.cells) (hslots : slots + N ≤ R.slots) (hdg : decode cc pc = .ok (.newarray .int, 2))
    (kk : ∀ (H1 : Heap), va_at G.1 classes (H.size, .inl (G.2 0, (N, .inl (fun _ => 0)))) H1 → H1.size = H.size + 1 → (∀ q, q < H.size → H1[q]? = H[q]?) → W p l e R s m args below meth c H1 locs (cells + 1) (slots + N) Q (F0 m (pc + 2) ls (.ref H.size :: rest))) :
    W p l e R s m args below meth c H locs cells slots Q (F0 m pc ls (.int n :: rest)) := by
  subst hn
  have w0 : Cond.arrayClass .int ∈ lw_tbl := List.mem_of_getElem? (i := 82) (by decide +kernel)
  have w1 : (Cond.arrayClass .int).before args s = true := V.2.2.2.2.1 _ w0 rfl args
  refine va_newaK (atype := .int) V.1 V.2.1 w1 rfl hdg rfl (nI_pos (by omega)) (nI_clamp (by omega)) (by show N * 4 ≤ 536870912; omega) hcells hslots rfl fun H1 cA e1 z o1 hAr hNm => ?_
  have h2 : s.vm.findClass ("[" ++ (FieldType.int).toString) = some (G.2 0) := (V.2.2.2.2.2.1.2 0 _ rfl).2
  have hc : cA = G.2 0 := Option.some.inj (hNm.symm.trans h2)
  subst hc
  exact kk H1 e1 z o1
theorem x_newz (V : Vx G s0 p s m c cc nL own) {n : Int32} (N : Nat) (hn : n = nI N) (hN : N < 100000) (hcells : cells + 1 ≤ R.cells) (hslots : slots + N ≤ R.slots) (hdg : decode cc pc = .ok (.newarray .boolean, 2))
    (kk : ∀ (H1 : Heap), va_at G.1 classes (H.size, .inl (G.2 1, (N, .inl (fun _ => 0)))) H1 → H1.size = H.size + 1 → (∀ q, q < H.size → H1[q]? = H[q]?) → W p l e R s m args below meth c H1 locs (cells + 1) (slots + N) Q (F0 m (pc + 2) ls (.ref H.size :: rest))) :
    W p l e R s m args below meth c H locs cells slots Q (F0 m pc ls (.int n :: rest)) := by
  subst hn
  have w0 : Cond.arrayClass .boolean ∈ lw_tbl := List.mem_of_getElem? (i := 852) (by decide +kernel)
  have w1 : (Cond.arrayClass .boolean).before args s = true := V.2.2.2.2.1 _ w0 rfl args
  refine va_newaK (atype := .boolean) V.1 V.2.1 w1 rfl hdg rfl (nI_pos (by omega)) (nI_clamp (by omega)) (by show N * 1 ≤ 536870912; omega) hcells hslots rfl fun H1 cA e1 z o1 hAr hNm => ?_
  have h2 : s.vm.findClass ("[" ++ (FieldType.boolean).toString) = some (G.2 1) := (V.2.2.2.2.2.1.2 1 _ rfl).2
  have hc : cA = G.2 1 := Option.some.inj (hNm.symm.trans h2)
  subst hc
  exact kk H1 e1 z o1
theorem x_newj (V : Vx G s0 p s m c cc nL own) {n : Int32} (N : Nat) (hn : n = nI N) (hN : N < 100000) (hcells : cells + 1 ≤ R.cells) (hslots : slots + N ≤ R.slots) (hdg : decode cc pc = .ok (.newarray .long, 2))
    (kk : ∀ (H1 : Heap), va_at G.1 classes (H.size, .inl (G.2 2, (N, .inr (.inl (fun _ => 0))))) H1 → H1.size = H.size + 1 → (∀ q, q < H.size → H1[q]? = H[q]?) → W p l e R s m args below meth c H1 locs (cells + 1) (slots + N) Q (F0 m (pc + 2) ls (.ref H.size :: rest))) :
    W p l e R s m args below meth c H locs cells slots Q (F0 m pc ls (.int n :: rest)) := by
  subst hn
  have w0 : Cond.arrayClass .long ∈ lw_tbl := List.mem_of_getElem? (i := 990) (by decide +kernel)
  have w1 : (Cond.arrayClass .long).before args s = true := V.2.2.2.2.1 _ w0 rfl args
  refine va_newaK (atype := .long) V.1 V.2.1 w1 rfl hdg rfl (nI_pos (by omega)) (nI_clamp (by omega)) (by show N * 8 ≤ 536870912; omega) hcells hslots rfl fun H1 cA e1 z o1 hAr hNm => ?_
  have h2 : s.vm.findClass ("[" ++ (FieldType.long).toString) = some (G.2 2) := (V.2.2.2.2.2.1.2 2 _ rfl).2
  have hc : cA = G.2 2 := Option.some.inj (hNm.symm.trans h2)
  subst hc
  exact kk H1 e1 z o1
theorem x_newq (V : Vx G s0 p s m c cc nL own) {C : String} {cA0 : ClassId} {index : Nat} (ti : Nat) (hti : (atys G.2)[ti]? = some (cA0, .object C)) (w1 : Cond.classLink own index C ∈ lw_tbl) (w2 : Cond.arrayOver (.object C) ∈ lw_tbl) {n : Int32} (N : Nat) (hn : n = nI N) (hN : N < 100000) (hcells : cells + 1 ≤ R.cells) (hslots : slots + N ≤ R.slots) (hdg : decode cc pc = .ok (.anewarray index, 3))
    (kk : ∀ (H1 : Heap), va_at G.1 classes (H.size, .inl (cA0, (N, .inr (.inr (.inr (.inr (fun _ => none))))))) H1 → H1.size = H.size + 1 → (∀ q, q < H.size → H1[q]? = H[q]?) → W p l e R s m args below meth c H1 locs (cells + 1) (slots + N) Q (F0 m (pc + 3) ls (.ref H.size :: rest))) :
    W p l e R s m args below meth c H locs cells slots Q (F0 m pc ls (.int n :: rest)) := by
  subst hn
  have hcl : (nI N).toNatClampNeg = N := nI_clamp (by omega)
  refine W.anew V.1 V.2.1 V.2.2.2.1 (V.2.2.2.2.1 _ w1 rfl args) (V.2.2.2.2.1 _ w2 rfl args) rfl hdg rfl (nI_pos (by omega)) (by rw [hcl]; omega) hcells (by rw [hcl]; exact hslots) fun cA kA comp f1 f2 f3 f4 => ?_
  obtain ⟨kA', comp', g1, g2, g3, g4⟩ := (V.2.2.2.2.2.1.2 ti _ hti).2
  cases g4.symm.trans f1
  rw [hcl]
  refine kk _ ?_ ?_ ?_
  · show (H.push _)[H.size]? = some (vp_cell _ _)
    rw [vp_cell_q, Array.getElem?_push_size, ← arrV_new]
    rfl
  · rw [Array.size_push]
  · intro q hq
    rw [Array.getElem?_push, if_neg (Nat.ne_of_lt hq)]
theorem x_new (V : Vx G s0 p s m c cc nL own) {C : String} {T : u_T} {N ci index : Nat} (hin : ∀ w ∈ u_ws C T N, w ∈ Tb) (ty : Nat → FieldType) (hty : ∀ k, k < N → parseFieldDescriptor (T k).2.2.1 = some (ty k)) (w1 : Cond.classLink own index C ∈ lw_tbl) (w2 : Cond.instantiable C N ∈ lw_tbl) (w3 : Cond.initialized C ∈ lw_tbl) (hc : classes[ci]? = some (C, T, N)) {fs : List Value} (hfs : ∀ j, j < N → defaultValue (ty j) = vp_V fs j) (hcells : cells + 1 ≤ R.cells) (hslots : slots + N ≤ R.slots) (hdg : decode cc pc = .ok (.new index, 3))
    (kk : ∀ (H1 : Heap), va_at G.1 classes (H.size, .inr (ci, fs)) H1 → H1.size = H.size + 1 → (∀ q, q < H.size → H1[q]? = H[q]?) → W p l e R s m args below meth c H1 locs (cells + 1) (slots + N) Q (F0 m (pc + 3) ls (.ref H.size :: rest))) :
    W p l e R s m args below meth c H locs cells slots Q (F0 m pc ls rest) := by
  have hKn := V.2.2.2.2.2.1.1 ci _ hc
  refine W.newcK V.1 V.2.1 V.2.2.2.1 (V.2.2.2.2.1 _ w1 rfl args) (V.2.2.2.2.1 _ w2 rfl args) (V.2.2.2.2.1 _ w3 rfl args) rfl hdg hcells hslots hKn.2.1 rfl fun H1 kC hkC e1 z1 o1 => ?_
  exact kk H1 ⟨_, hc, (u_born ty (wd_ts V.2.2.2.2.1 args) hin hKn hkC e1 hty).to hfs⟩ z1 o1
theorem x_putF (V : Vx G s0 p s m c cc nL own) {ref C : String} {T : u_T} {N ci index a : Nat} (hin : ∀ w ∈ u_ws C T N, w ∈ Tb) (ty0 : Nat → FieldType) (hty : ∀ k, k < N → parseFieldDescriptor (T k).2.2.1 = some (ty0 k)) (hnm : ∀ a, a < N → ∀ b, b < N → a ≠ b → (T a).2.1 ≠ (T b).2.1) {fs : List Value} (hat : va_at G.1 classes (a, .inr (ci, fs)) H) (hc : classes[ci]? = some (C, T, N)) (k : Nat) (hk : k < N) (w1 : Cond.fieldLink own index ref (T k).2.1 (T k).2.2.1 ∈ lw_tbl) (hsame : ∀ x, s.fieldFound? (T k).1 (T k).2.1 (T k).2.2.1 = some x → s.fieldFound? ref (T k).2.1 (T k).2.2.1 = some x) (hfin : (T k).2.2.2 = true) (hin2 : meth.name = "<init>") (hdecl : (T k).1 = own) {v : Value} (hn : narrow (ty0 k) v = v) (hfit : fits (ty0 k) v = true) (hl : k < fs.length)
    (hdg : decode cc pc = .ok (.putfield index, 3)) (kk : ∀ (H1 : Heap) (i : Nat), va_at G.1 classes (a, .inr (ci, fs.set k v)) H1 → H1.size = H.size → (∀ q : Nat, q ≠ a → H1[q]? = H[q]?) → W p l e R s m args below meth c H1 (locs ++ [⟨a, i⟩]) cells slots Q (F0 m (pc + 3) ls rest)) : W p l e R s m args below meth c H locs cells slots Q (F0 m pc ls (v :: .ref a :: rest)) := by
  have hts := wd_ts V.2.2.2.2.1 args
  have hK := V.2.2.2.2.2.1
  have hown := V.2.2.2.1
  have hlink := V.2.2.2.2.1 _ w1 rfl args
  have hap := va_apart (own := own) hts hin ty0 hty hnm hK hc
  obtain ⟨r, h1, cell, q1, q2, q3, q4⟩ := hat
  have hr : r = (C, T, N) := Option.some.inj (h1.symm.trans hc)
  subst hr
  obtain ⟨hS, hfc, kC, hkC, hkind⟩ := hK.1 ci _ hc
  obtain ⟨cf, kf, fi, f, hi, hsl⟩ := hS k hk
  have hlay := hts _ (hin _ (u_in_lay hk))
  unfold u_lay at hlay
  rw [if_pos hfin] at hlay
  have hst := (u_facts hfc hkC (u_lays hts hin hk) hi).1
  have hcf : m.cls = cf := by
    obtain ⟨_, _, c', _, _, _, -, -, hf', -, -, -, hown2, -⟩ := Cond.laysFinal_spec hlay
    have e1 : c' = cf := by have := hi.symm.trans hf'; simp at this; exact this.1.symm
    rw [hdecl] at hown2
    rw [← e1]; exact Option.some.inj (hown.symm.trans hown2)
  have h6 := u_fits hfc hkC hkind (Or.inr hlay) hi (hty k hk) hn hfit
  refine W.putFinK V.1 V.2.1 hown hlink (hsame _ hi) hst hcf hin2 (by rw [q2]; exact h6) q1 q3 (by rw [hsl]; exact k2_hasslot (q4 k hk)) rfl rfl hdg fun H' e1 e2 e3 => ?_
  rw [hsl] at e1
  exact kk H' _ ⟨_, hc, t_OB.to (V := updV (vp_V fs) k v) ⟨_, e1, q2, q3, t_set q4 hap hk v⟩ (fun j _ => vp_updV_set hl v j)⟩ e2 e3
theorem S_new {A : Nat → Prop} {H0 H H1 : Heap} (h : va_S A H0 H locs) (z : H1.size = H.size + 1) (o1 : ∀ q, q < H.size → H1[q]? = H[q]?) : va_S A H0 H1 locs :=
  ⟨Nat.le_trans h.1 (by omega), fun q h1 h2 => (o1 q (Nat.lt_of_lt_of_le h1 h.1)).trans (h.2.1 q h1 h2), h.2.2⟩
/-- Object's constructor -/
theorem x_obj (V : Vx G s0 p s m c cc nL own) {idx a : Nat} {lv : List (Nat × Value)} (w1 : Cond.methodLink own idx Lib.objectInit ∈ lw_tbl) (hl : lv_has ls nL lv) (hd : decode cc pc = .ok (.invokespecial idx, 3)) (hR : 1 ≤ R.frames ∧ 20 ≤ R.locals) (hst : (rest.map fun v => v.category).sum ≤ 8)
    (kk : W p l e R s m args below meth c H locs cells slots Q (F0 m (pc + 3) ls rest)) : W p l e R s m args below meth c H locs cells slots Q (F0 m pc ls (.ref a :: rest)) := by
  refine W.objInit V.1 V.2.1 V.2.2.2.1 (V.2.2.2.2.1 _ w1 rfl args) (V.2.2.2.2.1 (.instanceMethod Lib.objectInit) (List.mem_of_getElem? (i := 62) (by decide +kernel)) rfl args) (V.2.2.2.2.1 (.code Lib.objectInit ⟨#[0xb1]⟩ 1 none) (List.mem_of_getElem? (i := 63) (by decide +kernel)) rfl args) rfl (hl.1.trans V.2.2.1.symm) rfl hd hR.1 ?_ kk
  have h := lv_room (m := m) (pc := pc) (ls := ls) (rest := rest) hst
  show 2 * 0 + _ + 12 ≤ R.locals
  omega
end AL
