/-! rows for arrays of references, copies; elements of lists -/
set_option maxRecDepth 100000
/-- what may stand in a list -/
def oK (D : va_G) (E : Nat → Nat) (z : Nat) (H : Heap) : Prop := (∃ ci fs, va_at D vwCl (z, .inr (ci, fs)) H) ∨ (∃ k, k < 256 ∧ z = E (300 + k)) ∨ z = E 7
theorem ob_castable : ∀ r ∈ vwCl, Cond.castable r.1 "java/lang/Object" ∈ lw_tbl := by
  intro r hr
  simp only [vwCl, List.mem_cons, List.not_mem_nil, or_false] at hr
  rcases hr with rfl | rfl | rfl | rfl | rfl | rfl | rfl | rfl | rfl | rfl | rfl | rfl | rfl | rfl | rfl | rfl | rfl | rfl | rfl
  · exact q2086
  · exact q2088
  · exact q2089
  · exact q2090
  · exact q2091
  · exact q2096
  · exact q2097
  · exact q2098
  · exact q2101
  · exact q2102
  · exact q2103
  · exact q2106
  · exact q2109
  · exact q2087
  · exact q2099
  · exact q2104
  · exact q2105
  · exact q2107
  · exact q2108
theorem any_of {E : String} {s : State} {H : Heap} {z : Nat} {C : String} (hr : ∃ cell : Cell, H[z]? = some cell ∧ cell.vm.isStatics = false ∧ s.vm.findClass C = some cell.cls) (hasg : ∀ comp c0 : ClassId, s.vm.findClass E = some comp → s.vm.findClass C = some c0 → s.vm.assignable c0 comp = true) : va_Any E s H z := by
  obtain ⟨cell, h1, h2, h3⟩ := hr
  obtain ⟨kC, hkC, -⟩ := Vm.findClass_spec h3
  exact ⟨cell, h1, h2, ⟨kC, hkC⟩, fun comp h => hasg comp _ h h3⟩
theorem oK.any {D : va_G} {E : Nat → Nat} {s : State} {H : Heap} {z : Nat} (hG : gE D E s H) (h : oK D E z H) : va_Any "java/lang/Object" s H z := by
  rcases h with ⟨ci, fs, h⟩ | ⟨k, hk, rfl⟩ | rfl
  · have h' := h
    obtain ⟨r, hc, cell, q1, q2, q3, q4⟩ := h'
    exact va_rAny (ws := [(z, .inr (ci, fs))]) hG.1 (at1 h) (q0 := 0) rfl hc (vb_asgC (hG.2.1.1 _ (ob_castable r (List.mem_of_getElem? hc)) rfl))
  · obtain ⟨cell, q1, q2, q3, -⟩ := hG.2.2.2.2.1.1 k hk
    exact any_of ⟨cell, q1, q2, q3⟩ (vb_asgC (hG.2.1.1 _ q2099 rfl))
  · obtain ⟨cell, q1, q2, q3, -⟩ := hG.2.2.2.2.2.2.2.2.2.2.2.1
    exact any_of ⟨cell, q1, q2, q3⟩ (vb_asgC (hG.2.1.1 _ q2105 rfl))
theorem oK.kept {D : va_G} {E : Nat → Nat} {H H1 : Heap} {z : Nat} (h : oK D E z H) (hq : z < H.size → E 0 ≤ z → H1[z]? = H[z]?) (hE : ∀ ci fs, va_at D vwCl (z, .inr (ci, fs)) H → E 0 ≤ z) : oK D E z H1 := by
  rcases h with ⟨ci, fs, h⟩ | h | h
  · exact Or.inl ⟨ci, fs, h.kept (hq h.lt (hE _ _ h))⟩
  · exact Or.inr (Or.inl h)
  · exact Or.inr (Or.inr h)
section JR
variable {p : Program} {l : Launch} {e : Env} {R : Room} {s : State} {m : MethodId} {args : Array Value} {below : List Frame} {meth : Method} {c : Code} {H : Heap} {locs : List Loc} {cells slots : Nat} {Q : State → Prop}
variable {pc : Nat} {ls : Array Slot} {rest : List Value} {D : va_G} {E : Nat → Nat} {Fr A : Nat → Prop} {cc : ByteArray} {own : String} {index : Nat}
theorem paQ {a N k z : Nat} {f : Nat → Option Nat} (hx : p.tables.exec = Jvm.exec) (hb : c.code = cc) (hG : gE D E s H) (hS : xK Fr A s.heap H locs) (hat : va_at D vwCl (a, arQ E N f) H) (hFr : fN Fr s.heap.size a) (hAa : fN A s.heap.size a) (hk : k < N) (hN : N < 2 ^ 31) (hz : va_Any "java/lang/Object" s H z) (hdg : decode cc pc = .ok (.aastore, 1))
    (kk : ∀ (H1 : Heap) (locs1 : List Loc), va_at D vwCl (a, arQ E N (va_up f k (some z))) H1 → H1.size = H.size → (∀ q : Nat, q ≠ a → H1[q]? = H[q]?) → xK Fr A s.heap H1 locs1 → W p l e R s m args below meth c H1 locs1 cells slots Q (F0 m (pc + 1) ls rest)) : W p l e R s m args below meth c H locs cells slots Q (F0 m pc ls (.ref z :: .int (nI k) :: .ref a :: rest)) := by
  obtain ⟨cellV, g1, g3, ⟨kC, hkC⟩, hasg⟩ := hz
  obtain ⟨kA, comp, k1, k2, k3, -⟩ := (hG.1.2 2 _ rfl).2
  obtain ⟨kE, hkE, -⟩ := Vm.findClass_spec k3
  have hin := vp_in_nI hk hN
  refine W.aast hx hb hat (fun q h => by cases h) (fun h => by cases h) k1 k2 rfl hkE ⟨fun q => hin (Or.inl q), by show _ < (arrV _ _ _).slots.size; rw [arrV_size]; exact Nat.not_le.mp fun q => hin (Or.inr q)⟩ g1 (fun q h => by rw [h] at g3; cases g3) hkC (hasg _ k3) rfl rfl hdg fun H1 e9 z9 oq => ?_
  refine kk H1 _ ?_ z9 oq (hS.put z9 oq hFr hAa)
  show H1[a]? = some (vp_cell _ _)
  rw [e9, vp_cell_q, vp_cell_q, arrV_store, nI_clamp (by omega)]
  congr 2
  funext q
  by_cases hq : q = k
  · subst hq
    simp [updV, va_up, va_rf]
  · simp [updV, va_up, hq]
theorem nwQ {N : Nat} (hx : p.tables.exec = Jvm.exec) (hb : c.code = cc) (hown : s.vm.findClass own = some m.cls) (hlink : (Cond.classLink own index "java/lang/Object").before args s = true) (hG : gE D E s H) (hS : xK Fr A s.heap H locs) (hN : N < 2 ^ 27) (hf : cells + 1 ≤ R.cells ∧ slots + N ≤ R.slots) (hdg : decode cc pc = .ok (.anewarray index, 3))
    (kk : ∀ (q : Nat) (H1 : Heap), q = H.size → va_at D vwCl (q, arQ E N (fun _ => none)) H1 → H1.size = H.size + 1 → (∀ x : Nat, x < H.size → H1[x]? = H[x]?) → xK Fr A s.heap H1 locs → W p l e R s m args below meth c H1 locs (cells + 1) (slots + N) Q (F0 m (pc + 3) ls (.ref q :: rest))) : W p l e R s m args below meth c H locs cells slots Q (F0 m pc ls (.int (nI N) :: rest)) := by
  have hcl : (nI N).toNatClampNeg = N := nI_clamp (by omega)
  obtain ⟨kA0, comp0, k1, k2, k3, k4⟩ := (hG.1.2 2 _ rfl).2
  refine W.anew hx hb hown hlink (va_AO.use hG.2.1.2.1) rfl hdg rfl (nI_pos (by omega)) (by rw [hcl]; omega) hf.1 (by rw [hcl]; exact hf.2) fun cA kA comp f1 f2 f3 f4 => ?_
  have e : cA = E 3 := Option.some.inj (f1.symm.trans k4)
  subst e
  rw [hcl]
  generalize hH1 : H.push ({ cls := E 3, slots := Array.replicate N .null, vm := .none } : Cell) = H1
  have z1 : H1.size = H.size + 1 := by rw [← hH1, Array.size_push]
  have e1 : H1[H.size]? = some (arrV (E 3) N (fun _ => .null)) := by rw [← hH1, Array.getElem?_push_size, ← arrV_new]
  have o1 : ∀ x : Nat, x < H.size → H1[x]? = H[x]? := fun x hx => by rw [← hH1, Array.getElem?_push_lt hx, Array.getElem?_eq_getElem hx]
  exact kk H.size H1 rfl e1 z1 o1 (hS.push z1 o1)
theorem at2 {a b : Nat × va_E} (h : va_at D vwCl a H) (g : va_at D vwCl b H) : va_P D vwCl [a, b] H := by
  intro k x hk
  match k, hk with
  | 0, hk => cases hk; exact h
  | 1, hk => cases hk; exact g
  | k + 2, hk => simp at hk
theorem D2 {a b : Nat × va_E} {A' : Nat → Prop} (hne : a.1 ≠ b.1) (ha : A' a.1) (hb : A' b.1) : va_D A' [a, b] := by
  constructor
  · intro i j x y hi hj h
    match i, j, hi, hj with
    | 0, 0, _, _ => rfl
    | 1, 1, _, _ => rfl
    | 0, 1, hi, hj => cases hi; cases hj; exact absurd h hne
    | 1, 0, hi, hj => cases hi; cases hj; exact absurd h.symm hne
    | i + 2, _, hi, _ => simp at hi
    | 0, j + 2, _, hj => simp at hj
    | 1, j + 2, _, hj => simp at hj
  · intro k q hk
    match k, hk with
    | 0, hk => cases hk; exact ha
    | 1, hk => cases hk; exact hb
    | k + 2, hk => simp at hk
theorem cp_S (hS : xK A A s.heap H locs) : va_S (fN A s.heap.size) s.heap H locs :=
  ⟨hS.1, fun q h1 h2 => hS.2.1 q h1 (fun z => h2 (Or.inl z)), fun x hx => hS.2.2 x hx⟩
theorem cp_K {H1 : Heap} {locs1 : List Loc} (hS : va_S (fN A s.heap.size) s.heap H1 locs1) : xK A A s.heap H1 locs1 :=
  ⟨hS.1, fun q h1 h2 => hS.2.1 q h1 (fun z => z.elim h2 (fun z => absurd z (by omega))), fun x hx => hS.2.2 x hx⟩
theorem cpQ {a0 a N0 N1 k : Nat} {f g : Nat → Option Nat} (hx : p.tables.exec = Jvm.exec) (hb : c.code = cc) (hml : c.maxLocals = ls.size) (hown : s.vm.findClass own = some m.cls) (hlink : (Cond.methodLink own index arraycopyName).before args s = true) (hnat : (Cond.native arraycopyName).before args s = true) (hstat : (Cond.static arraycopyName).before args s = true) (hini : (Cond.initialized "java/lang/System").before args s = true) (hG : gE D E s H) (hS : xK A A s.heap H locs)
    (h0 : va_at D vwCl (a0, arQ E N0 f) H) (h1 : va_at D vwCl (a, arQ E N1 g) H) (hne : a0 ≠ a) (hA0 : fN A s.heap.size a0) (hA : fN A s.heap.size a) (hk0 : k ≤ N0) (hk1 : k ≤ N1) (hk : k < 2 ^ 31) (hel : ∀ i, i < k → ∀ y, f i = some y → va_Any "java/lang/Object" s H y)
    (hframes : 1 ≤ R.frames) (hlocals : (rest.map fun v => v.category).sum + (nativeFrameWords "java/lang/System" "arraycopy" 5 + 11) ≤ R.locals) (hdg : decode cc pc = .ok (.invokestatic index, 3))
    (kk : ∀ (H1 : Heap) (locs1 : List Loc), va_at D vwCl (a0, arQ E N0 f) H1 → va_at D vwCl (a, arQ E N1 (va_cpy f g 0 0 k)) H1 → xK A A s.heap H1 locs1 → W p l e R s m args below meth c H1 locs1 cells slots Q (F0 m (pc + 3) ls rest)) : W p l e R s m args below meth c H locs cells slots Q (F0 m pc ls (.int (nI k) :: .int 0 :: .ref a :: .int 0 :: .ref a0 :: rest)) := by
  have hc : (nI k).toNatClampNeg = k := nI_clamp hk
  have z0 : (0 : Int32).toNatClampNeg = 0 := rfl
  refine va_copyM (ws := [(a0, arQ E N0 f), (a, arQ E N1 g)]) (A := fN A s.heap.size) (E0 := "java/lang/Object") (E1 := "java/lang/Object") hx hb hml hown hlink hnat hstat hini hG.1 (at2 h0 h1) (D2 hne hA0 hA) (cp_S hS) 0 1 2 2 rfl rfl rfl rfl (by decide) (by decide) (nI_pos hk) (by rw [z0, hc]; omega) (by rw [z0, hc]; omega) (by rw [z0, hc]; intro i hi y hy; rw [Nat.zero_add] at hy; exact hel i hi y hy) hframes hlocals hdg ?_
  rw [z0, hc]
  intro H1 locs1 hP hD hS1
  exact kk H1 locs1 (hP 0 _ rfl) (hP 1 _ rfl) (cp_K hS1)
theorem cpI {a0 a N0 N1 k : Nat} {f g : Nat → Int32} (hx : p.tables.exec = Jvm.exec) (hb : c.code = cc) (hml : c.maxLocals = ls.size) (hown : s.vm.findClass own = some m.cls) (hlink : (Cond.methodLink own index arraycopyName).before args s = true) (hnat : (Cond.native arraycopyName).before args s = true) (hstat : (Cond.static arraycopyName).before args s = true) (hini : (Cond.initialized "java/lang/System").before args s = true) (hG : gE D E s H) (hS : xK A A s.heap H locs)
    (h0 : va_at D vwCl (a0, arI E N0 f) H) (h1 : va_at D vwCl (a, arI E N1 g) H) (hne : a0 ≠ a) (hA0 : fN A s.heap.size a0) (hA : fN A s.heap.size a) (hk0 : k ≤ N0) (hk1 : k ≤ N1) (hk : k < 2 ^ 31)
    (hframes : 1 ≤ R.frames) (hlocals : (rest.map fun v => v.category).sum + (nativeFrameWords "java/lang/System" "arraycopy" 5 + 11) ≤ R.locals) (hdg : decode cc pc = .ok (.invokestatic index, 3))
    (kk : ∀ (H1 : Heap) (locs1 : List Loc), va_at D vwCl (a0, arI E N0 f) H1 → va_at D vwCl (a, arI E N1 (va_cpy f g 0 0 k)) H1 → xK A A s.heap H1 locs1 → W p l e R s m args below meth c H1 locs1 cells slots Q (F0 m (pc + 3) ls rest)) : W p l e R s m args below meth c H locs cells slots Q (F0 m pc ls (.int (nI k) :: .int 0 :: .ref a :: .int 0 :: .ref a0 :: rest)) := by
  have hc : (nI k).toNatClampNeg = k := nI_clamp hk
  have z0 : (0 : Int32).toNatClampNeg = 0 := rfl
  refine va_copyi (ws := [(a0, arI E N0 f), (a, arI E N1 g)]) (A := fN A s.heap.size) hx hb hml hown hlink hnat hstat hini hG.1 (at2 h0 h1) (D2 hne hA0 hA) (cp_S hS) 0 1 0 0 rfl rfl rfl rfl rfl (by decide) (by decide) (nI_pos hk) (by rw [z0, hc]; omega) (by rw [z0, hc]; omega) (fun i hi => rfl) hframes hlocals hdg ?_
  rw [z0, hc]
  intro H1 locs1 hP hD hS1
  exact kk H1 locs1 (hP 0 _ rfl) (hP 1 _ rfl) (cp_K hS1)
theorem gfS {ref : String} {ci N a k : Nat} {T : u_T} {fs : List Value} {v : Value} {rest : List Value} {C : String} (hx : p.tables.exec = Jvm.exec) (hb : c.code = cc) (hts : ∀ w ∈ lw_all, w.before args s = true) (hown : s.vm.findClass own = some m.cls) (hG : gE D E s H) (hc : vwCl[ci]? = some (C, T, N)) (hin : ∀ w ∈ u_ws C T N, w ∈ lw_all) (hat : va_at D vwCl (a, .inr (ci, fs)) H) (hk : k < N) (hlink : Cond.fieldLink own index ref (T k).2.1 (T k).2.2.1 ∈ lw_all) (hsm : Cond.sameField ref (T k).1 (T k).2.1 (T k).2.2.1 ∈ lw_all) (hv : fs[k]? = some v) (hdg : decode cc pc = .ok (.getfield index, 3))
    (kk : W p l e R s m args below meth c H locs cells slots Q (F0 m (pc + 3) ls (v :: rest))) : W p l e R s m args below meth c H locs cells slots Q (F0 m pc ls (.ref a :: rest)) :=
  va_get hx hb hts hin hown hG.1 (at1 hat) 0 rfl hc k hk (hts _ hlink) (fun x9 h9 => u_same (hts _ hsm) x9 h9) hv hdg kk
theorem pfS {ref : String} {C : String} {ci N a k : Nat} {T : u_T} {fs : List Value} {ty0 : Nat → FieldType} {ty : FieldType} {v : Value} {rest : List Value} (hx : p.tables.exec = Jvm.exec) (hb : c.code = cc) (hts : ∀ w ∈ lw_all, w.before args s = true) (hown : s.vm.findClass own = some m.cls) (hG : gE D E s H) (hS0 : xK Fr A s.heap H locs) (hc : vwCl[ci]? = some (C, T, N)) (hin : ∀ w ∈ u_ws C T N, w ∈ lw_all) (hty : ∀ k, k < N → parseFieldDescriptor (T k).2.2.1 = some (ty0 k)) (hnm : ∀ a, a < N → ∀ b, b < N → a ≠ b → (T a).2.1 ≠ (T b).2.1) (hat : va_at D vwCl (a, .inr (ci, fs)) H) (hFr : fN Fr s.heap.size a) (hAa : fN A s.heap.size a) (hk : k < N) (hlink : Cond.fieldLink own index ref (T k).2.1 (T k).2.2.1 ∈ lw_all) (hsm : Cond.sameField ref (T k).1 (T k).2.1 (T k).2.2.1 ∈ lw_all) (hfin : (T k).2.2.2 = false) (hd : parseFieldDescriptor (T k).2.2.1 = some ty) (hn : narrow ty v = v) (hfit : fits ty v = true) (hl : k < fs.length)
    (hdg : decode cc pc = .ok (.putfield index, 3)) (kk : ∀ (H1 : Heap) (locs1 : List Loc), va_at D vwCl (a, .inr (ci, fs.set k v)) H1 → H1.size = H.size → (∀ q : Nat, q ≠ a → H1[q]? = H[q]?) → xK Fr A s.heap H1 locs1 → W p l e R s m args below meth c H1 locs1 cells slots Q (F0 m (pc + 3) ls rest)) : W p l e R s m args below meth c H locs cells slots Q (F0 m pc ls (v :: .ref a :: rest)) := by
  have hap := va_apart (own := own) hts hin ty0 hty hnm hG.1 hc
  obtain ⟨r, h1, cell, q1, q2, q3, q4⟩ := hat
  have hr : r = (C, T, N) := Option.some.inj (h1.symm.trans hc)
  subst hr
  obtain ⟨hS, hfc, kC, hkC, hkind⟩ := hG.1.1 ci _ hc
  obtain ⟨cf, kf, fi, f, hi, hsl⟩ := hS k hk
  have hlay := hts _ (hin _ (u_in_lay hk))
  unfold u_lay at hlay
  rw [if_neg (by rw [hfin]; decide)] at hlay
  have hst := (u_facts hfc hkC (u_lays hts hin hk) hi).1
  have h6 := u_store hfc hkC hkind hlay hi hd hn hfit
  refine W.putK hx hb (f := f) ⟨hown, hts _ hlink, ⟨_, _, _, u_same (hts _ hsm) _ hi⟩, hst⟩ (by rw [q2]; exact h6) q1 q3 (by rw [hsl]; exact k2_hasslot (q4 k hk)) rfl rfl hdg fun H' e1 e2 e3 => ?_
  rw [hsl] at e1 ⊢
  exact kk H' _ ⟨_, hc, t_OB.to (V := updV (vp_V fs) k v) ⟨_, e1, q2, q3, t_set q4 hap hk v⟩ (fun j _ => vp_updV_set hl v j)⟩ e2 e3 (hS0.put e2 e3 hFr hAa)
theorem glE6 {E6 : Nat} (hx : p.tables.exec = Jvm.exec) (hb : c.code = cc) (hT : va_T (.object "java/lang/Object") E6 0 (fun _ => .null) (gA E) s s.heap) (hS : xK Fr A s.heap H locs) (hGA : ∀ q, A q → E 0 ≤ q) (hGF : ∀ q, Fr q → E 0 ≤ q) (h0 : E 0 ≤ s.heap.size) (hdg : decode cc pc = .ok (.arraylength, 1))
    (kk : W p l e R s m args below meth c H locs cells slots Q (F0 m (pc + 1) ls (.int 0 :: rest))) : W p l e R s m args below meth c H locs cells slots Q (F0 m pc ls (.ref E6 :: rest)) :=
  va_tlen hx hb hT (A := gA E) ⟨hS.1, fun q h1 h2 => hS.2.1 q h1 (fun z => h2 (hGA q z)), fun x hx => (hS.2.2 x hx).elim (hGF _) (fun z => Nat.le_trans h0 z)⟩ rfl hdg kk
end JR
