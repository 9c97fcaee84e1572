/-! GENERAL CONTRACTS: a method may change the cells of a set, and make cells -/
set_option maxRecDepth 100000
def xK (Fr A : Nat → Prop) (H0 H : Heap) (locs : List Loc) : Prop := H0.size ≤ H.size ∧ (∀ q : Nat, q < H0.size → ¬ A q → H[q]? = H0[q]?) ∧ ∀ x ∈ locs, Fr x.base ∨ H0.size ≤ x.base
def qG (A : Nat → Prop) (Post : Option Value → Heap → Prop) : Array Value → State → Outcome → State → Prop := fun _ st o t => (∃ v, o = .returned v ∧ Post v t.heap) ∧ va_F A st t
def pG (D : va_G) (E : Nat → Nat) (av : List Value) (Ph : Heap → Prop) (sz : Nat) : Array Value → State → Prop := fun a U => a = av.toArray ∧ gE D E U U.heap ∧ U.heap.size = sz ∧ Ph U.heap
/-- the cells of a set, and new ones -/
def fN (F : Nat → Prop) (n : Nat) : Nat → Prop := fun q => F q ∨ n ≤ q
def GM (l : Launch) (D : va_G) (E : Nat → Nat) (y : MethodName) (cc : ByteArray) (maxL : Nat) (ret : Option FieldType) (fr lo mc ms : Nat) (av : List Value) (Ph : Heap → Prop) (Fr A : Nat → Prop) (Post : Nat → Option Value → Heap → Prop) : Prop :=
  ∀ sz : Nat, Met l y (ws_ y cc maxL ret) { frames := fr, cells := mc, slots := ms, locals := lo } (pG D E av Ph sz) (qG A (Post sz)) mc ms (fN Fr sz)
theorem pG_blind {D : va_G} {E : Nat → Nat} {av : List Value} {Ph : Heap → Prop} {sz : Nat} : FrameBlind (pG D E av Ph sz) := by
  intro a U g mk q
  obtain ⟨q0, q1, q2⟩ := q
  exact ⟨q0, gE.same (u := U) (U := U.calling g mk a) rfl q1, q2⟩
theorem GM.start {l : Launch} {D : va_G} {E : Nat → Nat} {y : MethodName} {cc : ByteArray} {maxL : Nat} {ret : Option FieldType} {fr lo mc ms : Nat} {av : List Value} {Ph : Heap → Prop} {Fr A : Nat → Prop} {Post : Nat → Option Value → Heap → Prop} (hy : plainName y.cls = true) (hlen : (lg_sl av).length ≤ maxL)
    (body : ∀ (p : Program) (e : Env) (s : State) (m : MethodId) (below : List Frame) (meth : Method) (c : Code) (ls : Array Slot), p.tables.exec = Jvm.exec → c.code = cc → meth.sig.returnType = ret → c.maxLocals = maxL → s.vm.findClass y.cls = some m.cls → meth.locks = false → meth.name = y.name → (∀ w ∈ lw_all, w.before av.toArray s = true) → gE D E s s.heap → Ph s.heap → xK Fr A s.heap s.heap [] → lv_has ls maxL (lv_args 0 av) →
      W p l e { frames := fr, cells := mc, slots := ms, locals := lo } s m av.toArray below meth c s.heap [] 0 0 (MQ below (qG A (Post s.heap.size)) av.toArray s mc ms (fN Fr s.heap.size)) (F0 m 0 ls [])) : GM l D E y cc maxL ret fr lo mc ms av Ph Fr A Post := by
  intro sz
  refine Met.ofW (cc := cc) (maxL := maxL) (ret := ret) hy rfl ?_
  intro p e s m args below meth c s₁ B hml hv
  obtain ⟨rfl, hG, hsz, hP⟩ := hv
  have hts := atoms_spec (ws := ws_ y cc maxL ret) B.pre
  have hts : ∀ w ∈ lw_all, w.before _ s = true := fun w h => hts w (List.mem_cons_of_mem _ h)
  have hl := lv_entry av (n := maxL) hlen
  rw [lg_entry_eq]
  subst hsz
  exact body p e s m below meth c _ B.exec B.bytes B.returns hml (findClass_of_methodNamed B.named) B.notSynchronized (name_of_methodNamed B.named B.method).1 hts hG hP ⟨Nat.le_refl _, fun _ _ _ => rfl, fun _ h => by cases h⟩ hl
/-- what changes nothing, as a general contract -/
theorem PM.gm {l : Launch} {D : va_G} {E : Nat → Nat} {y : MethodName} {cc : ByteArray} {maxL : Nat} {ret : Option FieldType} {fr lo : Nat} {av : List Value} {Ph : Heap → Prop} {v : Option Value} : True := trivial
section GCALL
variable {p : Program} {l : Launch} {e : Env} {R : Room} {s : State} {m : MethodId} {args : Array Value} {below : List Frame} {meth : Method} {c : Code} {H : Heap} {locs : List Loc} {cells slots mc ms : Nat} {Q : State → Prop}
variable {pc : Nat} {ls : Array Slot} {rest st0 As : List Value} {D : va_G} {E : Nat → Nat} {Ph : Heap → Prop} {Fr A Fr1 A1 : Nat → Prop} {x y : MethodName} {cc bytes : ByteArray} {maxL nL n fr lo index b count : Nat} {ret : Option FieldType} {own C : String}
theorem gc_run {Post : Option Value → Heap → Prop} {a : Array Value} (hr : CallRun p l e R s m args below meth c H locs cells slots mc ms (F0 m pc ls st0) rest (qG A1 Post a) (fN Fr1 H.size)) (hS : xK Fr A s.heap H locs) (hA : ∀ q, A1 q → fN A s.heap.size q) (hF : ∀ q, Fr1 q → fN Fr s.heap.size q)
    (kk : ∀ (v : Option Value) (H1 : Heap) (locs1 : List Loc), Post v H1 → H.size ≤ H1.size → (∀ q : Nat, q < H.size → ¬ A1 q → H1[q]? = H[q]?) → xK Fr A s.heap H1 locs1 → W p l e R s m args below meth c H1 locs1 (cells + mc) (slots + ms) Q (F0 m (pc + 3) ls (v.toList ++ rest))) : W p l e R s m args below meth c H locs cells slots Q (F0 m pc ls st0) := by
  intro T hT X
  obtain ⟨v', st₀, t, T', L, h0, X', hL, e1, ⟨⟨v, hv, hp⟩, hz, hk⟩, st⟩ := hr T hT X
  cases hv
  rw [h0] at hz hk
  obtain ⟨t2, a1, b1⟩ := kk _ t.heap (locs ++ L) hp hz hk ⟨Nat.le_trans hS.1 hz, fun q h1 h2 => by
      rw [hk q (Nat.lt_of_lt_of_le h1 hS.1) (fun z => (hA q z).elim h2 (fun z2 => absurd z2 (by omega)))]; exact hS.2.1 q h1 h2, fun q hq => by
      rcases List.mem_append.mp hq with h | h
      · exact hS.2.2 q h
      · rcases hL q h with h | h
        · exact hF _ h
        · exact Or.inr (Nat.le_trans hS.1 h)⟩ T' e1 X'
  exact ⟨t2, st t2 a1, b1⟩
theorem gc_run5 {Post : Option Value → Heap → Prop} {a : Array Value} (hr : va_Run5 p l e R s m args below meth c H locs cells slots mc ms (F0 m pc ls st0) rest (qG A1 Post a) (fN Fr1 H.size)) (hS : xK Fr A s.heap H locs) (hA : ∀ q, A1 q → fN A s.heap.size q) (hF : ∀ q, Fr1 q → fN Fr s.heap.size q)
    (kk : ∀ (v : Option Value) (H1 : Heap) (locs1 : List Loc), Post v H1 → H.size ≤ H1.size → (∀ q : Nat, q < H.size → ¬ A1 q → H1[q]? = H[q]?) → xK Fr A s.heap H1 locs1 → W p l e R s m args below meth c H1 locs1 (cells + mc) (slots + ms) Q (F0 m (pc + 5) ls (v.toList ++ rest))) : W p l e R s m args below meth c H locs cells slots Q (F0 m pc ls st0) := by
  intro T hT X
  obtain ⟨v', st₀, t, T', L, h0, X', hL, e1, e2, ⟨⟨v, hv, hp⟩, hz, hk⟩, st⟩ := hr T hT X
  cases hv
  rw [h0] at hz hk
  obtain ⟨t2, a1, b1⟩ := kk _ t.heap (locs ++ L) hp hz hk ⟨Nat.le_trans hS.1 hz, fun q h1 h2 => by
      rw [hk q (Nat.lt_of_lt_of_le h1 hS.1) (fun z => (hA q z).elim h2 (fun z2 => absurd z2 (by omega)))]; exact hS.2.1 q h1 h2, fun q hq => by
      rcases List.mem_append.mp hq with h | h
      · exact hS.2.2 q h
      · rcases hL q h with h | h
        · exact hF _ h
        · exact Or.inr (Nat.le_trans hS.1 h)⟩ T' e1 X'
  exact ⟨t2, st t2 a1, b1⟩
theorem gcV {Post : Nat → Option Value → Heap → Prop} (S : xS p m c cc nL s args own) (hM : GM l D E y bytes maxL ret fr lo mc ms (.ref b :: As) Ph Fr1 A1 Post) (h1 : Cond.methodLink own index y ∈ lw_all) (h2 : Cond.instanceMethod y ∈ lw_all) (h3 : Cond.selects y.cls y y ∈ lw_all) (h4 : Cond.initialized y.cls ∈ lw_all) (h5 : Cond.code y bytes maxL ret ∈ lw_all)
    (hd : y.cls ≠ "java/lang/invoke/MethodHandle" ∧ y.cls ≠ "java/lang/invoke/VarHandle" ∧ (parseMethodDescriptor y.desc).map (fun d => d.parameters.length) = some n) (hR : fr + 1 ≤ R.frames ∧ 8 + (maxL + 11) + lo ≤ R.locals) (hG : gE D E s H) (hrecv : ∃ cellB : Cell, H[b]? = some cellB ∧ cellB.vm.isStatics = false ∧ s.vm.findClass y.cls = some cellB.cls) (hPh : Ph H)
    (hn : As.length = n) (hsize : ls.size = nL) (hstack : st0 = As.reverse ++ .ref b :: rest) (hW : (rest.map fun v => v.category).sum ≤ 8) (hdg : decode cc pc = .ok (.invokevirtual index, 3)) (hf : cells + mc ≤ R.cells ∧ slots + ms ≤ R.slots)
    (hS : xK Fr A s.heap H locs) (hA : ∀ q, A1 q → fN A s.heap.size q) (hF : ∀ q, Fr1 q → fN Fr s.heap.size q)
    (kk : ∀ (v : Option Value) (H1 : Heap) (locs1 : List Loc), Post H.size v H1 → H.size ≤ H1.size → (∀ q : Nat, q < H.size → ¬ A1 q → H1[q]? = H[q]?) → xK Fr A s.heap H1 locs1 → W p l e R s m args below meth c H1 locs1 (cells + mc) (slots + ms) Q (F0 m (pc + 3) ls (v.toList ++ rest))) : W p l e R s m args below meth c H locs cells slots Q (F0 m pc ls st0) :=
  gc_run (rest := rest) (a := (Value.ref b :: As).toArray) (W.runV (As := As) (rest := rest) S (hM H.size) (cwV n S.2.2.2.2 (lw_V h1 h2 h3 h4 h5) rfl rfl rfl ⟨rfl, hd⟩ hR) ⟨pG_blind, hrecv, fun U hU hW => ⟨rfl, by rw [hU]; exact hG.warm hW, by rw [hU], by rw [hU]; exact hPh⟩⟩ rfl hn hsize hstack (lv_room hW) hdg hf) hS hA hF kk
theorem gcVN {host : String} {Post : Nat → Option Value → Heap → Prop} (S : xS p m c cc nL s args own) (hM : GM l D E y bytes maxL ret fr lo mc ms (.ref b :: As) Ph Fr1 A1 Post) (h1 : Cond.methodLinkNest own index y host ∈ lw_tbl) (h2 : Cond.instanceMethod y ∈ lw_all) (h3 : Cond.selects y.cls y y ∈ lw_all) (h4 : Cond.initialized y.cls ∈ lw_all) (h5 : Cond.code y bytes maxL ret ∈ lw_all)
    (hd : y.cls ≠ "java/lang/invoke/MethodHandle" ∧ y.cls ≠ "java/lang/invoke/VarHandle" ∧ (parseMethodDescriptor y.desc).map (fun d => d.parameters.length) = some n) (hR : fr + 1 ≤ R.frames ∧ 8 + (maxL + 11) + lo ≤ R.locals) (hG : gE D E s H) (hrecv : ∃ cellB : Cell, H[b]? = some cellB ∧ cellB.vm.isStatics = false ∧ s.vm.findClass y.cls = some cellB.cls) (hPh : Ph H)
    (hn : As.length = n) (hsize : ls.size = nL) (hstack : st0 = As.reverse ++ .ref b :: rest) (hW : (rest.map fun v => v.category).sum ≤ 8) (hdg : decode cc pc = .ok (.invokevirtual index, 3)) (hf : cells + mc ≤ R.cells ∧ slots + ms ≤ R.slots)
    (hS : xK Fr A s.heap H locs) (hA : ∀ q, A1 q → fN A s.heap.size q) (hF : ∀ q, Fr1 q → fN Fr s.heap.size q)
    (kk : ∀ (v : Option Value) (H1 : Heap) (locs1 : List Loc), Post H.size v H1 → H.size ≤ H1.size → (∀ q : Nat, q < H.size → ¬ A1 q → H1[q]? = H[q]?) → xK Fr A s.heap H1 locs1 → W p l e R s m args below meth c H1 locs1 (cells + mc) (slots + ms) Q (F0 m (pc + 3) ls (v.toList ++ rest))) : W p l e R s m args below meth c H locs cells slots Q (F0 m pc ls st0) :=
  gc_run (rest := rest) (a := (Value.ref b :: As).toArray) (va_Run.run (va_runVN (As := As) (rest := rest) S (hM H.size) ⟨va_cnB n S.2.2.2.2 (lw_meth h5) rfl rfl rfl (hG.2.1.1 _ h1 rfl) (S.2.2.2.2 _ h4) hd hR, S.2.2.2.2 _ h2, S.2.2.2.2 _ h3⟩ ⟨pG_blind, hrecv, fun U hU hW => ⟨rfl, by rw [hU]; exact hG.warm hW, by rw [hU], by rw [hU]; exact hPh⟩⟩ rfl hn hsize hstack (lv_room hW) hdg hf)) hS hA hF kk
theorem gcS {Post : Nat → Option Value → Heap → Prop} (S : xS p m c cc nL s args own) (hM : GM l D E y bytes maxL ret fr lo mc ms As Ph Fr1 A1 Post) (h1 : Cond.methodLink own index y ∈ lw_all) (h2 : Cond.static y ∈ lw_all) (h4 : Cond.initialized y.cls ∈ lw_all) (h5 : Cond.code y bytes maxL ret ∈ lw_all)
    (hd : y.cls ≠ "java/lang/invoke/MethodHandle" ∧ y.cls ≠ "java/lang/invoke/VarHandle" ∧ (parseMethodDescriptor y.desc).map (fun d => d.parameters.length) = some n) (hR : fr + 1 ≤ R.frames ∧ 8 + (maxL + 11) + lo ≤ R.locals) (hG : gE D E s H) (hPh : Ph H)
    (hn : As.length = n) (hsize : ls.size = nL) (hstack : st0 = As.reverse ++ rest) (hW : (rest.map fun v => v.category).sum ≤ 8) (hdg : decode cc pc = .ok (.invokestatic index, 3)) (hf : cells + mc ≤ R.cells ∧ slots + ms ≤ R.slots)
    (hS : xK Fr A s.heap H locs) (hA : ∀ q, A1 q → fN A s.heap.size q) (hF : ∀ q, Fr1 q → fN Fr s.heap.size q)
    (kk : ∀ (v : Option Value) (H1 : Heap) (locs1 : List Loc), Post H.size v H1 → H.size ≤ H1.size → (∀ q : Nat, q < H.size → ¬ A1 q → H1[q]? = H[q]?) → xK Fr A s.heap H1 locs1 → W p l e R s m args below meth c H1 locs1 (cells + mc) (slots + ms) Q (F0 m (pc + 3) ls (v.toList ++ rest))) : W p l e R s m args below meth c H locs cells slots Q (F0 m pc ls st0) :=
  gc_run (rest := rest) (a := As.toArray) (W.runS (As := As) (rest := rest) S (hM H.size) (va_cwS n S.2.2.2.2 (lw_S h1 h2 h4 h5) rfl rfl rfl hd hR) ⟨pG_blind, fun U hU hW => ⟨rfl, by rw [hU]; exact hG.warm hW, by rw [hU], by rw [hU]; exact hPh⟩⟩ rfl hn hsize hstack (lv_room hW) hdg hf) hS hA hF kk
theorem gcI {Post : Nat → Option Value → Heap → Prop} (S : xS p m c cc nL s args own) (hM : GM l D E y bytes maxL none fr lo mc ms (.ref b :: As) Ph Fr1 A1 Post) (h1 : Cond.methodLink own index y ∈ lw_all) (h2 : Cond.instanceMethod y ∈ lw_all) (h4 : Cond.initialized y.cls ∈ lw_all) (h5 : Cond.code y bytes maxL none ∈ lw_all) (hin : y.name = "<init>")
    (hd : y.cls ≠ "java/lang/invoke/MethodHandle" ∧ y.cls ≠ "java/lang/invoke/VarHandle" ∧ (parseMethodDescriptor y.desc).map (fun d => d.parameters.length) = some n) (hR : fr + 1 ≤ R.frames ∧ 8 + (maxL + 11) + lo ≤ R.locals) (hG : gE D E s H) (hPh : Ph H)
    (hn : As.length = n) (hsize : ls.size = nL) (hstack : st0 = As.reverse ++ .ref b :: rest) (hW : (rest.map fun v => v.category).sum ≤ 8) (hdg : decode cc pc = .ok (.invokespecial index, 3)) (hf : cells + mc ≤ R.cells ∧ slots + ms ≤ R.slots)
    (hS : xK Fr A s.heap H locs) (hA : ∀ q, A1 q → fN A s.heap.size q) (hF : ∀ q, Fr1 q → fN Fr s.heap.size q)
    (kk : ∀ (v : Option Value) (H1 : Heap) (locs1 : List Loc), Post H.size v H1 → H.size ≤ H1.size → (∀ q : Nat, q < H.size → ¬ A1 q → H1[q]? = H[q]?) → xK Fr A s.heap H1 locs1 → W p l e R s m args below meth c H1 locs1 (cells + mc) (slots + ms) Q (F0 m (pc + 3) ls (v.toList ++ rest))) : W p l e R s m args below meth c H locs cells slots Q (F0 m pc ls st0) :=
  gc_run (rest := rest) (a := (Value.ref b :: As).toArray) (W.runI (As := As) (rest := rest) S (hM H.size) (cwI n S.2.2.2.2 (lw_meth h5) rfl rfl rfl (S.2.2.2.2 _ h4) (S.2.2.2.2 _ h1) (S.2.2.2.2 _ h2) hin hd hR) ⟨pG_blind, fun U hU hW => ⟨rfl, by rw [hU]; exact hG.warm hW, by rw [hU], by rw [hU]; exact hPh⟩⟩ rfl hn hsize hstack (lv_room hW) hdg hf) hS hA hF kk
theorem gcF {Post : Nat → Option Value → Heap → Prop} {ci N : Nat} {T : u_T} (hFw : va_Fw y.cls x y s) (S : xS p m c cc nL s args own) (hM : GM l D E y bytes maxL ret fr lo mc ms (.ref b :: As) Ph Fr1 A1 Post) (h1 : Cond.methodLink own index x ∈ lw_all) (h3 : Cond.selects y.cls x y ∈ lw_all) (h2 : Cond.instanceMethod y ∈ lw_all) (h4 : Cond.initialized y.cls ∈ lw_all) (h5 : Cond.code y bytes maxL ret ∈ lw_all)
    (hd : x.cls ≠ "java/lang/invoke/MethodHandle" ∧ x.cls ≠ "java/lang/invoke/VarHandle" ∧ (parseMethodDescriptor x.desc).map (fun d => d.parameters.length) = some n) (hR : fr + 1 ≤ R.frames ∧ 8 + (maxL + 11) + lo ≤ R.locals) (hG : gE D E s H) (hc : vwCl[ci]? = some (y.cls, T, N)) (hrecv : ∃ cellB : Cell, H[b]? = some cellB ∧ cellB.vm.isStatics = false ∧ s.vm.findClass y.cls = some cellB.cls) (hPh : Ph H)
    (hn : As.length = n) (hsize : ls.size = nL) (hstack : st0 = As.reverse ++ .ref b :: rest) (hW : (rest.map fun v => v.category).sum ≤ 8) (hdg : decode cc pc = .ok (.invokeinterface index count, 5)) (hf : cells + mc ≤ R.cells ∧ slots + ms ≤ R.slots)
    (hS : xK Fr A s.heap H locs) (hA : ∀ q, A1 q → fN A s.heap.size q) (hF : ∀ q, Fr1 q → fN Fr s.heap.size q)
    (kk : ∀ (v : Option Value) (H1 : Heap) (locs1 : List Loc), Post H.size v H1 → H.size ≤ H1.size → (∀ q : Nat, q < H.size → ¬ A1 q → H1[q]? = H[q]?) → xK Fr A s.heap H1 locs1 → W p l e R s m args below meth c H1 locs1 (cells + mc) (slots + ms) Q (F0 m (pc + 5) ls (v.toList ++ rest))) : W p l e R s m args below meth c H locs cells slots Q (F0 m pc ls st0) := by
  have hK := (hG.1.1 ci _ hc).2
  refine gc_run5 (rest := rest) (a := (Value.ref b :: As).toArray) (va_runF (As := As) (rest := rest) (C := y.cls) (cC := D.1 ci) hK S (hM H.size) (va_cwF n S.2.2.2.2 (fun w hw => ?_) rfl rfl rfl hFw hd hR) ⟨pG_blind, hrecv, fun U hU hW => ⟨rfl, by rw [hU]; exact hG.warm hW, by rw [hU], by rw [hU]; exact hPh⟩⟩ rfl hn hsize hstack (lv_room hW) hdg hf) hS hA hF kk
  unfold va_wsF at hw
  rcases List.mem_append.mp hw with h | h
  · simp only [List.mem_cons, List.not_mem_nil, or_false] at h
    rcases h with rfl | rfl | rfl | rfl
    · exact lw_self _ h1
    · exact lw_self _ h3
    · exact lw_self _ h2
    · exact lw_self _ h4
  · exact lw_meth h5 w h
/-- the environment, from the start's, at any heap that the walk has come to -/
theorem gE.ofS (h : gE D E s s.heap) (hS : xK Fr A s.heap H locs) (hA : ∀ q, A q → E 0 ≤ q) : gE D E s H :=
  h.kept hS.1 (fun a h1 h2 => hS.2.1 a h1 (fun z => absurd (hA a z) (by omega)))
theorem xK.put {H1 : Heap} {a k : Nat} (h : xK Fr A s.heap H locs) (z : H1.size = H.size) (oq : ∀ q : Nat, q ≠ a → H1[q]? = H[q]?) (hF : fN Fr s.heap.size a) (hA : fN A s.heap.size a) : xK Fr A s.heap H1 (locs ++ [⟨a, k⟩]) := by
  refine ⟨by rw [z]; exact h.1, fun q h1 h2 => ?_, fun q hq => ?_⟩
  · rw [oq q (fun e => ?_)]
    · exact h.2.1 q h1 h2
    · rw [e] at h1 h2
      exact hA.elim h2 (fun z => absurd z (by omega))
  · rcases List.mem_append.mp hq with h1 | h1
    · exact h.2.2 q h1
    · rw [List.mem_singleton.mp h1]
      exact hF
/-- a field is written -/
theorem pf {ci N a k : Nat} {T : u_T} {fs : List Value} {ty0 : Nat → FieldType} {ty : FieldType} {v : Value} {rest : List Value} (hx : p.tables.exec = Jvm.exec) (hb : c.code = cc) (hts : ∀ w ∈ lw_all, w.before args s = true) (hown : s.vm.findClass own = some m.cls) (hG : gE D E s H) (hS0 : xK Fr A s.heap H locs) (hc : vwCl[ci]? = some (C, T, N)) (hin : ∀ w ∈ u_ws C T N, w ∈ lw_all) (hty : ∀ k, k < N → parseFieldDescriptor (T k).2.2.1 = some (ty0 k)) (hnm : ∀ a, a < N → ∀ b, b < N → a ≠ b → (T a).2.1 ≠ (T b).2.1) (hat : va_at D vwCl (a, .inr (ci, fs)) H) (hFr : fN Fr s.heap.size a) (hAa : fN A s.heap.size a) (hk : k < N) (hlink : Cond.fieldLink own index (T k).1 (T k).2.1 (T k).2.2.1 ∈ lw_all) (hfin : (T k).2.2.2 = false) (hd : parseFieldDescriptor (T k).2.2.1 = some ty) (hn : narrow ty v = v) (hfit : fits ty v = true) (hl : k < fs.length)
    (hdg : decode cc pc = .ok (.putfield index, 3)) (kk : ∀ (H1 : Heap) (locs1 : List Loc), va_at D vwCl (a, .inr (ci, fs.set k v)) H1 → H1.size = H.size → (∀ q : Nat, q ≠ a → H1[q]? = H[q]?) → xK Fr A s.heap H1 locs1 → W p l e R s m args below meth c H1 locs1 cells slots Q (F0 m (pc + 3) ls rest)) : W p l e R s m args below meth c H locs cells slots Q (F0 m pc ls (v :: .ref a :: rest)) := by
  have hap := va_apart (own := own) hts hin ty0 hty hnm hG.1 hc
  obtain ⟨r, h1, cell, q1, q2, q3, q4⟩ := hat
  have hr : r = (C, T, N) := Option.some.inj (h1.symm.trans hc)
  subst hr
  obtain ⟨hS, hfc, kC, hkC, hkind⟩ := hG.1.1 ci _ hc
  obtain ⟨cf, kf, fi, f, hi, hsl⟩ := hS k hk
  have hlay := hts _ (hin _ (u_in_lay hk))
  unfold u_lay at hlay
  rw [if_neg (by rw [hfin]; decide)] at hlay
  have hst := (u_facts hfc hkC (u_lays hts hin hk) hi).1
  have h6 := u_store hfc hkC hkind hlay hi hd hn hfit
  refine W.putK hx hb (f := f) ⟨hown, hts _ hlink, ⟨_, _, _, hi⟩, hst⟩ (by rw [q2]; exact h6) q1 q3 (by rw [hsl]; exact k2_hasslot (q4 k hk)) rfl rfl hdg fun H' e1 e2 e3 => ?_
  rw [hsl] at e1 ⊢
  exact kk H' _ ⟨_, hc, t_OB.to (V := updV (vp_V fs) k v) ⟨_, e1, q2, q3, t_set q4 hap hk v⟩ (fun j _ => vp_updV_set hl v j)⟩ e2 e3 (hS0.put e2 e3 hFr hAa)
theorem pfN {host : String} {ci N a k : Nat} {T : u_T} {fs : List Value} {ty0 : Nat → FieldType} {ty : FieldType} {v : Value} {rest : List Value} (hx : p.tables.exec = Jvm.exec) (hb : c.code = cc) (hts : ∀ w ∈ lw_all, w.before args s = true) (hown : s.vm.findClass own = some m.cls) (hG : gE D E s H) (hS0 : xK Fr A s.heap H locs) (hc : vwCl[ci]? = some (C, T, N)) (hin : ∀ w ∈ u_ws C T N, w ∈ lw_all) (hty : ∀ k, k < N → parseFieldDescriptor (T k).2.2.1 = some (ty0 k)) (hnm : ∀ a, a < N → ∀ b, b < N → a ≠ b → (T a).2.1 ≠ (T b).2.1) (hat : va_at D vwCl (a, .inr (ci, fs)) H) (hFr : fN Fr s.heap.size a) (hAa : fN A s.heap.size a) (hk : k < N) (hlink : Cond.fieldLinkNest own index (T k).1 (T k).2.1 (T k).2.2.1 host ∈ lw_tbl) (hfin : (T k).2.2.2 = false) (hd : parseFieldDescriptor (T k).2.2.1 = some ty) (hn : narrow ty v = v) (hfit : fits ty v = true) (hl : k < fs.length)
    (hdg : decode cc pc = .ok (.putfield index, 3)) (kk : ∀ (H1 : Heap) (locs1 : List Loc), va_at D vwCl (a, .inr (ci, fs.set k v)) H1 → H1.size = H.size → (∀ q : Nat, q ≠ a → H1[q]? = H[q]?) → xK Fr A s.heap H1 locs1 → W p l e R s m args below meth c H1 locs1 cells slots Q (F0 m (pc + 3) ls rest)) : W p l e R s m args below meth c H locs cells slots Q (F0 m pc ls (v :: .ref a :: rest)) := by
  have hap := va_apart (own := own) hts hin ty0 hty hnm hG.1 hc
  obtain ⟨r, h1, cell, q1, q2, q3, q4⟩ := hat
  have hr : r = (C, T, N) := Option.some.inj (h1.symm.trans hc)
  subst hr
  obtain ⟨hS, hfc, kC, hkC, hkind⟩ := hG.1.1 ci _ hc
  obtain ⟨cf, kf, fi, f, hi, hsl⟩ := hS k hk
  have hlay := hts _ (hin _ (u_in_lay hk))
  unfold u_lay at hlay
  rw [if_neg (by rw [hfin]; decide)] at hlay
  have hst := (u_facts hfc hkC (u_lays hts hin hk) hi).1
  have h6 := u_store hfc hkC hkind hlay hi hd hn hfit
  refine va_WputK hx hb (f := f) hown (va_Nw.use rfl (hG.2.1.1 _ hlink rfl)) hi hst (by rw [q2]; exact h6) q1 q3 (by rw [hsl]; exact k2_hasslot (q4 k hk)) rfl rfl hdg fun H' e1 e2 e3 => ?_
  rw [hsl] at e1 ⊢
  exact kk H' _ ⟨_, hc, t_OB.to (V := updV (vp_V fs) k v) ⟨_, e1, q2, q3, t_set q4 hap hk v⟩ (fun j _ => vp_updV_set hl v j)⟩ e2 e3 (hS0.put e2 e3 hFr hAa)
/-- a final field, in its class's constructor -/
theorem pfF {ci N a k : Nat} {T : u_T} {fs : List Value} {ty0 : Nat → FieldType} {ty : FieldType} {v : Value} {rest : List Value} (hx : p.tables.exec = Jvm.exec) (hb : c.code = cc) (hts : ∀ w ∈ lw_all, w.before args s = true) (hown : s.vm.findClass own = some m.cls) (hG : gE D E s H) (hS0 : xK Fr A s.heap H locs) (hc : vwCl[ci]? = some (C, T, N)) (hin : ∀ w ∈ u_ws C T N, w ∈ lw_all) (hty : ∀ k, k < N → parseFieldDescriptor (T k).2.2.1 = some (ty0 k)) (hnm : ∀ a, a < N → ∀ b, b < N → a ≠ b → (T a).2.1 ≠ (T b).2.1) (hat : va_at D vwCl (a, .inr (ci, fs)) H) (hFr : fN Fr s.heap.size a) (hAa : fN A s.heap.size a) (hk : k < N) (hlink : Cond.fieldLink own index (T k).1 (T k).2.1 (T k).2.2.1 ∈ lw_all) (hfin : (T k).2.2.2 = true) (hin2 : meth.name = "<init>") (hdecl : (T k).1 = own) (hd : parseFieldDescriptor (T k).2.2.1 = some ty) (hn : narrow ty v = v) (hfit : fits ty v = true) (hl : k < fs.length)
    (hdg : decode cc pc = .ok (.putfield index, 3)) (kk : ∀ (H1 : Heap) (locs1 : List Loc), va_at D vwCl (a, .inr (ci, fs.set k v)) H1 → H1.size = H.size → (∀ q : Nat, q ≠ a → H1[q]? = H[q]?) → xK Fr A s.heap H1 locs1 → W p l e R s m args below meth c H1 locs1 cells slots Q (F0 m (pc + 3) ls rest)) : W p l e R s m args below meth c H locs cells slots Q (F0 m pc ls (v :: .ref a :: rest)) := by
  have hap := va_apart (own := own) hts hin ty0 hty hnm hG.1 hc
  obtain ⟨r, h1, cell, q1, q2, q3, q4⟩ := hat
  have hr : r = (C, T, N) := Option.some.inj (h1.symm.trans hc)
  subst hr
  obtain ⟨hS, hfc, kC, hkC, hkind⟩ := hG.1.1 ci _ hc
  obtain ⟨cf, kf, fi, f, hi, hsl⟩ := hS k hk
  have hlay := hts _ (hin _ (u_in_lay hk))
  unfold u_lay at hlay
  rw [if_pos hfin] at hlay
  have hst := (u_facts hfc hkC (u_lays hts hin hk) hi).1
  have hcf : m.cls = cf := by
    obtain ⟨_, _, c', _, _, _, -, -, hf', -, -, -, hown2, -⟩ := Cond.laysFinal_spec hlay
    have e1 : c' = cf := by have := hi.symm.trans hf'; simp at this; exact this.1.symm
    rw [hdecl] at hown2
    rw [← e1]; exact Option.some.inj (hown.symm.trans hown2)
  have h6 := u_fits hfc hkC hkind (Or.inr hlay) hi hd hn hfit
  refine W.putFinK hx hb hown (hts _ hlink) hi hst hcf hin2 (by rw [q2]; exact h6) q1 q3 (by rw [hsl]; exact k2_hasslot (q4 k hk)) rfl rfl hdg fun H' e1 e2 e3 => ?_
  rw [hsl] at e1 ⊢
  exact kk H' _ ⟨_, hc, t_OB.to (V := updV (vp_V fs) k v) ⟨_, e1, q2, q3, t_set q4 hap hk v⟩ (fun j _ => vp_updV_set hl v j)⟩ e2 e3 (hS0.put e2 e3 hFr hAa)
theorem xK.push {H1 : Heap} (h : xK Fr A s.heap H locs) (z : H1.size = H.size + 1) (oq : ∀ q : Nat, q < H.size → H1[q]? = H[q]?) : xK Fr A s.heap H1 locs :=
  ⟨Nat.le_trans h.1 (by omega), fun x h1 h2 => (oq x (Nat.lt_of_lt_of_le h1 h.1)).trans (h.2.1 x h1 h2), h.2.2⟩
/-- a new object -/
theorem nw {ci N : Nat} {T : u_T} {fs : List Value} {ty : Nat → FieldType} {rest : List Value} (hx : p.tables.exec = Jvm.exec) (hb : c.code = cc) (hts : ∀ w ∈ lw_all, w.before args s = true) (hown : s.vm.findClass own = some m.cls) (hG : gE D E s H) (hS : xK Fr A s.heap H locs) (hc : vwCl[ci]? = some (C, T, N)) (hin : ∀ w ∈ u_ws C T N, w ∈ lw_all) (hty : ∀ k, k < N → parseFieldDescriptor (T k).2.2.1 = some (ty k)) (hcl : Cond.classLink own index C ∈ lw_all) (hinst : Cond.instantiable C N ∈ lw_all) (hini : Cond.initialized C ∈ lw_all) (hfs : ∀ j, j < N → defaultValue (ty j) = vp_V fs j) (hf : cells + 1 ≤ R.cells ∧ slots + N ≤ R.slots) (hdg : decode cc pc = .ok (.new index, 3))
    (kk : ∀ (q : Nat) (H1 : Heap), q = H.size → va_at D vwCl (q, .inr (ci, fs)) H1 → H1.size = H.size + 1 → (∀ x : Nat, x < H.size → H1[x]? = H[x]?) → xK Fr A s.heap H1 locs → W p l e R s m args below meth c H1 locs (cells + 1) (slots + N) Q (F0 m (pc + 3) ls (.ref q :: rest))) : W p l e R s m args below meth c H locs cells slots Q (F0 m pc ls rest) := by
  have hKn := hG.1.1 ci _ hc
  refine W.newcK hx hb hown (hts _ hcl) (hts _ hinst) (hts _ hini) rfl hdg hf.1 hf.2 hKn.2.1 rfl fun H1 kC hkC e1 z1 o1 => ?_
  exact kk H.size H1 rfl ⟨_, hc, (u_born ty hts hin hKn hkC e1 hty).to hfs⟩ z1 o1 (hS.push z1 o1)
theorem nwZ {ty : FieldType} {t cA : Nat} {N : Nat} {z : vp_A} {rest : List Value} {atype : ArrayType} (hx : p.tables.exec = Jvm.exec) (hb : c.code = cc) (hts : ∀ w ∈ lw_all, w.before args s = true) (hG : gE D E s H) (hS : xK Fr A s.heap H locs) (harr : Cond.arrayClass (newarray.typeOf atype) ∈ lw_all) (hty : newarray.typeOf atype = ty) (ht : (tysG E)[t]? = some (cA, ty)) (hp : match ty with | .object _ => False | _ => True) (hz : ∀ cA : ClassId, vp_cell cA z = arrV cA N (fun _ => defaultValue ty)) (hN : N < 2 ^ 31) (hby : N * componentBytes ty ≤ 536870912) (hf : cells + 1 ≤ R.cells ∧ slots + N ≤ R.slots) (hdg : decode cc pc = .ok (.newarray atype, 2))
    (kk : ∀ (q : Nat) (H1 : Heap), q = H.size → va_at D vwCl (q, .inl (cA, z)) H1 → H1.size = H.size + 1 → (∀ x : Nat, x < H.size → H1[x]? = H[x]?) → xK Fr A s.heap H1 locs → W p l e R s m args below meth c H1 locs (cells + 1) (slots + N) Q (F0 m (pc + 2) ls (.ref q :: rest))) : W p l e R s m args below meth c H locs cells slots Q (F0 m pc ls (.int (nI N) :: rest)) := by
  subst hty
  refine va_newaK hx hb (hts _ harr) rfl hdg rfl (nI_pos hN) (nI_clamp hN) hby hf.1 hf.2 rfl fun H1 cB e1 z1 o1 hAr hNm => ?_
  have h2 := (hG.1.2 t _ ht).2
  have e : cB = cA := by
    cases atype <;> exact Option.some.inj (hNm.symm.trans h2)
  subst e
  refine kk H.size H1 rfl ?_ z1 o1 (hS.push z1 o1)
  show H1[H.size]? = some (vp_cell _ _)
  rw [hz]
  exact e1
end GCALL
section GRET
variable {p : Program} {l : Launch} {e : Env} {R : Room} {s : State} {m : MethodId} {args : Array Value} {below : List Frame} {meth : Method} {c : Code} {H : Heap} {locs : List Loc} {mc ms cells slots : Nat}
variable {pc : Nat} {ls : Array Slot} {cc : ByteArray} {x : Int32} {Fr A : Nat → Prop} {Post : Option Value → Heap → Prop}
theorem xK.F {t : State} (hS : xK Fr A s.heap H locs) (ht : t.heap = H) : va_F A s t := ⟨by rw [ht]; exact hS.1, fun q h1 h2 => by rw [ht]; exact hS.2.1 q h1 h2⟩
theorem g_iret (hx : p.tables.exec = Jvm.exec) (hb : c.code = cc) (hr : meth.sig.returnType = some .int) (hlocks : meth.locks = false) (hS : xK Fr A s.heap H locs) (hc : cells ≤ mc ∧ slots ≤ ms) (hdg : decode cc pc = .ok (.ireturn, 1)) (h : Post (some (.int x)) H) : W p l e R s m args below meth c H locs cells slots (MQ below (qG A Post) args s mc ms (fN Fr s.heap.size)) (F0 m pc ls [.int x]) :=
  W.widen hc.1 hc.2 (W.iret hx hb hr (fun t ht _ => ⟨⟨_, rfl, by rw [ht]; exact h⟩, hS.F ht⟩) hS.2.2 hdg)
theorem g_zret (hx : p.tables.exec = Jvm.exec) (hb : c.code = cc) (hr : meth.sig.returnType = some .boolean) (hlocks : meth.locks = false) (hS : xK Fr A s.heap H locs) (hc : cells ≤ mc ∧ slots ≤ ms) (hdg : decode cc pc = .ok (.ireturn, 1)) {b : Bool} (hxb : x = bI b) (h : Post (some (.int (bI b))) H) : W p l e R s m args below meth c H locs cells slots (MQ below (qG A Post) args s mc ms (fN Fr s.heap.size)) (F0 m pc ls [.int x]) := by
  subst hxb
  exact W.widen hc.1 hc.2 (W.zret hx hb hr (by cases b <;> rfl) (fun t ht _ => ⟨⟨_, rfl, by rw [ht]; exact h⟩, hS.F ht⟩) hS.2.2 hdg)
theorem g_lret (hx : p.tables.exec = Jvm.exec) (hb : c.code = cc) (hr : meth.sig.returnType = some .long) (hlocks : meth.locks = false) (hS : xK Fr A s.heap H locs) (hc : cells ≤ mc ∧ slots ≤ ms) {x : Int64} (hdg : decode cc pc = .ok (.lreturn, 1)) (h : Post (some (.long x)) H) : W p l e R s m args below meth c H locs cells slots (MQ below (qG A Post) args s mc ms (fN Fr s.heap.size)) (F0 m pc ls [.long x]) :=
  W.widen hc.1 hc.2 (W.lret hx hb hr (fun t ht _ => ⟨⟨_, rfl, by rw [ht]; exact h⟩, hS.F ht⟩) hS.2.2 hdg)
theorem g_vret (hx : p.tables.exec = Jvm.exec) (hb : c.code = cc) (hr : meth.sig.returnType = none) (hlocks : meth.locks = false) (hS : xK Fr A s.heap H locs) (hc : cells ≤ mc ∧ slots ≤ ms) (hdg : decode cc pc = .ok (.return_, 1)) (h : Post none H) : W p l e R s m args below meth c H locs cells slots (MQ below (qG A Post) args s mc ms (fN Fr s.heap.size)) (F0 m pc ls []) :=
  W.widen hc.1 hc.2 (W.vret hx hb hr (fun t ht _ => ⟨⟨_, rfl, by rw [ht]; exact h⟩, hS.F ht⟩) hS.2.2 hdg)
theorem g_aret {a : Nat} {rt : FieldType} (hx : p.tables.exec = Jvm.exec) (hb : c.code = cc) (hr : meth.sig.returnType = some rt) (hrt : (∃ n, rt = .object n) ∨ ∃ t, rt = .array t) (hlocks : meth.locks = false) (hS : xK Fr A s.heap H locs) (hc : cells ≤ mc ∧ slots ≤ ms) (hdg : decode cc pc = .ok (.areturn, 1)) (h : Post (some (.ref a)) H) : W p l e R s m args below meth c H locs cells slots (MQ below (qG A Post) args s mc ms (fN Fr s.heap.size)) (F0 m pc ls [.ref a]) :=
  W.widen hc.1 hc.2 (W.aret hx hb hr hrt (Or.inr ⟨a, rfl⟩) (fun t ht _ => ⟨⟨_, rfl, by rw [ht]; exact h⟩, hS.F ht⟩) hS.2.2 hdg)
end GRET
