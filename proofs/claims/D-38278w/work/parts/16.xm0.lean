/-! CONTRACTS OF METHODS THAT RETURN OR THROW -/
set_option maxRecDepth 100000
def qX (A : Nat → Prop) (PX : String → Heap → Prop) : String → State → State → Prop := fun E st t => PX E t.heap ∧ va_F A st t
def XM (l : Launch) (D : va_G) (E : Nat → Nat) (y : MethodName) (cc : ByteArray) (maxL : Nat) (ret : Option FieldType) (fr lo mc ms : Nat) (av : List Value) (Ph : Heap → Prop) (Fr A : Nat → Prop) (Post : Nat → Option Value → Heap → Prop) (PX : Nat → String → Heap → Prop) : Prop :=
  ∀ sz : Nat, vx_Met l y (ws_ y cc maxL ret) { frames := fr, cells := mc, slots := ms, locals := lo } (pG D E av Ph sz) (qG A (Post sz)) (qX A (PX sz)) mc ms (fN Fr sz)
theorem XM.start {l : Launch} {D : va_G} {E : Nat → Nat} {y : MethodName} {cc : ByteArray} {maxL : Nat} {ret : Option FieldType} {fr lo mc ms : Nat} {av : List Value} {Ph : Heap → Prop} {Fr A : Nat → Prop} {Post : Nat → Option Value → Heap → Prop} {PX : Nat → String → Heap → Prop} (hy : plainName y.cls = true) (hlen : (lg_sl av).length ≤ maxL)
    (body : ∀ (p : Program) (e : Env) (s : State) (m : MethodId) (below : List Frame) (meth : Method) (c : Code) (ls : Array Slot), p.tables.exec = Jvm.exec → c.code = cc → meth.sig.returnType = ret → c.maxLocals = maxL → s.vm.findClass y.cls = some m.cls → meth.locks = false → (∀ x ∈ c.exceptionTable.toList, False) → (∀ w ∈ lw_all, w.before av.toArray s = true) → gE D E s s.heap → Ph s.heap → xK Fr A s.heap s.heap [] → lv_has ls maxL (lv_args 0 av) →
      W p l e { frames := fr, cells := mc, slots := ms, locals := lo } s m av.toArray below meth c s.heap [] 0 0 (vx_MQ below (qG A (Post s.heap.size)) (qX A (PX s.heap.size)) av.toArray s mc ms (fN Fr s.heap.size)) (F0 m 0 ls [])) : XM l D E y cc maxL ret fr lo mc ms av Ph Fr A Post PX := by
  intro sz
  refine vx_ofW (cc := cc) (maxL := maxL) (ret := ret) hy rfl ?_
  intro p e s m args below meth c s₁ B hml hex hv
  obtain ⟨rfl, hG, hsz, hP⟩ := hv
  have hts := atoms_spec (ws := ws_ y cc maxL ret) B.pre
  have hts : ∀ w ∈ lw_all, w.before _ s = true := fun w h => hts w (List.mem_cons_of_mem _ h)
  have hl := lv_entry av (n := maxL) hlen
  rw [lg_entry_eq]
  subst hsz
  exact body p e s m below meth c _ B.exec B.bytes B.returns hml (findClass_of_methodNamed B.named) B.notSynchronized hex hts hG hP ⟨Nat.le_refl _, fun _ _ _ => rfl, fun _ h => by cases h⟩ hl
/-- words of the tables, good or of those that ride in the environment -/
theorem xat {E : Nat → Nat} {s : State} {args : Array Value} (ws : List Cond) (ps : List Nat) (hp : ws = ps.filterMap (fun i => lw_tbl[i]?)) (hg : ws.all (fun w => goodWord w || okW w) = true) (hts : ∀ w ∈ lw_all, w.before args s = true) (hW : gWd E s) : ∀ w ∈ ws, w.before args s = true := by
  intro w hw
  have h1 : w ∈ lw_tbl := by
    rw [hp] at hw
    obtain ⟨i, -, hi⟩ := List.mem_filterMap.mp hw
    exact List.mem_of_getElem? hi
  have h2 := List.all_eq_true.mp hg w hw
  rw [Bool.or_eq_true] at h2
  rcases h2 with h2 | h2
  · exact hts w (lw_g h1 h2)
  · have h3 := hW.1 w h1 h2
    cases w <;> first | (exact va_Nw.use rfl h3) | (cases h2)
section XCALL
variable {p : Program} {l : Launch} {e : Env} {R : Room} {s : State} {m : MethodId} {args : Array Value} {below : List Frame} {meth : Method} {c : Code} {H : Heap} {locs : List Loc} {cells slots mc ms : Nat} {Q : State → Prop}
variable {pc : Nat} {ls : Array Slot} {rest st0 As : List Value} {D : va_G} {E : Nat → Nat} {Ph : Heap → Prop} {Fr A Fr1 A1 : Nat → Prop} {x y : MethodName} {cc bytes : ByteArray} {maxL nL n fr lo index b count : Nat} {ret : Option FieldType} {own C : String}
theorem xc_run {Post : Option Value → Heap → Prop} {PX : String → Heap → Prop} {a : Array Value} (hr : vx_Run p l e R s m args below meth c H locs cells slots mc ms (F0 m pc ls st0) rest (qG A1 Post a) (qX A1 PX) (fN Fr1 H.size)) (hS : xK Fr A s.heap H locs) (hA : ∀ q, A1 q → fN A s.heap.size q) (hF : ∀ q, Fr1 q → fN Fr s.heap.size q)
    (kx : ∀ (X : String) (ce : Cell) (q9 : Addr) (H1 : Heap) (locs1 : List Loc), PX X H1 → H.size ≤ H1.size → (∀ q : Nat, q < H.size → ¬ A1 q → H1[q]? = H[q]?) → xK Fr A s.heap H1 locs1 → H1[q9]? = some ce → ce.vm = .none → s.vm.findClass X = some ce.cls → vx_W p l e R s m args below meth c H1 locs1 (cells + mc) (slots + ms) Q (F0 m pc ls rest) q9)
    (kk : ∀ (v : Option Value) (H1 : Heap) (locs1 : List Loc), Post v H1 → H.size ≤ H1.size → (∀ q : Nat, q < H.size → ¬ A1 q → H1[q]? = H[q]?) → xK Fr A s.heap H1 locs1 → W p l e R s m args below meth c H1 locs1 (cells + mc) (slots + ms) Q (F0 m (pc + 3) ls (v.toList ++ rest))) : W p l e R s m args below meth c H locs cells slots Q (F0 m pc ls st0) := by
  have hk : ∀ {H1 : Heap} {L : List Loc}, H.size ≤ H1.size → (∀ q : Nat, q < H.size → ¬ A1 q → H1[q]? = H[q]?) → (∀ q ∈ L, fN Fr1 H.size q.base) → xK Fr A s.heap H1 (locs ++ L) := by
    intro H1 L hz hk hL
    exact ⟨Nat.le_trans hS.1 hz, fun q h1 h2 => by
      rw [hk q (Nat.lt_of_lt_of_le h1 hS.1) (fun z => (hA q z).elim h2 (fun z2 => absurd z2 (by omega)))]; exact hS.2.1 q h1 h2, fun q hq => by
      rcases List.mem_append.mp hq with h | h
      · exact hS.2.2 q h
      · rcases hL q h with h | h
        · exact hF _ h
        · exact Or.inr (Nat.le_trans hS.1 h)⟩
  intro T hT X
  rcases hr T hT X with ⟨v', st₀, t, T', L, h0, X', hL, e1, e2, ⟨⟨v, hv, hp⟩, hz, hkk⟩, st⟩ | ⟨q9, st₀, t, T', L, E9, ce, h0, X', hL, e1, e2, ⟨hp, hz, hkk⟩, hce, hcv, hcl, st⟩
  · cases hv
    rw [h0] at hz hkk
    obtain ⟨t2, a1, b1⟩ := kk _ t.heap (locs ++ L) hp hz hkk (hk hz hkk hL) T' e1 X'
    exact ⟨t2, st t2 a1, b1⟩
  · rw [h0] at hz hkk
    obtain ⟨t2, a1, b1⟩ := kx E9 ce q9 t.heap (locs ++ L) hp hz hkk (hk hz hkk hL) hce hcv hcl T' e1 X'
    exact ⟨t2, st.trans a1, b1⟩
theorem xcV {Post : Nat → Option Value → Heap → Prop} {PX : Nat → String → Heap → Prop} (S : xS p m c cc nL s args own) (hM : XM l D E y bytes maxL ret fr lo mc ms (.ref b :: As) Ph Fr1 A1 Post PX) (h1 : Cond.methodLink own index y ∈ lw_all) (h2 : Cond.instanceMethod y ∈ lw_all) (h3 : Cond.selects y.cls y y ∈ lw_all) (h4 : Cond.initialized y.cls ∈ lw_all) (h5 : Cond.code y bytes maxL ret ∈ lw_all)
    (hd : y.cls ≠ "java/lang/invoke/MethodHandle" ∧ y.cls ≠ "java/lang/invoke/VarHandle" ∧ (parseMethodDescriptor y.desc).map (fun d => d.parameters.length) = some n) (hR : fr + 1 ≤ R.frames ∧ 8 + (maxL + 11) + lo ≤ R.locals) (hG : gE D E s H) (hrecv : ∃ cellB : Cell, H[b]? = some cellB ∧ cellB.vm.isStatics = false ∧ s.vm.findClass y.cls = some cellB.cls) (hPh : Ph H)
    (hn : As.length = n) (hsize : ls.size = nL) (hstack : st0 = As.reverse ++ .ref b :: rest) (hW : (rest.map fun v => v.category).sum ≤ 8) (hdg : decode cc pc = .ok (.invokevirtual index, 3)) (hf : cells + mc ≤ R.cells ∧ slots + ms ≤ R.slots)
    (hS : xK Fr A s.heap H locs) (hA : ∀ q, A1 q → fN A s.heap.size q) (hF : ∀ q, Fr1 q → fN Fr s.heap.size q)
    (kx : ∀ (X : String) (ce : Cell) (q9 : Addr) (H1 : Heap) (locs1 : List Loc), PX H.size X H1 → H.size ≤ H1.size → (∀ q : Nat, q < H.size → ¬ A1 q → H1[q]? = H[q]?) → xK Fr A s.heap H1 locs1 → H1[q9]? = some ce → ce.vm = .none → s.vm.findClass X = some ce.cls → vx_W p l e R s m args below meth c H1 locs1 (cells + mc) (slots + ms) Q (F0 m pc ls rest) q9)
    (kk : ∀ (v : Option Value) (H1 : Heap) (locs1 : List Loc), Post H.size v H1 → H.size ≤ H1.size → (∀ q : Nat, q < H.size → ¬ A1 q → H1[q]? = H[q]?) → xK Fr A s.heap H1 locs1 → W p l e R s m args below meth c H1 locs1 (cells + mc) (slots + ms) Q (F0 m (pc + 3) ls (v.toList ++ rest))) : W p l e R s m args below meth c H locs cells slots Q (F0 m pc ls st0) :=
  xc_run (rest := rest) (a := (Value.ref b :: As).toArray) (vx_runV (As := As) (rest := rest) S (hM H.size) (cwV n S.2.2.2.2 (lw_V h1 h2 h3 h4 h5) rfl rfl rfl ⟨rfl, hd⟩ hR) ⟨pG_blind, hrecv, fun U hU hW => ⟨rfl, by rw [hU]; exact hG.warm hW, by rw [hU], by rw [hU]; exact hPh⟩⟩ rfl hn hsize hstack (lv_room hW) hdg hf) hS hA hF kx kk
theorem xcS {Post : Nat → Option Value → Heap → Prop} {PX : Nat → String → Heap → Prop} (S : xS p m c cc nL s args own) (hM : XM l D E y bytes maxL ret fr lo mc ms As Ph Fr1 A1 Post PX) (h1 : Cond.methodLink own index y ∈ lw_all) (h2 : Cond.static y ∈ lw_all) (h4 : Cond.initialized y.cls ∈ lw_all) (h5 : Cond.code y bytes maxL ret ∈ lw_all)
    (hd : y.cls ≠ "java/lang/invoke/MethodHandle" ∧ y.cls ≠ "java/lang/invoke/VarHandle" ∧ (parseMethodDescriptor y.desc).map (fun d => d.parameters.length) = some n) (hR : fr + 1 ≤ R.frames ∧ 8 + (maxL + 11) + lo ≤ R.locals) (hG : gE D E s H) (hPh : Ph H)
    (hn : As.length = n) (hsize : ls.size = nL) (hstack : st0 = As.reverse ++ rest) (hW : (rest.map fun v => v.category).sum ≤ 8) (hdg : decode cc pc = .ok (.invokestatic index, 3)) (hf : cells + mc ≤ R.cells ∧ slots + ms ≤ R.slots)
    (hS : xK Fr A s.heap H locs) (hA : ∀ q, A1 q → fN A s.heap.size q) (hF : ∀ q, Fr1 q → fN Fr s.heap.size q)
    (kx : ∀ (X : String) (ce : Cell) (q9 : Addr) (H1 : Heap) (locs1 : List Loc), PX H.size X H1 → H.size ≤ H1.size → (∀ q : Nat, q < H.size → ¬ A1 q → H1[q]? = H[q]?) → xK Fr A s.heap H1 locs1 → H1[q9]? = some ce → ce.vm = .none → s.vm.findClass X = some ce.cls → vx_W p l e R s m args below meth c H1 locs1 (cells + mc) (slots + ms) Q (F0 m pc ls rest) q9)
    (kk : ∀ (v : Option Value) (H1 : Heap) (locs1 : List Loc), Post H.size v H1 → H.size ≤ H1.size → (∀ q : Nat, q < H.size → ¬ A1 q → H1[q]? = H[q]?) → xK Fr A s.heap H1 locs1 → W p l e R s m args below meth c H1 locs1 (cells + mc) (slots + ms) Q (F0 m (pc + 3) ls (v.toList ++ rest))) : W p l e R s m args below meth c H locs cells slots Q (F0 m pc ls st0) :=
  xc_run (rest := rest) (a := As.toArray) (vx_runS (As := As) (rest := rest) S (hM H.size) (va_cwS n S.2.2.2.2 (lw_S h1 h2 h4 h5) rfl rfl rfl hd hR) ⟨pG_blind, fun U hU hW => ⟨rfl, by rw [hU]; exact hG.warm hW, by rw [hU], by rw [hU]; exact hPh⟩⟩ rfl hn hsize hstack (lv_room hW) hdg hf) hS hA hF kx kk
/-- it goes on to the caller -/
theorem x_out {Post : Option Value → Heap → Prop} {PX : String → Heap → Prop} {X : String} {ce : Cell} {q : Addr} (hex : ∀ x ∈ c.exceptionTable.toList, False) (hlocks : meth.locks = false) (hcell : H[q]? = some ce) (hv : ce.vm = .none) (hcl : s.vm.findClass X = some ce.cls) (hS : xK Fr A s.heap H locs) (hc : cells ≤ mc ∧ slots ≤ ms) (h : PX X H) :
    vx_W p l e R s m args below meth c H locs cells slots (vx_MQ below (qG A Post) (qX A PX) args s mc ms (fN Fr s.heap.size)) (F0 m pc ls rest) q :=
  vx_out (fun x hx => (hex x hx).elim) hlocks hcell hv hcl (fun t ht _ => ⟨by rw [ht]; exact h, hS.F ht⟩) hS.2.2 hc.1 hc.2
theorem x_throw {Post : Option Value → Heap → Prop} {PX : String → Heap → Prop} (hexec : p.tables.exec = Jvm.exec) (hb : c.code = cc) (hl : l.stackTraces = false) {cls : String} {names : List String} {ik ic : Nat}
    (hown : s.vm.findClass own = some m.cls) (hcls : Bundle.fit cls = true) (hnames : ∀ n ∈ names, Bundle.fit n = true)
    (hk : Cond.classLink own ik cls ∈ lw_all) (hini : Cond.initialized cls ∈ lw_all) (hts : ∀ w ∈ lw_all, w.before args s = true) (ps : List Nat) (hp : vx_at0 own ic cls names = ps.filterMap (fun i => lw_tbl[i]?)) (hg : (vx_at0 own ic cls names).all (fun w => goodWord w || okW w) = true)
    (hgood : (Cond.classLink own ik cls :: Cond.initialized cls :: vx_at0 own ic cls names).all vx_ot = true)
    (hG0 : gE D E s s.heap) (hFE : ∀ q, Fr q → E 0 ≤ q) (hAE : ∀ q, A q → E 0 ≤ q) (hS : xK Fr A s.heap H locs) (hsize : ls.size = c.maxLocals)
    (d0 : decode cc pc = .ok (.new ik, 3)) (d3 : decode cc (pc + 3) = .ok (.dup, 1)) (d4 : decode cc (pc + 4) = .ok (.invokespecial ic, 3)) (d7 : decode cc (pc + 7) = .ok (.athrow, 1))
    (hex : ∀ x ∈ c.exceptionTable.toList, False)
    (hR : names.length + 3 < R.frames ∧ (rest.map fun v => v.category).sum + (13 * (names.length + 1) + 42) ≤ R.locals ∧ cells + 1 ≤ R.cells ∧ slots + 6 ≤ R.slots) (hlocks : meth.locks = false)
    (hx : ∀ H1 : Heap, H.size ≤ H1.size → (∀ q : Nat, q < H.size → H1[q]? = H[q]?) → PX cls H1) (hc : cells + 1 ≤ mc ∧ slots + 6 ≤ ms) :
    W p l e R s m args below meth c H locs cells slots (vx_MQ below (qG A Post) (qX A PX) args s mc ms (fN Fr s.heap.size)) (F0 m pc ls rest) := by
  refine vx_throw0 (A := gA E) hexec hb hl hown hcls hnames (hts _ hk) (hts _ hini) (xat _ ps hp hg hts hG0.2.1) (fun w hw => List.all_eq_true.mp hgood w hw) hG0.2.2.2.2.2.2.2.2.2.2.2.2.2.2.2.2.2.2.2.1 hG0.2.2.2.2.2.2.2.2.2.2.2.2.2.2.2.2.2.2.2.2 ⟨hS.1, fun q h1 h2 => hS.2.1 q h1 (fun z => h2 (hAE q z)), fun z hz => (hS.2.2 z hz).elim (fun h => hFE _ h) (fun h => Nat.le_trans hG0.2.2.1 h)⟩ hsize d0 d3 d4 d7 (fun x hx => (hex x hx).elim) hR.1 hR.2.1 hR.2.2.1 hR.2.2.2 hlocks ?_ hS.2.2 hc.1 hc.2
  intro t hvm h1 h2
  exact ⟨hx _ h1 h2, Nat.le_trans hS.1 h1, fun q h3 h4 => by rw [h2 q (Nat.lt_of_lt_of_le h3 hS.1)]; exact hS.2.1 q h3 h4⟩
end XCALL
