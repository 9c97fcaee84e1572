/-! BASE: the world's environment (classes, words, statics), contracts of methods that change nothing, their calls -/
set_option maxRecDepth 100000
def bI (b : Bool) : Int32 := if b = true then 1 else 0
theorem bI_t : bI true = 1 := rfl
theorem bI_f : bI false = 0 := rfl
def vwCl : List vw_C := [(RX1, TX1, 6), (RX2, TX2, 2), (RX3, TX3, 4), (RX4, TX4, 13), (RX5, TX5, 2), (RX6, TX6, 7), (RX7, TX7, 7), (RX8, TX8, 2), (RX10, TX10, 12), (RX11, TX11, 12), (RX12, TX12, 9), (RX13, TX13, 3), (RX14, TX14, 1), (RJ2, TJ2, 3), (RJ17, TJ17, 1), (RJ19, TJ19, 4), (RJ20, TJ20, 1), (RJ22, TJ22, 4), (RJ11, TJ11, 4)]
def gA (E : Nat → Nat) : Nat → Prop := fun q => E 0 ≤ q
def tysG (E : Nat → Nat) : List (ClassId × FieldType) := [(E 1, .int), (E 2, .boolean), (E 3, .object "java/lang/Object"), (E 4, .byte)]
def okW : Cond → Bool
  | .castable _ _ => true
  | .fieldLinkNest _ _ _ _ _ _ => true
  | .methodLinkNest _ _ _ _ => true
  | .declares _ => true
  | _ => false
def xL_size : MethodName := ⟨"java/util/List", "size", "()I"⟩
def xL_get : MethodName := ⟨"java/util/List", "get", "(I)Ljava/lang/Object;"⟩
def xL_add : MethodName := ⟨"java/util/List", "add", "(Ljava/lang/Object;)Z"⟩
def xL_set : MethodName := ⟨"java/util/List", "set", "(ILjava/lang/Object;)Ljava/lang/Object;"⟩
def xI_hasNext : MethodName := ⟨"java/util/Iterator", "hasNext", "()Z"⟩
def xI_next : MethodName := ⟨"java/util/Iterator", "next", "()Ljava/lang/Object;"⟩
/-- the texts: their bytes; where the classes name them -/
def txB : List (List Int32) := [[45], [32, 111, 110, 32, 100, 97, 121, 32], [32, 105, 110, 32], [44, 32], [58, 32], [44], [97, 115, 107, 101, 100], [102, 105, 120, 101, 100], [112, 108, 97, 121, 101, 100], [108, 111, 115, 116], [], [32]]
def txL : List Nat := [1, 8, 4, 2, 2, 1, 5, 5, 6, 4, 0, 1]
def txR : List (String × Nat × String × Nat) := [("FirstdanceAgency", 351, "-", 0), ("FirstdanceAgency", 438, " on day ", 1), ("FirstdanceAgency", 443, " in ", 2), ("FirstdanceAgency", 445, ", ", 3), ("FirstdanceAgency", 450, ": ", 4), ("FirstdanceAgency", 452, ",", 5), ("FirstdanceAgency$State", 39, "asked", 6), ("FirstdanceAgency$State", 41, "fixed", 7), ("FirstdanceAgency$State", 43, "played", 8), ("FirstdanceAgency$State", 45, "lost", 9), ("FirstdanceAgencyModel", 323, "", 10), ("FirstdanceAgencyModel", 330, " ", 11), ("FirstdanceAgencyModel", 339, "-", 0), ("FirstdanceAgencyModel", 354, "asked", 6), ("FirstdanceAgencyModel", 356, "fixed", 7), ("FirstdanceAgencyModel", 358, "played", 8), ("FirstdanceAgencyModel", 360, "lost", 9), ("FirstdanceAgencyModel", 362, " on day ", 1), ("FirstdanceAgencyModel", 364, " in ", 2), ("FirstdanceAgencyModel", 366, ", ", 3), ("FirstdanceAgencyModel", 368, ",", 5), ("FirstdanceAgencyModel", 370, ": ", 4)]
/-- words that ride in no list -/
def gWd (E : Nat → Nat) (U : State) : Prop := (∀ w ∈ lw_tbl, okW w = true → va_Nw w U) ∧ va_AO "java/lang/Object" U ∧ va_Fw "java/util/ArrayList" xL_size yJ2_size U ∧ va_Fw "java/util/ArrayList" xL_get yJ2_get U ∧ va_Fw "java/util/ArrayList" xL_add yJ2_add U ∧ va_Fw "java/util/ArrayList" xL_set yJ2_set U ∧ va_Fw "java/util/ArrayList$Itr" xI_hasNext yJ19_hasNext U ∧ va_Fw "java/util/ArrayList$Itr" xI_next yJ19_next U ∧ va_Mi "[Ljava/lang/Object;" (E 90) U ∧ va_Dc U ∧ ∀ x ∈ txR, vk_R x.1 x.2.1 x.2.2.1 (E (20 + x.2.2.2)) U
/-- statics, which nobody writes -/
def gSt (E : Nat → Nat) (U : State) (H : Heap) : Prop :=
  va_En "FirstdanceAgency$State" "LFirstdanceAgency$State;" ["ASKED", "FIXED", "PLAYED", "LOST"] [("java/lang/Enum", "ordinal", "I", [0, 1, 2, 3])] (fun i => E (10 + i)) (gA E) U H ∧
  vb_C (fun k => E (300 + k)) (gA E) U H ∧
  va_Z "java/lang/Integer$IntegerCache" "high" "I" (.int 127) (gA E) U H ∧
  va_Z "java/lang/Integer$IntegerCache" "cache" "[Ljava/lang/Integer;" (.ref (E 5)) (gA E) U H ∧
  va_T (.object "java/lang/Integer") (E 5) 256 (fun k => .ref (E (300 + k))) (gA E) U H ∧
  va_Z "java/util/ArrayList" "DEFAULTCAPACITY_EMPTY_ELEMENTDATA" "[Ljava/lang/Object;" (.ref (E 6)) (gA E) U H ∧
  va_T (.object "java/lang/Object") (E 6) 0 (fun _ => .null) (gA E) U H ∧
  va_Z "java/util/Optional" "EMPTY" "Ljava/util/Optional;" (.ref (E 7)) (gA E) U H ∧
  va_O "java/util/Optional" (E 7) (gA E) U H ∧ va_OF "java/util/Optional" "value" "Ljava/lang/Object;" .null (E 7) (gA E) U H ∧
  va_Z "java/lang/String" "COMPACT_STRINGS" "Z" (.int 1) (gA E) U H ∧
  va_Z "java/lang/Integer" "DigitOnes" "[B" (.ref (E 8)) (gA E) U H ∧ va_T .byte (E 8) 100 (fun k => .int (nI (48 + k % 10))) (gA E) U H ∧
  va_Z "java/lang/Integer" "DigitTens" "[B" (.ref (E 9)) (gA E) U H ∧ va_T .byte (E 9) 100 (fun k => .int (nI (48 + k / 10))) (gA E) U H ∧
  vk_S 12 txL txB (fun i => E (20 + i)) (fun i => E (40 + i)) (gA E) U H ∧
  vx_Zq Bundle.tN "UNASSIGNED_STACK" Bundle.steD (gA E) U H ∧ vx_Zq Bundle.tN "SUPPRESSED_SENTINEL" Bundle.listD (gA E) U H
def gE (D : va_G) (E : Nat → Nat) (U : State) (H : Heap) : Prop := va_K D vwCl (tysG E) U ∧ gWd E U ∧ E 0 ≤ H.size ∧ gSt E U H
theorem gSt.moved {E : Nat → Nat} {u U : State} {H : Heap} (hvm : u.vm.Alike U.vm) (h : gSt E u H) : gSt E U H := by
  obtain ⟨h1, h2, h3, h4, h5, h6, h7, h8, h9, h10, h11, h12, h13, h14, h15, h16, h17, h18⟩ := h
  exact ⟨va_En.moved hvm h1, vb_C.moved hvm h2, va_Z.moved hvm h3, va_Z.moved hvm h4, va_T.moved hvm h5, va_Z.moved hvm h6, va_T.moved hvm h7, va_Z.moved hvm h8, va_O.moved hvm h9, va_OF.moved hvm h10, va_Z.moved hvm h11, va_Z.moved hvm h12, va_T.moved hvm h13, va_Z.moved hvm h14, va_T.moved hvm h15, vk_S.moved hvm h16, vx_Zq.moved hvm h17, vx_Zq.moved hvm h18⟩
theorem gSt.kept {E : Nat → Nat} {U : State} {H H1 : Heap} (h : gSt E U H) (hq : ∀ a : Nat, a < H.size → ¬ gA E a → H1[a]? = H[a]?) : gSt E U H1 := by
  obtain ⟨h1, h2, h3, h4, h5, h6, h7, h8, h9, h10, h11, h12, h13, h14, h15, h16, h17, h18⟩ := h
  exact ⟨h1.kept hq, h2.kept hq, h3.kept hq, h4.kept hq, h5.kept hq, h6.kept hq, h7.kept hq, h8.kept hq, h9.kept hq, h10.kept hq, h11.kept hq, h12.kept hq, h13.kept hq, h14.kept hq, h15.kept hq, h16.kept hq, h17.kept hq, h18.kept hq⟩
theorem gWd.warm {E : Nat → Nat} {s U : State} (hW : s.WarmedH U.vm) (h : gWd E s) : gWd E U := by
  obtain ⟨h1, h2, h3, h4, h5, h6, h7, h8, h9, h10, h11⟩ := h
  refine ⟨fun w hw ho => ?_, h2.moved hW.alike, va_Fw.moved (by decide) hW.alike h3, va_Fw.moved (by decide) hW.alike h4, va_Fw.moved (by decide) hW.alike h5, va_Fw.moved (by decide) hW.alike h6, va_Fw.moved (by decide) hW.alike h7, va_Fw.moved (by decide) hW.alike h8, h9.moved hW.alike, h10.moved hW.alike, fun x hx => (h11 x hx).warm hW⟩
  have hz := h1 w hw ho
  cases w <;> first | (exact va_Nw.warmC hW hz) | (exact va_Nw.warmF hW hz) | (exact va_Nw.warmM hW hz) | (exact va_Nw.warmD hW hz) | (cases ho)
theorem gWd.same {E : Nat → Nat} {u U : State} (hv : u.vm = U.vm) (h : gWd E u) : gWd E U := by
  obtain ⟨h1, h2, h3, h4, h5, h6, h7, h8, h9, h10, h11⟩ := h
  have hA : u.vm.Alike U.vm := by rw [hv]; exact Vm.Alike.refl _
  refine ⟨fun w hw ho => ?_, h2.moved hA, va_Fw.moved (by decide) hA h3, va_Fw.moved (by decide) hA h4, va_Fw.moved (by decide) hA h5, va_Fw.moved (by decide) hA h6, va_Fw.moved (by decide) hA h7, va_Fw.moved (by decide) hA h8, h9.moved hA, h10.moved hA, fun x hx => (h11 x hx).same hv.symm⟩
  have hz := h1 w hw ho
  cases w <;> first | (exact va_Nw.same rfl hv hz) | (cases ho)
theorem gE.warm {D : va_G} {E : Nat → Nat} {s U : State} {H : Heap} (hW : s.WarmedH U.vm) (h : gE D E s H) : gE D E U H := ⟨va_K.moved hW.alike h.1, h.2.1.warm hW, h.2.2.1, gSt.moved hW.alike h.2.2.2⟩
theorem gE.same {D : va_G} {E : Nat → Nat} {u U : State} {H : Heap} (hv : u.vm = U.vm) (h : gE D E u H) : gE D E U H := by
  have hA : u.vm.Alike U.vm := by rw [hv]; exact Vm.Alike.refl _
  exact ⟨va_K.moved hA h.1, h.2.1.same hv, h.2.2.1, gSt.moved hA h.2.2.2⟩
theorem gE.kept {D : va_G} {E : Nat → Nat} {U : State} {H H1 : Heap} (h : gE D E U H) (hz : H.size ≤ H1.size) (hq : ∀ a : Nat, a < H.size → a < E 0 → H1[a]? = H[a]?) : gE D E U H1 :=
  ⟨h.1, h.2.1, Nat.le_trans h.2.2.1 hz, h.2.2.2.kept fun a h1 h2 => hq a h1 (Nat.not_le.mp h2)⟩
theorem at1 {D : va_G} {cl : List vw_C} {q : Nat × va_E} {H : Heap} (h : va_at D cl q H) : va_P D cl [q] H := by
  intro k x hk
  match k, hk with
  | 0, hk => cases hk; exact h
  | k + 1, hk => simp at hk
/-- a method that changes nothing: its answer -/
def qP (v : Option Value) : Array Value → State → Outcome → State → Prop := fun _ st o t => o = .returned v ∧ t.heap = st.heap
def pP (D : va_G) (E : Nat → Nat) (av : List Value) (Ph : Heap → Prop) : Array Value → State → Prop := fun a U => a = av.toArray ∧ gE D E U U.heap ∧ Ph U.heap
def PM (l : Launch) (D : va_G) (E : Nat → Nat) (y : MethodName) (cc : ByteArray) (maxL : Nat) (ret : Option FieldType) (fr lo : Nat) (av : List Value) (Ph : Heap → Prop) (v : Option Value) : Prop :=
  Met l y (ws_ y cc maxL ret) { frames := fr, cells := 0, slots := 0, locals := lo } (pP D E av Ph) (qP v) 0 0 (fun _ => False)
theorem pP_blind {D : va_G} {E : Nat → Nat} {av : List Value} {Ph : Heap → Prop} : FrameBlind (pP D E av Ph) := by
  intro a U g mk q
  obtain ⟨q0, q1, q2⟩ := q
  exact ⟨q0, gE.same (u := U) (U := U.calling g mk a) rfl q1, q2⟩
theorem PM.start {l : Launch} {D : va_G} {E : Nat → Nat} {y : MethodName} {cc : ByteArray} {maxL : Nat} {ret : Option FieldType} {fr lo : Nat} {av : List Value} {Ph : Heap → Prop} {v : Option Value} (hy : plainName y.cls = true) (hlen : (lg_sl av).length ≤ maxL)
    (body : ∀ (p : Program) (e : Env) (s : State) (m : MethodId) (below : List Frame) (meth : Method) (c : Code) (ls : Array Slot), p.tables.exec = Jvm.exec → c.code = cc → meth.sig.returnType = ret → c.maxLocals = maxL → s.vm.findClass y.cls = some m.cls → meth.locks = false → (∀ w ∈ lw_all, w.before av.toArray s = true) → gE D E s s.heap → Ph s.heap → lv_has ls maxL (lv_args 0 av) →
      W p l e { frames := fr, cells := 0, slots := 0, locals := lo } s m av.toArray below meth c s.heap [] 0 0 (MQ below (qP v) av.toArray s 0 0 (fun _ => False)) (F0 m 0 ls [])) : PM l D E y cc maxL ret fr lo av Ph v := by
  refine Met.ofW (cc := cc) (maxL := maxL) (ret := ret) hy rfl ?_
  intro p e s m args below meth c s₁ B hml hv
  obtain ⟨rfl, hG, hP⟩ := hv
  have hts := atoms_spec (ws := ws_ y cc maxL ret) B.pre
  have hts : ∀ w ∈ lw_all, w.before _ s = true := fun w h => hts w (List.mem_cons_of_mem _ h)
  have hl := lv_entry av (n := maxL) hlen
  rw [lg_entry_eq]
  exact body p e s m below meth c _ B.exec B.bytes B.returns hml (findClass_of_methodNamed B.named) B.notSynchronized hts hG hP hl
section PCALL
variable {p : Program} {l : Launch} {e : Env} {R : Room} {s : State} {m : MethodId} {args : Array Value} {below : List Frame} {meth : Method} {c : Code} {H : Heap} {locs : List Loc} {cells slots : Nat} {Q : State → Prop}
variable {pc : Nat} {ls : Array Slot} {rest st0 As : List Value} {D : va_G} {E : Nat → Nat} {Ph : Heap → Prop} {v : Option Value} {y : MethodName} {cc bytes : ByteArray} {maxL nL n fr lo index b : Nat} {ret : Option FieldType} {own C : String}
theorem pc_run {a : Array Value} (hr : CallRun p l e R s m args below meth c H locs cells slots 0 0 (F0 m pc ls st0) rest (qP v a) (fun _ => False)) (kk : W p l e R s m args below meth c H locs cells slots Q (F0 m (pc + 3) ls (v.toList ++ rest))) : W p l e R s m args below meth c H locs cells slots Q (F0 m pc ls st0) := by
  intro T hT X
  obtain ⟨v', st₀, t, T', L, h0, X', hL, e1, ⟨hv, hh⟩, st⟩ := hr T hT X
  cases hv
  have hL0 : L = [] := by
    cases L with
    | nil => rfl
    | cons q L => exact (hL q List.mem_cons_self).elim
  subst hL0
  rw [List.append_nil] at X'
  obtain ⟨t2, a1, b1⟩ := kk T' (by rw [e1, hh, h0]) X'
  exact ⟨t2, st t2 a1, b1⟩
theorem pc_run5 {a : Array Value} (hr : va_Run5 p l e R s m args below meth c H locs cells slots 0 0 (F0 m pc ls st0) rest (qP v a) (fun _ => False)) (kk : W p l e R s m args below meth c H locs cells slots Q (F0 m (pc + 5) ls (v.toList ++ rest))) : W p l e R s m args below meth c H locs cells slots Q (F0 m pc ls st0) := by
  intro T hT X
  obtain ⟨v', st₀, t, T', L, h0, X', hL, e1, e2, ⟨hv, hh⟩, st⟩ := hr T hT X
  cases hv
  have hL0 : L = [] := by
    cases L with
    | nil => rfl
    | cons q L => exact (hL q List.mem_cons_self).elim
  subst hL0
  rw [List.append_nil] at X'
  obtain ⟨t2, a1, b1⟩ := kk T' (by rw [e1, hh, h0]) X'
  exact ⟨t2, st t2 a1, b1⟩
abbrev xS (p : Program) (m : MethodId) (c : Code) (cc : ByteArray) (nL : Nat) (s : State) (args : Array Value) (own : String) : Prop := p.tables.exec = Jvm.exec ∧ c.code = cc ∧ c.maxLocals = nL ∧ s.vm.findClass own = some m.cls ∧ ∀ w ∈ lw_all, w.before args s = true
theorem pcV (S : xS p m c cc nL s args own) (hM : PM l D E y bytes maxL ret fr lo (.ref b :: As) Ph v) (h1 : Cond.methodLink own index y ∈ lw_all) (h2 : Cond.instanceMethod y ∈ lw_all) (h3 : Cond.selects y.cls y y ∈ lw_all) (h4 : Cond.initialized y.cls ∈ lw_all) (h5 : Cond.code y bytes maxL ret ∈ lw_all)
    (hd : y.cls ≠ "java/lang/invoke/MethodHandle" ∧ y.cls ≠ "java/lang/invoke/VarHandle" ∧ (parseMethodDescriptor y.desc).map (fun d => d.parameters.length) = some n) (hR : fr + 1 ≤ R.frames ∧ 8 + (maxL + 11) + lo ≤ R.locals) (hG : gE D E s H) (hrecv : ∃ cellB : Cell, H[b]? = some cellB ∧ cellB.vm.isStatics = false ∧ s.vm.findClass y.cls = some cellB.cls) (hPh : Ph H)
    (hn : As.length = n) (hsize : ls.size = nL) (hstack : st0 = As.reverse ++ .ref b :: rest) (hW : (rest.map fun v => v.category).sum ≤ 8) (hdg : decode cc pc = .ok (.invokevirtual index, 3)) (hf : cells ≤ R.cells ∧ slots ≤ R.slots)
    (kk : W p l e R s m args below meth c H locs cells slots Q (F0 m (pc + 3) ls (v.toList ++ rest))) : W p l e R s m args below meth c H locs cells slots Q (F0 m pc ls st0) := by
  refine pc_run (rest := rest) (a := (Value.ref b :: As).toArray) (W.runV (As := As) (rest := rest) S hM (cwV n S.2.2.2.2 (lw_V h1 h2 h3 h4 h5) rfl rfl rfl ⟨rfl, hd⟩ hR) ⟨pP_blind, hrecv, fun U hU hW => ⟨rfl, by rw [hU]; exact hG.warm hW, by rw [hU]; exact hPh⟩⟩ rfl hn hsize hstack (lv_room hW) hdg ⟨hf.1, hf.2⟩) kk
theorem pcS (S : xS p m c cc nL s args own) (hM : PM l D E y bytes maxL ret fr lo As Ph v) (h1 : Cond.methodLink own index y ∈ lw_all) (h2 : Cond.static y ∈ lw_all) (h4 : Cond.initialized y.cls ∈ lw_all) (h5 : Cond.code y bytes maxL ret ∈ lw_all)
    (hd : y.cls ≠ "java/lang/invoke/MethodHandle" ∧ y.cls ≠ "java/lang/invoke/VarHandle" ∧ (parseMethodDescriptor y.desc).map (fun d => d.parameters.length) = some n) (hR : fr + 1 ≤ R.frames ∧ 8 + (maxL + 11) + lo ≤ R.locals) (hG : gE D E s H) (hPh : Ph H)
    (hn : As.length = n) (hsize : ls.size = nL) (hstack : st0 = As.reverse ++ rest) (hW : (rest.map fun v => v.category).sum ≤ 8) (hdg : decode cc pc = .ok (.invokestatic index, 3)) (hf : cells ≤ R.cells ∧ slots ≤ R.slots)
    (kk : W p l e R s m args below meth c H locs cells slots Q (F0 m (pc + 3) ls (v.toList ++ rest))) : W p l e R s m args below meth c H locs cells slots Q (F0 m pc ls st0) := by
  refine pc_run (rest := rest) (a := As.toArray) (W.runS (As := As) (rest := rest) S hM (va_cwS n S.2.2.2.2 (lw_S h1 h2 h4 h5) rfl rfl rfl hd hR) ⟨pP_blind, fun U hU hW => ⟨rfl, by rw [hU]; exact hG.warm hW, by rw [hU]; exact hPh⟩⟩ rfl hn hsize hstack (lv_room hW) hdg ⟨hf.1, hf.2⟩) kk
end PCALL
section ROWS
variable {p : Program} {l : Launch} {e : Env} {R : Room} {s : State} {m : MethodId} {args : Array Value} {below : List Frame} {meth : Method} {c : Code} {H : Heap} {locs : List Loc} {cells slots : Nat} {Q : State → Prop}
variable {pc : Nat} {ls : Array Slot} {rest st0 As : List Value} {D : va_G} {E : Nat → Nat} {Ph : Heap → Prop} {v : Option Value} {x y : MethodName} {cc bytes : ByteArray} {maxL nL n fr lo index b count : Nat} {ret : Option FieldType} {own C : String}
theorem pcVN {host : String} (S : xS p m c cc nL s args own) (hM : PM l D E y bytes maxL ret fr lo (.ref b :: As) Ph v) (h1 : Cond.methodLinkNest own index y host ∈ lw_tbl) (h2 : Cond.instanceMethod y ∈ lw_all) (h3 : Cond.selects y.cls y y ∈ lw_all) (h4 : Cond.initialized y.cls ∈ lw_all) (h5 : Cond.code y bytes maxL ret ∈ lw_all)
    (hd : y.cls ≠ "java/lang/invoke/MethodHandle" ∧ y.cls ≠ "java/lang/invoke/VarHandle" ∧ (parseMethodDescriptor y.desc).map (fun d => d.parameters.length) = some n) (hR : fr + 1 ≤ R.frames ∧ 8 + (maxL + 11) + lo ≤ R.locals) (hG : gE D E s H) (hrecv : ∃ cellB : Cell, H[b]? = some cellB ∧ cellB.vm.isStatics = false ∧ s.vm.findClass y.cls = some cellB.cls) (hPh : Ph H)
    (hn : As.length = n) (hsize : ls.size = nL) (hstack : st0 = As.reverse ++ .ref b :: rest) (hW : (rest.map fun v => v.category).sum ≤ 8) (hdg : decode cc pc = .ok (.invokevirtual index, 3)) (hf : cells ≤ R.cells ∧ slots ≤ R.slots)
    (kk : W p l e R s m args below meth c H locs cells slots Q (F0 m (pc + 3) ls (v.toList ++ rest))) : W p l e R s m args below meth c H locs cells slots Q (F0 m pc ls st0) := by
  exact pc_run (rest := rest) (a := (Value.ref b :: As).toArray) (va_Run.run (va_runVN (As := As) (rest := rest) S hM ⟨va_cnB n S.2.2.2.2 (lw_meth h5) rfl rfl rfl (hG.2.1.1 _ h1 rfl) (S.2.2.2.2 _ h4) hd hR, S.2.2.2.2 _ h2, S.2.2.2.2 _ h3⟩ ⟨pP_blind, hrecv, fun U hU hW => ⟨rfl, by rw [hU]; exact hG.warm hW, by rw [hU]; exact hPh⟩⟩ rfl hn hsize hstack (lv_room hW) hdg ⟨hf.1, hf.2⟩)) kk
theorem pcSN {host : String} (S : xS p m c cc nL s args own) (hM : PM l D E y bytes maxL ret fr lo As Ph v) (h1 : Cond.methodLinkNest own index y host ∈ lw_tbl) (h2 : Cond.static y ∈ lw_all) (h4 : Cond.initialized y.cls ∈ lw_all) (h5 : Cond.code y bytes maxL ret ∈ lw_all)
    (hd : y.cls ≠ "java/lang/invoke/MethodHandle" ∧ y.cls ≠ "java/lang/invoke/VarHandle" ∧ (parseMethodDescriptor y.desc).map (fun d => d.parameters.length) = some n) (hR : fr + 1 ≤ R.frames ∧ 8 + (maxL + 11) + lo ≤ R.locals) (hG : gE D E s H) (hPh : Ph H)
    (hn : As.length = n) (hsize : ls.size = nL) (hstack : st0 = As.reverse ++ rest) (hW : (rest.map fun v => v.category).sum ≤ 8) (hdg : decode cc pc = .ok (.invokestatic index, 3)) (hf : cells ≤ R.cells ∧ slots ≤ R.slots)
    (kk : W p l e R s m args below meth c H locs cells slots Q (F0 m (pc + 3) ls (v.toList ++ rest))) : W p l e R s m args below meth c H locs cells slots Q (F0 m pc ls st0) := by
  exact pc_run (rest := rest) (a := As.toArray) (va_Run.run (va_runSN (As := As) (rest := rest) S hM ⟨va_cnB n S.2.2.2.2 (lw_meth h5) rfl rfl rfl (hG.2.1.1 _ h1 rfl) (S.2.2.2.2 _ h4) hd hR, S.2.2.2.2 _ h2, trivial⟩ ⟨pP_blind, fun U hU hW => ⟨rfl, by rw [hU]; exact hG.warm hW, by rw [hU]; exact hPh⟩⟩ rfl hn hsize hstack (lv_room hW) hdg ⟨hf.1, hf.2⟩)) kk
/-- through an interface, on an object of class C (an index of vwCl) -/
theorem pcF {ci N : Nat} {T : u_T} (hF : va_Fw y.cls x y s) (S : xS p m c cc nL s args own) (hM : PM l D E y bytes maxL ret fr lo (.ref b :: As) Ph v) (h1 : Cond.methodLink own index x ∈ lw_all) (h3 : Cond.selects y.cls x y ∈ lw_all) (h2 : Cond.instanceMethod y ∈ lw_all) (h4 : Cond.initialized y.cls ∈ lw_all) (h5 : Cond.code y bytes maxL ret ∈ lw_all)
    (hd : x.cls ≠ "java/lang/invoke/MethodHandle" ∧ x.cls ≠ "java/lang/invoke/VarHandle" ∧ (parseMethodDescriptor x.desc).map (fun d => d.parameters.length) = some n) (hR : fr + 1 ≤ R.frames ∧ 8 + (maxL + 11) + lo ≤ R.locals) (hG : gE D E s H) (hc : vwCl[ci]? = some (y.cls, T, N)) (hrecv : ∃ cellB : Cell, H[b]? = some cellB ∧ cellB.vm.isStatics = false ∧ s.vm.findClass y.cls = some cellB.cls) (hPh : Ph H)
    (hn : As.length = n) (hsize : ls.size = nL) (hstack : st0 = As.reverse ++ .ref b :: rest) (hW : (rest.map fun v => v.category).sum ≤ 8) (hdg : decode cc pc = .ok (.invokeinterface index count, 5)) (hf : cells ≤ R.cells ∧ slots ≤ R.slots)
    (kk : W p l e R s m args below meth c H locs cells slots Q (F0 m (pc + 5) ls (v.toList ++ rest))) : W p l e R s m args below meth c H locs cells slots Q (F0 m pc ls st0) := by
  have hK := (hG.1.1 ci _ hc).2
  refine pc_run5 (rest := rest) (a := (Value.ref b :: As).toArray) (va_runF (As := As) (rest := rest) (C := y.cls) (cC := D.1 ci) hK S hM (va_cwF n S.2.2.2.2 (fun w hw => ?_) rfl rfl rfl hF hd hR) ⟨pP_blind, hrecv, fun U hU hW => ⟨rfl, by rw [hU]; exact hG.warm hW, by rw [hU]; exact hPh⟩⟩ rfl hn hsize hstack (lv_room hW) hdg ⟨hf.1, hf.2⟩) kk
  unfold va_wsF at hw
  rcases List.mem_append.mp hw with h | h
  · simp only [List.mem_cons, List.not_mem_nil, or_false] at h
    rcases h with rfl | rfl | rfl | rfl
    · exact lw_self _ h1
    · exact lw_self _ h3
    · exact lw_self _ h2
    · exact lw_self _ h4
  · exact lw_meth h5 w h
/-- a field of an object -/
theorem gf {ci N a k : Nat} {T : u_T} {fs : List Value} {v : Value} {rest : List Value} (hx : p.tables.exec = Jvm.exec) (hb : c.code = cc) (hts : ∀ w ∈ lw_all, w.before args s = true) (hown : s.vm.findClass own = some m.cls) (hG : gE D E s H) (hc : vwCl[ci]? = some (C, T, N)) (hin : ∀ w ∈ u_ws C T N, w ∈ lw_all) (hat : va_at D vwCl (a, .inr (ci, fs)) H) (hk : k < N) (hlink : Cond.fieldLink own index (T k).1 (T k).2.1 (T k).2.2.1 ∈ lw_all) (hv : fs[k]? = some v) (hdg : decode cc pc = .ok (.getfield index, 3))
    (kk : W p l e R s m args below meth c H locs cells slots Q (F0 m (pc + 3) ls (v :: rest))) : W p l e R s m args below meth c H locs cells slots Q (F0 m pc ls (.ref a :: rest)) :=
  va_get hx hb hts hin hown hG.1 (at1 hat) 0 rfl hc k hk (hts _ hlink) (fun _ h => h) hv hdg kk
theorem gfN {host : String} {ci N a k : Nat} {T : u_T} {fs : List Value} {v : Value} {rest : List Value} (hx : p.tables.exec = Jvm.exec) (hb : c.code = cc) (hts : ∀ w ∈ lw_all, w.before args s = true) (hown : s.vm.findClass own = some m.cls) (hG : gE D E s H) (hc : vwCl[ci]? = some (C, T, N)) (hin : ∀ w ∈ u_ws C T N, w ∈ lw_all) (hat : va_at D vwCl (a, .inr (ci, fs)) H) (hk : k < N) (hlink : Cond.fieldLinkNest own index (T k).1 (T k).2.1 (T k).2.2.1 host ∈ lw_tbl) (hv : fs[k]? = some v) (hdg : decode cc pc = .ok (.getfield index, 3))
    (kk : W p l e R s m args below meth c H locs cells slots Q (F0 m (pc + 3) ls (v :: rest))) : W p l e R s m args below meth c H locs cells slots Q (F0 m pc ls (.ref a :: rest)) :=
  va_getN hx hb hts hin hown hG.1 (at1 hat) 0 rfl hc k hk (va_Nw.use rfl (hG.2.1.1 _ hlink rfl)) (fun _ h => h) hv hdg kk
/-- an array's length, its places -/
theorem gl {a N t : Nat} {cA : ClassId} {ty : FieldType} {z : vp_A} {rest : List Value} (hx : p.tables.exec = Jvm.exec) (hb : c.code = cc) (hG : gE D E s H) (hat : va_at D vwCl (a, .inl (cA, z)) H) (ht : (tysG E)[t]? = some (cA, ty)) (hz : z.1 = N) (hdg : decode cc pc = .ok (.arraylength, 1))
    (kk : W p l e R s m args below meth c H locs cells slots Q (F0 m (pc + 1) ls (.int (nI N) :: rest))) : W p l e R s m args below meth c H locs cells slots Q (F0 m pc ls (.ref a :: rest)) :=
  va_alen (v := nI N) hx hb hG.1 (at1 hat) 0 t rfl ht (by rw [← hz]; rfl) hdg kk
theorem gaI {a N k : Nat} {f : Nat → Int32} {rest : List Value} (hx : p.tables.exec = Jvm.exec) (hb : c.code = cc) (hG : gE D E s H) (hat : va_at D vwCl (a, .inl (E 1, N, .inl f)) H) (hk : k < N) (hN : N < 2 ^ 31) (hdg : decode cc pc = .ok (.iaload, 1))
    (kk : W p l e R s m args below meth c H locs cells slots Q (F0 m (pc + 1) ls (.int (f k) :: rest))) : W p l e R s m args below meth c H locs cells slots Q (F0 m pc ls (.int (nI k) :: .ref a :: rest)) := by
  refine va_iald hx hb hG.1 (at1 hat) 0 0 rfl rfl (vp_in_nI hk hN) hdg ?_
  rw [nI_clamp (by omega)]
  exact kk
theorem gaZ {a N k : Nat} {f : Nat → Int32} {rest : List Value} (hx : p.tables.exec = Jvm.exec) (hb : c.code = cc) (hG : gE D E s H) (hat : va_at D vwCl (a, .inl (E 2, N, .inl f)) H) (hk : k < N) (hN : N < 2 ^ 31) (hdg : decode cc pc = .ok (.baload, 1))
    (kk : W p l e R s m args below meth c H locs cells slots Q (F0 m (pc + 1) ls (.int (f k) :: rest))) : W p l e R s m args below meth c H locs cells slots Q (F0 m pc ls (.int (nI k) :: .ref a :: rest)) := by
  refine va_zald hx hb hG.1 (at1 hat) 0 1 rfl rfl (vp_in_nI hk hN) hdg ?_
  rw [nI_clamp (by omega)]
  exact kk
theorem gaQ {a N k : Nat} {f : Nat → Option Nat} {z : Nat} {rest : List Value} (hx : p.tables.exec = Jvm.exec) (hb : c.code = cc) (hG : gE D E s H) (hat : va_at D vwCl (a, .inl (E 3, N, .inr (.inr (.inr (.inr f))))) H) (hk : k < N) (hN : N < 2 ^ 31) (hf : f k = some z) (hdg : decode cc pc = .ok (.aaload, 1))
    (kk : W p l e R s m args below meth c H locs cells slots Q (F0 m (pc + 1) ls (.ref z :: rest))) : W p l e R s m args below meth c H locs cells slots Q (F0 m pc ls (.int (nI k) :: .ref a :: rest)) := by
  refine va_aldq hx hb hG.1 (at1 hat) 0 2 rfl rfl (vp_in_nI hk hN) hdg ?_
  rw [nI_clamp (by omega), hf]
  exact kk
/-- a static that nobody writes -/
theorem gs {C n d own ref : String} {v : Value} {A : Nat → Prop} {rest : List Value} (hx : p.tables.exec = Jvm.exec) (hb : c.code = cc) (hZ : va_Z C n d v A s H) (hown : s.vm.findClass own = some m.cls) (hlink : (Cond.fieldLink own index ref n d).before args s = true) (hsame : ∀ x, s.fieldFound? C n d = some x → s.fieldFound? ref n d = some x) (hdg : decode cc pc = .ok (.getstatic index, 3))
    (kk : W p l e R s m args below meth c H locs cells slots Q (F0 m (pc + 3) ls (v :: rest))) : W p l e R s m args below meth c H locs cells slots Q (F0 m pc ls rest) := by
  obtain ⟨cf, kf, fi, f, a, cell, h1, h2, h3, h4, h5, h6, h7, h8⟩ := hZ
  exact W.gets hx hb hown hlink (hsame _ h1) h2 h3 h4 h5 (fun e => by rw [e] at h6; cases h6) h7 rfl hdg kk
theorem gE.en (hG : gE D E s H) {i : Nat} (hi : i < 4) : va_Z "FirstdanceAgency$State" (["ASKED", "FIXED", "PLAYED", "LOST"].getD i "") "LFirstdanceAgency$State;" (.ref (E (10 + i))) (gA E) s H := (hG.2.2.2.1.1 i hi).1
theorem gE.enO (hG : gE D E s H) {i : Nat} (hi : i < 4) : va_O "FirstdanceAgency$State" (E (10 + i)) (gA E) s H := (hG.2.2.2.1.1 i hi).2.1
theorem gE.enI (hG : gE D E s H) {i j : Nat} (hi : i < 4) (hj : j < 4) (h : E (10 + i) = E (10 + j)) : i = j := hG.2.2.2.1.2 i j hi hj h
theorem ge_acmp_ne {i j : Nat} {off : Int} {tgt : Nat} {rest : List Value} (hx : p.tables.exec = Jvm.exec) (hb : c.code = cc) (hG : gE D E s H) (hi : i < 4) (hj : j < 4) (hdg : decode cc pc = .ok (.if_acmp .ne off, 3)) (ht : (pc : Int) + off = (tgt : Int))
    (kt : ¬ i = j → W p l e R s m args below meth c H locs cells slots Q (F0 m tgt ls rest)) (kf : i = j → W p l e R s m args below meth c H locs cells slots Q (F0 m (pc + 3) ls rest)) : W p l e R s m args below meth c H locs cells slots Q (F0 m pc ls (.ref (E (10 + j)) :: .ref (E (10 + i)) :: rest)) :=
  lv_acmp_ne (rx := some (E (10 + i))) (ry := some (E (10 + j))) hx hb hdg ht (fun h => kt (fun e => h (by rw [e]))) (fun h => kf (hG.enI hi hj (Option.some.inj h)))
theorem lb_if_eq {b : Bool} {off : Int} {tgt : Nat} {rest : List Value} (hx : p.tables.exec = Jvm.exec) (hb : c.code = cc) (hdg : decode cc pc = .ok (.ifCond .eq off, 3)) (ht : (pc : Int) + off = (tgt : Int))
    (kt : ¬ b = true → W p l e R s m args below meth c H locs cells slots Q (F0 m tgt ls rest)) (kf : b = true → W p l e R s m args below meth c H locs cells slots Q (F0 m (pc + 3) ls rest)) : W p l e R s m args below meth c H locs cells slots Q (F0 m pc ls (.int (bI b) :: rest)) :=
  lv_if_eq hx hb hdg ht (fun h => kt (fun e => by rw [e] at h; exact absurd h (by decide))) (fun h => kf (by cases b with | true => rfl | false => exact absurd rfl h))
theorem lb_if_ne {b : Bool} {off : Int} {tgt : Nat} {rest : List Value} (hx : p.tables.exec = Jvm.exec) (hb : c.code = cc) (hdg : decode cc pc = .ok (.ifCond .ne off, 3)) (ht : (pc : Int) + off = (tgt : Int))
    (kt : b = true → W p l e R s m args below meth c H locs cells slots Q (F0 m tgt ls rest)) (kf : ¬ b = true → W p l e R s m args below meth c H locs cells slots Q (F0 m (pc + 3) ls rest)) : W p l e R s m args below meth c H locs cells slots Q (F0 m pc ls (.int (bI b) :: rest)) :=
  lv_if_ne hx hb hdg ht (fun h => kt (by cases b with | true => rfl | false => exact absurd rfl h)) (fun h => kf (fun e => by rw [e] at h; exact absurd h (by decide)))
theorem lk_ge_in {k N : Nat} {off : Int} {rest : List Value} (hx : p.tables.exec = Jvm.exec) (hb : c.code = cc) (h : k < N) (hN : N < 2 ^ 31) {tgt : Nat} (hdg : decode cc pc = .ok (.if_icmp .ge off, 3)) (ht : (pc : Int) + off = (tgt : Int))
    (kf : W p l e R s m args below meth c H locs cells slots Q (F0 m (pc + 3) ls rest)) : W p l e R s m args below meth c H locs cells slots Q (F0 m pc ls (.int (nI N) :: .int (nI k) :: rest)) :=
  lv_icmp_ge hx hb hdg ht (fun h2 => absurd h2 (nI_ge h hN)) (fun _ => kf)
theorem lk_ge_out {k N : Nat} {off : Int} {rest : List Value} (hx : p.tables.exec = Jvm.exec) (hb : c.code = cc) (h : k = N) {tgt : Nat} (hdg : decode cc pc = .ok (.if_icmp .ge off, 3)) (ht : (pc : Int) + off = (tgt : Int))
    (kt : W p l e R s m args below meth c H locs cells slots Q (F0 m tgt ls rest)) : W p l e R s m args below meth c H locs cells slots Q (F0 m pc ls (.int (nI N) :: .int (nI k) :: rest)) :=
  lv_icmp_ge hx hb hdg ht (fun _ => kt) (fun h2 => absurd (by rw [h]; exact Int32.le_refl _) h2)
theorem lk_lt {k n N : Nat} (h : k + (n + 1) = N) : k < N := by omega
theorem lk_st {k n N : Nat} (h : k + (n + 1) = N) : (k + 1) + n = N := by omega
/-- another name of the number on top -/
theorem lv_eq {a b : Int32} {rest : List Value} (h : a = b) (kk : W p l e R s m args below meth c H locs cells slots Q (F0 m pc ls (.int b :: rest))) : W p l e R s m args below meth c H locs cells slots Q (F0 m pc ls (.int a :: rest)) := by rw [h]; exact kk
end ROWS
section RETS
variable {p : Program} {l : Launch} {e : Env} {R : Room} {s : State} {m : MethodId} {args : Array Value} {below : List Frame} {meth : Method} {c : Code}
variable {pc : Nat} {ls : Array Slot} {cc : ByteArray} {x : Int32} {v : Option Value}
theorem p_iret (hx : p.tables.exec = Jvm.exec) (hb : c.code = cc) (hr : meth.sig.returnType = some .int) (hlocks : meth.locks = false) (hdg : decode cc pc = .ok (.ireturn, 1)) (h : some (Value.int x) = v) : W p l e R s m args below meth c s.heap [] 0 0 (MQ below (qP v) args s 0 0 (fun _ => False)) (F0 m pc ls [.int x]) :=
  W.iret hx hb hr (fun t ht _ => ⟨by rw [h], ht⟩) (fun q hq => by cases hq) hdg
theorem p_zret (hx : p.tables.exec = Jvm.exec) (hb : c.code = cc) (hr : meth.sig.returnType = some .boolean) (hlocks : meth.locks = false) (hdg : decode cc pc = .ok (.ireturn, 1)) {b : Bool} (hxb : x = bI b) (h : some (Value.int (bI b)) = v) : W p l e R s m args below meth c s.heap [] 0 0 (MQ below (qP v) args s 0 0 (fun _ => False)) (F0 m pc ls [.int x]) := by
  subst hxb
  exact W.zret hx hb hr (by cases b <;> rfl) (fun t ht _ => ⟨by rw [h], ht⟩) (fun q hq => by cases hq) hdg
theorem p_lret (hx : p.tables.exec = Jvm.exec) (hb : c.code = cc) (hr : meth.sig.returnType = some .long) (hlocks : meth.locks = false) {x : Int64} (hdg : decode cc pc = .ok (.lreturn, 1)) (h : some (Value.long x) = v) : W p l e R s m args below meth c s.heap [] 0 0 (MQ below (qP v) args s 0 0 (fun _ => False)) (F0 m pc ls [.long x]) :=
  W.lret hx hb hr (fun t ht _ => ⟨by rw [h], ht⟩) (fun q hq => by cases hq) hdg
end RETS
