/-! an enum's number; lists that are written; iterators; optionals -/
set_option maxRecDepth 100000
section PU
variable {p : Program} {l : Launch} {e : Env} {R : Room} {s : State} {m : MethodId} {args : Array Value} {below : List Frame} {meth : Method} {c : Code} {H : Heap} {locs : List Loc} {cells slots : Nat} {Q : State → Prop}
variable {pc : Nat} {ls : Array Slot} {rest st0 As : List Value} {D : va_G} {E : Nat → Nat} {Ph : Heap → Prop} {v : Option Value} {x y : MethodName} {cc bytes : ByteArray} {maxL nL n fr lo index b : Nat} {ret : Option FieldType} {own C owner : String}
theorem pcU (S : xS p m c cc nL s args own) (hM : PM l D E y bytes maxL ret fr lo (.ref b :: As) Ph v) (hyx : y = ⟨owner, x.name, x.desc⟩) (h1 : Cond.methodLink own index x ∈ lw_all) (h7 : Cond.sameMethod x.cls owner x.name x.desc ∈ lw_all) (h6 : Cond.declares y ∈ lw_tbl) (h3 : Cond.selects C x y ∈ lw_all) (h2 : Cond.instanceMethod y ∈ lw_all) (h4 : Cond.initialized y.cls ∈ lw_all) (h5 : Cond.code y bytes maxL ret ∈ lw_all)
    (hd : owner ≠ "java/lang/invoke/MethodHandle" ∧ owner ≠ "java/lang/invoke/VarHandle" ∧ (parseMethodDescriptor x.desc).map (fun d => d.parameters.length) = some n) (hR : fr + 1 ≤ R.frames ∧ 8 + (maxL + 11) + lo ≤ R.locals) (hG : gE D E s H) (hrecv : ∃ cellB : Cell, H[b]? = some cellB ∧ cellB.vm.isStatics = false ∧ s.vm.findClass C = some cellB.cls) (hPh : Ph H)
    (hn : As.length = n) (hsize : ls.size = nL) (hstack : st0 = As.reverse ++ .ref b :: rest) (hW : (rest.map fun v => v.category).sum ≤ 8) (hdg : decode cc pc = .ok (.invokevirtual index, 3)) (hf : cells ≤ R.cells ∧ slots ≤ R.slots)
    (kk : W p l e R s m args below meth c H locs cells slots Q (F0 m (pc + 3) ls (v.toList ++ rest))) : W p l e R s m args below meth c H locs cells slots Q (F0 m pc ls st0) := by
  have cw : va_CU R s args own C owner index x y bytes maxL ret (ws_ y bytes maxL ret) { frames := fr, cells := 0, slots := 0, locals := lo } 0 0 n := by
    refine ⟨⟨rfl, rfl, hR.1, hR.2, pay_in S.2.2.2.2 (lw_meth h5), List.mem_cons_self⟩, S.2.2.2.2 _ h5, S.2.2.2.2 _ h4, ⟨hd.1, hd.2.1⟩, fun sig h => ?_, S.2.2.2.2 _ h1, S.2.2.2.2 _ h7, ?_, S.2.2.2.2 _ h3, S.2.2.2.2 _ h2⟩
    · have h2 := hd.2.2
      rw [h] at h2
      exact (Option.some.inj h2).symm
    · rw [← hyx]
      exact va_Decl.of (S.2.2.2.2 _ h2) (S.2.2.2.2 _ h5)
  exact pc_run (rest := rest) (a := (Value.ref b :: As).toArray) (va_Run.run (va_runU (As := As) (rest := rest) S hM cw ⟨pP_blind, hrecv, fun U hU hW => ⟨rfl, by rw [hU]; exact hG.warm hW, by rw [hU]; exact hPh⟩⟩ rfl hn hsize hstack (lv_room hW) hdg ⟨hf.1, hf.2⟩)) kk
end PU
theorem gE.enR {D : va_G} {E : Nat → Nat} {s : State} {H : Heap} (hG : gE D E s H) {i : Nat} (hi : i < 4) : ∃ cellB : Cell, H[E (10 + i)]? = some cellB ∧ cellB.vm.isStatics = false ∧ s.vm.findClass "FirstdanceAgency$State" = some cellB.cls := by
  obtain ⟨c, h1, h2, h3, -⟩ := hG.enO hi
  exact ⟨c, h1, h2, h3⟩
theorem ord_e : ∀ i : Nat, i < 4 → ([0, 1, 2, 3] : List Int32).getD i 0 = nI i := by decide
theorem gE.enN {D : va_G} {E : Nat → Nat} {s : State} {H : Heap} (hG : gE D E s H) {i : Nat} (hi : i < 4) : va_OF "java/lang/Enum" "ordinal" "I" (.int (nI i)) (E (10 + i)) (gA E) s H := by
  obtain ⟨-, -, h⟩ := hG.2.2.2.1.1 i hi
  have h2 : va_OF "java/lang/Enum" "ordinal" "I" (.int (([0, 1, 2, 3] : List Int32).getD i 0)) (E (10 + i)) (gA E) s H := h ("java/lang/Enum", "ordinal", "I", [0, 1, 2, 3]) (List.mem_singleton.mpr rfl)
  rw [ord_e i hi] at h2
  exact h2
theorem met_J18_ordinal (l : Launch) (D : va_G) (E : Nat → Nat) (xi : Nat) (h_xi : xi < 4) : PM l D E yJ18_ordinal cJ18_ordinal 1 (Option.some Jvm.ClassFile.FieldType.int) 0 0 [.ref (E (10 + xi))] (fun _ => True) (some (.int (nI xi))) := by
  refine PM.start (by decide) (Nat.le_of_ble_eq_true rfl) ?_
  intro p e s m below meth c ls hx hb hr hml hown hlocks hts hG hT hl
  have hown : s.vm.findClass RJ18 = some m.cls := hown
  have hl : lv_has ls 1 [(0, .ref (E (10 + xi)))] := hl
  refine lv_aload_n hx hb dJ18_ordinal_0 rfl (lv_at hl 0 rfl) ?_
  refine vk_getf hx hb (hG.enN h_xi) va_S.rf hown (hts _ q2118) (fun _ h => h) dJ18_ordinal_1 ?_
  exact p_iret hx hb hr hlocks dJ18_ordinal_4 rfl
def fX1_weddingNow (σ : St) (wi : Nat) (q : Nat) : Int32 :=
  (fun (f1 : Nat → Int32) => (fun (f2 : Nat → Int32) => (fun (f3 : Nat → Int32) => (fun (f4 : Nat → Int32) => (fun (f5 : Nat → Int32) => (fun (f6 : Nat → Int32) => (fun (f7 : Nat → Int32) => (fun (f8 : Nat → Int32) => (fun (f9 : Nat → Int32) => (fun (f10 : Nat → Int32) => (fun (f11 : Nat → Int32) => (fun (f12 : Nat → Int32) => (fun (f13 : Nat → Int32) => (f13) q) (upd f12 12 ((fX10_quarters σ wi)))) (upd f11 11 ((fX1_place σ wi)))) (upd f10 10 (wPaid σ wi))) (upd f9 9 (wLate σ wi))) (upd f8 8 (wPrice σ wi))) (upd f7 7 (wSet σ wi))) (upd f6 6 (nI (wState σ wi)))) (upd f5 5 (wSongs σ wi))) (upd f4 4 (wLen σ wi))) (upd f3 3 (wStart σ wi))) (upd f2 2 (nI (wTown σ wi)))) (upd f1 1 (nI (wDay σ wi)))) (upd (fun _ => 0) 0 (nI (wBand σ wi)))
set_option maxHeartbeats 4000000 in
set_option maxRecDepth 100000 in
theorem met_X1_weddingNow (l : Launch) (D : va_G) (E : Nat → Nat) {α : Nat → Nat → Nat} {F : Nat → Prop} {σ : St} (wi : Nat) (q : Nat) (h_wi : wi < nW σ) (h_q : q < 13) : GM l D E yX1_weddingNow cX1_weddingNow 5 (Option.some Jvm.ClassFile.FieldType.int) 4 88 1 13 [.ref (α 0 0), .int (nI wi), .int (nI q)] (RX D E α F σ) (fun _ => False) (fun _ => False) (fun sz v h => v = some (.int (fX1_weddingNow σ wi q)))  := by
  generalize hR : fX1_weddingNow σ wi q = r
  refine GM.start (by decide) (Nat.le_of_ble_eq_true rfl) ?_
  intro p e s m below meth c ls hx hb hr hml hown hlocks hnm hts hG hX hS hl
  have hown : s.vm.findClass RX1 = some m.cls := hown
  have hS0 : xS p m c cX1_weddingNow 5 s _ RX1 := ⟨hx, hb, hml, hown, hts⟩
  have hl : lv_has ls 5 [(0, .ref (α 0 0)), (1, .int (nI wi)), (2, .int (nI q))] := hl
  have hG0 := hG
  have hX0 := hX
  have hb0P := hX0.nP10
  have hb0B := hX0.nB6
  have hb0W := hX0.nW14
  have hFE := hX.fE
  obtain ⟨Fc, hX, hFn⟩ := hX.nar
  have hFa : ∀ q, Fc q → fN F s.heap.size q := fun q z => Or.inl (hFn q z).1
  have hFb : ∀ q, Fc q → q < s.heap.size := fun q z => (hFn q z).2
  have hcn : cnt σ σ := cnt.rf
  unfold fX1_weddingNow at hR
  refine lv_aload_n hx hb dX1_weddingNow_0 rfl (lv_at hl 0 rfl) ?_
  refine gf (v := .ref (α 1 3)) (C := RX1) (T := TX1) (N := 6) (k := 4) hx hb hts hown hG cl_X1 in_X1 hX.ag (by decide) q307 rfl dX1_weddingNow_1 ?_
  refine lv_iload_n hx hb dX1_weddingNow_4 rfl (lv_at hl 1 rfl) ?_
  refine pcF (x := xL_get) (ci := 13) (As := [.int (nI wi)]) (rest := []) hG.fw_get hS0 (met_xl_get l D E (j := 3) (by decide) wi h_wi) q344 q347 q349 q103 q351 hd_xL_get ⟨Nat.le_of_ble_eq_true rfl, Nat.le_of_ble_eq_true rfl⟩ hG cl_J2 (hX.lsR hG (j := 3) (by decide)) hX rfl hl.1 rfl (Nat.le_of_ble_eq_true rfl) dX1_weddingNow_5 ⟨Nat.le_of_ble_eq_true rfl, Nat.le_of_ble_eq_true rfl⟩ ?_
  refine W.eq (g2 := F0 m 10 ls [.ref (α 5 wi)]) rfl ?_
  refine gc (ci := 8) hx hb hown hG cl_X10 (rcv hG cl_X10 (hX.wd h_wi)) (hts _ q369) dX1_weddingNow_10 ?_
  refine lv_astore_n (lv' := [(3, .ref (α 5 wi)), (0, .ref (α 0 0)), (1, .int (nI wi)), (2, .int (nI q))]) hx hb dX1_weddingNow_13 rfl hl (Nat.le_of_ble_eq_true rfl) rfl (fun ls hl => ?_)
  refine lv_bipush (v := 13) hx hb dX1_weddingNow_14 (by decide) ?_
  have hB := hS.1
  refine nwZ (atype := .int) (ty := .int) (t := 0) (cA := E 1) (N := 13) (z := (13, .inl (fun _ => 0))) hx hb hts hG hS q199 rfl rfl trivial (fun _ => rfl) (by decide) (by decide) ⟨Nat.le_of_ble_eq_true rfl, Nat.le_of_ble_eq_true rfl⟩ dX1_weddingNow_16 (fun q16 H1 hq9 hT_t16 hz ho hS => ?_)
  have hX := hX.kept (fun q h4 _ => ho q h4)
  have hG := gE.ofS hG0 hS (fun _ h => h.elim)
  have hge_t16 : s.heap.size ≤ q16 := by have := hB; omega
  have hd_t16 : ¬ Fc q16 := fun z => by have := hFb _ z; omega
  refine lv_dup hx hb dX1_weddingNow_18 rfl ?_
  refine lv_iconst (v := 0) hx hb dX1_weddingNow_19 (by decide) ?_
  refine lv_aload_n hx hb dX1_weddingNow_20 rfl (lv_at hl 0 rfl) ?_
  refine gfN (v := .int (nI (wBand σ wi))) (C := RX10) (T := TX10) (N := 12) (k := 0) hx hb hts hown hG cl_X10 in_X10 (hX.wd h_wi) (by decide) q1010 rfl dX1_weddingNow_21 ?_
  have hB := hS.1
  have hL_t16 : q16 < _ := hT_t16.lt
  refine paI (N := 13) (k := 0) hx hb hG hS hT_t16 (Or.inr hge_t16) (Or.inr hge_t16) (by decide) (by decide) dX1_weddingNow_24 (fun H1 locs1 he hz hq hS => ?_)
  have hX := hX.kept (fun q h4 h5 => hq q (fun e9 => hd_t16 (e9 ▸ h5)))
  have hG := gE.ofS hG0 hS (fun _ h => h.elim)
  obtain ⟨f1, hf1⟩ : ∃ x, x = upd (fun _ => 0) 0 (nI (wBand σ wi)) := ⟨_, rfl⟩
  rw [← hf1] at hR he
  try dsimp only at hR
  have hT_t16 : va_at D vwCl (q16, arI E 13 f1) H1 := he
  refine lv_dup hx hb dX1_weddingNow_25 rfl ?_
  refine lv_iconst (v := 1) hx hb dX1_weddingNow_26 (by decide) ?_
  refine lv_aload_n hx hb dX1_weddingNow_27 rfl (lv_at hl 0 rfl) ?_
  refine gfN (v := .int (nI (wDay σ wi))) (C := RX10) (T := TX10) (N := 12) (k := 1) hx hb hts hown hG cl_X10 in_X10 (hX.wd h_wi) (by decide) q1012 rfl dX1_weddingNow_28 ?_
  have hB := hS.1
  have hL_t16 : q16 < _ := hT_t16.lt
  refine paI (N := 13) (k := 1) hx hb hG hS hT_t16 (Or.inr hge_t16) (Or.inr hge_t16) (by decide) (by decide) dX1_weddingNow_31 (fun H1 locs1 he hz hq hS => ?_)
  have hX := hX.kept (fun q h4 h5 => hq q (fun e9 => hd_t16 (e9 ▸ h5)))
  have hG := gE.ofS hG0 hS (fun _ h => h.elim)
  obtain ⟨f2, hf2⟩ : ∃ x, x = upd f1 1 (nI (wDay σ wi)) := ⟨_, rfl⟩
  rw [← hf2] at hR he
  try dsimp only at hR
  have hT_t16 : va_at D vwCl (q16, arI E 13 f2) H1 := he
  refine lv_dup hx hb dX1_weddingNow_32 rfl ?_
  refine lv_iconst (v := 2) hx hb dX1_weddingNow_33 (by decide) ?_
  refine lv_aload_n hx hb dX1_weddingNow_34 rfl (lv_at hl 0 rfl) ?_
  refine gfN (v := .int (nI (wTown σ wi))) (C := RX10) (T := TX10) (N := 12) (k := 2) hx hb hts hown hG cl_X10 in_X10 (hX.wd h_wi) (by decide) q1014 rfl dX1_weddingNow_35 ?_
  have hB := hS.1
  have hL_t16 : q16 < _ := hT_t16.lt
  refine paI (N := 13) (k := 2) hx hb hG hS hT_t16 (Or.inr hge_t16) (Or.inr hge_t16) (by decide) (by decide) dX1_weddingNow_38 (fun H1 locs1 he hz hq hS => ?_)
  have hX := hX.kept (fun q h4 h5 => hq q (fun e9 => hd_t16 (e9 ▸ h5)))
  have hG := gE.ofS hG0 hS (fun _ h => h.elim)
  obtain ⟨f3, hf3⟩ : ∃ x, x = upd f2 2 (nI (wTown σ wi)) := ⟨_, rfl⟩
  rw [← hf3] at hR he
  try dsimp only at hR
  have hT_t16 : va_at D vwCl (q16, arI E 13 f3) H1 := he
  refine lv_dup hx hb dX1_weddingNow_39 rfl ?_
  refine lv_iconst (v := 3) hx hb dX1_weddingNow_40 (by decide) ?_
  refine lv_aload_n hx hb dX1_weddingNow_41 rfl (lv_at hl 0 rfl) ?_
  refine gfN (v := .int (wStart σ wi)) (C := RX10) (T := TX10) (N := 12) (k := 3) hx hb hts hown hG cl_X10 in_X10 (hX.wd h_wi) (by decide) q1016 rfl dX1_weddingNow_42 ?_
  have hB := hS.1
  have hL_t16 : q16 < _ := hT_t16.lt
  refine paI (N := 13) (k := 3) hx hb hG hS hT_t16 (Or.inr hge_t16) (Or.inr hge_t16) (by decide) (by decide) dX1_weddingNow_45 (fun H1 locs1 he hz hq hS => ?_)
  have hX := hX.kept (fun q h4 h5 => hq q (fun e9 => hd_t16 (e9 ▸ h5)))
  have hG := gE.ofS hG0 hS (fun _ h => h.elim)
  obtain ⟨f4, hf4⟩ : ∃ x, x = upd f3 3 (wStart σ wi) := ⟨_, rfl⟩
  rw [← hf4] at hR he
  try dsimp only at hR
  have hT_t16 : va_at D vwCl (q16, arI E 13 f4) H1 := he
  refine lv_dup hx hb dX1_weddingNow_46 rfl ?_
  refine lv_iconst (v := 4) hx hb dX1_weddingNow_47 (by decide) ?_
  refine lv_aload_n hx hb dX1_weddingNow_48 rfl (lv_at hl 0 rfl) ?_
  refine gfN (v := .int (wLen σ wi)) (C := RX10) (T := TX10) (N := 12) (k := 4) hx hb hts hown hG cl_X10 in_X10 (hX.wd h_wi) (by decide) q1018 rfl dX1_weddingNow_49 ?_
  have hB := hS.1
  have hL_t16 : q16 < _ := hT_t16.lt
  refine paI (N := 13) (k := 4) hx hb hG hS hT_t16 (Or.inr hge_t16) (Or.inr hge_t16) (by decide) (by decide) dX1_weddingNow_52 (fun H1 locs1 he hz hq hS => ?_)
  have hX := hX.kept (fun q h4 h5 => hq q (fun e9 => hd_t16 (e9 ▸ h5)))
  have hG := gE.ofS hG0 hS (fun _ h => h.elim)
  obtain ⟨f5, hf5⟩ : ∃ x, x = upd f4 4 (wLen σ wi) := ⟨_, rfl⟩
  rw [← hf5] at hR he
  try dsimp only at hR
  have hT_t16 : va_at D vwCl (q16, arI E 13 f5) H1 := he
  refine lv_dup hx hb dX1_weddingNow_53 rfl ?_
  refine lv_iconst (v := 5) hx hb dX1_weddingNow_54 (by decide) ?_
  refine lv_aload_n hx hb dX1_weddingNow_55 rfl (lv_at hl 0 rfl) ?_
  refine gfN (v := .int (wSongs σ wi)) (C := RX10) (T := TX10) (N := 12) (k := 5) hx hb hts hown hG cl_X10 in_X10 (hX.wd h_wi) (by decide) q1021 rfl dX1_weddingNow_56 ?_
  have hB := hS.1
  have hL_t16 : q16 < _ := hT_t16.lt
  refine paI (N := 13) (k := 5) hx hb hG hS hT_t16 (Or.inr hge_t16) (Or.inr hge_t16) (by decide) (by decide) dX1_weddingNow_59 (fun H1 locs1 he hz hq hS => ?_)
  have hX := hX.kept (fun q h4 h5 => hq q (fun e9 => hd_t16 (e9 ▸ h5)))
  have hG := gE.ofS hG0 hS (fun _ h => h.elim)
  obtain ⟨f6, hf6⟩ : ∃ x, x = upd f5 5 (wSongs σ wi) := ⟨_, rfl⟩
  rw [← hf6] at hR he
  try dsimp only at hR
  have hT_t16 : va_at D vwCl (q16, arI E 13 f6) H1 := he
  refine lv_dup hx hb dX1_weddingNow_60 rfl ?_
  refine lv_bipush (v := 6) hx hb dX1_weddingNow_61 (by decide) ?_
  refine lv_aload_n hx hb dX1_weddingNow_63 rfl (lv_at hl 0 rfl) ?_
  refine gfN (v := .ref (E (10 + wState σ wi))) (C := RX10) (T := TX10) (N := 12) (k := 7) hx hb hts hown hG cl_X10 in_X10 (hX.wd h_wi) (by decide) q1025 rfl dX1_weddingNow_64 ?_
  refine pcU (C := "FirstdanceAgency$State") (owner := "java/lang/Enum") (x := ⟨"FirstdanceAgency$State", "ordinal", "()I"⟩) (As := []) (rest := [.int 6, .ref (q16), .ref (q16)]) hS0 (met_J18_ordinal l D E (wState σ wi) (hX.state h_wi)) rfl q474 q475 q476 q477 q478 q128 q479 hd_J18_ordinal ⟨Nat.le_of_ble_eq_true rfl, Nat.le_of_ble_eq_true rfl⟩ hG (hG.enR (hX.state h_wi)) trivial rfl hl.1 rfl (Nat.le_of_ble_eq_true rfl) dX1_weddingNow_67 ⟨Nat.le_of_ble_eq_true rfl, Nat.le_of_ble_eq_true rfl⟩ ?_
  refine W.eq (g2 := F0 m 70 ls [.int (nI (wState σ wi)), .int 6, .ref (q16), .ref (q16)]) rfl ?_
  have hB := hS.1
  have hL_t16 : q16 < _ := hT_t16.lt
  refine paI (N := 13) (k := 6) hx hb hG hS hT_t16 (Or.inr hge_t16) (Or.inr hge_t16) (by decide) (by decide) dX1_weddingNow_70 (fun H1 locs1 he hz hq hS => ?_)
  have hX := hX.kept (fun q h4 h5 => hq q (fun e9 => hd_t16 (e9 ▸ h5)))
  have hG := gE.ofS hG0 hS (fun _ h => h.elim)
  obtain ⟨f7, hf7⟩ : ∃ x, x = upd f6 6 (nI (wState σ wi)) := ⟨_, rfl⟩
  rw [← hf7] at hR he
  try dsimp only at hR
  have hT_t16 : va_at D vwCl (q16, arI E 13 f7) H1 := he
  refine lv_dup hx hb dX1_weddingNow_71 rfl ?_
  refine lv_bipush (v := 7) hx hb dX1_weddingNow_72 (by decide) ?_
  refine lv_aload_n hx hb dX1_weddingNow_74 rfl (lv_at hl 0 rfl) ?_
  refine gfN (v := .int (wSet σ wi)) (C := RX10) (T := TX10) (N := 12) (k := 8) hx hb hts hown hG cl_X10 in_X10 (hX.wd h_wi) (by decide) q1027 rfl dX1_weddingNow_75 ?_
  have hB := hS.1
  have hL_t16 : q16 < _ := hT_t16.lt
  refine paI (N := 13) (k := 7) hx hb hG hS hT_t16 (Or.inr hge_t16) (Or.inr hge_t16) (by decide) (by decide) dX1_weddingNow_78 (fun H1 locs1 he hz hq hS => ?_)
  have hX := hX.kept (fun q h4 h5 => hq q (fun e9 => hd_t16 (e9 ▸ h5)))
  have hG := gE.ofS hG0 hS (fun _ h => h.elim)
  obtain ⟨f8, hf8⟩ : ∃ x, x = upd f7 7 (wSet σ wi) := ⟨_, rfl⟩
  rw [← hf8] at hR he
  try dsimp only at hR
  have hT_t16 : va_at D vwCl (q16, arI E 13 f8) H1 := he
  refine lv_dup hx hb dX1_weddingNow_79 rfl ?_
  refine lv_bipush (v := 8) hx hb dX1_weddingNow_80 (by decide) ?_
  refine lv_aload_n hx hb dX1_weddingNow_82 rfl (lv_at hl 0 rfl) ?_
  refine gfN (v := .int (wPrice σ wi)) (C := RX10) (T := TX10) (N := 12) (k := 9) hx hb hts hown hG cl_X10 in_X10 (hX.wd h_wi) (by decide) q1029 rfl dX1_weddingNow_83 ?_
  have hB := hS.1
  have hL_t16 : q16 < _ := hT_t16.lt
  refine paI (N := 13) (k := 8) hx hb hG hS hT_t16 (Or.inr hge_t16) (Or.inr hge_t16) (by decide) (by decide) dX1_weddingNow_86 (fun H1 locs1 he hz hq hS => ?_)
  have hX := hX.kept (fun q h4 h5 => hq q (fun e9 => hd_t16 (e9 ▸ h5)))
  have hG := gE.ofS hG0 hS (fun _ h => h.elim)
  obtain ⟨f9, hf9⟩ : ∃ x, x = upd f8 8 (wPrice σ wi) := ⟨_, rfl⟩
  rw [← hf9] at hR he
  try dsimp only at hR
  have hT_t16 : va_at D vwCl (q16, arI E 13 f9) H1 := he
  refine lv_dup hx hb dX1_weddingNow_87 rfl ?_
  refine lv_bipush (v := 9) hx hb dX1_weddingNow_88 (by decide) ?_
  refine lv_aload_n hx hb dX1_weddingNow_90 rfl (lv_at hl 0 rfl) ?_
  refine gfN (v := .int (wLate σ wi)) (C := RX10) (T := TX10) (N := 12) (k := 11) hx hb hts hown hG cl_X10 in_X10 (hX.wd h_wi) (by decide) q1033 rfl dX1_weddingNow_91 ?_
  have hB := hS.1
  have hL_t16 : q16 < _ := hT_t16.lt
  refine paI (N := 13) (k := 9) hx hb hG hS hT_t16 (Or.inr hge_t16) (Or.inr hge_t16) (by decide) (by decide) dX1_weddingNow_94 (fun H1 locs1 he hz hq hS => ?_)
  have hX := hX.kept (fun q h4 h5 => hq q (fun e9 => hd_t16 (e9 ▸ h5)))
  have hG := gE.ofS hG0 hS (fun _ h => h.elim)
  obtain ⟨f10, hf10⟩ : ∃ x, x = upd f9 9 (wLate σ wi) := ⟨_, rfl⟩
  rw [← hf10] at hR he
  try dsimp only at hR
  have hT_t16 : va_at D vwCl (q16, arI E 13 f10) H1 := he
  refine lv_dup hx hb dX1_weddingNow_95 rfl ?_
  refine lv_bipush (v := 10) hx hb dX1_weddingNow_96 (by decide) ?_
  refine lv_aload_n hx hb dX1_weddingNow_98 rfl (lv_at hl 0 rfl) ?_
  refine gfN (v := .int (wPaid σ wi)) (C := RX10) (T := TX10) (N := 12) (k := 10) hx hb hts hown hG cl_X10 in_X10 (hX.wd h_wi) (by decide) q1031 rfl dX1_weddingNow_99 ?_
  have hB := hS.1
  have hL_t16 : q16 < _ := hT_t16.lt
  refine paI (N := 13) (k := 10) hx hb hG hS hT_t16 (Or.inr hge_t16) (Or.inr hge_t16) (by decide) (by decide) dX1_weddingNow_102 (fun H1 locs1 he hz hq hS => ?_)
  have hX := hX.kept (fun q h4 h5 => hq q (fun e9 => hd_t16 (e9 ▸ h5)))
  have hG := gE.ofS hG0 hS (fun _ h => h.elim)
  obtain ⟨f11, hf11⟩ : ∃ x, x = upd f10 10 (wPaid σ wi) := ⟨_, rfl⟩
  rw [← hf11] at hR he
  try dsimp only at hR
  have hT_t16 : va_at D vwCl (q16, arI E 13 f11) H1 := he
  refine lv_dup hx hb dX1_weddingNow_103 rfl ?_
  refine lv_bipush (v := 11) hx hb dX1_weddingNow_104 (by decide) ?_
  refine lv_aload_n hx hb dX1_weddingNow_106 rfl (lv_at hl 1 rfl) ?_
  refine lv_iload_n hx hb dX1_weddingNow_107 rfl (lv_at hl 2 rfl) ?_
  refine pcV (As := [.int (nI wi)]) (rest := [.int 11, .ref (q16), .ref (q16)]) hS0 (met_X1_place l D E wi h_wi) q480 q482 qs21 q100 q483 hd_X1_place ⟨Nat.le_of_ble_eq_true rfl, Nat.le_of_ble_eq_true rfl⟩ hG (rcv hG cl_X1 hX.ag) hX rfl hl.1 rfl (Nat.le_of_ble_eq_true rfl) dX1_weddingNow_108 ⟨Nat.le_of_ble_eq_true rfl, Nat.le_of_ble_eq_true rfl⟩ ?_
  refine W.eq (g2 := F0 m 111 ls [.int ((fX1_place σ wi)), .int 11, .ref (q16), .ref (q16)]) rfl ?_
  have hB := hS.1
  have hL_t16 : q16 < _ := hT_t16.lt
  refine paI (N := 13) (k := 11) hx hb hG hS hT_t16 (Or.inr hge_t16) (Or.inr hge_t16) (by decide) (by decide) dX1_weddingNow_111 (fun H1 locs1 he hz hq hS => ?_)
  have hX := hX.kept (fun q h4 h5 => hq q (fun e9 => hd_t16 (e9 ▸ h5)))
  have hG := gE.ofS hG0 hS (fun _ h => h.elim)
  obtain ⟨f12, hf12⟩ : ∃ x, x = upd f11 11 ((fX1_place σ wi)) := ⟨_, rfl⟩
  rw [← hf12] at hR he
  try dsimp only at hR
  have hT_t16 : va_at D vwCl (q16, arI E 13 f12) H1 := he
  refine lv_dup hx hb dX1_weddingNow_112 rfl ?_
  refine lv_bipush (v := 12) hx hb dX1_weddingNow_113 (by decide) ?_
  refine lv_aload_n hx hb dX1_weddingNow_115 rfl (lv_at hl 0 rfl) ?_
  refine pcV (As := []) (rest := [.int 12, .ref (q16), .ref (q16)]) hS0 (met_X10_quarters l D E wi h_wi) q490 q491 q492 q130 q493 hd_X10_quarters ⟨Nat.le_of_ble_eq_true rfl, Nat.le_of_ble_eq_true rfl⟩ hG (rcv hG cl_X10 (hX.wd h_wi)) hX rfl hl.1 rfl (Nat.le_of_ble_eq_true rfl) dX1_weddingNow_116 ⟨Nat.le_of_ble_eq_true rfl, Nat.le_of_ble_eq_true rfl⟩ ?_
  refine W.eq (g2 := F0 m 119 ls [.int ((fX10_quarters σ wi)), .int 12, .ref (q16), .ref (q16)]) rfl ?_
  have hB := hS.1
  have hL_t16 : q16 < _ := hT_t16.lt
  refine paI (N := 13) (k := 12) hx hb hG hS hT_t16 (Or.inr hge_t16) (Or.inr hge_t16) (by decide) (by decide) dX1_weddingNow_119 (fun H1 locs1 he hz hq hS => ?_)
  have hX := hX.kept (fun q h4 h5 => hq q (fun e9 => hd_t16 (e9 ▸ h5)))
  have hG := gE.ofS hG0 hS (fun _ h => h.elim)
  obtain ⟨f13, hf13⟩ : ∃ x, x = upd f12 12 ((fX10_quarters σ wi)) := ⟨_, rfl⟩
  rw [← hf13] at hR he
  try dsimp only at hR
  have hT_t16 : va_at D vwCl (q16, arI E 13 f13) H1 := he
  refine lv_astore (lv' := [(4, .ref (q16)), (3, .ref (α 5 wi)), (0, .ref (α 0 0)), (1, .int (nI wi)), (2, .int (nI q))]) hx hb dX1_weddingNow_120 hl (Nat.le_of_ble_eq_true rfl) rfl (fun ls hl => ?_)
  refine lv_aload hx hb dX1_weddingNow_122 (lv_at hl 0 rfl) ?_
  refine lv_iload_n hx hb dX1_weddingNow_124 rfl (lv_at hl 4 rfl) ?_
  refine gaI (N := 13) (k := q) hx hb hG hT_t16 h_q (by decide) dX1_weddingNow_125 ?_
  exact g_iret hx hb hr hlocks hS ⟨Nat.le_of_ble_eq_true rfl, Nat.le_of_ble_eq_true rfl⟩ dX1_weddingNow_126 (by subst hR; exact rfl)

def fX1_ofWedding (σ : St) (a : Int32) (b : Int32) : Nat × Int32 :=
  (if 0 ≤ a ∧ a < nI (nW σ) then (if 0 ≤ b ∧ b ≤ 12 then (0, (fX1_weddingNow σ ((Int32.toNatClampNeg a)) ((Int32.toNatClampNeg b)))) else (2, 0)) else (1, 0))
set_option maxHeartbeats 4000000 in
set_option maxRecDepth 100000 in
theorem met_X1_ofWedding (l : Launch) (D : va_G) (E : Nat → Nat) (hlf : l.stackTraces = false) {α : Nat → Nat → Nat} {F : Nat → Prop} {σ : St} (a : Int32) (b : Int32)  : XM l D E yX1_ofWedding cX1_ofWedding 3 (Option.some Jvm.ClassFile.FieldType.int) 8 142 3 25 [.ref (α 0 0), .int (a), .int (b)] (RX D E α F σ) (fun _ => False) (fun _ => False) (fun sz v h => (fX1_ofWedding σ a b).1 = 0 ∧ v = some (.int (fX1_ofWedding σ a b).2)) (fun sz X h => X = exN (fX1_ofWedding σ a b).1 ∧ (fX1_ofWedding σ a b).1 ≠ 0) := by
  generalize hR : fX1_ofWedding σ a b = r
  refine XM.start (by decide) (Nat.le_of_ble_eq_true rfl) ?_
  intro p e s m below meth c ls hx hb hr hml hown hlocks hex hts hG hX hS hl
  have hown : s.vm.findClass RX1 = some m.cls := hown
  have hS0 : xS p m c cX1_ofWedding 3 s _ RX1 := ⟨hx, hb, hml, hown, hts⟩
  have hl : lv_has ls 3 [(0, .ref (α 0 0)), (1, .int (a)), (2, .int (b))] := hl
  have hG0 := hG
  have hX0 := hX
  have hb0P := hX0.nP10
  have hb0B := hX0.nB6
  have hb0W := hX0.nW14
  have hFE := hX.fE
  obtain ⟨Fc, hX, hFn⟩ := hX.nar
  have hFa : ∀ q, Fc q → fN F s.heap.size q := fun q z => Or.inl (hFn q z).1
  have hFb : ∀ q, Fc q → q < s.heap.size := fun q z => (hFn q z).2
  have hcn : cnt σ σ := cnt.rf
  unfold fX1_ofWedding at hR
  refine lv_aload_n hx hb dX1_ofWedding_0 rfl (lv_at hl 0 rfl) ?_
  refine lv_iload_n hx hb dX1_ofWedding_1 rfl (lv_at hl 1 rfl) ?_
  have hB := hS.1
  refine xcV (As := [.int (a)]) (rest := []) hS0 (met_X1_weddingAt l D E hlf a _) q1066 q1068 qs42 q100 q1069 hd_X1_weddingAt ⟨Nat.le_of_ble_eq_true rfl, Nat.le_of_ble_eq_true rfl⟩ hG (rcv hG cl_X1 hX.ag) ⟨rfl, hX⟩ rfl hl.1 rfl (Nat.le_of_ble_eq_true rfl) dX1_ofWedding_2 ⟨Nat.le_of_ble_eq_true rfl, Nat.le_of_ble_eq_true rfl⟩ hS (fun q h => h.elim) (fun q h => h.elim) (fun X ce q9 H1 locs1 hP hz hk hS9 h1 h2 h3 => ?_) (fun v H1 locs1 hP hz hk hS9 => ?_)
  · obtain ⟨rfl, hc9⟩ := hP
    have hS := hS9
    clear hS9
    rw [if_neg hc9] at hR
    exact x_out hex hlocks h1 h2 h3 hS ⟨Nat.le_of_ble_eq_true rfl, Nat.le_of_ble_eq_true rfl⟩ (by subst hR; exact ⟨rfl, Nat.succ_ne_zero _⟩)
  · obtain ⟨rfl, hc9, rfl⟩ := hP
    have hS := hS9
    clear hS9
    rw [if_pos hc9] at hR
    have k1 := hc9
    have nk1 := ck_ix k1 (by have := hX.nP10; have := hX.nW14; have := hX.nB6; omega)
    refine W.eq (g2 := F0 m 5 ls [.ref (α 5 (Int32.toNatClampNeg a))]) rfl ?_
    refine lv_pop hx hb dX1_ofWedding_5 rfl ?_
    refine lv_iload_n hx hb dX1_ofWedding_6 rfl (lv_at hl 2 rfl) ?_
    refine lv_iconst (v := 0) hx hb dX1_ofWedding_7 (by decide) ?_
    refine lv_bipush (v := 12) hx hb dX1_ofWedding_8 (by decide) ?_
    have hB := hS.1
    refine xcS (As := [.int (b), .int 0, .int 12]) (rest := []) hS0 (met_X1_mustBeIn l D E hlf b 0 12 _) q860 q861 q100 q862 hd_X1_mustBeIn ⟨Nat.le_of_ble_eq_true rfl, Nat.le_of_ble_eq_true rfl⟩ hG rfl rfl hl.1 rfl (Nat.le_of_ble_eq_true rfl) dX1_ofWedding_10 ⟨Nat.le_of_ble_eq_true rfl, Nat.le_of_ble_eq_true rfl⟩ hS (fun q h => h.elim) (fun q h => h.elim) (fun X ce q9 H1 locs1 hP hz hk hS9 h1 h2 h3 => ?_) (fun v H1 locs1 hP hz hk hS9 => ?_)
    · obtain ⟨rfl, hc9⟩ := hP
      have hS := hS9
      clear hS9
      rw [if_neg hc9] at hR
      exact x_out hex hlocks h1 h2 h3 hS ⟨Nat.le_of_ble_eq_true rfl, Nat.le_of_ble_eq_true rfl⟩ (by subst hR; exact ⟨rfl, Nat.succ_ne_zero _⟩)
    · obtain ⟨rfl, hc9, rfl⟩ := hP
      have hS := hS9
      clear hS9
      rw [if_pos hc9] at hR
      have k2 := hc9
      have nk2 := mb_ix (n := 12) (by decide) k2
      refine W.eq (g2 := F0 m 13 ls []) rfl ?_
      refine lv_aload_n hx hb dX1_ofWedding_13 rfl (lv_at hl 0 rfl) ?_
      refine lv_iload_n hx hb dX1_ofWedding_14 rfl (lv_at hl 1 rfl) ?_
      refine lv_eq nk1.1 ?_
      refine lv_iload_n hx hb dX1_ofWedding_15 rfl (lv_at hl 2 rfl) ?_
      refine lv_eq nk2.1 ?_
      have hB := hS.1
      refine gcV (As := [.int (nI ((Int32.toNatClampNeg a))), .int (nI ((Int32.toNatClampNeg b)))]) (rest := []) hS0 (met_X1_weddingNow l D E ((Int32.toNatClampNeg a)) ((Int32.toNatClampNeg b)) nk1.2 nk2.2) q470 q472 qs20 q100 q473 hd_X1_weddingNow ⟨Nat.le_of_ble_eq_true rfl, Nat.le_of_ble_eq_true rfl⟩ hG (rcv hG cl_X1 hX.ag) hX rfl hl.1 rfl (Nat.le_of_ble_eq_true rfl) dX1_ofWedding_16 ⟨Nat.le_of_ble_eq_true rfl, Nat.le_of_ble_eq_true rfl⟩ hS (fun q h => h.elim) (fun q h => h.elim) (fun v H1 locs1 hP hz hk hS => ?_)
      obtain rfl := hP
      have hX := hX.kept (fun q h4 _ => hk q h4 id)
      have hG := gE.ofS hG0 hS (fun _ h => h.elim)
      refine W.eq (g2 := F0 m 19 ls [.int ((fX1_weddingNow σ ((Int32.toNatClampNeg a)) ((Int32.toNatClampNeg b))))]) rfl ?_
      exact vx_ret (g_iret hx hb hr hlocks hS ⟨Nat.le_of_ble_eq_true rfl, Nat.le_of_ble_eq_true rfl⟩ dX1_ofWedding_19 (by subst hR; exact ⟨rfl, rfl⟩))

set_option maxHeartbeats 4000000 in
set_option maxRecDepth 100000 in
theorem met_J2_set (l : Launch) (D : va_G) (E : Nat → Nat) (k : Nat) (q0 : Nat) (a1 : Nat) (mo : Int32) (n : Nat) (cap : Nat) (g : Nat → Option Nat) (z : Nat) (z0 : Nat) (hne_this_arr : q0 ≠ a1) (hcap : cap ≤ 100) (hncap : n ≤ cap) (hkn : k < n) (hz0 : g k = some z0) : GM l D E yJ2_set cJ2_set 4 (Option.some (Jvm.ClassFile.FieldType.object "java/lang/Object")) 2 43 0 0 [.ref (q0), .int (nI k), .ref (z)] (fun h => va_at D vwCl (q0, .inr (13, [.int mo, .ref a1, .int (nI n)])) h ∧ va_at D vwCl (a1, arQ E cap g) h ∧ oK D E z h ∧ E 0 ≤ a1) (fun q => q = a1) (fun q => q = a1) (fun sz v h => v = some (.ref z0) ∧ va_at D vwCl (a1, arQ E cap (va_up g k (some z))) h)  := by
  refine GM.start (by decide) (Nat.le_of_ble_eq_true rfl) ?_
  intro p e s m below meth c ls hx hb hr hml hown hlocks hnm hts hG ⟨hT_this, hT_arr, hz9, hq1⟩ hS hl
  have hown : s.vm.findClass RJ2 = some m.cls := hown
  have hS0 : xS p m c cJ2_set 4 s _ RJ2 := ⟨hx, hb, hml, hown, hts⟩
  have hl : lv_has ls 4 [(0, .ref (q0)), (1, .int (nI k)), (2, .ref (z))] := hl
  have hG0 := hG
  refine lv_iload_n hx hb dJ2_set_0 rfl (lv_at hl 1 rfl) ?_
  refine lv_aload_n hx hb dJ2_set_1 rfl (lv_at hl 0 rfl) ?_
  refine gf (v := .int (nI n)) (C := RJ2) (T := TJ2) (N := 3) (k := 2) hx hb hts hown hG cl_J2 in_J2 hT_this (by decide) q166 rfl dJ2_set_2 ?_
  refine pcS (As := [.int (nI k), .int (nI n)]) (rest := []) hS0 (met_J14_checkIndex l D E k n hkn (by omega)) q352 q353 q122 q354 hd_J14_checkIndex ⟨Nat.le_of_ble_eq_true rfl, Nat.le_of_ble_eq_true rfl⟩ hG trivial rfl hl.1 rfl (Nat.le_of_ble_eq_true rfl) dJ2_set_5 ⟨Nat.le_of_ble_eq_true rfl, Nat.le_of_ble_eq_true rfl⟩ ?_
  refine W.eq (g2 := F0 m 8 ls [.int (nI k)]) rfl ?_
  refine lv_pop hx hb dJ2_set_8 rfl ?_
  refine lv_aload_n hx hb dJ2_set_9 rfl (lv_at hl 0 rfl) ?_
  refine lv_iload_n hx hb dJ2_set_10 rfl (lv_at hl 1 rfl) ?_
  refine pcV (As := [.int (nI k)]) (rest := []) hS0 (met_J2_elementData l D E (lst := q0) (arr := a1) (n := n) (cap := cap) (mc := mo) (g := g) k z0 hkn hz0) q358 q359 q360 q103 q361 hd_J2_elementData ⟨Nat.le_of_ble_eq_true rfl, Nat.le_of_ble_eq_true rfl⟩ hG (rcv hG cl_J2 hT_this) ⟨hT_this, hncap, by omega, Or.inr ⟨by omega, hT_arr⟩⟩ rfl hl.1 rfl (Nat.le_of_ble_eq_true rfl) dJ2_set_11 ⟨Nat.le_of_ble_eq_true rfl, Nat.le_of_ble_eq_true rfl⟩ ?_
  refine W.eq (g2 := F0 m 14 ls [.ref (z0)]) rfl ?_
  refine lv_astore_n (lv' := [(3, .ref (z0)), (0, .ref (q0)), (1, .int (nI k)), (2, .ref (z))]) hx hb dJ2_set_14 rfl hl (Nat.le_of_ble_eq_true rfl) rfl (fun ls hl => ?_)
  refine lv_aload_n hx hb dJ2_set_15 rfl (lv_at hl 1 rfl) ?_
  refine gf (v := .ref (a1)) (C := RJ2) (T := TJ2) (N := 3) (k := 1) hx hb hts hown hG cl_J2 in_J2 hT_this (by decide) q163 rfl dJ2_set_16 ?_
  refine lv_iload_n hx hb dJ2_set_19 rfl (lv_at hl 2 rfl) ?_
  refine lv_aload_n hx hb dJ2_set_20 rfl (lv_at hl 3 rfl) ?_
  have hB := hS.1
  have hL_this : q0 < _ := hT_this.lt
  have hL_arr : a1 < _ := hT_arr.lt
  refine paQ (N := cap) (k := k) hx hb hG hS hT_arr (Or.inl rfl) (Or.inl rfl) (Nat.lt_of_lt_of_le hkn hncap) (by omega) (oK.any hG hz9) dJ2_set_21 (fun H1 locs1 he hz hq hS => ?_)
  have hT_this : va_at D vwCl (q0, .inr (13, [.int (mo), .ref (a1), .int (nI n)])) H1 := hT_this.kept (hq _ (fun e9 => absurd e9 hne_this_arr))
  have hG := gE.ofS hG0 hS (fun q h => by have h : q = a1 := h; rw [h]; exact hq1)
  have hT_arr : va_at D vwCl (a1, arQ E cap (va_up g k (some z))) H1 := he
  refine lv_aload_n hx hb dJ2_set_22 rfl (lv_at hl 0 rfl) ?_
  exact g_aret hx hb hr (Or.inl ⟨_, rfl⟩) hlocks hS ⟨Nat.le_of_ble_eq_true rfl, Nat.le_of_ble_eq_true rfl⟩ dJ2_set_23 (by skip; exact ⟨rfl, hT_arr⟩)

set_option maxHeartbeats 4000000 in
set_option maxRecDepth 100000 in
theorem met_J19_init (l : Launch) (D : va_G) (E : Nat → Nat) (q0 : Nat) (q1 : Nat) (n : Nat) (a1 : Nat) (hne_this_lst : q0 ≠ q1) : GM l D E yJ19_init cJ19_init 2 (Option.none : Option Jvm.ClassFile.FieldType) 1 12 0 0 [.ref (q0), .ref (q1)] (fun h => va_at D vwCl (q0, .inr (15, [.int 0, .int 0, .int 0, .null])) h ∧ va_at D vwCl (q1, .inr (13, [.int (nI n), .ref a1, .int (nI n)])) h ∧ E 0 ≤ q0) (fun z => z = q0) (fun z => z = q0) (fun sz v h => v = none ∧ va_at D vwCl (q0, .inr (15, [.int 0, .int (-1), .int (nI n), .ref q1])) h)  := by
  refine GM.start (by decide) (Nat.le_of_ble_eq_true rfl) ?_
  intro p e s m below meth c ls hx hb hr hml hown hlocks hnm hts hG ⟨hT_this, hT_lst, hq0⟩ hS hl
  have hown : s.vm.findClass RJ19 = some m.cls := hown
  have hS0 : xS p m c cJ19_init 2 s _ RJ19 := ⟨hx, hb, hml, hown, hts⟩
  have hl : lv_has ls 2 [(0, .ref (q0)), (1, .ref (q1))] := hl
  have hG0 := hG
  refine lv_aload_n hx hb dJ19_init_0 rfl (lv_at hl 0 rfl) ?_
  refine lv_aload_n hx hb dJ19_init_1 rfl (lv_at hl 1 rfl) ?_
  have hB := hS.1
  have hL_this : q0 < _ := hT_this.lt
  have hL_lst : q1 < _ := hT_lst.lt
  refine pfF (ty0 := tyJ19) (ty := tyJ19 3) (v := .ref (q1)) (C := RJ19) (T := TJ19) (N := 4) (k := 3) hx hb hts hown hG hS cl_J19 in_J19 tyJ19_ok nmJ19 hT_this (Or.inl rfl) (Or.inl rfl) (by decide) q1819 rfl hnm rfl (tyJ19_ok 3 (by decide)) rfl rfl (Nat.le_of_ble_eq_true rfl) dJ19_init_2 (fun H1 locs1 he hz hq hS => ?_)
  have hT_lst : va_at D vwCl (q1, .inr (13, [.int (nI n), .ref (a1), .int (nI n)])) H1 := hT_lst.kept (hq _ (fun e9 => absurd e9 hne_this_lst.symm))
  have hT_this : va_at D vwCl (q0, .inr (15, [.int 0, .int 0, .int 0, .ref (q1)])) H1 := he
  have hG := gE.ofS hG0 hS (fun q h => by have h : q = q0 := h; rw [h]; exact hq0)
  refine lv_aload_n hx hb dJ19_init_5 rfl (lv_at hl 0 rfl) ?_
  refine W.objInit hx hb hown (hts _ q1815) (hts _ q147) (hts _ q148) rfl (by rw [hml]; exact hl.1) rfl dJ19_init_6 (Nat.le_of_ble_eq_true rfl) (Nat.le_of_ble_eq_true rfl) ?_
  refine W.eq (g2 := F0 m 9 ls []) rfl ?_
  refine lv_aload_n hx hb dJ19_init_9 rfl (lv_at hl 0 rfl) ?_
  refine lv_iconst (v := (-1)) hx hb dJ19_init_10 (by decide) ?_
  have hB := hS.1
  have hL_this : q0 < _ := hT_this.lt
  have hL_lst : q1 < _ := hT_lst.lt
  refine pf (ty0 := tyJ19) (ty := tyJ19 1) (v := .int (-1)) (C := RJ19) (T := TJ19) (N := 4) (k := 1) hx hb hts hown hG hS cl_J19 in_J19 tyJ19_ok nmJ19 hT_this (Or.inl rfl) (Or.inl rfl) (by decide) q1817 rfl (tyJ19_ok 1 (by decide)) rfl rfl (Nat.le_of_ble_eq_true rfl) dJ19_init_11 (fun H1 locs1 he hz hq hS => ?_)
  have hT_lst : va_at D vwCl (q1, .inr (13, [.int (nI n), .ref (a1), .int (nI n)])) H1 := hT_lst.kept (hq _ (fun e9 => absurd e9 hne_this_lst.symm))
  have hT_this : va_at D vwCl (q0, .inr (15, [.int 0, .int (-1), .int 0, .ref (q1)])) H1 := he
  have hG := gE.ofS hG0 hS (fun q h => by have h : q = q0 := h; rw [h]; exact hq0)
  refine lv_aload_n hx hb dJ19_init_14 rfl (lv_at hl 0 rfl) ?_
  refine lv_aload_n hx hb dJ19_init_15 rfl (lv_at hl 0 rfl) ?_
  refine gf (v := .ref (q1)) (C := RJ19) (T := TJ19) (N := 4) (k := 3) hx hb hts hown hG cl_J19 in_J19 hT_this (by decide) q1819 rfl dJ19_init_16 ?_
  refine gfS (v := .int (nI n)) (C := RJ2) (T := TJ2) (N := 3) (k := 0) hx hb hts hown hG cl_J2 in_J2 hT_lst (by decide) q168 q169 rfl dJ19_init_19 ?_
  have hB := hS.1
  have hL_this : q0 < _ := hT_this.lt
  have hL_lst : q1 < _ := hT_lst.lt
  refine pf (ty0 := tyJ19) (ty := tyJ19 2) (v := .int (nI n)) (C := RJ19) (T := TJ19) (N := 4) (k := 2) hx hb hts hown hG hS cl_J19 in_J19 tyJ19_ok nmJ19 hT_this (Or.inl rfl) (Or.inl rfl) (by decide) q1818 rfl (tyJ19_ok 2 (by decide)) rfl rfl (Nat.le_of_ble_eq_true rfl) dJ19_init_22 (fun H1 locs1 he hz hq hS => ?_)
  have hT_lst : va_at D vwCl (q1, .inr (13, [.int (nI n), .ref (a1), .int (nI n)])) H1 := hT_lst.kept (hq _ (fun e9 => absurd e9 hne_this_lst.symm))
  have hT_this : va_at D vwCl (q0, .inr (15, [.int 0, .int (-1), .int (nI n), .ref (q1)])) H1 := he
  have hG := gE.ofS hG0 hS (fun q h => by have h : q = q0 := h; rw [h]; exact hq0)
  exact g_vret hx hb hr hlocks hS ⟨Nat.le_of_ble_eq_true rfl, Nat.le_of_ble_eq_true rfl⟩ dJ19_init_25 (by skip; exact ⟨rfl, hT_this⟩)

set_option maxHeartbeats 4000000 in
set_option maxRecDepth 100000 in
theorem met_J2_iterator (l : Launch) (D : va_G) (E : Nat → Nat) (q1 : Nat) (n : Nat) (a1 : Nat)  : GM l D E yJ2_iterator cJ2_iterator 1 (Option.some (Jvm.ClassFile.FieldType.object "java/util/Iterator")) 2 33 1 4 [.ref (q1)] (fun h => va_at D vwCl (q1, .inr (13, [.int (nI n), .ref a1, .int (nI n)])) h) (fun _ => False) (fun _ => False) (fun sz v h => ∃ q, v = some (.ref q) ∧ sz ≤ q ∧ va_at D vwCl (q, .inr (15, [.int (nI 0), .int (-1), .int (nI n), .ref q1])) h)  := by
  refine GM.start (by decide) (Nat.le_of_ble_eq_true rfl) ?_
  intro p e s m below meth c ls hx hb hr hml hown hlocks hnm hts hG hT_lst hS hl
  have hown : s.vm.findClass RJ2 = some m.cls := hown
  have hS0 : xS p m c cJ2_iterator 1 s _ RJ2 := ⟨hx, hb, hml, hown, hts⟩
  have hl : lv_has ls 1 [(0, .ref (q1))] := hl
  have hG0 := hG
  have hB := hS.1
  have hL_lst : q1 < _ := hT_lst.lt
  refine nw (ci := 15) (C := RJ19) (T := TJ19) (N := 4) (fs := [.int 0, .int 0, .int 0, .null]) (ty := tyJ19) hx hb hts hown hG hS cl_J19 in_J19 tyJ19_ok q1810 q1811 q133 (df_J19) ⟨Nat.le_of_ble_eq_true rfl, Nat.le_of_ble_eq_true rfl⟩ dJ2_iterator_0 (fun q0 H1 hq9 hT_t0 hz ho hS => ?_)
  have hT_lst : va_at D vwCl (q1, .inr (13, [.int (nI n), .ref (a1), .int (nI n)])) H1 := hT_lst.kept (ho _ hT_lst.lt)
  have hG := gE.ofS hG0 hS (fun _ h => h.elim)
  have hne_lst_t0 : q1 ≠ q0 := by have h9 := hL_lst; omega
  have hge_t0 : s.heap.size ≤ q0 := by have := hB; omega
  refine lv_dup hx hb dJ2_iterator_3 rfl ?_
  refine lv_aload_n hx hb dJ2_iterator_4 rfl (lv_at hl 0 rfl) ?_
  have hB := hS.1
  have hL_lst : q1 < _ := hT_lst.lt
  have hL_t0 : q0 < _ := hT_t0.lt
  refine gcI (As := [.ref (q1)]) (rest := [.ref (q0)]) hS0 (met_J19_init l D E q0 q1 n a1 hne_lst_t0.symm) q1812 q1813 q133 q1814 rfl hd_J19_init ⟨Nat.le_of_ble_eq_true rfl, Nat.le_of_ble_eq_true rfl⟩ hG ⟨hT_t0, hT_lst, (Nat.le_trans hG0.2.2.1 hge_t0)⟩ rfl hl.1 rfl (Nat.le_of_ble_eq_true rfl) dJ2_iterator_5 ⟨Nat.le_of_ble_eq_true rfl, Nat.le_of_ble_eq_true rfl⟩ hS (fun q h => by have h : q = q0 := h; rw [h]; exact (Or.inr hge_t0)) (fun q h => by have h : q = q0 := h; rw [h]; exact (Or.inr hge_t0)) (fun v H1 locs1 hP hz hk hS => ?_)
  obtain ⟨rfl, hT9⟩ := hP
  have hT_lst : va_at D vwCl (q1, .inr (13, [.int (nI n), .ref (a1), .int (nI n)])) H1 := hT_lst.kept (hk _ hT_lst.lt (fun e9 => absurd e9 hne_lst_t0))
  have hT_t0 : va_at D vwCl (q0, .inr (15, [.int (nI 0), .int ((-1)), .int (nI n), .ref (q1)])) H1 := hT9
  have hG := gE.ofS hG0 hS (fun _ h => h.elim)
  refine W.eq (g2 := F0 m 8 ls [.ref (q0)]) rfl ?_
  exact g_aret hx hb hr (Or.inl ⟨_, rfl⟩) hlocks hS ⟨Nat.le_of_ble_eq_true rfl, Nat.le_of_ble_eq_true rfl⟩ dJ2_iterator_8 (by skip; exact ⟨_, rfl, hge_t0, hT_t0⟩)

def fJ19_hasNext (k : Nat) (n : Nat) : Bool :=
  (if (nI k) = (nI n) then false else true)
set_option maxHeartbeats 4000000 in
set_option maxRecDepth 100000 in
theorem met_J19_hasNext (l : Launch) (D : va_G) (E : Nat → Nat) (q0 : Nat) (k : Nat) (lr : Int32) (n : Nat) (q1 : Nat) (a1 : Nat) (hne_this_lst : q0 ≠ q1) : GM l D E yJ19_hasNext cJ19_hasNext 1 (Option.some Jvm.ClassFile.FieldType.boolean) 0 0 0 0 [.ref (q0)] (fun h => va_at D vwCl (q0, .inr (15, [.int (nI k), .int lr, .int (nI n), .ref q1])) h ∧ va_at D vwCl (q1, .inr (13, [.int (nI n), .ref a1, .int (nI n)])) h) (fun _ => False) (fun _ => False) (fun sz v h => v = some (.int (bI (fJ19_hasNext k n))))  := by
  generalize hR : fJ19_hasNext k n = r
  refine GM.start (by decide) (Nat.le_of_ble_eq_true rfl) ?_
  intro p e s m below meth c ls hx hb hr hml hown hlocks hnm hts hG ⟨hT_this, hT_lst⟩ hS hl
  have hown : s.vm.findClass RJ19 = some m.cls := hown
  have hS0 : xS p m c cJ19_hasNext 1 s _ RJ19 := ⟨hx, hb, hml, hown, hts⟩
  have hl : lv_has ls 1 [(0, .ref (q0))] := hl
  have hG0 := hG
  unfold fJ19_hasNext at hR
  refine lv_aload_n hx hb dJ19_hasNext_0 rfl (lv_at hl 0 rfl) ?_
  refine gf (v := .int (nI k)) (C := RJ19) (T := TJ19) (N := 4) (k := 0) hx hb hts hown hG cl_J19 in_J19 hT_this (by decide) q1816 rfl dJ19_hasNext_1 ?_
  refine lv_aload_n hx hb dJ19_hasNext_4 rfl (lv_at hl 0 rfl) ?_
  refine gf (v := .ref (q1)) (C := RJ19) (T := TJ19) (N := 4) (k := 3) hx hb hts hown hG cl_J19 in_J19 hT_this (by decide) q1819 rfl dJ19_hasNext_5 ?_
  refine gfN (v := .int (nI n)) (C := RJ2) (T := TJ2) (N := 3) (k := 2) hx hb hts hown hG cl_J2 in_J2 hT_lst (by decide) q165 rfl dJ19_hasNext_8 ?_
  refine lv_icmp_eq (tgt := 18) hx hb dJ19_hasNext_11 (by decide) (fun c1 => ?_) (fun c1 => ?_)
  · rw [if_pos c1] at hR
    refine lv_iconst (v := 0) hx hb dJ19_hasNext_18 (by decide) ?_
    exact g_zret (b := false) hx hb hr hlocks hS ⟨Nat.le_of_ble_eq_true rfl, Nat.le_of_ble_eq_true rfl⟩ dJ19_hasNext_19 rfl (by subst hR; exact rfl)
  · rw [if_neg c1] at hR
    refine lv_iconst (v := 1) hx hb dJ19_hasNext_14 (by decide) ?_
    refine lv_goto (tgt := 19) hx hb dJ19_hasNext_15 (by decide) ?_
    exact g_zret (b := true) hx hb hr hlocks hS ⟨Nat.le_of_ble_eq_true rfl, Nat.le_of_ble_eq_true rfl⟩ dJ19_hasNext_19 rfl (by subst hR; exact rfl)

set_option maxHeartbeats 4000000 in
set_option maxRecDepth 100000 in
theorem met_J19_checkForComodification (l : Launch) (D : va_G) (E : Nat → Nat) (q0 : Nat) (k : Nat) (lr : Int32) (n : Nat) (q1 : Nat) (a1 : Nat) (hne_this_lst : q0 ≠ q1) : GM l D E yJ19_checkForComodification cJ19_checkForComodification 1 (Option.none : Option Jvm.ClassFile.FieldType) 0 0 0 0 [.ref (q0)] (fun h => va_at D vwCl (q0, .inr (15, [.int (nI k), .int lr, .int (nI n), .ref q1])) h ∧ va_at D vwCl (q1, .inr (13, [.int (nI n), .ref a1, .int (nI n)])) h) (fun _ => False) (fun _ => False) (fun sz v h => v = none)  := by
  refine GM.start (by decide) (Nat.le_of_ble_eq_true rfl) ?_
  intro p e s m below meth c ls hx hb hr hml hown hlocks hnm hts hG ⟨hT_this, hT_lst⟩ hS hl
  have hown : s.vm.findClass RJ19 = some m.cls := hown
  have hS0 : xS p m c cJ19_checkForComodification 1 s _ RJ19 := ⟨hx, hb, hml, hown, hts⟩
  have hl : lv_has ls 1 [(0, .ref (q0))] := hl
  have hG0 := hG
  refine lv_aload_n hx hb dJ19_checkForComodification_0 rfl (lv_at hl 0 rfl) ?_
  refine gf (v := .ref (q1)) (C := RJ19) (T := TJ19) (N := 4) (k := 3) hx hb hts hown hG cl_J19 in_J19 hT_this (by decide) q1819 rfl dJ19_checkForComodification_1 ?_
  refine gfS (v := .int (nI n)) (C := RJ2) (T := TJ2) (N := 3) (k := 0) hx hb hts hown hG cl_J2 in_J2 hT_lst (by decide) q168 q169 rfl dJ19_checkForComodification_4 ?_
  refine lv_aload_n hx hb dJ19_checkForComodification_7 rfl (lv_at hl 0 rfl) ?_
  refine gf (v := .int (nI n)) (C := RJ19) (T := TJ19) (N := 4) (k := 2) hx hb hts hown hG cl_J19 in_J19 hT_this (by decide) q1818 rfl dJ19_checkForComodification_8 ?_
  refine lv_icmp_eq (tgt := 22) hx hb dJ19_checkForComodification_11 (by decide) (fun _ => ?_) (fun c9 => absurd (rfl) c9)
  exact g_vret hx hb hr hlocks hS ⟨Nat.le_of_ble_eq_true rfl, Nat.le_of_ble_eq_true rfl⟩ dJ19_checkForComodification_22 (by skip; exact rfl)

set_option maxHeartbeats 4000000 in
set_option maxRecDepth 100000 in
theorem met_J19_next (l : Launch) (D : va_G) (E : Nat → Nat) (q0 : Nat) (k : Nat) (lr : Int32) (n : Nat) (q1 : Nat) (a1 : Nat) (cap : Nat) (g : Nat → Option Nat) (z : Nat) (hne_this_lst : q0 ≠ q1) (hne_this_arr : q0 ≠ a1) (hne_lst_arr : q1 ≠ a1) (hcap : cap ≤ 100) (hncap : n ≤ cap) (hkn : k < n) (hgz : g k = some z) : GM l D E yJ19_next cJ19_next 3 (Option.some (Jvm.ClassFile.FieldType.object "java/lang/Object")) 1 20 0 0 [.ref (q0)] (fun h => va_at D vwCl (q0, .inr (15, [.int (nI k), .int lr, .int (nI n), .ref q1])) h ∧ va_at D vwCl (q1, .inr (13, [.int (nI n), .ref a1, .int (nI n)])) h ∧ va_at D vwCl (a1, arQ E cap g) h ∧ E 0 ≤ q0) (fun z => z = q0) (fun z => z = q0) (fun sz v h => v = some (.ref z) ∧ va_at D vwCl (q0, .inr (15, [.int (nI (k + 1)), .int (nI k), .int (nI n), .ref q1])) h)  := by
  refine GM.start (by decide) (Nat.le_of_ble_eq_true rfl) ?_
  intro p e s m below meth c ls hx hb hr hml hown hlocks hnm hts hG ⟨hT_this, hT_lst, hT_arr, hq0⟩ hS hl
  have hown : s.vm.findClass RJ19 = some m.cls := hown
  have hS0 : xS p m c cJ19_next 3 s _ RJ19 := ⟨hx, hb, hml, hown, hts⟩
  have hl : lv_has ls 3 [(0, .ref (q0))] := hl
  have hG0 := hG
  refine lv_aload_n hx hb dJ19_next_0 rfl (lv_at hl 0 rfl) ?_
  have hB := hS.1
  have hL_this : q0 < _ := hT_this.lt
  have hL_lst : q1 < _ := hT_lst.lt
  have hL_arr : a1 < _ := hT_arr.lt
  refine gcV (As := []) (rest := []) hS0 (met_J19_checkForComodification l D E q0 k lr n q1 a1 hne_this_lst) q1848 q1849 q1850 q133 q1851 hd_J19_checkForComodification ⟨Nat.le_of_ble_eq_true rfl, Nat.le_of_ble_eq_true rfl⟩ hG (rcv hG cl_J19 hT_this) ⟨hT_this, hT_lst⟩ rfl hl.1 rfl (Nat.le_of_ble_eq_true rfl) dJ19_next_1 ⟨Nat.le_of_ble_eq_true rfl, Nat.le_of_ble_eq_true rfl⟩ hS (fun q h => h.elim) (fun q h => h.elim) (fun v H1 locs1 hP hz hk hS => ?_)
  obtain rfl := hP
  have hT_this : va_at D vwCl (q0, .inr (15, [.int (nI k), .int (lr), .int (nI n), .ref (q1)])) H1 := hT_this.kept (hk _ hT_this.lt id)
  have hT_lst : va_at D vwCl (q1, .inr (13, [.int (nI n), .ref (a1), .int (nI n)])) H1 := hT_lst.kept (hk _ hT_lst.lt id)
  have hT_arr : va_at D vwCl (a1, arQ E cap g) H1 := hT_arr.kept (hk _ hT_arr.lt id)
  have hG := gE.ofS hG0 hS (fun q h => by have h : q = q0 := h; rw [h]; exact hq0)
  refine W.eq (g2 := F0 m 4 ls []) rfl ?_
  refine lv_aload_n hx hb dJ19_next_4 rfl (lv_at hl 0 rfl) ?_
  refine gf (v := .int (nI k)) (C := RJ19) (T := TJ19) (N := 4) (k := 0) hx hb hts hown hG cl_J19 in_J19 hT_this (by decide) q1816 rfl dJ19_next_5 ?_
  refine lv_istore_n (lv' := [(1, .int (nI k)), (0, .ref (q0))]) hx hb dJ19_next_8 rfl hl (Nat.le_of_ble_eq_true rfl) rfl (fun ls hl => ?_)
  refine lv_iload_n hx hb dJ19_next_9 rfl (lv_at hl 0 rfl) ?_
  refine lv_aload_n hx hb dJ19_next_10 rfl (lv_at hl 1 rfl) ?_
  refine gf (v := .ref (q1)) (C := RJ19) (T := TJ19) (N := 4) (k := 3) hx hb hts hown hG cl_J19 in_J19 hT_this (by decide) q1819 rfl dJ19_next_11 ?_
  refine gfN (v := .int (nI n)) (C := RJ2) (T := TJ2) (N := 3) (k := 2) hx hb hts hown hG cl_J2 in_J2 hT_lst (by decide) q165 rfl dJ19_next_14 ?_
  refine lv_icmp_lt (tgt := 28) hx hb dJ19_next_17 (by decide) (fun _ => ?_) (fun c9 => absurd ((nI_lt hkn (by omega))) c9)
  refine lv_aload_n hx hb dJ19_next_28 rfl (lv_at hl 1 rfl) ?_
  refine gf (v := .ref (q1)) (C := RJ19) (T := TJ19) (N := 4) (k := 3) hx hb hts hown hG cl_J19 in_J19 hT_this (by decide) q1819 rfl dJ19_next_29 ?_
  refine gf (v := .ref (a1)) (C := RJ2) (T := TJ2) (N := 3) (k := 1) hx hb hts hown hG cl_J2 in_J2 hT_lst (by decide) q164 rfl dJ19_next_32 ?_
  refine lv_astore_n (lv' := [(2, .ref (a1)), (1, .int (nI k)), (0, .ref (q0))]) hx hb dJ19_next_35 rfl hl (Nat.le_of_ble_eq_true rfl) rfl (fun ls hl => ?_)
  refine lv_iload_n hx hb dJ19_next_36 rfl (lv_at hl 1 rfl) ?_
  refine lv_aload_n hx hb dJ19_next_37 rfl (lv_at hl 0 rfl) ?_
  refine gl (N := cap) hx hb hG hT_arr (t := 2) rfl rfl dJ19_next_38 ?_
  refine lv_icmp_lt (tgt := 50) hx hb dJ19_next_39 (by decide) (fun _ => ?_) (fun c9 => absurd ((nI_lt (Nat.lt_of_lt_of_le hkn hncap) (by omega))) c9)
  refine lv_aload_n hx hb dJ19_next_50 rfl (lv_at hl 2 rfl) ?_
  refine lv_iload_n hx hb dJ19_next_51 rfl (lv_at hl 1 rfl) ?_
  refine lv_iconst (v := 1) hx hb dJ19_next_52 (by decide) ?_
  refine lv_iadd hx hb dJ19_next_53 ?_
  refine lv_eq (nI_add k 1) ?_
  have hB := hS.1
  have hL_this : q0 < _ := hT_this.lt
  have hL_lst : q1 < _ := hT_lst.lt
  have hL_arr : a1 < _ := hT_arr.lt
  refine pf (ty0 := tyJ19) (ty := tyJ19 0) (v := .int (nI (k + 1))) (C := RJ19) (T := TJ19) (N := 4) (k := 0) hx hb hts hown hG hS cl_J19 in_J19 tyJ19_ok nmJ19 hT_this (Or.inl rfl) (Or.inl rfl) (by decide) q1816 rfl (tyJ19_ok 0 (by decide)) rfl rfl (Nat.le_of_ble_eq_true rfl) dJ19_next_54 (fun H1 locs1 he hz hq hS => ?_)
  have hT_lst : va_at D vwCl (q1, .inr (13, [.int (nI n), .ref (a1), .int (nI n)])) H1 := hT_lst.kept (hq _ (fun e9 => absurd e9 hne_this_lst.symm))
  have hT_arr : va_at D vwCl (a1, arQ E cap g) H1 := hT_arr.kept (hq _ (fun e9 => absurd e9 hne_this_arr.symm))
  have hT_this : va_at D vwCl (q0, .inr (15, [.int (nI (k + 1)), .int (lr), .int (nI n), .ref (q1)])) H1 := he
  have hG := gE.ofS hG0 hS (fun q h => by have h : q = q0 := h; rw [h]; exact hq0)
  refine lv_aload_n hx hb dJ19_next_57 rfl (lv_at hl 0 rfl) ?_
  refine lv_aload_n hx hb dJ19_next_58 rfl (lv_at hl 2 rfl) ?_
  refine lv_iload_n hx hb dJ19_next_59 rfl (lv_at hl 1 rfl) ?_
  refine lv_dup_x1 hx hb dJ19_next_60 rfl rfl ?_
  have hB := hS.1
  have hL_this : q0 < _ := hT_this.lt
  have hL_lst : q1 < _ := hT_lst.lt
  have hL_arr : a1 < _ := hT_arr.lt
  refine pf (ty0 := tyJ19) (ty := tyJ19 1) (v := .int (nI k)) (C := RJ19) (T := TJ19) (N := 4) (k := 1) hx hb hts hown hG hS cl_J19 in_J19 tyJ19_ok nmJ19 hT_this (Or.inl rfl) (Or.inl rfl) (by decide) q1817 rfl (tyJ19_ok 1 (by decide)) rfl rfl (Nat.le_of_ble_eq_true rfl) dJ19_next_61 (fun H1 locs1 he hz hq hS => ?_)
  have hT_lst : va_at D vwCl (q1, .inr (13, [.int (nI n), .ref (a1), .int (nI n)])) H1 := hT_lst.kept (hq _ (fun e9 => absurd e9 hne_this_lst.symm))
  have hT_arr : va_at D vwCl (a1, arQ E cap g) H1 := hT_arr.kept (hq _ (fun e9 => absurd e9 hne_this_arr.symm))
  have hT_this : va_at D vwCl (q0, .inr (15, [.int (nI (k + 1)), .int (nI k), .int (nI n), .ref (q1)])) H1 := he
  have hG := gE.ofS hG0 hS (fun q h => by have h : q = q0 := h; rw [h]; exact hq0)
  refine gaQ (N := cap) (k := k) hx hb hG hT_arr (Nat.lt_of_lt_of_le hkn hncap) (by omega) hgz dJ19_next_64 ?_
  exact g_aret hx hb hr (Or.inl ⟨_, rfl⟩) hlocks hS ⟨Nat.le_of_ble_eq_true rfl, Nat.le_of_ble_eq_true rfl⟩ dJ19_next_65 (by skip; exact ⟨rfl, hT_this⟩)

theorem met_isPresentE (l : Launch) (D : va_G) (E : Nat → Nat) : PM l D E yJ20_isPresent cJ20_isPresent 1 (Option.some Jvm.ClassFile.FieldType.boolean) 0 0 [.ref (E 7)] (fun _ => True) (some (.int (bI false))) := by
  refine PM.start (by decide) (Nat.le_of_ble_eq_true rfl) ?_
  intro p e s m below meth c ls hx hb hr hml hown hlocks hts hG hT hl
  have hown : s.vm.findClass RJ20 = some m.cls := hown
  have hl : lv_has ls 1 [(0, .ref (E 7))] := hl
  refine lv_aload_n hx hb dJ20_isPresent_0 rfl (lv_at hl 0 rfl) ?_
  refine vk_getf hx hb hG.2.2.2.2.2.2.2.2.2.2.2.2.1 va_S.rf hown (hts _ q719) (fun _ h => h) dJ20_isPresent_1 ?_
  refine lv_ifnullN (tgt := 11) hx hb dJ20_isPresent_4 (by decide) ?_
  refine lv_iconst (v := 0) hx hb dJ20_isPresent_11 (by decide) ?_
  exact p_zret (b := false) hx hb hr hlocks dJ20_isPresent_12 rfl rfl

set_option maxHeartbeats 4000000 in
set_option maxRecDepth 100000 in
theorem met_J20_get (l : Launch) (D : va_G) (E : Nat → Nat) {q0 a0 : Nat}   : PM l D E yJ20_get cJ20_get 1 (Option.some (Jvm.ClassFile.FieldType.object "java/lang/Object")) 0 0 [.ref (q0)] (fun h => va_at D vwCl (q0, .inr (16, [.ref a0])) h) (some (.ref a0)) := by
  refine PM.start (by decide) (Nat.le_of_ble_eq_true rfl) ?_
  intro p e s m below meth c ls hx hb hr hml hown hlocks hts hG hQ hl
  have hown : s.vm.findClass RJ20 = some m.cls := hown
  have hS0 : xS p m c cJ20_get 1 s _ RJ20 := ⟨hx, hb, hml, hown, hts⟩
  have hl : lv_has ls 1 [(0, .ref (q0))] := hl
  refine lv_aload_n hx hb dJ20_get_0 rfl (lv_at hl 0 rfl) ?_
  refine gf (v := .ref (a0)) (C := RJ20) (T := TJ20) (N := 1) (k := 0) hx hb hts hown hG cl_J20 in_J20 hQ (by decide) q719 rfl dJ20_get_1 ?_
  refine lv_ifnonnull (tgt := 17) hx hb dJ20_get_4 (by decide) ?_
  refine lv_aload_n hx hb dJ20_get_17 rfl (lv_at hl 0 rfl) ?_
  refine gf (v := .ref (a0)) (C := RJ20) (T := TJ20) (N := 1) (k := 0) hx hb hts hown hG cl_J20 in_J20 hQ (by decide) q719 rfl dJ20_get_18 ?_
  exact p_aret hx hb hr (Or.inl ⟨_, rfl⟩) hlocks dJ20_get_21 rfl

def fisPresentS  : Bool :=
  true
set_option maxHeartbeats 4000000 in
set_option maxRecDepth 100000 in
theorem met_isPresentS (l : Launch) (D : va_G) (E : Nat → Nat) {q0 a0 : Nat}   : PM l D E yJ20_isPresent cJ20_isPresent 1 (Option.some Jvm.ClassFile.FieldType.boolean) 0 0 [.ref (q0)] (fun h => va_at D vwCl (q0, .inr (16, [.ref a0])) h) (some (.int (bI (fisPresentS )))) := by
  generalize hR : fisPresentS  = r
  refine PM.start (by decide) (Nat.le_of_ble_eq_true rfl) ?_
  intro p e s m below meth c ls hx hb hr hml hown hlocks hts hG hQ hl
  have hown : s.vm.findClass RJ20 = some m.cls := hown
  have hS0 : xS p m c cJ20_isPresent 1 s _ RJ20 := ⟨hx, hb, hml, hown, hts⟩
  have hl : lv_has ls 1 [(0, .ref (q0))] := hl
  unfold fisPresentS at hR
  refine lv_aload_n hx hb dJ20_isPresent_0 rfl (lv_at hl 0 rfl) ?_
  refine gf (v := .ref (a0)) (C := RJ20) (T := TJ20) (N := 1) (k := 0) hx hb hts hown hG cl_J20 in_J20 hQ (by decide) q719 rfl dJ20_isPresent_1 ?_
  refine lv_ifnull hx hb dJ20_isPresent_4 ?_
  refine lv_iconst (v := 1) hx hb dJ20_isPresent_7 (by decide) ?_
  refine lv_goto (tgt := 12) hx hb dJ20_isPresent_8 (by decide) ?_
  exact p_zret (b := true) hx hb hr hlocks dJ20_isPresent_12 rfl (by rw [← hR])

