/-! the agency: taking, fixing, illness -/
set_option maxRecDepth 100000
def fX1_take (σ : St) (wi : Nat) (bs : Int32) (np : Nat) (fc : Nat → Int32) : Option (St) :=
  (fun (σ1 : St) => (fun (σ2 : St) => (fun (σ3 : St) => (some σ3)) (sW σ2 25 wi (((((fX12_cost bs np fc)) * 6) / 5) + 50))) (sW σ1 24 wi bs)) (sN σ 5 wi 1)
set_option maxHeartbeats 4000000 in
set_option maxRecDepth 100000 in
theorem met_X1_take (l : Launch) (D : va_G) (E : Nat → Nat) {α : Nat → Nat → Nat} {F : Nat → Prop} {σ : St} (wi : Nat) (q0 : Nat) (wf : Bool) (hd : Int32) (qc : Nat) (cb : Bool) (mn : Int32) (bs : Int32) (np : Nat) (fc : Nat → Int32) (h_wi : wi < nW σ) (hdF_all : ¬ F q0) (hdF_cs : ¬ F qc) (hne_all_cs : q0 ≠ qc) (hnp : np ≤ 10) {r : St} (hR : fX1_take σ wi bs np fc = some r) : GM l D E yX1_take cX1_take 4 (Option.none : Option Jvm.ClassFile.FieldType) 3 64 0 0 [.ref (α 0 0), .int (nI wi), .ref (q0)] (fun h => RX D E α F σ h ∧ va_at D vwCl (q0, .inr (10, [.ref (α 5 wi), .ref (α 9 (wBand σ wi)), .int (bI wf), .int (hd), .ref (qc), .int (bI cb), .int (mn), .int (bs), .ref (α 0 0)])) h ∧ va_at D vwCl (qc, arI E np fc) h) F F (fun sz v h => v = none ∧ RX D E α (fN F sz) r h ∧ cnt r σ)  := by
  refine GM.start (by decide) (Nat.le_of_ble_eq_true rfl) ?_
  intro p e s m below meth c ls hx hb hr hml hown hlocks hnm hts hG ⟨hX, hT_all, hT_cs⟩ hS hl
  have hown : s.vm.findClass RX1 = some m.cls := hown
  have hS0 : xS p m c cX1_take 4 s _ RX1 := ⟨hx, hb, hml, hown, hts⟩
  have hl : lv_has ls 4 [(0, .ref (α 0 0)), (1, .int (nI wi)), (2, .ref (q0))] := hl
  have hG0 := hG
  have hX0 := hX
  have hb0P := hX0.nP10
  have hb0B := hX0.nB6
  have hb0W := hX0.nW14
  have hFE := hX.fE
  obtain ⟨Fc, hX, hFn⟩ := hX.nar
  have hFa : ∀ q, Fc q → fN F s.heap.size q := fun q z => Or.inl (hFn q z).1
  have hFb : ∀ q, Fc q → q < s.heap.size := fun q z => (hFn q z).2
  have hcn : cnt σ σ := cnt.rf
  have hd_all : ¬ Fc q0 := fun z => hdF_all (hFn _ z).1
  have hd_cs : ¬ Fc qc := fun z => hdF_cs (hFn _ z).1
  unfold fX1_take at hR
  refine lv_aload_n hx hb dX1_take_0 rfl (lv_at hl 0 rfl) ?_
  refine gf (v := .ref (α 1 3)) (C := RX1) (T := TX1) (N := 6) (k := 4) hx hb hts hown hG cl_X1 in_X1 hX.ag (by decide) q307 rfl dX1_take_1 ?_
  refine lv_iload_n hx hb dX1_take_4 rfl (lv_at hl 1 rfl) ?_
  refine pcF (x := xL_get) (ci := 13) (As := [.int (nI wi)]) (rest := []) hG.fw_get hS0 (met_xl_get l D E (j := 3) (by decide) wi h_wi) q344 q347 q349 q103 q351 hd_xL_get ⟨Nat.le_of_ble_eq_true rfl, Nat.le_of_ble_eq_true rfl⟩ hG cl_J2 (hX.lsR hG (j := 3) (by decide)) hX rfl hl.1 rfl (Nat.le_of_ble_eq_true rfl) dX1_take_5 ⟨Nat.le_of_ble_eq_true rfl, Nat.le_of_ble_eq_true rfl⟩ ?_
  refine W.eq (g2 := F0 m 10 ls [.ref (α 5 wi)]) rfl ?_
  refine gc (ci := 8) hx hb hown hG cl_X10 (rcv hG cl_X10 (hX.wd h_wi)) (hts _ q369) dX1_take_10 ?_
  refine lv_astore_n (lv' := [(3, .ref (α 5 wi)), (0, .ref (α 0 0)), (1, .int (nI wi)), (2, .ref (q0))]) hx hb dX1_take_13 rfl hl (Nat.le_of_ble_eq_true rfl) rfl (fun ls hl => ?_)
  refine lv_aload_n hx hb dX1_take_14 rfl (lv_at hl 0 rfl) ?_
  refine gs hx hb (hG.en (i := 1) (by decide)) hown (hts _ q363) (fun _ h => h) dX1_take_15 ?_
  refine pfN (ty0 := tyX10) (ty := tyX10 7) (v := .ref (E (10 + 1))) (C := RX10) (T := TX10) (N := 12) (k := 7) hx hb hts hown hG hS cl_X10 in_X10 tyX10_ok nmX10 (hX.wd h_wi) (hFa _ (hX.wdF h_wi)) (hFa _ (hX.wdF h_wi)) (by decide) q1025 rfl (tyX10_ok 7 (by decide)) rfl rfl (Nat.le_of_ble_eq_true rfl) dX1_take_18 (fun H1 locs1 he hz hq hS => ?_)
  have hT_all : va_at D vwCl (q0, .inr (10, [.ref (α 5 wi), .ref (α 9 (wBand σ wi)), .int (bI wf), .int (hd), .ref (qc), .int (bI cb), .int (mn), .int (bs), .ref (α 0 0)])) H1 := hT_all.kept (hq _ (fun e9 => hd_all (by have e9 : q0 = _ := e9; rw [e9]; exact (hX.wdF h_wi))))
  have hT_cs : va_at D vwCl (qc, arI E np fc) H1 := hT_cs.kept (hq _ (fun e9 => hd_cs (by have e9 : qc = _ := e9; rw [e9]; exact (hX.wdF h_wi))))
  have hX := hX.Pwst h_wi (v := 1) (by decide) he hq
  have hG := gE.ofS hG0 hS hFE
  obtain ⟨σ1, hσ1⟩ : ∃ x, x = sN σ 5 wi 1 := ⟨_, rfl⟩
  rw [← hσ1] at hR hX
  have hcn : cnt σ1 σ := by rw [hσ1]; exact hcn.sN (by decide)
  try dsimp only at hR
  refine lv_aload_n hx hb dX1_take_21 rfl (lv_at hl 0 rfl) ?_
  refine lv_aload_n hx hb dX1_take_22 rfl (lv_at hl 3 rfl) ?_
  refine gfN (v := .int (bs)) (C := RX12) (T := TX12) (N := 9) (k := 7) hx hb hts hown hG cl_X12 in_X12 hT_all (by decide) q584 rfl dX1_take_23 ?_
  refine pfN (ty0 := tyX10) (ty := tyX10 8) (v := .int (bs)) (C := RX10) (T := TX10) (N := 12) (k := 8) hx hb hts hown hG hS cl_X10 in_X10 tyX10_ok nmX10 (hX.wd (hcn.w h_wi)) (hFa _ (hX.wdF (hcn.w h_wi))) (hFa _ (hX.wdF (hcn.w h_wi))) (by decide) q1027 rfl (tyX10_ok 8 (by decide)) rfl rfl (Nat.le_of_ble_eq_true rfl) dX1_take_26 (fun H1 locs1 he hz hq hS => ?_)
  have hT_all : va_at D vwCl (q0, .inr (10, [.ref (α 5 wi), .ref (α 9 (wBand σ wi)), .int (bI wf), .int (hd), .ref (qc), .int (bI cb), .int (mn), .int (bs), .ref (α 0 0)])) H1 := hT_all.kept (hq _ (fun e9 => hd_all (by have e9 : q0 = _ := e9; rw [e9]; exact (hX.wdF (hcn.w h_wi)))))
  have hT_cs : va_at D vwCl (qc, arI E np fc) H1 := hT_cs.kept (hq _ (fun e9 => hd_cs (by have e9 : qc = _ := e9; rw [e9]; exact (hX.wdF (hcn.w h_wi)))))
  have hX := hX.Pw24 (hcn.w h_wi) he hq
  have hG := gE.ofS hG0 hS hFE
  obtain ⟨σ2, hσ2⟩ : ∃ x, x = sW σ1 24 wi bs := ⟨_, rfl⟩
  rw [← hσ2] at hR hX
  have hcn : cnt σ2 σ := by rw [hσ2]; exact hcn.sW
  try dsimp only at hR
  refine lv_aload_n hx hb dX1_take_29 rfl (lv_at hl 0 rfl) ?_
  refine lv_aload_n hx hb dX1_take_30 rfl (lv_at hl 3 rfl) ?_
  have hB := hS.1
  have hL_all : q0 < _ := hT_all.lt
  have hL_cs : qc < _ := hT_cs.lt
  refine gcV (As := []) (rest := [.ref (α 5 wi)]) hS0 (met_X12_cost l D E q0 wi (wBand σ wi) wf hd qc cb mn bs np fc (by omega) hne_all_cs) q609 q610 q611 q132 q612 hd_X12_cost ⟨Nat.le_of_ble_eq_true rfl, Nat.le_of_ble_eq_true rfl⟩ hG (rcv hG cl_X12 hT_all) ⟨hT_all, hT_cs⟩ rfl hl.1 rfl (Nat.le_of_ble_eq_true rfl) dX1_take_31 ⟨Nat.le_of_ble_eq_true rfl, Nat.le_of_ble_eq_true rfl⟩ hS (fun q h => h.elim) (fun q h => h.elim) (fun v H1 locs1 hP hz hk hS => ?_)
  obtain rfl := hP
  have hT_all : va_at D vwCl (q0, .inr (10, [.ref (α 5 wi), .ref (α 9 (wBand σ wi)), .int (bI wf), .int (hd), .ref (qc), .int (bI cb), .int (mn), .int (bs), .ref (α 0 0)])) H1 := hT_all.kept (hk _ hT_all.lt id)
  have hT_cs : va_at D vwCl (qc, arI E np fc) H1 := hT_cs.kept (hk _ hT_cs.lt id)
  have hX := hX.kept (fun q h4 _ => hk q h4 id)
  have hG := gE.ofS hG0 hS hFE
  refine W.eq (g2 := F0 m 34 ls [.int ((fX12_cost bs np fc)), .ref (α 5 wi)]) rfl ?_
  refine lv_bipush (v := 6) hx hb dX1_take_34 (by decide) ?_
  refine lv_imul hx hb dX1_take_36 ?_
  refine lv_iconst (v := 5) hx hb dX1_take_37 (by decide) ?_
  refine lv_idiv hx hb dX1_take_38 (by decide) ?_
  refine lv_bipush (v := 50) hx hb dX1_take_39 (by decide) ?_
  refine lv_iadd hx hb dX1_take_41 ?_
  refine pfN (ty0 := tyX10) (ty := tyX10 9) (v := .int (((((fX12_cost bs np fc)) * 6) / 5) + 50)) (C := RX10) (T := TX10) (N := 12) (k := 9) hx hb hts hown hG hS cl_X10 in_X10 tyX10_ok nmX10 (hX.wd (hcn.w h_wi)) (hFa _ (hX.wdF (hcn.w h_wi))) (hFa _ (hX.wdF (hcn.w h_wi))) (by decide) q1029 rfl (tyX10_ok 9 (by decide)) rfl rfl (Nat.le_of_ble_eq_true rfl) dX1_take_42 (fun H1 locs1 he hz hq hS => ?_)
  have hT_all : va_at D vwCl (q0, .inr (10, [.ref (α 5 wi), .ref (α 9 (wBand σ wi)), .int (bI wf), .int (hd), .ref (qc), .int (bI cb), .int (mn), .int (bs), .ref (α 0 0)])) H1 := hT_all.kept (hq _ (fun e9 => hd_all (by have e9 : q0 = _ := e9; rw [e9]; exact (hX.wdF (hcn.w h_wi)))))
  have hT_cs : va_at D vwCl (qc, arI E np fc) H1 := hT_cs.kept (hq _ (fun e9 => hd_cs (by have e9 : qc = _ := e9; rw [e9]; exact (hX.wdF (hcn.w h_wi)))))
  have hX := hX.Pw25 (hcn.w h_wi) he hq
  have hG := gE.ofS hG0 hS hFE
  obtain ⟨σ3, hσ3⟩ : ∃ x, x = sW σ2 25 wi (((((fX12_cost bs np fc)) * 6) / 5) + 50) := ⟨_, rfl⟩
  rw [← hσ3] at hR hX
  have hcn : cnt σ3 σ := by rw [hσ3]; exact hcn.sW
  try dsimp only at hR
  exact g_vret hx hb hr hlocks hS ⟨Nat.le_of_ble_eq_true rfl, Nat.le_of_ble_eq_true rfl⟩ dX1_take_45 (by cases hR; exact ⟨rfl, (hX.mono (fun q _ z => hFa q z) (fN_E hFE hG0.2.2.1)), hcn⟩)

def fX1_fix_L63 (σ : St) (a : Int32) (r4 : (Nat → Int32) × Bool × Int32 × Int32) (κ : St → Option (Nat × Int32 × St)) : Nat → Nat → St → Option (Nat × Int32 × St)
  | 0, i4, σ3 => κ σ3
  | n + 1, i4, σ3 => (if ((fX10_isQueued σ3 i4 (nI (wBand σ3 ((Int32.toNatClampNeg a)))) (nI (wDay σ3 ((Int32.toNatClampNeg a)))))) = true then (fun (σ5 : St) => fX1_fix_L63 σ a r4 κ n (i4 + 1) σ5) (sN σ3 5 i4 3) else (fun (σ4 : St) => fX1_fix_L63 σ a r4 κ n (i4 + 1) σ4) (sN σ3 5 i4 (wState σ3 i4)))
def fX1_fix (σ : St) (a : Int32) : Option (Nat × Int32 × St) :=
  (if 0 ≤ a ∧ a < nI (nW σ) then (if ((fX1_place σ ((Int32.toNatClampNeg a)))) = 0 then (Option.bind (fX1_fillings σ ((Int32.toNatClampNeg a))) (fun (r4 : (Nat → Int32) × Bool × Int32 × Int32) => (if r4.2.2.2 = ((-1)) then (some (3, 0, σ)) else (Option.bind (fX1_take σ ((Int32.toNatClampNeg a)) r4.2.2.2 (nP σ) r4.1) (fun (r7 : St) => (fun (σ1 : St) => (fun (σ2 : St) => fX1_fix_L63 σ a r4 (fun (σ6 : St) => (some (0, wPrice σ6 ((Int32.toNatClampNeg a)), σ6))) (nW σ) 0 σ2) (sW σ1 26 ((Int32.toNatClampNeg a)) ((wPrice σ1 ((Int32.toNatClampNeg a))) / 5))) (r7)))))) else (some (3, 0, σ))) else (some (1, 0, σ)))
set_option maxHeartbeats 4000000 in
set_option maxRecDepth 100000 in
theorem met_X1_fix (l : Launch) (D : va_G) (E : Nat → Nat) (hlf : l.stackTraces = false) {α : Nat → Nat → Nat} {F : Nat → Prop} {σ : St} (a : Int32)  {r : Nat × Int32 × St} (hR : fX1_fix σ a = some r) : XM l D E yX1_fix cX1_fix 6 (Option.some Jvm.ClassFile.FieldType.int) 435 9348 5 37 [.ref (α 0 0), .int (a)] (RX D E α F σ) F F (fun sz v h => r.1 = 0 ∧ v = some (.int r.2.1) ∧ RX D E α (fN F sz) r.2.2 h ∧ cnt r.2.2 σ) (fun sz X h => X = exN r.1 ∧ r.1 ≠ 0 ∧ RX D E α (fN F sz) σ h) := by
  refine XM.start (by decide) (Nat.le_of_ble_eq_true rfl) ?_
  intro p e s m below meth c ls hx hb hr hml hown hlocks hex hts hG hX hS hl
  have hown : s.vm.findClass RX1 = some m.cls := hown
  have hS0 : xS p m c cX1_fix 6 s _ RX1 := ⟨hx, hb, hml, hown, hts⟩
  have hl : lv_has ls 6 [(0, .ref (α 0 0)), (1, .int (a))] := hl
  have hG0 := hG
  have hX0 := hX
  have hb0P := hX0.nP10
  have hb0B := hX0.nB6
  have hb0W := hX0.nW14
  have hFE := hX.fE
  obtain ⟨Fc, hX, hFn⟩ := hX.nar
  have hFa : ∀ q, Fc q → fN F s.heap.size q := fun q z => Or.inl (hFn q z).1
  have hFb : ∀ q, Fc q → q < s.heap.size := fun q z => (hFn q z).2
  have hcn : cnt σ σ := cnt.rf
  have hL63 : ∀ (r4 : (Nat → Int32) × Bool × Int32 × Int32) (q24 : Nat) (qc24 : Nat) (hge_fo24 : s.heap.size ≤ q24) (hne_fo24_cs24 : q24 ≠ qc24) (hge_cs24 : s.heap.size ≤ qc24) (hf63_0 : (Int32.toNatClampNeg a) < nW σ) (hg63_0 : a = nI ((Int32.toNatClampNeg a))) (κ : St → Option (Nat × Int32 × St)) (hκ : ∀ (σ3 : St) (H : Heap) (locs : List Loc) (Fc : Nat → Prop) (ls : Array Slot), κ σ3 = some r → cnt σ3 σ → RX D E α Fc σ3 H → (∀ q, Fc q → fN F s.heap.size q) → (∀ q, Fc q → q < H.size) → ¬ Fc q24 → ¬ Fc qc24 → va_at D vwCl (q24, .inr (10, [.ref (α 5 ((Int32.toNatClampNeg a))), .ref (α 9 (wBand σ ((Int32.toNatClampNeg a)))), .int (bI true), .int (0), .ref (qc24), .int (bI r4.2.1), .int (r4.2.2.1), .int (r4.2.2.2), .ref (α 0 0)])) H → va_at D vwCl (qc24, arI E (nP σ) r4.1) H → xK F F s.heap H locs → lv_has ls 6 [(2, .ref (α 5 (Int32.toNatClampNeg a)))] → W p l e { frames := 435, cells := 5, slots := 37, locals := 9348 } s m [(.ref (α 0 0) : Value), .int (a)].toArray below meth c H locs 5 37 (vx_MQ below (qG F ((fun sz v h => r.1 = 0 ∧ v = some (.int r.2.1) ∧ RX D E α (fN F sz) r.2.2 h ∧ cnt r.2.2 σ) s.heap.size)) (qX F ((fun sz X h => X = exN r.1 ∧ r.1 ≠ 0 ∧ RX D E α (fN F sz) σ h) s.heap.size)) [(.ref (α 0 0) : Value), .int (a)].toArray s 5 37 (fN F s.heap.size)) (F0 m 131 ls [])) (n : Nat) (i4 : Nat) (σ3 : St), i4 + n = nW σ → fX1_fix_L63 σ a r4 κ n i4 σ3 = some r → ∀ (H : Heap) (locs : List Loc) (Fc : Nat → Prop), cnt σ3 σ → RX D E α Fc σ3 H → (∀ q, Fc q → fN F s.heap.size q) → (∀ q, Fc q → q < H.size) → ¬ Fc q24 → ¬ Fc qc24 → va_at D vwCl (q24, .inr (10, [.ref (α 5 ((Int32.toNatClampNeg a))), .ref (α 9 (wBand σ ((Int32.toNatClampNeg a)))), .int (bI true), .int (0), .ref (qc24), .int (bI r4.2.1), .int (r4.2.2.1), .int (r4.2.2.2), .ref (α 0 0)])) H → va_at D vwCl (qc24, arI E (nP σ) r4.1) H → xK F F s.heap H locs → ∀ (ls : Array Slot), lv_has ls 6 [(0, .ref (α 0 0)), (2, .ref (α 5 (Int32.toNatClampNeg a))), (4, .int (nI i4))] → W p l e { frames := 435, cells := 5, slots := 37, locals := 9348 } s m [(.ref (α 0 0) : Value), .int (a)].toArray below meth c H locs 5 37 (vx_MQ below (qG F ((fun sz v h => r.1 = 0 ∧ v = some (.int r.2.1) ∧ RX D E α (fN F sz) r.2.2 h ∧ cnt r.2.2 σ) s.heap.size)) (qX F ((fun sz X h => X = exN r.1 ∧ r.1 ≠ 0 ∧ RX D E α (fN F sz) σ h) s.heap.size)) [(.ref (α 0 0) : Value), .int (a)].toArray s 5 37 (fN F s.heap.size)) (F0 m 63 ls []) := by
    intro r4 q24 qc24 hge_fo24 hne_fo24_cs24 hge_cs24 hf63_0 hg63_0 κ hκ n
    induction n with
    | zero =>
      intro i4 σ3 hn hR H locs Fc hcn hX hFa hFb hd_fo24 hd_cs24 hT_fo24 hT_cs24 hS ls hl
      rw [fX1_fix_L63] at hR
      have hG := gE.ofS hG0 hS hFE
      refine lv_iload hx hb dX1_fix_63 (lv_at hl 2 rfl) ?_
      refine lv_aload_n hx hb dX1_fix_65 rfl (lv_at hl 0 rfl) ?_
      refine gf (v := .ref (α 1 3)) (C := RX1) (T := TX1) (N := 6) (k := 4) hx hb hts hown hG cl_X1 in_X1 hX.ag (by decide) q307 rfl dX1_fix_66 ?_
      refine pcF (x := xL_size) (ci := 13) (As := []) (rest := [.int (nI i4)]) hG.fw_size hS0 (met_xl_size l D E (j := 3) (by decide)) q331 q334 q336 q103 q338 hd_xL_size ⟨Nat.le_of_ble_eq_true rfl, Nat.le_of_ble_eq_true rfl⟩ hG cl_J2 (hX.lsR hG (j := 3) (by decide)) hX rfl hl.1 rfl (Nat.le_of_ble_eq_true rfl) dX1_fix_69 ⟨Nat.le_of_ble_eq_true rfl, Nat.le_of_ble_eq_true rfl⟩ ?_
      refine W.eq (g2 := F0 m 74 ls [.int (nI (nW σ3)), .int (nI i4)]) rfl ?_
      refine lk_ge_out (k := i4) (N := nW σ3) hx hb (Eq.trans hn hcn.2.2.symm) (tgt := 131) dX1_fix_74 (by decide) ?_
      exact hκ σ3 _ _ _ ls hR hcn hX hFa (fun q z => by have := hFb q z; omega) hd_fo24 hd_cs24 hT_fo24 hT_cs24 hS (lv_sub hl [1] rfl)
    | succ n ih =>
      intro i4 σ3 hn hR H locs Fc hcn hX hFa hFb hd_fo24 hd_cs24 hT_fo24 hT_cs24 hS ls hl
      rw [fX1_fix_L63] at hR
      have hG := gE.ofS hG0 hS hFE
      refine lv_iload hx hb dX1_fix_63 (lv_at hl 2 rfl) ?_
      refine lv_aload_n hx hb dX1_fix_65 rfl (lv_at hl 0 rfl) ?_
      refine gf (v := .ref (α 1 3)) (C := RX1) (T := TX1) (N := 6) (k := 4) hx hb hts hown hG cl_X1 in_X1 hX.ag (by decide) q307 rfl dX1_fix_66 ?_
      refine pcF (x := xL_size) (ci := 13) (As := []) (rest := [.int (nI i4)]) hG.fw_size hS0 (met_xl_size l D E (j := 3) (by decide)) q331 q334 q336 q103 q338 hd_xL_size ⟨Nat.le_of_ble_eq_true rfl, Nat.le_of_ble_eq_true rfl⟩ hG cl_J2 (hX.lsR hG (j := 3) (by decide)) hX rfl hl.1 rfl (Nat.le_of_ble_eq_true rfl) dX1_fix_69 ⟨Nat.le_of_ble_eq_true rfl, Nat.le_of_ble_eq_true rfl⟩ ?_
      refine W.eq (g2 := F0 m 74 ls [.int (nI (nW σ3)), .int (nI i4)]) rfl ?_
      have hki4 : i4 < nW σ := lk_lt hn
      refine lk_ge_in (k := i4) (N := nW σ3) hx hb (hcn.w hki4) (by have := hX.nP10; have := hX.nW14; have := hX.nB6; omega) (tgt := 131) dX1_fix_74 (by decide) ?_
      refine lv_aload_n hx hb dX1_fix_77 rfl (lv_at hl 0 rfl) ?_
      refine gf (v := .ref (α 1 3)) (C := RX1) (T := TX1) (N := 6) (k := 4) hx hb hts hown hG cl_X1 in_X1 hX.ag (by decide) q307 rfl dX1_fix_78 ?_
      refine lv_iload hx hb dX1_fix_81 (lv_at hl 2 rfl) ?_
      refine pcF (x := xL_get) (ci := 13) (As := [.int (nI i4)]) (rest := []) hG.fw_get hS0 (met_xl_get l D E (j := 3) (by decide) i4 (hcn.w hki4)) q344 q347 q349 q103 q351 hd_xL_get ⟨Nat.le_of_ble_eq_true rfl, Nat.le_of_ble_eq_true rfl⟩ hG cl_J2 (hX.lsR hG (j := 3) (by decide)) hX rfl hl.1 rfl (Nat.le_of_ble_eq_true rfl) dX1_fix_83 ⟨Nat.le_of_ble_eq_true rfl, Nat.le_of_ble_eq_true rfl⟩ ?_
      refine W.eq (g2 := F0 m 88 ls [.ref (α 5 i4)]) rfl ?_
      refine gc (ci := 8) hx hb hown hG cl_X10 (rcv hG cl_X10 (hX.wd (hcn.w hki4))) (hts _ q369) dX1_fix_88 ?_
      refine lv_astore (lv' := [(5, .ref (α 5 i4)), (0, .ref (α 0 0)), (2, .ref (α 5 (Int32.toNatClampNeg a))), (4, .int (nI i4))]) hx hb dX1_fix_91 hl (Nat.le_of_ble_eq_true rfl) rfl (fun ls hl => ?_)
      refine lv_aload hx hb dX1_fix_93 (lv_at hl 0 rfl) ?_
      refine lv_aload hx hb dX1_fix_95 (lv_at hl 0 rfl) ?_
      refine lv_aload_n hx hb dX1_fix_97 rfl (lv_at hl 2 rfl) ?_
      refine gfN (v := .int (nI (wBand σ3 ((Int32.toNatClampNeg a))))) (C := RX10) (T := TX10) (N := 12) (k := 0) hx hb hts hown hG cl_X10 in_X10 (hX.wd (hcn.w hf63_0)) (by decide) q1010 rfl dX1_fix_98 ?_
      refine lv_aload_n hx hb dX1_fix_101 rfl (lv_at hl 2 rfl) ?_
      refine gfN (v := .int (nI (wDay σ3 ((Int32.toNatClampNeg a))))) (C := RX10) (T := TX10) (N := 12) (k := 1) hx hb hts hown hG cl_X10 in_X10 (hX.wd (hcn.w hf63_0)) (by decide) q1012 rfl dX1_fix_102 ?_
      refine pcV (As := [.int (nI (wBand σ3 ((Int32.toNatClampNeg a)))), .int (nI (wDay σ3 ((Int32.toNatClampNeg a))))]) (rest := [.ref (α 5 i4)]) hS0 (met_X10_isQueued l D E i4 (nI (wBand σ3 ((Int32.toNatClampNeg a)))) (nI (wDay σ3 ((Int32.toNatClampNeg a)))) (hcn.w hki4)) q484 q485 q486 q130 q487 hd_X10_isQueued ⟨Nat.le_of_ble_eq_true rfl, Nat.le_of_ble_eq_true rfl⟩ hG (rcv hG cl_X10 (hX.wd (hcn.w hki4))) hX rfl hl.1 rfl (Nat.le_of_ble_eq_true rfl) dX1_fix_105 ⟨Nat.le_of_ble_eq_true rfl, Nat.le_of_ble_eq_true rfl⟩ ?_
      refine W.eq (g2 := F0 m 108 ls [.int (bI ((fX10_isQueued σ3 i4 (nI (wBand σ3 ((Int32.toNatClampNeg a)))) (nI (wDay σ3 ((Int32.toNatClampNeg a))))))), .ref (α 5 i4)]) rfl ?_
      refine lb_if_eq (tgt := 117) hx hb dX1_fix_108 (by decide) (fun c8 => ?_) (fun c8 => ?_)
      · rw [if_neg c8] at hR
        refine lv_aload hx hb dX1_fix_117 (lv_at hl 0 rfl) ?_
        refine gfN (v := .ref (E (10 + wState σ3 i4))) (C := RX10) (T := TX10) (N := 12) (k := 7) hx hb hts hown hG cl_X10 in_X10 (hX.wd (hcn.w hki4)) (by decide) q1025 rfl dX1_fix_119 ?_
        refine pfN (ty0 := tyX10) (ty := tyX10 7) (v := .ref (E (10 + wState σ3 i4))) (C := RX10) (T := TX10) (N := 12) (k := 7) hx hb hts hown hG hS cl_X10 in_X10 tyX10_ok nmX10 (hX.wd (hcn.w hki4)) (hFa _ (hX.wdF (hcn.w hki4))) (hFa _ (hX.wdF (hcn.w hki4))) (by decide) q1025 rfl (tyX10_ok 7 (by decide)) rfl rfl (Nat.le_of_ble_eq_true rfl) dX1_fix_122 (fun H1 locs1 he hz hq hS => ?_)
        have hT_fo24 : va_at D vwCl (q24, .inr (10, [.ref (α 5 ((Int32.toNatClampNeg a))), .ref (α 9 (wBand σ ((Int32.toNatClampNeg a)))), .int (bI true), .int (0), .ref (qc24), .int (bI r4.2.1), .int (r4.2.2.1), .int (r4.2.2.2), .ref (α 0 0)])) H1 := hT_fo24.kept (hq _ (fun e9 => hd_fo24 (by have e9 : q24 = _ := e9; rw [e9]; exact (hX.wdF (hcn.w hki4)))))
        have hT_cs24 : va_at D vwCl (qc24, arI E (nP σ) r4.1) H1 := hT_cs24.kept (hq _ (fun e9 => hd_cs24 (by have e9 : qc24 = _ := e9; rw [e9]; exact (hX.wdF (hcn.w hki4)))))
        have hX := hX.Pwst (hcn.w hki4) (v := wState σ3 i4) (hX.state (hcn.w hki4)) he hq
        have hG := gE.ofS hG0 hS hFE
        obtain ⟨σ4, hσ4⟩ : ∃ x, x = sN σ3 5 i4 (wState σ3 i4) := ⟨_, rfl⟩
        rw [← hσ4] at hR hX
        have hcn : cnt σ4 σ := by rw [hσ4]; exact hcn.sN (by decide)
        try dsimp only at hR
        refine lv_iinc (v := nI (i4 + 1)) (lv' := [(4, .int (nI (i4 + 1))), (5, .ref (α 5 i4)), (0, .ref (α 0 0)), (2, .ref (α 5 (Int32.toNatClampNeg a)))]) hx hb dX1_fix_125 hl (k := 3) rfl (nI_1 i4) (Nat.le_of_ble_eq_true rfl) rfl (fun ls hl => ?_)
        refine lv_goto (tgt := 63) hx hb dX1_fix_128 (by decide) ?_
        exact ih (i4 + 1) σ4 (lk_st hn) hR _ _ _ hcn hX hFa (fun q z => by have := hFb q z; omega) hd_fo24 hd_cs24 hT_fo24 hT_cs24 hS ls (lv_sub hl [2, 3, 0] rfl)
      · rw [if_pos c8] at hR
        refine gs hx hb (hG.en (i := 3) (by decide)) hown (hts _ q405) (fun _ h => h) dX1_fix_111 ?_
        refine lv_goto (tgt := 122) hx hb dX1_fix_114 (by decide) ?_
        refine pfN (ty0 := tyX10) (ty := tyX10 7) (v := .ref (E (10 + 3))) (C := RX10) (T := TX10) (N := 12) (k := 7) hx hb hts hown hG hS cl_X10 in_X10 tyX10_ok nmX10 (hX.wd (hcn.w hki4)) (hFa _ (hX.wdF (hcn.w hki4))) (hFa _ (hX.wdF (hcn.w hki4))) (by decide) q1025 rfl (tyX10_ok 7 (by decide)) rfl rfl (Nat.le_of_ble_eq_true rfl) dX1_fix_122 (fun H1 locs1 he hz hq hS => ?_)
        have hT_fo24 : va_at D vwCl (q24, .inr (10, [.ref (α 5 ((Int32.toNatClampNeg a))), .ref (α 9 (wBand σ ((Int32.toNatClampNeg a)))), .int (bI true), .int (0), .ref (qc24), .int (bI r4.2.1), .int (r4.2.2.1), .int (r4.2.2.2), .ref (α 0 0)])) H1 := hT_fo24.kept (hq _ (fun e9 => hd_fo24 (by have e9 : q24 = _ := e9; rw [e9]; exact (hX.wdF (hcn.w hki4)))))
        have hT_cs24 : va_at D vwCl (qc24, arI E (nP σ) r4.1) H1 := hT_cs24.kept (hq _ (fun e9 => hd_cs24 (by have e9 : qc24 = _ := e9; rw [e9]; exact (hX.wdF (hcn.w hki4)))))
        have hX := hX.Pwst (hcn.w hki4) (v := 3) (by decide) he hq
        have hG := gE.ofS hG0 hS hFE
        obtain ⟨σ5, hσ5⟩ : ∃ x, x = sN σ3 5 i4 3 := ⟨_, rfl⟩
        rw [← hσ5] at hR hX
        have hcn : cnt σ5 σ := by rw [hσ5]; exact hcn.sN (by decide)
        try dsimp only at hR
        refine lv_iinc (v := nI (i4 + 1)) (lv' := [(4, .int (nI (i4 + 1))), (5, .ref (α 5 i4)), (0, .ref (α 0 0)), (2, .ref (α 5 (Int32.toNatClampNeg a)))]) hx hb dX1_fix_125 hl (k := 3) rfl (nI_1 i4) (Nat.le_of_ble_eq_true rfl) rfl (fun ls hl => ?_)
        refine lv_goto (tgt := 63) hx hb dX1_fix_128 (by decide) ?_
        exact ih (i4 + 1) σ5 (lk_st hn) hR _ _ _ hcn hX hFa (fun q z => by have := hFb q z; omega) hd_fo24 hd_cs24 hT_fo24 hT_cs24 hS ls (lv_sub hl [2, 3, 0] rfl)
  unfold fX1_fix at hR
  refine lv_aload_n hx hb dX1_fix_0 rfl (lv_at hl 0 rfl) ?_
  refine lv_iload_n hx hb dX1_fix_1 rfl (lv_at hl 1 rfl) ?_
  have hB := hS.1
  refine xcV (As := [.int (a)]) (rest := []) hS0 (met_X1_weddingAt l D E hlf a _) q1066 q1068 qs42 q100 q1069 hd_X1_weddingAt ⟨Nat.le_of_ble_eq_true rfl, Nat.le_of_ble_eq_true rfl⟩ hG (rcv hG cl_X1 hX.ag) ⟨rfl, hX⟩ rfl hl.1 rfl (Nat.le_of_ble_eq_true rfl) dX1_fix_2 ⟨Nat.le_of_ble_eq_true rfl, Nat.le_of_ble_eq_true rfl⟩ hS (fun q h => h.elim) (fun q h => h.elim) (fun X ce q9 H1 locs1 hP hz hk hS9 h1 h2 h3 => ?_) (fun v H1 locs1 hP hz hk hS9 => ?_)
  · obtain ⟨rfl, hc9⟩ := hP
    have hS := hS9
    clear hS9
    rw [if_neg hc9] at hR
    exact x_out hex hlocks h1 h2 h3 hS ⟨Nat.le_of_ble_eq_true rfl, Nat.le_of_ble_eq_true rfl⟩ (by cases hR; exact ⟨rfl, Nat.succ_ne_zero _, ((hX.kept (fun q h4 _ => hk q h4 id)).mono (fun q _ z => hFa q z) (fN_E hFE hG0.2.2.1))⟩)
  · obtain ⟨rfl, hc9, rfl⟩ := hP
    have hS := hS9
    clear hS9
    rw [if_pos hc9] at hR
    have k1 := hc9
    have nk1 := ck_ix k1 (by have := hX.nP10; have := hX.nW14; have := hX.nB6; omega)
    refine W.eq (g2 := F0 m 5 ls [.ref (α 5 (Int32.toNatClampNeg a))]) rfl ?_
    refine lv_astore_n (lv' := [(2, .ref (α 5 (Int32.toNatClampNeg a))), (0, .ref (α 0 0)), (1, .int (a))]) hx hb dX1_fix_5 rfl hl (Nat.le_of_ble_eq_true rfl) rfl (fun ls hl => ?_)
    refine lv_aload_n hx hb dX1_fix_6 rfl (lv_at hl 1 rfl) ?_
    refine lv_iload_n hx hb dX1_fix_7 rfl (lv_at hl 2 rfl) ?_
    refine lv_eq nk1.1 ?_
    refine pcV (As := [.int (nI ((Int32.toNatClampNeg a)))]) (rest := []) hS0 (met_X1_place l D E ((Int32.toNatClampNeg a)) nk1.2) q480 q482 qs21 q100 q483 hd_X1_place ⟨Nat.le_of_ble_eq_true rfl, Nat.le_of_ble_eq_true rfl⟩ hG (rcv hG cl_X1 hX.ag) hX rfl hl.1 rfl (Nat.le_of_ble_eq_true rfl) dX1_fix_8 ⟨Nat.le_of_ble_eq_true rfl, Nat.le_of_ble_eq_true rfl⟩ ?_
    refine W.eq (g2 := F0 m 11 ls [.int ((fX1_place σ ((Int32.toNatClampNeg a))))]) rfl ?_
    refine lv_if_ne (tgt := 18) hx hb dX1_fix_11 (by decide) (fun c2 => ?_) (fun c2 => ?_)
    · rw [if_neg c2] at hR
      refine lv_iconst (v := 0) hx hb dX1_fix_18 (by decide) ?_
      have hB := hS.1
      refine xcS (As := [.int 0]) (rest := []) hS0 (met_X1_checkState l D E hlf false _) q885 q886 q100 q887 hd_X1_checkState ⟨Nat.le_of_ble_eq_true rfl, Nat.le_of_ble_eq_true rfl⟩ hG rfl rfl hl.1 rfl (Nat.le_of_ble_eq_true rfl) dX1_fix_19 ⟨Nat.le_of_ble_eq_true rfl, Nat.le_of_ble_eq_true rfl⟩ hS (fun q h => h.elim) (fun q h => h.elim) (fun X ce q9 H1 locs1 hP hz hk hS9 h1 h2 h3 => ?_) (fun v H1 locs1 hP hz hk hS9 => ?_)
      · obtain ⟨rfl, hc9⟩ := hP
        have hS := hS9
        clear hS9
        exact x_out hex hlocks h1 h2 h3 hS ⟨Nat.le_of_ble_eq_true rfl, Nat.le_of_ble_eq_true rfl⟩ (by cases hR; exact ⟨rfl, Nat.succ_ne_zero _, ((hX.kept (fun q h4 _ => hk q h4 id)).mono (fun q _ z => hFa q z) (fN_E hFE hG0.2.2.1))⟩)
      · exact absurd hP.2.1 (by decide)
    · rw [if_pos c2] at hR
      refine lv_iconst (v := 1) hx hb dX1_fix_14 (by decide) ?_
      refine lv_goto (tgt := 19) hx hb dX1_fix_15 (by decide) ?_
      have hB := hS.1
      refine xcS (As := [.int 1]) (rest := []) hS0 (met_X1_checkState l D E hlf true _) q885 q886 q100 q887 hd_X1_checkState ⟨Nat.le_of_ble_eq_true rfl, Nat.le_of_ble_eq_true rfl⟩ hG rfl rfl hl.1 rfl (Nat.le_of_ble_eq_true rfl) dX1_fix_19 ⟨Nat.le_of_ble_eq_true rfl, Nat.le_of_ble_eq_true rfl⟩ hS (fun q h => h.elim) (fun q h => h.elim) (fun X ce q9 H1 locs1 hP hz hk hS9 h1 h2 h3 => ?_) (fun v H1 locs1 hP hz hk hS9 => ?_)
      · exact absurd rfl hP.2
      · obtain ⟨rfl, hc9, rfl⟩ := hP
        have hS := hS9
        clear hS9
        refine W.eq (g2 := F0 m 22 ls []) rfl ?_
        refine lv_aload_n hx hb dX1_fix_22 rfl (lv_at hl 1 rfl) ?_
        refine lv_iload_n hx hb dX1_fix_23 rfl (lv_at hl 2 rfl) ?_
        refine lv_eq nk1.1 ?_
        rcases hc_r4 : (fX1_fillings σ ((Int32.toNatClampNeg a))) with _ | r4
        · rw [hc_r4] at hR
          cases hR
        rw [hc_r4] at hR
        try dsimp only [Option.bind] at hR
        have hB := hS.1
        refine gcV (As := [.int (nI ((Int32.toNatClampNeg a)))]) (rest := []) hS0 (met_X1_fillings l D E ((Int32.toNatClampNeg a)) nk1.2 hc_r4) q499 q501 qs22 q100 q502 hd_X1_fillings ⟨Nat.le_of_ble_eq_true rfl, Nat.le_of_ble_eq_true rfl⟩ hG (rcv hG cl_X1 hX.ag) hX rfl hl.1 rfl (Nat.le_of_ble_eq_true rfl) dX1_fix_24 ⟨Nat.le_of_ble_eq_true rfl, Nat.le_of_ble_eq_true rfl⟩ hS (fun q h => hFa q h) (fun q h => hFa q h) (fun v H1 locs1 hP hz hk hS => ?_)
        obtain ⟨q24, qc24, rfl, hq9, hq8, hne_fo24_cs24, hZ, hT_fo24, hT_cs24⟩ := hP
        have hX := hZ
        have hG := gE.ofS hG0 hS hFE
        have hge_fo24 : s.heap.size ≤ q24 := by have := hB; omega
        have hd_fo24 : ¬ Fc q24 := fun z => by have := hFb _ z; omega
        have hge_cs24 : s.heap.size ≤ qc24 := by have := hB; omega
        have hd_cs24 : ¬ Fc qc24 := fun z => by have := hFb _ z; omega
        refine W.eq (g2 := F0 m 27 ls [.ref (q24)]) rfl ?_
        refine lv_astore_n (lv' := [(3, .ref (q24)), (2, .ref (α 5 (Int32.toNatClampNeg a))), (0, .ref (α 0 0)), (1, .int (a))]) hx hb dX1_fix_27 rfl hl (Nat.le_of_ble_eq_true rfl) rfl (fun ls hl => ?_)
        refine lv_aload_n hx hb dX1_fix_28 rfl (lv_at hl 0 rfl) ?_
        refine gfN (v := .int (r4.2.2.2)) (C := RX12) (T := TX12) (N := 9) (k := 7) hx hb hts hown hG cl_X12 in_X12 hT_fo24 (by decide) q584 rfl dX1_fix_29 ?_
        refine lv_iconst (v := (-1)) hx hb dX1_fix_32 (by decide) ?_
        refine lv_icmp_eq (tgt := 40) hx hb dX1_fix_33 (by decide) (fun c5 => ?_) (fun c5 => ?_)
        · rw [if_pos c5] at hR
          refine lv_iconst (v := 0) hx hb dX1_fix_40 (by decide) ?_
          have hB := hS.1
          have hL_fo24 : q24 < _ := hT_fo24.lt
          have hL_cs24 : qc24 < _ := hT_cs24.lt
          refine xcS (As := [.int 0]) (rest := []) hS0 (met_X1_checkState l D E hlf false _) q885 q886 q100 q887 hd_X1_checkState ⟨Nat.le_of_ble_eq_true rfl, Nat.le_of_ble_eq_true rfl⟩ hG rfl rfl hl.1 rfl (Nat.le_of_ble_eq_true rfl) dX1_fix_41 ⟨Nat.le_of_ble_eq_true rfl, Nat.le_of_ble_eq_true rfl⟩ hS (fun q h => h.elim) (fun q h => h.elim) (fun X ce q9 H1 locs1 hP hz hk hS9 h1 h2 h3 => ?_) (fun v H1 locs1 hP hz hk hS9 => ?_)
          · obtain ⟨rfl, hc9⟩ := hP
            have hS := hS9
            clear hS9
            exact x_out hex hlocks h1 h2 h3 hS ⟨Nat.le_of_ble_eq_true rfl, Nat.le_of_ble_eq_true rfl⟩ (by cases hR; exact ⟨rfl, Nat.succ_ne_zero _, ((hX.kept (fun q h4 _ => hk q h4 id)).mono (fun q _ z => hFa q z) (fN_E hFE hG0.2.2.1))⟩)
          · exact absurd hP.2.1 (by decide)
        · rw [if_neg c5] at hR
          refine lv_iconst (v := 1) hx hb dX1_fix_36 (by decide) ?_
          refine lv_goto (tgt := 41) hx hb dX1_fix_37 (by decide) ?_
          have hB := hS.1
          have hL_fo24 : q24 < _ := hT_fo24.lt
          have hL_cs24 : qc24 < _ := hT_cs24.lt
          refine xcS (As := [.int 1]) (rest := []) hS0 (met_X1_checkState l D E hlf true _) q885 q886 q100 q887 hd_X1_checkState ⟨Nat.le_of_ble_eq_true rfl, Nat.le_of_ble_eq_true rfl⟩ hG rfl rfl hl.1 rfl (Nat.le_of_ble_eq_true rfl) dX1_fix_41 ⟨Nat.le_of_ble_eq_true rfl, Nat.le_of_ble_eq_true rfl⟩ hS (fun q h => h.elim) (fun q h => h.elim) (fun X ce q9 H1 locs1 hP hz hk hS9 h1 h2 h3 => ?_) (fun v H1 locs1 hP hz hk hS9 => ?_)
          · exact absurd rfl hP.2
          · obtain ⟨rfl, hc9, rfl⟩ := hP
            have hS := hS9
            clear hS9
            refine W.eq (g2 := F0 m 44 ls []) rfl ?_
            refine lv_aload_n hx hb dX1_fix_44 rfl (lv_at hl 2 rfl) ?_
            refine lv_iload_n hx hb dX1_fix_45 rfl (lv_at hl 3 rfl) ?_
            refine lv_eq nk1.1 ?_
            refine lv_aload_n hx hb dX1_fix_46 rfl (lv_at hl 0 rfl) ?_
            rcases hc_r7 : (fX1_take σ ((Int32.toNatClampNeg a)) r4.2.2.2 (nP σ) r4.1) with _ | r7
            · rw [hc_r7] at hR
              cases hR
            rw [hc_r7] at hR
            try dsimp only [Option.bind] at hR
            have hB := hS.1
            have hL_fo24 : q24 < _ := hT_fo24.lt
            have hL_cs24 : qc24 < _ := hT_cs24.lt
            refine gcV (As := [.int (nI ((Int32.toNatClampNeg a))), .ref (q24)]) (rest := []) hS0 (met_X1_take l D E ((Int32.toNatClampNeg a)) q24 true 0 qc24 r4.2.1 r4.2.2.1 r4.2.2.2 (nP σ) r4.1 nk1.2 hd_fo24 hd_cs24 hne_fo24_cs24 (hX.nP10) hc_r7) q1070 q1072 qs43 q100 q1073 hd_X1_take ⟨Nat.le_of_ble_eq_true rfl, Nat.le_of_ble_eq_true rfl⟩ hG (rcv hG cl_X1 hX.ag) ⟨hX, hT_fo24, hT_cs24⟩ rfl hl.1 rfl (Nat.le_of_ble_eq_true rfl) dX1_fix_47 ⟨Nat.le_of_ble_eq_true rfl, Nat.le_of_ble_eq_true rfl⟩ hS (fun q h => hFa q h) (fun q h => hFa q h) (fun v H1 locs1 hP hz hk hS => ?_)
            obtain ⟨rfl, hZ, hc8⟩ := hP
            have hT_fo24 : va_at D vwCl (q24, .inr (10, [.ref (α 5 ((Int32.toNatClampNeg a))), .ref (α 9 (wBand σ ((Int32.toNatClampNeg a)))), .int (bI true), .int (0), .ref (qc24), .int (bI r4.2.1), .int (r4.2.2.1), .int (r4.2.2.2), .ref (α 0 0)])) H1 := hT_fo24.kept (hk _ hT_fo24.lt hd_fo24)
            have hT_cs24 : va_at D vwCl (qc24, arI E (nP σ) r4.1) H1 := hT_cs24.kept (hk _ hT_cs24.lt hd_cs24)
            obtain ⟨Fd, hX, hFn⟩ := hZ.nar
            have hd_fo24 : ¬ Fd q24 := fun z => (hFn _ z).1.elim hd_fo24 (fun z9 => absurd z9 (Nat.not_le.mpr hL_fo24))
            have hd_cs24 : ¬ Fd qc24 := fun z => (hFn _ z).1.elim hd_cs24 (fun z9 => absurd z9 (Nat.not_le.mpr hL_cs24))
            have hFa : ∀ q, Fd q → fN F s.heap.size q := fun q z => (hFn q z).1.elim (hFa q) (fun z9 => Or.inr (Nat.le_trans hB z9))
            have hFb : ∀ q, Fd q → q < H1.size := fun q z => (hFn q z).2
            clear hFn
            generalize Fd = Fc at hX hFa hFb hd_fo24 hd_cs24
            have hG := gE.ofS hG0 hS hFE
            have hcn := hc8.tr hcn
            generalize hv_σ1 : r7 = σ1 at hR hX hcn ⊢
            try dsimp only at hR
            refine W.eq (g2 := F0 m 50 ls []) rfl ?_
            refine lv_aload_n hx hb dX1_fix_50 rfl (lv_at hl 1 rfl) ?_
            refine lv_aload_n hx hb dX1_fix_51 rfl (lv_at hl 1 rfl) ?_
            refine gfN (v := .int (wPrice σ1 ((Int32.toNatClampNeg a)))) (C := RX10) (T := TX10) (N := 12) (k := 9) hx hb hts hown hG cl_X10 in_X10 (hX.wd (hcn.w nk1.2)) (by decide) q1029 rfl dX1_fix_52 ?_
            refine lv_iconst (v := 5) hx hb dX1_fix_55 (by decide) ?_
            refine lv_idiv hx hb dX1_fix_56 (by decide) ?_
            refine pfN (ty0 := tyX10) (ty := tyX10 10) (v := .int ((wPrice σ1 ((Int32.toNatClampNeg a))) / 5)) (C := RX10) (T := TX10) (N := 12) (k := 10) hx hb hts hown hG hS cl_X10 in_X10 tyX10_ok nmX10 (hX.wd (hcn.w nk1.2)) (hFa _ (hX.wdF (hcn.w nk1.2))) (hFa _ (hX.wdF (hcn.w nk1.2))) (by decide) q1031 rfl (tyX10_ok 10 (by decide)) rfl rfl (Nat.le_of_ble_eq_true rfl) dX1_fix_57 (fun H1 locs1 he hz hq hS => ?_)
            have hT_fo24 : va_at D vwCl (q24, .inr (10, [.ref (α 5 ((Int32.toNatClampNeg a))), .ref (α 9 (wBand σ ((Int32.toNatClampNeg a)))), .int (bI true), .int (0), .ref (qc24), .int (bI r4.2.1), .int (r4.2.2.1), .int (r4.2.2.2), .ref (α 0 0)])) H1 := hT_fo24.kept (hq _ (fun e9 => hd_fo24 (by have e9 : q24 = _ := e9; rw [e9]; exact (hX.wdF (hcn.w nk1.2)))))
            have hT_cs24 : va_at D vwCl (qc24, arI E (nP σ) r4.1) H1 := hT_cs24.kept (hq _ (fun e9 => hd_cs24 (by have e9 : qc24 = _ := e9; rw [e9]; exact (hX.wdF (hcn.w nk1.2)))))
            have hX := hX.Pw26 (hcn.w nk1.2) he hq
            have hG := gE.ofS hG0 hS hFE
            obtain ⟨σ2, hσ2⟩ : ∃ x, x = sW σ1 26 ((Int32.toNatClampNeg a)) ((wPrice σ1 ((Int32.toNatClampNeg a))) / 5) := ⟨_, rfl⟩
            rw [← hσ2] at hR hX
            have hcn : cnt σ2 σ := by rw [hσ2]; exact hcn.sW
            try dsimp only at hR
            refine lv_iconst (v := 0) hx hb dX1_fix_60 (by decide) ?_
            refine lv_istore (lv' := [(4, .int 0), (3, .ref (q24)), (2, .ref (α 5 (Int32.toNatClampNeg a))), (0, .ref (α 0 0)), (1, .int (a))]) hx hb dX1_fix_61 hl (Nat.le_of_ble_eq_true rfl) rfl (fun ls hl => ?_)
            refine hL63 r4 q24 qc24 hge_fo24 hne_fo24_cs24 hge_cs24 nk1.2 nk1.1 _ (fun σ6 H1 locs1 Fc ls hR hcn hX hFa hFb hd_fo24 hd_cs24 hT_fo24 hT_cs24 hS hl => ?_) (nW σ) 0 σ2 (Nat.zero_add _) hR _ _ _ hcn hX hFa (fun q z => by have := hFb q z; omega) hd_fo24 hd_cs24 hT_fo24 hT_cs24 hS ls (lv_sub hl [3, 2, 0] rfl)
            try dsimp only at hR
            have hG := gE.ofS hG0 hS hFE
            refine lv_aload_n hx hb dX1_fix_131 rfl (lv_at hl 0 rfl) ?_
            refine gfN (v := .int (wPrice σ6 ((Int32.toNatClampNeg a)))) (C := RX10) (T := TX10) (N := 12) (k := 9) hx hb hts hown hG cl_X10 in_X10 (hX.wd (hcn.w nk1.2)) (by decide) q1029 rfl dX1_fix_132 ?_
            exact vx_ret (g_iret hx hb hr hlocks hS ⟨Nat.le_of_ble_eq_true rfl, Nat.le_of_ble_eq_true rfl⟩ dX1_fix_135 (by cases hR; exact ⟨rfl, rfl, (hX.mono (fun q _ z => hFa q z) (fN_E hFE hG0.2.2.1)), hcn⟩))

def fX1_fall_L24 (σ : St) (ui : Nat) (di : Nat)  (κ : Int32 → St → Option (Int32 × St)) : Nat → Nat → Int32 → St → Option (Int32 × St)
  | 0, i4, a3, σ2 => κ a3 σ2
  | n + 1, i4, a3, σ2 => (if ((fX10_is σ2 i4 1)) = true then (if (nI (wDay σ2 i4)) = (nI di) then (if ((fX1_has (wSet σ2 i4) (nI ui))) = true then (Option.bind (fX12_init σ2 i4 ((fX1_freeFor σ2 i4)) (wSet σ2 i4) true) (fun (r4 : (Nat → Int32) × Bool × Int32 × Int32) => (if r4.2.2.2 = ((-1)) then (fun (σ3 : St) => (fun (σ4 : St) => fX1_fall_L24 σ ui di κ n (i4 + 1) (a3 + 1) σ4) (sW σ3 26 i4 (-((wPrice σ3 i4) / 10)))) (sN σ2 5 i4 3) else (fun (σ5 : St) => fX1_fall_L24 σ ui di κ n (i4 + 1) a3 σ5) (sW σ2 24 i4 r4.2.2.2)))) else fX1_fall_L24 σ ui di κ n (i4 + 1) a3 σ2) else fX1_fall_L24 σ ui di κ n (i4 + 1) a3 σ2) else fX1_fall_L24 σ ui di κ n (i4 + 1) a3 σ2)
def fX1_fall (σ : St) (ui : Nat) (di : Nat) : Option (Int32 × St) :=
  (fun (σ1 : St) => fX1_fall_L24 σ ui di (fun (a6 : Int32) (σ6 : St) => (some (a6, σ6))) (nW σ) 0 0 σ1) (sO σ ui di 1)
set_option maxHeartbeats 4000000 in
set_option maxRecDepth 100000 in
theorem met_X1_fall (l : Launch) (D : va_G) (E : Nat → Nat) {α : Nat → Nat → Nat} {F : Nat → Prop} {σ : St} (ui : Nat) (di : Nat) (h_ui : ui < nP σ) (h_di : di < 366) {r : Int32 × St} (hR : fX1_fall σ ui di = some r) : GM l D E yX1_fall cX1_fall 7 (Option.some Jvm.ClassFile.FieldType.int) 434 9327 30 285 [.ref (α 0 0), .int (nI ui), .int (nI di)] (RX D E α F σ) F F (fun sz v h => v = some (.int r.1) ∧ RX D E α (fN F sz) r.2 h ∧ cnt r.2 σ)  := by
  refine GM.start (by decide) (Nat.le_of_ble_eq_true rfl) ?_
  intro p e s m below meth c ls hx hb hr hml hown hlocks hnm hts hG hX hS hl
  have hown : s.vm.findClass RX1 = some m.cls := hown
  have hS0 : xS p m c cX1_fall 7 s _ RX1 := ⟨hx, hb, hml, hown, hts⟩
  have hl : lv_has ls 7 [(0, .ref (α 0 0)), (1, .int (nI ui)), (2, .int (nI di))] := hl
  have hG0 := hG
  have hX0 := hX
  have hb0P := hX0.nP10
  have hb0B := hX0.nB6
  have hb0W := hX0.nW14
  have hFE := hX.fE
  obtain ⟨Fc, hX, hFn⟩ := hX.nar
  have hFa : ∀ q, Fc q → fN F s.heap.size q := fun q z => Or.inl (hFn q z).1
  have hFb : ∀ q, Fc q → q < s.heap.size := fun q z => (hFn q z).2
  have hcn : cnt σ σ := cnt.rf
  have hL24 : ∀  (κ : Int32 → St → Option (Int32 × St)) (hκ : ∀ (a3 : Int32) (σ2 : St) (H : Heap) (locs : List Loc) (Fc : Nat → Prop) (ls : Array Slot), κ a3 σ2 = some r → cnt σ2 σ → RX D E α Fc σ2 H → (∀ q, Fc q → fN F s.heap.size q) → (∀ q, Fc q → q < H.size) → xK F F s.heap H locs → lv_has ls 7 [(3, .int (a3))] → W p l e { frames := 434, cells := 30, slots := 285, locals := 9327 } s m [(.ref (α 0 0) : Value), .int (nI ui), .int (nI di)].toArray below meth c H locs (0 + 28) (0 + 266) (MQ below (qG F ((fun sz v h => v = some (.int r.1) ∧ RX D E α (fN F sz) r.2 h ∧ cnt r.2 σ) s.heap.size)) [(.ref (α 0 0) : Value), .int (nI ui), .int (nI di)].toArray s 30 285 (fN F s.heap.size)) (F0 m 163 ls [])) (n : Nat) (i4 : Nat) (a3 : Int32) (σ2 : St), i4 + n = nW σ → fX1_fall_L24 σ ui di κ n i4 a3 σ2 = some r → ∀ (H : Heap) (locs : List Loc) (Fc : Nat → Prop), cnt σ2 σ → RX D E α Fc σ2 H → (∀ q, Fc q → fN F s.heap.size q) → (∀ q, Fc q → q < H.size) → xK F F s.heap H locs → ∀ (ls : Array Slot), lv_has ls 7 [(0, .ref (α 0 0)), (1, .int (nI ui)), (2, .int (nI di)), (3, .int (a3)), (4, .int (nI i4))] → W p l e { frames := 434, cells := 30, slots := 285, locals := 9327 } s m [(.ref (α 0 0) : Value), .int (nI ui), .int (nI di)].toArray below meth c H locs (0 + i4 * 2) (0 + i4 * 19) (MQ below (qG F ((fun sz v h => v = some (.int r.1) ∧ RX D E α (fN F sz) r.2 h ∧ cnt r.2 σ) s.heap.size)) [(.ref (α 0 0) : Value), .int (nI ui), .int (nI di)].toArray s 30 285 (fN F s.heap.size)) (F0 m 24 ls []) := by
    intro  κ hκ n
    induction n with
    | zero =>
      intro i4 a3 σ2 hn hR H locs Fc hcn hX hFa hFb hS ls hl
      rw [fX1_fall_L24] at hR
      have hG := gE.ofS hG0 hS hFE
      have hb_i4 : i4 ≤ 14 := by have := hX0.nP10; have := hX0.nB6; have := hX0.nW14; omega
      refine lv_iload hx hb dX1_fall_24 (lv_at hl 4 rfl) ?_
      refine lv_aload_n hx hb dX1_fall_26 rfl (lv_at hl 0 rfl) ?_
      refine gf (v := .ref (α 1 3)) (C := RX1) (T := TX1) (N := 6) (k := 4) hx hb hts hown hG cl_X1 in_X1 hX.ag (by decide) q307 rfl dX1_fall_27 ?_
      refine pcF (x := xL_size) (ci := 13) (As := []) (rest := [.int (nI i4)]) hG.fw_size hS0 (met_xl_size l D E (j := 3) (by decide)) q331 q334 q336 q103 q338 hd_xL_size ⟨Nat.le_of_ble_eq_true rfl, Nat.le_of_ble_eq_true rfl⟩ hG cl_J2 (hX.lsR hG (j := 3) (by decide)) hX rfl hl.1 rfl (Nat.le_of_ble_eq_true rfl) dX1_fall_30 ⟨by show _ ≤ 30; omega, by show _ ≤ 285; omega⟩ ?_
      refine W.eq (g2 := F0 m 35 ls [.int (nI (nW σ2)), .int (nI i4)]) rfl ?_
      refine lk_ge_out (k := i4) (N := nW σ2) hx hb (Eq.trans hn hcn.2.2.symm) (tgt := 163) dX1_fall_35 (by decide) ?_
      exact W.widen (by show _ ≤ _; omega) (by show _ ≤ _; omega) (hκ a3 σ2 _ _ _ ls hR hcn hX hFa (fun q z => by have := hFb q z; omega) hS (lv_sub hl [3] rfl))
    | succ n ih =>
      intro i4 a3 σ2 hn hR H locs Fc hcn hX hFa hFb hS ls hl
      rw [fX1_fall_L24] at hR
      have hG := gE.ofS hG0 hS hFE
      have hb_i4 : i4 ≤ 14 := by have := hX0.nP10; have := hX0.nB6; have := hX0.nW14; omega
      refine lv_iload hx hb dX1_fall_24 (lv_at hl 4 rfl) ?_
      refine lv_aload_n hx hb dX1_fall_26 rfl (lv_at hl 0 rfl) ?_
      refine gf (v := .ref (α 1 3)) (C := RX1) (T := TX1) (N := 6) (k := 4) hx hb hts hown hG cl_X1 in_X1 hX.ag (by decide) q307 rfl dX1_fall_27 ?_
      refine pcF (x := xL_size) (ci := 13) (As := []) (rest := [.int (nI i4)]) hG.fw_size hS0 (met_xl_size l D E (j := 3) (by decide)) q331 q334 q336 q103 q338 hd_xL_size ⟨Nat.le_of_ble_eq_true rfl, Nat.le_of_ble_eq_true rfl⟩ hG cl_J2 (hX.lsR hG (j := 3) (by decide)) hX rfl hl.1 rfl (Nat.le_of_ble_eq_true rfl) dX1_fall_30 ⟨by show _ ≤ 30; omega, by show _ ≤ 285; omega⟩ ?_
      refine W.eq (g2 := F0 m 35 ls [.int (nI (nW σ2)), .int (nI i4)]) rfl ?_
      have hki4 : i4 < nW σ := lk_lt hn
      refine lk_ge_in (k := i4) (N := nW σ2) hx hb (hcn.w hki4) (by have := hX.nP10; have := hX.nW14; have := hX.nB6; omega) (tgt := 163) dX1_fall_35 (by decide) ?_
      refine lv_aload_n hx hb dX1_fall_38 rfl (lv_at hl 0 rfl) ?_
      refine gf (v := .ref (α 1 3)) (C := RX1) (T := TX1) (N := 6) (k := 4) hx hb hts hown hG cl_X1 in_X1 hX.ag (by decide) q307 rfl dX1_fall_39 ?_
      refine lv_iload hx hb dX1_fall_42 (lv_at hl 4 rfl) ?_
      refine pcF (x := xL_get) (ci := 13) (As := [.int (nI i4)]) (rest := []) hG.fw_get hS0 (met_xl_get l D E (j := 3) (by decide) i4 (hcn.w hki4)) q344 q347 q349 q103 q351 hd_xL_get ⟨Nat.le_of_ble_eq_true rfl, Nat.le_of_ble_eq_true rfl⟩ hG cl_J2 (hX.lsR hG (j := 3) (by decide)) hX rfl hl.1 rfl (Nat.le_of_ble_eq_true rfl) dX1_fall_44 ⟨by show _ ≤ 30; omega, by show _ ≤ 285; omega⟩ ?_
      refine W.eq (g2 := F0 m 49 ls [.ref (α 5 i4)]) rfl ?_
      refine gc (ci := 8) hx hb hown hG cl_X10 (rcv hG cl_X10 (hX.wd (hcn.w hki4))) (hts _ q369) dX1_fall_49 ?_
      refine lv_astore (lv' := [(5, .ref (α 5 i4)), (0, .ref (α 0 0)), (1, .int (nI ui)), (2, .int (nI di)), (3, .int (a3)), (4, .int (nI i4))]) hx hb dX1_fall_52 hl (Nat.le_of_ble_eq_true rfl) rfl (fun ls hl => ?_)
      refine lv_aload hx hb dX1_fall_54 (lv_at hl 0 rfl) ?_
      refine gs hx hb (hG.en (i := 1) (by decide)) hown (hts _ q363) (fun _ h => h) dX1_fall_56 ?_
      refine pcV (As := [.ref (E (10 + 1))]) (rest := []) hS0 (met_X10_is l D E i4 1 (hcn.w hki4) (by decide)) q370 q371 q372 q130 q373 hd_X10_is ⟨Nat.le_of_ble_eq_true rfl, Nat.le_of_ble_eq_true rfl⟩ hG (rcv hG cl_X10 (hX.wd (hcn.w hki4))) hX rfl hl.1 rfl (Nat.le_of_ble_eq_true rfl) dX1_fall_59 ⟨by show _ ≤ 30; omega, by show _ ≤ 285; omega⟩ ?_
      refine W.eq (g2 := F0 m 62 ls [.int (bI ((fX10_is σ2 i4 1)))]) rfl ?_
      refine lb_if_eq (tgt := 157) hx hb dX1_fall_62 (by decide) (fun c1 => ?_) (fun c1 => ?_)
      · rw [if_neg c1] at hR
        refine lv_iinc (v := nI (i4 + 1)) (lv' := [(4, .int (nI (i4 + 1))), (5, .ref (α 5 i4)), (0, .ref (α 0 0)), (1, .int (nI ui)), (2, .int (nI di)), (3, .int (a3))]) hx hb dX1_fall_157 hl (k := 5) rfl (nI_1 i4) (Nat.le_of_ble_eq_true rfl) rfl (fun ls hl => ?_)
        refine lv_goto (tgt := 24) hx hb dX1_fall_160 (by decide) ?_
        exact W.widen (by show _ ≤ _; omega) (by show _ ≤ _; omega) (ih (i4 + 1) a3 σ2 (lk_st hn) hR _ _ _ hcn hX hFa (fun q z => by have := hFb q z; omega) hS ls (lv_sub hl [2, 3, 4, 5, 0] rfl))
      · rw [if_pos c1] at hR
        refine lv_aload hx hb dX1_fall_65 (lv_at hl 0 rfl) ?_
        refine gfN (v := .int (nI (wDay σ2 i4))) (C := RX10) (T := TX10) (N := 12) (k := 1) hx hb hts hown hG cl_X10 in_X10 (hX.wd (hcn.w hki4)) (by decide) q1012 rfl dX1_fall_67 ?_
        refine lv_iload_n hx hb dX1_fall_70 rfl (lv_at hl 3 rfl) ?_
        refine lv_icmp_ne (tgt := 157) hx hb dX1_fall_71 (by decide) (fun c2 => ?_) (fun c2 => ?_)
        · rw [if_neg c2] at hR
          refine lv_iinc (v := nI (i4 + 1)) (lv' := [(4, .int (nI (i4 + 1))), (5, .ref (α 5 i4)), (0, .ref (α 0 0)), (1, .int (nI ui)), (2, .int (nI di)), (3, .int (a3))]) hx hb dX1_fall_157 hl (k := 5) rfl (nI_1 i4) (Nat.le_of_ble_eq_true rfl) rfl (fun ls hl => ?_)
          refine lv_goto (tgt := 24) hx hb dX1_fall_160 (by decide) ?_
          exact W.widen (by show _ ≤ _; omega) (by show _ ≤ _; omega) (ih (i4 + 1) a3 σ2 (lk_st hn) hR _ _ _ hcn hX hFa (fun q z => by have := hFb q z; omega) hS ls (lv_sub hl [2, 3, 4, 5, 0] rfl))
        · rw [if_pos c2] at hR
          refine lv_aload hx hb dX1_fall_74 (lv_at hl 0 rfl) ?_
          refine gfN (v := .int (wSet σ2 i4)) (C := RX10) (T := TX10) (N := 12) (k := 8) hx hb hts hown hG cl_X10 in_X10 (hX.wd (hcn.w hki4)) (by decide) q1027 rfl dX1_fall_76 ?_
          refine lv_iload_n hx hb dX1_fall_79 rfl (lv_at hl 2 rfl) ?_
          refine pcS (As := [.int (wSet σ2 i4), .int (nI ui)]) (rest := []) hS0 (met_X1_has l D E (wSet σ2 i4) (nI ui)) q374 q375 q100 q376 hd_X1_has ⟨Nat.le_of_ble_eq_true rfl, Nat.le_of_ble_eq_true rfl⟩ hG trivial rfl hl.1 rfl (Nat.le_of_ble_eq_true rfl) dX1_fall_80 ⟨by show _ ≤ 30; omega, by show _ ≤ 285; omega⟩ ?_
          refine W.eq (g2 := F0 m 83 ls [.int (bI ((fX1_has (wSet σ2 i4) (nI ui))))]) rfl ?_
          refine lb_if_eq (tgt := 157) hx hb dX1_fall_83 (by decide) (fun c3 => ?_) (fun c3 => ?_)
          · rw [if_neg c3] at hR
            refine lv_iinc (v := nI (i4 + 1)) (lv' := [(4, .int (nI (i4 + 1))), (5, .ref (α 5 i4)), (0, .ref (α 0 0)), (1, .int (nI ui)), (2, .int (nI di)), (3, .int (a3))]) hx hb dX1_fall_157 hl (k := 5) rfl (nI_1 i4) (Nat.le_of_ble_eq_true rfl) rfl (fun ls hl => ?_)
            refine lv_goto (tgt := 24) hx hb dX1_fall_160 (by decide) ?_
            exact W.widen (by show _ ≤ _; omega) (by show _ ≤ _; omega) (ih (i4 + 1) a3 σ2 (lk_st hn) hR _ _ _ hcn hX hFa (fun q z => by have := hFb q z; omega) hS ls (lv_sub hl [2, 3, 4, 5, 0] rfl))
          · rw [if_pos c3] at hR
            have hB := hS.1
            refine nw (ci := 10) (C := RX12) (T := TX12) (N := 9) (fs := [.null, .null, .int 0, .int 0, .null, .int 0, .int 0, .int 0, .null]) (ty := tyX12) hx hb hts hown hG hS cl_X12 in_X12 tyX12_ok q503 q504 q132 (df_X12) ⟨by show _ ≤ 30; omega, by show _ ≤ 285; omega⟩ dX1_fall_86 (fun q86 H1 hq9 hT_t86 hz ho hS => ?_)
            have hX := hX.kept (fun q h4 _ => ho q h4)
            have hG := gE.ofS hG0 hS hFE
            have hge_t86 : s.heap.size ≤ q86 := by have := hB; omega
            have hd_t86 : ¬ Fc q86 := fun z => by have := hFb _ z; omega
            refine lv_dup hx hb dX1_fall_89 rfl ?_
            refine lv_aload_n hx hb dX1_fall_90 rfl (lv_at hl 1 rfl) ?_
            refine lv_iload hx hb dX1_fall_91 (lv_at hl 5 rfl) ?_
            refine lv_aload_n hx hb dX1_fall_93 rfl (lv_at hl 1 rfl) ?_
            refine lv_iload hx hb dX1_fall_94 (lv_at hl 5 rfl) ?_
            refine pcV (As := [.int (nI i4)]) (rest := [.int (nI i4), .ref (α 0 0), .ref (q86), .ref (q86)]) hS0 (met_X1_freeFor l D E i4 (hcn.w hki4)) q505 q507 qs23 q100 q508 hd_X1_freeFor ⟨Nat.le_of_ble_eq_true rfl, Nat.le_of_ble_eq_true rfl⟩ hG (rcv hG cl_X1 hX.ag) hX rfl hl.1 rfl (Nat.le_of_ble_eq_true rfl) dX1_fall_96 ⟨by show _ ≤ 30; omega, by show _ ≤ 285; omega⟩ ?_
            refine W.eq (g2 := F0 m 99 ls [.int ((fX1_freeFor σ2 i4)), .int (nI i4), .ref (α 0 0), .ref (q86), .ref (q86)]) rfl ?_
            refine lv_aload hx hb dX1_fall_99 (lv_at hl 0 rfl) ?_
            refine gfN (v := .int (wSet σ2 i4)) (C := RX10) (T := TX10) (N := 12) (k := 8) hx hb hts hown hG cl_X10 in_X10 (hX.wd (hcn.w hki4)) (by decide) q1027 rfl dX1_fall_101 ?_
            refine lv_iconst (v := 1) hx hb dX1_fall_104 (by decide) ?_
            rcases hc_r4 : (fX12_init σ2 i4 ((fX1_freeFor σ2 i4)) (wSet σ2 i4) true) with _ | r4
            · rw [hc_r4] at hR
              cases hR
            rw [hc_r4] at hR
            try dsimp only [Option.bind] at hR
            have hB := hS.1
            have hL_t86 : q86 < _ := hT_t86.lt
            refine gcI (As := [.ref (α 0 0), .int (nI i4), .int ((fX1_freeFor σ2 i4)), .int (wSet σ2 i4), .int 1]) (rest := [.ref (q86)]) hS0 (met_X12_init l D E q86 i4 ((fX1_freeFor σ2 i4)) (wSet σ2 i4) true (hcn.w hki4) hd_t86 hc_r4) q519 q520 q132 q521 rfl hd_X12_init ⟨Nat.le_of_ble_eq_true rfl, Nat.le_of_ble_eq_true rfl⟩ hG ⟨hX, hT_t86, (Nat.le_trans hG0.2.2.1 hge_t86)⟩ rfl hl.1 rfl (Nat.le_of_ble_eq_true rfl) dX1_fall_105 ⟨by show _ ≤ 30; omega, by show _ ≤ 285; omega⟩ hS (fun q h => h.elim (fun h => by rw [h]; exact (Or.inr hge_t86)) (fun h => hFa q h)) (fun q h => h.elim (fun h => by rw [h]; exact (Or.inr hge_t86)) (fun h => hFa q h)) (fun v H1 locs1 hP hz hk hS => ?_)
            obtain ⟨qc105, rfl, hq9, hZ, hT9, hT_cs105⟩ := hP
            have hX := hZ
            have hT_t86 : va_at D vwCl (q86, .inr (10, [.ref (α 5 i4), .ref (α 9 (wBand σ2 i4)), .int (bI true), .int (wSet σ2 i4), .ref (qc105), .int (bI r4.2.1), .int (r4.2.2.1), .int (r4.2.2.2), .ref (α 0 0)])) H1 := hT9
            have hG := gE.ofS hG0 hS hFE
            have hne_t86_cs105 : q86 ≠ qc105 := by have h9 := hL_t86; omega
            have hge_cs105 : s.heap.size ≤ qc105 := by have := hB; omega
            have hd_cs105 : ¬ Fc qc105 := fun z => by have := hFb _ z; omega
            refine W.eq (g2 := F0 m 108 ls [.ref (q86)]) rfl ?_
            refine lv_astore (lv' := [(6, .ref (q86)), (5, .ref (α 5 i4)), (0, .ref (α 0 0)), (1, .int (nI ui)), (2, .int (nI di)), (3, .int (a3)), (4, .int (nI i4))]) hx hb dX1_fall_108 hl (Nat.le_of_ble_eq_true rfl) rfl (fun ls hl => ?_)
            refine lv_aload hx hb dX1_fall_110 (lv_at hl 0 rfl) ?_
            refine gfN (v := .int (r4.2.2.2)) (C := RX12) (T := TX12) (N := 9) (k := 7) hx hb hts hown hG cl_X12 in_X12 hT_t86 (by decide) q584 rfl dX1_fall_112 ?_
            refine lv_iconst (v := (-1)) hx hb dX1_fall_115 (by decide) ?_
            refine lv_icmp_eq (tgt := 132) hx hb dX1_fall_116 (by decide) (fun c5 => ?_) (fun c5 => ?_)
            · rw [if_pos c5] at hR
              refine lv_aload hx hb dX1_fall_132 (lv_at hl 1 rfl) ?_
              refine gs hx hb (hG.en (i := 3) (by decide)) hown (hts _ q405) (fun _ h => h) dX1_fall_134 ?_
              refine pfN (ty0 := tyX10) (ty := tyX10 7) (v := .ref (E (10 + 3))) (C := RX10) (T := TX10) (N := 12) (k := 7) hx hb hts hown hG hS cl_X10 in_X10 tyX10_ok nmX10 (hX.wd (hcn.w hki4)) (hFa _ (hX.wdF (hcn.w hki4))) (hFa _ (hX.wdF (hcn.w hki4))) (by decide) q1025 rfl (tyX10_ok 7 (by decide)) rfl rfl (Nat.le_of_ble_eq_true rfl) dX1_fall_137 (fun H1 locs1 he hz hq hS => ?_)
              have hT_t86 : va_at D vwCl (q86, .inr (10, [.ref (α 5 i4), .ref (α 9 (wBand σ2 i4)), .int (bI true), .int (wSet σ2 i4), .ref (qc105), .int (bI r4.2.1), .int (r4.2.2.1), .int (r4.2.2.2), .ref (α 0 0)])) H1 := hT_t86.kept (hq _ (fun e9 => hd_t86 (by have e9 : q86 = _ := e9; rw [e9]; exact (hX.wdF (hcn.w hki4)))))
              have hT_cs105 : va_at D vwCl (qc105, arI E (nP σ2) r4.1) H1 := hT_cs105.kept (hq _ (fun e9 => hd_cs105 (by have e9 : qc105 = _ := e9; rw [e9]; exact (hX.wdF (hcn.w hki4)))))
              have hX := hX.Pwst (hcn.w hki4) (v := 3) (by decide) he hq
              have hG := gE.ofS hG0 hS hFE
              obtain ⟨σ3, hσ3⟩ : ∃ x, x = sN σ2 5 i4 3 := ⟨_, rfl⟩
              rw [← hσ3] at hR hX
              have hcn : cnt σ3 σ := by rw [hσ3]; exact hcn.sN (by decide)
              try dsimp only at hR
              refine lv_aload hx hb dX1_fall_140 (lv_at hl 1 rfl) ?_
              refine lv_aload hx hb dX1_fall_142 (lv_at hl 1 rfl) ?_
              refine gfN (v := .int (wPrice σ3 i4)) (C := RX10) (T := TX10) (N := 12) (k := 9) hx hb hts hown hG cl_X10 in_X10 (hX.wd (hcn.w hki4)) (by decide) q1029 rfl dX1_fall_144 ?_
              refine lv_bipush (v := 10) hx hb dX1_fall_147 (by decide) ?_
              refine lv_idiv hx hb dX1_fall_149 (by decide) ?_
              refine lv_ineg hx hb dX1_fall_150 ?_
              refine pfN (ty0 := tyX10) (ty := tyX10 10) (v := .int (-((wPrice σ3 i4) / 10))) (C := RX10) (T := TX10) (N := 12) (k := 10) hx hb hts hown hG hS cl_X10 in_X10 tyX10_ok nmX10 (hX.wd (hcn.w hki4)) (hFa _ (hX.wdF (hcn.w hki4))) (hFa _ (hX.wdF (hcn.w hki4))) (by decide) q1031 rfl (tyX10_ok 10 (by decide)) rfl rfl (Nat.le_of_ble_eq_true rfl) dX1_fall_151 (fun H1 locs1 he hz hq hS => ?_)
              have hT_t86 : va_at D vwCl (q86, .inr (10, [.ref (α 5 i4), .ref (α 9 (wBand σ2 i4)), .int (bI true), .int (wSet σ2 i4), .ref (qc105), .int (bI r4.2.1), .int (r4.2.2.1), .int (r4.2.2.2), .ref (α 0 0)])) H1 := hT_t86.kept (hq _ (fun e9 => hd_t86 (by have e9 : q86 = _ := e9; rw [e9]; exact (hX.wdF (hcn.w hki4)))))
              have hT_cs105 : va_at D vwCl (qc105, arI E (nP σ2) r4.1) H1 := hT_cs105.kept (hq _ (fun e9 => hd_cs105 (by have e9 : qc105 = _ := e9; rw [e9]; exact (hX.wdF (hcn.w hki4)))))
              have hX := hX.Pw26 (hcn.w hki4) he hq
              have hG := gE.ofS hG0 hS hFE
              obtain ⟨σ4, hσ4⟩ : ∃ x, x = sW σ3 26 i4 (-((wPrice σ3 i4) / 10)) := ⟨_, rfl⟩
              rw [← hσ4] at hR hX
              have hcn : cnt σ4 σ := by rw [hσ4]; exact hcn.sW
              try dsimp only at hR
              refine lv_iinc (v := a3 + 1) (lv' := [(3, .int (a3 + 1)), (6, .ref (q86)), (5, .ref (α 5 i4)), (0, .ref (α 0 0)), (1, .int (nI ui)), (2, .int (nI di)), (4, .int (nI i4))]) hx hb dX1_fall_154 hl (k := 5) rfl rfl (Nat.le_of_ble_eq_true rfl) rfl (fun ls hl => ?_)
              refine lv_iinc (v := nI (i4 + 1)) (lv' := [(4, .int (nI (i4 + 1))), (3, .int (a3 + 1)), (6, .ref (q86)), (5, .ref (α 5 i4)), (0, .ref (α 0 0)), (1, .int (nI ui)), (2, .int (nI di))]) hx hb dX1_fall_157 hl (k := 6) rfl (nI_1 i4) (Nat.le_of_ble_eq_true rfl) rfl (fun ls hl => ?_)
              refine lv_goto (tgt := 24) hx hb dX1_fall_160 (by decide) ?_
              exact W.widen (by show _ ≤ _; omega) (by show _ ≤ _; omega) (ih (i4 + 1) (a3 + 1) σ4 (lk_st hn) hR _ _ _ hcn hX hFa (fun q z => by have := hFb q z; omega) hS ls (lv_sub hl [4, 5, 6, 1, 0] rfl))
            · rw [if_neg c5] at hR
              refine lv_aload hx hb dX1_fall_119 (lv_at hl 1 rfl) ?_
              refine lv_aload hx hb dX1_fall_121 (lv_at hl 0 rfl) ?_
              refine gfN (v := .int (r4.2.2.2)) (C := RX12) (T := TX12) (N := 9) (k := 7) hx hb hts hown hG cl_X12 in_X12 hT_t86 (by decide) q584 rfl dX1_fall_123 ?_
              refine pfN (ty0 := tyX10) (ty := tyX10 8) (v := .int (r4.2.2.2)) (C := RX10) (T := TX10) (N := 12) (k := 8) hx hb hts hown hG hS cl_X10 in_X10 tyX10_ok nmX10 (hX.wd (hcn.w hki4)) (hFa _ (hX.wdF (hcn.w hki4))) (hFa _ (hX.wdF (hcn.w hki4))) (by decide) q1027 rfl (tyX10_ok 8 (by decide)) rfl rfl (Nat.le_of_ble_eq_true rfl) dX1_fall_126 (fun H1 locs1 he hz hq hS => ?_)
              have hT_t86 : va_at D vwCl (q86, .inr (10, [.ref (α 5 i4), .ref (α 9 (wBand σ2 i4)), .int (bI true), .int (wSet σ2 i4), .ref (qc105), .int (bI r4.2.1), .int (r4.2.2.1), .int (r4.2.2.2), .ref (α 0 0)])) H1 := hT_t86.kept (hq _ (fun e9 => hd_t86 (by have e9 : q86 = _ := e9; rw [e9]; exact (hX.wdF (hcn.w hki4)))))
              have hT_cs105 : va_at D vwCl (qc105, arI E (nP σ2) r4.1) H1 := hT_cs105.kept (hq _ (fun e9 => hd_cs105 (by have e9 : qc105 = _ := e9; rw [e9]; exact (hX.wdF (hcn.w hki4)))))
              have hX := hX.Pw24 (hcn.w hki4) he hq
              have hG := gE.ofS hG0 hS hFE
              obtain ⟨σ5, hσ5⟩ : ∃ x, x = sW σ2 24 i4 r4.2.2.2 := ⟨_, rfl⟩
              rw [← hσ5] at hR hX
              have hcn : cnt σ5 σ := by rw [hσ5]; exact hcn.sW
              try dsimp only at hR
              refine lv_goto (tgt := 157) hx hb dX1_fall_129 (by decide) ?_
              refine lv_iinc (v := nI (i4 + 1)) (lv' := [(4, .int (nI (i4 + 1))), (6, .ref (q86)), (5, .ref (α 5 i4)), (0, .ref (α 0 0)), (1, .int (nI ui)), (2, .int (nI di)), (3, .int (a3))]) hx hb dX1_fall_157 hl (k := 6) rfl (nI_1 i4) (Nat.le_of_ble_eq_true rfl) rfl (fun ls hl => ?_)
              refine lv_goto (tgt := 24) hx hb dX1_fall_160 (by decide) ?_
              exact W.widen (by show _ ≤ _; omega) (by show _ ≤ _; omega) (ih (i4 + 1) a3 σ5 (lk_st hn) hR _ _ _ hcn hX hFa (fun q z => by have := hFb q z; omega) hS ls (lv_sub hl [3, 4, 5, 6, 0] rfl))
  unfold fX1_fall at hR
  refine lv_aload_n hx hb dX1_fall_0 rfl (lv_at hl 0 rfl) ?_
  refine gf (v := .ref (α 1 0)) (C := RX1) (T := TX1) (N := 6) (k := 0) hx hb hts hown hG cl_X1 in_X1 hX.ag (by decide) q301 rfl dX1_fall_1 ?_
  refine lv_iload_n hx hb dX1_fall_4 rfl (lv_at hl 1 rfl) ?_
  refine pcF (x := xL_get) (ci := 13) (As := [.int (nI ui)]) (rest := []) hG.fw_get hS0 (met_xl_get l D E (j := 0) (by decide) ui h_ui) q344 q347 q349 q103 q351 hd_xL_get ⟨Nat.le_of_ble_eq_true rfl, Nat.le_of_ble_eq_true rfl⟩ hG cl_J2 (hX.lsR hG (j := 0) (by decide)) hX rfl hl.1 rfl (Nat.le_of_ble_eq_true rfl) dX1_fall_5 ⟨Nat.le_of_ble_eq_true rfl, Nat.le_of_ble_eq_true rfl⟩ ?_
  refine W.eq (g2 := F0 m 10 ls [.ref (α 3 ui)]) rfl ?_
  refine gc (ci := 5) hx hb hown hG cl_X6 (rcv hG cl_X6 (hX.pl h_ui)) (hts _ q362) dX1_fall_10 ?_
  refine gfN (v := .ref (α 4 ui)) (C := RX6) (T := TX6) (N := 7) (k := 6) hx hb hts hown hG cl_X6 in_X6 (hX.pl h_ui) (by decide) q920 rfl dX1_fall_13 ?_
  refine lv_iload_n hx hb dX1_fall_16 rfl (lv_at hl 2 rfl) ?_
  refine lv_iconst (v := 1) hx hb dX1_fall_17 (by decide) ?_
  refine paZ (N := 366) (k := di) (v := 1) rfl hx hb hG hS (hX.off h_ui) (hFa _ (hX.ofF h_ui)) (hFa _ (hX.ofF h_ui)) h_di (by decide) dX1_fall_18 (fun H1 locs1 he hz hq hS => ?_)
  have hX := hX.Pof h_ui he hq
  have hG := gE.ofS hG0 hS hFE
  obtain ⟨σ1, hσ1⟩ : ∃ x, x = sO σ ui di 1 := ⟨_, rfl⟩
  rw [← hσ1] at hR hX
  have hcn : cnt σ1 σ := by rw [hσ1]; exact hcn.sO
  try dsimp only at hR
  refine lv_iconst (v := 0) hx hb dX1_fall_19 (by decide) ?_
  refine lv_istore_n (lv' := [(3, .int 0), (0, .ref (α 0 0)), (1, .int (nI ui)), (2, .int (nI di))]) hx hb dX1_fall_20 rfl hl (Nat.le_of_ble_eq_true rfl) rfl (fun ls hl => ?_)
  refine lv_iconst (v := 0) hx hb dX1_fall_21 (by decide) ?_
  refine lv_istore (lv' := [(4, .int 0), (3, .int 0), (0, .ref (α 0 0)), (1, .int (nI ui)), (2, .int (nI di))]) hx hb dX1_fall_22 hl (Nat.le_of_ble_eq_true rfl) rfl (fun ls hl => ?_)
  refine W.widen (k := 0 + 0 * 2) (n := 0 + 0 * 19) (by show _ ≤ _; omega) (by show _ ≤ _; omega) ?_
  refine hL24  _ (fun a6 σ6 H1 locs1 Fc ls hR hcn hX hFa hFb hS hl => ?_) (nW σ) 0 0 σ1 (Nat.zero_add _) hR _ _ _ hcn hX hFa (fun q z => by have := hFb q z; omega) hS ls (lv_sub hl [2, 3, 4, 1, 0] rfl)
  try dsimp only at hR
  have hG := gE.ofS hG0 hS hFE
  refine lv_iload_n hx hb dX1_fall_163 rfl (lv_at hl 0 rfl) ?_
  exact g_iret hx hb hr hlocks hS ⟨by show _ ≤ 30; omega, by show _ ≤ 285; omega⟩ dX1_fall_164 (by cases hR; exact ⟨rfl, (hX.mono (fun q _ z => hFa q z) (fN_E hFE hG0.2.2.1)), hcn⟩)

def fX1_ill (σ : St) (a : Int32) (b : Int32) : Option (Nat × Int32 × St) :=
  (if 0 ≤ a ∧ a < nI (nP σ) then (if (tod σ) ≤ b ∧ b ≤ 365 then (Option.bind (fX1_fall σ ((Int32.toNatClampNeg a)) ((Int32.toNatClampNeg b))) (fun (r3 : Int32 × St) => (fun (σ1 : St) => (fun (v1 : Int32) => (some (0, v1, σ1))) (r3.1)) (r3.2))) else (some (2, 0, σ))) else (some (1, 0, σ)))
set_option maxHeartbeats 4000000 in
set_option maxRecDepth 100000 in
theorem met_X1_ill (l : Launch) (D : va_G) (E : Nat → Nat) (hlf : l.stackTraces = false) {α : Nat → Nat → Nat} {F : Nat → Prop} {σ : St} (a : Int32) (b : Int32) (h0 : 0 ≤ tod σ) {r : Nat × Int32 × St} (hR : fX1_ill σ a b = some r) : XM l D E yX1_ill cX1_ill 3 (Option.some Jvm.ClassFile.FieldType.int) 435 9353 32 297 [.ref (α 0 0), .int (a), .int (b)] (RX D E α F σ) F F (fun sz v h => r.1 = 0 ∧ v = some (.int r.2.1) ∧ RX D E α (fN F sz) r.2.2 h ∧ cnt r.2.2 σ) (fun sz X h => X = exN r.1 ∧ r.1 ≠ 0 ∧ RX D E α (fN F sz) σ h) := by
  refine XM.start (by decide) (Nat.le_of_ble_eq_true rfl) ?_
  intro p e s m below meth c ls hx hb hr hml hown hlocks hex hts hG hX hS hl
  have hown : s.vm.findClass RX1 = some m.cls := hown
  have hS0 : xS p m c cX1_ill 3 s _ RX1 := ⟨hx, hb, hml, hown, hts⟩
  have hl : lv_has ls 3 [(0, .ref (α 0 0)), (1, .int (a)), (2, .int (b))] := hl
  have hG0 := hG
  have hX0 := hX
  have hb0P := hX0.nP10
  have hb0B := hX0.nB6
  have hb0W := hX0.nW14
  have hFE := hX.fE
  obtain ⟨Fc, hX, hFn⟩ := hX.nar
  have hFa : ∀ q, Fc q → fN F s.heap.size q := fun q z => Or.inl (hFn q z).1
  have hFb : ∀ q, Fc q → q < s.heap.size := fun q z => (hFn q z).2
  have hcn : cnt σ σ := cnt.rf
  unfold fX1_ill at hR
  refine lv_aload_n hx hb dX1_ill_0 rfl (lv_at hl 0 rfl) ?_
  refine lv_iload_n hx hb dX1_ill_1 rfl (lv_at hl 1 rfl) ?_
  have hB := hS.1
  refine xcV (As := [.int (a)]) (rest := []) hS0 (met_X1_playerAt l D E hlf a _) q944 q946 qs40 q100 q947 hd_X1_playerAt ⟨Nat.le_of_ble_eq_true rfl, Nat.le_of_ble_eq_true rfl⟩ hG (rcv hG cl_X1 hX.ag) ⟨rfl, hX⟩ rfl hl.1 rfl (Nat.le_of_ble_eq_true rfl) dX1_ill_2 ⟨Nat.le_of_ble_eq_true rfl, Nat.le_of_ble_eq_true rfl⟩ hS (fun q h => h.elim) (fun q h => h.elim) (fun X ce q9 H1 locs1 hP hz hk hS9 h1 h2 h3 => ?_) (fun v H1 locs1 hP hz hk hS9 => ?_)
  · obtain ⟨rfl, hc9⟩ := hP
    have hS := hS9
    clear hS9
    rw [if_neg hc9] at hR
    exact x_out hex hlocks h1 h2 h3 hS ⟨Nat.le_of_ble_eq_true rfl, Nat.le_of_ble_eq_true rfl⟩ (by cases hR; exact ⟨rfl, Nat.succ_ne_zero _, ((hX.kept (fun q h4 _ => hk q h4 id)).mono (fun q _ z => hFa q z) (fN_E hFE hG0.2.2.1))⟩)
  · obtain ⟨rfl, hc9, rfl⟩ := hP
    have hS := hS9
    clear hS9
    rw [if_pos hc9] at hR
    have k1 := hc9
    have nk1 := ck_ix k1 (by have := hX.nP10; have := hX.nW14; have := hX.nB6; omega)
    refine W.eq (g2 := F0 m 5 ls [.ref (α 3 (Int32.toNatClampNeg a))]) rfl ?_
    refine lv_pop hx hb dX1_ill_5 rfl ?_
    refine lv_iload_n hx hb dX1_ill_6 rfl (lv_at hl 2 rfl) ?_
    refine lv_aload_n hx hb dX1_ill_7 rfl (lv_at hl 0 rfl) ?_
    refine gf (v := .int (tod σ)) (C := RX1) (T := TX1) (N := 6) (k := 5) hx hb hts hown hG cl_X1 in_X1 hX.ag (by decide) q308 rfl dX1_ill_8 ?_
    refine lv_sipush (v := 365) hx hb dX1_ill_11 (by decide) ?_
    have hB := hS.1
    refine xcS (As := [.int (b), .int (tod σ), .int 365]) (rest := []) hS0 (met_X1_mustBeIn l D E hlf b (tod σ) 365 _) q860 q861 q100 q862 hd_X1_mustBeIn ⟨Nat.le_of_ble_eq_true rfl, Nat.le_of_ble_eq_true rfl⟩ hG rfl rfl hl.1 rfl (Nat.le_of_ble_eq_true rfl) dX1_ill_14 ⟨Nat.le_of_ble_eq_true rfl, Nat.le_of_ble_eq_true rfl⟩ hS (fun q h => h.elim) (fun q h => h.elim) (fun X ce q9 H1 locs1 hP hz hk hS9 h1 h2 h3 => ?_) (fun v H1 locs1 hP hz hk hS9 => ?_)
    · obtain ⟨rfl, hc9⟩ := hP
      have hS := hS9
      clear hS9
      rw [if_neg hc9] at hR
      exact x_out hex hlocks h1 h2 h3 hS ⟨Nat.le_of_ble_eq_true rfl, Nat.le_of_ble_eq_true rfl⟩ (by cases hR; exact ⟨rfl, Nat.succ_ne_zero _, ((hX.kept (fun q h4 _ => hk q h4 id)).mono (fun q _ z => hFa q z) (fN_E hFE hG0.2.2.1))⟩)
    · obtain ⟨rfl, hc9, rfl⟩ := hP
      have hS := hS9
      clear hS9
      rw [if_pos hc9] at hR
      have k2 := hc9
      have nk2 := mb_ix (n := 365) (by decide) ⟨Int32.le_trans h0 k2.1, k2.2⟩
      refine W.eq (g2 := F0 m 17 ls []) rfl ?_
      refine lv_aload_n hx hb dX1_ill_17 rfl (lv_at hl 0 rfl) ?_
      refine lv_iload_n hx hb dX1_ill_18 rfl (lv_at hl 1 rfl) ?_
      refine lv_eq nk1.1 ?_
      refine lv_iload_n hx hb dX1_ill_19 rfl (lv_at hl 2 rfl) ?_
      refine lv_eq nk2.1 ?_
      rcases hc_r3 : (fX1_fall σ ((Int32.toNatClampNeg a)) ((Int32.toNatClampNeg b))) with _ | r3
      · rw [hc_r3] at hR
        cases hR
      rw [hc_r3] at hR
      try dsimp only [Option.bind] at hR
      have hB := hS.1
      refine gcV (As := [.int (nI ((Int32.toNatClampNeg a))), .int (nI ((Int32.toNatClampNeg b)))]) (rest := []) hS0 (met_X1_fall l D E ((Int32.toNatClampNeg a)) ((Int32.toNatClampNeg b)) nk1.2 nk2.2 hc_r3) q1092 q1094 qs45 q100 q1095 hd_X1_fall ⟨Nat.le_of_ble_eq_true rfl, Nat.le_of_ble_eq_true rfl⟩ hG (rcv hG cl_X1 hX.ag) hX rfl hl.1 rfl (Nat.le_of_ble_eq_true rfl) dX1_ill_20 ⟨Nat.le_of_ble_eq_true rfl, Nat.le_of_ble_eq_true rfl⟩ hS (fun q h => hFa q h) (fun q h => hFa q h) (fun v H1 locs1 hP hz hk hS => ?_)
      obtain ⟨rfl, hZ, hc8⟩ := hP
      obtain ⟨Fd, hX, hFn⟩ := hZ.nar
      have hFa : ∀ q, Fd q → fN F s.heap.size q := fun q z => (hFn q z).1.elim (hFa q) (fun z9 => Or.inr (Nat.le_trans hB z9))
      have hFb : ∀ q, Fd q → q < H1.size := fun q z => (hFn q z).2
      clear hFn
      generalize Fd = Fc at hX hFa hFb
      have hG := gE.ofS hG0 hS hFE
      have hcn := hc8.tr hcn
      generalize hv_σ1 : r3.2 = σ1 at hR hX hcn ⊢
      generalize hv_v1 : r3.1 = v1 at hR hX hcn ⊢
      try dsimp only at hR
      refine W.eq (g2 := F0 m 23 ls [.int (v1)]) rfl ?_
      exact vx_ret (g_iret hx hb hr hlocks hS ⟨Nat.le_of_ble_eq_true rfl, Nat.le_of_ble_eq_true rfl⟩ dX1_ill_23 (by cases hR; exact ⟨rfl, rfl, (hX.mono (fun q _ z => hFa q z) (fN_E hFE hG0.2.2.1)), hcn⟩))

def fX1_filling (σ : St) (a : Int32) (b : Int32) : Option (Nat × Int32) :=
  (if 0 ≤ a ∧ a < nI (nW σ) then (if 0 ≤ b ∧ b ≤ 3 then (Option.bind (fX1_fillings σ ((Int32.toNatClampNeg a))) (fun (r3 : (Nat → Int32) × Bool × Int32 × Int32) => (Option.bind (fX1_fillingNow σ ((Int32.toNatClampNeg a)) b r3.2.1 r3.2.2.1 r3.2.2.2 (nP σ) r3.1) (fun (r4 : Int32) => (some (0, r4)))))) else (some (2, 0))) else (some (1, 0)))
set_option maxHeartbeats 4000000 in
set_option maxRecDepth 100000 in
theorem met_X1_filling (l : Launch) (D : va_G) (E : Nat → Nat) (hlf : l.stackTraces = false) {α : Nat → Nat → Nat} {F : Nat → Prop} {σ : St} (a : Int32) (b : Int32)  {r : Nat × Int32} (hR : fX1_filling σ a b = some r) : XM l D E yX1_filling cX1_filling 3 (Option.some Jvm.ClassFile.FieldType.int) 436 9373 6 50 [.ref (α 0 0), .int (a), .int (b)] (RX D E α F σ) F F (fun sz v h => r.1 = 0 ∧ v = some (.int r.2) ∧ RX D E α F σ h) (fun sz X h => X = exN r.1 ∧ r.1 ≠ 0 ∧ RX D E α F σ h) := by
  refine XM.start (by decide) (Nat.le_of_ble_eq_true rfl) ?_
  intro p e s m below meth c ls hx hb hr hml hown hlocks hex hts hG hX hS hl
  have hown : s.vm.findClass RX1 = some m.cls := hown
  have hS0 : xS p m c cX1_filling 3 s _ RX1 := ⟨hx, hb, hml, hown, hts⟩
  have hl : lv_has ls 3 [(0, .ref (α 0 0)), (1, .int (a)), (2, .int (b))] := hl
  have hG0 := hG
  have hX0 := hX
  have hb0P := hX0.nP10
  have hb0B := hX0.nB6
  have hb0W := hX0.nW14
  have hFE := hX.fE
  obtain ⟨Fc, hX, hFn⟩ := hX.nar
  have hFa : ∀ q, Fc q → F q := fun q z => (hFn q z).1
  have hFb : ∀ q, Fc q → q < s.heap.size := fun q z => (hFn q z).2
  have hcn : cnt σ σ := cnt.rf
  unfold fX1_filling at hR
  refine lv_aload_n hx hb dX1_filling_0 rfl (lv_at hl 0 rfl) ?_
  refine lv_iload_n hx hb dX1_filling_1 rfl (lv_at hl 1 rfl) ?_
  have hB := hS.1
  refine xcV (As := [.int (a)]) (rest := []) hS0 (met_X1_weddingAt l D E hlf a _) q1066 q1068 qs42 q100 q1069 hd_X1_weddingAt ⟨Nat.le_of_ble_eq_true rfl, Nat.le_of_ble_eq_true rfl⟩ hG (rcv hG cl_X1 hX.ag) ⟨rfl, hX⟩ rfl hl.1 rfl (Nat.le_of_ble_eq_true rfl) dX1_filling_2 ⟨Nat.le_of_ble_eq_true rfl, Nat.le_of_ble_eq_true rfl⟩ hS (fun q h => h.elim) (fun q h => h.elim) (fun X ce q9 H1 locs1 hP hz hk hS9 h1 h2 h3 => ?_) (fun v H1 locs1 hP hz hk hS9 => ?_)
  · obtain ⟨rfl, hc9⟩ := hP
    have hS := hS9
    clear hS9
    rw [if_neg hc9] at hR
    exact x_out hex hlocks h1 h2 h3 hS ⟨Nat.le_of_ble_eq_true rfl, Nat.le_of_ble_eq_true rfl⟩ (by cases hR; exact ⟨rfl, Nat.succ_ne_zero _, ((hX.kept (fun q h4 _ => hk q h4 id)).mono (fun q _ z => hFa q z) hFE)⟩)
  · obtain ⟨rfl, hc9, rfl⟩ := hP
    have hS := hS9
    clear hS9
    rw [if_pos hc9] at hR
    have k1 := hc9
    have nk1 := ck_ix k1 (by have := hX.nP10; have := hX.nW14; have := hX.nB6; omega)
    refine W.eq (g2 := F0 m 5 ls [.ref (α 5 (Int32.toNatClampNeg a))]) rfl ?_
    refine lv_pop hx hb dX1_filling_5 rfl ?_
    refine lv_iload_n hx hb dX1_filling_6 rfl (lv_at hl 2 rfl) ?_
    refine lv_iconst (v := 0) hx hb dX1_filling_7 (by decide) ?_
    refine lv_iconst (v := 3) hx hb dX1_filling_8 (by decide) ?_
    have hB := hS.1
    refine xcS (As := [.int (b), .int 0, .int 3]) (rest := []) hS0 (met_X1_mustBeIn l D E hlf b 0 3 _) q860 q861 q100 q862 hd_X1_mustBeIn ⟨Nat.le_of_ble_eq_true rfl, Nat.le_of_ble_eq_true rfl⟩ hG rfl rfl hl.1 rfl (Nat.le_of_ble_eq_true rfl) dX1_filling_9 ⟨Nat.le_of_ble_eq_true rfl, Nat.le_of_ble_eq_true rfl⟩ hS (fun q h => h.elim) (fun q h => h.elim) (fun X ce q9 H1 locs1 hP hz hk hS9 h1 h2 h3 => ?_) (fun v H1 locs1 hP hz hk hS9 => ?_)
    · obtain ⟨rfl, hc9⟩ := hP
      have hS := hS9
      clear hS9
      rw [if_neg hc9] at hR
      exact x_out hex hlocks h1 h2 h3 hS ⟨Nat.le_of_ble_eq_true rfl, Nat.le_of_ble_eq_true rfl⟩ (by cases hR; exact ⟨rfl, Nat.succ_ne_zero _, ((hX.kept (fun q h4 _ => hk q h4 id)).mono (fun q _ z => hFa q z) hFE)⟩)
    · obtain ⟨rfl, hc9, rfl⟩ := hP
      have hS := hS9
      clear hS9
      rw [if_pos hc9] at hR
      have k2 := hc9
      refine W.eq (g2 := F0 m 12 ls []) rfl ?_
      refine lv_aload_n hx hb dX1_filling_12 rfl (lv_at hl 0 rfl) ?_
      refine lv_iload_n hx hb dX1_filling_13 rfl (lv_at hl 1 rfl) ?_
      refine lv_eq nk1.1 ?_
      refine lv_aload_n hx hb dX1_filling_14 rfl (lv_at hl 0 rfl) ?_
      refine lv_iload_n hx hb dX1_filling_15 rfl (lv_at hl 1 rfl) ?_
      refine lv_eq nk1.1 ?_
      rcases hc_r3 : (fX1_fillings σ ((Int32.toNatClampNeg a))) with _ | r3
      · rw [hc_r3] at hR
        cases hR
      rw [hc_r3] at hR
      try dsimp only [Option.bind] at hR
      have hB := hS.1
      refine gcV (As := [.int (nI ((Int32.toNatClampNeg a)))]) (rest := [.int (nI ((Int32.toNatClampNeg a))), .ref (α 0 0)]) hS0 (met_X1_fillings l D E ((Int32.toNatClampNeg a)) nk1.2 hc_r3) q499 q501 qs22 q100 q502 hd_X1_fillings ⟨Nat.le_of_ble_eq_true rfl, Nat.le_of_ble_eq_true rfl⟩ hG (rcv hG cl_X1 hX.ag) hX rfl hl.1 rfl (Nat.le_of_ble_eq_true rfl) dX1_filling_16 ⟨Nat.le_of_ble_eq_true rfl, Nat.le_of_ble_eq_true rfl⟩ hS (fun q h => Or.inl (hFa q h)) (fun q h => Or.inl (hFa q h)) (fun v H1 locs1 hP hz hk hS => ?_)
      obtain ⟨q16, qc16, rfl, hq9, hq8, hne_fo16_cs16, hZ, hT_fo16, hT_cs16⟩ := hP
      have hX := hZ
      have hG := gE.ofS hG0 hS hFE
      have hge_fo16 : s.heap.size ≤ q16 := by have := hB; omega
      have hd_fo16 : ¬ Fc q16 := fun z => by have := hFb _ z; omega
      have hge_cs16 : s.heap.size ≤ qc16 := by have := hB; omega
      have hd_cs16 : ¬ Fc qc16 := fun z => by have := hFb _ z; omega
      refine W.eq (g2 := F0 m 19 ls [.ref (q16), .int (nI ((Int32.toNatClampNeg a))), .ref (α 0 0)]) rfl ?_
      refine lv_iload_n hx hb dX1_filling_19 rfl (lv_at hl 2 rfl) ?_
      rcases hc_r4 : (fX1_fillingNow σ ((Int32.toNatClampNeg a)) b r3.2.1 r3.2.2.1 r3.2.2.2 (nP σ) r3.1) with _ | r4
      · rw [hc_r4] at hR
        cases hR
      rw [hc_r4] at hR
      try dsimp only [Option.bind] at hR
      have hB := hS.1
      have hL_fo16 : q16 < _ := hT_fo16.lt
      have hL_cs16 : qc16 < _ := hT_cs16.lt
      refine gcV (As := [.int (nI ((Int32.toNatClampNeg a))), .ref (q16), .int (b)]) (rest := []) hS0 (met_X1_fillingNow l D E ((Int32.toNatClampNeg a)) q16 b true 0 qc16 r3.2.1 r3.2.2.1 r3.2.2.2 (nP σ) r3.1 nk1.2 hd_fo16 hd_cs16 hne_fo16_cs16 (hX.nP10) hc_r4) q605 q607 qs34 q100 q608 hd_X1_fillingNow ⟨Nat.le_of_ble_eq_true rfl, Nat.le_of_ble_eq_true rfl⟩ hG (rcv hG cl_X1 hX.ag) ⟨hX, hT_fo16, hT_cs16⟩ rfl hl.1 rfl (Nat.le_of_ble_eq_true rfl) dX1_filling_20 ⟨Nat.le_of_ble_eq_true rfl, Nat.le_of_ble_eq_true rfl⟩ hS (fun q h => Or.inl (hFa q h)) (fun q h => Or.inl (hFa q h)) (fun v H1 locs1 hP hz hk hS => ?_)
      obtain ⟨rfl, hZ⟩ := hP
      have hT_fo16 : va_at D vwCl (q16, .inr (10, [.ref (α 5 ((Int32.toNatClampNeg a))), .ref (α 9 (wBand σ ((Int32.toNatClampNeg a)))), .int (bI true), .int (0), .ref (qc16), .int (bI r3.2.1), .int (r3.2.2.1), .int (r3.2.2.2), .ref (α 0 0)])) H1 := hT_fo16.kept (hk _ hT_fo16.lt hd_fo16)
      have hT_cs16 : va_at D vwCl (qc16, arI E (nP σ) r3.1) H1 := hT_cs16.kept (hk _ hT_cs16.lt hd_cs16)
      have hX := hZ
      have hG := gE.ofS hG0 hS hFE
      refine W.eq (g2 := F0 m 23 ls [.int (r4)]) rfl ?_
      exact vx_ret (g_iret hx hb hr hlocks hS ⟨Nat.le_of_ble_eq_true rfl, Nat.le_of_ble_eq_true rfl⟩ dX1_filling_23 (by cases hR; exact ⟨rfl, rfl, (hX.mono (fun q _ z => hFa q z) hFE)⟩))

def fX1_key_L33 (σ : St) (a : Int32) (r2 : (Nat → Int32) × Bool × Int32 × Int32) (κ : Option (Nat × Int32)) : Nat → Nat → Option (Nat × Int32)
  | 0, i4 => κ
  | n + 1, i4 => κ
def fX1_key_L33b (σ : St) (a : Int32) (r2 : (Nat → Int32) × Bool × Int32 × Int32) (κ : Option (Nat × Int32)) : Nat → Nat → Option (Nat × Int32)
  | 0, i4 => κ
  | n + 1, i4 => (Option.bind (fX12_init σ ((Int32.toNatClampNeg a)) (((fX1_freeFor σ ((Int32.toNatClampNeg a)))) &&& ((1 <<< ((nI i4) &&& 31)) ^^^ ((-1)))) 0 true) (fun (r4 : (Nat → Int32) × Bool × Int32 × Int32) => (if r4.2.2.2 = ((-1)) then (some (0, nI i4)) else fX1_key_L33b σ a r2 κ n (i4 + 1))))
def fX1_key (σ : St) (a : Int32) : Option (Nat × Int32) :=
  (if 0 ≤ a ∧ a < nI (nW σ) then (Option.bind (fX1_fillings σ ((Int32.toNatClampNeg a))) (fun (r2 : (Nat → Int32) × Bool × Int32 × Int32) => (if r2.2.2.2 = ((-1)) then fX1_key_L33 σ a r2 ((some (0, (-1)))) (nP σ) 0 else fX1_key_L33b σ a r2 ((some (0, (-1)))) (nP σ) 0))) else (some (1, 0)))
set_option maxHeartbeats 4000000 in
set_option maxRecDepth 100000 in
theorem met_X1_key (l : Launch) (D : va_G) (E : Nat → Nat) (hlf : l.stackTraces = false) {α : Nat → Nat → Nat} {F : Nat → Prop} {σ : St} (a : Int32)  {r : Nat × Int32} (hR : fX1_key σ a = some r) : XM l D E yX1_key cX1_key 5 (Option.some Jvm.ClassFile.FieldType.int) 435 9348 25 234 [.ref (α 0 0), .int (a)] (RX D E α F σ) F F (fun sz v h => r.1 = 0 ∧ v = some (.int r.2) ∧ RX D E α F σ h) (fun sz X h => X = exN r.1 ∧ r.1 ≠ 0 ∧ RX D E α F σ h) := by
  refine XM.start (by decide) (Nat.le_of_ble_eq_true rfl) ?_
  intro p e s m below meth c ls hx hb hr hml hown hlocks hex hts hG hX hS hl
  have hown : s.vm.findClass RX1 = some m.cls := hown
  have hS0 : xS p m c cX1_key 5 s _ RX1 := ⟨hx, hb, hml, hown, hts⟩
  have hl : lv_has ls 5 [(0, .ref (α 0 0)), (1, .int (a))] := hl
  have hG0 := hG
  have hX0 := hX
  have hb0P := hX0.nP10
  have hb0B := hX0.nB6
  have hb0W := hX0.nW14
  have hFE := hX.fE
  obtain ⟨Fc, hX, hFn⟩ := hX.nar
  have hFa : ∀ q, Fc q → F q := fun q z => (hFn q z).1
  have hFb : ∀ q, Fc q → q < s.heap.size := fun q z => (hFn q z).2
  have hcn : cnt σ σ := cnt.rf
  have hL33 : ∀ (r2 : (Nat → Int32) × Bool × Int32 × Int32) (q14 : Nat) (qc14 : Nat) (hge_fo14 : s.heap.size ≤ q14) (hne_fo14_cs14 : q14 ≠ qc14) (hge_cs14 : s.heap.size ≤ qc14) (hf33_0 : (Int32.toNatClampNeg a) < nW σ) (hg33_0 : a = nI ((Int32.toNatClampNeg a))) (κ : Option (Nat × Int32)) (hκ : ∀ (H : Heap) (locs : List Loc) (Fc : Nat → Prop) (ls : Array Slot), κ = some r → RX D E α Fc σ H → (∀ q, Fc q → F q) → (∀ q, Fc q → q < H.size) → ¬ Fc q14 → ¬ Fc qc14 → va_at D vwCl (q14, .inr (10, [.ref (α 5 ((Int32.toNatClampNeg a))), .ref (α 9 (wBand σ ((Int32.toNatClampNeg a)))), .int (bI true), .int (0), .ref (qc14), .int (bI r2.2.1), .int (r2.2.2.1), .int (r2.2.2.2), .ref (α 0 0)])) H → va_at D vwCl (qc14, arI E (nP σ) r2.1) H → xK F F s.heap H locs → lv_has ls 5 [] → W p l e { frames := 435, cells := 25, slots := 234, locals := 9348 } s m [(.ref (α 0 0) : Value), .int (a)].toArray below meth c H locs (3 + 20) (25 + 190) (vx_MQ below (qG F ((fun sz v h => r.1 = 0 ∧ v = some (.int r.2) ∧ RX D E α F σ h) s.heap.size)) (qX F ((fun sz X h => X = exN r.1 ∧ r.1 ≠ 0 ∧ RX D E α F σ h) s.heap.size)) [(.ref (α 0 0) : Value), .int (a)].toArray s 25 234 (fN F s.heap.size)) (F0 m 86 ls [])) (n : Nat) (i4 : Nat) , i4 + n = nP σ → fX1_key_L33 σ a r2 κ n i4 = some r → ∀ (H : Heap) (locs : List Loc) (Fc : Nat → Prop), RX D E α Fc σ H → (∀ q, Fc q → F q) → (∀ q, Fc q → q < H.size) → ¬ Fc q14 → ¬ Fc qc14 → va_at D vwCl (q14, .inr (10, [.ref (α 5 ((Int32.toNatClampNeg a))), .ref (α 9 (wBand σ ((Int32.toNatClampNeg a)))), .int (bI true), .int (0), .ref (qc14), .int (bI r2.2.1), .int (r2.2.2.1), .int (r2.2.2.2), .ref (α 0 0)])) H → va_at D vwCl (qc14, arI E (nP σ) r2.1) H → xK F F s.heap H locs → ∀ (ls : Array Slot), lv_has ls 5 [(0, .ref (α 0 0)), (1, .int (a)), (2, .int ((fX1_freeFor σ ((Int32.toNatClampNeg a))))), (3, .int 0), (4, .int (nI i4))] → W p l e { frames := 435, cells := 25, slots := 234, locals := 9348 } s m [(.ref (α 0 0) : Value), .int (a)].toArray below meth c H locs (3 + i4 * 2) (25 + i4 * 19) (vx_MQ below (qG F ((fun sz v h => r.1 = 0 ∧ v = some (.int r.2) ∧ RX D E α F σ h) s.heap.size)) (qX F ((fun sz X h => X = exN r.1 ∧ r.1 ≠ 0 ∧ RX D E α F σ h) s.heap.size)) [(.ref (α 0 0) : Value), .int (a)].toArray s 25 234 (fN F s.heap.size)) (F0 m 33 ls []) := by
    intro r2 q14 qc14 hge_fo14 hne_fo14_cs14 hge_cs14 hf33_0 hg33_0 κ hκ n
    induction n with
    | zero =>
      intro i4 hn hR H locs Fc hX hFa hFb hd_fo14 hd_cs14 hT_fo14 hT_cs14 hS ls hl
      rw [fX1_key_L33] at hR
      have hG := gE.ofS hG0 hS hFE
      have hb_i4 : i4 ≤ 10 := by have := hX0.nP10; have := hX0.nB6; have := hX0.nW14; omega
      refine lv_iload hx hb dX1_key_33 (lv_at hl 4 rfl) ?_
      refine lv_aload_n hx hb dX1_key_35 rfl (lv_at hl 0 rfl) ?_
      refine gf (v := .ref (α 1 0)) (C := RX1) (T := TX1) (N := 6) (k := 0) hx hb hts hown hG cl_X1 in_X1 hX.ag (by decide) q301 rfl dX1_key_36 ?_
      refine pcF (x := xL_size) (ci := 13) (As := []) (rest := [.int (nI i4)]) hG.fw_size hS0 (met_xl_size l D E (j := 0) (by decide)) q331 q334 q336 q103 q338 hd_xL_size ⟨Nat.le_of_ble_eq_true rfl, Nat.le_of_ble_eq_true rfl⟩ hG cl_J2 (hX.lsR hG (j := 0) (by decide)) hX rfl hl.1 rfl (Nat.le_of_ble_eq_true rfl) dX1_key_39 ⟨by show _ ≤ 25; omega, by show _ ≤ 234; omega⟩ ?_
      refine W.eq (g2 := F0 m 44 ls [.int (nI (nP σ)), .int (nI i4)]) rfl ?_
      refine lk_ge_out (k := i4) (N := nP σ) hx hb hn (tgt := 86) dX1_key_44 (by decide) ?_
      exact W.widen (by show _ ≤ _; omega) (by show _ ≤ _; omega) (hκ  _ _ _ ls hR hX hFa (fun q z => by have := hFb q z; omega) hd_fo14 hd_cs14 hT_fo14 hT_cs14 hS (lv_sub hl [] rfl))
    | succ n ih =>
      intro i4 hn hR H locs Fc hX hFa hFb hd_fo14 hd_cs14 hT_fo14 hT_cs14 hS ls hl
      rw [fX1_key_L33] at hR
      have hG := gE.ofS hG0 hS hFE
      have hb_i4 : i4 ≤ 10 := by have := hX0.nP10; have := hX0.nB6; have := hX0.nW14; omega
      refine lv_iload hx hb dX1_key_33 (lv_at hl 4 rfl) ?_
      refine lv_aload_n hx hb dX1_key_35 rfl (lv_at hl 0 rfl) ?_
      refine gf (v := .ref (α 1 0)) (C := RX1) (T := TX1) (N := 6) (k := 0) hx hb hts hown hG cl_X1 in_X1 hX.ag (by decide) q301 rfl dX1_key_36 ?_
      refine pcF (x := xL_size) (ci := 13) (As := []) (rest := [.int (nI i4)]) hG.fw_size hS0 (met_xl_size l D E (j := 0) (by decide)) q331 q334 q336 q103 q338 hd_xL_size ⟨Nat.le_of_ble_eq_true rfl, Nat.le_of_ble_eq_true rfl⟩ hG cl_J2 (hX.lsR hG (j := 0) (by decide)) hX rfl hl.1 rfl (Nat.le_of_ble_eq_true rfl) dX1_key_39 ⟨by show _ ≤ 25; omega, by show _ ≤ 234; omega⟩ ?_
      refine W.eq (g2 := F0 m 44 ls [.int (nI (nP σ)), .int (nI i4)]) rfl ?_
      have hki4 : i4 < nP σ := lk_lt hn
      refine lk_ge_in (k := i4) (N := nP σ) hx hb hki4 (by have := hX.nP10; have := hX.nW14; have := hX.nB6; omega) (tgt := 86) dX1_key_44 (by decide) ?_
      refine lv_iload_n hx hb dX1_key_47 rfl (lv_at hl 3 rfl) ?_
      refine lv_if_eq (tgt := 86) hx hb dX1_key_48 (by decide) (fun _ => ?_) (fun c9 => absurd (by decide) c9)
      exact W.widen (by show _ ≤ _; omega) (by show _ ≤ _; omega) (hκ  _ _ _ ls hR hX hFa (fun q z => by have := hFb q z; omega) hd_fo14 hd_cs14 hT_fo14 hT_cs14 hS (lv_sub hl [] rfl))
  have hL33b : ∀ (r2 : (Nat → Int32) × Bool × Int32 × Int32) (q14 : Nat) (qc14 : Nat) (hge_fo14 : s.heap.size ≤ q14) (hne_fo14_cs14 : q14 ≠ qc14) (hge_cs14 : s.heap.size ≤ qc14) (hf33_0 : (Int32.toNatClampNeg a) < nW σ) (hg33_0 : a = nI ((Int32.toNatClampNeg a))) (κ : Option (Nat × Int32)) (hκ : ∀ (H : Heap) (locs : List Loc) (Fc : Nat → Prop) (ls : Array Slot), κ = some r → RX D E α Fc σ H → (∀ q, Fc q → F q) → (∀ q, Fc q → q < H.size) → ¬ Fc q14 → ¬ Fc qc14 → va_at D vwCl (q14, .inr (10, [.ref (α 5 ((Int32.toNatClampNeg a))), .ref (α 9 (wBand σ ((Int32.toNatClampNeg a)))), .int (bI true), .int (0), .ref (qc14), .int (bI r2.2.1), .int (r2.2.2.1), .int (r2.2.2.2), .ref (α 0 0)])) H → va_at D vwCl (qc14, arI E (nP σ) r2.1) H → xK F F s.heap H locs → lv_has ls 5 [] → W p l e { frames := 435, cells := 25, slots := 234, locals := 9348 } s m [(.ref (α 0 0) : Value), .int (a)].toArray below meth c H locs (3 + 20) (25 + 190) (vx_MQ below (qG F ((fun sz v h => r.1 = 0 ∧ v = some (.int r.2) ∧ RX D E α F σ h) s.heap.size)) (qX F ((fun sz X h => X = exN r.1 ∧ r.1 ≠ 0 ∧ RX D E α F σ h) s.heap.size)) [(.ref (α 0 0) : Value), .int (a)].toArray s 25 234 (fN F s.heap.size)) (F0 m 86 ls [])) (n : Nat) (i4 : Nat) , i4 + n = nP σ → fX1_key_L33b σ a r2 κ n i4 = some r → ∀ (H : Heap) (locs : List Loc) (Fc : Nat → Prop), RX D E α Fc σ H → (∀ q, Fc q → F q) → (∀ q, Fc q → q < H.size) → ¬ Fc q14 → ¬ Fc qc14 → va_at D vwCl (q14, .inr (10, [.ref (α 5 ((Int32.toNatClampNeg a))), .ref (α 9 (wBand σ ((Int32.toNatClampNeg a)))), .int (bI true), .int (0), .ref (qc14), .int (bI r2.2.1), .int (r2.2.2.1), .int (r2.2.2.2), .ref (α 0 0)])) H → va_at D vwCl (qc14, arI E (nP σ) r2.1) H → xK F F s.heap H locs → ∀ (ls : Array Slot), lv_has ls 5 [(0, .ref (α 0 0)), (1, .int (a)), (2, .int ((fX1_freeFor σ ((Int32.toNatClampNeg a))))), (3, .int 1), (4, .int (nI i4))] → W p l e { frames := 435, cells := 25, slots := 234, locals := 9348 } s m [(.ref (α 0 0) : Value), .int (a)].toArray below meth c H locs (3 + i4 * 2) (25 + i4 * 19) (vx_MQ below (qG F ((fun sz v h => r.1 = 0 ∧ v = some (.int r.2) ∧ RX D E α F σ h) s.heap.size)) (qX F ((fun sz X h => X = exN r.1 ∧ r.1 ≠ 0 ∧ RX D E α F σ h) s.heap.size)) [(.ref (α 0 0) : Value), .int (a)].toArray s 25 234 (fN F s.heap.size)) (F0 m 33 ls []) := by
    intro r2 q14 qc14 hge_fo14 hne_fo14_cs14 hge_cs14 hf33_0 hg33_0 κ hκ n
    induction n with
    | zero =>
      intro i4 hn hR H locs Fc hX hFa hFb hd_fo14 hd_cs14 hT_fo14 hT_cs14 hS ls hl
      rw [fX1_key_L33b] at hR
      have hG := gE.ofS hG0 hS hFE
      have hb_i4 : i4 ≤ 10 := by have := hX0.nP10; have := hX0.nB6; have := hX0.nW14; omega
      refine lv_iload hx hb dX1_key_33 (lv_at hl 4 rfl) ?_
      refine lv_aload_n hx hb dX1_key_35 rfl (lv_at hl 0 rfl) ?_
      refine gf (v := .ref (α 1 0)) (C := RX1) (T := TX1) (N := 6) (k := 0) hx hb hts hown hG cl_X1 in_X1 hX.ag (by decide) q301 rfl dX1_key_36 ?_
      refine pcF (x := xL_size) (ci := 13) (As := []) (rest := [.int (nI i4)]) hG.fw_size hS0 (met_xl_size l D E (j := 0) (by decide)) q331 q334 q336 q103 q338 hd_xL_size ⟨Nat.le_of_ble_eq_true rfl, Nat.le_of_ble_eq_true rfl⟩ hG cl_J2 (hX.lsR hG (j := 0) (by decide)) hX rfl hl.1 rfl (Nat.le_of_ble_eq_true rfl) dX1_key_39 ⟨by show _ ≤ 25; omega, by show _ ≤ 234; omega⟩ ?_
      refine W.eq (g2 := F0 m 44 ls [.int (nI (nP σ)), .int (nI i4)]) rfl ?_
      refine lk_ge_out (k := i4) (N := nP σ) hx hb hn (tgt := 86) dX1_key_44 (by decide) ?_
      exact W.widen (by show _ ≤ _; omega) (by show _ ≤ _; omega) (hκ  _ _ _ ls hR hX hFa (fun q z => by have := hFb q z; omega) hd_fo14 hd_cs14 hT_fo14 hT_cs14 hS (lv_sub hl [] rfl))
    | succ n ih =>
      intro i4 hn hR H locs Fc hX hFa hFb hd_fo14 hd_cs14 hT_fo14 hT_cs14 hS ls hl
      rw [fX1_key_L33b] at hR
      have hG := gE.ofS hG0 hS hFE
      have hb_i4 : i4 ≤ 10 := by have := hX0.nP10; have := hX0.nB6; have := hX0.nW14; omega
      refine lv_iload hx hb dX1_key_33 (lv_at hl 4 rfl) ?_
      refine lv_aload_n hx hb dX1_key_35 rfl (lv_at hl 0 rfl) ?_
      refine gf (v := .ref (α 1 0)) (C := RX1) (T := TX1) (N := 6) (k := 0) hx hb hts hown hG cl_X1 in_X1 hX.ag (by decide) q301 rfl dX1_key_36 ?_
      refine pcF (x := xL_size) (ci := 13) (As := []) (rest := [.int (nI i4)]) hG.fw_size hS0 (met_xl_size l D E (j := 0) (by decide)) q331 q334 q336 q103 q338 hd_xL_size ⟨Nat.le_of_ble_eq_true rfl, Nat.le_of_ble_eq_true rfl⟩ hG cl_J2 (hX.lsR hG (j := 0) (by decide)) hX rfl hl.1 rfl (Nat.le_of_ble_eq_true rfl) dX1_key_39 ⟨by show _ ≤ 25; omega, by show _ ≤ 234; omega⟩ ?_
      refine W.eq (g2 := F0 m 44 ls [.int (nI (nP σ)), .int (nI i4)]) rfl ?_
      have hki4 : i4 < nP σ := lk_lt hn
      refine lk_ge_in (k := i4) (N := nP σ) hx hb hki4 (by have := hX.nP10; have := hX.nW14; have := hX.nB6; omega) (tgt := 86) dX1_key_44 (by decide) ?_
      refine lv_iload_n hx hb dX1_key_47 rfl (lv_at hl 3 rfl) ?_
      refine lv_if_eq (tgt := 86) hx hb dX1_key_48 (by decide) (fun c9 => absurd c9 (by decide)) (fun _ => ?_)
      have hB := hS.1
      have hL_fo14 : q14 < _ := hT_fo14.lt
      have hL_cs14 : qc14 < _ := hT_cs14.lt
      refine nw (ci := 10) (C := RX12) (T := TX12) (N := 9) (fs := [.null, .null, .int 0, .int 0, .null, .int 0, .int 0, .int 0, .null]) (ty := tyX12) hx hb hts hown hG hS cl_X12 in_X12 tyX12_ok q503 q504 q132 (df_X12) ⟨by show _ ≤ 25; omega, by show _ ≤ 234; omega⟩ dX1_key_51 (fun q51 H1 hq9 hT_t51 hz ho hS => ?_)
      have hT_fo14 : va_at D vwCl (q14, .inr (10, [.ref (α 5 ((Int32.toNatClampNeg a))), .ref (α 9 (wBand σ ((Int32.toNatClampNeg a)))), .int (bI true), .int (0), .ref (qc14), .int (bI r2.2.1), .int (r2.2.2.1), .int (r2.2.2.2), .ref (α 0 0)])) H1 := hT_fo14.kept (ho _ hT_fo14.lt)
      have hT_cs14 : va_at D vwCl (qc14, arI E (nP σ) r2.1) H1 := hT_cs14.kept (ho _ hT_cs14.lt)
      have hX := hX.kept (fun q h4 _ => ho q h4)
      have hG := gE.ofS hG0 hS hFE
      have hne_fo14_t51 : q14 ≠ q51 := by have h9 := hL_fo14; omega
      have hne_cs14_t51 : qc14 ≠ q51 := by have h9 := hL_cs14; omega
      have hge_t51 : s.heap.size ≤ q51 := by have := hB; omega
      have hd_t51 : ¬ Fc q51 := fun z => by have := hFb _ z; omega
      refine lv_dup hx hb dX1_key_54 rfl ?_
      refine lv_aload_n hx hb dX1_key_55 rfl (lv_at hl 0 rfl) ?_
      refine lv_iload_n hx hb dX1_key_56 rfl (lv_at hl 1 rfl) ?_
      refine lv_eq hg33_0 ?_
      refine lv_iload_n hx hb dX1_key_57 rfl (lv_at hl 2 rfl) ?_
      refine lv_iconst (v := 1) hx hb dX1_key_58 (by decide) ?_
      refine lv_iload hx hb dX1_key_59 (lv_at hl 4 rfl) ?_
      refine lv_ishl hx hb dX1_key_61 ?_
      refine lv_iconst (v := (-1)) hx hb dX1_key_62 (by decide) ?_
      refine lv_ixor hx hb dX1_key_63 ?_
      refine lv_iand hx hb dX1_key_64 ?_
      refine lv_iconst (v := 0) hx hb dX1_key_65 (by decide) ?_
      refine lv_iconst (v := 1) hx hb dX1_key_66 (by decide) ?_
      rcases hc_r4 : (fX12_init σ ((Int32.toNatClampNeg a)) (((fX1_freeFor σ ((Int32.toNatClampNeg a)))) &&& ((1 <<< ((nI i4) &&& 31)) ^^^ ((-1)))) 0 true) with _ | r4
      · rw [hc_r4] at hR
        cases hR
      rw [hc_r4] at hR
      try dsimp only [Option.bind] at hR
      have hB := hS.1
      have hL_fo14 : q14 < _ := hT_fo14.lt
      have hL_cs14 : qc14 < _ := hT_cs14.lt
      have hL_t51 : q51 < _ := hT_t51.lt
      refine gcI (As := [.ref (α 0 0), .int (nI ((Int32.toNatClampNeg a))), .int (((fX1_freeFor σ ((Int32.toNatClampNeg a)))) &&& ((1 <<< ((nI i4) &&& 31)) ^^^ ((-1)))), .int 0, .int 1]) (rest := [.ref (q51)]) hS0 (met_X12_init l D E q51 ((Int32.toNatClampNeg a)) (((fX1_freeFor σ ((Int32.toNatClampNeg a)))) &&& ((1 <<< ((nI i4) &&& 31)) ^^^ ((-1)))) 0 true hf33_0 hd_t51 hc_r4) q519 q520 q132 q521 rfl hd_X12_init ⟨Nat.le_of_ble_eq_true rfl, Nat.le_of_ble_eq_true rfl⟩ hG ⟨hX, hT_t51, (Nat.le_trans hG0.2.2.1 hge_t51)⟩ rfl hl.1 rfl (Nat.le_of_ble_eq_true rfl) dX1_key_67 ⟨by show _ ≤ 25; omega, by show _ ≤ 234; omega⟩ hS (fun q h => h.elim (fun h => by rw [h]; exact (Or.inr hge_t51)) (fun h => Or.inl (hFa q h))) (fun q h => h.elim (fun h => by rw [h]; exact (Or.inr hge_t51)) (fun h => Or.inl (hFa q h))) (fun v H1 locs1 hP hz hk hS => ?_)
      obtain ⟨qc67, rfl, hq9, hZ, hT9, hT_cs67⟩ := hP
      have hT_fo14 : va_at D vwCl (q14, .inr (10, [.ref (α 5 ((Int32.toNatClampNeg a))), .ref (α 9 (wBand σ ((Int32.toNatClampNeg a)))), .int (bI true), .int (0), .ref (qc14), .int (bI r2.2.1), .int (r2.2.2.1), .int (r2.2.2.2), .ref (α 0 0)])) H1 := hT_fo14.kept (hk _ hT_fo14.lt (fun e9 => e9.elim (fun e9 => absurd e9 hne_fo14_t51) hd_fo14))
      have hT_cs14 : va_at D vwCl (qc14, arI E (nP σ) r2.1) H1 := hT_cs14.kept (hk _ hT_cs14.lt (fun e9 => e9.elim (fun e9 => absurd e9 hne_cs14_t51) hd_cs14))
      have hX := hZ
      have hT_t51 : va_at D vwCl (q51, .inr (10, [.ref (α 5 ((Int32.toNatClampNeg a))), .ref (α 9 (wBand σ ((Int32.toNatClampNeg a)))), .int (bI true), .int (0), .ref (qc67), .int (bI r4.2.1), .int (r4.2.2.1), .int (r4.2.2.2), .ref (α 0 0)])) H1 := hT9
      have hG := gE.ofS hG0 hS hFE
      have hne_fo14_cs67 : q14 ≠ qc67 := by have h9 := hL_fo14; omega
      have hne_cs14_cs67 : qc14 ≠ qc67 := by have h9 := hL_cs14; omega
      have hne_t51_cs67 : q51 ≠ qc67 := by have h9 := hL_t51; omega
      have hge_cs67 : s.heap.size ≤ qc67 := by have := hB; omega
      have hd_cs67 : ¬ Fc qc67 := fun z => by have := hFb _ z; omega
      refine W.eq (g2 := F0 m 70 ls [.ref (q51)]) rfl ?_
      refine gfN (v := .int (r4.2.2.2)) (C := RX12) (T := TX12) (N := 9) (k := 7) hx hb hts hown hG cl_X12 in_X12 hT_t51 (by decide) q584 rfl dX1_key_70 ?_
      refine lv_iconst (v := (-1)) hx hb dX1_key_73 (by decide) ?_
      refine lv_icmp_ne (tgt := 80) hx hb dX1_key_74 (by decide) (fun c5 => ?_) (fun c5 => ?_)
      · rw [if_neg c5] at hR
        refine lv_iinc (v := nI (i4 + 1)) (lv' := [(4, .int (nI (i4 + 1))), (0, .ref (α 0 0)), (1, .int (a)), (2, .int ((fX1_freeFor σ ((Int32.toNatClampNeg a))))), (3, .int 1)]) hx hb dX1_key_80 hl (k := 4) rfl (nI_1 i4) (Nat.le_of_ble_eq_true rfl) rfl (fun ls hl => ?_)
        refine lv_goto (tgt := 33) hx hb dX1_key_83 (by decide) ?_
        exact W.widen (by show _ ≤ _; omega) (by show _ ≤ _; omega) (ih (i4 + 1) (lk_st hn) hR _ _ _ hX hFa (fun q z => by have := hFb q z; omega) hd_fo14 hd_cs14 hT_fo14 hT_cs14 hS ls (lv_sub hl [1, 2, 3, 4, 0] rfl))
      · rw [if_pos c5] at hR
        refine lv_iload hx hb dX1_key_77 (lv_at hl 4 rfl) ?_
        exact vx_ret (g_iret hx hb hr hlocks hS ⟨by show _ ≤ 25; omega, by show _ ≤ 234; omega⟩ dX1_key_79 (by cases hR; exact ⟨rfl, rfl, (hX.mono (fun q _ z => hFa q z) hFE)⟩))
  unfold fX1_key at hR
  refine lv_aload_n hx hb dX1_key_0 rfl (lv_at hl 0 rfl) ?_
  refine lv_iload_n hx hb dX1_key_1 rfl (lv_at hl 1 rfl) ?_
  have hB := hS.1
  refine xcV (As := [.int (a)]) (rest := []) hS0 (met_X1_weddingAt l D E hlf a _) q1066 q1068 qs42 q100 q1069 hd_X1_weddingAt ⟨Nat.le_of_ble_eq_true rfl, Nat.le_of_ble_eq_true rfl⟩ hG (rcv hG cl_X1 hX.ag) ⟨rfl, hX⟩ rfl hl.1 rfl (Nat.le_of_ble_eq_true rfl) dX1_key_2 ⟨Nat.le_of_ble_eq_true rfl, Nat.le_of_ble_eq_true rfl⟩ hS (fun q h => h.elim) (fun q h => h.elim) (fun X ce q9 H1 locs1 hP hz hk hS9 h1 h2 h3 => ?_) (fun v H1 locs1 hP hz hk hS9 => ?_)
  · obtain ⟨rfl, hc9⟩ := hP
    have hS := hS9
    clear hS9
    rw [if_neg hc9] at hR
    exact x_out hex hlocks h1 h2 h3 hS ⟨Nat.le_of_ble_eq_true rfl, Nat.le_of_ble_eq_true rfl⟩ (by cases hR; exact ⟨rfl, Nat.succ_ne_zero _, ((hX.kept (fun q h4 _ => hk q h4 id)).mono (fun q _ z => hFa q z) hFE)⟩)
  · obtain ⟨rfl, hc9, rfl⟩ := hP
    have hS := hS9
    clear hS9
    rw [if_pos hc9] at hR
    have k1 := hc9
    have nk1 := ck_ix k1 (by have := hX.nP10; have := hX.nW14; have := hX.nB6; omega)
    refine W.eq (g2 := F0 m 5 ls [.ref (α 5 (Int32.toNatClampNeg a))]) rfl ?_
    refine lv_pop hx hb dX1_key_5 rfl ?_
    refine lv_aload_n hx hb dX1_key_6 rfl (lv_at hl 0 rfl) ?_
    refine lv_iload_n hx hb dX1_key_7 rfl (lv_at hl 1 rfl) ?_
    refine lv_eq nk1.1 ?_
    refine pcV (As := [.int (nI ((Int32.toNatClampNeg a)))]) (rest := []) hS0 (met_X1_freeFor l D E ((Int32.toNatClampNeg a)) nk1.2) q505 q507 qs23 q100 q508 hd_X1_freeFor ⟨Nat.le_of_ble_eq_true rfl, Nat.le_of_ble_eq_true rfl⟩ hG (rcv hG cl_X1 hX.ag) hX rfl hl.1 rfl (Nat.le_of_ble_eq_true rfl) dX1_key_8 ⟨Nat.le_of_ble_eq_true rfl, Nat.le_of_ble_eq_true rfl⟩ ?_
    refine W.eq (g2 := F0 m 11 ls [.int ((fX1_freeFor σ ((Int32.toNatClampNeg a))))]) rfl ?_
    refine lv_istore_n (lv' := [(2, .int ((fX1_freeFor σ ((Int32.toNatClampNeg a))))), (0, .ref (α 0 0)), (1, .int (a))]) hx hb dX1_key_11 rfl hl (Nat.le_of_ble_eq_true rfl) rfl (fun ls hl => ?_)
    refine lv_aload_n hx hb dX1_key_12 rfl (lv_at hl 1 rfl) ?_
    refine lv_iload_n hx hb dX1_key_13 rfl (lv_at hl 2 rfl) ?_
    refine lv_eq nk1.1 ?_
    rcases hc_r2 : (fX1_fillings σ ((Int32.toNatClampNeg a))) with _ | r2
    · rw [hc_r2] at hR
      cases hR
    rw [hc_r2] at hR
    try dsimp only [Option.bind] at hR
    have hB := hS.1
    refine gcV (As := [.int (nI ((Int32.toNatClampNeg a)))]) (rest := []) hS0 (met_X1_fillings l D E ((Int32.toNatClampNeg a)) nk1.2 hc_r2) q499 q501 qs22 q100 q502 hd_X1_fillings ⟨Nat.le_of_ble_eq_true rfl, Nat.le_of_ble_eq_true rfl⟩ hG (rcv hG cl_X1 hX.ag) hX rfl hl.1 rfl (Nat.le_of_ble_eq_true rfl) dX1_key_14 ⟨Nat.le_of_ble_eq_true rfl, Nat.le_of_ble_eq_true rfl⟩ hS (fun q h => Or.inl (hFa q h)) (fun q h => Or.inl (hFa q h)) (fun v H1 locs1 hP hz hk hS => ?_)
    obtain ⟨q14, qc14, rfl, hq9, hq8, hne_fo14_cs14, hZ, hT_fo14, hT_cs14⟩ := hP
    have hX := hZ
    have hG := gE.ofS hG0 hS hFE
    have hge_fo14 : s.heap.size ≤ q14 := by have := hB; omega
    have hd_fo14 : ¬ Fc q14 := fun z => by have := hFb _ z; omega
    have hge_cs14 : s.heap.size ≤ qc14 := by have := hB; omega
    have hd_cs14 : ¬ Fc qc14 := fun z => by have := hFb _ z; omega
    refine W.eq (g2 := F0 m 17 ls [.ref (q14)]) rfl ?_
    refine gfN (v := .int (r2.2.2.2)) (C := RX12) (T := TX12) (N := 9) (k := 7) hx hb hts hown hG cl_X12 in_X12 hT_fo14 (by decide) q584 rfl dX1_key_17 ?_
    refine lv_iconst (v := (-1)) hx hb dX1_key_20 (by decide) ?_
    refine lv_icmp_eq (tgt := 28) hx hb dX1_key_21 (by decide) (fun c3 => ?_) (fun c3 => ?_)
    · rw [if_pos c3] at hR
      refine lv_iconst (v := 0) hx hb dX1_key_28 (by decide) ?_
      refine lv_istore_n (lv' := [(3, .int 0), (2, .int ((fX1_freeFor σ ((Int32.toNatClampNeg a))))), (0, .ref (α 0 0)), (1, .int (a))]) hx hb dX1_key_29 rfl hl (Nat.le_of_ble_eq_true rfl) rfl (fun ls hl => ?_)
      refine lv_iconst (v := 0) hx hb dX1_key_30 (by decide) ?_
      refine lv_istore (lv' := [(4, .int 0), (3, .int 0), (2, .int ((fX1_freeFor σ ((Int32.toNatClampNeg a))))), (0, .ref (α 0 0)), (1, .int (a))]) hx hb dX1_key_31 hl (Nat.le_of_ble_eq_true rfl) rfl (fun ls hl => ?_)
      refine W.widen (k := 3 + 0 * 2) (n := 25 + 0 * 19) (by show _ ≤ _; omega) (by show _ ≤ _; omega) ?_
      refine hL33 r2 q14 qc14 hge_fo14 hne_fo14_cs14 hge_cs14 nk1.2 nk1.1 _ (fun  H1 locs1 Fc ls hR hX hFa hFb hd_fo14 hd_cs14 hT_fo14 hT_cs14 hS hl => ?_) (nP σ) 0  (Nat.zero_add _) hR _ _ _ hX hFa (fun q z => by have := hFb q z; omega) hd_fo14 hd_cs14 hT_fo14 hT_cs14 hS ls (lv_sub hl [3, 4, 2, 1, 0] rfl)
      try dsimp only at hR
      have hG := gE.ofS hG0 hS hFE
      refine lv_iconst (v := (-1)) hx hb dX1_key_86 (by decide) ?_
      exact vx_ret (g_iret hx hb hr hlocks hS ⟨by show _ ≤ 25; omega, by show _ ≤ 234; omega⟩ dX1_key_87 (by cases hR; exact ⟨rfl, rfl, (hX.mono (fun q _ z => hFa q z) hFE)⟩))
    · rw [if_neg c3] at hR
      refine lv_iconst (v := 1) hx hb dX1_key_24 (by decide) ?_
      refine lv_goto (tgt := 29) hx hb dX1_key_25 (by decide) ?_
      refine lv_istore_n (lv' := [(3, .int 1), (2, .int ((fX1_freeFor σ ((Int32.toNatClampNeg a))))), (0, .ref (α 0 0)), (1, .int (a))]) hx hb dX1_key_29 rfl hl (Nat.le_of_ble_eq_true rfl) rfl (fun ls hl => ?_)
      refine lv_iconst (v := 0) hx hb dX1_key_30 (by decide) ?_
      refine lv_istore (lv' := [(4, .int 0), (3, .int 1), (2, .int ((fX1_freeFor σ ((Int32.toNatClampNeg a))))), (0, .ref (α 0 0)), (1, .int (a))]) hx hb dX1_key_31 hl (Nat.le_of_ble_eq_true rfl) rfl (fun ls hl => ?_)
      refine W.widen (k := 3 + 0 * 2) (n := 25 + 0 * 19) (by show _ ≤ _; omega) (by show _ ≤ _; omega) ?_
      refine hL33b r2 q14 qc14 hge_fo14 hne_fo14_cs14 hge_cs14 nk1.2 nk1.1 _ (fun  H1 locs1 Fc ls hR hX hFa hFb hd_fo14 hd_cs14 hT_fo14 hT_cs14 hS hl => ?_) (nP σ) 0  (Nat.zero_add _) hR _ _ _ hX hFa (fun q z => by have := hFb q z; omega) hd_fo14 hd_cs14 hT_fo14 hT_cs14 hS ls (lv_sub hl [3, 4, 2, 1, 0] rfl)
      try dsimp only at hR
      have hG := gE.ofS hG0 hS hFE
      refine lv_iconst (v := (-1)) hx hb dX1_key_86 (by decide) ?_
      exact vx_ret (g_iret hx hb hr hlocks hS ⟨by show _ ≤ 25; omega, by show _ ≤ 234; omega⟩ dX1_key_87 (by cases hR; exact ⟨rfl, rfl, (hX.mono (fun q _ z => hFa q z) hFE)⟩))

def fX1_wouldCancel_L30 (σ : St) (a : Int32)  (κ : Int32 → Nat × Int32) : Nat → Nat → Int32 → Nat × Int32
  | 0, i4, a3 => κ a3
  | n + 1, i4, a3 => (if ((fX1_has (wSet σ ((Int32.toNatClampNeg a))) (nI i4))) = true then fX1_wouldCancel_L30 σ a κ n (i4 + 1) (a3 - ((fX1_earns σ i4 ((Int32.toNatClampNeg a))))) else fX1_wouldCancel_L30 σ a κ n (i4 + 1) (a3 - 0))
def fX1_wouldCancel (σ : St) (a : Int32) : Nat × Int32 :=
  (if 0 ≤ a ∧ a < nI (nW σ) then (if ((fX10_is σ ((Int32.toNatClampNeg a)) 1)) = true then fX1_wouldCancel_L30 σ a (fun (a4 : Int32) => (0, (if (wPaid σ ((Int32.toNatClampNeg a))) < ((fX1_owed σ ((Int32.toNatClampNeg a)))) then ((fX1_owed σ ((Int32.toNatClampNeg a)))) else (wPaid σ ((Int32.toNatClampNeg a)))) - a4)) (nP σ) 0 ((wPrice σ ((Int32.toNatClampNeg a))) + ((fX1_extra σ ((Int32.toNatClampNeg a))))) else (3, 0)) else (1, 0))
set_option maxHeartbeats 4000000 in
set_option maxRecDepth 100000 in
theorem met_X1_wouldCancel (l : Launch) (D : va_G) (E : Nat → Nat) (hlf : l.stackTraces = false) {α : Nat → Nat → Nat} {F : Nat → Prop} {σ : St} (a : Int32)  : XM l D E yX1_wouldCancel cX1_wouldCancel 5 (Option.some Jvm.ClassFile.FieldType.int) 8 141 2 12 [.ref (α 0 0), .int (a)] (RX D E α F σ) (fun _ => False) (fun _ => False) (fun sz v h => (fX1_wouldCancel σ a).1 = 0 ∧ v = some (.int (fX1_wouldCancel σ a).2)) (fun sz X h => X = exN (fX1_wouldCancel σ a).1 ∧ (fX1_wouldCancel σ a).1 ≠ 0) := by
  generalize hR : fX1_wouldCancel σ a = r
  refine XM.start (by decide) (Nat.le_of_ble_eq_true rfl) ?_
  intro p e s m below meth c ls hx hb hr hml hown hlocks hex hts hG hX hS hl
  have hown : s.vm.findClass RX1 = some m.cls := hown
  have hS0 : xS p m c cX1_wouldCancel 5 s _ RX1 := ⟨hx, hb, hml, hown, hts⟩
  have hl : lv_has ls 5 [(0, .ref (α 0 0)), (1, .int (a))] := hl
  have hG0 := hG
  have hX0 := hX
  have hb0P := hX0.nP10
  have hb0B := hX0.nB6
  have hb0W := hX0.nW14
  have hFE := hX.fE
  have hX := hX.wide (n := s.heap.size) hG.2.2.1
  have hcn : cnt σ σ := cnt.rf
  have hL30 : ∀ (hf30_0 : (Int32.toNatClampNeg a) < nW σ) (hg30_0 : a = nI ((Int32.toNatClampNeg a))) (κ : Int32 → Nat × Int32) (hκ : ∀ (a3 : Int32) (H : Heap) (locs : List Loc) (ls : Array Slot), κ a3 = r → RX D E α (fN F s.heap.size) σ H → xK (fun _ => False) (fun _ => False) s.heap H locs → lv_has ls 5 [(0, .ref (α 0 0)), (2, .ref (α 5 (Int32.toNatClampNeg a))), (3, .int (a3))] → W p l e { frames := 8, cells := 2, slots := 12, locals := 141 } s m [(.ref (α 0 0) : Value), .int (a)].toArray below meth c H locs 2 12 (vx_MQ below (qG (fun _ => False) ((fun sz v h => r.1 = 0 ∧ v = some (.int r.2)) s.heap.size)) (qX (fun _ => False) ((fun sz X h => X = exN r.1 ∧ r.1 ≠ 0) s.heap.size)) [(.ref (α 0 0) : Value), .int (a)].toArray s 2 12 (fN (fun _ => False) s.heap.size)) (F0 m 76 ls [])) (n : Nat) (i4 : Nat) (a3 : Int32) , i4 + n = nP σ → fX1_wouldCancel_L30 σ a κ n i4 a3 = r → ∀ (H : Heap) (locs : List Loc), RX D E α (fN F s.heap.size) σ H → xK (fun _ => False) (fun _ => False) s.heap H locs → ∀ (ls : Array Slot), lv_has ls 5 [(0, .ref (α 0 0)), (2, .ref (α 5 (Int32.toNatClampNeg a))), (3, .int (a3)), (4, .int (nI i4))] → W p l e { frames := 8, cells := 2, slots := 12, locals := 141 } s m [(.ref (α 0 0) : Value), .int (a)].toArray below meth c H locs 2 12 (vx_MQ below (qG (fun _ => False) ((fun sz v h => r.1 = 0 ∧ v = some (.int r.2)) s.heap.size)) (qX (fun _ => False) ((fun sz X h => X = exN r.1 ∧ r.1 ≠ 0) s.heap.size)) [(.ref (α 0 0) : Value), .int (a)].toArray s 2 12 (fN (fun _ => False) s.heap.size)) (F0 m 30 ls []) := by
    intro hf30_0 hg30_0 κ hκ n
    induction n with
    | zero =>
      intro i4 a3 hn hR H locs hX hS ls hl
      rw [fX1_wouldCancel_L30] at hR
      have hG := gE.ofS hG0 hS (fun _ h => h.elim)
      refine lv_iload hx hb dX1_wouldCancel_30 (lv_at hl 3 rfl) ?_
      refine lv_aload_n hx hb dX1_wouldCancel_32 rfl (lv_at hl 0 rfl) ?_
      refine gf (v := .ref (α 1 0)) (C := RX1) (T := TX1) (N := 6) (k := 0) hx hb hts hown hG cl_X1 in_X1 hX.ag (by decide) q301 rfl dX1_wouldCancel_33 ?_
      refine pcF (x := xL_size) (ci := 13) (As := []) (rest := [.int (nI i4)]) hG.fw_size hS0 (met_xl_size l D E (j := 0) (by decide)) q331 q334 q336 q103 q338 hd_xL_size ⟨Nat.le_of_ble_eq_true rfl, Nat.le_of_ble_eq_true rfl⟩ hG cl_J2 (hX.lsR hG (j := 0) (by decide)) hX rfl hl.1 rfl (Nat.le_of_ble_eq_true rfl) dX1_wouldCancel_36 ⟨Nat.le_of_ble_eq_true rfl, Nat.le_of_ble_eq_true rfl⟩ ?_
      refine W.eq (g2 := F0 m 41 ls [.int (nI (nP σ)), .int (nI i4)]) rfl ?_
      refine lk_ge_out (k := i4) (N := nP σ) hx hb hn (tgt := 76) dX1_wouldCancel_41 (by decide) ?_
      exact hκ a3 _ _ ls hR hX hS (lv_sub hl [0, 1, 2] rfl)
    | succ n ih =>
      intro i4 a3 hn hR H locs hX hS ls hl
      rw [fX1_wouldCancel_L30] at hR
      have hG := gE.ofS hG0 hS (fun _ h => h.elim)
      refine lv_iload hx hb dX1_wouldCancel_30 (lv_at hl 3 rfl) ?_
      refine lv_aload_n hx hb dX1_wouldCancel_32 rfl (lv_at hl 0 rfl) ?_
      refine gf (v := .ref (α 1 0)) (C := RX1) (T := TX1) (N := 6) (k := 0) hx hb hts hown hG cl_X1 in_X1 hX.ag (by decide) q301 rfl dX1_wouldCancel_33 ?_
      refine pcF (x := xL_size) (ci := 13) (As := []) (rest := [.int (nI i4)]) hG.fw_size hS0 (met_xl_size l D E (j := 0) (by decide)) q331 q334 q336 q103 q338 hd_xL_size ⟨Nat.le_of_ble_eq_true rfl, Nat.le_of_ble_eq_true rfl⟩ hG cl_J2 (hX.lsR hG (j := 0) (by decide)) hX rfl hl.1 rfl (Nat.le_of_ble_eq_true rfl) dX1_wouldCancel_36 ⟨Nat.le_of_ble_eq_true rfl, Nat.le_of_ble_eq_true rfl⟩ ?_
      refine W.eq (g2 := F0 m 41 ls [.int (nI (nP σ)), .int (nI i4)]) rfl ?_
      have hki4 : i4 < nP σ := lk_lt hn
      refine lk_ge_in (k := i4) (N := nP σ) hx hb hki4 (by have := hX.nP10; have := hX.nW14; have := hX.nB6; omega) (tgt := 76) dX1_wouldCancel_41 (by decide) ?_
      refine lv_iload_n hx hb dX1_wouldCancel_44 rfl (lv_at hl 2 rfl) ?_
      refine lv_aload_n hx hb dX1_wouldCancel_45 rfl (lv_at hl 1 rfl) ?_
      refine gfN (v := .int (wSet σ ((Int32.toNatClampNeg a)))) (C := RX10) (T := TX10) (N := 12) (k := 8) hx hb hts hown hG cl_X10 in_X10 (hX.wd hf30_0) (by decide) q1027 rfl dX1_wouldCancel_46 ?_
      refine lv_iload hx hb dX1_wouldCancel_49 (lv_at hl 3 rfl) ?_
      refine pcS (As := [.int (wSet σ ((Int32.toNatClampNeg a))), .int (nI i4)]) (rest := [.int (a3)]) hS0 (met_X1_has l D E (wSet σ ((Int32.toNatClampNeg a))) (nI i4)) q374 q375 q100 q376 hd_X1_has ⟨Nat.le_of_ble_eq_true rfl, Nat.le_of_ble_eq_true rfl⟩ hG trivial rfl hl.1 rfl (Nat.le_of_ble_eq_true rfl) dX1_wouldCancel_51 ⟨Nat.le_of_ble_eq_true rfl, Nat.le_of_ble_eq_true rfl⟩ ?_
      refine W.eq (g2 := F0 m 54 ls [.int (bI ((fX1_has (wSet σ ((Int32.toNatClampNeg a))) (nI i4)))), .int (a3)]) rfl ?_
      refine lb_if_eq (tgt := 67) hx hb dX1_wouldCancel_54 (by decide) (fun c3 => ?_) (fun c3 => ?_)
      · rw [if_neg c3] at hR
        refine lv_iconst (v := 0) hx hb dX1_wouldCancel_67 (by decide) ?_
        refine lv_isub hx hb dX1_wouldCancel_68 ?_
        refine lv_istore_n (lv' := [(3, .int (a3 - 0)), (0, .ref (α 0 0)), (2, .ref (α 5 (Int32.toNatClampNeg a))), (4, .int (nI i4))]) hx hb dX1_wouldCancel_69 rfl hl (Nat.le_of_ble_eq_true rfl) rfl (fun ls hl => ?_)
        refine lv_iinc (v := nI (i4 + 1)) (lv' := [(4, .int (nI (i4 + 1))), (3, .int (a3 - 0)), (0, .ref (α 0 0)), (2, .ref (α 5 (Int32.toNatClampNeg a)))]) hx hb dX1_wouldCancel_70 hl (k := 3) rfl (nI_1 i4) (Nat.le_of_ble_eq_true rfl) rfl (fun ls hl => ?_)
        refine lv_goto (tgt := 30) hx hb dX1_wouldCancel_73 (by decide) ?_
        exact ih (i4 + 1) (a3 - 0) (lk_st hn) hR _ _ hX hS ls (lv_sub hl [2, 3, 1, 0] rfl)
      · rw [if_pos c3] at hR
        refine lv_aload_n hx hb dX1_wouldCancel_57 rfl (lv_at hl 0 rfl) ?_
        refine lv_iload hx hb dX1_wouldCancel_58 (lv_at hl 3 rfl) ?_
        refine lv_aload_n hx hb dX1_wouldCancel_60 rfl (lv_at hl 1 rfl) ?_
        refine pcV (As := [.int (nI i4), .ref (α 5 (Int32.toNatClampNeg a))]) (rest := [.int (a3)]) hS0 (met_X1_earns l D E i4 ((Int32.toNatClampNeg a)) hki4 hf30_0) q1122 q1124 qs49 q100 q1125 hd_X1_earns ⟨Nat.le_of_ble_eq_true rfl, Nat.le_of_ble_eq_true rfl⟩ hG (rcv hG cl_X1 hX.ag) hX rfl hl.1 rfl (Nat.le_of_ble_eq_true rfl) dX1_wouldCancel_61 ⟨Nat.le_of_ble_eq_true rfl, Nat.le_of_ble_eq_true rfl⟩ ?_
        refine W.eq (g2 := F0 m 64 ls [.int ((fX1_earns σ i4 ((Int32.toNatClampNeg a)))), .int (a3)]) rfl ?_
        refine lv_goto (tgt := 68) hx hb dX1_wouldCancel_64 (by decide) ?_
        refine lv_isub hx hb dX1_wouldCancel_68 ?_
        refine lv_istore_n (lv' := [(3, .int (a3 - ((fX1_earns σ i4 ((Int32.toNatClampNeg a)))))), (0, .ref (α 0 0)), (2, .ref (α 5 (Int32.toNatClampNeg a))), (4, .int (nI i4))]) hx hb dX1_wouldCancel_69 rfl hl (Nat.le_of_ble_eq_true rfl) rfl (fun ls hl => ?_)
        refine lv_iinc (v := nI (i4 + 1)) (lv' := [(4, .int (nI (i4 + 1))), (3, .int (a3 - ((fX1_earns σ i4 ((Int32.toNatClampNeg a)))))), (0, .ref (α 0 0)), (2, .ref (α 5 (Int32.toNatClampNeg a)))]) hx hb dX1_wouldCancel_70 hl (k := 3) rfl (nI_1 i4) (Nat.le_of_ble_eq_true rfl) rfl (fun ls hl => ?_)
        refine lv_goto (tgt := 30) hx hb dX1_wouldCancel_73 (by decide) ?_
        exact ih (i4 + 1) (a3 - ((fX1_earns σ i4 ((Int32.toNatClampNeg a))))) (lk_st hn) hR _ _ hX hS ls (lv_sub hl [2, 3, 1, 0] rfl)
  unfold fX1_wouldCancel at hR
  refine lv_aload_n hx hb dX1_wouldCancel_0 rfl (lv_at hl 0 rfl) ?_
  refine lv_iload_n hx hb dX1_wouldCancel_1 rfl (lv_at hl 1 rfl) ?_
  refine xcV (As := [.int (a)]) (rest := []) hS0 (met_X1_weddingAt l D E hlf a _) q1066 q1068 qs42 q100 q1069 hd_X1_weddingAt ⟨Nat.le_of_ble_eq_true rfl, Nat.le_of_ble_eq_true rfl⟩ hG (rcv hG cl_X1 hX.ag) ⟨rfl, hX⟩ rfl hl.1 rfl (Nat.le_of_ble_eq_true rfl) dX1_wouldCancel_2 ⟨Nat.le_of_ble_eq_true rfl, Nat.le_of_ble_eq_true rfl⟩ hS (fun q h => h.elim) (fun q h => h.elim) (fun X ce q9 H1 locs1 hP hz hk hS h1 h2 h3 => ?_) (fun v H1 locs1 hP hz hk hS => ?_)
  · obtain ⟨rfl, hc9⟩ := hP
    rw [if_neg hc9] at hR
    exact x_out hex hlocks h1 h2 h3 hS ⟨Nat.le_of_ble_eq_true rfl, Nat.le_of_ble_eq_true rfl⟩ (by subst hR; exact ⟨rfl, Nat.succ_ne_zero _⟩)
  · obtain ⟨rfl, hc9, rfl⟩ := hP
    rw [if_pos hc9] at hR
    have k1 := hc9
    have nk1 := ck_ix k1 (by have := hX.nP10; have := hX.nW14; have := hX.nB6; omega)
    refine W.eq (g2 := F0 m 5 ls [.ref (α 5 (Int32.toNatClampNeg a))]) rfl ?_
    refine lv_astore_n (lv' := [(2, .ref (α 5 (Int32.toNatClampNeg a))), (0, .ref (α 0 0)), (1, .int (a))]) hx hb dX1_wouldCancel_5 rfl hl (Nat.le_of_ble_eq_true rfl) rfl (fun ls hl => ?_)
    refine lv_aload_n hx hb dX1_wouldCancel_6 rfl (lv_at hl 0 rfl) ?_
    refine gs hx hb (hG.en (i := 1) (by decide)) hown (hts _ q363) (fun _ h => h) dX1_wouldCancel_7 ?_
    refine pcV (As := [.ref (E (10 + 1))]) (rest := []) hS0 (met_X10_is l D E ((Int32.toNatClampNeg a)) 1 nk1.2 (by decide)) q370 q371 q372 q130 q373 hd_X10_is ⟨Nat.le_of_ble_eq_true rfl, Nat.le_of_ble_eq_true rfl⟩ hG (rcv hG cl_X10 (hX.wd nk1.2)) hX rfl hl.1 rfl (Nat.le_of_ble_eq_true rfl) dX1_wouldCancel_10 ⟨Nat.le_of_ble_eq_true rfl, Nat.le_of_ble_eq_true rfl⟩ ?_
    refine W.eq (g2 := F0 m 13 ls [.int (bI ((fX10_is σ ((Int32.toNatClampNeg a)) 1)))]) rfl ?_
    refine xcS (As := [.int (bI ((fX10_is σ ((Int32.toNatClampNeg a)) 1)))]) (rest := []) hS0 (met_X1_checkState l D E hlf ((fX10_is σ ((Int32.toNatClampNeg a)) 1)) _) q885 q886 q100 q887 hd_X1_checkState ⟨Nat.le_of_ble_eq_true rfl, Nat.le_of_ble_eq_true rfl⟩ hG rfl rfl hl.1 rfl (Nat.le_of_ble_eq_true rfl) dX1_wouldCancel_13 ⟨Nat.le_of_ble_eq_true rfl, Nat.le_of_ble_eq_true rfl⟩ hS (fun q h => h.elim) (fun q h => h.elim) (fun X ce q9 H1 locs1 hP hz hk hS h1 h2 h3 => ?_) (fun v H1 locs1 hP hz hk hS => ?_)
    · obtain ⟨rfl, hc9⟩ := hP
      rw [if_neg hc9] at hR
      exact x_out hex hlocks h1 h2 h3 hS ⟨Nat.le_of_ble_eq_true rfl, Nat.le_of_ble_eq_true rfl⟩ (by subst hR; exact ⟨rfl, Nat.succ_ne_zero _⟩)
    · obtain ⟨rfl, hc9, rfl⟩ := hP
      rw [if_pos hc9] at hR
      have k2 := hc9
      refine W.eq (g2 := F0 m 16 ls []) rfl ?_
      refine lv_aload_n hx hb dX1_wouldCancel_16 rfl (lv_at hl 0 rfl) ?_
      refine gfN (v := .int (wPrice σ ((Int32.toNatClampNeg a)))) (C := RX10) (T := TX10) (N := 12) (k := 9) hx hb hts hown hG cl_X10 in_X10 (hX.wd nk1.2) (by decide) q1029 rfl dX1_wouldCancel_17 ?_
      refine lv_aload_n hx hb dX1_wouldCancel_20 rfl (lv_at hl 1 rfl) ?_
      refine lv_aload_n hx hb dX1_wouldCancel_21 rfl (lv_at hl 0 rfl) ?_
      refine pcV (As := [.ref (α 5 (Int32.toNatClampNeg a))]) (rest := [.int (wPrice σ ((Int32.toNatClampNeg a)))]) hS0 (met_X1_extra l D E ((Int32.toNatClampNeg a)) nk1.2) q1118 q1120 qs48 q100 q1121 hd_X1_extra ⟨Nat.le_of_ble_eq_true rfl, Nat.le_of_ble_eq_true rfl⟩ hG (rcv hG cl_X1 hX.ag) hX rfl hl.1 rfl (Nat.le_of_ble_eq_true rfl) dX1_wouldCancel_22 ⟨Nat.le_of_ble_eq_true rfl, Nat.le_of_ble_eq_true rfl⟩ ?_
      refine W.eq (g2 := F0 m 25 ls [.int ((fX1_extra σ ((Int32.toNatClampNeg a)))), .int (wPrice σ ((Int32.toNatClampNeg a)))]) rfl ?_
      refine lv_iadd hx hb dX1_wouldCancel_25 ?_
      refine lv_istore_n (lv' := [(3, .int ((wPrice σ ((Int32.toNatClampNeg a))) + ((fX1_extra σ ((Int32.toNatClampNeg a)))))), (2, .ref (α 5 (Int32.toNatClampNeg a))), (0, .ref (α 0 0)), (1, .int (a))]) hx hb dX1_wouldCancel_26 rfl hl (Nat.le_of_ble_eq_true rfl) rfl (fun ls hl => ?_)
      refine lv_iconst (v := 0) hx hb dX1_wouldCancel_27 (by decide) ?_
      refine lv_istore (lv' := [(4, .int 0), (3, .int ((wPrice σ ((Int32.toNatClampNeg a))) + ((fX1_extra σ ((Int32.toNatClampNeg a)))))), (2, .ref (α 5 (Int32.toNatClampNeg a))), (0, .ref (α 0 0)), (1, .int (a))]) hx hb dX1_wouldCancel_28 hl (Nat.le_of_ble_eq_true rfl) rfl (fun ls hl => ?_)
      refine hL30 nk1.2 nk1.1 _ (fun a4 H1 locs1 ls hR hX hS hl => ?_) (nP σ) 0 ((wPrice σ ((Int32.toNatClampNeg a))) + ((fX1_extra σ ((Int32.toNatClampNeg a)))))  (Nat.zero_add _) hR _ _ hX hS ls (lv_sub hl [3, 2, 1, 0] rfl)
      try dsimp only at hR
      have hG := gE.ofS hG0 hS (fun _ h => h.elim)
      refine lv_aload_n hx hb dX1_wouldCancel_76 rfl (lv_at hl 1 rfl) ?_
      refine gfN (v := .int (wPaid σ ((Int32.toNatClampNeg a)))) (C := RX10) (T := TX10) (N := 12) (k := 10) hx hb hts hown hG cl_X10 in_X10 (hX.wd nk1.2) (by decide) q1031 rfl dX1_wouldCancel_77 ?_
      refine lv_aload_n hx hb dX1_wouldCancel_80 rfl (lv_at hl 0 rfl) ?_
      refine lv_aload_n hx hb dX1_wouldCancel_81 rfl (lv_at hl 1 rfl) ?_
      refine pcV (As := [.ref (α 5 (Int32.toNatClampNeg a))]) (rest := [.int (wPaid σ ((Int32.toNatClampNeg a)))]) hS0 (met_X1_owed l D E ((Int32.toNatClampNeg a)) nk1.2) q1081 q1083 qs44 q100 q1084 hd_X1_owed ⟨Nat.le_of_ble_eq_true rfl, Nat.le_of_ble_eq_true rfl⟩ hG (rcv hG cl_X1 hX.ag) hX rfl hl.1 rfl (Nat.le_of_ble_eq_true rfl) dX1_wouldCancel_82 ⟨Nat.le_of_ble_eq_true rfl, Nat.le_of_ble_eq_true rfl⟩ ?_
      refine W.eq (g2 := F0 m 85 ls [.int ((fX1_owed σ ((Int32.toNatClampNeg a)))), .int (wPaid σ ((Int32.toNatClampNeg a)))]) rfl ?_
      refine va_mmax hx hb (hml.trans hl.1.symm) hown (hts _ q423) (hts _ q249) (hts _ q107) (hts _ q250) (Nat.le_of_ble_eq_true rfl) (Nat.le_of_ble_eq_true rfl) (Nat.le_of_ble_eq_true rfl) (Nat.le_of_ble_eq_true rfl) dX1_wouldCancel_85 ?_
      refine W.eq (g2 := F0 m 88 ls [.int (if (wPaid σ ((Int32.toNatClampNeg a))) < ((fX1_owed σ ((Int32.toNatClampNeg a)))) then ((fX1_owed σ ((Int32.toNatClampNeg a)))) else (wPaid σ ((Int32.toNatClampNeg a))))]) rfl ?_
      refine lv_iload_n hx hb dX1_wouldCancel_88 rfl (lv_at hl 2 rfl) ?_
      refine lv_isub hx hb dX1_wouldCancel_89 ?_
      exact vx_ret (g_iret hx hb hr hlocks hS ⟨Nat.le_of_ble_eq_true rfl, Nat.le_of_ble_eq_true rfl⟩ dX1_wouldCancel_90 (by subst hR; exact ⟨rfl, rfl⟩))

