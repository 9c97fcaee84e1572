/-! the agency: methods that change nothing -/
set_option maxRecDepth 100000
def fX1_size_L4 (a : Int32)  (κ : Int32 → Option Int32) : Nat → Int32 → Int32 → Option Int32
  | 0, a1, a2 => none
  | n + 1, a1, a2 => (if a2 = 0 then κ a1 else fX1_size_L4 a κ n (a1 + 1) (a2 &&& (a2 - 1)))
def fX1_size (a : Int32) : Option Int32 :=
  fX1_size_L4 a (fun (a2 : Int32) => (some a2)) 33 0 a
set_option maxHeartbeats 4000000 in
set_option maxRecDepth 100000 in
theorem met_X1_size (l : Launch) (D : va_G) (E : Nat → Nat) (a : Int32)  {r : Int32} (hR : fX1_size a = some r) : PM l D E yX1_size cX1_size 3 (Option.some Jvm.ClassFile.FieldType.int) 0 0 [.int (a)] (fun _ => True) (some (.int r)) := by
  refine PM.start (by decide) (Nat.le_of_ble_eq_true rfl) ?_
  intro p e s m below meth c ls hx hb hr hml hown hlocks hts hG hTriv hl
  have hown : s.vm.findClass RX1 = some m.cls := hown
  have hS0 : xS p m c cX1_size 3 s _ RX1 := ⟨hx, hb, hml, hown, hts⟩
  have hl : lv_has ls 3 [(0, .int (a))] := hl
  have hL4 : ∀ (κ : Int32 → Option Int32) (hκ : ∀ (a1 : Int32) (ls : Array Slot), κ a1 = some r → lv_has ls 3 [(1, .int (a1))] → W p l e { frames := 0, cells := 0, slots := 0, locals := 0 } s m [(.int (a) : Value)].toArray below meth c s.heap [] 0 0 (MQ below (qP (some (.int r))) [(.int (a) : Value)].toArray s 0 0 (fun _ => False)) (F0 m 20 ls [])) (n : Nat) (a1 : Int32) (a2 : Int32), fX1_size_L4 a κ n a1 a2 = some r → ∀ (ls : Array Slot), lv_has ls 3 [(1, .int (a1)), (2, .int (a2))] → W p l e { frames := 0, cells := 0, slots := 0, locals := 0 } s m [(.int (a) : Value)].toArray below meth c s.heap [] 0 0 (MQ below (qP (some (.int r))) [(.int (a) : Value)].toArray s 0 0 (fun _ => False)) (F0 m 4 ls []) := by
    intro  κ hκ n
    induction n with
    | zero =>
      intro a1 a2 hR ls hl
      rw [fX1_size_L4] at hR
      cases hR
    | succ n ih =>
      intro a1 a2 hR ls hl
      rw [fX1_size_L4] at hR
      refine lv_iload_n hx hb dX1_size_4 rfl (lv_at hl 1 rfl) ?_
      refine lv_if_eq (tgt := 20) hx hb dX1_size_5 (by decide) (fun c1 => ?_) (fun c1 => ?_)
      · rw [if_pos c1] at hR
        exact hκ a1 ls hR (lv_sub hl [0] rfl)
      · rw [if_neg c1] at hR
        refine lv_iinc (v := a1 + 1) (lv' := [(1, .int (a1 + 1)), (2, .int (a2))]) hx hb dX1_size_8 hl (k := 0) rfl rfl (Nat.le_of_ble_eq_true rfl) rfl (fun ls hl => ?_)
        refine lv_iload_n hx hb dX1_size_11 rfl (lv_at hl 1 rfl) ?_
        refine lv_iload_n hx hb dX1_size_12 rfl (lv_at hl 1 rfl) ?_
        refine lv_iconst (v := 1) hx hb dX1_size_13 (by decide) ?_
        refine lv_isub hx hb dX1_size_14 ?_
        refine lv_iand hx hb dX1_size_15 ?_
        refine lv_istore_n (lv' := [(2, .int (a2 &&& (a2 - 1))), (1, .int (a1 + 1))]) hx hb dX1_size_16 rfl hl (Nat.le_of_ble_eq_true rfl) rfl (fun ls hl => ?_)
        refine lv_goto (tgt := 4) hx hb dX1_size_17 (by decide) ?_
        exact ih (a1 + 1) (a2 &&& (a2 - 1))  hR ls (lv_sub hl [1, 0] rfl)
  unfold fX1_size at hR
  refine lv_iconst (v := 0) hx hb dX1_size_0 (by decide) ?_
  refine lv_istore_n (lv' := [(1, .int 0), (0, .int (a))]) hx hb dX1_size_1 rfl hl (Nat.le_of_ble_eq_true rfl) rfl (fun ls hl => ?_)
  refine lv_iload_n hx hb dX1_size_2 rfl (lv_at hl 1 rfl) ?_
  refine lv_istore_n (lv' := [(2, .int (a)), (1, .int 0), (0, .int (a))]) hx hb dX1_size_3 rfl hl (Nat.le_of_ble_eq_true rfl) rfl (fun ls hl => ?_)
  refine hL4  _ (fun a2 ls hR hl => ?_) 33 0 a  hR ls (lv_sub hl [1, 0] rfl)
  refine lv_iload_n hx hb dX1_size_20 rfl (lv_at hl 0 rfl) ?_
  exact p_iret hx hb hr hlocks dX1_size_21 (by cases hR; rfl)

theorem size_popc (a : Int32) : fX1_size a = some (nI (popc a)) := sorry
theorem met_size (l : Launch) (D : va_G) (E : Nat → Nat) (a : Int32) : PM l D E yX1_size cX1_size 3 (Option.some Jvm.ClassFile.FieldType.int) 0 0 [.int a] (fun _ => True) (some (.int (nI (popc a)))) := met_X1_size l D E a (size_popc a)

def fX10_quarters (σ : St) (wi : Nat) : Int32 :=
  ((if (60 * (24 - ((fX10_end σ wi)))) < (wLate σ wi) then (60 * (24 - ((fX10_end σ wi)))) else (wLate σ wi)) + 14) / 15
set_option maxHeartbeats 4000000 in
set_option maxRecDepth 100000 in
theorem met_X10_quarters (l : Launch) (D : va_G) (E : Nat → Nat) {α : Nat → Nat → Nat} {F : Nat → Prop} {σ : St} (wi : Nat) (h_wi : wi < nW σ) : PM l D E yX10_quarters cX10_quarters 2 (Option.some Jvm.ClassFile.FieldType.int) 1 24 [.ref (α 5 wi)] (RX D E α F σ) (some (.int (fX10_quarters σ wi))) := by
  generalize hR : fX10_quarters σ wi = r
  refine PM.start (by decide) (Nat.le_of_ble_eq_true rfl) ?_
  intro p e s m below meth c ls hx hb hr hml hown hlocks hts hG hX hl
  have hown : s.vm.findClass RX10 = some m.cls := hown
  have hS0 : xS p m c cX10_quarters 2 s _ RX10 := ⟨hx, hb, hml, hown, hts⟩
  have hl : lv_has ls 2 [(0, .ref (α 5 wi))] := hl
  unfold fX10_quarters at hR
  refine lv_aload_n hx hb dX10_quarters_0 rfl (lv_at hl 0 rfl) ?_
  refine gf (v := .int (wLate σ wi)) (C := RX10) (T := TX10) (N := 12) (k := 11) hx hb hts hown hG cl_X10 in_X10 (hX.wd h_wi) (by decide) q1032 rfl dX10_quarters_1 ?_
  refine lv_bipush (v := 60) hx hb dX10_quarters_4 (by decide) ?_
  refine lv_bipush (v := 24) hx hb dX10_quarters_6 (by decide) ?_
  refine lv_aload_n hx hb dX10_quarters_8 rfl (lv_at hl 0 rfl) ?_
  refine pcV (As := []) (rest := [.int 24, .int 60, .int (wLate σ wi)]) hS0 (met_X10_end l D E wi h_wi) q494 q495 q496 q130 q497 hd_X10_end ⟨Nat.le_of_ble_eq_true rfl, Nat.le_of_ble_eq_true rfl⟩ hG (rcv hG cl_X10 (hX.wd h_wi)) hX rfl hl.1 rfl (Nat.le_of_ble_eq_true rfl) dX10_quarters_9 ⟨Nat.le_refl _, Nat.le_refl _⟩ ?_
  refine W.eq (g2 := F0 m 12 ls [.int ((fX10_end σ wi)), .int 24, .int 60, .int (wLate σ wi)]) rfl ?_
  refine lv_isub hx hb dX10_quarters_12 ?_
  refine lv_imul hx hb dX10_quarters_13 ?_
  refine va_mmin hx hb (hml.trans hl.1.symm) hown (hts _ q498) (hts _ q293) (hts _ q107) (hts _ q294) (Nat.le_of_ble_eq_true rfl) (Nat.le_of_ble_eq_true rfl) (Nat.le_refl _) (Nat.le_refl _) dX10_quarters_14 ?_
  refine W.eq (g2 := F0 m 17 ls [.int (if (60 * (24 - ((fX10_end σ wi)))) < (wLate σ wi) then (60 * (24 - ((fX10_end σ wi)))) else (wLate σ wi))]) rfl ?_
  refine lv_istore_n (lv' := [(1, .int (if (60 * (24 - ((fX10_end σ wi)))) < (wLate σ wi) then (60 * (24 - ((fX10_end σ wi)))) else (wLate σ wi))), (0, .ref (α 5 wi))]) hx hb dX10_quarters_17 rfl hl (Nat.le_of_ble_eq_true rfl) rfl (fun ls hl => ?_)
  refine lv_iload_n hx hb dX10_quarters_18 rfl (lv_at hl 0 rfl) ?_
  refine lv_bipush (v := 14) hx hb dX10_quarters_19 (by decide) ?_
  refine lv_iadd hx hb dX10_quarters_21 ?_
  refine lv_bipush (v := 15) hx hb dX10_quarters_22 (by decide) ?_
  refine lv_idiv hx hb dX10_quarters_24 (by decide) ?_
  exact p_iret hx hb hr hlocks dX10_quarters_25 (by rw [← hR])

def fX3_fits (σ : St) (i : Nat) (j : Nat) : Bool :=
  (if 2 < (if (12 - (if 0 ≤ ((sKey σ i) - (sKey σ j)) then ((sKey σ i) - (sKey σ j)) else 0 - ((sKey σ i) - (sKey σ j)))) < (if 0 ≤ ((sKey σ i) - (sKey σ j)) then ((sKey σ i) - (sKey σ j)) else 0 - ((sKey σ i) - (sKey σ j))) then (12 - (if 0 ≤ ((sKey σ i) - (sKey σ j)) then ((sKey σ i) - (sKey σ j)) else 0 - ((sKey σ i) - (sKey σ j)))) else (if 0 ≤ ((sKey σ i) - (sKey σ j)) then ((sKey σ i) - (sKey σ j)) else 0 - ((sKey σ i) - (sKey σ j)))) then false else true)
set_option maxHeartbeats 4000000 in
set_option maxRecDepth 100000 in
theorem met_X3_fits (l : Launch) (D : va_G) (E : Nat → Nat) {α : Nat → Nat → Nat} {F : Nat → Prop} {σ : St} (i : Nat) (j : Nat) (h_i : i < 16) (h_j : j < 16) : PM l D E yX3_fits cX3_fits 3 (Option.some Jvm.ClassFile.FieldType.boolean) 1 24 [.ref (α 6 i), .ref (α 6 j)] (RX D E α F σ) (some (.int (bI (fX3_fits σ i j)))) := by
  generalize hR : fX3_fits σ i j = r
  refine PM.start (by decide) (Nat.le_of_ble_eq_true rfl) ?_
  intro p e s m below meth c ls hx hb hr hml hown hlocks hts hG hX hl
  have hown : s.vm.findClass RX3 = some m.cls := hown
  have hS0 : xS p m c cX3_fits 3 s _ RX3 := ⟨hx, hb, hml, hown, hts⟩
  have hl : lv_has ls 3 [(0, .ref (α 6 i)), (1, .ref (α 6 j))] := hl
  unfold fX3_fits at hR
  refine lv_aload_n hx hb dX3_fits_0 rfl (lv_at hl 0 rfl) ?_
  refine gf (v := .int (sKey σ i)) (C := RX3) (T := TX3) (N := 4) (k := 0) hx hb hts hown hG cl_X3 in_X3 (hX.sg h_i) (by decide) q206 rfl dX3_fits_1 ?_
  refine lv_aload_n hx hb dX3_fits_4 rfl (lv_at hl 1 rfl) ?_
  refine gf (v := .int (sKey σ j)) (C := RX3) (T := TX3) (N := 4) (k := 0) hx hb hts hown hG cl_X3 in_X3 (hX.sg h_j) (by decide) q206 rfl dX3_fits_5 ?_
  refine lv_isub hx hb dX3_fits_8 ?_
  refine va_mabs hx hb (hml.trans hl.1.symm) hown (hts _ q664) (hts _ q665) (hts _ q107) (hts _ q666) (Nat.le_of_ble_eq_true rfl) (Nat.le_of_ble_eq_true rfl) (Nat.le_refl _) (Nat.le_refl _) dX3_fits_9 ?_
  refine W.eq (g2 := F0 m 12 ls [.int (if 0 ≤ ((sKey σ i) - (sKey σ j)) then ((sKey σ i) - (sKey σ j)) else 0 - ((sKey σ i) - (sKey σ j)))]) rfl ?_
  refine lv_istore_n (lv' := [(2, .int (if 0 ≤ ((sKey σ i) - (sKey σ j)) then ((sKey σ i) - (sKey σ j)) else 0 - ((sKey σ i) - (sKey σ j)))), (0, .ref (α 6 i)), (1, .ref (α 6 j))]) hx hb dX3_fits_12 rfl hl (Nat.le_of_ble_eq_true rfl) rfl (fun ls hl => ?_)
  refine lv_iload_n hx hb dX3_fits_13 rfl (lv_at hl 0 rfl) ?_
  refine lv_bipush (v := 12) hx hb dX3_fits_14 (by decide) ?_
  refine lv_iload_n hx hb dX3_fits_16 rfl (lv_at hl 0 rfl) ?_
  refine lv_isub hx hb dX3_fits_17 ?_
  refine va_mmin hx hb (hml.trans hl.1.symm) hown (hts _ q667) (hts _ q293) (hts _ q107) (hts _ q294) (Nat.le_of_ble_eq_true rfl) (Nat.le_of_ble_eq_true rfl) (Nat.le_refl _) (Nat.le_refl _) dX3_fits_18 ?_
  refine W.eq (g2 := F0 m 21 ls [.int (if (12 - (if 0 ≤ ((sKey σ i) - (sKey σ j)) then ((sKey σ i) - (sKey σ j)) else 0 - ((sKey σ i) - (sKey σ j)))) < (if 0 ≤ ((sKey σ i) - (sKey σ j)) then ((sKey σ i) - (sKey σ j)) else 0 - ((sKey σ i) - (sKey σ j))) then (12 - (if 0 ≤ ((sKey σ i) - (sKey σ j)) then ((sKey σ i) - (sKey σ j)) else 0 - ((sKey σ i) - (sKey σ j)))) else (if 0 ≤ ((sKey σ i) - (sKey σ j)) then ((sKey σ i) - (sKey σ j)) else 0 - ((sKey σ i) - (sKey σ j))))]) rfl ?_
  refine lv_iconst (v := 2) hx hb dX3_fits_21 (by decide) ?_
  refine lv_icmp_gt (tgt := 29) hx hb dX3_fits_22 (by decide) (fun c1 => ?_) (fun c1 => ?_)
  · rw [if_pos c1] at hR
    refine lv_iconst (v := 0) hx hb dX3_fits_29 (by decide) ?_
    exact p_zret (b := false) hx hb hr hlocks dX3_fits_30 rfl (by rw [← hR])
  · rw [if_neg c1] at hR
    refine lv_iconst (v := 1) hx hb dX3_fits_25 (by decide) ?_
    refine lv_goto (tgt := 30) hx hb dX3_fits_26 (by decide) ?_
    exact p_zret (b := true) hx hb hr hlocks dX3_fits_30 rfl (by rw [← hR])

def fX6_daysOff_L13 (σ : St) (pi : Nat)  (κ : Int32 → Int32) : Nat → Nat → Int32 → Int32
  | 0, i4, a1 => κ a1
  | n + 1, i4, a1 => (if (pOff σ pi i4) = 0 then fX6_daysOff_L13 σ pi κ n (i4 + 1) (a1 + 0) else fX6_daysOff_L13 σ pi κ n (i4 + 1) (a1 + 1))
def fX6_daysOff (σ : St) (pi : Nat) : Int32 :=
  fX6_daysOff_L13 σ pi (fun (a2 : Int32) => a2) 366 0 0
set_option maxHeartbeats 4000000 in
set_option maxRecDepth 100000 in
theorem met_X6_daysOff (l : Launch) (D : va_G) (E : Nat → Nat) {α : Nat → Nat → Nat} {F : Nat → Prop} {σ : St} (pi : Nat) (h_pi : pi < nP σ) : PM l D E yX6_daysOff cX6_daysOff 6 (Option.some Jvm.ClassFile.FieldType.int) 0 0 [.ref (α 3 pi)] (RX D E α F σ) (some (.int (fX6_daysOff σ pi))) := by
  generalize hR : fX6_daysOff σ pi = r
  refine PM.start (by decide) (Nat.le_of_ble_eq_true rfl) ?_
  intro p e s m below meth c ls hx hb hr hml hown hlocks hts hG hX hl
  have hown : s.vm.findClass RX6 = some m.cls := hown
  have hS0 : xS p m c cX6_daysOff 6 s _ RX6 := ⟨hx, hb, hml, hown, hts⟩
  have hl : lv_has ls 6 [(0, .ref (α 3 pi))] := hl
  have hL13 : ∀ (κ : Int32 → Int32) (hκ : ∀ (a1 : Int32) (ls : Array Slot), κ a1 = r → lv_has ls 6 [(1, .int (a1))] → W p l e { frames := 0, cells := 0, slots := 0, locals := 0 } s m [(.ref (α 3 pi) : Value)].toArray below meth c s.heap [] 0 0 (MQ below (qP (some (.int r))) [(.ref (α 3 pi) : Value)].toArray s 0 0 (fun _ => False)) (F0 m 44 ls [])) (n : Nat) (i4 : Nat) (a1 : Int32), i4 + n = 366 → fX6_daysOff_L13 σ pi κ n i4 a1 = r → ∀ (ls : Array Slot), lv_has ls 6 [(1, .int (a1)), (2, .ref (α 4 pi)), (3, .int (nI 366)), (4, .int (nI i4))] → W p l e { frames := 0, cells := 0, slots := 0, locals := 0 } s m [(.ref (α 3 pi) : Value)].toArray below meth c s.heap [] 0 0 (MQ below (qP (some (.int r))) [(.ref (α 3 pi) : Value)].toArray s 0 0 (fun _ => False)) (F0 m 13 ls []) := by
    intro  κ hκ n
    induction n with
    | zero =>
      intro i4 a1 hn hR ls hl
      rw [fX6_daysOff_L13] at hR
      refine lv_iload hx hb dX6_daysOff_13 (lv_at hl 3 rfl) ?_
      refine lv_iload_n hx hb dX6_daysOff_15 rfl (lv_at hl 2 rfl) ?_
      refine lk_ge_out (k := i4) (N := 366) hx hb hn (tgt := 44) dX6_daysOff_16 (by decide) ?_
      exact hκ a1 ls hR (lv_sub hl [0] rfl)
    | succ n ih =>
      intro i4 a1 hn hR ls hl
      rw [fX6_daysOff_L13] at hR
      refine lv_iload hx hb dX6_daysOff_13 (lv_at hl 3 rfl) ?_
      refine lv_iload_n hx hb dX6_daysOff_15 rfl (lv_at hl 2 rfl) ?_
      have hki4 : i4 < 366 := lk_lt hn
      refine lk_ge_in (k := i4) (N := 366) hx hb hki4 (by decide) (tgt := 44) dX6_daysOff_16 (by decide) ?_
      refine lv_aload_n hx hb dX6_daysOff_19 rfl (lv_at hl 1 rfl) ?_
      refine lv_iload hx hb dX6_daysOff_20 (lv_at hl 3 rfl) ?_
      refine gaZ (N := 366) (k := i4) hx hb hG (hX.off h_pi) hki4 (by decide) dX6_daysOff_22 ?_
      refine lv_istore (lv' := [(5, .int (pOff σ pi i4)), (1, .int (a1)), (2, .ref (α 4 pi)), (3, .int (nI 366)), (4, .int (nI i4))]) hx hb dX6_daysOff_23 hl (Nat.le_of_ble_eq_true rfl) rfl (fun ls hl => ?_)
      refine lv_iload_n hx hb dX6_daysOff_25 rfl (lv_at hl 1 rfl) ?_
      refine lv_iload hx hb dX6_daysOff_26 (lv_at hl 0 rfl) ?_
      refine lv_if_eq (tgt := 35) hx hb dX6_daysOff_28 (by decide) (fun c1 => ?_) (fun c1 => ?_)
      · rw [if_pos c1] at hR
        refine lv_iconst (v := 0) hx hb dX6_daysOff_35 (by decide) ?_
        refine lv_iadd hx hb dX6_daysOff_36 ?_
        refine lv_istore_n (lv' := [(1, .int (a1 + 0)), (5, .int (pOff σ pi i4)), (2, .ref (α 4 pi)), (3, .int (nI 366)), (4, .int (nI i4))]) hx hb dX6_daysOff_37 rfl hl (Nat.le_of_ble_eq_true rfl) rfl (fun ls hl => ?_)
        refine lv_iinc (v := nI (i4 + 1)) (lv' := [(4, .int (nI (i4 + 1))), (1, .int (a1 + 0)), (5, .int (pOff σ pi i4)), (2, .ref (α 4 pi)), (3, .int (nI 366))]) hx hb dX6_daysOff_38 hl (k := 4) rfl (nI_1 i4) (Nat.le_of_ble_eq_true rfl) rfl (fun ls hl => ?_)
        refine lv_goto (tgt := 13) hx hb dX6_daysOff_41 (by decide) ?_
        exact ih (i4 + 1) (a1 + 0) (lk_st hn) hR ls (lv_sub hl [1, 3, 4, 0] rfl)
      · rw [if_neg c1] at hR
        refine lv_iconst (v := 1) hx hb dX6_daysOff_31 (by decide) ?_
        refine lv_goto (tgt := 36) hx hb dX6_daysOff_32 (by decide) ?_
        refine lv_iadd hx hb dX6_daysOff_36 ?_
        refine lv_istore_n (lv' := [(1, .int (a1 + 1)), (5, .int (pOff σ pi i4)), (2, .ref (α 4 pi)), (3, .int (nI 366)), (4, .int (nI i4))]) hx hb dX6_daysOff_37 rfl hl (Nat.le_of_ble_eq_true rfl) rfl (fun ls hl => ?_)
        refine lv_iinc (v := nI (i4 + 1)) (lv' := [(4, .int (nI (i4 + 1))), (1, .int (a1 + 1)), (5, .int (pOff σ pi i4)), (2, .ref (α 4 pi)), (3, .int (nI 366))]) hx hb dX6_daysOff_38 hl (k := 4) rfl (nI_1 i4) (Nat.le_of_ble_eq_true rfl) rfl (fun ls hl => ?_)
        refine lv_goto (tgt := 13) hx hb dX6_daysOff_41 (by decide) ?_
        exact ih (i4 + 1) (a1 + 1) (lk_st hn) hR ls (lv_sub hl [1, 3, 4, 0] rfl)
  unfold fX6_daysOff at hR
  refine lv_iconst (v := 0) hx hb dX6_daysOff_0 (by decide) ?_
  refine lv_istore_n (lv' := [(1, .int 0), (0, .ref (α 3 pi))]) hx hb dX6_daysOff_1 rfl hl (Nat.le_of_ble_eq_true rfl) rfl (fun ls hl => ?_)
  refine lv_aload_n hx hb dX6_daysOff_2 rfl (lv_at hl 1 rfl) ?_
  refine gf (v := .ref (α 4 pi)) (C := RX6) (T := TX6) (N := 7) (k := 6) hx hb hts hown hG cl_X6 in_X6 (hX.pl h_pi) (by decide) q919 rfl dX6_daysOff_3 ?_
  refine lv_astore_n (lv' := [(2, .ref (α 4 pi)), (1, .int 0), (0, .ref (α 3 pi))]) hx hb dX6_daysOff_6 rfl hl (Nat.le_of_ble_eq_true rfl) rfl (fun ls hl => ?_)
  refine lv_aload_n hx hb dX6_daysOff_7 rfl (lv_at hl 0 rfl) ?_
  refine gl (N := 366) hx hb hG (hX.off h_pi) (t := 1) rfl rfl dX6_daysOff_8 ?_
  refine lv_istore_n (lv' := [(3, .int (nI 366)), (2, .ref (α 4 pi)), (1, .int 0), (0, .ref (α 3 pi))]) hx hb dX6_daysOff_9 rfl hl (Nat.le_of_ble_eq_true rfl) rfl (fun ls hl => ?_)
  refine lv_iconst (v := 0) hx hb dX6_daysOff_10 (by decide) ?_
  refine lv_istore (lv' := [(4, .int 0), (3, .int (nI 366)), (2, .ref (α 4 pi)), (1, .int 0), (0, .ref (α 3 pi))]) hx hb dX6_daysOff_11 hl (Nat.le_of_ble_eq_true rfl) rfl (fun ls hl => ?_)
  refine hL13  _ (fun a2 ls hR hl => ?_) 366 0 0 (Nat.zero_add _) hR ls (lv_sub hl [3, 2, 1, 0] rfl)
  refine lv_iload_n hx hb dX6_daysOff_44 rfl (lv_at hl 0 rfl) ?_
  exact p_iret hx hb hr hlocks dX6_daysOff_45 (by rw [← hR])

def fX8_many_L13 (σ : St) (b : Nat)  (κ : Int32 → Int32) : Nat → Nat → Int32 → Int32
  | 0, i4, a1 => κ a1
  | n + 1, i4, a1 => fX8_many_L13 σ b κ n (i4 + 1) (a1 + (bNeed σ b i4))
def fX8_many (σ : St) (b : Nat) : Int32 :=
  fX8_many_L13 σ b (fun (a1 : Int32) => a1) 6 0 0
set_option maxHeartbeats 4000000 in
set_option maxRecDepth 100000 in
theorem met_X8_many (l : Launch) (D : va_G) (E : Nat → Nat) {α : Nat → Nat → Nat} {F : Nat → Prop} {σ : St} (b : Nat) (h_b : b < nB σ) : PM l D E yX8_many cX8_many 6 (Option.some Jvm.ClassFile.FieldType.int) 0 0 [.ref (α 9 b)] (RX D E α F σ) (some (.int (fX8_many σ b))) := by
  generalize hR : fX8_many σ b = r
  refine PM.start (by decide) (Nat.le_of_ble_eq_true rfl) ?_
  intro p e s m below meth c ls hx hb hr hml hown hlocks hts hG hX hl
  have hown : s.vm.findClass RX8 = some m.cls := hown
  have hS0 : xS p m c cX8_many 6 s _ RX8 := ⟨hx, hb, hml, hown, hts⟩
  have hl : lv_has ls 6 [(0, .ref (α 9 b))] := hl
  have hL13 : ∀ (κ : Int32 → Int32) (hκ : ∀ (a1 : Int32) (ls : Array Slot), κ a1 = r → lv_has ls 6 [(1, .int (a1))] → W p l e { frames := 0, cells := 0, slots := 0, locals := 0 } s m [(.ref (α 9 b) : Value)].toArray below meth c s.heap [] 0 0 (MQ below (qP (some (.int r))) [(.ref (α 9 b) : Value)].toArray s 0 0 (fun _ => False)) (F0 m 36 ls [])) (n : Nat) (i4 : Nat) (a1 : Int32), i4 + n = 6 → fX8_many_L13 σ b κ n i4 a1 = r → ∀ (ls : Array Slot), lv_has ls 6 [(1, .int (a1)), (2, .ref (α 10 b)), (3, .int (nI 6)), (4, .int (nI i4))] → W p l e { frames := 0, cells := 0, slots := 0, locals := 0 } s m [(.ref (α 9 b) : Value)].toArray below meth c s.heap [] 0 0 (MQ below (qP (some (.int r))) [(.ref (α 9 b) : Value)].toArray s 0 0 (fun _ => False)) (F0 m 13 ls []) := by
    intro  κ hκ n
    induction n with
    | zero =>
      intro i4 a1 hn hR ls hl
      rw [fX8_many_L13] at hR
      refine lv_iload hx hb dX8_many_13 (lv_at hl 3 rfl) ?_
      refine lv_iload_n hx hb dX8_many_15 rfl (lv_at hl 2 rfl) ?_
      refine lk_ge_out (k := i4) (N := 6) hx hb hn (tgt := 36) dX8_many_16 (by decide) ?_
      exact hκ a1 ls hR (lv_sub hl [0] rfl)
    | succ n ih =>
      intro i4 a1 hn hR ls hl
      rw [fX8_many_L13] at hR
      refine lv_iload hx hb dX8_many_13 (lv_at hl 3 rfl) ?_
      refine lv_iload_n hx hb dX8_many_15 rfl (lv_at hl 2 rfl) ?_
      have hki4 : i4 < 6 := lk_lt hn
      refine lk_ge_in (k := i4) (N := 6) hx hb hki4 (by decide) (tgt := 36) dX8_many_16 (by decide) ?_
      refine lv_aload_n hx hb dX8_many_19 rfl (lv_at hl 1 rfl) ?_
      refine lv_iload hx hb dX8_many_20 (lv_at hl 3 rfl) ?_
      refine gaI (N := 6) (k := i4) hx hb hG (hX.nd h_b) hki4 (by decide) dX8_many_22 ?_
      refine lv_istore (lv' := [(5, .int (bNeed σ b i4)), (1, .int (a1)), (2, .ref (α 10 b)), (3, .int (nI 6)), (4, .int (nI i4))]) hx hb dX8_many_23 hl (Nat.le_of_ble_eq_true rfl) rfl (fun ls hl => ?_)
      refine lv_iload_n hx hb dX8_many_25 rfl (lv_at hl 1 rfl) ?_
      refine lv_iload hx hb dX8_many_26 (lv_at hl 0 rfl) ?_
      refine lv_iadd hx hb dX8_many_28 ?_
      refine lv_istore_n (lv' := [(1, .int (a1 + (bNeed σ b i4))), (5, .int (bNeed σ b i4)), (2, .ref (α 10 b)), (3, .int (nI 6)), (4, .int (nI i4))]) hx hb dX8_many_29 rfl hl (Nat.le_of_ble_eq_true rfl) rfl (fun ls hl => ?_)
      refine lv_iinc (v := nI (i4 + 1)) (lv' := [(4, .int (nI (i4 + 1))), (1, .int (a1 + (bNeed σ b i4))), (5, .int (bNeed σ b i4)), (2, .ref (α 10 b)), (3, .int (nI 6))]) hx hb dX8_many_30 hl (k := 4) rfl (nI_1 i4) (Nat.le_of_ble_eq_true rfl) rfl (fun ls hl => ?_)
      refine lv_goto (tgt := 13) hx hb dX8_many_33 (by decide) ?_
      exact ih (i4 + 1) (a1 + (bNeed σ b i4)) (lk_st hn) hR ls (lv_sub hl [1, 3, 4, 0] rfl)
  unfold fX8_many at hR
  refine lv_iconst (v := 0) hx hb dX8_many_0 (by decide) ?_
  refine lv_istore_n (lv' := [(1, .int 0), (0, .ref (α 9 b))]) hx hb dX8_many_1 rfl hl (Nat.le_of_ble_eq_true rfl) rfl (fun ls hl => ?_)
  refine lv_aload_n hx hb dX8_many_2 rfl (lv_at hl 1 rfl) ?_
  refine gf (v := .ref (α 10 b)) (C := RX8) (T := TX8) (N := 2) (k := 0) hx hb hts hown hG cl_X8 in_X8 (hX.sh h_b) (by decide) q984 rfl dX8_many_3 ?_
  refine lv_astore_n (lv' := [(2, .ref (α 10 b)), (1, .int 0), (0, .ref (α 9 b))]) hx hb dX8_many_6 rfl hl (Nat.le_of_ble_eq_true rfl) rfl (fun ls hl => ?_)
  refine lv_aload_n hx hb dX8_many_7 rfl (lv_at hl 0 rfl) ?_
  refine gl (N := 6) hx hb hG (hX.nd h_b) (t := 0) rfl rfl dX8_many_8 ?_
  refine lv_istore_n (lv' := [(3, .int (nI 6)), (2, .ref (α 10 b)), (1, .int 0), (0, .ref (α 9 b))]) hx hb dX8_many_9 rfl hl (Nat.le_of_ble_eq_true rfl) rfl (fun ls hl => ?_)
  refine lv_iconst (v := 0) hx hb dX8_many_10 (by decide) ?_
  refine lv_istore (lv' := [(4, .int 0), (3, .int (nI 6)), (2, .ref (α 10 b)), (1, .int 0), (0, .ref (α 9 b))]) hx hb dX8_many_11 hl (Nat.le_of_ble_eq_true rfl) rfl (fun ls hl => ?_)
  refine hL13  _ (fun a1 ls hR hl => ?_) 6 0 0 (Nat.zero_add _) hR ls (lv_sub hl [3, 2, 1, 0] rfl)
  refine lv_iload_n hx hb dX8_many_36 rfl (lv_at hl 0 rfl) ?_
  exact p_iret hx hb hr hlocks dX8_many_37 (by rw [← hR])

def fX1_cost (σ : St) (pi : Nat) (wi : Nat) : Int32 :=
  ((pFee σ pi) * (wLen σ wi)) + (10 * (if 0 < ((fX2_drive σ (pHome σ pi) (wTown σ wi))) then ((fX2_drive σ (pHome σ pi) (wTown σ wi))) else 0))
set_option maxHeartbeats 4000000 in
set_option maxRecDepth 100000 in
theorem met_X1_cost (l : Launch) (D : va_G) (E : Nat → Nat) {α : Nat → Nat → Nat} {F : Nat → Prop} {σ : St} (pi : Nat) (wi : Nat) (h_pi : pi < nP σ) (h_wi : wi < nW σ) : PM l D E yX1_cost cX1_cost 4 (Option.some Jvm.ClassFile.FieldType.int) 3 64 [.ref (α 0 0), .int (nI pi), .ref (α 5 wi)] (RX D E α F σ) (some (.int (fX1_cost σ pi wi))) := by
  generalize hR : fX1_cost σ pi wi = r
  refine PM.start (by decide) (Nat.le_of_ble_eq_true rfl) ?_
  intro p e s m below meth c ls hx hb hr hml hown hlocks hts hG hX hl
  have hown : s.vm.findClass RX1 = some m.cls := hown
  have hS0 : xS p m c cX1_cost 4 s _ RX1 := ⟨hx, hb, hml, hown, hts⟩
  have hl : lv_has ls 4 [(0, .ref (α 0 0)), (1, .int (nI pi)), (2, .ref (α 5 wi))] := hl
  unfold fX1_cost at hR
  refine lv_aload_n hx hb dX1_cost_0 rfl (lv_at hl 0 rfl) ?_
  refine gf (v := .ref (α 1 0)) (C := RX1) (T := TX1) (N := 6) (k := 0) hx hb hts hown hG cl_X1 in_X1 hX.ag (by decide) q301 rfl dX1_cost_1 ?_
  refine lv_iload_n hx hb dX1_cost_4 rfl (lv_at hl 1 rfl) ?_
  refine pcF (x := xL_get) (ci := 13) (As := [.int (nI pi)]) (rest := []) hG.fw_get hS0 (met_xl_get l D E (j := 0) (by decide) pi h_pi) q344 q347 q349 q103 q351 hd_xL_get ⟨Nat.le_of_ble_eq_true rfl, Nat.le_of_ble_eq_true rfl⟩ hG cl_J2 (hX.lsR hG (j := 0) (by decide)) hX rfl hl.1 rfl (Nat.le_of_ble_eq_true rfl) dX1_cost_5 ⟨Nat.le_refl _, Nat.le_refl _⟩ ?_
  refine W.eq (g2 := F0 m 10 ls [.ref (α 3 pi)]) rfl ?_
  refine gc (ci := 5) hx hb hown hG cl_X6 (rcv hG cl_X6 (hX.pl h_pi)) (hts _ q362) dX1_cost_10 ?_
  refine lv_astore_n (lv' := [(3, .ref (α 3 pi)), (0, .ref (α 0 0)), (1, .int (nI pi)), (2, .ref (α 5 wi))]) hx hb dX1_cost_13 rfl hl (Nat.le_of_ble_eq_true rfl) rfl (fun ls hl => ?_)
  refine lv_aload_n hx hb dX1_cost_14 rfl (lv_at hl 0 rfl) ?_
  refine gfN (v := .int (pFee σ pi)) (C := RX6) (T := TX6) (N := 7) (k := 2) hx hb hts hown hG cl_X6 in_X6 (hX.pl h_pi) (by decide) q914 rfl dX1_cost_15 ?_
  refine lv_aload_n hx hb dX1_cost_18 rfl (lv_at hl 3 rfl) ?_
  refine gfN (v := .int (wLen σ wi)) (C := RX10) (T := TX10) (N := 12) (k := 4) hx hb hts hown hG cl_X10 in_X10 (hX.wd h_wi) (by decide) q1018 rfl dX1_cost_19 ?_
  refine lv_imul hx hb dX1_cost_22 ?_
  refine lv_bipush (v := 10) hx hb dX1_cost_23 (by decide) ?_
  refine lv_iconst (v := 0) hx hb dX1_cost_25 (by decide) ?_
  refine lv_aload_n hx hb dX1_cost_26 rfl (lv_at hl 1 rfl) ?_
  refine gf (v := .ref (α 7 0)) (C := RX1) (T := TX1) (N := 6) (k := 2) hx hb hts hown hG cl_X1 in_X1 hX.ag (by decide) q303 rfl dX1_cost_27 ?_
  refine lv_aload_n hx hb dX1_cost_30 rfl (lv_at hl 0 rfl) ?_
  refine gfN (v := .int (nI (pHome σ pi))) (C := RX6) (T := TX6) (N := 7) (k := 1) hx hb hts hown hG cl_X6 in_X6 (hX.pl h_pi) (by decide) q912 rfl dX1_cost_31 ?_
  refine lv_aload_n hx hb dX1_cost_34 rfl (lv_at hl 3 rfl) ?_
  refine gfN (v := .int (nI (wTown σ wi))) (C := RX10) (T := TX10) (N := 12) (k := 2) hx hb hts hown hG cl_X10 in_X10 (hX.wd h_wi) (by decide) q1014 rfl dX1_cost_35 ?_
  refine pcV (As := [.int (nI (pHome σ pi)), .int (nI (wTown σ wi))]) (rest := [.int 0, .int 10, .int ((pFee σ pi) * (wLen σ wi))]) hS0 (met_X2_drive l D E (pHome σ pi) (wTown σ wi) (hX.home h_pi) (hX.town h_wi)) q513 q189 q190 q104 q191 hd_X2_drive ⟨Nat.le_of_ble_eq_true rfl, Nat.le_of_ble_eq_true rfl⟩ hG (rcv hG cl_X2 hX.rd) hX rfl hl.1 rfl (Nat.le_of_ble_eq_true rfl) dX1_cost_38 ⟨Nat.le_refl _, Nat.le_refl _⟩ ?_
  refine W.eq (g2 := F0 m 41 ls [.int ((fX2_drive σ (pHome σ pi) (wTown σ wi))), .int 0, .int 10, .int ((pFee σ pi) * (wLen σ wi))]) rfl ?_
  refine va_mmax hx hb (hml.trans hl.1.symm) hown (hts _ q423) (hts _ q249) (hts _ q107) (hts _ q250) (Nat.le_of_ble_eq_true rfl) (Nat.le_of_ble_eq_true rfl) (Nat.le_refl _) (Nat.le_refl _) dX1_cost_41 ?_
  refine W.eq (g2 := F0 m 44 ls [.int (if 0 < ((fX2_drive σ (pHome σ pi) (wTown σ wi))) then ((fX2_drive σ (pHome σ pi) (wTown σ wi))) else 0), .int 10, .int ((pFee σ pi) * (wLen σ wi))]) rfl ?_
  refine lv_imul hx hb dX1_cost_44 ?_
  refine lv_iadd hx hb dX1_cost_45 ?_
  exact p_iret hx hb hr hlocks dX1_cost_46 (by rw [← hR])

def fX1_canBeAtBothA (σ : St) (k : Nat) (q : Nat) : Bool :=
  (if (wStart σ q) = (wStart σ k) then (if ((fX2_drive σ (wTown σ k) (wTown σ q))) = ((-1)) then false else (if (wStart σ q) < (((fX10_end σ k)) + ((fX2_drive σ (wTown σ k) (wTown σ q)))) then false else true)) else (if ((fX2_drive σ (wTown σ k) (wTown σ q))) = ((-1)) then false else (if (wStart σ q) < (((fX10_end σ k)) + ((fX2_drive σ (wTown σ k) (wTown σ q)))) then false else true)))
set_option maxHeartbeats 4000000 in
set_option maxRecDepth 100000 in
theorem met_X1_canBeAtBothA (l : Launch) (D : va_G) (E : Nat → Nat) {α : Nat → Nat → Nat} {F : Nat → Prop} {σ : St} (k : Nat) (q : Nat) (h_k : k < nW σ) (h_q : q < nW σ) (hA : ¬ wStart σ q < wStart σ k) (hB : wStart σ q = wStart σ k → k ≤ q) : PM l D E yX1_canBeAtBoth cX1_canBeAtBoth 6 (Option.some Jvm.ClassFile.FieldType.boolean) 3 64 [.ref (α 0 0), .int (nI k), .int (nI q)] (RX D E α F σ) (some (.int (bI (fX1_canBeAtBothA σ k q)))) := by
  generalize hR : fX1_canBeAtBothA σ k q = r
  refine PM.start (by decide) (Nat.le_of_ble_eq_true rfl) ?_
  intro p e s m below meth c ls hx hb hr hml hown hlocks hts hG hX hl
  have hown : s.vm.findClass RX1 = some m.cls := hown
  have hS0 : xS p m c cX1_canBeAtBoth 6 s _ RX1 := ⟨hx, hb, hml, hown, hts⟩
  have hl : lv_has ls 6 [(0, .ref (α 0 0)), (1, .int (nI k)), (2, .int (nI q))] := hl
  unfold fX1_canBeAtBothA at hR
  refine lv_aload_n hx hb dX1_canBeAtBoth_0 rfl (lv_at hl 0 rfl) ?_
  refine gf (v := .ref (α 1 3)) (C := RX1) (T := TX1) (N := 6) (k := 4) hx hb hts hown hG cl_X1 in_X1 hX.ag (by decide) q307 rfl dX1_canBeAtBoth_1 ?_
  refine lv_iload_n hx hb dX1_canBeAtBoth_4 rfl (lv_at hl 1 rfl) ?_
  refine pcF (x := xL_get) (ci := 13) (As := [.int (nI k)]) (rest := []) hG.fw_get hS0 (met_xl_get l D E (j := 3) (by decide) k h_k) q344 q347 q349 q103 q351 hd_xL_get ⟨Nat.le_of_ble_eq_true rfl, Nat.le_of_ble_eq_true rfl⟩ hG cl_J2 (hX.lsR hG (j := 3) (by decide)) hX rfl hl.1 rfl (Nat.le_of_ble_eq_true rfl) dX1_canBeAtBoth_5 ⟨Nat.le_refl _, Nat.le_refl _⟩ ?_
  refine W.eq (g2 := F0 m 10 ls [.ref (α 5 k)]) rfl ?_
  refine gc (ci := 8) hx hb hown hG cl_X10 (rcv hG cl_X10 (hX.wd h_k)) (hts _ q369) dX1_canBeAtBoth_10 ?_
  refine lv_astore_n (lv' := [(3, .ref (α 5 k)), (0, .ref (α 0 0)), (1, .int (nI k)), (2, .int (nI q))]) hx hb dX1_canBeAtBoth_13 rfl hl (Nat.le_of_ble_eq_true rfl) rfl (fun ls hl => ?_)
  refine lv_aload_n hx hb dX1_canBeAtBoth_14 rfl (lv_at hl 1 rfl) ?_
  refine gf (v := .ref (α 1 3)) (C := RX1) (T := TX1) (N := 6) (k := 4) hx hb hts hown hG cl_X1 in_X1 hX.ag (by decide) q307 rfl dX1_canBeAtBoth_15 ?_
  refine lv_iload_n hx hb dX1_canBeAtBoth_18 rfl (lv_at hl 3 rfl) ?_
  refine pcF (x := xL_get) (ci := 13) (As := [.int (nI q)]) (rest := []) hG.fw_get hS0 (met_xl_get l D E (j := 3) (by decide) q h_q) q344 q347 q349 q103 q351 hd_xL_get ⟨Nat.le_of_ble_eq_true rfl, Nat.le_of_ble_eq_true rfl⟩ hG cl_J2 (hX.lsR hG (j := 3) (by decide)) hX rfl hl.1 rfl (Nat.le_of_ble_eq_true rfl) dX1_canBeAtBoth_19 ⟨Nat.le_refl _, Nat.le_refl _⟩ ?_
  refine W.eq (g2 := F0 m 24 ls [.ref (α 5 q)]) rfl ?_
  refine gc (ci := 8) hx hb hown hG cl_X10 (rcv hG cl_X10 (hX.wd h_q)) (hts _ q369) dX1_canBeAtBoth_24 ?_
  refine lv_astore (lv' := [(4, .ref (α 5 q)), (3, .ref (α 5 k)), (0, .ref (α 0 0)), (1, .int (nI k)), (2, .int (nI q))]) hx hb dX1_canBeAtBoth_27 hl (Nat.le_of_ble_eq_true rfl) rfl (fun ls hl => ?_)
  refine lv_aload hx hb dX1_canBeAtBoth_29 (lv_at hl 0 rfl) ?_
  refine gfN (v := .int (wStart σ q)) (C := RX10) (T := TX10) (N := 12) (k := 3) hx hb hts hown hG cl_X10 in_X10 (hX.wd h_q) (by decide) q1016 rfl dX1_canBeAtBoth_31 ?_
  refine lv_aload_n hx hb dX1_canBeAtBoth_34 rfl (lv_at hl 1 rfl) ?_
  refine gfN (v := .int (wStart σ k)) (C := RX10) (T := TX10) (N := 12) (k := 3) hx hb hts hown hG cl_X10 in_X10 (hX.wd h_k) (by decide) q1016 rfl dX1_canBeAtBoth_35 ?_
  refine lv_icmp_lt (tgt := 58) hx hb dX1_canBeAtBoth_38 (by decide) (fun c9 => absurd c9 (hA)) (fun _ => ?_)
  refine lv_aload hx hb dX1_canBeAtBoth_41 (lv_at hl 0 rfl) ?_
  refine gfN (v := .int (wStart σ q)) (C := RX10) (T := TX10) (N := 12) (k := 3) hx hb hts hown hG cl_X10 in_X10 (hX.wd h_q) (by decide) q1016 rfl dX1_canBeAtBoth_43 ?_
  refine lv_aload_n hx hb dX1_canBeAtBoth_46 rfl (lv_at hl 1 rfl) ?_
  refine gfN (v := .int (wStart σ k)) (C := RX10) (T := TX10) (N := 12) (k := 3) hx hb hts hown hG cl_X10 in_X10 (hX.wd h_k) (by decide) q1016 rfl dX1_canBeAtBoth_47 ?_
  refine lv_icmp_ne (tgt := 65) hx hb dX1_canBeAtBoth_50 (by decide) (fun c1 => ?_) (fun c1 => ?_)
  · rw [if_neg c1] at hR
    refine lv_aload_n hx hb dX1_canBeAtBoth_65 rfl (lv_at hl 2 rfl) ?_
    refine gf (v := .ref (α 7 0)) (C := RX1) (T := TX1) (N := 6) (k := 2) hx hb hts hown hG cl_X1 in_X1 hX.ag (by decide) q303 rfl dX1_canBeAtBoth_66 ?_
    refine lv_aload_n hx hb dX1_canBeAtBoth_69 rfl (lv_at hl 1 rfl) ?_
    refine gfN (v := .int (nI (wTown σ k))) (C := RX10) (T := TX10) (N := 12) (k := 2) hx hb hts hown hG cl_X10 in_X10 (hX.wd h_k) (by decide) q1014 rfl dX1_canBeAtBoth_70 ?_
    refine lv_aload hx hb dX1_canBeAtBoth_73 (lv_at hl 0 rfl) ?_
    refine gfN (v := .int (nI (wTown σ q))) (C := RX10) (T := TX10) (N := 12) (k := 2) hx hb hts hown hG cl_X10 in_X10 (hX.wd h_q) (by decide) q1014 rfl dX1_canBeAtBoth_75 ?_
    refine pcV (As := [.int (nI (wTown σ k)), .int (nI (wTown σ q))]) (rest := []) hS0 (met_X2_drive l D E (wTown σ k) (wTown σ q) (hX.town h_k) (hX.town h_q)) q513 q189 q190 q104 q191 hd_X2_drive ⟨Nat.le_of_ble_eq_true rfl, Nat.le_of_ble_eq_true rfl⟩ hG (rcv hG cl_X2 hX.rd) hX rfl hl.1 rfl (Nat.le_of_ble_eq_true rfl) dX1_canBeAtBoth_78 ⟨Nat.le_refl _, Nat.le_refl _⟩ ?_
    refine W.eq (g2 := F0 m 81 ls [.int ((fX2_drive σ (wTown σ k) (wTown σ q)))]) rfl ?_
    refine lv_istore (lv' := [(5, .int ((fX2_drive σ (wTown σ k) (wTown σ q)))), (4, .ref (α 5 q)), (3, .ref (α 5 k)), (0, .ref (α 0 0)), (1, .int (nI k)), (2, .int (nI q))]) hx hb dX1_canBeAtBoth_81 hl (Nat.le_of_ble_eq_true rfl) rfl (fun ls hl => ?_)
    refine lv_iload hx hb dX1_canBeAtBoth_83 (lv_at hl 0 rfl) ?_
    refine lv_iconst (v := (-1)) hx hb dX1_canBeAtBoth_85 (by decide) ?_
    refine lv_icmp_eq (tgt := 108) hx hb dX1_canBeAtBoth_86 (by decide) (fun c2 => ?_) (fun c2 => ?_)
    · rw [if_pos c2] at hR
      refine lv_iconst (v := 0) hx hb dX1_canBeAtBoth_108 (by decide) ?_
      exact p_zret (b := false) hx hb hr hlocks dX1_canBeAtBoth_109 rfl (by rw [← hR])
    · rw [if_neg c2] at hR
      refine lv_aload_n hx hb dX1_canBeAtBoth_89 rfl (lv_at hl 2 rfl) ?_
      refine pcV (As := []) (rest := []) hS0 (met_X10_end l D E k h_k) q518 q495 q496 q130 q497 hd_X10_end ⟨Nat.le_of_ble_eq_true rfl, Nat.le_of_ble_eq_true rfl⟩ hG (rcv hG cl_X10 (hX.wd h_k)) hX rfl hl.1 rfl (Nat.le_of_ble_eq_true rfl) dX1_canBeAtBoth_90 ⟨Nat.le_refl _, Nat.le_refl _⟩ ?_
      refine W.eq (g2 := F0 m 93 ls [.int ((fX10_end σ k))]) rfl ?_
      refine lv_iload hx hb dX1_canBeAtBoth_93 (lv_at hl 0 rfl) ?_
      refine lv_iadd hx hb dX1_canBeAtBoth_95 ?_
      refine lv_aload hx hb dX1_canBeAtBoth_96 (lv_at hl 1 rfl) ?_
      refine gfN (v := .int (wStart σ q)) (C := RX10) (T := TX10) (N := 12) (k := 3) hx hb hts hown hG cl_X10 in_X10 (hX.wd h_q) (by decide) q1016 rfl dX1_canBeAtBoth_98 ?_
      refine lv_icmp_gt (tgt := 108) hx hb dX1_canBeAtBoth_101 (by decide) (fun c3 => ?_) (fun c3 => ?_)
      · rw [if_pos c3] at hR
        refine lv_iconst (v := 0) hx hb dX1_canBeAtBoth_108 (by decide) ?_
        exact p_zret (b := false) hx hb hr hlocks dX1_canBeAtBoth_109 rfl (by rw [← hR])
      · rw [if_neg c3] at hR
        refine lv_iconst (v := 1) hx hb dX1_canBeAtBoth_104 (by decide) ?_
        refine lv_goto (tgt := 109) hx hb dX1_canBeAtBoth_105 (by decide) ?_
        exact p_zret (b := true) hx hb hr hlocks dX1_canBeAtBoth_109 rfl (by rw [← hR])
  · rw [if_pos c1] at hR
    refine lv_iload_n hx hb dX1_canBeAtBoth_53 rfl (lv_at hl 4 rfl) ?_
    refine lv_iload_n hx hb dX1_canBeAtBoth_54 rfl (lv_at hl 3 rfl) ?_
    refine lv_icmp_ge (tgt := 65) hx hb dX1_canBeAtBoth_55 (by decide) (fun _ => ?_) (fun c9 => absurd (nI_le (hB c1) (by have := hX.nW14; omega)) c9)
    refine lv_aload_n hx hb dX1_canBeAtBoth_65 rfl (lv_at hl 2 rfl) ?_
    refine gf (v := .ref (α 7 0)) (C := RX1) (T := TX1) (N := 6) (k := 2) hx hb hts hown hG cl_X1 in_X1 hX.ag (by decide) q303 rfl dX1_canBeAtBoth_66 ?_
    refine lv_aload_n hx hb dX1_canBeAtBoth_69 rfl (lv_at hl 1 rfl) ?_
    refine gfN (v := .int (nI (wTown σ k))) (C := RX10) (T := TX10) (N := 12) (k := 2) hx hb hts hown hG cl_X10 in_X10 (hX.wd h_k) (by decide) q1014 rfl dX1_canBeAtBoth_70 ?_
    refine lv_aload hx hb dX1_canBeAtBoth_73 (lv_at hl 0 rfl) ?_
    refine gfN (v := .int (nI (wTown σ q))) (C := RX10) (T := TX10) (N := 12) (k := 2) hx hb hts hown hG cl_X10 in_X10 (hX.wd h_q) (by decide) q1014 rfl dX1_canBeAtBoth_75 ?_
    refine pcV (As := [.int (nI (wTown σ k)), .int (nI (wTown σ q))]) (rest := []) hS0 (met_X2_drive l D E (wTown σ k) (wTown σ q) (hX.town h_k) (hX.town h_q)) q513 q189 q190 q104 q191 hd_X2_drive ⟨Nat.le_of_ble_eq_true rfl, Nat.le_of_ble_eq_true rfl⟩ hG (rcv hG cl_X2 hX.rd) hX rfl hl.1 rfl (Nat.le_of_ble_eq_true rfl) dX1_canBeAtBoth_78 ⟨Nat.le_refl _, Nat.le_refl _⟩ ?_
    refine W.eq (g2 := F0 m 81 ls [.int ((fX2_drive σ (wTown σ k) (wTown σ q)))]) rfl ?_
    refine lv_istore (lv' := [(5, .int ((fX2_drive σ (wTown σ k) (wTown σ q)))), (4, .ref (α 5 q)), (3, .ref (α 5 k)), (0, .ref (α 0 0)), (1, .int (nI k)), (2, .int (nI q))]) hx hb dX1_canBeAtBoth_81 hl (Nat.le_of_ble_eq_true rfl) rfl (fun ls hl => ?_)
    refine lv_iload hx hb dX1_canBeAtBoth_83 (lv_at hl 0 rfl) ?_
    refine lv_iconst (v := (-1)) hx hb dX1_canBeAtBoth_85 (by decide) ?_
    refine lv_icmp_eq (tgt := 108) hx hb dX1_canBeAtBoth_86 (by decide) (fun c4 => ?_) (fun c4 => ?_)
    · rw [if_pos c4] at hR
      refine lv_iconst (v := 0) hx hb dX1_canBeAtBoth_108 (by decide) ?_
      exact p_zret (b := false) hx hb hr hlocks dX1_canBeAtBoth_109 rfl (by rw [← hR])
    · rw [if_neg c4] at hR
      refine lv_aload_n hx hb dX1_canBeAtBoth_89 rfl (lv_at hl 2 rfl) ?_
      refine pcV (As := []) (rest := []) hS0 (met_X10_end l D E k h_k) q518 q495 q496 q130 q497 hd_X10_end ⟨Nat.le_of_ble_eq_true rfl, Nat.le_of_ble_eq_true rfl⟩ hG (rcv hG cl_X10 (hX.wd h_k)) hX rfl hl.1 rfl (Nat.le_of_ble_eq_true rfl) dX1_canBeAtBoth_90 ⟨Nat.le_refl _, Nat.le_refl _⟩ ?_
      refine W.eq (g2 := F0 m 93 ls [.int ((fX10_end σ k))]) rfl ?_
      refine lv_iload hx hb dX1_canBeAtBoth_93 (lv_at hl 0 rfl) ?_
      refine lv_iadd hx hb dX1_canBeAtBoth_95 ?_
      refine lv_aload hx hb dX1_canBeAtBoth_96 (lv_at hl 1 rfl) ?_
      refine gfN (v := .int (wStart σ q)) (C := RX10) (T := TX10) (N := 12) (k := 3) hx hb hts hown hG cl_X10 in_X10 (hX.wd h_q) (by decide) q1016 rfl dX1_canBeAtBoth_98 ?_
      refine lv_icmp_gt (tgt := 108) hx hb dX1_canBeAtBoth_101 (by decide) (fun c5 => ?_) (fun c5 => ?_)
      · rw [if_pos c5] at hR
        refine lv_iconst (v := 0) hx hb dX1_canBeAtBoth_108 (by decide) ?_
        exact p_zret (b := false) hx hb hr hlocks dX1_canBeAtBoth_109 rfl (by rw [← hR])
      · rw [if_neg c5] at hR
        refine lv_iconst (v := 1) hx hb dX1_canBeAtBoth_104 (by decide) ?_
        refine lv_goto (tgt := 109) hx hb dX1_canBeAtBoth_105 (by decide) ?_
        exact p_zret (b := true) hx hb hr hlocks dX1_canBeAtBoth_109 rfl (by rw [← hR])

def fX1_canBeAtBoth (σ : St) (k : Nat) (q : Nat) : Bool :=
  (if (wStart σ q) < (wStart σ k) then (fX1_canBeAtBothA σ q k) else (if (wStart σ q) = (wStart σ k) then (if (nI k) ≤ (nI q) then (if ((fX2_drive σ (wTown σ k) (wTown σ q))) = ((-1)) then false else (if (wStart σ q) < (((fX10_end σ k)) + ((fX2_drive σ (wTown σ k) (wTown σ q)))) then false else true)) else (fX1_canBeAtBothA σ q k)) else (if ((fX2_drive σ (wTown σ k) (wTown σ q))) = ((-1)) then false else (if (wStart σ q) < (((fX10_end σ k)) + ((fX2_drive σ (wTown σ k) (wTown σ q)))) then false else true))))
set_option maxHeartbeats 4000000 in
set_option maxRecDepth 100000 in
theorem met_X1_canBeAtBoth (l : Launch) (D : va_G) (E : Nat → Nat) {α : Nat → Nat → Nat} {F : Nat → Prop} {σ : St} (k : Nat) (q : Nat) (h_k : k < nW σ) (h_q : q < nW σ) : PM l D E yX1_canBeAtBoth cX1_canBeAtBoth 6 (Option.some Jvm.ClassFile.FieldType.boolean) 4 89 [.ref (α 0 0), .int (nI k), .int (nI q)] (RX D E α F σ) (some (.int (bI (fX1_canBeAtBoth σ k q)))) := by
  generalize hR : fX1_canBeAtBoth σ k q = r
  refine PM.start (by decide) (Nat.le_of_ble_eq_true rfl) ?_
  intro p e s m below meth c ls hx hb hr hml hown hlocks hts hG hX hl
  have hown : s.vm.findClass RX1 = some m.cls := hown
  have hS0 : xS p m c cX1_canBeAtBoth 6 s _ RX1 := ⟨hx, hb, hml, hown, hts⟩
  have hl : lv_has ls 6 [(0, .ref (α 0 0)), (1, .int (nI k)), (2, .int (nI q))] := hl
  unfold fX1_canBeAtBoth at hR
  refine lv_aload_n hx hb dX1_canBeAtBoth_0 rfl (lv_at hl 0 rfl) ?_
  refine gf (v := .ref (α 1 3)) (C := RX1) (T := TX1) (N := 6) (k := 4) hx hb hts hown hG cl_X1 in_X1 hX.ag (by decide) q307 rfl dX1_canBeAtBoth_1 ?_
  refine lv_iload_n hx hb dX1_canBeAtBoth_4 rfl (lv_at hl 1 rfl) ?_
  refine pcF (x := xL_get) (ci := 13) (As := [.int (nI k)]) (rest := []) hG.fw_get hS0 (met_xl_get l D E (j := 3) (by decide) k h_k) q344 q347 q349 q103 q351 hd_xL_get ⟨Nat.le_of_ble_eq_true rfl, Nat.le_of_ble_eq_true rfl⟩ hG cl_J2 (hX.lsR hG (j := 3) (by decide)) hX rfl hl.1 rfl (Nat.le_of_ble_eq_true rfl) dX1_canBeAtBoth_5 ⟨Nat.le_refl _, Nat.le_refl _⟩ ?_
  refine W.eq (g2 := F0 m 10 ls [.ref (α 5 k)]) rfl ?_
  refine gc (ci := 8) hx hb hown hG cl_X10 (rcv hG cl_X10 (hX.wd h_k)) (hts _ q369) dX1_canBeAtBoth_10 ?_
  refine lv_astore_n (lv' := [(3, .ref (α 5 k)), (0, .ref (α 0 0)), (1, .int (nI k)), (2, .int (nI q))]) hx hb dX1_canBeAtBoth_13 rfl hl (Nat.le_of_ble_eq_true rfl) rfl (fun ls hl => ?_)
  refine lv_aload_n hx hb dX1_canBeAtBoth_14 rfl (lv_at hl 1 rfl) ?_
  refine gf (v := .ref (α 1 3)) (C := RX1) (T := TX1) (N := 6) (k := 4) hx hb hts hown hG cl_X1 in_X1 hX.ag (by decide) q307 rfl dX1_canBeAtBoth_15 ?_
  refine lv_iload_n hx hb dX1_canBeAtBoth_18 rfl (lv_at hl 3 rfl) ?_
  refine pcF (x := xL_get) (ci := 13) (As := [.int (nI q)]) (rest := []) hG.fw_get hS0 (met_xl_get l D E (j := 3) (by decide) q h_q) q344 q347 q349 q103 q351 hd_xL_get ⟨Nat.le_of_ble_eq_true rfl, Nat.le_of_ble_eq_true rfl⟩ hG cl_J2 (hX.lsR hG (j := 3) (by decide)) hX rfl hl.1 rfl (Nat.le_of_ble_eq_true rfl) dX1_canBeAtBoth_19 ⟨Nat.le_refl _, Nat.le_refl _⟩ ?_
  refine W.eq (g2 := F0 m 24 ls [.ref (α 5 q)]) rfl ?_
  refine gc (ci := 8) hx hb hown hG cl_X10 (rcv hG cl_X10 (hX.wd h_q)) (hts _ q369) dX1_canBeAtBoth_24 ?_
  refine lv_astore (lv' := [(4, .ref (α 5 q)), (3, .ref (α 5 k)), (0, .ref (α 0 0)), (1, .int (nI k)), (2, .int (nI q))]) hx hb dX1_canBeAtBoth_27 hl (Nat.le_of_ble_eq_true rfl) rfl (fun ls hl => ?_)
  refine lv_aload hx hb dX1_canBeAtBoth_29 (lv_at hl 0 rfl) ?_
  refine gfN (v := .int (wStart σ q)) (C := RX10) (T := TX10) (N := 12) (k := 3) hx hb hts hown hG cl_X10 in_X10 (hX.wd h_q) (by decide) q1016 rfl dX1_canBeAtBoth_31 ?_
  refine lv_aload_n hx hb dX1_canBeAtBoth_34 rfl (lv_at hl 1 rfl) ?_
  refine gfN (v := .int (wStart σ k)) (C := RX10) (T := TX10) (N := 12) (k := 3) hx hb hts hown hG cl_X10 in_X10 (hX.wd h_k) (by decide) q1016 rfl dX1_canBeAtBoth_35 ?_
  refine lv_icmp_lt (tgt := 58) hx hb dX1_canBeAtBoth_38 (by decide) (fun c1 => ?_) (fun c1 => ?_)
  · rw [if_pos c1] at hR
    refine lv_aload_n hx hb dX1_canBeAtBoth_58 rfl (lv_at hl 2 rfl) ?_
    refine lv_iload_n hx hb dX1_canBeAtBoth_59 rfl (lv_at hl 4 rfl) ?_
    refine lv_iload_n hx hb dX1_canBeAtBoth_60 rfl (lv_at hl 3 rfl) ?_
    refine pcV (As := [.int (nI q), .int (nI k)]) (rest := []) hS0 (met_X1_canBeAtBothA l D E q k h_q h_k (by first | exact cb_A1 c1 | exact cb_A2 c0) (by first | exact cb_B1 c1 | exact fun _ => cb_B2 c0 (by have := hX.nW14; omega) (by have := hX.nW14; omega))) q514 q516 qs25 q100 q517 hd_X1_canBeAtBoth ⟨Nat.le_of_ble_eq_true rfl, Nat.le_of_ble_eq_true rfl⟩ hG (rcv hG cl_X1 hX.ag) hX rfl hl.1 rfl (Nat.le_of_ble_eq_true rfl) dX1_canBeAtBoth_61 ⟨Nat.le_refl _, Nat.le_refl _⟩ ?_
    refine W.eq (g2 := F0 m 64 ls [.int (bI ((fX1_canBeAtBothA σ q k)))]) rfl ?_
    exact p_zret (b := (fX1_canBeAtBothA σ q k)) hx hb hr hlocks dX1_canBeAtBoth_64 rfl (by rw [← hR])
  · rw [if_neg c1] at hR
    refine lv_aload hx hb dX1_canBeAtBoth_41 (lv_at hl 0 rfl) ?_
    refine gfN (v := .int (wStart σ q)) (C := RX10) (T := TX10) (N := 12) (k := 3) hx hb hts hown hG cl_X10 in_X10 (hX.wd h_q) (by decide) q1016 rfl dX1_canBeAtBoth_43 ?_
    refine lv_aload_n hx hb dX1_canBeAtBoth_46 rfl (lv_at hl 1 rfl) ?_
    refine gfN (v := .int (wStart σ k)) (C := RX10) (T := TX10) (N := 12) (k := 3) hx hb hts hown hG cl_X10 in_X10 (hX.wd h_k) (by decide) q1016 rfl dX1_canBeAtBoth_47 ?_
    refine lv_icmp_ne (tgt := 65) hx hb dX1_canBeAtBoth_50 (by decide) (fun c2 => ?_) (fun c2 => ?_)
    · rw [if_neg c2] at hR
      refine lv_aload_n hx hb dX1_canBeAtBoth_65 rfl (lv_at hl 2 rfl) ?_
      refine gf (v := .ref (α 7 0)) (C := RX1) (T := TX1) (N := 6) (k := 2) hx hb hts hown hG cl_X1 in_X1 hX.ag (by decide) q303 rfl dX1_canBeAtBoth_66 ?_
      refine lv_aload_n hx hb dX1_canBeAtBoth_69 rfl (lv_at hl 1 rfl) ?_
      refine gfN (v := .int (nI (wTown σ k))) (C := RX10) (T := TX10) (N := 12) (k := 2) hx hb hts hown hG cl_X10 in_X10 (hX.wd h_k) (by decide) q1014 rfl dX1_canBeAtBoth_70 ?_
      refine lv_aload hx hb dX1_canBeAtBoth_73 (lv_at hl 0 rfl) ?_
      refine gfN (v := .int (nI (wTown σ q))) (C := RX10) (T := TX10) (N := 12) (k := 2) hx hb hts hown hG cl_X10 in_X10 (hX.wd h_q) (by decide) q1014 rfl dX1_canBeAtBoth_75 ?_
      refine pcV (As := [.int (nI (wTown σ k)), .int (nI (wTown σ q))]) (rest := []) hS0 (met_X2_drive l D E (wTown σ k) (wTown σ q) (hX.town h_k) (hX.town h_q)) q513 q189 q190 q104 q191 hd_X2_drive ⟨Nat.le_of_ble_eq_true rfl, Nat.le_of_ble_eq_true rfl⟩ hG (rcv hG cl_X2 hX.rd) hX rfl hl.1 rfl (Nat.le_of_ble_eq_true rfl) dX1_canBeAtBoth_78 ⟨Nat.le_refl _, Nat.le_refl _⟩ ?_
      refine W.eq (g2 := F0 m 81 ls [.int ((fX2_drive σ (wTown σ k) (wTown σ q)))]) rfl ?_
      refine lv_istore (lv' := [(5, .int ((fX2_drive σ (wTown σ k) (wTown σ q)))), (4, .ref (α 5 q)), (3, .ref (α 5 k)), (0, .ref (α 0 0)), (1, .int (nI k)), (2, .int (nI q))]) hx hb dX1_canBeAtBoth_81 hl (Nat.le_of_ble_eq_true rfl) rfl (fun ls hl => ?_)
      refine lv_iload hx hb dX1_canBeAtBoth_83 (lv_at hl 0 rfl) ?_
      refine lv_iconst (v := (-1)) hx hb dX1_canBeAtBoth_85 (by decide) ?_
      refine lv_icmp_eq (tgt := 108) hx hb dX1_canBeAtBoth_86 (by decide) (fun c3 => ?_) (fun c3 => ?_)
      · rw [if_pos c3] at hR
        refine lv_iconst (v := 0) hx hb dX1_canBeAtBoth_108 (by decide) ?_
        exact p_zret (b := false) hx hb hr hlocks dX1_canBeAtBoth_109 rfl (by rw [← hR])
      · rw [if_neg c3] at hR
        refine lv_aload_n hx hb dX1_canBeAtBoth_89 rfl (lv_at hl 2 rfl) ?_
        refine pcV (As := []) (rest := []) hS0 (met_X10_end l D E k h_k) q518 q495 q496 q130 q497 hd_X10_end ⟨Nat.le_of_ble_eq_true rfl, Nat.le_of_ble_eq_true rfl⟩ hG (rcv hG cl_X10 (hX.wd h_k)) hX rfl hl.1 rfl (Nat.le_of_ble_eq_true rfl) dX1_canBeAtBoth_90 ⟨Nat.le_refl _, Nat.le_refl _⟩ ?_
        refine W.eq (g2 := F0 m 93 ls [.int ((fX10_end σ k))]) rfl ?_
        refine lv_iload hx hb dX1_canBeAtBoth_93 (lv_at hl 0 rfl) ?_
        refine lv_iadd hx hb dX1_canBeAtBoth_95 ?_
        refine lv_aload hx hb dX1_canBeAtBoth_96 (lv_at hl 1 rfl) ?_
        refine gfN (v := .int (wStart σ q)) (C := RX10) (T := TX10) (N := 12) (k := 3) hx hb hts hown hG cl_X10 in_X10 (hX.wd h_q) (by decide) q1016 rfl dX1_canBeAtBoth_98 ?_
        refine lv_icmp_gt (tgt := 108) hx hb dX1_canBeAtBoth_101 (by decide) (fun c4 => ?_) (fun c4 => ?_)
        · rw [if_pos c4] at hR
          refine lv_iconst (v := 0) hx hb dX1_canBeAtBoth_108 (by decide) ?_
          exact p_zret (b := false) hx hb hr hlocks dX1_canBeAtBoth_109 rfl (by rw [← hR])
        · rw [if_neg c4] at hR
          refine lv_iconst (v := 1) hx hb dX1_canBeAtBoth_104 (by decide) ?_
          refine lv_goto (tgt := 109) hx hb dX1_canBeAtBoth_105 (by decide) ?_
          exact p_zret (b := true) hx hb hr hlocks dX1_canBeAtBoth_109 rfl (by rw [← hR])
    · rw [if_pos c2] at hR
      refine lv_iload_n hx hb dX1_canBeAtBoth_53 rfl (lv_at hl 4 rfl) ?_
      refine lv_iload_n hx hb dX1_canBeAtBoth_54 rfl (lv_at hl 3 rfl) ?_
      refine lv_icmp_ge (tgt := 65) hx hb dX1_canBeAtBoth_55 (by decide) (fun c5 => ?_) (fun c5 => ?_)
      · rw [if_pos c5] at hR
        refine lv_aload_n hx hb dX1_canBeAtBoth_65 rfl (lv_at hl 2 rfl) ?_
        refine gf (v := .ref (α 7 0)) (C := RX1) (T := TX1) (N := 6) (k := 2) hx hb hts hown hG cl_X1 in_X1 hX.ag (by decide) q303 rfl dX1_canBeAtBoth_66 ?_
        refine lv_aload_n hx hb dX1_canBeAtBoth_69 rfl (lv_at hl 1 rfl) ?_
        refine gfN (v := .int (nI (wTown σ k))) (C := RX10) (T := TX10) (N := 12) (k := 2) hx hb hts hown hG cl_X10 in_X10 (hX.wd h_k) (by decide) q1014 rfl dX1_canBeAtBoth_70 ?_
        refine lv_aload hx hb dX1_canBeAtBoth_73 (lv_at hl 0 rfl) ?_
        refine gfN (v := .int (nI (wTown σ q))) (C := RX10) (T := TX10) (N := 12) (k := 2) hx hb hts hown hG cl_X10 in_X10 (hX.wd h_q) (by decide) q1014 rfl dX1_canBeAtBoth_75 ?_
        refine pcV (As := [.int (nI (wTown σ k)), .int (nI (wTown σ q))]) (rest := []) hS0 (met_X2_drive l D E (wTown σ k) (wTown σ q) (hX.town h_k) (hX.town h_q)) q513 q189 q190 q104 q191 hd_X2_drive ⟨Nat.le_of_ble_eq_true rfl, Nat.le_of_ble_eq_true rfl⟩ hG (rcv hG cl_X2 hX.rd) hX rfl hl.1 rfl (Nat.le_of_ble_eq_true rfl) dX1_canBeAtBoth_78 ⟨Nat.le_refl _, Nat.le_refl _⟩ ?_
        refine W.eq (g2 := F0 m 81 ls [.int ((fX2_drive σ (wTown σ k) (wTown σ q)))]) rfl ?_
        refine lv_istore (lv' := [(5, .int ((fX2_drive σ (wTown σ k) (wTown σ q)))), (4, .ref (α 5 q)), (3, .ref (α 5 k)), (0, .ref (α 0 0)), (1, .int (nI k)), (2, .int (nI q))]) hx hb dX1_canBeAtBoth_81 hl (Nat.le_of_ble_eq_true rfl) rfl (fun ls hl => ?_)
        refine lv_iload hx hb dX1_canBeAtBoth_83 (lv_at hl 0 rfl) ?_
        refine lv_iconst (v := (-1)) hx hb dX1_canBeAtBoth_85 (by decide) ?_
        refine lv_icmp_eq (tgt := 108) hx hb dX1_canBeAtBoth_86 (by decide) (fun c6 => ?_) (fun c6 => ?_)
        · rw [if_pos c6] at hR
          refine lv_iconst (v := 0) hx hb dX1_canBeAtBoth_108 (by decide) ?_
          exact p_zret (b := false) hx hb hr hlocks dX1_canBeAtBoth_109 rfl (by rw [← hR])
        · rw [if_neg c6] at hR
          refine lv_aload_n hx hb dX1_canBeAtBoth_89 rfl (lv_at hl 2 rfl) ?_
          refine pcV (As := []) (rest := []) hS0 (met_X10_end l D E k h_k) q518 q495 q496 q130 q497 hd_X10_end ⟨Nat.le_of_ble_eq_true rfl, Nat.le_of_ble_eq_true rfl⟩ hG (rcv hG cl_X10 (hX.wd h_k)) hX rfl hl.1 rfl (Nat.le_of_ble_eq_true rfl) dX1_canBeAtBoth_90 ⟨Nat.le_refl _, Nat.le_refl _⟩ ?_
          refine W.eq (g2 := F0 m 93 ls [.int ((fX10_end σ k))]) rfl ?_
          refine lv_iload hx hb dX1_canBeAtBoth_93 (lv_at hl 0 rfl) ?_
          refine lv_iadd hx hb dX1_canBeAtBoth_95 ?_
          refine lv_aload hx hb dX1_canBeAtBoth_96 (lv_at hl 1 rfl) ?_
          refine gfN (v := .int (wStart σ q)) (C := RX10) (T := TX10) (N := 12) (k := 3) hx hb hts hown hG cl_X10 in_X10 (hX.wd h_q) (by decide) q1016 rfl dX1_canBeAtBoth_98 ?_
          refine lv_icmp_gt (tgt := 108) hx hb dX1_canBeAtBoth_101 (by decide) (fun c7 => ?_) (fun c7 => ?_)
          · rw [if_pos c7] at hR
            refine lv_iconst (v := 0) hx hb dX1_canBeAtBoth_108 (by decide) ?_
            exact p_zret (b := false) hx hb hr hlocks dX1_canBeAtBoth_109 rfl (by rw [← hR])
          · rw [if_neg c7] at hR
            refine lv_iconst (v := 1) hx hb dX1_canBeAtBoth_104 (by decide) ?_
            refine lv_goto (tgt := 109) hx hb dX1_canBeAtBoth_105 (by decide) ?_
            exact p_zret (b := true) hx hb hr hlocks dX1_canBeAtBoth_109 rfl (by rw [← hR])
      · rw [if_neg c5] at hR
        refine lv_aload_n hx hb dX1_canBeAtBoth_58 rfl (lv_at hl 2 rfl) ?_
        refine lv_iload_n hx hb dX1_canBeAtBoth_59 rfl (lv_at hl 4 rfl) ?_
        refine lv_iload_n hx hb dX1_canBeAtBoth_60 rfl (lv_at hl 3 rfl) ?_
        refine pcV (As := [.int (nI q), .int (nI k)]) (rest := []) hS0 (met_X1_canBeAtBothA l D E q k h_q h_k (by first | exact cb_A1 c1 | exact cb_A2 c2) (by first | exact cb_B1 c1 | exact fun _ => cb_B2 c5 (by have := hX.nW14; omega) (by have := hX.nW14; omega))) q514 q516 qs25 q100 q517 hd_X1_canBeAtBoth ⟨Nat.le_of_ble_eq_true rfl, Nat.le_of_ble_eq_true rfl⟩ hG (rcv hG cl_X1 hX.ag) hX rfl hl.1 rfl (Nat.le_of_ble_eq_true rfl) dX1_canBeAtBoth_61 ⟨Nat.le_refl _, Nat.le_refl _⟩ ?_
        refine W.eq (g2 := F0 m 64 ls [.int (bI ((fX1_canBeAtBothA σ q k)))]) rfl ?_
        exact p_zret (b := (fX1_canBeAtBothA σ q k)) hx hb hr hlocks dX1_canBeAtBoth_64 rfl (by rw [← hR])

def fX1_isFree_L67 (σ : St) (pi : Nat) (wi : Nat)  (κ : Bool) : Nat → Nat → Bool
  | 0, i5 => κ
  | n + 1, i5 => (if (nI i5) = (nI wi) then fX1_isFree_L67 σ pi wi κ n (i5 + 1) else (if ((fX10_is σ i5 1)) = true then (if (nI (wDay σ i5)) = (nI (wDay σ wi)) then (if ((fX1_has (wSet σ i5) (nI pi))) = true then (if ((fX1_canBeAtBoth σ i5 wi)) = true then fX1_isFree_L67 σ pi wi κ n (i5 + 1) else false) else fX1_isFree_L67 σ pi wi κ n (i5 + 1)) else fX1_isFree_L67 σ pi wi κ n (i5 + 1)) else fX1_isFree_L67 σ pi wi κ n (i5 + 1)))
def fX1_isFree (σ : St) (pi : Nat) (wi : Nat) : Bool :=
  (if (pOff σ pi (wDay σ wi)) = 0 then (if ((fX2_drive σ (pHome σ pi) (wTown σ wi))) = ((-1)) then false else fX1_isFree_L67 σ pi wi (true) (nW σ) 0) else false)
set_option maxHeartbeats 4000000 in
set_option maxRecDepth 100000 in
theorem met_X1_isFree (l : Launch) (D : va_G) (E : Nat → Nat) {α : Nat → Nat → Nat} {F : Nat → Prop} {σ : St} (pi : Nat) (wi : Nat) (h_pi : pi < nP σ) (h_wi : wi < nW σ) : PM l D E yX1_isFree cX1_isFree 8 (Option.some Jvm.ClassFile.FieldType.boolean) 5 114 [.ref (α 0 0), .int (nI pi), .int (nI wi)] (RX D E α F σ) (some (.int (bI (fX1_isFree σ pi wi)))) := by
  generalize hR : fX1_isFree σ pi wi = r
  refine PM.start (by decide) (Nat.le_of_ble_eq_true rfl) ?_
  intro p e s m below meth c ls hx hb hr hml hown hlocks hts hG hX hl
  have hown : s.vm.findClass RX1 = some m.cls := hown
  have hS0 : xS p m c cX1_isFree 8 s _ RX1 := ⟨hx, hb, hml, hown, hts⟩
  have hl : lv_has ls 8 [(0, .ref (α 0 0)), (1, .int (nI pi)), (2, .int (nI wi))] := hl
  have hL67 : ∀ (κ : Bool) (hκ : ∀ (ls : Array Slot), κ = r → lv_has ls 8 [] → W p l e { frames := 5, cells := 0, slots := 0, locals := 114 } s m [(.ref (α 0 0) : Value), .int (nI pi), .int (nI wi)].toArray below meth c s.heap [] 0 0 (MQ below (qP (some (.int (bI r)))) [(.ref (α 0 0) : Value), .int (nI pi), .int (nI wi)].toArray s 0 0 (fun _ => False)) (F0 m 168 ls [])) (n : Nat) (i5 : Nat), i5 + n = nW σ → fX1_isFree_L67 σ pi wi κ n i5 = r → ∀ (ls : Array Slot), lv_has ls 8 [(0, .ref (α 0 0)), (1, .int (nI pi)), (2, .int (nI wi)), (3, .ref (α 5 wi)), (5, .int (nI i5))] → W p l e { frames := 5, cells := 0, slots := 0, locals := 114 } s m [(.ref (α 0 0) : Value), .int (nI pi), .int (nI wi)].toArray below meth c s.heap [] 0 0 (MQ below (qP (some (.int (bI r)))) [(.ref (α 0 0) : Value), .int (nI pi), .int (nI wi)].toArray s 0 0 (fun _ => False)) (F0 m 67 ls []) := by
    intro  κ hκ n
    induction n with
    | zero =>
      intro i5 hn hR ls hl
      rw [fX1_isFree_L67] at hR
      refine lv_iload hx hb dX1_isFree_67 (lv_at hl 4 rfl) ?_
      refine lv_aload_n hx hb dX1_isFree_69 rfl (lv_at hl 0 rfl) ?_
      refine gf (v := .ref (α 1 3)) (C := RX1) (T := TX1) (N := 6) (k := 4) hx hb hts hown hG cl_X1 in_X1 hX.ag (by decide) q307 rfl dX1_isFree_70 ?_
      refine pcF (x := xL_size) (ci := 13) (As := []) (rest := [.int (nI i5)]) hG.fw_size hS0 (met_xl_size l D E (j := 3) (by decide)) q331 q334 q336 q103 q338 hd_xL_size ⟨Nat.le_of_ble_eq_true rfl, Nat.le_of_ble_eq_true rfl⟩ hG cl_J2 (hX.lsR hG (j := 3) (by decide)) hX rfl hl.1 rfl (Nat.le_of_ble_eq_true rfl) dX1_isFree_73 ⟨Nat.le_refl _, Nat.le_refl _⟩ ?_
      refine W.eq (g2 := F0 m 78 ls [.int (nI (nW σ)), .int (nI i5)]) rfl ?_
      refine lk_ge_out (k := i5) (N := nW σ) hx hb hn (tgt := 168) dX1_isFree_78 (by decide) ?_
      exact hκ  ls hR (lv_sub hl [] rfl)
    | succ n ih =>
      intro i5 hn hR ls hl
      rw [fX1_isFree_L67] at hR
      refine lv_iload hx hb dX1_isFree_67 (lv_at hl 4 rfl) ?_
      refine lv_aload_n hx hb dX1_isFree_69 rfl (lv_at hl 0 rfl) ?_
      refine gf (v := .ref (α 1 3)) (C := RX1) (T := TX1) (N := 6) (k := 4) hx hb hts hown hG cl_X1 in_X1 hX.ag (by decide) q307 rfl dX1_isFree_70 ?_
      refine pcF (x := xL_size) (ci := 13) (As := []) (rest := [.int (nI i5)]) hG.fw_size hS0 (met_xl_size l D E (j := 3) (by decide)) q331 q334 q336 q103 q338 hd_xL_size ⟨Nat.le_of_ble_eq_true rfl, Nat.le_of_ble_eq_true rfl⟩ hG cl_J2 (hX.lsR hG (j := 3) (by decide)) hX rfl hl.1 rfl (Nat.le_of_ble_eq_true rfl) dX1_isFree_73 ⟨Nat.le_refl _, Nat.le_refl _⟩ ?_
      refine W.eq (g2 := F0 m 78 ls [.int (nI (nW σ)), .int (nI i5)]) rfl ?_
      have hki5 : i5 < nW σ := lk_lt hn
      refine lk_ge_in (k := i5) (N := nW σ) hx hb hki5 (by have := hX.nW14; omega) (tgt := 168) dX1_isFree_78 (by decide) ?_
      refine lv_aload_n hx hb dX1_isFree_81 rfl (lv_at hl 0 rfl) ?_
      refine gf (v := .ref (α 1 3)) (C := RX1) (T := TX1) (N := 6) (k := 4) hx hb hts hown hG cl_X1 in_X1 hX.ag (by decide) q307 rfl dX1_isFree_82 ?_
      refine lv_iload hx hb dX1_isFree_85 (lv_at hl 4 rfl) ?_
      refine pcF (x := xL_get) (ci := 13) (As := [.int (nI i5)]) (rest := []) hG.fw_get hS0 (met_xl_get l D E (j := 3) (by decide) i5 hki5) q344 q347 q349 q103 q351 hd_xL_get ⟨Nat.le_of_ble_eq_true rfl, Nat.le_of_ble_eq_true rfl⟩ hG cl_J2 (hX.lsR hG (j := 3) (by decide)) hX rfl hl.1 rfl (Nat.le_of_ble_eq_true rfl) dX1_isFree_87 ⟨Nat.le_refl _, Nat.le_refl _⟩ ?_
      refine W.eq (g2 := F0 m 92 ls [.ref (α 5 i5)]) rfl ?_
      refine gc (ci := 8) hx hb hown hG cl_X10 (rcv hG cl_X10 (hX.wd hki5)) (hts _ q369) dX1_isFree_92 ?_
      refine lv_astore (lv' := [(6, .ref (α 5 i5)), (0, .ref (α 0 0)), (1, .int (nI pi)), (2, .int (nI wi)), (3, .ref (α 5 wi)), (5, .int (nI i5))]) hx hb dX1_isFree_95 hl (Nat.le_of_ble_eq_true rfl) rfl (fun ls hl => ?_)
      refine lv_iload hx hb dX1_isFree_97 (lv_at hl 5 rfl) ?_
      refine lv_iload_n hx hb dX1_isFree_99 rfl (lv_at hl 3 rfl) ?_
      refine lv_icmp_eq (tgt := 142) hx hb dX1_isFree_100 (by decide) (fun c3 => ?_) (fun c3 => ?_)
      · rw [if_pos c3] at hR
        refine lv_iconst (v := 0) hx hb dX1_isFree_142 (by decide) ?_
        refine lv_istore (lv' := [(7, .int 0), (6, .ref (α 5 i5)), (0, .ref (α 0 0)), (1, .int (nI pi)), (2, .int (nI wi)), (3, .ref (α 5 wi)), (5, .int (nI i5))]) hx hb dX1_isFree_143 hl (Nat.le_of_ble_eq_true rfl) rfl (fun ls hl => ?_)
        refine lv_iload hx hb dX1_isFree_145 (lv_at hl 0 rfl) ?_
        refine lv_if_eq (tgt := 162) hx hb dX1_isFree_147 (by decide) (fun _ => ?_) (fun c9 => absurd (by decide) c9)
        refine lv_iinc (v := nI (i5 + 1)) (lv' := [(5, .int (nI (i5 + 1))), (7, .int 0), (6, .ref (α 5 i5)), (0, .ref (α 0 0)), (1, .int (nI pi)), (2, .int (nI wi)), (3, .ref (α 5 wi))]) hx hb dX1_isFree_162 hl (k := 6) rfl (nI_1 i5) (Nat.le_of_ble_eq_true rfl) rfl (fun ls hl => ?_)
        refine lv_goto (tgt := 67) hx hb dX1_isFree_165 (by decide) ?_
        exact ih (i5 + 1) (lk_st hn) hR ls (lv_sub hl [3, 4, 5, 6, 0] rfl)
      · rw [if_neg c3] at hR
        refine lv_aload hx hb dX1_isFree_103 (lv_at hl 0 rfl) ?_
        refine gs hx hb (hG.en (i := 1) (by decide)) hown (hts _ q363) (fun _ h => h) dX1_isFree_105 ?_
        refine pcV (As := [.ref (E (10 + 1))]) (rest := []) hS0 (met_X10_is l D E i5 1 hki5 (by decide)) q370 q371 q372 q130 q373 hd_X10_is ⟨Nat.le_of_ble_eq_true rfl, Nat.le_of_ble_eq_true rfl⟩ hG (rcv hG cl_X10 (hX.wd hki5)) hX rfl hl.1 rfl (Nat.le_of_ble_eq_true rfl) dX1_isFree_108 ⟨Nat.le_refl _, Nat.le_refl _⟩ ?_
        refine W.eq (g2 := F0 m 111 ls [.int (bI ((fX10_is σ i5 1)))]) rfl ?_
        refine lb_if_eq (tgt := 142) hx hb dX1_isFree_111 (by decide) (fun c4 => ?_) (fun c4 => ?_)
        · rw [if_neg c4] at hR
          refine lv_iconst (v := 0) hx hb dX1_isFree_142 (by decide) ?_
          refine lv_istore (lv' := [(7, .int 0), (6, .ref (α 5 i5)), (0, .ref (α 0 0)), (1, .int (nI pi)), (2, .int (nI wi)), (3, .ref (α 5 wi)), (5, .int (nI i5))]) hx hb dX1_isFree_143 hl (Nat.le_of_ble_eq_true rfl) rfl (fun ls hl => ?_)
          refine lv_iload hx hb dX1_isFree_145 (lv_at hl 0 rfl) ?_
          refine lv_if_eq (tgt := 162) hx hb dX1_isFree_147 (by decide) (fun _ => ?_) (fun c9 => absurd (by decide) c9)
          refine lv_iinc (v := nI (i5 + 1)) (lv' := [(5, .int (nI (i5 + 1))), (7, .int 0), (6, .ref (α 5 i5)), (0, .ref (α 0 0)), (1, .int (nI pi)), (2, .int (nI wi)), (3, .ref (α 5 wi))]) hx hb dX1_isFree_162 hl (k := 6) rfl (nI_1 i5) (Nat.le_of_ble_eq_true rfl) rfl (fun ls hl => ?_)
          refine lv_goto (tgt := 67) hx hb dX1_isFree_165 (by decide) ?_
          exact ih (i5 + 1) (lk_st hn) hR ls (lv_sub hl [3, 4, 5, 6, 0] rfl)
        · rw [if_pos c4] at hR
          refine lv_aload hx hb dX1_isFree_114 (lv_at hl 0 rfl) ?_
          refine gfN (v := .int (nI (wDay σ i5))) (C := RX10) (T := TX10) (N := 12) (k := 1) hx hb hts hown hG cl_X10 in_X10 (hX.wd hki5) (by decide) q1012 rfl dX1_isFree_116 ?_
          refine lv_aload_n hx hb dX1_isFree_119 rfl (lv_at hl 4 rfl) ?_
          refine gfN (v := .int (nI (wDay σ wi))) (C := RX10) (T := TX10) (N := 12) (k := 1) hx hb hts hown hG cl_X10 in_X10 (hX.wd h_wi) (by decide) q1012 rfl dX1_isFree_120 ?_
          refine lv_icmp_ne (tgt := 142) hx hb dX1_isFree_123 (by decide) (fun c5 => ?_) (fun c5 => ?_)
          · rw [if_neg c5] at hR
            refine lv_iconst (v := 0) hx hb dX1_isFree_142 (by decide) ?_
            refine lv_istore (lv' := [(7, .int 0), (6, .ref (α 5 i5)), (0, .ref (α 0 0)), (1, .int (nI pi)), (2, .int (nI wi)), (3, .ref (α 5 wi)), (5, .int (nI i5))]) hx hb dX1_isFree_143 hl (Nat.le_of_ble_eq_true rfl) rfl (fun ls hl => ?_)
            refine lv_iload hx hb dX1_isFree_145 (lv_at hl 0 rfl) ?_
            refine lv_if_eq (tgt := 162) hx hb dX1_isFree_147 (by decide) (fun _ => ?_) (fun c9 => absurd (by decide) c9)
            refine lv_iinc (v := nI (i5 + 1)) (lv' := [(5, .int (nI (i5 + 1))), (7, .int 0), (6, .ref (α 5 i5)), (0, .ref (α 0 0)), (1, .int (nI pi)), (2, .int (nI wi)), (3, .ref (α 5 wi))]) hx hb dX1_isFree_162 hl (k := 6) rfl (nI_1 i5) (Nat.le_of_ble_eq_true rfl) rfl (fun ls hl => ?_)
            refine lv_goto (tgt := 67) hx hb dX1_isFree_165 (by decide) ?_
            exact ih (i5 + 1) (lk_st hn) hR ls (lv_sub hl [3, 4, 5, 6, 0] rfl)
          · rw [if_pos c5] at hR
            refine lv_aload hx hb dX1_isFree_126 (lv_at hl 0 rfl) ?_
            refine gfN (v := .int (wSet σ i5)) (C := RX10) (T := TX10) (N := 12) (k := 8) hx hb hts hown hG cl_X10 in_X10 (hX.wd hki5) (by decide) q1027 rfl dX1_isFree_128 ?_
            refine lv_iload_n hx hb dX1_isFree_131 rfl (lv_at hl 2 rfl) ?_
            refine pcS (As := [.int (wSet σ i5), .int (nI pi)]) (rest := []) hS0 (met_X1_has l D E (wSet σ i5) (nI pi)) q374 q375 q100 q376 hd_X1_has ⟨Nat.le_of_ble_eq_true rfl, Nat.le_of_ble_eq_true rfl⟩ hG trivial rfl hl.1 rfl (Nat.le_of_ble_eq_true rfl) dX1_isFree_132 ⟨Nat.le_refl _, Nat.le_refl _⟩ ?_
            refine W.eq (g2 := F0 m 135 ls [.int (bI ((fX1_has (wSet σ i5) (nI pi))))]) rfl ?_
            refine lb_if_eq (tgt := 142) hx hb dX1_isFree_135 (by decide) (fun c6 => ?_) (fun c6 => ?_)
            · rw [if_neg c6] at hR
              refine lv_iconst (v := 0) hx hb dX1_isFree_142 (by decide) ?_
              refine lv_istore (lv' := [(7, .int 0), (6, .ref (α 5 i5)), (0, .ref (α 0 0)), (1, .int (nI pi)), (2, .int (nI wi)), (3, .ref (α 5 wi)), (5, .int (nI i5))]) hx hb dX1_isFree_143 hl (Nat.le_of_ble_eq_true rfl) rfl (fun ls hl => ?_)
              refine lv_iload hx hb dX1_isFree_145 (lv_at hl 0 rfl) ?_
              refine lv_if_eq (tgt := 162) hx hb dX1_isFree_147 (by decide) (fun _ => ?_) (fun c9 => absurd (by decide) c9)
              refine lv_iinc (v := nI (i5 + 1)) (lv' := [(5, .int (nI (i5 + 1))), (7, .int 0), (6, .ref (α 5 i5)), (0, .ref (α 0 0)), (1, .int (nI pi)), (2, .int (nI wi)), (3, .ref (α 5 wi))]) hx hb dX1_isFree_162 hl (k := 6) rfl (nI_1 i5) (Nat.le_of_ble_eq_true rfl) rfl (fun ls hl => ?_)
              refine lv_goto (tgt := 67) hx hb dX1_isFree_165 (by decide) ?_
              exact ih (i5 + 1) (lk_st hn) hR ls (lv_sub hl [3, 4, 5, 6, 0] rfl)
            · rw [if_pos c6] at hR
              refine lv_iconst (v := 1) hx hb dX1_isFree_138 (by decide) ?_
              refine lv_goto (tgt := 143) hx hb dX1_isFree_139 (by decide) ?_
              refine lv_istore (lv' := [(7, .int 1), (6, .ref (α 5 i5)), (0, .ref (α 0 0)), (1, .int (nI pi)), (2, .int (nI wi)), (3, .ref (α 5 wi)), (5, .int (nI i5))]) hx hb dX1_isFree_143 hl (Nat.le_of_ble_eq_true rfl) rfl (fun ls hl => ?_)
              refine lv_iload hx hb dX1_isFree_145 (lv_at hl 0 rfl) ?_
              refine lv_if_eq (tgt := 162) hx hb dX1_isFree_147 (by decide) (fun c9 => absurd c9 (by decide)) (fun _ => ?_)
              refine lv_aload_n hx hb dX1_isFree_150 rfl (lv_at hl 2 rfl) ?_
              refine lv_iload hx hb dX1_isFree_151 (lv_at hl 6 rfl) ?_
              refine lv_iload_n hx hb dX1_isFree_153 rfl (lv_at hl 4 rfl) ?_
              refine pcV (As := [.int (nI i5), .int (nI wi)]) (rest := []) hS0 (met_X1_canBeAtBoth l D E i5 wi hki5 h_wi) q514 q516 qs25 q100 q517 hd_X1_canBeAtBoth ⟨Nat.le_of_ble_eq_true rfl, Nat.le_of_ble_eq_true rfl⟩ hG (rcv hG cl_X1 hX.ag) hX rfl hl.1 rfl (Nat.le_of_ble_eq_true rfl) dX1_isFree_154 ⟨Nat.le_refl _, Nat.le_refl _⟩ ?_
              refine W.eq (g2 := F0 m 157 ls [.int (bI ((fX1_canBeAtBoth σ i5 wi)))]) rfl ?_
              refine lb_if_ne (tgt := 162) hx hb dX1_isFree_157 (by decide) (fun c7 => ?_) (fun c7 => ?_)
              · rw [if_pos c7] at hR
                refine lv_iinc (v := nI (i5 + 1)) (lv' := [(5, .int (nI (i5 + 1))), (7, .int 1), (6, .ref (α 5 i5)), (0, .ref (α 0 0)), (1, .int (nI pi)), (2, .int (nI wi)), (3, .ref (α 5 wi))]) hx hb dX1_isFree_162 hl (k := 6) rfl (nI_1 i5) (Nat.le_of_ble_eq_true rfl) rfl (fun ls hl => ?_)
                refine lv_goto (tgt := 67) hx hb dX1_isFree_165 (by decide) ?_
                exact ih (i5 + 1) (lk_st hn) hR ls (lv_sub hl [3, 4, 5, 6, 0] rfl)
              · rw [if_neg c7] at hR
                refine lv_iconst (v := 0) hx hb dX1_isFree_160 (by decide) ?_
                exact p_zret (b := false) hx hb hr hlocks dX1_isFree_161 rfl (by rw [← hR])
  unfold fX1_isFree at hR
  refine lv_aload_n hx hb dX1_isFree_0 rfl (lv_at hl 0 rfl) ?_
  refine gf (v := .ref (α 1 3)) (C := RX1) (T := TX1) (N := 6) (k := 4) hx hb hts hown hG cl_X1 in_X1 hX.ag (by decide) q307 rfl dX1_isFree_1 ?_
  refine lv_iload_n hx hb dX1_isFree_4 rfl (lv_at hl 2 rfl) ?_
  refine pcF (x := xL_get) (ci := 13) (As := [.int (nI wi)]) (rest := []) hG.fw_get hS0 (met_xl_get l D E (j := 3) (by decide) wi h_wi) q344 q347 q349 q103 q351 hd_xL_get ⟨Nat.le_of_ble_eq_true rfl, Nat.le_of_ble_eq_true rfl⟩ hG cl_J2 (hX.lsR hG (j := 3) (by decide)) hX rfl hl.1 rfl (Nat.le_of_ble_eq_true rfl) dX1_isFree_5 ⟨Nat.le_refl _, Nat.le_refl _⟩ ?_
  refine W.eq (g2 := F0 m 10 ls [.ref (α 5 wi)]) rfl ?_
  refine gc (ci := 8) hx hb hown hG cl_X10 (rcv hG cl_X10 (hX.wd h_wi)) (hts _ q369) dX1_isFree_10 ?_
  refine lv_astore_n (lv' := [(3, .ref (α 5 wi)), (0, .ref (α 0 0)), (1, .int (nI pi)), (2, .int (nI wi))]) hx hb dX1_isFree_13 rfl hl (Nat.le_of_ble_eq_true rfl) rfl (fun ls hl => ?_)
  refine lv_aload_n hx hb dX1_isFree_14 rfl (lv_at hl 1 rfl) ?_
  refine gf (v := .ref (α 1 0)) (C := RX1) (T := TX1) (N := 6) (k := 0) hx hb hts hown hG cl_X1 in_X1 hX.ag (by decide) q301 rfl dX1_isFree_15 ?_
  refine lv_iload_n hx hb dX1_isFree_18 rfl (lv_at hl 2 rfl) ?_
  refine pcF (x := xL_get) (ci := 13) (As := [.int (nI pi)]) (rest := []) hG.fw_get hS0 (met_xl_get l D E (j := 0) (by decide) pi h_pi) q344 q347 q349 q103 q351 hd_xL_get ⟨Nat.le_of_ble_eq_true rfl, Nat.le_of_ble_eq_true rfl⟩ hG cl_J2 (hX.lsR hG (j := 0) (by decide)) hX rfl hl.1 rfl (Nat.le_of_ble_eq_true rfl) dX1_isFree_19 ⟨Nat.le_refl _, Nat.le_refl _⟩ ?_
  refine W.eq (g2 := F0 m 24 ls [.ref (α 3 pi)]) rfl ?_
  refine gc (ci := 5) hx hb hown hG cl_X6 (rcv hG cl_X6 (hX.pl h_pi)) (hts _ q362) dX1_isFree_24 ?_
  refine lv_astore (lv' := [(4, .ref (α 3 pi)), (3, .ref (α 5 wi)), (0, .ref (α 0 0)), (1, .int (nI pi)), (2, .int (nI wi))]) hx hb dX1_isFree_27 hl (Nat.le_of_ble_eq_true rfl) rfl (fun ls hl => ?_)
  refine lv_aload hx hb dX1_isFree_29 (lv_at hl 0 rfl) ?_
  refine gfN (v := .ref (α 4 pi)) (C := RX6) (T := TX6) (N := 7) (k := 6) hx hb hts hown hG cl_X6 in_X6 (hX.pl h_pi) (by decide) q920 rfl dX1_isFree_31 ?_
  refine lv_aload_n hx hb dX1_isFree_34 rfl (lv_at hl 1 rfl) ?_
  refine gfN (v := .int (nI (wDay σ wi))) (C := RX10) (T := TX10) (N := 12) (k := 1) hx hb hts hown hG cl_X10 in_X10 (hX.wd h_wi) (by decide) q1012 rfl dX1_isFree_35 ?_
  refine gaZ (N := 366) (k := wDay σ wi) hx hb hG (hX.off h_pi) (hX.day h_wi) (by decide) dX1_isFree_38 ?_
  refine lv_if_ne (tgt := 62) hx hb dX1_isFree_39 (by decide) (fun c1 => ?_) (fun c1 => ?_)
  · rw [if_neg c1] at hR
    refine lv_iconst (v := 0) hx hb dX1_isFree_62 (by decide) ?_
    exact p_zret (b := false) hx hb hr hlocks dX1_isFree_63 rfl (by rw [← hR])
  · rw [if_pos c1] at hR
    refine lv_aload_n hx hb dX1_isFree_42 rfl (lv_at hl 2 rfl) ?_
    refine gf (v := .ref (α 7 0)) (C := RX1) (T := TX1) (N := 6) (k := 2) hx hb hts hown hG cl_X1 in_X1 hX.ag (by decide) q303 rfl dX1_isFree_43 ?_
    refine lv_aload hx hb dX1_isFree_46 (lv_at hl 0 rfl) ?_
    refine gfN (v := .int (nI (pHome σ pi))) (C := RX6) (T := TX6) (N := 7) (k := 1) hx hb hts hown hG cl_X6 in_X6 (hX.pl h_pi) (by decide) q912 rfl dX1_isFree_48 ?_
    refine lv_aload_n hx hb dX1_isFree_51 rfl (lv_at hl 1 rfl) ?_
    refine gfN (v := .int (nI (wTown σ wi))) (C := RX10) (T := TX10) (N := 12) (k := 2) hx hb hts hown hG cl_X10 in_X10 (hX.wd h_wi) (by decide) q1014 rfl dX1_isFree_52 ?_
    refine pcV (As := [.int (nI (pHome σ pi)), .int (nI (wTown σ wi))]) (rest := []) hS0 (met_X2_drive l D E (pHome σ pi) (wTown σ wi) (hX.home h_pi) (hX.town h_wi)) q513 q189 q190 q104 q191 hd_X2_drive ⟨Nat.le_of_ble_eq_true rfl, Nat.le_of_ble_eq_true rfl⟩ hG (rcv hG cl_X2 hX.rd) hX rfl hl.1 rfl (Nat.le_of_ble_eq_true rfl) dX1_isFree_55 ⟨Nat.le_refl _, Nat.le_refl _⟩ ?_
    refine W.eq (g2 := F0 m 58 ls [.int ((fX2_drive σ (pHome σ pi) (wTown σ wi)))]) rfl ?_
    refine lv_iconst (v := (-1)) hx hb dX1_isFree_58 (by decide) ?_
    refine lv_icmp_ne (tgt := 64) hx hb dX1_isFree_59 (by decide) (fun c2 => ?_) (fun c2 => ?_)
    · rw [if_neg c2] at hR
      refine lv_iconst (v := 0) hx hb dX1_isFree_64 (by decide) ?_
      refine lv_istore (lv' := [(5, .int 0), (4, .ref (α 3 pi)), (3, .ref (α 5 wi)), (0, .ref (α 0 0)), (1, .int (nI pi)), (2, .int (nI wi))]) hx hb dX1_isFree_65 hl (Nat.le_of_ble_eq_true rfl) rfl (fun ls hl => ?_)
      refine hL67  _ (fun  ls hR hl => ?_) (nW σ) 0 (Nat.zero_add _) hR ls (lv_sub hl [3, 4, 5, 2, 0] rfl)
      refine lv_iconst (v := 1) hx hb dX1_isFree_168 (by decide) ?_
      exact p_zret (b := true) hx hb hr hlocks dX1_isFree_169 rfl (by rw [← hR])
    · rw [if_pos c2] at hR
      refine lv_iconst (v := 0) hx hb dX1_isFree_62 (by decide) ?_
      exact p_zret (b := false) hx hb hr hlocks dX1_isFree_63 rfl (by rw [← hR])

def fX1_freeFor_L4 (σ : St) (wi : Nat)  (κ : Int32 → Int32) : Nat → Nat → Int32 → Int32
  | 0, i3, a2 => κ a2
  | n + 1, i3, a2 => (if ((fX1_isFree σ i3 wi)) = true then fX1_freeFor_L4 σ wi κ n (i3 + 1) (a2 ||| (1 <<< ((nI i3) &&& 31))) else fX1_freeFor_L4 σ wi κ n (i3 + 1) (a2 ||| 0))
def fX1_freeFor (σ : St) (wi : Nat) : Int32 :=
  fX1_freeFor_L4 σ wi (fun (a2 : Int32) => a2) (nP σ) 0 0
set_option maxHeartbeats 4000000 in
set_option maxRecDepth 100000 in
theorem met_X1_freeFor (l : Launch) (D : va_G) (E : Nat → Nat) {α : Nat → Nat → Nat} {F : Nat → Prop} {σ : St} (wi : Nat) (h_wi : wi < nW σ) : PM l D E yX1_freeFor cX1_freeFor 4 (Option.some Jvm.ClassFile.FieldType.int) 6 141 [.ref (α 0 0), .int (nI wi)] (RX D E α F σ) (some (.int (fX1_freeFor σ wi))) := by
  generalize hR : fX1_freeFor σ wi = r
  refine PM.start (by decide) (Nat.le_of_ble_eq_true rfl) ?_
  intro p e s m below meth c ls hx hb hr hml hown hlocks hts hG hX hl
  have hown : s.vm.findClass RX1 = some m.cls := hown
  have hS0 : xS p m c cX1_freeFor 4 s _ RX1 := ⟨hx, hb, hml, hown, hts⟩
  have hl : lv_has ls 4 [(0, .ref (α 0 0)), (1, .int (nI wi))] := hl
  have hL4 : ∀ (κ : Int32 → Int32) (hκ : ∀ (a2 : Int32) (ls : Array Slot), κ a2 = r → lv_has ls 4 [(2, .int (a2))] → W p l e { frames := 6, cells := 0, slots := 0, locals := 141 } s m [(.ref (α 0 0) : Value), .int (nI wi)].toArray below meth c s.heap [] 0 0 (MQ below (qP (some (.int r))) [(.ref (α 0 0) : Value), .int (nI wi)].toArray s 0 0 (fun _ => False)) (F0 m 42 ls [])) (n : Nat) (i3 : Nat) (a2 : Int32), i3 + n = nP σ → fX1_freeFor_L4 σ wi κ n i3 a2 = r → ∀ (ls : Array Slot), lv_has ls 4 [(0, .ref (α 0 0)), (1, .int (nI wi)), (2, .int (a2)), (3, .int (nI i3))] → W p l e { frames := 6, cells := 0, slots := 0, locals := 141 } s m [(.ref (α 0 0) : Value), .int (nI wi)].toArray below meth c s.heap [] 0 0 (MQ below (qP (some (.int r))) [(.ref (α 0 0) : Value), .int (nI wi)].toArray s 0 0 (fun _ => False)) (F0 m 4 ls []) := by
    intro  κ hκ n
    induction n with
    | zero =>
      intro i3 a2 hn hR ls hl
      rw [fX1_freeFor_L4] at hR
      refine lv_iload_n hx hb dX1_freeFor_4 rfl (lv_at hl 3 rfl) ?_
      refine lv_aload_n hx hb dX1_freeFor_5 rfl (lv_at hl 0 rfl) ?_
      refine gf (v := .ref (α 1 0)) (C := RX1) (T := TX1) (N := 6) (k := 0) hx hb hts hown hG cl_X1 in_X1 hX.ag (by decide) q301 rfl dX1_freeFor_6 ?_
      refine pcF (x := xL_size) (ci := 13) (As := []) (rest := [.int (nI i3)]) hG.fw_size hS0 (met_xl_size l D E (j := 0) (by decide)) q331 q334 q336 q103 q338 hd_xL_size ⟨Nat.le_of_ble_eq_true rfl, Nat.le_of_ble_eq_true rfl⟩ hG cl_J2 (hX.lsR hG (j := 0) (by decide)) hX rfl hl.1 rfl (Nat.le_of_ble_eq_true rfl) dX1_freeFor_9 ⟨Nat.le_refl _, Nat.le_refl _⟩ ?_
      refine W.eq (g2 := F0 m 14 ls [.int (nI (nP σ)), .int (nI i3)]) rfl ?_
      refine lk_ge_out (k := i3) (N := nP σ) hx hb hn (tgt := 42) dX1_freeFor_14 (by decide) ?_
      exact hκ a2 ls hR (lv_sub hl [2] rfl)
    | succ n ih =>
      intro i3 a2 hn hR ls hl
      rw [fX1_freeFor_L4] at hR
      refine lv_iload_n hx hb dX1_freeFor_4 rfl (lv_at hl 3 rfl) ?_
      refine lv_aload_n hx hb dX1_freeFor_5 rfl (lv_at hl 0 rfl) ?_
      refine gf (v := .ref (α 1 0)) (C := RX1) (T := TX1) (N := 6) (k := 0) hx hb hts hown hG cl_X1 in_X1 hX.ag (by decide) q301 rfl dX1_freeFor_6 ?_
      refine pcF (x := xL_size) (ci := 13) (As := []) (rest := [.int (nI i3)]) hG.fw_size hS0 (met_xl_size l D E (j := 0) (by decide)) q331 q334 q336 q103 q338 hd_xL_size ⟨Nat.le_of_ble_eq_true rfl, Nat.le_of_ble_eq_true rfl⟩ hG cl_J2 (hX.lsR hG (j := 0) (by decide)) hX rfl hl.1 rfl (Nat.le_of_ble_eq_true rfl) dX1_freeFor_9 ⟨Nat.le_refl _, Nat.le_refl _⟩ ?_
      refine W.eq (g2 := F0 m 14 ls [.int (nI (nP σ)), .int (nI i3)]) rfl ?_
      have hki3 : i3 < nP σ := lk_lt hn
      refine lk_ge_in (k := i3) (N := nP σ) hx hb hki3 (by have := hX.nP10; omega) (tgt := 42) dX1_freeFor_14 (by decide) ?_
      refine lv_iload_n hx hb dX1_freeFor_17 rfl (lv_at hl 2 rfl) ?_
      refine lv_aload_n hx hb dX1_freeFor_18 rfl (lv_at hl 0 rfl) ?_
      refine lv_iload_n hx hb dX1_freeFor_19 rfl (lv_at hl 3 rfl) ?_
      refine lv_iload_n hx hb dX1_freeFor_20 rfl (lv_at hl 1 rfl) ?_
      refine pcV (As := [.int (nI i3), .int (nI wi)]) (rest := [.int (a2)]) hS0 (met_X1_isFree l D E i3 wi hki3 h_wi) q509 q511 qs24 q100 q512 hd_X1_isFree ⟨Nat.le_of_ble_eq_true rfl, Nat.le_of_ble_eq_true rfl⟩ hG (rcv hG cl_X1 hX.ag) hX rfl hl.1 rfl (Nat.le_of_ble_eq_true rfl) dX1_freeFor_21 ⟨Nat.le_refl _, Nat.le_refl _⟩ ?_
      refine W.eq (g2 := F0 m 24 ls [.int (bI ((fX1_isFree σ i3 wi))), .int (a2)]) rfl ?_
      refine lb_if_eq (tgt := 33) hx hb dX1_freeFor_24 (by decide) (fun c1 => ?_) (fun c1 => ?_)
      · rw [if_neg c1] at hR
        refine lv_iconst (v := 0) hx hb dX1_freeFor_33 (by decide) ?_
        refine lv_ior hx hb dX1_freeFor_34 ?_
        refine lv_istore_n (lv' := [(2, .int (a2 ||| 0)), (0, .ref (α 0 0)), (1, .int (nI wi)), (3, .int (nI i3))]) hx hb dX1_freeFor_35 rfl hl (Nat.le_of_ble_eq_true rfl) rfl (fun ls hl => ?_)
        refine lv_iinc (v := nI (i3 + 1)) (lv' := [(3, .int (nI (i3 + 1))), (2, .int (a2 ||| 0)), (0, .ref (α 0 0)), (1, .int (nI wi))]) hx hb dX1_freeFor_36 hl (k := 3) rfl (nI_1 i3) (Nat.le_of_ble_eq_true rfl) rfl (fun ls hl => ?_)
        refine lv_goto (tgt := 4) hx hb dX1_freeFor_39 (by decide) ?_
        exact ih (i3 + 1) (a2 ||| 0) (lk_st hn) hR ls (lv_sub hl [2, 3, 1, 0] rfl)
      · rw [if_pos c1] at hR
        refine lv_iconst (v := 1) hx hb dX1_freeFor_27 (by decide) ?_
        refine lv_iload_n hx hb dX1_freeFor_28 rfl (lv_at hl 3 rfl) ?_
        refine lv_ishl hx hb dX1_freeFor_29 ?_
        refine lv_goto (tgt := 34) hx hb dX1_freeFor_30 (by decide) ?_
        refine lv_ior hx hb dX1_freeFor_34 ?_
        refine lv_istore_n (lv' := [(2, .int (a2 ||| (1 <<< ((nI i3) &&& 31)))), (0, .ref (α 0 0)), (1, .int (nI wi)), (3, .int (nI i3))]) hx hb dX1_freeFor_35 rfl hl (Nat.le_of_ble_eq_true rfl) rfl (fun ls hl => ?_)
        refine lv_iinc (v := nI (i3 + 1)) (lv' := [(3, .int (nI (i3 + 1))), (2, .int (a2 ||| (1 <<< ((nI i3) &&& 31)))), (0, .ref (α 0 0)), (1, .int (nI wi))]) hx hb dX1_freeFor_36 hl (k := 3) rfl (nI_1 i3) (Nat.le_of_ble_eq_true rfl) rfl (fun ls hl => ?_)
        refine lv_goto (tgt := 4) hx hb dX1_freeFor_39 (by decide) ?_
        exact ih (i3 + 1) (a2 ||| (1 <<< ((nI i3) &&& 31))) (lk_st hn) hR ls (lv_sub hl [2, 3, 1, 0] rfl)
  unfold fX1_freeFor at hR
  refine lv_iconst (v := 0) hx hb dX1_freeFor_0 (by decide) ?_
  refine lv_istore_n (lv' := [(2, .int 0), (0, .ref (α 0 0)), (1, .int (nI wi))]) hx hb dX1_freeFor_1 rfl hl (Nat.le_of_ble_eq_true rfl) rfl (fun ls hl => ?_)
  refine lv_iconst (v := 0) hx hb dX1_freeFor_2 (by decide) ?_
  refine lv_istore_n (lv' := [(3, .int 0), (2, .int 0), (0, .ref (α 0 0)), (1, .int (nI wi))]) hx hb dX1_freeFor_3 rfl hl (Nat.le_of_ble_eq_true rfl) rfl (fun ls hl => ?_)
  refine hL4  _ (fun a2 ls hR hl => ?_) (nP σ) 0 0 (Nat.zero_add _) hR ls (lv_sub hl [2, 3, 1, 0] rfl)
  refine lv_iload_n hx hb dX1_freeFor_42 rfl (lv_at hl 0 rfl) ?_
  exact p_iret hx hb hr hlocks dX1_freeFor_43 (by rw [← hR])

def fX1_arePeaceful_L2 (σ : St) (a : Int32)  (κ : Bool) : Nat → Nat → Bool
  | 0, i2 => κ
  | n + 1, i2 => (if ((fX1_has a (nI i2))) = true then (if ((pFeuds σ i2) &&& a) = 0 then fX1_arePeaceful_L2 σ a κ n (i2 + 1) else false) else fX1_arePeaceful_L2 σ a κ n (i2 + 1))
def fX1_arePeaceful (σ : St) (a : Int32) : Bool :=
  fX1_arePeaceful_L2 σ a (true) (nP σ) 0
set_option maxHeartbeats 4000000 in
set_option maxRecDepth 100000 in
theorem met_X1_arePeaceful (l : Launch) (D : va_G) (E : Nat → Nat) {α : Nat → Nat → Nat} {F : Nat → Prop} {σ : St} (a : Int32)  : PM l D E yX1_arePeaceful cX1_arePeaceful 3 (Option.some Jvm.ClassFile.FieldType.boolean) 3 64 [.ref (α 0 0), .int (a)] (RX D E α F σ) (some (.int (bI (fX1_arePeaceful σ a)))) := by
  generalize hR : fX1_arePeaceful σ a = r
  refine PM.start (by decide) (Nat.le_of_ble_eq_true rfl) ?_
  intro p e s m below meth c ls hx hb hr hml hown hlocks hts hG hX hl
  have hown : s.vm.findClass RX1 = some m.cls := hown
  have hS0 : xS p m c cX1_arePeaceful 3 s _ RX1 := ⟨hx, hb, hml, hown, hts⟩
  have hl : lv_has ls 3 [(0, .ref (α 0 0)), (1, .int (a))] := hl
  have hL2 : ∀ (κ : Bool) (hκ : ∀ (ls : Array Slot), κ = r → lv_has ls 3 [] → W p l e { frames := 3, cells := 0, slots := 0, locals := 64 } s m [(.ref (α 0 0) : Value), .int (a)].toArray below meth c s.heap [] 0 0 (MQ below (qP (some (.int (bI r)))) [(.ref (α 0 0) : Value), .int (a)].toArray s 0 0 (fun _ => False)) (F0 m 52 ls [])) (n : Nat) (i2 : Nat), i2 + n = nP σ → fX1_arePeaceful_L2 σ a κ n i2 = r → ∀ (ls : Array Slot), lv_has ls 3 [(0, .ref (α 0 0)), (1, .int (a)), (2, .int (nI i2))] → W p l e { frames := 3, cells := 0, slots := 0, locals := 64 } s m [(.ref (α 0 0) : Value), .int (a)].toArray below meth c s.heap [] 0 0 (MQ below (qP (some (.int (bI r)))) [(.ref (α 0 0) : Value), .int (a)].toArray s 0 0 (fun _ => False)) (F0 m 2 ls []) := by
    intro  κ hκ n
    induction n with
    | zero =>
      intro i2 hn hR ls hl
      rw [fX1_arePeaceful_L2] at hR
      refine lv_iload_n hx hb dX1_arePeaceful_2 rfl (lv_at hl 2 rfl) ?_
      refine lv_aload_n hx hb dX1_arePeaceful_3 rfl (lv_at hl 0 rfl) ?_
      refine gf (v := .ref (α 1 0)) (C := RX1) (T := TX1) (N := 6) (k := 0) hx hb hts hown hG cl_X1 in_X1 hX.ag (by decide) q301 rfl dX1_arePeaceful_4 ?_
      refine pcF (x := xL_size) (ci := 13) (As := []) (rest := [.int (nI i2)]) hG.fw_size hS0 (met_xl_size l D E (j := 0) (by decide)) q331 q334 q336 q103 q338 hd_xL_size ⟨Nat.le_of_ble_eq_true rfl, Nat.le_of_ble_eq_true rfl⟩ hG cl_J2 (hX.lsR hG (j := 0) (by decide)) hX rfl hl.1 rfl (Nat.le_of_ble_eq_true rfl) dX1_arePeaceful_7 ⟨Nat.le_refl _, Nat.le_refl _⟩ ?_
      refine W.eq (g2 := F0 m 12 ls [.int (nI (nP σ)), .int (nI i2)]) rfl ?_
      refine lk_ge_out (k := i2) (N := nP σ) hx hb hn (tgt := 52) dX1_arePeaceful_12 (by decide) ?_
      exact hκ  ls hR (lv_sub hl [] rfl)
    | succ n ih =>
      intro i2 hn hR ls hl
      rw [fX1_arePeaceful_L2] at hR
      refine lv_iload_n hx hb dX1_arePeaceful_2 rfl (lv_at hl 2 rfl) ?_
      refine lv_aload_n hx hb dX1_arePeaceful_3 rfl (lv_at hl 0 rfl) ?_
      refine gf (v := .ref (α 1 0)) (C := RX1) (T := TX1) (N := 6) (k := 0) hx hb hts hown hG cl_X1 in_X1 hX.ag (by decide) q301 rfl dX1_arePeaceful_4 ?_
      refine pcF (x := xL_size) (ci := 13) (As := []) (rest := [.int (nI i2)]) hG.fw_size hS0 (met_xl_size l D E (j := 0) (by decide)) q331 q334 q336 q103 q338 hd_xL_size ⟨Nat.le_of_ble_eq_true rfl, Nat.le_of_ble_eq_true rfl⟩ hG cl_J2 (hX.lsR hG (j := 0) (by decide)) hX rfl hl.1 rfl (Nat.le_of_ble_eq_true rfl) dX1_arePeaceful_7 ⟨Nat.le_refl _, Nat.le_refl _⟩ ?_
      refine W.eq (g2 := F0 m 12 ls [.int (nI (nP σ)), .int (nI i2)]) rfl ?_
      have hki2 : i2 < nP σ := lk_lt hn
      refine lk_ge_in (k := i2) (N := nP σ) hx hb hki2 (by have := hX.nP10; omega) (tgt := 52) dX1_arePeaceful_12 (by decide) ?_
      refine lv_iload_n hx hb dX1_arePeaceful_15 rfl (lv_at hl 1 rfl) ?_
      refine lv_iload_n hx hb dX1_arePeaceful_16 rfl (lv_at hl 2 rfl) ?_
      refine pcS (As := [.int (a), .int (nI i2)]) (rest := []) hS0 (met_X1_has l D E a (nI i2)) q374 q375 q100 q376 hd_X1_has ⟨Nat.le_of_ble_eq_true rfl, Nat.le_of_ble_eq_true rfl⟩ hG trivial rfl hl.1 rfl (Nat.le_of_ble_eq_true rfl) dX1_arePeaceful_17 ⟨Nat.le_refl _, Nat.le_refl _⟩ ?_
      refine W.eq (g2 := F0 m 20 ls [.int (bI ((fX1_has a (nI i2))))]) rfl ?_
      refine lb_if_eq (tgt := 46) hx hb dX1_arePeaceful_20 (by decide) (fun c1 => ?_) (fun c1 => ?_)
      · rw [if_neg c1] at hR
        refine lv_iinc (v := nI (i2 + 1)) (lv' := [(2, .int (nI (i2 + 1))), (0, .ref (α 0 0)), (1, .int (a))]) hx hb dX1_arePeaceful_46 hl (k := 2) rfl (nI_1 i2) (Nat.le_of_ble_eq_true rfl) rfl (fun ls hl => ?_)
        refine lv_goto (tgt := 2) hx hb dX1_arePeaceful_49 (by decide) ?_
        exact ih (i2 + 1) (lk_st hn) hR ls (lv_sub hl [1, 2, 0] rfl)
      · rw [if_pos c1] at hR
        refine lv_aload_n hx hb dX1_arePeaceful_23 rfl (lv_at hl 0 rfl) ?_
        refine gf (v := .ref (α 1 0)) (C := RX1) (T := TX1) (N := 6) (k := 0) hx hb hts hown hG cl_X1 in_X1 hX.ag (by decide) q301 rfl dX1_arePeaceful_24 ?_
        refine lv_iload_n hx hb dX1_arePeaceful_27 rfl (lv_at hl 2 rfl) ?_
        refine pcF (x := xL_get) (ci := 13) (As := [.int (nI i2)]) (rest := []) hG.fw_get hS0 (met_xl_get l D E (j := 0) (by decide) i2 hki2) q344 q347 q349 q103 q351 hd_xL_get ⟨Nat.le_of_ble_eq_true rfl, Nat.le_of_ble_eq_true rfl⟩ hG cl_J2 (hX.lsR hG (j := 0) (by decide)) hX rfl hl.1 rfl (Nat.le_of_ble_eq_true rfl) dX1_arePeaceful_28 ⟨Nat.le_refl _, Nat.le_refl _⟩ ?_
        refine W.eq (g2 := F0 m 33 ls [.ref (α 3 i2)]) rfl ?_
        refine gc (ci := 5) hx hb hown hG cl_X6 (rcv hG cl_X6 (hX.pl hki2)) (hts _ q362) dX1_arePeaceful_33 ?_
        refine gfN (v := .int (pFeuds σ i2)) (C := RX6) (T := TX6) (N := 7) (k := 4) hx hb hts hown hG cl_X6 in_X6 (hX.pl hki2) (by decide) q917 rfl dX1_arePeaceful_36 ?_
        refine lv_iload_n hx hb dX1_arePeaceful_39 rfl (lv_at hl 1 rfl) ?_
        refine lv_iand hx hb dX1_arePeaceful_40 ?_
        refine lv_if_eq (tgt := 46) hx hb dX1_arePeaceful_41 (by decide) (fun c2 => ?_) (fun c2 => ?_)
        · rw [if_pos c2] at hR
          refine lv_iinc (v := nI (i2 + 1)) (lv' := [(2, .int (nI (i2 + 1))), (0, .ref (α 0 0)), (1, .int (a))]) hx hb dX1_arePeaceful_46 hl (k := 2) rfl (nI_1 i2) (Nat.le_of_ble_eq_true rfl) rfl (fun ls hl => ?_)
          refine lv_goto (tgt := 2) hx hb dX1_arePeaceful_49 (by decide) ?_
          exact ih (i2 + 1) (lk_st hn) hR ls (lv_sub hl [1, 2, 0] rfl)
        · rw [if_neg c2] at hR
          refine lv_iconst (v := 0) hx hb dX1_arePeaceful_44 (by decide) ?_
          exact p_zret (b := false) hx hb hr hlocks dX1_arePeaceful_45 rfl (by rw [← hR])
  unfold fX1_arePeaceful at hR
  refine lv_iconst (v := 0) hx hb dX1_arePeaceful_0 (by decide) ?_
  refine lv_istore_n (lv' := [(2, .int 0), (0, .ref (α 0 0)), (1, .int (a))]) hx hb dX1_arePeaceful_1 rfl hl (Nat.le_of_ble_eq_true rfl) rfl (fun ls hl => ?_)
  refine hL2  _ (fun  ls hR hl => ?_) (nP σ) 0 (Nat.zero_add _) hR ls (lv_sub hl [1, 2, 0] rfl)
  refine lv_iconst (v := 1) hx hb dX1_arePeaceful_52 (by decide) ?_
  exact p_zret (b := true) hx hb hr hlocks dX1_arePeaceful_53 rfl (by rw [← hR])

def fX1_playable_L7 (σ : St) (a : Int32)  (κ : Int32 → Int32 → Int32) : Nat → Nat → Int32 → Int32 → Int32
  | 0, i4, a2, a3 => κ a2 a3
  | n + 1, i4, a2, a3 => (if ((fX1_has a (nI i4))) = true then fX1_playable_L7 σ a κ n (i4 + 1) (a2 ||| (pSongs σ i4)) (a3 ||| (a2 &&& (pSongs σ i4))) else fX1_playable_L7 σ a κ n (i4 + 1) (a2 ||| 0) (a3 ||| (a2 &&& 0)))
def fX1_playable (σ : St) (a : Int32) : Int32 :=
  fX1_playable_L7 σ a (fun (a2 : Int32) (a3 : Int32) => (if (nI (popc a)) = 1 then a2 else a3)) (nP σ) 0 0 0
set_option maxHeartbeats 4000000 in
set_option maxRecDepth 100000 in
theorem met_X1_playable (l : Launch) (D : va_G) (E : Nat → Nat) {α : Nat → Nat → Nat} {F : Nat → Prop} {σ : St} (a : Int32)  : PM l D E yX1_playable cX1_playable 6 (Option.some Jvm.ClassFile.FieldType.int) 3 64 [.ref (α 0 0), .int (a)] (RX D E α F σ) (some (.int (fX1_playable σ a))) := by
  generalize hR : fX1_playable σ a = r
  refine PM.start (by decide) (Nat.le_of_ble_eq_true rfl) ?_
  intro p e s m below meth c ls hx hb hr hml hown hlocks hts hG hX hl
  have hown : s.vm.findClass RX1 = some m.cls := hown
  have hS0 : xS p m c cX1_playable 6 s _ RX1 := ⟨hx, hb, hml, hown, hts⟩
  have hl : lv_has ls 6 [(0, .ref (α 0 0)), (1, .int (a))] := hl
  have hL7 : ∀ (κ : Int32 → Int32 → Int32) (hκ : ∀ (a2 : Int32) (a3 : Int32) (ls : Array Slot), κ a2 a3 = r → lv_has ls 6 [(1, .int (a)), (2, .int (a2)), (3, .int (a3))] → W p l e { frames := 3, cells := 0, slots := 0, locals := 64 } s m [(.ref (α 0 0) : Value), .int (a)].toArray below meth c s.heap [] 0 0 (MQ below (qP (some (.int r))) [(.ref (α 0 0) : Value), .int (a)].toArray s 0 0 (fun _ => False)) (F0 m 71 ls [])) (n : Nat) (i4 : Nat) (a2 : Int32) (a3 : Int32), i4 + n = nP σ → fX1_playable_L7 σ a κ n i4 a2 a3 = r → ∀ (ls : Array Slot), lv_has ls 6 [(0, .ref (α 0 0)), (1, .int (a)), (2, .int (a2)), (3, .int (a3)), (4, .int (nI i4))] → W p l e { frames := 3, cells := 0, slots := 0, locals := 64 } s m [(.ref (α 0 0) : Value), .int (a)].toArray below meth c s.heap [] 0 0 (MQ below (qP (some (.int r))) [(.ref (α 0 0) : Value), .int (a)].toArray s 0 0 (fun _ => False)) (F0 m 7 ls []) := by
    intro  κ hκ n
    induction n with
    | zero =>
      intro i4 a2 a3 hn hR ls hl
      rw [fX1_playable_L7] at hR
      refine lv_iload hx hb dX1_playable_7 (lv_at hl 4 rfl) ?_
      refine lv_aload_n hx hb dX1_playable_9 rfl (lv_at hl 0 rfl) ?_
      refine gf (v := .ref (α 1 0)) (C := RX1) (T := TX1) (N := 6) (k := 0) hx hb hts hown hG cl_X1 in_X1 hX.ag (by decide) q301 rfl dX1_playable_10 ?_
      refine pcF (x := xL_size) (ci := 13) (As := []) (rest := [.int (nI i4)]) hG.fw_size hS0 (met_xl_size l D E (j := 0) (by decide)) q331 q334 q336 q103 q338 hd_xL_size ⟨Nat.le_of_ble_eq_true rfl, Nat.le_of_ble_eq_true rfl⟩ hG cl_J2 (hX.lsR hG (j := 0) (by decide)) hX rfl hl.1 rfl (Nat.le_of_ble_eq_true rfl) dX1_playable_13 ⟨Nat.le_refl _, Nat.le_refl _⟩ ?_
      refine W.eq (g2 := F0 m 18 ls [.int (nI (nP σ)), .int (nI i4)]) rfl ?_
      refine lk_ge_out (k := i4) (N := nP σ) hx hb hn (tgt := 71) dX1_playable_18 (by decide) ?_
      exact hκ a2 a3 ls hR (lv_sub hl [1, 2, 3] rfl)
    | succ n ih =>
      intro i4 a2 a3 hn hR ls hl
      rw [fX1_playable_L7] at hR
      refine lv_iload hx hb dX1_playable_7 (lv_at hl 4 rfl) ?_
      refine lv_aload_n hx hb dX1_playable_9 rfl (lv_at hl 0 rfl) ?_
      refine gf (v := .ref (α 1 0)) (C := RX1) (T := TX1) (N := 6) (k := 0) hx hb hts hown hG cl_X1 in_X1 hX.ag (by decide) q301 rfl dX1_playable_10 ?_
      refine pcF (x := xL_size) (ci := 13) (As := []) (rest := [.int (nI i4)]) hG.fw_size hS0 (met_xl_size l D E (j := 0) (by decide)) q331 q334 q336 q103 q338 hd_xL_size ⟨Nat.le_of_ble_eq_true rfl, Nat.le_of_ble_eq_true rfl⟩ hG cl_J2 (hX.lsR hG (j := 0) (by decide)) hX rfl hl.1 rfl (Nat.le_of_ble_eq_true rfl) dX1_playable_13 ⟨Nat.le_refl _, Nat.le_refl _⟩ ?_
      refine W.eq (g2 := F0 m 18 ls [.int (nI (nP σ)), .int (nI i4)]) rfl ?_
      have hki4 : i4 < nP σ := lk_lt hn
      refine lk_ge_in (k := i4) (N := nP σ) hx hb hki4 (by have := hX.nP10; omega) (tgt := 71) dX1_playable_18 (by decide) ?_
      refine lv_iload_n hx hb dX1_playable_21 rfl (lv_at hl 1 rfl) ?_
      refine lv_iload hx hb dX1_playable_22 (lv_at hl 4 rfl) ?_
      refine pcS (As := [.int (a), .int (nI i4)]) (rest := []) hS0 (met_X1_has l D E a (nI i4)) q374 q375 q100 q376 hd_X1_has ⟨Nat.le_of_ble_eq_true rfl, Nat.le_of_ble_eq_true rfl⟩ hG trivial rfl hl.1 rfl (Nat.le_of_ble_eq_true rfl) dX1_playable_24 ⟨Nat.le_refl _, Nat.le_refl _⟩ ?_
      refine W.eq (g2 := F0 m 27 ls [.int (bI ((fX1_has a (nI i4))))]) rfl ?_
      refine lb_if_eq (tgt := 50) hx hb dX1_playable_27 (by decide) (fun c1 => ?_) (fun c1 => ?_)
      · rw [if_neg c1] at hR
        refine lv_iconst (v := 0) hx hb dX1_playable_50 (by decide) ?_
        refine lv_istore (lv' := [(5, .int 0), (0, .ref (α 0 0)), (1, .int (a)), (2, .int (a2)), (3, .int (a3)), (4, .int (nI i4))]) hx hb dX1_playable_51 hl (Nat.le_of_ble_eq_true rfl) rfl (fun ls hl => ?_)
        refine lv_iload_n hx hb dX1_playable_53 rfl (lv_at hl 4 rfl) ?_
        refine lv_iload_n hx hb dX1_playable_54 rfl (lv_at hl 3 rfl) ?_
        refine lv_iload hx hb dX1_playable_55 (lv_at hl 0 rfl) ?_
        refine lv_iand hx hb dX1_playable_57 ?_
        refine lv_ior hx hb dX1_playable_58 ?_
        refine lv_istore_n (lv' := [(3, .int (a3 ||| (a2 &&& 0))), (5, .int 0), (0, .ref (α 0 0)), (1, .int (a)), (2, .int (a2)), (4, .int (nI i4))]) hx hb dX1_playable_59 rfl hl (Nat.le_of_ble_eq_true rfl) rfl (fun ls hl => ?_)
        refine lv_iload_n hx hb dX1_playable_60 rfl (lv_at hl 4 rfl) ?_
        refine lv_iload hx hb dX1_playable_61 (lv_at hl 1 rfl) ?_
        refine lv_ior hx hb dX1_playable_63 ?_
        refine lv_istore_n (lv' := [(2, .int (a2 ||| 0)), (3, .int (a3 ||| (a2 &&& 0))), (5, .int 0), (0, .ref (α 0 0)), (1, .int (a)), (4, .int (nI i4))]) hx hb dX1_playable_64 rfl hl (Nat.le_of_ble_eq_true rfl) rfl (fun ls hl => ?_)
        refine lv_iinc (v := nI (i4 + 1)) (lv' := [(4, .int (nI (i4 + 1))), (2, .int (a2 ||| 0)), (3, .int (a3 ||| (a2 &&& 0))), (5, .int 0), (0, .ref (α 0 0)), (1, .int (a))]) hx hb dX1_playable_65 hl (k := 5) rfl (nI_1 i4) (Nat.le_of_ble_eq_true rfl) rfl (fun ls hl => ?_)
        refine lv_goto (tgt := 7) hx hb dX1_playable_68 (by decide) ?_
        exact ih (i4 + 1) (a2 ||| 0) (a3 ||| (a2 &&& 0)) (lk_st hn) hR ls (lv_sub hl [4, 5, 1, 2, 0] rfl)
      · rw [if_pos c1] at hR
        refine lv_aload_n hx hb dX1_playable_30 rfl (lv_at hl 0 rfl) ?_
        refine gf (v := .ref (α 1 0)) (C := RX1) (T := TX1) (N := 6) (k := 0) hx hb hts hown hG cl_X1 in_X1 hX.ag (by decide) q301 rfl dX1_playable_31 ?_
        refine lv_iload hx hb dX1_playable_34 (lv_at hl 4 rfl) ?_
        refine pcF (x := xL_get) (ci := 13) (As := [.int (nI i4)]) (rest := []) hG.fw_get hS0 (met_xl_get l D E (j := 0) (by decide) i4 hki4) q344 q347 q349 q103 q351 hd_xL_get ⟨Nat.le_of_ble_eq_true rfl, Nat.le_of_ble_eq_true rfl⟩ hG cl_J2 (hX.lsR hG (j := 0) (by decide)) hX rfl hl.1 rfl (Nat.le_of_ble_eq_true rfl) dX1_playable_36 ⟨Nat.le_refl _, Nat.le_refl _⟩ ?_
        refine W.eq (g2 := F0 m 41 ls [.ref (α 3 i4)]) rfl ?_
        refine gc (ci := 5) hx hb hown hG cl_X6 (rcv hG cl_X6 (hX.pl hki4)) (hts _ q362) dX1_playable_41 ?_
        refine gfN (v := .int (pSongs σ i4)) (C := RX6) (T := TX6) (N := 7) (k := 3) hx hb hts hown hG cl_X6 in_X6 (hX.pl hki4) (by decide) q916 rfl dX1_playable_44 ?_
        refine lv_goto (tgt := 51) hx hb dX1_playable_47 (by decide) ?_
        refine lv_istore (lv' := [(5, .int (pSongs σ i4)), (0, .ref (α 0 0)), (1, .int (a)), (2, .int (a2)), (3, .int (a3)), (4, .int (nI i4))]) hx hb dX1_playable_51 hl (Nat.le_of_ble_eq_true rfl) rfl (fun ls hl => ?_)
        refine lv_iload_n hx hb dX1_playable_53 rfl (lv_at hl 4 rfl) ?_
        refine lv_iload_n hx hb dX1_playable_54 rfl (lv_at hl 3 rfl) ?_
        refine lv_iload hx hb dX1_playable_55 (lv_at hl 0 rfl) ?_
        refine lv_iand hx hb dX1_playable_57 ?_
        refine lv_ior hx hb dX1_playable_58 ?_
        refine lv_istore_n (lv' := [(3, .int (a3 ||| (a2 &&& (pSongs σ i4)))), (5, .int (pSongs σ i4)), (0, .ref (α 0 0)), (1, .int (a)), (2, .int (a2)), (4, .int (nI i4))]) hx hb dX1_playable_59 rfl hl (Nat.le_of_ble_eq_true rfl) rfl (fun ls hl => ?_)
        refine lv_iload_n hx hb dX1_playable_60 rfl (lv_at hl 4 rfl) ?_
        refine lv_iload hx hb dX1_playable_61 (lv_at hl 1 rfl) ?_
        refine lv_ior hx hb dX1_playable_63 ?_
        refine lv_istore_n (lv' := [(2, .int (a2 ||| (pSongs σ i4))), (3, .int (a3 ||| (a2 &&& (pSongs σ i4)))), (5, .int (pSongs σ i4)), (0, .ref (α 0 0)), (1, .int (a)), (4, .int (nI i4))]) hx hb dX1_playable_64 rfl hl (Nat.le_of_ble_eq_true rfl) rfl (fun ls hl => ?_)
        refine lv_iinc (v := nI (i4 + 1)) (lv' := [(4, .int (nI (i4 + 1))), (2, .int (a2 ||| (pSongs σ i4))), (3, .int (a3 ||| (a2 &&& (pSongs σ i4)))), (5, .int (pSongs σ i4)), (0, .ref (α 0 0)), (1, .int (a))]) hx hb dX1_playable_65 hl (k := 5) rfl (nI_1 i4) (Nat.le_of_ble_eq_true rfl) rfl (fun ls hl => ?_)
        refine lv_goto (tgt := 7) hx hb dX1_playable_68 (by decide) ?_
        exact ih (i4 + 1) (a2 ||| (pSongs σ i4)) (a3 ||| (a2 &&& (pSongs σ i4))) (lk_st hn) hR ls (lv_sub hl [4, 5, 1, 2, 0] rfl)
  unfold fX1_playable at hR
  refine lv_iconst (v := 0) hx hb dX1_playable_0 (by decide) ?_
  refine lv_istore_n (lv' := [(2, .int 0), (0, .ref (α 0 0)), (1, .int (a))]) hx hb dX1_playable_1 rfl hl (Nat.le_of_ble_eq_true rfl) rfl (fun ls hl => ?_)
  refine lv_iconst (v := 0) hx hb dX1_playable_2 (by decide) ?_
  refine lv_istore_n (lv' := [(3, .int 0), (2, .int 0), (0, .ref (α 0 0)), (1, .int (a))]) hx hb dX1_playable_3 rfl hl (Nat.le_of_ble_eq_true rfl) rfl (fun ls hl => ?_)
  refine lv_iconst (v := 0) hx hb dX1_playable_4 (by decide) ?_
  refine lv_istore (lv' := [(4, .int 0), (3, .int 0), (2, .int 0), (0, .ref (α 0 0)), (1, .int (a))]) hx hb dX1_playable_5 hl (Nat.le_of_ble_eq_true rfl) rfl (fun ls hl => ?_)
  refine hL7  _ (fun a2 a3 ls hR hl => ?_) (nP σ) 0 0 0 (Nat.zero_add _) hR ls (lv_sub hl [3, 4, 2, 1, 0] rfl)
  refine lv_iload_n hx hb dX1_playable_71 rfl (lv_at hl 0 rfl) ?_
  refine pcS (As := [.int (a)]) (rest := []) hS0 (met_size l D E a) q379 q380 q100 q381 hd_X1_size ⟨Nat.le_of_ble_eq_true rfl, Nat.le_of_ble_eq_true rfl⟩ hG trivial rfl hl.1 rfl (Nat.le_of_ble_eq_true rfl) dX1_playable_72 ⟨Nat.le_refl _, Nat.le_refl _⟩ ?_
  refine W.eq (g2 := F0 m 75 ls [.int (nI (popc a))]) rfl ?_
  refine lv_iconst (v := 1) hx hb dX1_playable_75 (by decide) ?_
  refine lv_icmp_ne (tgt := 83) hx hb dX1_playable_76 (by decide) (fun c4 => ?_) (fun c4 => ?_)
  · rw [if_neg c4] at hR
    refine lv_iload_n hx hb dX1_playable_83 rfl (lv_at hl 2 rfl) ?_
    exact p_iret hx hb hr hlocks dX1_playable_84 (by rw [← hR])
  · rw [if_pos c4] at hR
    refine lv_iload_n hx hb dX1_playable_79 rfl (lv_at hl 1 rfl) ?_
    refine lv_goto (tgt := 84) hx hb dX1_playable_80 (by decide) ?_
    exact p_iret hx hb hr hlocks dX1_playable_84 (by rw [← hR])

def fX1_place_L19 (σ : St) (wi : Nat)  (κ : Int32 → Int32) : Nat → Nat → Int32 → Int32
  | 0, i4, a3 => κ a3
  | n + 1, i4, a3 => (if ((fX10_isQueued σ i4 (nI (wBand σ wi)) (nI (wDay σ wi)))) = true then fX1_place_L19 σ wi κ n (i4 + 1) (a3 + 1) else fX1_place_L19 σ wi κ n (i4 + 1) (a3 + 0))
def fX1_place (σ : St) (wi : Nat) : Int32 :=
  fX1_place_L19 σ wi (fun (a2 : Int32) => (if ((fX10_is σ wi 0)) = true then a2 else (-1))) wi 0 0
set_option maxHeartbeats 4000000 in
set_option maxRecDepth 100000 in
theorem met_X1_place (l : Launch) (D : va_G) (E : Nat → Nat) {α : Nat → Nat → Nat} {F : Nat → Prop} {σ : St} (wi : Nat) (h_wi : wi < nW σ) : PM l D E yX1_place cX1_place 5 (Option.some Jvm.ClassFile.FieldType.int) 3 64 [.ref (α 0 0), .int (nI wi)] (RX D E α F σ) (some (.int (fX1_place σ wi))) := by
  generalize hR : fX1_place σ wi = r
  refine PM.start (by decide) (Nat.le_of_ble_eq_true rfl) ?_
  intro p e s m below meth c ls hx hb hr hml hown hlocks hts hG hX hl
  have hown : s.vm.findClass RX1 = some m.cls := hown
  have hS0 : xS p m c cX1_place 5 s _ RX1 := ⟨hx, hb, hml, hown, hts⟩
  have hl : lv_has ls 5 [(0, .ref (α 0 0)), (1, .int (nI wi))] := hl
  have hL19 : ∀ (κ : Int32 → Int32) (hκ : ∀ (a3 : Int32) (ls : Array Slot), κ a3 = r → lv_has ls 5 [(2, .ref (α 5 wi)), (3, .int (a3))] → W p l e { frames := 3, cells := 0, slots := 0, locals := 64 } s m [(.ref (α 0 0) : Value), .int (nI wi)].toArray below meth c s.heap [] 0 0 (MQ below (qP (some (.int r))) [(.ref (α 0 0) : Value), .int (nI wi)].toArray s 0 0 (fun _ => False)) (F0 m 67 ls [])) (n : Nat) (i4 : Nat) (a3 : Int32), i4 + n = wi → fX1_place_L19 σ wi κ n i4 a3 = r → ∀ (ls : Array Slot), lv_has ls 5 [(0, .ref (α 0 0)), (1, .int (nI wi)), (2, .ref (α 5 wi)), (3, .int (a3)), (4, .int (nI i4))] → W p l e { frames := 3, cells := 0, slots := 0, locals := 64 } s m [(.ref (α 0 0) : Value), .int (nI wi)].toArray below meth c s.heap [] 0 0 (MQ below (qP (some (.int r))) [(.ref (α 0 0) : Value), .int (nI wi)].toArray s 0 0 (fun _ => False)) (F0 m 19 ls []) := by
    intro  κ hκ n
    induction n with
    | zero =>
      intro i4 a3 hn hR ls hl
      rw [fX1_place_L19] at hR
      refine lv_iload hx hb dX1_place_19 (lv_at hl 4 rfl) ?_
      refine lv_iload_n hx hb dX1_place_21 rfl (lv_at hl 1 rfl) ?_
      refine lk_ge_out (k := i4) (N := wi) hx hb hn (tgt := 67) dX1_place_22 (by decide) ?_
      exact hκ a3 ls hR (lv_sub hl [2, 3] rfl)
    | succ n ih =>
      intro i4 a3 hn hR ls hl
      rw [fX1_place_L19] at hR
      refine lv_iload hx hb dX1_place_19 (lv_at hl 4 rfl) ?_
      refine lv_iload_n hx hb dX1_place_21 rfl (lv_at hl 1 rfl) ?_
      have hki4 : i4 < wi := lk_lt hn
      refine lk_ge_in (k := i4) (N := wi) hx hb hki4 (by have := hX.nP10; have := hX.nW14; have := hX.nB6; omega) (tgt := 67) dX1_place_22 (by decide) ?_
      refine lv_iload_n hx hb dX1_place_25 rfl (lv_at hl 3 rfl) ?_
      refine lv_aload_n hx hb dX1_place_26 rfl (lv_at hl 0 rfl) ?_
      refine gf (v := .ref (α 1 3)) (C := RX1) (T := TX1) (N := 6) (k := 4) hx hb hts hown hG cl_X1 in_X1 hX.ag (by decide) q307 rfl dX1_place_27 ?_
      refine lv_iload hx hb dX1_place_30 (lv_at hl 4 rfl) ?_
      refine pcF (x := xL_get) (ci := 13) (As := [.int (nI i4)]) (rest := [.int (a3)]) hG.fw_get hS0 (met_xl_get l D E (j := 3) (by decide) i4 (show i4 < nW σ from by have := hki4; omega)) q344 q347 q349 q103 q351 hd_xL_get ⟨Nat.le_of_ble_eq_true rfl, Nat.le_of_ble_eq_true rfl⟩ hG cl_J2 (hX.lsR hG (j := 3) (by decide)) hX rfl hl.1 rfl (Nat.le_of_ble_eq_true rfl) dX1_place_32 ⟨Nat.le_refl _, Nat.le_refl _⟩ ?_
      refine W.eq (g2 := F0 m 37 ls [.ref (α 5 i4), .int (a3)]) rfl ?_
      refine gc (ci := 8) hx hb hown hG cl_X10 (rcv hG cl_X10 (hX.wd (show i4 < nW σ from by have := hki4; omega))) (hts _ q369) dX1_place_37 ?_
      refine lv_aload_n hx hb dX1_place_40 rfl (lv_at hl 2 rfl) ?_
      refine gfN (v := .int (nI (wBand σ wi))) (C := RX10) (T := TX10) (N := 12) (k := 0) hx hb hts hown hG cl_X10 in_X10 (hX.wd h_wi) (by decide) q1010 rfl dX1_place_41 ?_
      refine lv_aload_n hx hb dX1_place_44 rfl (lv_at hl 2 rfl) ?_
      refine gfN (v := .int (nI (wDay σ wi))) (C := RX10) (T := TX10) (N := 12) (k := 1) hx hb hts hown hG cl_X10 in_X10 (hX.wd h_wi) (by decide) q1012 rfl dX1_place_45 ?_
      refine pcV (As := [.int (nI (wBand σ wi)), .int (nI (wDay σ wi))]) (rest := [.int (a3)]) hS0 (met_X10_isQueued l D E i4 (nI (wBand σ wi)) (nI (wDay σ wi)) (show i4 < nW σ from by have := hki4; omega)) q484 q485 q486 q130 q487 hd_X10_isQueued ⟨Nat.le_of_ble_eq_true rfl, Nat.le_of_ble_eq_true rfl⟩ hG (rcv hG cl_X10 (hX.wd (show i4 < nW σ from by have := hki4; omega))) hX rfl hl.1 rfl (Nat.le_of_ble_eq_true rfl) dX1_place_48 ⟨Nat.le_refl _, Nat.le_refl _⟩ ?_
      refine W.eq (g2 := F0 m 51 ls [.int (bI ((fX10_isQueued σ i4 (nI (wBand σ wi)) (nI (wDay σ wi))))), .int (a3)]) rfl ?_
      refine lb_if_eq (tgt := 58) hx hb dX1_place_51 (by decide) (fun c1 => ?_) (fun c1 => ?_)
      · rw [if_neg c1] at hR
        refine lv_iconst (v := 0) hx hb dX1_place_58 (by decide) ?_
        refine lv_iadd hx hb dX1_place_59 ?_
        refine lv_istore_n (lv' := [(3, .int (a3 + 0)), (0, .ref (α 0 0)), (1, .int (nI wi)), (2, .ref (α 5 wi)), (4, .int (nI i4))]) hx hb dX1_place_60 rfl hl (Nat.le_of_ble_eq_true rfl) rfl (fun ls hl => ?_)
        refine lv_iinc (v := nI (i4 + 1)) (lv' := [(4, .int (nI (i4 + 1))), (3, .int (a3 + 0)), (0, .ref (α 0 0)), (1, .int (nI wi)), (2, .ref (α 5 wi))]) hx hb dX1_place_61 hl (k := 4) rfl (nI_1 i4) (Nat.le_of_ble_eq_true rfl) rfl (fun ls hl => ?_)
        refine lv_goto (tgt := 19) hx hb dX1_place_64 (by decide) ?_
        exact ih (i4 + 1) (a3 + 0) (lk_st hn) hR ls (lv_sub hl [2, 3, 4, 1, 0] rfl)
      · rw [if_pos c1] at hR
        refine lv_iconst (v := 1) hx hb dX1_place_54 (by decide) ?_
        refine lv_goto (tgt := 59) hx hb dX1_place_55 (by decide) ?_
        refine lv_iadd hx hb dX1_place_59 ?_
        refine lv_istore_n (lv' := [(3, .int (a3 + 1)), (0, .ref (α 0 0)), (1, .int (nI wi)), (2, .ref (α 5 wi)), (4, .int (nI i4))]) hx hb dX1_place_60 rfl hl (Nat.le_of_ble_eq_true rfl) rfl (fun ls hl => ?_)
        refine lv_iinc (v := nI (i4 + 1)) (lv' := [(4, .int (nI (i4 + 1))), (3, .int (a3 + 1)), (0, .ref (α 0 0)), (1, .int (nI wi)), (2, .ref (α 5 wi))]) hx hb dX1_place_61 hl (k := 4) rfl (nI_1 i4) (Nat.le_of_ble_eq_true rfl) rfl (fun ls hl => ?_)
        refine lv_goto (tgt := 19) hx hb dX1_place_64 (by decide) ?_
        exact ih (i4 + 1) (a3 + 1) (lk_st hn) hR ls (lv_sub hl [2, 3, 4, 1, 0] rfl)
  unfold fX1_place at hR
  refine lv_aload_n hx hb dX1_place_0 rfl (lv_at hl 0 rfl) ?_
  refine gf (v := .ref (α 1 3)) (C := RX1) (T := TX1) (N := 6) (k := 4) hx hb hts hown hG cl_X1 in_X1 hX.ag (by decide) q307 rfl dX1_place_1 ?_
  refine lv_iload_n hx hb dX1_place_4 rfl (lv_at hl 1 rfl) ?_
  refine pcF (x := xL_get) (ci := 13) (As := [.int (nI wi)]) (rest := []) hG.fw_get hS0 (met_xl_get l D E (j := 3) (by decide) wi h_wi) q344 q347 q349 q103 q351 hd_xL_get ⟨Nat.le_of_ble_eq_true rfl, Nat.le_of_ble_eq_true rfl⟩ hG cl_J2 (hX.lsR hG (j := 3) (by decide)) hX rfl hl.1 rfl (Nat.le_of_ble_eq_true rfl) dX1_place_5 ⟨Nat.le_refl _, Nat.le_refl _⟩ ?_
  refine W.eq (g2 := F0 m 10 ls [.ref (α 5 wi)]) rfl ?_
  refine gc (ci := 8) hx hb hown hG cl_X10 (rcv hG cl_X10 (hX.wd h_wi)) (hts _ q369) dX1_place_10 ?_
  refine lv_astore_n (lv' := [(2, .ref (α 5 wi)), (0, .ref (α 0 0)), (1, .int (nI wi))]) hx hb dX1_place_13 rfl hl (Nat.le_of_ble_eq_true rfl) rfl (fun ls hl => ?_)
  refine lv_iconst (v := 0) hx hb dX1_place_14 (by decide) ?_
  refine lv_istore_n (lv' := [(3, .int 0), (2, .ref (α 5 wi)), (0, .ref (α 0 0)), (1, .int (nI wi))]) hx hb dX1_place_15 rfl hl (Nat.le_of_ble_eq_true rfl) rfl (fun ls hl => ?_)
  refine lv_iconst (v := 0) hx hb dX1_place_16 (by decide) ?_
  refine lv_istore (lv' := [(4, .int 0), (3, .int 0), (2, .ref (α 5 wi)), (0, .ref (α 0 0)), (1, .int (nI wi))]) hx hb dX1_place_17 hl (Nat.le_of_ble_eq_true rfl) rfl (fun ls hl => ?_)
  refine hL19  _ (fun a2 ls hR hl => ?_) wi 0 0 (Nat.zero_add _) hR ls (lv_sub hl [3, 4, 2, 1, 0] rfl)
  refine lv_aload_n hx hb dX1_place_67 rfl (lv_at hl 0 rfl) ?_
  refine gs hx hb (hG.en (i := 0) (by decide)) hown (hts _ q399) (fun _ h => h) dX1_place_68 ?_
  refine pcV (As := [.ref (E (10 + 0))]) (rest := []) hS0 (met_X10_is l D E wi 0 h_wi (by decide)) q370 q371 q372 q130 q373 hd_X10_is ⟨Nat.le_of_ble_eq_true rfl, Nat.le_of_ble_eq_true rfl⟩ hG (rcv hG cl_X10 (hX.wd h_wi)) hX rfl hl.1 rfl (Nat.le_of_ble_eq_true rfl) dX1_place_71 ⟨Nat.le_refl _, Nat.le_refl _⟩ ?_
  refine W.eq (g2 := F0 m 74 ls [.int (bI ((fX10_is σ wi 0)))]) rfl ?_
  refine lb_if_eq (tgt := 81) hx hb dX1_place_74 (by decide) (fun c3 => ?_) (fun c3 => ?_)
  · rw [if_neg c3] at hR
    refine lv_iconst (v := (-1)) hx hb dX1_place_81 (by decide) ?_
    exact p_iret hx hb hr hlocks dX1_place_82 (by rw [← hR])
  · rw [if_pos c3] at hR
    refine lv_iload_n hx hb dX1_place_77 rfl (lv_at hl 1 rfl) ?_
    refine lv_goto (tgt := 82) hx hb dX1_place_78 (by decide) ?_
    exact p_iret hx hb hr hlocks dX1_place_82 (by rw [← hR])

def fX1_owed (σ : St) (wi : Nat) : Int32 :=
  (if ((nI (wDay σ wi)) - (tod σ)) < 30 then (if ((nI (wDay σ wi)) - (tod σ)) < 14 then (if ((nI (wDay σ wi)) - (tod σ)) < 7 then ((wPrice σ wi) * 100) / 100 else ((wPrice σ wi) * 70) / 100) else ((wPrice σ wi) * 40) / 100) else ((wPrice σ wi) * 20) / 100)
set_option maxHeartbeats 4000000 in
set_option maxRecDepth 100000 in
theorem met_X1_owed (l : Launch) (D : va_G) (E : Nat → Nat) {α : Nat → Nat → Nat} {F : Nat → Prop} {σ : St} (wi : Nat) (h_wi : wi < nW σ) : PM l D E yX1_owed cX1_owed 4 (Option.some Jvm.ClassFile.FieldType.int) 0 0 [.ref (α 0 0), .ref (α 5 wi)] (RX D E α F σ) (some (.int (fX1_owed σ wi))) := by
  generalize hR : fX1_owed σ wi = r
  refine PM.start (by decide) (Nat.le_of_ble_eq_true rfl) ?_
  intro p e s m below meth c ls hx hb hr hml hown hlocks hts hG hX hl
  have hown : s.vm.findClass RX1 = some m.cls := hown
  have hS0 : xS p m c cX1_owed 4 s _ RX1 := ⟨hx, hb, hml, hown, hts⟩
  have hl : lv_has ls 4 [(0, .ref (α 0 0)), (1, .ref (α 5 wi))] := hl
  unfold fX1_owed at hR
  refine lv_aload_n hx hb dX1_owed_0 rfl (lv_at hl 1 rfl) ?_
  refine gfN (v := .int (nI (wDay σ wi))) (C := RX10) (T := TX10) (N := 12) (k := 1) hx hb hts hown hG cl_X10 in_X10 (hX.wd h_wi) (by decide) q1012 rfl dX1_owed_1 ?_
  refine lv_aload_n hx hb dX1_owed_4 rfl (lv_at hl 0 rfl) ?_
  refine gf (v := .int (tod σ)) (C := RX1) (T := TX1) (N := 6) (k := 5) hx hb hts hown hG cl_X1 in_X1 hX.ag (by decide) q308 rfl dX1_owed_5 ?_
  refine lv_isub hx hb dX1_owed_8 ?_
  refine lv_istore_n (lv' := [(2, .int ((nI (wDay σ wi)) - (tod σ))), (0, .ref (α 0 0)), (1, .ref (α 5 wi))]) hx hb dX1_owed_9 rfl hl (Nat.le_of_ble_eq_true rfl) rfl (fun ls hl => ?_)
  refine lv_iload_n hx hb dX1_owed_10 rfl (lv_at hl 0 rfl) ?_
  refine lv_bipush (v := 30) hx hb dX1_owed_11 (by decide) ?_
  refine lv_icmp_lt (tgt := 21) hx hb dX1_owed_13 (by decide) (fun c1 => ?_) (fun c1 => ?_)
  · rw [if_pos c1] at hR
    refine lv_iload_n hx hb dX1_owed_21 rfl (lv_at hl 0 rfl) ?_
    refine lv_bipush (v := 14) hx hb dX1_owed_22 (by decide) ?_
    refine lv_icmp_lt (tgt := 32) hx hb dX1_owed_24 (by decide) (fun c2 => ?_) (fun c2 => ?_)
    · rw [if_pos c2] at hR
      refine lv_iload_n hx hb dX1_owed_32 rfl (lv_at hl 0 rfl) ?_
      refine lv_bipush (v := 7) hx hb dX1_owed_33 (by decide) ?_
      refine lv_icmp_lt (tgt := 43) hx hb dX1_owed_35 (by decide) (fun c3 => ?_) (fun c3 => ?_)
      · rw [if_pos c3] at hR
        refine lv_bipush (v := 100) hx hb dX1_owed_43 (by decide) ?_
        refine lv_istore_n (lv' := [(3, .int 100), (2, .int ((nI (wDay σ wi)) - (tod σ))), (0, .ref (α 0 0)), (1, .ref (α 5 wi))]) hx hb dX1_owed_45 rfl hl (Nat.le_of_ble_eq_true rfl) rfl (fun ls hl => ?_)
        refine lv_aload_n hx hb dX1_owed_46 rfl (lv_at hl 3 rfl) ?_
        refine gfN (v := .int (wPrice σ wi)) (C := RX10) (T := TX10) (N := 12) (k := 9) hx hb hts hown hG cl_X10 in_X10 (hX.wd h_wi) (by decide) q1029 rfl dX1_owed_47 ?_
        refine lv_iload_n hx hb dX1_owed_50 rfl (lv_at hl 0 rfl) ?_
        refine lv_imul hx hb dX1_owed_51 ?_
        refine lv_bipush (v := 100) hx hb dX1_owed_52 (by decide) ?_
        refine lv_idiv hx hb dX1_owed_54 (by decide) ?_
        exact p_iret hx hb hr hlocks dX1_owed_55 (by rw [← hR])
      · rw [if_neg c3] at hR
        refine lv_bipush (v := 70) hx hb dX1_owed_38 (by decide) ?_
        refine lv_goto (tgt := 45) hx hb dX1_owed_40 (by decide) ?_
        refine lv_istore_n (lv' := [(3, .int 70), (2, .int ((nI (wDay σ wi)) - (tod σ))), (0, .ref (α 0 0)), (1, .ref (α 5 wi))]) hx hb dX1_owed_45 rfl hl (Nat.le_of_ble_eq_true rfl) rfl (fun ls hl => ?_)
        refine lv_aload_n hx hb dX1_owed_46 rfl (lv_at hl 3 rfl) ?_
        refine gfN (v := .int (wPrice σ wi)) (C := RX10) (T := TX10) (N := 12) (k := 9) hx hb hts hown hG cl_X10 in_X10 (hX.wd h_wi) (by decide) q1029 rfl dX1_owed_47 ?_
        refine lv_iload_n hx hb dX1_owed_50 rfl (lv_at hl 0 rfl) ?_
        refine lv_imul hx hb dX1_owed_51 ?_
        refine lv_bipush (v := 100) hx hb dX1_owed_52 (by decide) ?_
        refine lv_idiv hx hb dX1_owed_54 (by decide) ?_
        exact p_iret hx hb hr hlocks dX1_owed_55 (by rw [← hR])
    · rw [if_neg c2] at hR
      refine lv_bipush (v := 40) hx hb dX1_owed_27 (by decide) ?_
      refine lv_goto (tgt := 45) hx hb dX1_owed_29 (by decide) ?_
      refine lv_istore_n (lv' := [(3, .int 40), (2, .int ((nI (wDay σ wi)) - (tod σ))), (0, .ref (α 0 0)), (1, .ref (α 5 wi))]) hx hb dX1_owed_45 rfl hl (Nat.le_of_ble_eq_true rfl) rfl (fun ls hl => ?_)
      refine lv_aload_n hx hb dX1_owed_46 rfl (lv_at hl 3 rfl) ?_
      refine gfN (v := .int (wPrice σ wi)) (C := RX10) (T := TX10) (N := 12) (k := 9) hx hb hts hown hG cl_X10 in_X10 (hX.wd h_wi) (by decide) q1029 rfl dX1_owed_47 ?_
      refine lv_iload_n hx hb dX1_owed_50 rfl (lv_at hl 0 rfl) ?_
      refine lv_imul hx hb dX1_owed_51 ?_
      refine lv_bipush (v := 100) hx hb dX1_owed_52 (by decide) ?_
      refine lv_idiv hx hb dX1_owed_54 (by decide) ?_
      exact p_iret hx hb hr hlocks dX1_owed_55 (by rw [← hR])
  · rw [if_neg c1] at hR
    refine lv_bipush (v := 20) hx hb dX1_owed_16 (by decide) ?_
    refine lv_goto (tgt := 45) hx hb dX1_owed_18 (by decide) ?_
    refine lv_istore_n (lv' := [(3, .int 20), (2, .int ((nI (wDay σ wi)) - (tod σ))), (0, .ref (α 0 0)), (1, .ref (α 5 wi))]) hx hb dX1_owed_45 rfl hl (Nat.le_of_ble_eq_true rfl) rfl (fun ls hl => ?_)
    refine lv_aload_n hx hb dX1_owed_46 rfl (lv_at hl 3 rfl) ?_
    refine gfN (v := .int (wPrice σ wi)) (C := RX10) (T := TX10) (N := 12) (k := 9) hx hb hts hown hG cl_X10 in_X10 (hX.wd h_wi) (by decide) q1029 rfl dX1_owed_47 ?_
    refine lv_iload_n hx hb dX1_owed_50 rfl (lv_at hl 0 rfl) ?_
    refine lv_imul hx hb dX1_owed_51 ?_
    refine lv_bipush (v := 100) hx hb dX1_owed_52 (by decide) ?_
    refine lv_idiv hx hb dX1_owed_54 (by decide) ?_
    exact p_iret hx hb hr hlocks dX1_owed_55 (by rw [← hR])

def fX1_extra_L4 (σ : St) (wi : Nat)  (κ : Int32 → Int32) : Nat → Nat → Int32 → Int32
  | 0, i3, a2 => κ a2
  | n + 1, i3, a2 => (if ((fX1_has (wSet σ wi) (nI i3))) = true then fX1_extra_L4 σ wi κ n (i3 + 1) (a2 + (pFee σ i3)) else fX1_extra_L4 σ wi κ n (i3 + 1) (a2 + 0))
def fX1_extra (σ : St) (wi : Nat) : Int32 :=
  fX1_extra_L4 σ wi (fun (a2 : Int32) => (((fX10_quarters σ wi)) * a2) / 4) (nP σ) 0 0
set_option maxHeartbeats 4000000 in
set_option maxRecDepth 100000 in
theorem met_X1_extra (l : Launch) (D : va_G) (E : Nat → Nat) {α : Nat → Nat → Nat} {F : Nat → Prop} {σ : St} (wi : Nat) (h_wi : wi < nW σ) : PM l D E yX1_extra cX1_extra 4 (Option.some Jvm.ClassFile.FieldType.int) 3 64 [.ref (α 0 0), .ref (α 5 wi)] (RX D E α F σ) (some (.int (fX1_extra σ wi))) := by
  generalize hR : fX1_extra σ wi = r
  refine PM.start (by decide) (Nat.le_of_ble_eq_true rfl) ?_
  intro p e s m below meth c ls hx hb hr hml hown hlocks hts hG hX hl
  have hown : s.vm.findClass RX1 = some m.cls := hown
  have hS0 : xS p m c cX1_extra 4 s _ RX1 := ⟨hx, hb, hml, hown, hts⟩
  have hl : lv_has ls 4 [(0, .ref (α 0 0)), (1, .ref (α 5 wi))] := hl
  have hL4 : ∀ (κ : Int32 → Int32) (hκ : ∀ (a2 : Int32) (ls : Array Slot), κ a2 = r → lv_has ls 4 [(1, .ref (α 5 wi)), (2, .int (a2))] → W p l e { frames := 3, cells := 0, slots := 0, locals := 64 } s m [(.ref (α 0 0) : Value), .ref (α 5 wi)].toArray below meth c s.heap [] 0 0 (MQ below (qP (some (.int r))) [(.ref (α 0 0) : Value), .ref (α 5 wi)].toArray s 0 0 (fun _ => False)) (F0 m 57 ls [])) (n : Nat) (i3 : Nat) (a2 : Int32), i3 + n = nP σ → fX1_extra_L4 σ wi κ n i3 a2 = r → ∀ (ls : Array Slot), lv_has ls 4 [(0, .ref (α 0 0)), (1, .ref (α 5 wi)), (2, .int (a2)), (3, .int (nI i3))] → W p l e { frames := 3, cells := 0, slots := 0, locals := 64 } s m [(.ref (α 0 0) : Value), .ref (α 5 wi)].toArray below meth c s.heap [] 0 0 (MQ below (qP (some (.int r))) [(.ref (α 0 0) : Value), .ref (α 5 wi)].toArray s 0 0 (fun _ => False)) (F0 m 4 ls []) := by
    intro  κ hκ n
    induction n with
    | zero =>
      intro i3 a2 hn hR ls hl
      rw [fX1_extra_L4] at hR
      refine lv_iload_n hx hb dX1_extra_4 rfl (lv_at hl 3 rfl) ?_
      refine lv_aload_n hx hb dX1_extra_5 rfl (lv_at hl 0 rfl) ?_
      refine gf (v := .ref (α 1 0)) (C := RX1) (T := TX1) (N := 6) (k := 0) hx hb hts hown hG cl_X1 in_X1 hX.ag (by decide) q301 rfl dX1_extra_6 ?_
      refine pcF (x := xL_size) (ci := 13) (As := []) (rest := [.int (nI i3)]) hG.fw_size hS0 (met_xl_size l D E (j := 0) (by decide)) q331 q334 q336 q103 q338 hd_xL_size ⟨Nat.le_of_ble_eq_true rfl, Nat.le_of_ble_eq_true rfl⟩ hG cl_J2 (hX.lsR hG (j := 0) (by decide)) hX rfl hl.1 rfl (Nat.le_of_ble_eq_true rfl) dX1_extra_9 ⟨Nat.le_refl _, Nat.le_refl _⟩ ?_
      refine W.eq (g2 := F0 m 14 ls [.int (nI (nP σ)), .int (nI i3)]) rfl ?_
      refine lk_ge_out (k := i3) (N := nP σ) hx hb hn (tgt := 57) dX1_extra_14 (by decide) ?_
      exact hκ a2 ls hR (lv_sub hl [1, 2] rfl)
    | succ n ih =>
      intro i3 a2 hn hR ls hl
      rw [fX1_extra_L4] at hR
      refine lv_iload_n hx hb dX1_extra_4 rfl (lv_at hl 3 rfl) ?_
      refine lv_aload_n hx hb dX1_extra_5 rfl (lv_at hl 0 rfl) ?_
      refine gf (v := .ref (α 1 0)) (C := RX1) (T := TX1) (N := 6) (k := 0) hx hb hts hown hG cl_X1 in_X1 hX.ag (by decide) q301 rfl dX1_extra_6 ?_
      refine pcF (x := xL_size) (ci := 13) (As := []) (rest := [.int (nI i3)]) hG.fw_size hS0 (met_xl_size l D E (j := 0) (by decide)) q331 q334 q336 q103 q338 hd_xL_size ⟨Nat.le_of_ble_eq_true rfl, Nat.le_of_ble_eq_true rfl⟩ hG cl_J2 (hX.lsR hG (j := 0) (by decide)) hX rfl hl.1 rfl (Nat.le_of_ble_eq_true rfl) dX1_extra_9 ⟨Nat.le_refl _, Nat.le_refl _⟩ ?_
      refine W.eq (g2 := F0 m 14 ls [.int (nI (nP σ)), .int (nI i3)]) rfl ?_
      have hki3 : i3 < nP σ := lk_lt hn
      refine lk_ge_in (k := i3) (N := nP σ) hx hb hki3 (by have := hX.nP10; omega) (tgt := 57) dX1_extra_14 (by decide) ?_
      refine lv_iload_n hx hb dX1_extra_17 rfl (lv_at hl 2 rfl) ?_
      refine lv_aload_n hx hb dX1_extra_18 rfl (lv_at hl 1 rfl) ?_
      refine gfN (v := .int (wSet σ wi)) (C := RX10) (T := TX10) (N := 12) (k := 8) hx hb hts hown hG cl_X10 in_X10 (hX.wd h_wi) (by decide) q1027 rfl dX1_extra_19 ?_
      refine lv_iload_n hx hb dX1_extra_22 rfl (lv_at hl 3 rfl) ?_
      refine pcS (As := [.int (wSet σ wi), .int (nI i3)]) (rest := [.int (a2)]) hS0 (met_X1_has l D E (wSet σ wi) (nI i3)) q374 q375 q100 q376 hd_X1_has ⟨Nat.le_of_ble_eq_true rfl, Nat.le_of_ble_eq_true rfl⟩ hG trivial rfl hl.1 rfl (Nat.le_of_ble_eq_true rfl) dX1_extra_23 ⟨Nat.le_refl _, Nat.le_refl _⟩ ?_
      refine W.eq (g2 := F0 m 26 ls [.int (bI ((fX1_has (wSet σ wi) (nI i3)))), .int (a2)]) rfl ?_
      refine lb_if_eq (tgt := 48) hx hb dX1_extra_26 (by decide) (fun c1 => ?_) (fun c1 => ?_)
      · rw [if_neg c1] at hR
        refine lv_iconst (v := 0) hx hb dX1_extra_48 (by decide) ?_
        refine lv_iadd hx hb dX1_extra_49 ?_
        refine lv_istore_n (lv' := [(2, .int (a2 + 0)), (0, .ref (α 0 0)), (1, .ref (α 5 wi)), (3, .int (nI i3))]) hx hb dX1_extra_50 rfl hl (Nat.le_of_ble_eq_true rfl) rfl (fun ls hl => ?_)
        refine lv_iinc (v := nI (i3 + 1)) (lv' := [(3, .int (nI (i3 + 1))), (2, .int (a2 + 0)), (0, .ref (α 0 0)), (1, .ref (α 5 wi))]) hx hb dX1_extra_51 hl (k := 3) rfl (nI_1 i3) (Nat.le_of_ble_eq_true rfl) rfl (fun ls hl => ?_)
        refine lv_goto (tgt := 4) hx hb dX1_extra_54 (by decide) ?_
        exact ih (i3 + 1) (a2 + 0) (lk_st hn) hR ls (lv_sub hl [2, 3, 1, 0] rfl)
      · rw [if_pos c1] at hR
        refine lv_aload_n hx hb dX1_extra_29 rfl (lv_at hl 0 rfl) ?_
        refine gf (v := .ref (α 1 0)) (C := RX1) (T := TX1) (N := 6) (k := 0) hx hb hts hown hG cl_X1 in_X1 hX.ag (by decide) q301 rfl dX1_extra_30 ?_
        refine lv_iload_n hx hb dX1_extra_33 rfl (lv_at hl 3 rfl) ?_
        refine pcF (x := xL_get) (ci := 13) (As := [.int (nI i3)]) (rest := [.int (a2)]) hG.fw_get hS0 (met_xl_get l D E (j := 0) (by decide) i3 hki3) q344 q347 q349 q103 q351 hd_xL_get ⟨Nat.le_of_ble_eq_true rfl, Nat.le_of_ble_eq_true rfl⟩ hG cl_J2 (hX.lsR hG (j := 0) (by decide)) hX rfl hl.1 rfl (Nat.le_of_ble_eq_true rfl) dX1_extra_34 ⟨Nat.le_refl _, Nat.le_refl _⟩ ?_
        refine W.eq (g2 := F0 m 39 ls [.ref (α 3 i3), .int (a2)]) rfl ?_
        refine gc (ci := 5) hx hb hown hG cl_X6 (rcv hG cl_X6 (hX.pl hki3)) (hts _ q362) dX1_extra_39 ?_
        refine gfN (v := .int (pFee σ i3)) (C := RX6) (T := TX6) (N := 7) (k := 2) hx hb hts hown hG cl_X6 in_X6 (hX.pl hki3) (by decide) q914 rfl dX1_extra_42 ?_
        refine lv_goto (tgt := 49) hx hb dX1_extra_45 (by decide) ?_
        refine lv_iadd hx hb dX1_extra_49 ?_
        refine lv_istore_n (lv' := [(2, .int (a2 + (pFee σ i3))), (0, .ref (α 0 0)), (1, .ref (α 5 wi)), (3, .int (nI i3))]) hx hb dX1_extra_50 rfl hl (Nat.le_of_ble_eq_true rfl) rfl (fun ls hl => ?_)
        refine lv_iinc (v := nI (i3 + 1)) (lv' := [(3, .int (nI (i3 + 1))), (2, .int (a2 + (pFee σ i3))), (0, .ref (α 0 0)), (1, .ref (α 5 wi))]) hx hb dX1_extra_51 hl (k := 3) rfl (nI_1 i3) (Nat.le_of_ble_eq_true rfl) rfl (fun ls hl => ?_)
        refine lv_goto (tgt := 4) hx hb dX1_extra_54 (by decide) ?_
        exact ih (i3 + 1) (a2 + (pFee σ i3)) (lk_st hn) hR ls (lv_sub hl [2, 3, 1, 0] rfl)
  unfold fX1_extra at hR
  refine lv_iconst (v := 0) hx hb dX1_extra_0 (by decide) ?_
  refine lv_istore_n (lv' := [(2, .int 0), (0, .ref (α 0 0)), (1, .ref (α 5 wi))]) hx hb dX1_extra_1 rfl hl (Nat.le_of_ble_eq_true rfl) rfl (fun ls hl => ?_)
  refine lv_iconst (v := 0) hx hb dX1_extra_2 (by decide) ?_
  refine lv_istore_n (lv' := [(3, .int 0), (2, .int 0), (0, .ref (α 0 0)), (1, .ref (α 5 wi))]) hx hb dX1_extra_3 rfl hl (Nat.le_of_ble_eq_true rfl) rfl (fun ls hl => ?_)
  refine hL4  _ (fun a2 ls hR hl => ?_) (nP σ) 0 0 (Nat.zero_add _) hR ls (lv_sub hl [2, 3, 1, 0] rfl)
  refine lv_aload_n hx hb dX1_extra_57 rfl (lv_at hl 0 rfl) ?_
  refine pcV (As := []) (rest := []) hS0 (met_X10_quarters l D E wi h_wi) q490 q491 q492 q130 q493 hd_X10_quarters ⟨Nat.le_of_ble_eq_true rfl, Nat.le_of_ble_eq_true rfl⟩ hG (rcv hG cl_X10 (hX.wd h_wi)) hX rfl hl.1 rfl (Nat.le_of_ble_eq_true rfl) dX1_extra_58 ⟨Nat.le_refl _, Nat.le_refl _⟩ ?_
  refine W.eq (g2 := F0 m 61 ls [.int ((fX10_quarters σ wi))]) rfl ?_
  refine lv_iload_n hx hb dX1_extra_61 rfl (lv_at hl 1 rfl) ?_
  refine lv_imul hx hb dX1_extra_62 ?_
  refine lv_iconst (v := 4) hx hb dX1_extra_63 (by decide) ?_
  refine lv_idiv hx hb dX1_extra_64 (by decide) ?_
  exact p_iret hx hb hr hlocks dX1_extra_65 (by rw [← hR])

def fX1_earns (σ : St) (pi : Nat) (wi : Nat) : Int32 :=
  ((fX1_cost σ pi wi)) + ((((fX10_quarters σ wi)) * (pFee σ pi)) / 4)
set_option maxHeartbeats 4000000 in
set_option maxRecDepth 100000 in
theorem met_X1_earns (l : Launch) (D : va_G) (E : Nat → Nat) {α : Nat → Nat → Nat} {F : Nat → Prop} {σ : St} (pi : Nat) (wi : Nat) (h_pi : pi < nP σ) (h_wi : wi < nW σ) : PM l D E yX1_earns cX1_earns 3 (Option.some Jvm.ClassFile.FieldType.int) 4 87 [.ref (α 0 0), .int (nI pi), .ref (α 5 wi)] (RX D E α F σ) (some (.int (fX1_earns σ pi wi))) := by
  generalize hR : fX1_earns σ pi wi = r
  refine PM.start (by decide) (Nat.le_of_ble_eq_true rfl) ?_
  intro p e s m below meth c ls hx hb hr hml hown hlocks hts hG hX hl
  have hown : s.vm.findClass RX1 = some m.cls := hown
  have hS0 : xS p m c cX1_earns 3 s _ RX1 := ⟨hx, hb, hml, hown, hts⟩
  have hl : lv_has ls 3 [(0, .ref (α 0 0)), (1, .int (nI pi)), (2, .ref (α 5 wi))] := hl
  unfold fX1_earns at hR
  refine lv_aload_n hx hb dX1_earns_0 rfl (lv_at hl 0 rfl) ?_
  refine lv_iload_n hx hb dX1_earns_1 rfl (lv_at hl 1 rfl) ?_
  refine lv_aload_n hx hb dX1_earns_2 rfl (lv_at hl 2 rfl) ?_
  refine pcV (As := [.int (nI pi), .ref (α 5 wi)]) (rest := []) hS0 (met_X1_cost l D E pi wi h_pi h_wi) q1126 q531 qs26 q100 q532 hd_X1_cost ⟨Nat.le_of_ble_eq_true rfl, Nat.le_of_ble_eq_true rfl⟩ hG (rcv hG cl_X1 hX.ag) hX rfl hl.1 rfl (Nat.le_of_ble_eq_true rfl) dX1_earns_3 ⟨Nat.le_refl _, Nat.le_refl _⟩ ?_
  refine W.eq (g2 := F0 m 6 ls [.int ((fX1_cost σ pi wi))]) rfl ?_
  refine lv_aload_n hx hb dX1_earns_6 rfl (lv_at hl 2 rfl) ?_
  refine pcV (As := []) (rest := [.int ((fX1_cost σ pi wi))]) hS0 (met_X10_quarters l D E wi h_wi) q490 q491 q492 q130 q493 hd_X10_quarters ⟨Nat.le_of_ble_eq_true rfl, Nat.le_of_ble_eq_true rfl⟩ hG (rcv hG cl_X10 (hX.wd h_wi)) hX rfl hl.1 rfl (Nat.le_of_ble_eq_true rfl) dX1_earns_7 ⟨Nat.le_refl _, Nat.le_refl _⟩ ?_
  refine W.eq (g2 := F0 m 10 ls [.int ((fX10_quarters σ wi)), .int ((fX1_cost σ pi wi))]) rfl ?_
  refine lv_aload_n hx hb dX1_earns_10 rfl (lv_at hl 0 rfl) ?_
  refine gf (v := .ref (α 1 0)) (C := RX1) (T := TX1) (N := 6) (k := 0) hx hb hts hown hG cl_X1 in_X1 hX.ag (by decide) q301 rfl dX1_earns_11 ?_
  refine lv_iload_n hx hb dX1_earns_14 rfl (lv_at hl 1 rfl) ?_
  refine pcF (x := xL_get) (ci := 13) (As := [.int (nI pi)]) (rest := [.int ((fX10_quarters σ wi)), .int ((fX1_cost σ pi wi))]) hG.fw_get hS0 (met_xl_get l D E (j := 0) (by decide) pi h_pi) q344 q347 q349 q103 q351 hd_xL_get ⟨Nat.le_of_ble_eq_true rfl, Nat.le_of_ble_eq_true rfl⟩ hG cl_J2 (hX.lsR hG (j := 0) (by decide)) hX rfl hl.1 rfl (Nat.le_of_ble_eq_true rfl) dX1_earns_15 ⟨Nat.le_refl _, Nat.le_refl _⟩ ?_
  refine W.eq (g2 := F0 m 20 ls [.ref (α 3 pi), .int ((fX10_quarters σ wi)), .int ((fX1_cost σ pi wi))]) rfl ?_
  refine gc (ci := 5) hx hb hown hG cl_X6 (rcv hG cl_X6 (hX.pl h_pi)) (hts _ q362) dX1_earns_20 ?_
  refine gfN (v := .int (pFee σ pi)) (C := RX6) (T := TX6) (N := 7) (k := 2) hx hb hts hown hG cl_X6 in_X6 (hX.pl h_pi) (by decide) q914 rfl dX1_earns_23 ?_
  refine lv_imul hx hb dX1_earns_26 ?_
  refine lv_iconst (v := 4) hx hb dX1_earns_27 (by decide) ?_
  refine lv_idiv hx hb dX1_earns_28 (by decide) ?_
  refine lv_iadd hx hb dX1_earns_29 ?_
  exact p_iret hx hb hr hlocks dX1_earns_30 (by rw [← hR])

def fX1_share_L4 (σ : St) (q : Nat)  (κ : Int32 → Int32) : Nat → Nat → Int32 → Int32
  | 0, i3, a2 => κ a2
  | n + 1, i3, a2 => fX1_share_L4 σ q κ n (i3 + 1) (a2 + ((sMin σ i3) * (sPlayed σ i3)))
def fX1_share (σ : St) (q : Nat) : Int32 :=
  fX1_share_L4 σ q (fun (a1 : Int32) => (if a1 = 0 then 0 else ((1000 * (sMin σ q)) * (sPlayed σ q)) / a1)) 16 0 0
set_option maxHeartbeats 4000000 in
set_option maxRecDepth 100000 in
theorem met_X1_share (l : Launch) (D : va_G) (E : Nat → Nat) {α : Nat → Nat → Nat} {F : Nat → Prop} {σ : St} (q : Nat) (h_q : q < 16) : PM l D E yX1_share cX1_share 4 (Option.some Jvm.ClassFile.FieldType.int) 3 64 [.ref (α 0 0), .int (nI q)] (RX D E α F σ) (some (.int (fX1_share σ q))) := by
  generalize hR : fX1_share σ q = r
  refine PM.start (by decide) (Nat.le_of_ble_eq_true rfl) ?_
  intro p e s m below meth c ls hx hb hr hml hown hlocks hts hG hX hl
  have hown : s.vm.findClass RX1 = some m.cls := hown
  have hS0 : xS p m c cX1_share 4 s _ RX1 := ⟨hx, hb, hml, hown, hts⟩
  have hl : lv_has ls 4 [(0, .ref (α 0 0)), (1, .int (nI q))] := hl
  have hL4 : ∀ (κ : Int32 → Int32) (hκ : ∀ (a2 : Int32) (ls : Array Slot), κ a2 = r → lv_has ls 4 [(0, .ref (α 0 0)), (1, .int (nI q)), (2, .int (a2))] → W p l e { frames := 3, cells := 0, slots := 0, locals := 64 } s m [(.ref (α 0 0) : Value), .int (nI q)].toArray below meth c s.heap [] 0 0 (MQ below (qP (some (.int r))) [(.ref (α 0 0) : Value), .int (nI q)].toArray s 0 0 (fun _ => False)) (F0 m 52 ls [])) (n : Nat) (i3 : Nat) (a2 : Int32), i3 + n = 16 → fX1_share_L4 σ q κ n i3 a2 = r → ∀ (ls : Array Slot), lv_has ls 4 [(0, .ref (α 0 0)), (1, .int (nI q)), (2, .int (a2)), (3, .int (nI i3))] → W p l e { frames := 3, cells := 0, slots := 0, locals := 64 } s m [(.ref (α 0 0) : Value), .int (nI q)].toArray below meth c s.heap [] 0 0 (MQ below (qP (some (.int r))) [(.ref (α 0 0) : Value), .int (nI q)].toArray s 0 0 (fun _ => False)) (F0 m 4 ls []) := by
    intro  κ hκ n
    induction n with
    | zero =>
      intro i3 a2 hn hR ls hl
      rw [fX1_share_L4] at hR
      refine lv_iload_n hx hb dX1_share_4 rfl (lv_at hl 3 rfl) ?_
      refine lv_bipush (v := 16) hx hb dX1_share_5 (by decide) ?_
      refine lk_ge_out (k := i3) (N := 16) hx hb hn (tgt := 52) dX1_share_7 (by decide) ?_
      exact hκ a2 ls hR (lv_sub hl [0, 1, 2] rfl)
    | succ n ih =>
      intro i3 a2 hn hR ls hl
      rw [fX1_share_L4] at hR
      refine lv_iload_n hx hb dX1_share_4 rfl (lv_at hl 3 rfl) ?_
      refine lv_bipush (v := 16) hx hb dX1_share_5 (by decide) ?_
      have hki3 : i3 < 16 := lk_lt hn
      refine lk_ge_in (k := i3) (N := 16) hx hb hki3 (by decide) (tgt := 52) dX1_share_7 (by decide) ?_
      refine lv_iload_n hx hb dX1_share_10 rfl (lv_at hl 2 rfl) ?_
      refine lv_aload_n hx hb dX1_share_11 rfl (lv_at hl 0 rfl) ?_
      refine gf (v := .ref (α 1 1)) (C := RX1) (T := TX1) (N := 6) (k := 1) hx hb hts hown hG cl_X1 in_X1 hX.ag (by decide) q302 rfl dX1_share_12 ?_
      refine lv_iload_n hx hb dX1_share_15 rfl (lv_at hl 3 rfl) ?_
      refine pcF (x := xL_get) (ci := 13) (As := [.int (nI i3)]) (rest := [.int (a2)]) hG.fw_get hS0 (met_xl_get l D E (j := 1) (by decide) i3 hki3) q344 q347 q349 q103 q351 hd_xL_get ⟨Nat.le_of_ble_eq_true rfl, Nat.le_of_ble_eq_true rfl⟩ hG cl_J2 (hX.lsR hG (j := 1) (by decide)) hX rfl hl.1 rfl (Nat.le_of_ble_eq_true rfl) dX1_share_16 ⟨Nat.le_refl _, Nat.le_refl _⟩ ?_
      refine W.eq (g2 := F0 m 21 ls [.ref (α 6 i3), .int (a2)]) rfl ?_
      refine gc (ci := 2) hx hb hown hG cl_X3 (rcv hG cl_X3 (hX.sg hki3)) (hts _ q200) dX1_share_21 ?_
      refine gfN (v := .int (sMin σ i3)) (C := RX3) (T := TX3) (N := 4) (k := 2) hx hb hts hown hG cl_X3 in_X3 (hX.sg hki3) (by decide) q211 rfl dX1_share_24 ?_
      refine lv_aload_n hx hb dX1_share_27 rfl (lv_at hl 0 rfl) ?_
      refine gf (v := .ref (α 1 1)) (C := RX1) (T := TX1) (N := 6) (k := 1) hx hb hts hown hG cl_X1 in_X1 hX.ag (by decide) q302 rfl dX1_share_28 ?_
      refine lv_iload_n hx hb dX1_share_31 rfl (lv_at hl 3 rfl) ?_
      refine pcF (x := xL_get) (ci := 13) (As := [.int (nI i3)]) (rest := [.int (sMin σ i3), .int (a2)]) hG.fw_get hS0 (met_xl_get l D E (j := 1) (by decide) i3 hki3) q344 q347 q349 q103 q351 hd_xL_get ⟨Nat.le_of_ble_eq_true rfl, Nat.le_of_ble_eq_true rfl⟩ hG cl_J2 (hX.lsR hG (j := 1) (by decide)) hX rfl hl.1 rfl (Nat.le_of_ble_eq_true rfl) dX1_share_32 ⟨Nat.le_refl _, Nat.le_refl _⟩ ?_
      refine W.eq (g2 := F0 m 37 ls [.ref (α 6 i3), .int (sMin σ i3), .int (a2)]) rfl ?_
      refine gc (ci := 2) hx hb hown hG cl_X3 (rcv hG cl_X3 (hX.sg hki3)) (hts _ q200) dX1_share_37 ?_
      refine gfN (v := .int (sPlayed σ i3)) (C := RX3) (T := TX3) (N := 4) (k := 3) hx hb hts hown hG cl_X3 in_X3 (hX.sg hki3) (by decide) q213 rfl dX1_share_40 ?_
      refine lv_imul hx hb dX1_share_43 ?_
      refine lv_iadd hx hb dX1_share_44 ?_
      refine lv_istore_n (lv' := [(2, .int (a2 + ((sMin σ i3) * (sPlayed σ i3)))), (0, .ref (α 0 0)), (1, .int (nI q)), (3, .int (nI i3))]) hx hb dX1_share_45 rfl hl (Nat.le_of_ble_eq_true rfl) rfl (fun ls hl => ?_)
      refine lv_iinc (v := nI (i3 + 1)) (lv' := [(3, .int (nI (i3 + 1))), (2, .int (a2 + ((sMin σ i3) * (sPlayed σ i3)))), (0, .ref (α 0 0)), (1, .int (nI q))]) hx hb dX1_share_46 hl (k := 3) rfl (nI_1 i3) (Nat.le_of_ble_eq_true rfl) rfl (fun ls hl => ?_)
      refine lv_goto (tgt := 4) hx hb dX1_share_49 (by decide) ?_
      exact ih (i3 + 1) (a2 + ((sMin σ i3) * (sPlayed σ i3))) (lk_st hn) hR ls (lv_sub hl [2, 3, 1, 0] rfl)
  unfold fX1_share at hR
  refine lv_iconst (v := 0) hx hb dX1_share_0 (by decide) ?_
  refine lv_istore_n (lv' := [(2, .int 0), (0, .ref (α 0 0)), (1, .int (nI q))]) hx hb dX1_share_1 rfl hl (Nat.le_of_ble_eq_true rfl) rfl (fun ls hl => ?_)
  refine lv_iconst (v := 0) hx hb dX1_share_2 (by decide) ?_
  refine lv_istore_n (lv' := [(3, .int 0), (2, .int 0), (0, .ref (α 0 0)), (1, .int (nI q))]) hx hb dX1_share_3 rfl hl (Nat.le_of_ble_eq_true rfl) rfl (fun ls hl => ?_)
  refine hL4  _ (fun a1 ls hR hl => ?_) 16 0 0 (Nat.zero_add _) hR ls (lv_sub hl [2, 3, 1, 0] rfl)
  refine lv_iload_n hx hb dX1_share_52 rfl (lv_at hl 2 rfl) ?_
  refine lv_if_ne (tgt := 60) hx hb dX1_share_53 (by decide) (fun c2 => ?_) (fun c2 => ?_)
  · rw [if_neg c2] at hR
    refine lv_sipush (v := 1000) hx hb dX1_share_60 (by decide) ?_
    refine lv_aload_n hx hb dX1_share_63 rfl (lv_at hl 0 rfl) ?_
    refine gf (v := .ref (α 1 1)) (C := RX1) (T := TX1) (N := 6) (k := 1) hx hb hts hown hG cl_X1 in_X1 hX.ag (by decide) q302 rfl dX1_share_64 ?_
    refine lv_iload_n hx hb dX1_share_67 rfl (lv_at hl 1 rfl) ?_
    refine pcF (x := xL_get) (ci := 13) (As := [.int (nI q)]) (rest := [.int 1000]) hG.fw_get hS0 (met_xl_get l D E (j := 1) (by decide) q h_q) q344 q347 q349 q103 q351 hd_xL_get ⟨Nat.le_of_ble_eq_true rfl, Nat.le_of_ble_eq_true rfl⟩ hG cl_J2 (hX.lsR hG (j := 1) (by decide)) hX rfl hl.1 rfl (Nat.le_of_ble_eq_true rfl) dX1_share_68 ⟨Nat.le_refl _, Nat.le_refl _⟩ ?_
    refine W.eq (g2 := F0 m 73 ls [.ref (α 6 q), .int 1000]) rfl ?_
    refine gc (ci := 2) hx hb hown hG cl_X3 (rcv hG cl_X3 (hX.sg h_q)) (hts _ q200) dX1_share_73 ?_
    refine gfN (v := .int (sMin σ q)) (C := RX3) (T := TX3) (N := 4) (k := 2) hx hb hts hown hG cl_X3 in_X3 (hX.sg h_q) (by decide) q211 rfl dX1_share_76 ?_
    refine lv_imul hx hb dX1_share_79 ?_
    refine lv_aload_n hx hb dX1_share_80 rfl (lv_at hl 0 rfl) ?_
    refine gf (v := .ref (α 1 1)) (C := RX1) (T := TX1) (N := 6) (k := 1) hx hb hts hown hG cl_X1 in_X1 hX.ag (by decide) q302 rfl dX1_share_81 ?_
    refine lv_iload_n hx hb dX1_share_84 rfl (lv_at hl 1 rfl) ?_
    refine pcF (x := xL_get) (ci := 13) (As := [.int (nI q)]) (rest := [.int (1000 * (sMin σ q))]) hG.fw_get hS0 (met_xl_get l D E (j := 1) (by decide) q h_q) q344 q347 q349 q103 q351 hd_xL_get ⟨Nat.le_of_ble_eq_true rfl, Nat.le_of_ble_eq_true rfl⟩ hG cl_J2 (hX.lsR hG (j := 1) (by decide)) hX rfl hl.1 rfl (Nat.le_of_ble_eq_true rfl) dX1_share_85 ⟨Nat.le_refl _, Nat.le_refl _⟩ ?_
    refine W.eq (g2 := F0 m 90 ls [.ref (α 6 q), .int (1000 * (sMin σ q))]) rfl ?_
    refine gc (ci := 2) hx hb hown hG cl_X3 (rcv hG cl_X3 (hX.sg h_q)) (hts _ q200) dX1_share_90 ?_
    refine gfN (v := .int (sPlayed σ q)) (C := RX3) (T := TX3) (N := 4) (k := 3) hx hb hts hown hG cl_X3 in_X3 (hX.sg h_q) (by decide) q213 rfl dX1_share_93 ?_
    refine lv_imul hx hb dX1_share_96 ?_
    refine lv_iload_n hx hb dX1_share_97 rfl (lv_at hl 2 rfl) ?_
    refine lv_idiv hx hb dX1_share_98 c2 ?_
    exact p_iret hx hb hr hlocks dX1_share_99 (by rw [← hR])
  · rw [if_pos c2] at hR
    refine lv_iconst (v := 0) hx hb dX1_share_56 (by decide) ?_
    refine lv_goto (tgt := 99) hx hb dX1_share_57 (by decide) ?_
    exact p_iret hx hb hr hlocks dX1_share_99 (by rw [← hR])

def fX1_weddingsOf_L6 (σ : St) (pi : Nat) (xi : Nat) (bo : Bool)  (κ : Int32 → Int32) : Nat → Nat → Int32 → Int32
  | 0, i5, a4 => κ a4
  | n + 1, i5, a4 => (if ((fX10_is σ i5 xi)) = true then (if ((fX1_has (wSet σ i5) (nI pi))) = true then (if bo = true then fX1_weddingsOf_L6 σ pi xi bo κ n (i5 + 1) (a4 + (wLen σ i5)) else fX1_weddingsOf_L6 σ pi xi bo κ n (i5 + 1) (a4 + 1)) else fX1_weddingsOf_L6 σ pi xi bo κ n (i5 + 1) (a4 + 0)) else fX1_weddingsOf_L6 σ pi xi bo κ n (i5 + 1) (a4 + 0))
def fX1_weddingsOf (σ : St) (pi : Nat) (xi : Nat) (bo : Bool) : Int32 :=
  fX1_weddingsOf_L6 σ pi xi bo (fun (a4 : Int32) => a4) (nW σ) 0 0
set_option maxHeartbeats 4000000 in
set_option maxRecDepth 100000 in
theorem met_X1_weddingsOf (l : Launch) (D : va_G) (E : Nat → Nat) {α : Nat → Nat → Nat} {F : Nat → Prop} {σ : St} (pi : Nat) (xi : Nat) (bo : Bool) (h_xi : xi < 4) : PM l D E yX1_weddingsOf cX1_weddingsOf 7 (Option.some Jvm.ClassFile.FieldType.int) 3 64 [.ref (α 0 0), .int (nI pi), .ref (E (10 + xi)), .int (bI bo)] (RX D E α F σ) (some (.int (fX1_weddingsOf σ pi xi bo))) := by
  generalize hR : fX1_weddingsOf σ pi xi bo = r
  refine PM.start (by decide) (Nat.le_of_ble_eq_true rfl) ?_
  intro p e s m below meth c ls hx hb hr hml hown hlocks hts hG hX hl
  have hown : s.vm.findClass RX1 = some m.cls := hown
  have hS0 : xS p m c cX1_weddingsOf 7 s _ RX1 := ⟨hx, hb, hml, hown, hts⟩
  have hl : lv_has ls 7 [(0, .ref (α 0 0)), (1, .int (nI pi)), (2, .ref (E (10 + xi))), (3, .int (bI bo))] := hl
  have hL6 : ∀ (κ : Int32 → Int32) (hκ : ∀ (a4 : Int32) (ls : Array Slot), κ a4 = r → lv_has ls 7 [(4, .int (a4))] → W p l e { frames := 3, cells := 0, slots := 0, locals := 64 } s m [(.ref (α 0 0) : Value), .int (nI pi), .ref (E (10 + xi)), .int (bI bo)].toArray below meth c s.heap [] 0 0 (MQ below (qP (some (.int r))) [(.ref (α 0 0) : Value), .int (nI pi), .ref (E (10 + xi)), .int (bI bo)].toArray s 0 0 (fun _ => False)) (F0 m 85 ls [])) (n : Nat) (i5 : Nat) (a4 : Int32), i5 + n = nW σ → fX1_weddingsOf_L6 σ pi xi bo κ n i5 a4 = r → ∀ (ls : Array Slot), lv_has ls 7 [(0, .ref (α 0 0)), (1, .int (nI pi)), (2, .ref (E (10 + xi))), (3, .int (bI bo)), (4, .int (a4)), (5, .int (nI i5))] → W p l e { frames := 3, cells := 0, slots := 0, locals := 64 } s m [(.ref (α 0 0) : Value), .int (nI pi), .ref (E (10 + xi)), .int (bI bo)].toArray below meth c s.heap [] 0 0 (MQ below (qP (some (.int r))) [(.ref (α 0 0) : Value), .int (nI pi), .ref (E (10 + xi)), .int (bI bo)].toArray s 0 0 (fun _ => False)) (F0 m 6 ls []) := by
    intro  κ hκ n
    induction n with
    | zero =>
      intro i5 a4 hn hR ls hl
      rw [fX1_weddingsOf_L6] at hR
      refine lv_iload hx hb dX1_weddingsOf_6 (lv_at hl 5 rfl) ?_
      refine lv_aload_n hx hb dX1_weddingsOf_8 rfl (lv_at hl 0 rfl) ?_
      refine gf (v := .ref (α 1 3)) (C := RX1) (T := TX1) (N := 6) (k := 4) hx hb hts hown hG cl_X1 in_X1 hX.ag (by decide) q307 rfl dX1_weddingsOf_9 ?_
      refine pcF (x := xL_size) (ci := 13) (As := []) (rest := [.int (nI i5)]) hG.fw_size hS0 (met_xl_size l D E (j := 3) (by decide)) q331 q334 q336 q103 q338 hd_xL_size ⟨Nat.le_of_ble_eq_true rfl, Nat.le_of_ble_eq_true rfl⟩ hG cl_J2 (hX.lsR hG (j := 3) (by decide)) hX rfl hl.1 rfl (Nat.le_of_ble_eq_true rfl) dX1_weddingsOf_12 ⟨Nat.le_refl _, Nat.le_refl _⟩ ?_
      refine W.eq (g2 := F0 m 17 ls [.int (nI (nW σ)), .int (nI i5)]) rfl ?_
      refine lk_ge_out (k := i5) (N := nW σ) hx hb hn (tgt := 85) dX1_weddingsOf_17 (by decide) ?_
      exact hκ a4 ls hR (lv_sub hl [4] rfl)
    | succ n ih =>
      intro i5 a4 hn hR ls hl
      rw [fX1_weddingsOf_L6] at hR
      refine lv_iload hx hb dX1_weddingsOf_6 (lv_at hl 5 rfl) ?_
      refine lv_aload_n hx hb dX1_weddingsOf_8 rfl (lv_at hl 0 rfl) ?_
      refine gf (v := .ref (α 1 3)) (C := RX1) (T := TX1) (N := 6) (k := 4) hx hb hts hown hG cl_X1 in_X1 hX.ag (by decide) q307 rfl dX1_weddingsOf_9 ?_
      refine pcF (x := xL_size) (ci := 13) (As := []) (rest := [.int (nI i5)]) hG.fw_size hS0 (met_xl_size l D E (j := 3) (by decide)) q331 q334 q336 q103 q338 hd_xL_size ⟨Nat.le_of_ble_eq_true rfl, Nat.le_of_ble_eq_true rfl⟩ hG cl_J2 (hX.lsR hG (j := 3) (by decide)) hX rfl hl.1 rfl (Nat.le_of_ble_eq_true rfl) dX1_weddingsOf_12 ⟨Nat.le_refl _, Nat.le_refl _⟩ ?_
      refine W.eq (g2 := F0 m 17 ls [.int (nI (nW σ)), .int (nI i5)]) rfl ?_
      have hki5 : i5 < nW σ := lk_lt hn
      refine lk_ge_in (k := i5) (N := nW σ) hx hb hki5 (by have := hX.nW14; omega) (tgt := 85) dX1_weddingsOf_17 (by decide) ?_
      refine lv_aload_n hx hb dX1_weddingsOf_20 rfl (lv_at hl 0 rfl) ?_
      refine gf (v := .ref (α 1 3)) (C := RX1) (T := TX1) (N := 6) (k := 4) hx hb hts hown hG cl_X1 in_X1 hX.ag (by decide) q307 rfl dX1_weddingsOf_21 ?_
      refine lv_iload hx hb dX1_weddingsOf_24 (lv_at hl 5 rfl) ?_
      refine pcF (x := xL_get) (ci := 13) (As := [.int (nI i5)]) (rest := []) hG.fw_get hS0 (met_xl_get l D E (j := 3) (by decide) i5 hki5) q344 q347 q349 q103 q351 hd_xL_get ⟨Nat.le_of_ble_eq_true rfl, Nat.le_of_ble_eq_true rfl⟩ hG cl_J2 (hX.lsR hG (j := 3) (by decide)) hX rfl hl.1 rfl (Nat.le_of_ble_eq_true rfl) dX1_weddingsOf_26 ⟨Nat.le_refl _, Nat.le_refl _⟩ ?_
      refine W.eq (g2 := F0 m 31 ls [.ref (α 5 i5)]) rfl ?_
      refine gc (ci := 8) hx hb hown hG cl_X10 (rcv hG cl_X10 (hX.wd hki5)) (hts _ q369) dX1_weddingsOf_31 ?_
      refine lv_astore (lv' := [(6, .ref (α 5 i5)), (0, .ref (α 0 0)), (1, .int (nI pi)), (2, .ref (E (10 + xi))), (3, .int (bI bo)), (4, .int (a4)), (5, .int (nI i5))]) hx hb dX1_weddingsOf_34 hl (Nat.le_of_ble_eq_true rfl) rfl (fun ls hl => ?_)
      refine lv_iload hx hb dX1_weddingsOf_36 (lv_at hl 5 rfl) ?_
      refine lv_aload hx hb dX1_weddingsOf_38 (lv_at hl 0 rfl) ?_
      refine lv_aload_n hx hb dX1_weddingsOf_40 rfl (lv_at hl 3 rfl) ?_
      refine pcV (As := [.ref (E (10 + xi))]) (rest := [.int (a4)]) hS0 (met_X10_is l D E i5 xi hki5 h_xi) q370 q371 q372 q130 q373 hd_X10_is ⟨Nat.le_of_ble_eq_true rfl, Nat.le_of_ble_eq_true rfl⟩ hG (rcv hG cl_X10 (hX.wd hki5)) hX rfl hl.1 rfl (Nat.le_of_ble_eq_true rfl) dX1_weddingsOf_41 ⟨Nat.le_refl _, Nat.le_refl _⟩ ?_
      refine W.eq (g2 := F0 m 44 ls [.int (bI ((fX10_is σ i5 xi))), .int (a4)]) rfl ?_
      refine lb_if_eq (tgt := 75) hx hb dX1_weddingsOf_44 (by decide) (fun c1 => ?_) (fun c1 => ?_)
      · rw [if_neg c1] at hR
        refine lv_iconst (v := 0) hx hb dX1_weddingsOf_75 (by decide) ?_
        refine lv_iadd hx hb dX1_weddingsOf_76 ?_
        refine lv_istore (lv' := [(4, .int (a4 + 0)), (6, .ref (α 5 i5)), (0, .ref (α 0 0)), (1, .int (nI pi)), (2, .ref (E (10 + xi))), (3, .int (bI bo)), (5, .int (nI i5))]) hx hb dX1_weddingsOf_77 hl (Nat.le_of_ble_eq_true rfl) rfl (fun ls hl => ?_)
        refine lv_iinc (v := nI (i5 + 1)) (lv' := [(5, .int (nI (i5 + 1))), (4, .int (a4 + 0)), (6, .ref (α 5 i5)), (0, .ref (α 0 0)), (1, .int (nI pi)), (2, .ref (E (10 + xi))), (3, .int (bI bo))]) hx hb dX1_weddingsOf_79 hl (k := 6) rfl (nI_1 i5) (Nat.le_of_ble_eq_true rfl) rfl (fun ls hl => ?_)
        refine lv_goto (tgt := 6) hx hb dX1_weddingsOf_82 (by decide) ?_
        exact ih (i5 + 1) (a4 + 0) (lk_st hn) hR ls (lv_sub hl [3, 4, 5, 6, 1, 0] rfl)
      · rw [if_pos c1] at hR
        refine lv_aload hx hb dX1_weddingsOf_47 (lv_at hl 0 rfl) ?_
        refine gfN (v := .int (wSet σ i5)) (C := RX10) (T := TX10) (N := 12) (k := 8) hx hb hts hown hG cl_X10 in_X10 (hX.wd hki5) (by decide) q1027 rfl dX1_weddingsOf_49 ?_
        refine lv_iload_n hx hb dX1_weddingsOf_52 rfl (lv_at hl 2 rfl) ?_
        refine pcS (As := [.int (wSet σ i5), .int (nI pi)]) (rest := [.int (a4)]) hS0 (met_X1_has l D E (wSet σ i5) (nI pi)) q374 q375 q100 q376 hd_X1_has ⟨Nat.le_of_ble_eq_true rfl, Nat.le_of_ble_eq_true rfl⟩ hG trivial rfl hl.1 rfl (Nat.le_of_ble_eq_true rfl) dX1_weddingsOf_53 ⟨Nat.le_refl _, Nat.le_refl _⟩ ?_
        refine W.eq (g2 := F0 m 56 ls [.int (bI ((fX1_has (wSet σ i5) (nI pi)))), .int (a4)]) rfl ?_
        refine lb_if_eq (tgt := 75) hx hb dX1_weddingsOf_56 (by decide) (fun c2 => ?_) (fun c2 => ?_)
        · rw [if_neg c2] at hR
          refine lv_iconst (v := 0) hx hb dX1_weddingsOf_75 (by decide) ?_
          refine lv_iadd hx hb dX1_weddingsOf_76 ?_
          refine lv_istore (lv' := [(4, .int (a4 + 0)), (6, .ref (α 5 i5)), (0, .ref (α 0 0)), (1, .int (nI pi)), (2, .ref (E (10 + xi))), (3, .int (bI bo)), (5, .int (nI i5))]) hx hb dX1_weddingsOf_77 hl (Nat.le_of_ble_eq_true rfl) rfl (fun ls hl => ?_)
          refine lv_iinc (v := nI (i5 + 1)) (lv' := [(5, .int (nI (i5 + 1))), (4, .int (a4 + 0)), (6, .ref (α 5 i5)), (0, .ref (α 0 0)), (1, .int (nI pi)), (2, .ref (E (10 + xi))), (3, .int (bI bo))]) hx hb dX1_weddingsOf_79 hl (k := 6) rfl (nI_1 i5) (Nat.le_of_ble_eq_true rfl) rfl (fun ls hl => ?_)
          refine lv_goto (tgt := 6) hx hb dX1_weddingsOf_82 (by decide) ?_
          exact ih (i5 + 1) (a4 + 0) (lk_st hn) hR ls (lv_sub hl [3, 4, 5, 6, 1, 0] rfl)
        · rw [if_pos c2] at hR
          refine lv_iload_n hx hb dX1_weddingsOf_59 rfl (lv_at hl 4 rfl) ?_
          refine lb_if_eq (tgt := 71) hx hb dX1_weddingsOf_60 (by decide) (fun c3 => ?_) (fun c3 => ?_)
          · rw [if_neg c3] at hR
            refine lv_iconst (v := 1) hx hb dX1_weddingsOf_71 (by decide) ?_
            refine lv_goto (tgt := 76) hx hb dX1_weddingsOf_72 (by decide) ?_
            refine lv_iadd hx hb dX1_weddingsOf_76 ?_
            refine lv_istore (lv' := [(4, .int (a4 + 1)), (6, .ref (α 5 i5)), (0, .ref (α 0 0)), (1, .int (nI pi)), (2, .ref (E (10 + xi))), (3, .int (bI bo)), (5, .int (nI i5))]) hx hb dX1_weddingsOf_77 hl (Nat.le_of_ble_eq_true rfl) rfl (fun ls hl => ?_)
            refine lv_iinc (v := nI (i5 + 1)) (lv' := [(5, .int (nI (i5 + 1))), (4, .int (a4 + 1)), (6, .ref (α 5 i5)), (0, .ref (α 0 0)), (1, .int (nI pi)), (2, .ref (E (10 + xi))), (3, .int (bI bo))]) hx hb dX1_weddingsOf_79 hl (k := 6) rfl (nI_1 i5) (Nat.le_of_ble_eq_true rfl) rfl (fun ls hl => ?_)
            refine lv_goto (tgt := 6) hx hb dX1_weddingsOf_82 (by decide) ?_
            exact ih (i5 + 1) (a4 + 1) (lk_st hn) hR ls (lv_sub hl [3, 4, 5, 6, 1, 0] rfl)
          · rw [if_pos c3] at hR
            refine lv_aload hx hb dX1_weddingsOf_63 (lv_at hl 0 rfl) ?_
            refine gfN (v := .int (wLen σ i5)) (C := RX10) (T := TX10) (N := 12) (k := 4) hx hb hts hown hG cl_X10 in_X10 (hX.wd hki5) (by decide) q1018 rfl dX1_weddingsOf_65 ?_
            refine lv_goto (tgt := 76) hx hb dX1_weddingsOf_68 (by decide) ?_
            refine lv_iadd hx hb dX1_weddingsOf_76 ?_
            refine lv_istore (lv' := [(4, .int (a4 + (wLen σ i5))), (6, .ref (α 5 i5)), (0, .ref (α 0 0)), (1, .int (nI pi)), (2, .ref (E (10 + xi))), (3, .int (bI bo)), (5, .int (nI i5))]) hx hb dX1_weddingsOf_77 hl (Nat.le_of_ble_eq_true rfl) rfl (fun ls hl => ?_)
            refine lv_iinc (v := nI (i5 + 1)) (lv' := [(5, .int (nI (i5 + 1))), (4, .int (a4 + (wLen σ i5))), (6, .ref (α 5 i5)), (0, .ref (α 0 0)), (1, .int (nI pi)), (2, .ref (E (10 + xi))), (3, .int (bI bo))]) hx hb dX1_weddingsOf_79 hl (k := 6) rfl (nI_1 i5) (Nat.le_of_ble_eq_true rfl) rfl (fun ls hl => ?_)
            refine lv_goto (tgt := 6) hx hb dX1_weddingsOf_82 (by decide) ?_
            exact ih (i5 + 1) (a4 + (wLen σ i5)) (lk_st hn) hR ls (lv_sub hl [3, 4, 5, 6, 1, 0] rfl)
  unfold fX1_weddingsOf at hR
  refine lv_iconst (v := 0) hx hb dX1_weddingsOf_0 (by decide) ?_
  refine lv_istore (lv' := [(4, .int 0), (0, .ref (α 0 0)), (1, .int (nI pi)), (2, .ref (E (10 + xi))), (3, .int (bI bo))]) hx hb dX1_weddingsOf_1 hl (Nat.le_of_ble_eq_true rfl) rfl (fun ls hl => ?_)
  refine lv_iconst (v := 0) hx hb dX1_weddingsOf_3 (by decide) ?_
  refine lv_istore (lv' := [(5, .int 0), (4, .int 0), (0, .ref (α 0 0)), (1, .int (nI pi)), (2, .ref (E (10 + xi))), (3, .int (bI bo))]) hx hb dX1_weddingsOf_4 hl (Nat.le_of_ble_eq_true rfl) rfl (fun ls hl => ?_)
  refine hL6  _ (fun a4 ls hR hl => ?_) (nW σ) 0 0 (Nat.zero_add _) hR ls (lv_sub hl [2, 3, 4, 5, 1, 0] rfl)
  refine lv_iload hx hb dX1_weddingsOf_85 (lv_at hl 0 rfl) ?_
  exact p_iret hx hb hr hlocks dX1_weddingsOf_87 (by rw [← hR])

def fX1_playerNow (σ : St) (pi : Nat) (q : Int32) : Int32 :=
  (if q = 0 then pIns σ pi else (if q = 1 then pSongs σ pi else (if q = 2 then nI (pHome σ pi) else (if q = 3 then pFee σ pi else (if q = 4 then pFeuds σ pi else (if q = 5 then pEarned σ pi else (if q = 6 then (fX1_weddingsOf σ pi 1 false) else (if q = 7 then (fX1_weddingsOf σ pi 2 false) else (fX1_weddingsOf σ pi 2 true)))))))))
set_option maxHeartbeats 4000000 in
set_option maxRecDepth 100000 in
theorem met_X1_playerNow (l : Launch) (D : va_G) (E : Nat → Nat) {α : Nat → Nat → Nat} {F : Nat → Prop} {σ : St} (pi : Nat) (q : Int32) (h_pi : pi < nP σ) : PM l D E yX1_playerNow cX1_playerNow 4 (Option.some Jvm.ClassFile.FieldType.int) 4 90 [.ref (α 0 0), .int (nI pi), .int (q)] (RX D E α F σ) (some (.int (fX1_playerNow σ pi q))) := by
  generalize hR : fX1_playerNow σ pi q = r
  refine PM.start (by decide) (Nat.le_of_ble_eq_true rfl) ?_
  intro p e s m below meth c ls hx hb hr hml hown hlocks hts hG hX hl
  have hown : s.vm.findClass RX1 = some m.cls := hown
  have hS0 : xS p m c cX1_playerNow 4 s _ RX1 := ⟨hx, hb, hml, hown, hts⟩
  have hl : lv_has ls 4 [(0, .ref (α 0 0)), (1, .int (nI pi)), (2, .int (q))] := hl
  unfold fX1_playerNow at hR
  refine lv_aload_n hx hb dX1_playerNow_0 rfl (lv_at hl 0 rfl) ?_
  refine gf (v := .ref (α 1 0)) (C := RX1) (T := TX1) (N := 6) (k := 0) hx hb hts hown hG cl_X1 in_X1 hX.ag (by decide) q301 rfl dX1_playerNow_1 ?_
  refine lv_iload_n hx hb dX1_playerNow_4 rfl (lv_at hl 1 rfl) ?_
  refine pcF (x := xL_get) (ci := 13) (As := [.int (nI pi)]) (rest := []) hG.fw_get hS0 (met_xl_get l D E (j := 0) (by decide) pi h_pi) q344 q347 q349 q103 q351 hd_xL_get ⟨Nat.le_of_ble_eq_true rfl, Nat.le_of_ble_eq_true rfl⟩ hG cl_J2 (hX.lsR hG (j := 0) (by decide)) hX rfl hl.1 rfl (Nat.le_of_ble_eq_true rfl) dX1_playerNow_5 ⟨Nat.le_refl _, Nat.le_refl _⟩ ?_
  refine W.eq (g2 := F0 m 10 ls [.ref (α 3 pi)]) rfl ?_
  refine gc (ci := 5) hx hb hown hG cl_X6 (rcv hG cl_X6 (hX.pl h_pi)) (hts _ q362) dX1_playerNow_10 ?_
  refine lv_astore_n (lv' := [(3, .ref (α 3 pi)), (0, .ref (α 0 0)), (1, .int (nI pi)), (2, .int (q))]) hx hb dX1_playerNow_13 rfl hl (Nat.le_of_ble_eq_true rfl) rfl (fun ls hl => ?_)
  refine lv_iload_n hx hb dX1_playerNow_14 rfl (lv_at hl 3 rfl) ?_
  by_cases c1 : q = 0
  · rw [if_pos c1] at hR
    refine lv_eq c1 ?_
    refine lv_tableIn (x := 0) (off := 45) (tgt := 60) hx hb dX1_playerNow_15 (by decide) (by decide) (by decide) (by decide) ?_
    refine lv_aload_n hx hb dX1_playerNow_60 rfl (lv_at hl 0 rfl) ?_
    refine gfN (v := .int (pIns σ pi)) (C := RX6) (T := TX6) (N := 7) (k := 0) hx hb hts hown hG cl_X6 in_X6 (hX.pl h_pi) (by decide) q910 rfl dX1_playerNow_61 ?_
    exact p_iret hx hb hr hlocks dX1_playerNow_64 (by rw [← hR])
  rw [if_neg c1] at hR
  by_cases c2 : q = 1
  · rw [if_pos c2] at hR
    refine lv_eq c2 ?_
    refine lv_tableIn (x := 1) (off := 50) (tgt := 65) hx hb dX1_playerNow_15 (by decide) (by decide) (by decide) (by decide) ?_
    refine lv_aload_n hx hb dX1_playerNow_65 rfl (lv_at hl 0 rfl) ?_
    refine gfN (v := .int (pSongs σ pi)) (C := RX6) (T := TX6) (N := 7) (k := 3) hx hb hts hown hG cl_X6 in_X6 (hX.pl h_pi) (by decide) q916 rfl dX1_playerNow_66 ?_
    exact p_iret hx hb hr hlocks dX1_playerNow_69 (by rw [← hR])
  rw [if_neg c2] at hR
  by_cases c3 : q = 2
  · rw [if_pos c3] at hR
    refine lv_eq c3 ?_
    refine lv_tableIn (x := 2) (off := 55) (tgt := 70) hx hb dX1_playerNow_15 (by decide) (by decide) (by decide) (by decide) ?_
    refine lv_aload_n hx hb dX1_playerNow_70 rfl (lv_at hl 0 rfl) ?_
    refine gfN (v := .int (nI (pHome σ pi))) (C := RX6) (T := TX6) (N := 7) (k := 1) hx hb hts hown hG cl_X6 in_X6 (hX.pl h_pi) (by decide) q912 rfl dX1_playerNow_71 ?_
    exact p_iret hx hb hr hlocks dX1_playerNow_74 (by rw [← hR])
  rw [if_neg c3] at hR
  by_cases c4 : q = 3
  · rw [if_pos c4] at hR
    refine lv_eq c4 ?_
    refine lv_tableIn (x := 3) (off := 60) (tgt := 75) hx hb dX1_playerNow_15 (by decide) (by decide) (by decide) (by decide) ?_
    refine lv_aload_n hx hb dX1_playerNow_75 rfl (lv_at hl 0 rfl) ?_
    refine gfN (v := .int (pFee σ pi)) (C := RX6) (T := TX6) (N := 7) (k := 2) hx hb hts hown hG cl_X6 in_X6 (hX.pl h_pi) (by decide) q914 rfl dX1_playerNow_76 ?_
    exact p_iret hx hb hr hlocks dX1_playerNow_79 (by rw [← hR])
  rw [if_neg c4] at hR
  by_cases c5 : q = 4
  · rw [if_pos c5] at hR
    refine lv_eq c5 ?_
    refine lv_tableIn (x := 4) (off := 65) (tgt := 80) hx hb dX1_playerNow_15 (by decide) (by decide) (by decide) (by decide) ?_
    refine lv_aload_n hx hb dX1_playerNow_80 rfl (lv_at hl 0 rfl) ?_
    refine gfN (v := .int (pFeuds σ pi)) (C := RX6) (T := TX6) (N := 7) (k := 4) hx hb hts hown hG cl_X6 in_X6 (hX.pl h_pi) (by decide) q917 rfl dX1_playerNow_81 ?_
    exact p_iret hx hb hr hlocks dX1_playerNow_84 (by rw [← hR])
  rw [if_neg c5] at hR
  by_cases c6 : q = 5
  · rw [if_pos c6] at hR
    refine lv_eq c6 ?_
    refine lv_tableIn (x := 5) (off := 70) (tgt := 85) hx hb dX1_playerNow_15 (by decide) (by decide) (by decide) (by decide) ?_
    refine lv_aload_n hx hb dX1_playerNow_85 rfl (lv_at hl 0 rfl) ?_
    refine gfN (v := .int (pEarned σ pi)) (C := RX6) (T := TX6) (N := 7) (k := 5) hx hb hts hown hG cl_X6 in_X6 (hX.pl h_pi) (by decide) q918 rfl dX1_playerNow_86 ?_
    exact p_iret hx hb hr hlocks dX1_playerNow_89 (by rw [← hR])
  rw [if_neg c6] at hR
  by_cases c7 : q = 6
  · rw [if_pos c7] at hR
    refine lv_eq c7 ?_
    refine lv_tableIn (x := 6) (off := 75) (tgt := 90) hx hb dX1_playerNow_15 (by decide) (by decide) (by decide) (by decide) ?_
    refine lv_aload_n hx hb dX1_playerNow_90 rfl (lv_at hl 1 rfl) ?_
    refine lv_iload_n hx hb dX1_playerNow_91 rfl (lv_at hl 2 rfl) ?_
    refine gs hx hb (hG.en (i := 1) (by decide)) hown (hts _ q363) (fun _ h => h) dX1_playerNow_92 ?_
    refine lv_iconst (v := 0) hx hb dX1_playerNow_95 (by decide) ?_
    refine pcV (As := [.int (nI pi), .ref (E (10 + 1)), .int 0]) (rest := []) hS0 (met_X1_weddingsOf l D E pi 1 false (by decide)) q365 q367 qs6 q100 q368 hd_X1_weddingsOf ⟨Nat.le_of_ble_eq_true rfl, Nat.le_of_ble_eq_true rfl⟩ hG (rcv hG cl_X1 hX.ag) hX rfl hl.1 rfl (Nat.le_of_ble_eq_true rfl) dX1_playerNow_96 ⟨Nat.le_refl _, Nat.le_refl _⟩ ?_
    refine W.eq (g2 := F0 m 99 ls [.int ((fX1_weddingsOf σ pi 1 false))]) rfl ?_
    exact p_iret hx hb hr hlocks dX1_playerNow_99 (by rw [← hR])
  rw [if_neg c7] at hR
  by_cases c8 : q = 7
  · rw [if_pos c8] at hR
    refine lv_eq c8 ?_
    refine lv_tableIn (x := 7) (off := 85) (tgt := 100) hx hb dX1_playerNow_15 (by decide) (by decide) (by decide) (by decide) ?_
    refine lv_aload_n hx hb dX1_playerNow_100 rfl (lv_at hl 1 rfl) ?_
    refine lv_iload_n hx hb dX1_playerNow_101 rfl (lv_at hl 2 rfl) ?_
    refine gs hx hb (hG.en (i := 2) (by decide)) hown (hts _ q377) (fun _ h => h) dX1_playerNow_102 ?_
    refine lv_iconst (v := 0) hx hb dX1_playerNow_105 (by decide) ?_
    refine pcV (As := [.int (nI pi), .ref (E (10 + 2)), .int 0]) (rest := []) hS0 (met_X1_weddingsOf l D E pi 2 false (by decide)) q365 q367 qs6 q100 q368 hd_X1_weddingsOf ⟨Nat.le_of_ble_eq_true rfl, Nat.le_of_ble_eq_true rfl⟩ hG (rcv hG cl_X1 hX.ag) hX rfl hl.1 rfl (Nat.le_of_ble_eq_true rfl) dX1_playerNow_106 ⟨Nat.le_refl _, Nat.le_refl _⟩ ?_
    refine W.eq (g2 := F0 m 109 ls [.int ((fX1_weddingsOf σ pi 2 false))]) rfl ?_
    exact p_iret hx hb hr hlocks dX1_playerNow_109 (by rw [← hR])
  rw [if_neg c8] at hR
  refine lv_tableOut (tgt := 110) hx hb dX1_playerNow_15 (sw_out (lo := 0) (hi := 7) (by decide) (by decide) (fun z h1 h2 => by rcases (show z = 0 ∨ z = 1 ∨ z = 2 ∨ z = 3 ∨ z = 4 ∨ z = 5 ∨ z = 6 ∨ z = 7 by omega) with rfl | rfl | rfl | rfl | rfl | rfl | rfl | rfl <;> first | exact c1 | exact c2 | exact c3 | exact c4 | exact c5 | exact c6 | exact c7 | exact c8)) (by decide) ?_
  refine lv_aload_n hx hb dX1_playerNow_110 rfl (lv_at hl 1 rfl) ?_
  refine lv_iload_n hx hb dX1_playerNow_111 rfl (lv_at hl 2 rfl) ?_
  refine gs hx hb (hG.en (i := 2) (by decide)) hown (hts _ q377) (fun _ h => h) dX1_playerNow_112 ?_
  refine lv_iconst (v := 1) hx hb dX1_playerNow_115 (by decide) ?_
  refine pcV (As := [.int (nI pi), .ref (E (10 + 2)), .int 1]) (rest := []) hS0 (met_X1_weddingsOf l D E pi 2 true (by decide)) q365 q367 qs6 q100 q368 hd_X1_weddingsOf ⟨Nat.le_of_ble_eq_true rfl, Nat.le_of_ble_eq_true rfl⟩ hG (rcv hG cl_X1 hX.ag) hX rfl hl.1 rfl (Nat.le_of_ble_eq_true rfl) dX1_playerNow_116 ⟨Nat.le_refl _, Nat.le_refl _⟩ ?_
  refine W.eq (g2 := F0 m 119 ls [.int ((fX1_weddingsOf σ pi 2 true))]) rfl ?_
  exact p_iret hx hb hr hlocks dX1_playerNow_119 (by rw [← hR])

def fX1_knowers_L4 (σ : St) (q : Nat)  (κ : Int32 → Int32) : Nat → Nat → Int32 → Int32
  | 0, i3, a2 => κ a2
  | n + 1, i3, a2 => (if ((fX1_has (pSongs σ i3) (nI q))) = true then fX1_knowers_L4 σ q κ n (i3 + 1) (a2 + 1) else fX1_knowers_L4 σ q κ n (i3 + 1) (a2 + 0))
def fX1_knowers (σ : St) (q : Nat) : Int32 :=
  fX1_knowers_L4 σ q (fun (a2 : Int32) => a2) (nP σ) 0 0
set_option maxHeartbeats 4000000 in
set_option maxRecDepth 100000 in
theorem met_X1_knowers (l : Launch) (D : va_G) (E : Nat → Nat) {α : Nat → Nat → Nat} {F : Nat → Prop} {σ : St} (q : Nat)  : PM l D E yX1_knowers cX1_knowers 4 (Option.some Jvm.ClassFile.FieldType.int) 3 64 [.ref (α 0 0), .int (nI q)] (RX D E α F σ) (some (.int (fX1_knowers σ q))) := by
  generalize hR : fX1_knowers σ q = r
  refine PM.start (by decide) (Nat.le_of_ble_eq_true rfl) ?_
  intro p e s m below meth c ls hx hb hr hml hown hlocks hts hG hX hl
  have hown : s.vm.findClass RX1 = some m.cls := hown
  have hS0 : xS p m c cX1_knowers 4 s _ RX1 := ⟨hx, hb, hml, hown, hts⟩
  have hl : lv_has ls 4 [(0, .ref (α 0 0)), (1, .int (nI q))] := hl
  have hL4 : ∀ (κ : Int32 → Int32) (hκ : ∀ (a2 : Int32) (ls : Array Slot), κ a2 = r → lv_has ls 4 [(2, .int (a2))] → W p l e { frames := 3, cells := 0, slots := 0, locals := 64 } s m [(.ref (α 0 0) : Value), .int (nI q)].toArray below meth c s.heap [] 0 0 (MQ below (qP (some (.int r))) [(.ref (α 0 0) : Value), .int (nI q)].toArray s 0 0 (fun _ => False)) (F0 m 54 ls [])) (n : Nat) (i3 : Nat) (a2 : Int32), i3 + n = nP σ → fX1_knowers_L4 σ q κ n i3 a2 = r → ∀ (ls : Array Slot), lv_has ls 4 [(0, .ref (α 0 0)), (1, .int (nI q)), (2, .int (a2)), (3, .int (nI i3))] → W p l e { frames := 3, cells := 0, slots := 0, locals := 64 } s m [(.ref (α 0 0) : Value), .int (nI q)].toArray below meth c s.heap [] 0 0 (MQ below (qP (some (.int r))) [(.ref (α 0 0) : Value), .int (nI q)].toArray s 0 0 (fun _ => False)) (F0 m 4 ls []) := by
    intro  κ hκ n
    induction n with
    | zero =>
      intro i3 a2 hn hR ls hl
      rw [fX1_knowers_L4] at hR
      refine lv_iload_n hx hb dX1_knowers_4 rfl (lv_at hl 3 rfl) ?_
      refine lv_aload_n hx hb dX1_knowers_5 rfl (lv_at hl 0 rfl) ?_
      refine gf (v := .ref (α 1 0)) (C := RX1) (T := TX1) (N := 6) (k := 0) hx hb hts hown hG cl_X1 in_X1 hX.ag (by decide) q301 rfl dX1_knowers_6 ?_
      refine pcF (x := xL_size) (ci := 13) (As := []) (rest := [.int (nI i3)]) hG.fw_size hS0 (met_xl_size l D E (j := 0) (by decide)) q331 q334 q336 q103 q338 hd_xL_size ⟨Nat.le_of_ble_eq_true rfl, Nat.le_of_ble_eq_true rfl⟩ hG cl_J2 (hX.lsR hG (j := 0) (by decide)) hX rfl hl.1 rfl (Nat.le_of_ble_eq_true rfl) dX1_knowers_9 ⟨Nat.le_refl _, Nat.le_refl _⟩ ?_
      refine W.eq (g2 := F0 m 14 ls [.int (nI (nP σ)), .int (nI i3)]) rfl ?_
      refine lk_ge_out (k := i3) (N := nP σ) hx hb hn (tgt := 54) dX1_knowers_14 (by decide) ?_
      exact hκ a2 ls hR (lv_sub hl [2] rfl)
    | succ n ih =>
      intro i3 a2 hn hR ls hl
      rw [fX1_knowers_L4] at hR
      refine lv_iload_n hx hb dX1_knowers_4 rfl (lv_at hl 3 rfl) ?_
      refine lv_aload_n hx hb dX1_knowers_5 rfl (lv_at hl 0 rfl) ?_
      refine gf (v := .ref (α 1 0)) (C := RX1) (T := TX1) (N := 6) (k := 0) hx hb hts hown hG cl_X1 in_X1 hX.ag (by decide) q301 rfl dX1_knowers_6 ?_
      refine pcF (x := xL_size) (ci := 13) (As := []) (rest := [.int (nI i3)]) hG.fw_size hS0 (met_xl_size l D E (j := 0) (by decide)) q331 q334 q336 q103 q338 hd_xL_size ⟨Nat.le_of_ble_eq_true rfl, Nat.le_of_ble_eq_true rfl⟩ hG cl_J2 (hX.lsR hG (j := 0) (by decide)) hX rfl hl.1 rfl (Nat.le_of_ble_eq_true rfl) dX1_knowers_9 ⟨Nat.le_refl _, Nat.le_refl _⟩ ?_
      refine W.eq (g2 := F0 m 14 ls [.int (nI (nP σ)), .int (nI i3)]) rfl ?_
      have hki3 : i3 < nP σ := lk_lt hn
      refine lk_ge_in (k := i3) (N := nP σ) hx hb hki3 (by have := hX.nP10; omega) (tgt := 54) dX1_knowers_14 (by decide) ?_
      refine lv_iload_n hx hb dX1_knowers_17 rfl (lv_at hl 2 rfl) ?_
      refine lv_aload_n hx hb dX1_knowers_18 rfl (lv_at hl 0 rfl) ?_
      refine gf (v := .ref (α 1 0)) (C := RX1) (T := TX1) (N := 6) (k := 0) hx hb hts hown hG cl_X1 in_X1 hX.ag (by decide) q301 rfl dX1_knowers_19 ?_
      refine lv_iload_n hx hb dX1_knowers_22 rfl (lv_at hl 3 rfl) ?_
      refine pcF (x := xL_get) (ci := 13) (As := [.int (nI i3)]) (rest := [.int (a2)]) hG.fw_get hS0 (met_xl_get l D E (j := 0) (by decide) i3 hki3) q344 q347 q349 q103 q351 hd_xL_get ⟨Nat.le_of_ble_eq_true rfl, Nat.le_of_ble_eq_true rfl⟩ hG cl_J2 (hX.lsR hG (j := 0) (by decide)) hX rfl hl.1 rfl (Nat.le_of_ble_eq_true rfl) dX1_knowers_23 ⟨Nat.le_refl _, Nat.le_refl _⟩ ?_
      refine W.eq (g2 := F0 m 28 ls [.ref (α 3 i3), .int (a2)]) rfl ?_
      refine gc (ci := 5) hx hb hown hG cl_X6 (rcv hG cl_X6 (hX.pl hki3)) (hts _ q362) dX1_knowers_28 ?_
      refine gfN (v := .int (pSongs σ i3)) (C := RX6) (T := TX6) (N := 7) (k := 3) hx hb hts hown hG cl_X6 in_X6 (hX.pl hki3) (by decide) q916 rfl dX1_knowers_31 ?_
      refine lv_iload_n hx hb dX1_knowers_34 rfl (lv_at hl 1 rfl) ?_
      refine pcS (As := [.int (pSongs σ i3), .int (nI q)]) (rest := [.int (a2)]) hS0 (met_X1_has l D E (pSongs σ i3) (nI q)) q374 q375 q100 q376 hd_X1_has ⟨Nat.le_of_ble_eq_true rfl, Nat.le_of_ble_eq_true rfl⟩ hG trivial rfl hl.1 rfl (Nat.le_of_ble_eq_true rfl) dX1_knowers_35 ⟨Nat.le_refl _, Nat.le_refl _⟩ ?_
      refine W.eq (g2 := F0 m 38 ls [.int (bI ((fX1_has (pSongs σ i3) (nI q)))), .int (a2)]) rfl ?_
      refine lb_if_eq (tgt := 45) hx hb dX1_knowers_38 (by decide) (fun c1 => ?_) (fun c1 => ?_)
      · rw [if_neg c1] at hR
        refine lv_iconst (v := 0) hx hb dX1_knowers_45 (by decide) ?_
        refine lv_iadd hx hb dX1_knowers_46 ?_
        refine lv_istore_n (lv' := [(2, .int (a2 + 0)), (0, .ref (α 0 0)), (1, .int (nI q)), (3, .int (nI i3))]) hx hb dX1_knowers_47 rfl hl (Nat.le_of_ble_eq_true rfl) rfl (fun ls hl => ?_)
        refine lv_iinc (v := nI (i3 + 1)) (lv' := [(3, .int (nI (i3 + 1))), (2, .int (a2 + 0)), (0, .ref (α 0 0)), (1, .int (nI q))]) hx hb dX1_knowers_48 hl (k := 3) rfl (nI_1 i3) (Nat.le_of_ble_eq_true rfl) rfl (fun ls hl => ?_)
        refine lv_goto (tgt := 4) hx hb dX1_knowers_51 (by decide) ?_
        exact ih (i3 + 1) (a2 + 0) (lk_st hn) hR ls (lv_sub hl [2, 3, 1, 0] rfl)
      · rw [if_pos c1] at hR
        refine lv_iconst (v := 1) hx hb dX1_knowers_41 (by decide) ?_
        refine lv_goto (tgt := 46) hx hb dX1_knowers_42 (by decide) ?_
        refine lv_iadd hx hb dX1_knowers_46 ?_
        refine lv_istore_n (lv' := [(2, .int (a2 + 1)), (0, .ref (α 0 0)), (1, .int (nI q)), (3, .int (nI i3))]) hx hb dX1_knowers_47 rfl hl (Nat.le_of_ble_eq_true rfl) rfl (fun ls hl => ?_)
        refine lv_iinc (v := nI (i3 + 1)) (lv' := [(3, .int (nI (i3 + 1))), (2, .int (a2 + 1)), (0, .ref (α 0 0)), (1, .int (nI q))]) hx hb dX1_knowers_48 hl (k := 3) rfl (nI_1 i3) (Nat.le_of_ble_eq_true rfl) rfl (fun ls hl => ?_)
        refine lv_goto (tgt := 4) hx hb dX1_knowers_51 (by decide) ?_
        exact ih (i3 + 1) (a2 + 1) (lk_st hn) hR ls (lv_sub hl [2, 3, 1, 0] rfl)
  unfold fX1_knowers at hR
  refine lv_iconst (v := 0) hx hb dX1_knowers_0 (by decide) ?_
  refine lv_istore_n (lv' := [(2, .int 0), (0, .ref (α 0 0)), (1, .int (nI q))]) hx hb dX1_knowers_1 rfl hl (Nat.le_of_ble_eq_true rfl) rfl (fun ls hl => ?_)
  refine lv_iconst (v := 0) hx hb dX1_knowers_2 (by decide) ?_
  refine lv_istore_n (lv' := [(3, .int 0), (2, .int 0), (0, .ref (α 0 0)), (1, .int (nI q))]) hx hb dX1_knowers_3 rfl hl (Nat.le_of_ble_eq_true rfl) rfl (fun ls hl => ?_)
  refine hL4  _ (fun a2 ls hR hl => ?_) (nP σ) 0 0 (Nat.zero_add _) hR ls (lv_sub hl [2, 3, 1, 0] rfl)
  refine lv_iload_n hx hb dX1_knowers_54 rfl (lv_at hl 0 rfl) ?_
  exact p_iret hx hb hr hlocks dX1_knowers_55 (by rw [← hR])

def fX1_songNow (σ : St) (q : Nat) (z : Int32) : Int32 :=
  (if z = 0 then sKey σ q else (if z = 1 then sEnergy σ q else (if z = 2 then sMin σ q else (if z = 3 then sPlayed σ q else (if z = 4 then (fX1_share σ q) else (fX1_knowers σ q))))))
set_option maxHeartbeats 4000000 in
set_option maxRecDepth 100000 in
theorem met_X1_songNow (l : Launch) (D : va_G) (E : Nat → Nat) {α : Nat → Nat → Nat} {F : Nat → Prop} {σ : St} (q : Nat) (z : Int32) (h_q : q < 16) : PM l D E yX1_songNow cX1_songNow 4 (Option.some Jvm.ClassFile.FieldType.int) 4 87 [.ref (α 0 0), .int (nI q), .int (z)] (RX D E α F σ) (some (.int (fX1_songNow σ q z))) := by
  generalize hR : fX1_songNow σ q z = r
  refine PM.start (by decide) (Nat.le_of_ble_eq_true rfl) ?_
  intro p e s m below meth c ls hx hb hr hml hown hlocks hts hG hX hl
  have hown : s.vm.findClass RX1 = some m.cls := hown
  have hS0 : xS p m c cX1_songNow 4 s _ RX1 := ⟨hx, hb, hml, hown, hts⟩
  have hl : lv_has ls 4 [(0, .ref (α 0 0)), (1, .int (nI q)), (2, .int (z))] := hl
  unfold fX1_songNow at hR
  refine lv_aload_n hx hb dX1_songNow_0 rfl (lv_at hl 0 rfl) ?_
  refine gf (v := .ref (α 1 1)) (C := RX1) (T := TX1) (N := 6) (k := 1) hx hb hts hown hG cl_X1 in_X1 hX.ag (by decide) q302 rfl dX1_songNow_1 ?_
  refine lv_iload_n hx hb dX1_songNow_4 rfl (lv_at hl 1 rfl) ?_
  refine pcF (x := xL_get) (ci := 13) (As := [.int (nI q)]) (rest := []) hG.fw_get hS0 (met_xl_get l D E (j := 1) (by decide) q h_q) q344 q347 q349 q103 q351 hd_xL_get ⟨Nat.le_of_ble_eq_true rfl, Nat.le_of_ble_eq_true rfl⟩ hG cl_J2 (hX.lsR hG (j := 1) (by decide)) hX rfl hl.1 rfl (Nat.le_of_ble_eq_true rfl) dX1_songNow_5 ⟨Nat.le_refl _, Nat.le_refl _⟩ ?_
  refine W.eq (g2 := F0 m 10 ls [.ref (α 6 q)]) rfl ?_
  refine gc (ci := 2) hx hb hown hG cl_X3 (rcv hG cl_X3 (hX.sg h_q)) (hts _ q200) dX1_songNow_10 ?_
  refine lv_astore_n (lv' := [(3, .ref (α 6 q)), (0, .ref (α 0 0)), (1, .int (nI q)), (2, .int (z))]) hx hb dX1_songNow_13 rfl hl (Nat.le_of_ble_eq_true rfl) rfl (fun ls hl => ?_)
  refine lv_iload_n hx hb dX1_songNow_14 rfl (lv_at hl 3 rfl) ?_
  by_cases c1 : z = 0
  · rw [if_pos c1] at hR
    refine lv_eq c1 ?_
    refine lv_tableIn (x := 0) (off := 33) (tgt := 48) hx hb dX1_songNow_15 (by decide) (by decide) (by decide) (by decide) ?_
    refine lv_aload_n hx hb dX1_songNow_48 rfl (lv_at hl 0 rfl) ?_
    refine gfN (v := .int (sKey σ q)) (C := RX3) (T := TX3) (N := 4) (k := 0) hx hb hts hown hG cl_X3 in_X3 (hX.sg h_q) (by decide) q207 rfl dX1_songNow_49 ?_
    exact p_iret hx hb hr hlocks dX1_songNow_52 (by rw [← hR])
  rw [if_neg c1] at hR
  by_cases c2 : z = 1
  · rw [if_pos c2] at hR
    refine lv_eq c2 ?_
    refine lv_tableIn (x := 1) (off := 38) (tgt := 53) hx hb dX1_songNow_15 (by decide) (by decide) (by decide) (by decide) ?_
    refine lv_aload_n hx hb dX1_songNow_53 rfl (lv_at hl 0 rfl) ?_
    refine gfN (v := .int (sEnergy σ q)) (C := RX3) (T := TX3) (N := 4) (k := 1) hx hb hts hown hG cl_X3 in_X3 (hX.sg h_q) (by decide) q209 rfl dX1_songNow_54 ?_
    exact p_iret hx hb hr hlocks dX1_songNow_57 (by rw [← hR])
  rw [if_neg c2] at hR
  by_cases c3 : z = 2
  · rw [if_pos c3] at hR
    refine lv_eq c3 ?_
    refine lv_tableIn (x := 2) (off := 43) (tgt := 58) hx hb dX1_songNow_15 (by decide) (by decide) (by decide) (by decide) ?_
    refine lv_aload_n hx hb dX1_songNow_58 rfl (lv_at hl 0 rfl) ?_
    refine gfN (v := .int (sMin σ q)) (C := RX3) (T := TX3) (N := 4) (k := 2) hx hb hts hown hG cl_X3 in_X3 (hX.sg h_q) (by decide) q211 rfl dX1_songNow_59 ?_
    exact p_iret hx hb hr hlocks dX1_songNow_62 (by rw [← hR])
  rw [if_neg c3] at hR
  by_cases c4 : z = 3
  · rw [if_pos c4] at hR
    refine lv_eq c4 ?_
    refine lv_tableIn (x := 3) (off := 48) (tgt := 63) hx hb dX1_songNow_15 (by decide) (by decide) (by decide) (by decide) ?_
    refine lv_aload_n hx hb dX1_songNow_63 rfl (lv_at hl 0 rfl) ?_
    refine gfN (v := .int (sPlayed σ q)) (C := RX3) (T := TX3) (N := 4) (k := 3) hx hb hts hown hG cl_X3 in_X3 (hX.sg h_q) (by decide) q213 rfl dX1_songNow_64 ?_
    exact p_iret hx hb hr hlocks dX1_songNow_67 (by rw [← hR])
  rw [if_neg c4] at hR
  by_cases c5 : z = 4
  · rw [if_pos c5] at hR
    refine lv_eq c5 ?_
    refine lv_tableIn (x := 4) (off := 53) (tgt := 68) hx hb dX1_songNow_15 (by decide) (by decide) (by decide) (by decide) ?_
    refine lv_aload_n hx hb dX1_songNow_68 rfl (lv_at hl 1 rfl) ?_
    refine lv_iload_n hx hb dX1_songNow_69 rfl (lv_at hl 2 rfl) ?_
    refine pcV (As := [.int (nI q)]) (rest := []) hS0 (met_X1_share l D E q h_q) q382 q384 qs7 q100 q385 hd_X1_share ⟨Nat.le_of_ble_eq_true rfl, Nat.le_of_ble_eq_true rfl⟩ hG (rcv hG cl_X1 hX.ag) hX rfl hl.1 rfl (Nat.le_of_ble_eq_true rfl) dX1_songNow_70 ⟨Nat.le_refl _, Nat.le_refl _⟩ ?_
    refine W.eq (g2 := F0 m 73 ls [.int ((fX1_share σ q))]) rfl ?_
    exact p_iret hx hb hr hlocks dX1_songNow_73 (by rw [← hR])
  rw [if_neg c5] at hR
  refine lv_tableOut (tgt := 74) hx hb dX1_songNow_15 (sw_out (lo := 0) (hi := 4) (by decide) (by decide) (fun z h1 h2 => by rcases (show z = 0 ∨ z = 1 ∨ z = 2 ∨ z = 3 ∨ z = 4 by omega) with rfl | rfl | rfl | rfl | rfl <;> first | exact c1 | exact c2 | exact c3 | exact c4 | exact c5)) (by decide) ?_
  refine lv_aload_n hx hb dX1_songNow_74 rfl (lv_at hl 1 rfl) ?_
  refine lv_iload_n hx hb dX1_songNow_75 rfl (lv_at hl 2 rfl) ?_
  refine pcV (As := [.int (nI q)]) (rest := []) hS0 (met_X1_knowers l D E q) q454 q456 qs16 q100 q457 hd_X1_knowers ⟨Nat.le_of_ble_eq_true rfl, Nat.le_of_ble_eq_true rfl⟩ hG (rcv hG cl_X1 hX.ag) hX rfl hl.1 rfl (Nat.le_of_ble_eq_true rfl) dX1_songNow_76 ⟨Nat.le_refl _, Nat.le_refl _⟩ ?_
  refine W.eq (g2 := F0 m 79 ls [.int ((fX1_knowers σ q))]) rfl ?_
  exact p_iret hx hb hr hlocks dX1_songNow_79 (by rw [← hR])

def fX1_weddingsOfBand_L5 (σ : St) (b : Nat) (bo : Bool)  (κ : Int32 → Int32) : Nat → Nat → Int32 → Int32
  | 0, i4, a3 => κ a3
  | n + 1, i4, a3 => (if (nI (wBand σ i4)) = (nI b) then (if bo = true then (if ((fX10_is σ i4 2)) = true then fX1_weddingsOfBand_L5 σ b bo κ n (i4 + 1) (a3 + 1) else fX1_weddingsOfBand_L5 σ b bo κ n (i4 + 1) (a3 + 0)) else fX1_weddingsOfBand_L5 σ b bo κ n (i4 + 1) (a3 + 1)) else fX1_weddingsOfBand_L5 σ b bo κ n (i4 + 1) (a3 + 0))
def fX1_weddingsOfBand (σ : St) (b : Nat) (bo : Bool) : Int32 :=
  fX1_weddingsOfBand_L5 σ b bo (fun (a4 : Int32) => a4) (nW σ) 0 0
set_option maxHeartbeats 4000000 in
set_option maxRecDepth 100000 in
theorem met_X1_weddingsOfBand (l : Launch) (D : va_G) (E : Nat → Nat) {α : Nat → Nat → Nat} {F : Nat → Prop} {σ : St} (b : Nat) (bo : Bool)  : PM l D E yX1_weddingsOfBand cX1_weddingsOfBand 5 (Option.some Jvm.ClassFile.FieldType.int) 3 64 [.ref (α 0 0), .int (nI b), .int (bI bo)] (RX D E α F σ) (some (.int (fX1_weddingsOfBand σ b bo))) := by
  generalize hR : fX1_weddingsOfBand σ b bo = r
  refine PM.start (by decide) (Nat.le_of_ble_eq_true rfl) ?_
  intro p e s m below meth c ls hx hb hr hml hown hlocks hts hG hX hl
  have hown : s.vm.findClass RX1 = some m.cls := hown
  have hS0 : xS p m c cX1_weddingsOfBand 5 s _ RX1 := ⟨hx, hb, hml, hown, hts⟩
  have hl : lv_has ls 5 [(0, .ref (α 0 0)), (1, .int (nI b)), (2, .int (bI bo))] := hl
  have hL5 : ∀ (κ : Int32 → Int32) (hκ : ∀ (a3 : Int32) (ls : Array Slot), κ a3 = r → lv_has ls 5 [(3, .int (a3))] → W p l e { frames := 3, cells := 0, slots := 0, locals := 64 } s m [(.ref (α 0 0) : Value), .int (nI b), .int (bI bo)].toArray below meth c s.heap [] 0 0 (MQ below (qP (some (.int r))) [(.ref (α 0 0) : Value), .int (nI b), .int (bI bo)].toArray s 0 0 (fun _ => False)) (F0 m 81 ls [])) (n : Nat) (i4 : Nat) (a3 : Int32), i4 + n = nW σ → fX1_weddingsOfBand_L5 σ b bo κ n i4 a3 = r → ∀ (ls : Array Slot), lv_has ls 5 [(0, .ref (α 0 0)), (1, .int (nI b)), (2, .int (bI bo)), (3, .int (a3)), (4, .int (nI i4))] → W p l e { frames := 3, cells := 0, slots := 0, locals := 64 } s m [(.ref (α 0 0) : Value), .int (nI b), .int (bI bo)].toArray below meth c s.heap [] 0 0 (MQ below (qP (some (.int r))) [(.ref (α 0 0) : Value), .int (nI b), .int (bI bo)].toArray s 0 0 (fun _ => False)) (F0 m 5 ls []) := by
    intro  κ hκ n
    induction n with
    | zero =>
      intro i4 a3 hn hR ls hl
      rw [fX1_weddingsOfBand_L5] at hR
      refine lv_iload hx hb dX1_weddingsOfBand_5 (lv_at hl 4 rfl) ?_
      refine lv_aload_n hx hb dX1_weddingsOfBand_7 rfl (lv_at hl 0 rfl) ?_
      refine gf (v := .ref (α 1 3)) (C := RX1) (T := TX1) (N := 6) (k := 4) hx hb hts hown hG cl_X1 in_X1 hX.ag (by decide) q307 rfl dX1_weddingsOfBand_8 ?_
      refine pcF (x := xL_size) (ci := 13) (As := []) (rest := [.int (nI i4)]) hG.fw_size hS0 (met_xl_size l D E (j := 3) (by decide)) q331 q334 q336 q103 q338 hd_xL_size ⟨Nat.le_of_ble_eq_true rfl, Nat.le_of_ble_eq_true rfl⟩ hG cl_J2 (hX.lsR hG (j := 3) (by decide)) hX rfl hl.1 rfl (Nat.le_of_ble_eq_true rfl) dX1_weddingsOfBand_11 ⟨Nat.le_refl _, Nat.le_refl _⟩ ?_
      refine W.eq (g2 := F0 m 16 ls [.int (nI (nW σ)), .int (nI i4)]) rfl ?_
      refine lk_ge_out (k := i4) (N := nW σ) hx hb hn (tgt := 81) dX1_weddingsOfBand_16 (by decide) ?_
      exact hκ a3 ls hR (lv_sub hl [3] rfl)
    | succ n ih =>
      intro i4 a3 hn hR ls hl
      rw [fX1_weddingsOfBand_L5] at hR
      refine lv_iload hx hb dX1_weddingsOfBand_5 (lv_at hl 4 rfl) ?_
      refine lv_aload_n hx hb dX1_weddingsOfBand_7 rfl (lv_at hl 0 rfl) ?_
      refine gf (v := .ref (α 1 3)) (C := RX1) (T := TX1) (N := 6) (k := 4) hx hb hts hown hG cl_X1 in_X1 hX.ag (by decide) q307 rfl dX1_weddingsOfBand_8 ?_
      refine pcF (x := xL_size) (ci := 13) (As := []) (rest := [.int (nI i4)]) hG.fw_size hS0 (met_xl_size l D E (j := 3) (by decide)) q331 q334 q336 q103 q338 hd_xL_size ⟨Nat.le_of_ble_eq_true rfl, Nat.le_of_ble_eq_true rfl⟩ hG cl_J2 (hX.lsR hG (j := 3) (by decide)) hX rfl hl.1 rfl (Nat.le_of_ble_eq_true rfl) dX1_weddingsOfBand_11 ⟨Nat.le_refl _, Nat.le_refl _⟩ ?_
      refine W.eq (g2 := F0 m 16 ls [.int (nI (nW σ)), .int (nI i4)]) rfl ?_
      have hki4 : i4 < nW σ := lk_lt hn
      refine lk_ge_in (k := i4) (N := nW σ) hx hb hki4 (by have := hX.nW14; omega) (tgt := 81) dX1_weddingsOfBand_16 (by decide) ?_
      refine lv_iload_n hx hb dX1_weddingsOfBand_19 rfl (lv_at hl 3 rfl) ?_
      refine lv_aload_n hx hb dX1_weddingsOfBand_20 rfl (lv_at hl 0 rfl) ?_
      refine gf (v := .ref (α 1 3)) (C := RX1) (T := TX1) (N := 6) (k := 4) hx hb hts hown hG cl_X1 in_X1 hX.ag (by decide) q307 rfl dX1_weddingsOfBand_21 ?_
      refine lv_iload hx hb dX1_weddingsOfBand_24 (lv_at hl 4 rfl) ?_
      refine pcF (x := xL_get) (ci := 13) (As := [.int (nI i4)]) (rest := [.int (a3)]) hG.fw_get hS0 (met_xl_get l D E (j := 3) (by decide) i4 hki4) q344 q347 q349 q103 q351 hd_xL_get ⟨Nat.le_of_ble_eq_true rfl, Nat.le_of_ble_eq_true rfl⟩ hG cl_J2 (hX.lsR hG (j := 3) (by decide)) hX rfl hl.1 rfl (Nat.le_of_ble_eq_true rfl) dX1_weddingsOfBand_26 ⟨Nat.le_refl _, Nat.le_refl _⟩ ?_
      refine W.eq (g2 := F0 m 31 ls [.ref (α 5 i4), .int (a3)]) rfl ?_
      refine gc (ci := 8) hx hb hown hG cl_X10 (rcv hG cl_X10 (hX.wd hki4)) (hts _ q369) dX1_weddingsOfBand_31 ?_
      refine gfN (v := .int (nI (wBand σ i4))) (C := RX10) (T := TX10) (N := 12) (k := 0) hx hb hts hown hG cl_X10 in_X10 (hX.wd hki4) (by decide) q1010 rfl dX1_weddingsOfBand_34 ?_
      refine lv_iload_n hx hb dX1_weddingsOfBand_37 rfl (lv_at hl 1 rfl) ?_
      refine lv_icmp_ne (tgt := 72) hx hb dX1_weddingsOfBand_38 (by decide) (fun c1 => ?_) (fun c1 => ?_)
      · rw [if_neg c1] at hR
        refine lv_iconst (v := 0) hx hb dX1_weddingsOfBand_72 (by decide) ?_
        refine lv_iadd hx hb dX1_weddingsOfBand_73 ?_
        refine lv_istore_n (lv' := [(3, .int (a3 + 0)), (0, .ref (α 0 0)), (1, .int (nI b)), (2, .int (bI bo)), (4, .int (nI i4))]) hx hb dX1_weddingsOfBand_74 rfl hl (Nat.le_of_ble_eq_true rfl) rfl (fun ls hl => ?_)
        refine lv_iinc (v := nI (i4 + 1)) (lv' := [(4, .int (nI (i4 + 1))), (3, .int (a3 + 0)), (0, .ref (α 0 0)), (1, .int (nI b)), (2, .int (bI bo))]) hx hb dX1_weddingsOfBand_75 hl (k := 4) rfl (nI_1 i4) (Nat.le_of_ble_eq_true rfl) rfl (fun ls hl => ?_)
        refine lv_goto (tgt := 5) hx hb dX1_weddingsOfBand_78 (by decide) ?_
        exact ih (i4 + 1) (a3 + 0) (lk_st hn) hR ls (lv_sub hl [2, 3, 4, 1, 0] rfl)
      · rw [if_pos c1] at hR
        refine lv_iload_n hx hb dX1_weddingsOfBand_41 rfl (lv_at hl 2 rfl) ?_
        refine lb_if_eq (tgt := 68) hx hb dX1_weddingsOfBand_42 (by decide) (fun c2 => ?_) (fun c2 => ?_)
        · rw [if_neg c2] at hR
          refine lv_iconst (v := 1) hx hb dX1_weddingsOfBand_68 (by decide) ?_
          refine lv_goto (tgt := 73) hx hb dX1_weddingsOfBand_69 (by decide) ?_
          refine lv_iadd hx hb dX1_weddingsOfBand_73 ?_
          refine lv_istore_n (lv' := [(3, .int (a3 + 1)), (0, .ref (α 0 0)), (1, .int (nI b)), (2, .int (bI bo)), (4, .int (nI i4))]) hx hb dX1_weddingsOfBand_74 rfl hl (Nat.le_of_ble_eq_true rfl) rfl (fun ls hl => ?_)
          refine lv_iinc (v := nI (i4 + 1)) (lv' := [(4, .int (nI (i4 + 1))), (3, .int (a3 + 1)), (0, .ref (α 0 0)), (1, .int (nI b)), (2, .int (bI bo))]) hx hb dX1_weddingsOfBand_75 hl (k := 4) rfl (nI_1 i4) (Nat.le_of_ble_eq_true rfl) rfl (fun ls hl => ?_)
          refine lv_goto (tgt := 5) hx hb dX1_weddingsOfBand_78 (by decide) ?_
          exact ih (i4 + 1) (a3 + 1) (lk_st hn) hR ls (lv_sub hl [2, 3, 4, 1, 0] rfl)
        · rw [if_pos c2] at hR
          refine lv_aload_n hx hb dX1_weddingsOfBand_45 rfl (lv_at hl 0 rfl) ?_
          refine gf (v := .ref (α 1 3)) (C := RX1) (T := TX1) (N := 6) (k := 4) hx hb hts hown hG cl_X1 in_X1 hX.ag (by decide) q307 rfl dX1_weddingsOfBand_46 ?_
          refine lv_iload hx hb dX1_weddingsOfBand_49 (lv_at hl 4 rfl) ?_
          refine pcF (x := xL_get) (ci := 13) (As := [.int (nI i4)]) (rest := [.int (a3)]) hG.fw_get hS0 (met_xl_get l D E (j := 3) (by decide) i4 hki4) q344 q347 q349 q103 q351 hd_xL_get ⟨Nat.le_of_ble_eq_true rfl, Nat.le_of_ble_eq_true rfl⟩ hG cl_J2 (hX.lsR hG (j := 3) (by decide)) hX rfl hl.1 rfl (Nat.le_of_ble_eq_true rfl) dX1_weddingsOfBand_51 ⟨Nat.le_refl _, Nat.le_refl _⟩ ?_
          refine W.eq (g2 := F0 m 56 ls [.ref (α 5 i4), .int (a3)]) rfl ?_
          refine gc (ci := 8) hx hb hown hG cl_X10 (rcv hG cl_X10 (hX.wd hki4)) (hts _ q369) dX1_weddingsOfBand_56 ?_
          refine gs hx hb (hG.en (i := 2) (by decide)) hown (hts _ q377) (fun _ h => h) dX1_weddingsOfBand_59 ?_
          refine pcV (As := [.ref (E (10 + 2))]) (rest := [.int (a3)]) hS0 (met_X10_is l D E i4 2 hki4 (by decide)) q370 q371 q372 q130 q373 hd_X10_is ⟨Nat.le_of_ble_eq_true rfl, Nat.le_of_ble_eq_true rfl⟩ hG (rcv hG cl_X10 (hX.wd hki4)) hX rfl hl.1 rfl (Nat.le_of_ble_eq_true rfl) dX1_weddingsOfBand_62 ⟨Nat.le_refl _, Nat.le_refl _⟩ ?_
          refine W.eq (g2 := F0 m 65 ls [.int (bI ((fX10_is σ i4 2))), .int (a3)]) rfl ?_
          refine lb_if_eq (tgt := 72) hx hb dX1_weddingsOfBand_65 (by decide) (fun c3 => ?_) (fun c3 => ?_)
          · rw [if_neg c3] at hR
            refine lv_iconst (v := 0) hx hb dX1_weddingsOfBand_72 (by decide) ?_
            refine lv_iadd hx hb dX1_weddingsOfBand_73 ?_
            refine lv_istore_n (lv' := [(3, .int (a3 + 0)), (0, .ref (α 0 0)), (1, .int (nI b)), (2, .int (bI bo)), (4, .int (nI i4))]) hx hb dX1_weddingsOfBand_74 rfl hl (Nat.le_of_ble_eq_true rfl) rfl (fun ls hl => ?_)
            refine lv_iinc (v := nI (i4 + 1)) (lv' := [(4, .int (nI (i4 + 1))), (3, .int (a3 + 0)), (0, .ref (α 0 0)), (1, .int (nI b)), (2, .int (bI bo))]) hx hb dX1_weddingsOfBand_75 hl (k := 4) rfl (nI_1 i4) (Nat.le_of_ble_eq_true rfl) rfl (fun ls hl => ?_)
            refine lv_goto (tgt := 5) hx hb dX1_weddingsOfBand_78 (by decide) ?_
            exact ih (i4 + 1) (a3 + 0) (lk_st hn) hR ls (lv_sub hl [2, 3, 4, 1, 0] rfl)
          · rw [if_pos c3] at hR
            refine lv_iconst (v := 1) hx hb dX1_weddingsOfBand_68 (by decide) ?_
            refine lv_goto (tgt := 73) hx hb dX1_weddingsOfBand_69 (by decide) ?_
            refine lv_iadd hx hb dX1_weddingsOfBand_73 ?_
            refine lv_istore_n (lv' := [(3, .int (a3 + 1)), (0, .ref (α 0 0)), (1, .int (nI b)), (2, .int (bI bo)), (4, .int (nI i4))]) hx hb dX1_weddingsOfBand_74 rfl hl (Nat.le_of_ble_eq_true rfl) rfl (fun ls hl => ?_)
            refine lv_iinc (v := nI (i4 + 1)) (lv' := [(4, .int (nI (i4 + 1))), (3, .int (a3 + 1)), (0, .ref (α 0 0)), (1, .int (nI b)), (2, .int (bI bo))]) hx hb dX1_weddingsOfBand_75 hl (k := 4) rfl (nI_1 i4) (Nat.le_of_ble_eq_true rfl) rfl (fun ls hl => ?_)
            refine lv_goto (tgt := 5) hx hb dX1_weddingsOfBand_78 (by decide) ?_
            exact ih (i4 + 1) (a3 + 1) (lk_st hn) hR ls (lv_sub hl [2, 3, 4, 1, 0] rfl)
  unfold fX1_weddingsOfBand at hR
  refine lv_iconst (v := 0) hx hb dX1_weddingsOfBand_0 (by decide) ?_
  refine lv_istore_n (lv' := [(3, .int 0), (0, .ref (α 0 0)), (1, .int (nI b)), (2, .int (bI bo))]) hx hb dX1_weddingsOfBand_1 rfl hl (Nat.le_of_ble_eq_true rfl) rfl (fun ls hl => ?_)
  refine lv_iconst (v := 0) hx hb dX1_weddingsOfBand_2 (by decide) ?_
  refine lv_istore (lv' := [(4, .int 0), (3, .int 0), (0, .ref (α 0 0)), (1, .int (nI b)), (2, .int (bI bo))]) hx hb dX1_weddingsOfBand_3 hl (Nat.le_of_ble_eq_true rfl) rfl (fun ls hl => ?_)
  refine hL5  _ (fun a4 ls hR hl => ?_) (nW σ) 0 0 (Nat.zero_add _) hR ls (lv_sub hl [2, 3, 4, 1, 0] rfl)
  refine lv_iload_n hx hb dX1_weddingsOfBand_81 rfl (lv_at hl 0 rfl) ?_
  exact p_iret hx hb hr hlocks dX1_weddingsOfBand_82 (by rw [← hR])

def fX1_inState_L4 (σ : St) (xi : Nat)  (κ : Int32 → Int32) : Nat → Nat → Int32 → Int32
  | 0, i3, a2 => κ a2
  | n + 1, i3, a2 => (if ((fX10_is σ i3 xi)) = true then fX1_inState_L4 σ xi κ n (i3 + 1) (a2 + 1) else fX1_inState_L4 σ xi κ n (i3 + 1) (a2 + 0))
def fX1_inState (σ : St) (xi : Nat) : Int32 :=
  fX1_inState_L4 σ xi (fun (a2 : Int32) => a2) (nW σ) 0 0
set_option maxHeartbeats 4000000 in
set_option maxRecDepth 100000 in
theorem met_X1_inState (l : Launch) (D : va_G) (E : Nat → Nat) {α : Nat → Nat → Nat} {F : Nat → Prop} {σ : St} (xi : Nat) (h_xi : xi < 4) : PM l D E yX1_inState cX1_inState 4 (Option.some Jvm.ClassFile.FieldType.int) 3 64 [.ref (α 0 0), .ref (E (10 + xi))] (RX D E α F σ) (some (.int (fX1_inState σ xi))) := by
  generalize hR : fX1_inState σ xi = r
  refine PM.start (by decide) (Nat.le_of_ble_eq_true rfl) ?_
  intro p e s m below meth c ls hx hb hr hml hown hlocks hts hG hX hl
  have hown : s.vm.findClass RX1 = some m.cls := hown
  have hS0 : xS p m c cX1_inState 4 s _ RX1 := ⟨hx, hb, hml, hown, hts⟩
  have hl : lv_has ls 4 [(0, .ref (α 0 0)), (1, .ref (E (10 + xi)))] := hl
  have hL4 : ∀ (κ : Int32 → Int32) (hκ : ∀ (a2 : Int32) (ls : Array Slot), κ a2 = r → lv_has ls 4 [(2, .int (a2))] → W p l e { frames := 3, cells := 0, slots := 0, locals := 64 } s m [(.ref (α 0 0) : Value), .ref (E (10 + xi))].toArray below meth c s.heap [] 0 0 (MQ below (qP (some (.int r))) [(.ref (α 0 0) : Value), .ref (E (10 + xi))].toArray s 0 0 (fun _ => False)) (F0 m 51 ls [])) (n : Nat) (i3 : Nat) (a2 : Int32), i3 + n = nW σ → fX1_inState_L4 σ xi κ n i3 a2 = r → ∀ (ls : Array Slot), lv_has ls 4 [(0, .ref (α 0 0)), (1, .ref (E (10 + xi))), (2, .int (a2)), (3, .int (nI i3))] → W p l e { frames := 3, cells := 0, slots := 0, locals := 64 } s m [(.ref (α 0 0) : Value), .ref (E (10 + xi))].toArray below meth c s.heap [] 0 0 (MQ below (qP (some (.int r))) [(.ref (α 0 0) : Value), .ref (E (10 + xi))].toArray s 0 0 (fun _ => False)) (F0 m 4 ls []) := by
    intro  κ hκ n
    induction n with
    | zero =>
      intro i3 a2 hn hR ls hl
      rw [fX1_inState_L4] at hR
      refine lv_iload_n hx hb dX1_inState_4 rfl (lv_at hl 3 rfl) ?_
      refine lv_aload_n hx hb dX1_inState_5 rfl (lv_at hl 0 rfl) ?_
      refine gf (v := .ref (α 1 3)) (C := RX1) (T := TX1) (N := 6) (k := 4) hx hb hts hown hG cl_X1 in_X1 hX.ag (by decide) q307 rfl dX1_inState_6 ?_
      refine pcF (x := xL_size) (ci := 13) (As := []) (rest := [.int (nI i3)]) hG.fw_size hS0 (met_xl_size l D E (j := 3) (by decide)) q331 q334 q336 q103 q338 hd_xL_size ⟨Nat.le_of_ble_eq_true rfl, Nat.le_of_ble_eq_true rfl⟩ hG cl_J2 (hX.lsR hG (j := 3) (by decide)) hX rfl hl.1 rfl (Nat.le_of_ble_eq_true rfl) dX1_inState_9 ⟨Nat.le_refl _, Nat.le_refl _⟩ ?_
      refine W.eq (g2 := F0 m 14 ls [.int (nI (nW σ)), .int (nI i3)]) rfl ?_
      refine lk_ge_out (k := i3) (N := nW σ) hx hb hn (tgt := 51) dX1_inState_14 (by decide) ?_
      exact hκ a2 ls hR (lv_sub hl [2] rfl)
    | succ n ih =>
      intro i3 a2 hn hR ls hl
      rw [fX1_inState_L4] at hR
      refine lv_iload_n hx hb dX1_inState_4 rfl (lv_at hl 3 rfl) ?_
      refine lv_aload_n hx hb dX1_inState_5 rfl (lv_at hl 0 rfl) ?_
      refine gf (v := .ref (α 1 3)) (C := RX1) (T := TX1) (N := 6) (k := 4) hx hb hts hown hG cl_X1 in_X1 hX.ag (by decide) q307 rfl dX1_inState_6 ?_
      refine pcF (x := xL_size) (ci := 13) (As := []) (rest := [.int (nI i3)]) hG.fw_size hS0 (met_xl_size l D E (j := 3) (by decide)) q331 q334 q336 q103 q338 hd_xL_size ⟨Nat.le_of_ble_eq_true rfl, Nat.le_of_ble_eq_true rfl⟩ hG cl_J2 (hX.lsR hG (j := 3) (by decide)) hX rfl hl.1 rfl (Nat.le_of_ble_eq_true rfl) dX1_inState_9 ⟨Nat.le_refl _, Nat.le_refl _⟩ ?_
      refine W.eq (g2 := F0 m 14 ls [.int (nI (nW σ)), .int (nI i3)]) rfl ?_
      have hki3 : i3 < nW σ := lk_lt hn
      refine lk_ge_in (k := i3) (N := nW σ) hx hb hki3 (by have := hX.nW14; omega) (tgt := 51) dX1_inState_14 (by decide) ?_
      refine lv_iload_n hx hb dX1_inState_17 rfl (lv_at hl 2 rfl) ?_
      refine lv_aload_n hx hb dX1_inState_18 rfl (lv_at hl 0 rfl) ?_
      refine gf (v := .ref (α 1 3)) (C := RX1) (T := TX1) (N := 6) (k := 4) hx hb hts hown hG cl_X1 in_X1 hX.ag (by decide) q307 rfl dX1_inState_19 ?_
      refine lv_iload_n hx hb dX1_inState_22 rfl (lv_at hl 3 rfl) ?_
      refine pcF (x := xL_get) (ci := 13) (As := [.int (nI i3)]) (rest := [.int (a2)]) hG.fw_get hS0 (met_xl_get l D E (j := 3) (by decide) i3 hki3) q344 q347 q349 q103 q351 hd_xL_get ⟨Nat.le_of_ble_eq_true rfl, Nat.le_of_ble_eq_true rfl⟩ hG cl_J2 (hX.lsR hG (j := 3) (by decide)) hX rfl hl.1 rfl (Nat.le_of_ble_eq_true rfl) dX1_inState_23 ⟨Nat.le_refl _, Nat.le_refl _⟩ ?_
      refine W.eq (g2 := F0 m 28 ls [.ref (α 5 i3), .int (a2)]) rfl ?_
      refine gc (ci := 8) hx hb hown hG cl_X10 (rcv hG cl_X10 (hX.wd hki3)) (hts _ q369) dX1_inState_28 ?_
      refine lv_aload_n hx hb dX1_inState_31 rfl (lv_at hl 1 rfl) ?_
      refine pcV (As := [.ref (E (10 + xi))]) (rest := [.int (a2)]) hS0 (met_X10_is l D E i3 xi hki3 h_xi) q370 q371 q372 q130 q373 hd_X10_is ⟨Nat.le_of_ble_eq_true rfl, Nat.le_of_ble_eq_true rfl⟩ hG (rcv hG cl_X10 (hX.wd hki3)) hX rfl hl.1 rfl (Nat.le_of_ble_eq_true rfl) dX1_inState_32 ⟨Nat.le_refl _, Nat.le_refl _⟩ ?_
      refine W.eq (g2 := F0 m 35 ls [.int (bI ((fX10_is σ i3 xi))), .int (a2)]) rfl ?_
      refine lb_if_eq (tgt := 42) hx hb dX1_inState_35 (by decide) (fun c1 => ?_) (fun c1 => ?_)
      · rw [if_neg c1] at hR
        refine lv_iconst (v := 0) hx hb dX1_inState_42 (by decide) ?_
        refine lv_iadd hx hb dX1_inState_43 ?_
        refine lv_istore_n (lv' := [(2, .int (a2 + 0)), (0, .ref (α 0 0)), (1, .ref (E (10 + xi))), (3, .int (nI i3))]) hx hb dX1_inState_44 rfl hl (Nat.le_of_ble_eq_true rfl) rfl (fun ls hl => ?_)
        refine lv_iinc (v := nI (i3 + 1)) (lv' := [(3, .int (nI (i3 + 1))), (2, .int (a2 + 0)), (0, .ref (α 0 0)), (1, .ref (E (10 + xi)))]) hx hb dX1_inState_45 hl (k := 3) rfl (nI_1 i3) (Nat.le_of_ble_eq_true rfl) rfl (fun ls hl => ?_)
        refine lv_goto (tgt := 4) hx hb dX1_inState_48 (by decide) ?_
        exact ih (i3 + 1) (a2 + 0) (lk_st hn) hR ls (lv_sub hl [2, 3, 1, 0] rfl)
      · rw [if_pos c1] at hR
        refine lv_iconst (v := 1) hx hb dX1_inState_38 (by decide) ?_
        refine lv_goto (tgt := 43) hx hb dX1_inState_39 (by decide) ?_
        refine lv_iadd hx hb dX1_inState_43 ?_
        refine lv_istore_n (lv' := [(2, .int (a2 + 1)), (0, .ref (α 0 0)), (1, .ref (E (10 + xi))), (3, .int (nI i3))]) hx hb dX1_inState_44 rfl hl (Nat.le_of_ble_eq_true rfl) rfl (fun ls hl => ?_)
        refine lv_iinc (v := nI (i3 + 1)) (lv' := [(3, .int (nI (i3 + 1))), (2, .int (a2 + 1)), (0, .ref (α 0 0)), (1, .ref (E (10 + xi)))]) hx hb dX1_inState_45 hl (k := 3) rfl (nI_1 i3) (Nat.le_of_ble_eq_true rfl) rfl (fun ls hl => ?_)
        refine lv_goto (tgt := 4) hx hb dX1_inState_48 (by decide) ?_
        exact ih (i3 + 1) (a2 + 1) (lk_st hn) hR ls (lv_sub hl [2, 3, 1, 0] rfl)
  unfold fX1_inState at hR
  refine lv_iconst (v := 0) hx hb dX1_inState_0 (by decide) ?_
  refine lv_istore_n (lv' := [(2, .int 0), (0, .ref (α 0 0)), (1, .ref (E (10 + xi)))]) hx hb dX1_inState_1 rfl hl (Nat.le_of_ble_eq_true rfl) rfl (fun ls hl => ?_)
  refine lv_iconst (v := 0) hx hb dX1_inState_2 (by decide) ?_
  refine lv_istore_n (lv' := [(3, .int 0), (2, .int 0), (0, .ref (α 0 0)), (1, .ref (E (10 + xi)))]) hx hb dX1_inState_3 rfl hl (Nat.le_of_ble_eq_true rfl) rfl (fun ls hl => ?_)
  refine hL4  _ (fun a2 ls hR hl => ?_) (nW σ) 0 0 (Nat.zero_add _) hR ls (lv_sub hl [2, 3, 1, 0] rfl)
  refine lv_iload_n hx hb dX1_inState_51 rfl (lv_at hl 0 rfl) ?_
  exact p_iret hx hb hr hlocks dX1_inState_52 (by rw [← hR])

def fX1_paid_L4 (σ : St)  (κ : Int32 → Int32) : Nat → Nat → Int32 → Int32
  | 0, i2, a1 => κ a1
  | n + 1, i2, a1 => fX1_paid_L4 σ κ n (i2 + 1) (a1 + (wPaid σ i2))
def fX1_paid (σ : St) : Int32 :=
  fX1_paid_L4 σ (fun (a1 : Int32) => a1) (nW σ) 0 0
set_option maxHeartbeats 4000000 in
set_option maxRecDepth 100000 in
theorem met_X1_paid (l : Launch) (D : va_G) (E : Nat → Nat) {α : Nat → Nat → Nat} {F : Nat → Prop} {σ : St}   : PM l D E yX1_paid cX1_paid 3 (Option.some Jvm.ClassFile.FieldType.int) 3 64 [.ref (α 0 0)] (RX D E α F σ) (some (.int (fX1_paid σ))) := by
  generalize hR : fX1_paid σ = r
  refine PM.start (by decide) (Nat.le_of_ble_eq_true rfl) ?_
  intro p e s m below meth c ls hx hb hr hml hown hlocks hts hG hX hl
  have hown : s.vm.findClass RX1 = some m.cls := hown
  have hS0 : xS p m c cX1_paid 3 s _ RX1 := ⟨hx, hb, hml, hown, hts⟩
  have hl : lv_has ls 3 [(0, .ref (α 0 0))] := hl
  have hL4 : ∀ (κ : Int32 → Int32) (hκ : ∀ (a1 : Int32) (ls : Array Slot), κ a1 = r → lv_has ls 3 [(1, .int (a1))] → W p l e { frames := 3, cells := 0, slots := 0, locals := 64 } s m [(.ref (α 0 0) : Value)].toArray below meth c s.heap [] 0 0 (MQ below (qP (some (.int r))) [(.ref (α 0 0) : Value)].toArray s 0 0 (fun _ => False)) (F0 m 42 ls [])) (n : Nat) (i2 : Nat) (a1 : Int32), i2 + n = nW σ → fX1_paid_L4 σ κ n i2 a1 = r → ∀ (ls : Array Slot), lv_has ls 3 [(0, .ref (α 0 0)), (1, .int (a1)), (2, .int (nI i2))] → W p l e { frames := 3, cells := 0, slots := 0, locals := 64 } s m [(.ref (α 0 0) : Value)].toArray below meth c s.heap [] 0 0 (MQ below (qP (some (.int r))) [(.ref (α 0 0) : Value)].toArray s 0 0 (fun _ => False)) (F0 m 4 ls []) := by
    intro  κ hκ n
    induction n with
    | zero =>
      intro i2 a1 hn hR ls hl
      rw [fX1_paid_L4] at hR
      refine lv_iload_n hx hb dX1_paid_4 rfl (lv_at hl 2 rfl) ?_
      refine lv_aload_n hx hb dX1_paid_5 rfl (lv_at hl 0 rfl) ?_
      refine gf (v := .ref (α 1 3)) (C := RX1) (T := TX1) (N := 6) (k := 4) hx hb hts hown hG cl_X1 in_X1 hX.ag (by decide) q307 rfl dX1_paid_6 ?_
      refine pcF (x := xL_size) (ci := 13) (As := []) (rest := [.int (nI i2)]) hG.fw_size hS0 (met_xl_size l D E (j := 3) (by decide)) q331 q334 q336 q103 q338 hd_xL_size ⟨Nat.le_of_ble_eq_true rfl, Nat.le_of_ble_eq_true rfl⟩ hG cl_J2 (hX.lsR hG (j := 3) (by decide)) hX rfl hl.1 rfl (Nat.le_of_ble_eq_true rfl) dX1_paid_9 ⟨Nat.le_refl _, Nat.le_refl _⟩ ?_
      refine W.eq (g2 := F0 m 14 ls [.int (nI (nW σ)), .int (nI i2)]) rfl ?_
      refine lk_ge_out (k := i2) (N := nW σ) hx hb hn (tgt := 42) dX1_paid_14 (by decide) ?_
      exact hκ a1 ls hR (lv_sub hl [1] rfl)
    | succ n ih =>
      intro i2 a1 hn hR ls hl
      rw [fX1_paid_L4] at hR
      refine lv_iload_n hx hb dX1_paid_4 rfl (lv_at hl 2 rfl) ?_
      refine lv_aload_n hx hb dX1_paid_5 rfl (lv_at hl 0 rfl) ?_
      refine gf (v := .ref (α 1 3)) (C := RX1) (T := TX1) (N := 6) (k := 4) hx hb hts hown hG cl_X1 in_X1 hX.ag (by decide) q307 rfl dX1_paid_6 ?_
      refine pcF (x := xL_size) (ci := 13) (As := []) (rest := [.int (nI i2)]) hG.fw_size hS0 (met_xl_size l D E (j := 3) (by decide)) q331 q334 q336 q103 q338 hd_xL_size ⟨Nat.le_of_ble_eq_true rfl, Nat.le_of_ble_eq_true rfl⟩ hG cl_J2 (hX.lsR hG (j := 3) (by decide)) hX rfl hl.1 rfl (Nat.le_of_ble_eq_true rfl) dX1_paid_9 ⟨Nat.le_refl _, Nat.le_refl _⟩ ?_
      refine W.eq (g2 := F0 m 14 ls [.int (nI (nW σ)), .int (nI i2)]) rfl ?_
      have hki2 : i2 < nW σ := lk_lt hn
      refine lk_ge_in (k := i2) (N := nW σ) hx hb hki2 (by have := hX.nW14; omega) (tgt := 42) dX1_paid_14 (by decide) ?_
      refine lv_iload_n hx hb dX1_paid_17 rfl (lv_at hl 1 rfl) ?_
      refine lv_aload_n hx hb dX1_paid_18 rfl (lv_at hl 0 rfl) ?_
      refine gf (v := .ref (α 1 3)) (C := RX1) (T := TX1) (N := 6) (k := 4) hx hb hts hown hG cl_X1 in_X1 hX.ag (by decide) q307 rfl dX1_paid_19 ?_
      refine lv_iload_n hx hb dX1_paid_22 rfl (lv_at hl 2 rfl) ?_
      refine pcF (x := xL_get) (ci := 13) (As := [.int (nI i2)]) (rest := [.int (a1)]) hG.fw_get hS0 (met_xl_get l D E (j := 3) (by decide) i2 hki2) q344 q347 q349 q103 q351 hd_xL_get ⟨Nat.le_of_ble_eq_true rfl, Nat.le_of_ble_eq_true rfl⟩ hG cl_J2 (hX.lsR hG (j := 3) (by decide)) hX rfl hl.1 rfl (Nat.le_of_ble_eq_true rfl) dX1_paid_23 ⟨Nat.le_refl _, Nat.le_refl _⟩ ?_
      refine W.eq (g2 := F0 m 28 ls [.ref (α 5 i2), .int (a1)]) rfl ?_
      refine gc (ci := 8) hx hb hown hG cl_X10 (rcv hG cl_X10 (hX.wd hki2)) (hts _ q369) dX1_paid_28 ?_
      refine gfN (v := .int (wPaid σ i2)) (C := RX10) (T := TX10) (N := 12) (k := 10) hx hb hts hown hG cl_X10 in_X10 (hX.wd hki2) (by decide) q1031 rfl dX1_paid_31 ?_
      refine lv_iadd hx hb dX1_paid_34 ?_
      refine lv_istore_n (lv' := [(1, .int (a1 + (wPaid σ i2))), (0, .ref (α 0 0)), (2, .int (nI i2))]) hx hb dX1_paid_35 rfl hl (Nat.le_of_ble_eq_true rfl) rfl (fun ls hl => ?_)
      refine lv_iinc (v := nI (i2 + 1)) (lv' := [(2, .int (nI (i2 + 1))), (1, .int (a1 + (wPaid σ i2))), (0, .ref (α 0 0))]) hx hb dX1_paid_36 hl (k := 2) rfl (nI_1 i2) (Nat.le_of_ble_eq_true rfl) rfl (fun ls hl => ?_)
      refine lv_goto (tgt := 4) hx hb dX1_paid_39 (by decide) ?_
      exact ih (i2 + 1) (a1 + (wPaid σ i2)) (lk_st hn) hR ls (lv_sub hl [2, 1, 0] rfl)
  unfold fX1_paid at hR
  refine lv_iconst (v := 0) hx hb dX1_paid_0 (by decide) ?_
  refine lv_istore_n (lv' := [(1, .int 0), (0, .ref (α 0 0))]) hx hb dX1_paid_1 rfl hl (Nat.le_of_ble_eq_true rfl) rfl (fun ls hl => ?_)
  refine lv_iconst (v := 0) hx hb dX1_paid_2 (by decide) ?_
  refine lv_istore_n (lv' := [(2, .int 0), (1, .int 0), (0, .ref (α 0 0))]) hx hb dX1_paid_3 rfl hl (Nat.le_of_ble_eq_true rfl) rfl (fun ls hl => ?_)
  refine hL4  _ (fun a1 ls hR hl => ?_) (nW σ) 0 0 (Nat.zero_add _) hR ls (lv_sub hl [2, 1, 0] rfl)
  refine lv_iload_n hx hb dX1_paid_42 rfl (lv_at hl 0 rfl) ?_
  exact p_iret hx hb hr hlocks dX1_paid_43 (by rw [← hR])

def fX1_ofAll_L10 (σ : St) (q : Int32)  (κ : Int32 → Int32 → Int32 → Int32) : Nat → Nat → Int32 → Int32 → Int32 → Int32
  | 0, i5, a2, a3, a4 => κ a2 a3 a4
  | n + 1, i5, a2, a3, a4 => fX1_ofAll_L10 σ q κ n (i5 + 1) (a2 + (pEarned σ i5)) (a3 + ((fX6_daysOff σ i5))) (a4 + (nI (popc (pFeuds σ i5))))
def fX1_ofAll (σ : St) (q : Int32) : Int32 :=
  fX1_ofAll_L10 σ q (fun (a1 : Int32) (a2 : Int32) (a3 : Int32) => (if q = 9 then a3 / 2 else (if q = 10 then a1 else a2))) (nP σ) 0 0 0 0
set_option maxHeartbeats 4000000 in
set_option maxRecDepth 100000 in
theorem met_X1_ofAll (l : Launch) (D : va_G) (E : Nat → Nat) {α : Nat → Nat → Nat} {F : Nat → Prop} {σ : St} (q : Int32)  : PM l D E yX1_ofAll cX1_ofAll 6 (Option.some Jvm.ClassFile.FieldType.int) 3 64 [.ref (α 0 0), .int (q)] (RX D E α F σ) (some (.int (fX1_ofAll σ q))) := by
  generalize hR : fX1_ofAll σ q = r
  refine PM.start (by decide) (Nat.le_of_ble_eq_true rfl) ?_
  intro p e s m below meth c ls hx hb hr hml hown hlocks hts hG hX hl
  have hown : s.vm.findClass RX1 = some m.cls := hown
  have hS0 : xS p m c cX1_ofAll 6 s _ RX1 := ⟨hx, hb, hml, hown, hts⟩
  have hl : lv_has ls 6 [(0, .ref (α 0 0)), (1, .int (q))] := hl
  have hL10 : ∀ (κ : Int32 → Int32 → Int32 → Int32) (hκ : ∀ (a2 : Int32) (a3 : Int32) (a4 : Int32) (ls : Array Slot), κ a2 a3 a4 = r → lv_has ls 6 [(1, .int (q)), (2, .int (a2)), (3, .int (a3)), (4, .int (a4))] → W p l e { frames := 3, cells := 0, slots := 0, locals := 64 } s m [(.ref (α 0 0) : Value), .int (q)].toArray below meth c s.heap [] 0 0 (MQ below (qP (some (.int r))) [(.ref (α 0 0) : Value), .int (q)].toArray s 0 0 (fun _ => False)) (F0 m 95 ls [])) (n : Nat) (i5 : Nat) (a2 : Int32) (a3 : Int32) (a4 : Int32), i5 + n = nP σ → fX1_ofAll_L10 σ q κ n i5 a2 a3 a4 = r → ∀ (ls : Array Slot), lv_has ls 6 [(0, .ref (α 0 0)), (1, .int (q)), (2, .int (a2)), (3, .int (a3)), (4, .int (a4)), (5, .int (nI i5))] → W p l e { frames := 3, cells := 0, slots := 0, locals := 64 } s m [(.ref (α 0 0) : Value), .int (q)].toArray below meth c s.heap [] 0 0 (MQ below (qP (some (.int r))) [(.ref (α 0 0) : Value), .int (q)].toArray s 0 0 (fun _ => False)) (F0 m 10 ls []) := by
    intro  κ hκ n
    induction n with
    | zero =>
      intro i5 a2 a3 a4 hn hR ls hl
      rw [fX1_ofAll_L10] at hR
      refine lv_iload hx hb dX1_ofAll_10 (lv_at hl 5 rfl) ?_
      refine lv_aload_n hx hb dX1_ofAll_12 rfl (lv_at hl 0 rfl) ?_
      refine gf (v := .ref (α 1 0)) (C := RX1) (T := TX1) (N := 6) (k := 0) hx hb hts hown hG cl_X1 in_X1 hX.ag (by decide) q301 rfl dX1_ofAll_13 ?_
      refine pcF (x := xL_size) (ci := 13) (As := []) (rest := [.int (nI i5)]) hG.fw_size hS0 (met_xl_size l D E (j := 0) (by decide)) q331 q334 q336 q103 q338 hd_xL_size ⟨Nat.le_of_ble_eq_true rfl, Nat.le_of_ble_eq_true rfl⟩ hG cl_J2 (hX.lsR hG (j := 0) (by decide)) hX rfl hl.1 rfl (Nat.le_of_ble_eq_true rfl) dX1_ofAll_16 ⟨Nat.le_refl _, Nat.le_refl _⟩ ?_
      refine W.eq (g2 := F0 m 21 ls [.int (nI (nP σ)), .int (nI i5)]) rfl ?_
      refine lk_ge_out (k := i5) (N := nP σ) hx hb hn (tgt := 95) dX1_ofAll_21 (by decide) ?_
      exact hκ a2 a3 a4 ls hR (lv_sub hl [1, 2, 3, 4] rfl)
    | succ n ih =>
      intro i5 a2 a3 a4 hn hR ls hl
      rw [fX1_ofAll_L10] at hR
      refine lv_iload hx hb dX1_ofAll_10 (lv_at hl 5 rfl) ?_
      refine lv_aload_n hx hb dX1_ofAll_12 rfl (lv_at hl 0 rfl) ?_
      refine gf (v := .ref (α 1 0)) (C := RX1) (T := TX1) (N := 6) (k := 0) hx hb hts hown hG cl_X1 in_X1 hX.ag (by decide) q301 rfl dX1_ofAll_13 ?_
      refine pcF (x := xL_size) (ci := 13) (As := []) (rest := [.int (nI i5)]) hG.fw_size hS0 (met_xl_size l D E (j := 0) (by decide)) q331 q334 q336 q103 q338 hd_xL_size ⟨Nat.le_of_ble_eq_true rfl, Nat.le_of_ble_eq_true rfl⟩ hG cl_J2 (hX.lsR hG (j := 0) (by decide)) hX rfl hl.1 rfl (Nat.le_of_ble_eq_true rfl) dX1_ofAll_16 ⟨Nat.le_refl _, Nat.le_refl _⟩ ?_
      refine W.eq (g2 := F0 m 21 ls [.int (nI (nP σ)), .int (nI i5)]) rfl ?_
      have hki5 : i5 < nP σ := lk_lt hn
      refine lk_ge_in (k := i5) (N := nP σ) hx hb hki5 (by have := hX.nP10; omega) (tgt := 95) dX1_ofAll_21 (by decide) ?_
      refine lv_iload_n hx hb dX1_ofAll_24 rfl (lv_at hl 2 rfl) ?_
      refine lv_aload_n hx hb dX1_ofAll_25 rfl (lv_at hl 0 rfl) ?_
      refine gf (v := .ref (α 1 0)) (C := RX1) (T := TX1) (N := 6) (k := 0) hx hb hts hown hG cl_X1 in_X1 hX.ag (by decide) q301 rfl dX1_ofAll_26 ?_
      refine lv_iload hx hb dX1_ofAll_29 (lv_at hl 5 rfl) ?_
      refine pcF (x := xL_get) (ci := 13) (As := [.int (nI i5)]) (rest := [.int (a2)]) hG.fw_get hS0 (met_xl_get l D E (j := 0) (by decide) i5 hki5) q344 q347 q349 q103 q351 hd_xL_get ⟨Nat.le_of_ble_eq_true rfl, Nat.le_of_ble_eq_true rfl⟩ hG cl_J2 (hX.lsR hG (j := 0) (by decide)) hX rfl hl.1 rfl (Nat.le_of_ble_eq_true rfl) dX1_ofAll_31 ⟨Nat.le_refl _, Nat.le_refl _⟩ ?_
      refine W.eq (g2 := F0 m 36 ls [.ref (α 3 i5), .int (a2)]) rfl ?_
      refine gc (ci := 5) hx hb hown hG cl_X6 (rcv hG cl_X6 (hX.pl hki5)) (hts _ q362) dX1_ofAll_36 ?_
      refine gfN (v := .int (pEarned σ i5)) (C := RX6) (T := TX6) (N := 7) (k := 5) hx hb hts hown hG cl_X6 in_X6 (hX.pl hki5) (by decide) q918 rfl dX1_ofAll_39 ?_
      refine lv_iadd hx hb dX1_ofAll_42 ?_
      refine lv_istore_n (lv' := [(2, .int (a2 + (pEarned σ i5))), (0, .ref (α 0 0)), (1, .int (q)), (3, .int (a3)), (4, .int (a4)), (5, .int (nI i5))]) hx hb dX1_ofAll_43 rfl hl (Nat.le_of_ble_eq_true rfl) rfl (fun ls hl => ?_)
      refine lv_iload_n hx hb dX1_ofAll_44 rfl (lv_at hl 3 rfl) ?_
      refine lv_aload_n hx hb dX1_ofAll_45 rfl (lv_at hl 1 rfl) ?_
      refine gf (v := .ref (α 1 0)) (C := RX1) (T := TX1) (N := 6) (k := 0) hx hb hts hown hG cl_X1 in_X1 hX.ag (by decide) q301 rfl dX1_ofAll_46 ?_
      refine lv_iload hx hb dX1_ofAll_49 (lv_at hl 5 rfl) ?_
      refine pcF (x := xL_get) (ci := 13) (As := [.int (nI i5)]) (rest := [.int (a3)]) hG.fw_get hS0 (met_xl_get l D E (j := 0) (by decide) i5 hki5) q344 q347 q349 q103 q351 hd_xL_get ⟨Nat.le_of_ble_eq_true rfl, Nat.le_of_ble_eq_true rfl⟩ hG cl_J2 (hX.lsR hG (j := 0) (by decide)) hX rfl hl.1 rfl (Nat.le_of_ble_eq_true rfl) dX1_ofAll_51 ⟨Nat.le_refl _, Nat.le_refl _⟩ ?_
      refine W.eq (g2 := F0 m 56 ls [.ref (α 3 i5), .int (a3)]) rfl ?_
      refine gc (ci := 5) hx hb hown hG cl_X6 (rcv hG cl_X6 (hX.pl hki5)) (hts _ q362) dX1_ofAll_56 ?_
      refine pcV (As := []) (rest := [.int (a3)]) hS0 (met_X6_daysOff l D E i5 hki5) q415 q416 q417 q120 q418 hd_X6_daysOff ⟨Nat.le_of_ble_eq_true rfl, Nat.le_of_ble_eq_true rfl⟩ hG (rcv hG cl_X6 (hX.pl hki5)) hX rfl hl.1 rfl (Nat.le_of_ble_eq_true rfl) dX1_ofAll_59 ⟨Nat.le_refl _, Nat.le_refl _⟩ ?_
      refine W.eq (g2 := F0 m 62 ls [.int ((fX6_daysOff σ i5)), .int (a3)]) rfl ?_
      refine lv_iadd hx hb dX1_ofAll_62 ?_
      refine lv_istore_n (lv' := [(3, .int (a3 + ((fX6_daysOff σ i5)))), (2, .int (a2 + (pEarned σ i5))), (0, .ref (α 0 0)), (1, .int (q)), (4, .int (a4)), (5, .int (nI i5))]) hx hb dX1_ofAll_63 rfl hl (Nat.le_of_ble_eq_true rfl) rfl (fun ls hl => ?_)
      refine lv_iload hx hb dX1_ofAll_64 (lv_at hl 4 rfl) ?_
      refine lv_aload_n hx hb dX1_ofAll_66 rfl (lv_at hl 2 rfl) ?_
      refine gf (v := .ref (α 1 0)) (C := RX1) (T := TX1) (N := 6) (k := 0) hx hb hts hown hG cl_X1 in_X1 hX.ag (by decide) q301 rfl dX1_ofAll_67 ?_
      refine lv_iload hx hb dX1_ofAll_70 (lv_at hl 5 rfl) ?_
      refine pcF (x := xL_get) (ci := 13) (As := [.int (nI i5)]) (rest := [.int (a4)]) hG.fw_get hS0 (met_xl_get l D E (j := 0) (by decide) i5 hki5) q344 q347 q349 q103 q351 hd_xL_get ⟨Nat.le_of_ble_eq_true rfl, Nat.le_of_ble_eq_true rfl⟩ hG cl_J2 (hX.lsR hG (j := 0) (by decide)) hX rfl hl.1 rfl (Nat.le_of_ble_eq_true rfl) dX1_ofAll_72 ⟨Nat.le_refl _, Nat.le_refl _⟩ ?_
      refine W.eq (g2 := F0 m 77 ls [.ref (α 3 i5), .int (a4)]) rfl ?_
      refine gc (ci := 5) hx hb hown hG cl_X6 (rcv hG cl_X6 (hX.pl hki5)) (hts _ q362) dX1_ofAll_77 ?_
      refine gfN (v := .int (pFeuds σ i5)) (C := RX6) (T := TX6) (N := 7) (k := 4) hx hb hts hown hG cl_X6 in_X6 (hX.pl hki5) (by decide) q917 rfl dX1_ofAll_80 ?_
      refine pcS (As := [.int (pFeuds σ i5)]) (rest := [.int (a4)]) hS0 (met_size l D E (pFeuds σ i5)) q379 q380 q100 q381 hd_X1_size ⟨Nat.le_of_ble_eq_true rfl, Nat.le_of_ble_eq_true rfl⟩ hG trivial rfl hl.1 rfl (Nat.le_of_ble_eq_true rfl) dX1_ofAll_83 ⟨Nat.le_refl _, Nat.le_refl _⟩ ?_
      refine W.eq (g2 := F0 m 86 ls [.int (nI (popc (pFeuds σ i5))), .int (a4)]) rfl ?_
      refine lv_iadd hx hb dX1_ofAll_86 ?_
      refine lv_istore (lv' := [(4, .int (a4 + (nI (popc (pFeuds σ i5))))), (3, .int (a3 + ((fX6_daysOff σ i5)))), (2, .int (a2 + (pEarned σ i5))), (0, .ref (α 0 0)), (1, .int (q)), (5, .int (nI i5))]) hx hb dX1_ofAll_87 hl (Nat.le_of_ble_eq_true rfl) rfl (fun ls hl => ?_)
      refine lv_iinc (v := nI (i5 + 1)) (lv' := [(5, .int (nI (i5 + 1))), (4, .int (a4 + (nI (popc (pFeuds σ i5))))), (3, .int (a3 + ((fX6_daysOff σ i5)))), (2, .int (a2 + (pEarned σ i5))), (0, .ref (α 0 0)), (1, .int (q))]) hx hb dX1_ofAll_89 hl (k := 5) rfl (nI_1 i5) (Nat.le_of_ble_eq_true rfl) rfl (fun ls hl => ?_)
      refine lv_goto (tgt := 10) hx hb dX1_ofAll_92 (by decide) ?_
      exact ih (i5 + 1) (a2 + (pEarned σ i5)) (a3 + ((fX6_daysOff σ i5))) (a4 + (nI (popc (pFeuds σ i5)))) (lk_st hn) hR ls (lv_sub hl [4, 5, 3, 2, 1, 0] rfl)
  unfold fX1_ofAll at hR
  refine lv_iconst (v := 0) hx hb dX1_ofAll_0 (by decide) ?_
  refine lv_istore_n (lv' := [(2, .int 0), (0, .ref (α 0 0)), (1, .int (q))]) hx hb dX1_ofAll_1 rfl hl (Nat.le_of_ble_eq_true rfl) rfl (fun ls hl => ?_)
  refine lv_iconst (v := 0) hx hb dX1_ofAll_2 (by decide) ?_
  refine lv_istore_n (lv' := [(3, .int 0), (2, .int 0), (0, .ref (α 0 0)), (1, .int (q))]) hx hb dX1_ofAll_3 rfl hl (Nat.le_of_ble_eq_true rfl) rfl (fun ls hl => ?_)
  refine lv_iconst (v := 0) hx hb dX1_ofAll_4 (by decide) ?_
  refine lv_istore (lv' := [(4, .int 0), (3, .int 0), (2, .int 0), (0, .ref (α 0 0)), (1, .int (q))]) hx hb dX1_ofAll_5 hl (Nat.le_of_ble_eq_true rfl) rfl (fun ls hl => ?_)
  refine lv_iconst (v := 0) hx hb dX1_ofAll_7 (by decide) ?_
  refine lv_istore (lv' := [(5, .int 0), (4, .int 0), (3, .int 0), (2, .int 0), (0, .ref (α 0 0)), (1, .int (q))]) hx hb dX1_ofAll_8 hl (Nat.le_of_ble_eq_true rfl) rfl (fun ls hl => ?_)
  refine hL10  _ (fun a1 a2 a3 ls hR hl => ?_) (nP σ) 0 0 0 0 (Nat.zero_add _) hR ls (lv_sub hl [4, 5, 3, 2, 1, 0] rfl)
  refine lv_iload_n hx hb dX1_ofAll_95 rfl (lv_at hl 0 rfl) ?_
  refine lv_bipush (v := 9) hx hb dX1_ofAll_96 (by decide) ?_
  refine lv_icmp_ne (tgt := 108) hx hb dX1_ofAll_98 (by decide) (fun c4 => ?_) (fun c4 => ?_)
  · rw [if_neg c4] at hR
    refine lv_iload_n hx hb dX1_ofAll_108 rfl (lv_at hl 0 rfl) ?_
    refine lv_bipush (v := 10) hx hb dX1_ofAll_109 (by decide) ?_
    refine lv_icmp_ne (tgt := 118) hx hb dX1_ofAll_111 (by decide) (fun c5 => ?_) (fun c5 => ?_)
    · rw [if_neg c5] at hR
      refine lv_iload_n hx hb dX1_ofAll_118 rfl (lv_at hl 2 rfl) ?_
      exact p_iret hx hb hr hlocks dX1_ofAll_119 (by rw [← hR])
    · rw [if_pos c5] at hR
      refine lv_iload_n hx hb dX1_ofAll_114 rfl (lv_at hl 1 rfl) ?_
      refine lv_goto (tgt := 119) hx hb dX1_ofAll_115 (by decide) ?_
      exact p_iret hx hb hr hlocks dX1_ofAll_119 (by rw [← hR])
  · rw [if_pos c4] at hR
    refine lv_iload hx hb dX1_ofAll_101 (lv_at hl 3 rfl) ?_
    refine lv_iconst (v := 2) hx hb dX1_ofAll_103 (by decide) ?_
    refine lv_idiv hx hb dX1_ofAll_104 (by decide) ?_
    refine lv_goto (tgt := 119) hx hb dX1_ofAll_105 (by decide) ?_
    exact p_iret hx hb hr hlocks dX1_ofAll_119 (by rw [← hR])

def fX1_spread_L6 (σ : St)  (κ : Int32 → Int32 → Int32) : Nat → Nat → Int32 → Int32 → Int32
  | 0, i3, a1, a2 => κ a1 a2
  | n + 1, i3, a1, a2 => (if (nI i3) = 0 then fX1_spread_L6 σ κ n (i3 + 1) (if a1 < ((fX1_weddingsOf σ i3 2 true)) then ((fX1_weddingsOf σ i3 2 true)) else a1) ((fX1_weddingsOf σ i3 2 true)) else fX1_spread_L6 σ κ n (i3 + 1) (if a1 < ((fX1_weddingsOf σ i3 2 true)) then ((fX1_weddingsOf σ i3 2 true)) else a1) (if ((fX1_weddingsOf σ i3 2 true)) < a2 then ((fX1_weddingsOf σ i3 2 true)) else a2))
def fX1_spread (σ : St) : Int32 :=
  fX1_spread_L6 σ (fun (a2 : Int32) (a3 : Int32) => a2 - a3) (nP σ) 0 0 0
set_option maxHeartbeats 4000000 in
set_option maxRecDepth 100000 in
theorem met_X1_spread (l : Launch) (D : va_G) (E : Nat → Nat) {α : Nat → Nat → Nat} {F : Nat → Prop} {σ : St}   : PM l D E yX1_spread cX1_spread 5 (Option.some Jvm.ClassFile.FieldType.int) 4 90 [.ref (α 0 0)] (RX D E α F σ) (some (.int (fX1_spread σ))) := by
  generalize hR : fX1_spread σ = r
  refine PM.start (by decide) (Nat.le_of_ble_eq_true rfl) ?_
  intro p e s m below meth c ls hx hb hr hml hown hlocks hts hG hX hl
  have hown : s.vm.findClass RX1 = some m.cls := hown
  have hS0 : xS p m c cX1_spread 5 s _ RX1 := ⟨hx, hb, hml, hown, hts⟩
  have hl : lv_has ls 5 [(0, .ref (α 0 0))] := hl
  have hL6 : ∀ (κ : Int32 → Int32 → Int32) (hκ : ∀ (a1 : Int32) (a2 : Int32) (ls : Array Slot), κ a1 a2 = r → lv_has ls 5 [(1, .int (a1)), (2, .int (a2))] → W p l e { frames := 4, cells := 0, slots := 0, locals := 90 } s m [(.ref (α 0 0) : Value)].toArray below meth c s.heap [] 0 0 (MQ below (qP (some (.int r))) [(.ref (α 0 0) : Value)].toArray s 0 0 (fun _ => False)) (F0 m 59 ls [])) (n : Nat) (i3 : Nat) (a1 : Int32) (a2 : Int32), i3 + n = nP σ → fX1_spread_L6 σ κ n i3 a1 a2 = r → ∀ (ls : Array Slot), lv_has ls 5 [(0, .ref (α 0 0)), (1, .int (a1)), (2, .int (a2)), (3, .int (nI i3))] → W p l e { frames := 4, cells := 0, slots := 0, locals := 90 } s m [(.ref (α 0 0) : Value)].toArray below meth c s.heap [] 0 0 (MQ below (qP (some (.int r))) [(.ref (α 0 0) : Value)].toArray s 0 0 (fun _ => False)) (F0 m 6 ls []) := by
    intro  κ hκ n
    induction n with
    | zero =>
      intro i3 a1 a2 hn hR ls hl
      rw [fX1_spread_L6] at hR
      refine lv_iload_n hx hb dX1_spread_6 rfl (lv_at hl 3 rfl) ?_
      refine lv_aload_n hx hb dX1_spread_7 rfl (lv_at hl 0 rfl) ?_
      refine gf (v := .ref (α 1 0)) (C := RX1) (T := TX1) (N := 6) (k := 0) hx hb hts hown hG cl_X1 in_X1 hX.ag (by decide) q301 rfl dX1_spread_8 ?_
      refine pcF (x := xL_size) (ci := 13) (As := []) (rest := [.int (nI i3)]) hG.fw_size hS0 (met_xl_size l D E (j := 0) (by decide)) q331 q334 q336 q103 q338 hd_xL_size ⟨Nat.le_of_ble_eq_true rfl, Nat.le_of_ble_eq_true rfl⟩ hG cl_J2 (hX.lsR hG (j := 0) (by decide)) hX rfl hl.1 rfl (Nat.le_of_ble_eq_true rfl) dX1_spread_11 ⟨Nat.le_refl _, Nat.le_refl _⟩ ?_
      refine W.eq (g2 := F0 m 16 ls [.int (nI (nP σ)), .int (nI i3)]) rfl ?_
      refine lk_ge_out (k := i3) (N := nP σ) hx hb hn (tgt := 59) dX1_spread_16 (by decide) ?_
      exact hκ a1 a2 ls hR (lv_sub hl [1, 2] rfl)
    | succ n ih =>
      intro i3 a1 a2 hn hR ls hl
      rw [fX1_spread_L6] at hR
      refine lv_iload_n hx hb dX1_spread_6 rfl (lv_at hl 3 rfl) ?_
      refine lv_aload_n hx hb dX1_spread_7 rfl (lv_at hl 0 rfl) ?_
      refine gf (v := .ref (α 1 0)) (C := RX1) (T := TX1) (N := 6) (k := 0) hx hb hts hown hG cl_X1 in_X1 hX.ag (by decide) q301 rfl dX1_spread_8 ?_
      refine pcF (x := xL_size) (ci := 13) (As := []) (rest := [.int (nI i3)]) hG.fw_size hS0 (met_xl_size l D E (j := 0) (by decide)) q331 q334 q336 q103 q338 hd_xL_size ⟨Nat.le_of_ble_eq_true rfl, Nat.le_of_ble_eq_true rfl⟩ hG cl_J2 (hX.lsR hG (j := 0) (by decide)) hX rfl hl.1 rfl (Nat.le_of_ble_eq_true rfl) dX1_spread_11 ⟨Nat.le_refl _, Nat.le_refl _⟩ ?_
      refine W.eq (g2 := F0 m 16 ls [.int (nI (nP σ)), .int (nI i3)]) rfl ?_
      have hki3 : i3 < nP σ := lk_lt hn
      refine lk_ge_in (k := i3) (N := nP σ) hx hb hki3 (by have := hX.nP10; omega) (tgt := 59) dX1_spread_16 (by decide) ?_
      refine lv_aload_n hx hb dX1_spread_19 rfl (lv_at hl 0 rfl) ?_
      refine lv_iload_n hx hb dX1_spread_20 rfl (lv_at hl 3 rfl) ?_
      refine gs hx hb (hG.en (i := 2) (by decide)) hown (hts _ q377) (fun _ h => h) dX1_spread_21 ?_
      refine lv_iconst (v := 1) hx hb dX1_spread_24 (by decide) ?_
      refine pcV (As := [.int (nI i3), .ref (E (10 + 2)), .int 1]) (rest := []) hS0 (met_X1_weddingsOf l D E i3 2 true (by decide)) q365 q367 qs6 q100 q368 hd_X1_weddingsOf ⟨Nat.le_of_ble_eq_true rfl, Nat.le_of_ble_eq_true rfl⟩ hG (rcv hG cl_X1 hX.ag) hX rfl hl.1 rfl (Nat.le_of_ble_eq_true rfl) dX1_spread_25 ⟨Nat.le_refl _, Nat.le_refl _⟩ ?_
      refine W.eq (g2 := F0 m 28 ls [.int ((fX1_weddingsOf σ i3 2 true))]) rfl ?_
      refine lv_istore (lv' := [(4, .int ((fX1_weddingsOf σ i3 2 true))), (0, .ref (α 0 0)), (1, .int (a1)), (2, .int (a2)), (3, .int (nI i3))]) hx hb dX1_spread_28 hl (Nat.le_of_ble_eq_true rfl) rfl (fun ls hl => ?_)
      refine lv_iload_n hx hb dX1_spread_30 rfl (lv_at hl 2 rfl) ?_
      refine lv_iload hx hb dX1_spread_31 (lv_at hl 0 rfl) ?_
      refine va_mmax hx hb (hml.trans hl.1.symm) hown (hts _ q423) (hts _ q249) (hts _ q107) (hts _ q250) (Nat.le_of_ble_eq_true rfl) (Nat.le_of_ble_eq_true rfl) (Nat.le_refl _) (Nat.le_refl _) dX1_spread_33 ?_
      refine W.eq (g2 := F0 m 36 ls [.int (if a1 < ((fX1_weddingsOf σ i3 2 true)) then ((fX1_weddingsOf σ i3 2 true)) else a1)]) rfl ?_
      refine lv_istore_n (lv' := [(1, .int (if a1 < ((fX1_weddingsOf σ i3 2 true)) then ((fX1_weddingsOf σ i3 2 true)) else a1)), (4, .int ((fX1_weddingsOf σ i3 2 true))), (0, .ref (α 0 0)), (2, .int (a2)), (3, .int (nI i3))]) hx hb dX1_spread_36 rfl hl (Nat.le_of_ble_eq_true rfl) rfl (fun ls hl => ?_)
      refine lv_iload_n hx hb dX1_spread_37 rfl (lv_at hl 4 rfl) ?_
      refine lv_if_ne (tgt := 46) hx hb dX1_spread_38 (by decide) (fun c1 => ?_) (fun c1 => ?_)
      · rw [if_neg c1] at hR
        refine lv_iload_n hx hb dX1_spread_46 rfl (lv_at hl 3 rfl) ?_
        refine lv_iload hx hb dX1_spread_47 (lv_at hl 1 rfl) ?_
        refine va_mmin hx hb (hml.trans hl.1.symm) hown (hts _ q424) (hts _ q293) (hts _ q107) (hts _ q294) (Nat.le_of_ble_eq_true rfl) (Nat.le_of_ble_eq_true rfl) (Nat.le_refl _) (Nat.le_refl _) dX1_spread_49 ?_
        refine W.eq (g2 := F0 m 52 ls [.int (if ((fX1_weddingsOf σ i3 2 true)) < a2 then ((fX1_weddingsOf σ i3 2 true)) else a2)]) rfl ?_
        refine lv_istore_n (lv' := [(2, .int (if ((fX1_weddingsOf σ i3 2 true)) < a2 then ((fX1_weddingsOf σ i3 2 true)) else a2)), (1, .int (if a1 < ((fX1_weddingsOf σ i3 2 true)) then ((fX1_weddingsOf σ i3 2 true)) else a1)), (4, .int ((fX1_weddingsOf σ i3 2 true))), (0, .ref (α 0 0)), (3, .int (nI i3))]) hx hb dX1_spread_52 rfl hl (Nat.le_of_ble_eq_true rfl) rfl (fun ls hl => ?_)
        refine lv_iinc (v := nI (i3 + 1)) (lv' := [(3, .int (nI (i3 + 1))), (2, .int (if ((fX1_weddingsOf σ i3 2 true)) < a2 then ((fX1_weddingsOf σ i3 2 true)) else a2)), (1, .int (if a1 < ((fX1_weddingsOf σ i3 2 true)) then ((fX1_weddingsOf σ i3 2 true)) else a1)), (4, .int ((fX1_weddingsOf σ i3 2 true))), (0, .ref (α 0 0))]) hx hb dX1_spread_53 hl (k := 4) rfl (nI_1 i3) (Nat.le_of_ble_eq_true rfl) rfl (fun ls hl => ?_)
        refine lv_goto (tgt := 6) hx hb dX1_spread_56 (by decide) ?_
        exact ih (i3 + 1) (if a1 < ((fX1_weddingsOf σ i3 2 true)) then ((fX1_weddingsOf σ i3 2 true)) else a1) (if ((fX1_weddingsOf σ i3 2 true)) < a2 then ((fX1_weddingsOf σ i3 2 true)) else a2) (lk_st hn) hR ls (lv_sub hl [4, 2, 1, 0] rfl)
      · rw [if_pos c1] at hR
        refine lv_iload hx hb dX1_spread_41 (lv_at hl 1 rfl) ?_
        refine lv_goto (tgt := 52) hx hb dX1_spread_43 (by decide) ?_
        refine lv_istore_n (lv' := [(2, .int ((fX1_weddingsOf σ i3 2 true))), (1, .int (if a1 < ((fX1_weddingsOf σ i3 2 true)) then ((fX1_weddingsOf σ i3 2 true)) else a1)), (4, .int ((fX1_weddingsOf σ i3 2 true))), (0, .ref (α 0 0)), (3, .int (nI i3))]) hx hb dX1_spread_52 rfl hl (Nat.le_of_ble_eq_true rfl) rfl (fun ls hl => ?_)
        refine lv_iinc (v := nI (i3 + 1)) (lv' := [(3, .int (nI (i3 + 1))), (2, .int ((fX1_weddingsOf σ i3 2 true))), (1, .int (if a1 < ((fX1_weddingsOf σ i3 2 true)) then ((fX1_weddingsOf σ i3 2 true)) else a1)), (4, .int ((fX1_weddingsOf σ i3 2 true))), (0, .ref (α 0 0))]) hx hb dX1_spread_53 hl (k := 4) rfl (nI_1 i3) (Nat.le_of_ble_eq_true rfl) rfl (fun ls hl => ?_)
        refine lv_goto (tgt := 6) hx hb dX1_spread_56 (by decide) ?_
        exact ih (i3 + 1) (if a1 < ((fX1_weddingsOf σ i3 2 true)) then ((fX1_weddingsOf σ i3 2 true)) else a1) ((fX1_weddingsOf σ i3 2 true)) (lk_st hn) hR ls (lv_sub hl [4, 2, 1, 0] rfl)
  unfold fX1_spread at hR
  refine lv_iconst (v := 0) hx hb dX1_spread_0 (by decide) ?_
  refine lv_istore_n (lv' := [(1, .int 0), (0, .ref (α 0 0))]) hx hb dX1_spread_1 rfl hl (Nat.le_of_ble_eq_true rfl) rfl (fun ls hl => ?_)
  refine lv_iconst (v := 0) hx hb dX1_spread_2 (by decide) ?_
  refine lv_istore_n (lv' := [(2, .int 0), (1, .int 0), (0, .ref (α 0 0))]) hx hb dX1_spread_3 rfl hl (Nat.le_of_ble_eq_true rfl) rfl (fun ls hl => ?_)
  refine lv_iconst (v := 0) hx hb dX1_spread_4 (by decide) ?_
  refine lv_istore_n (lv' := [(3, .int 0), (2, .int 0), (1, .int 0), (0, .ref (α 0 0))]) hx hb dX1_spread_5 rfl hl (Nat.le_of_ble_eq_true rfl) rfl (fun ls hl => ?_)
  refine hL6  _ (fun a2 a3 ls hR hl => ?_) (nP σ) 0 0 0 (Nat.zero_add _) hR ls (lv_sub hl [3, 2, 1, 0] rfl)
  refine lv_iload_n hx hb dX1_spread_59 rfl (lv_at hl 0 rfl) ?_
  refine lv_iload_n hx hb dX1_spread_60 rfl (lv_at hl 1 rfl) ?_
  refine lv_isub hx hb dX1_spread_61 ?_
  exact p_iret hx hb hr hlocks dX1_spread_62 (by rw [← hR])

def fX1_deskNow (σ : St) (q : Int32) : Int32 :=
  (if q = 0 then tod σ else (if q = 1 then nI (nP σ) else (if q = 2 then nI (nB σ) else (if q = 3 then nI (nW σ) else (if q = 4 then (fX1_inState σ 0) else (if q = 5 then (fX1_inState σ 1) else (if q = 6 then (fX1_inState σ 2) else (if q = 7 then (fX1_inState σ 3) else (if q = 8 then ((fX1_paid σ)) - ((fX1_ofAll σ 10)) else (if q = 9 then (fX1_ofAll σ q) else (if q = 10 then (fX1_ofAll σ q) else (if q = 11 then (fX1_ofAll σ q) else (if q = 12 then (fX1_spread σ) else (fX1_ofAll σ q))))))))))))))
set_option maxHeartbeats 4000000 in
set_option maxRecDepth 100000 in
theorem met_X1_deskNow (l : Launch) (D : va_G) (E : Nat → Nat) {α : Nat → Nat → Nat} {F : Nat → Prop} {σ : St} (q : Int32)  : PM l D E yX1_deskNow cX1_deskNow 2 (Option.some Jvm.ClassFile.FieldType.int) 5 114 [.ref (α 0 0), .int (q)] (RX D E α F σ) (some (.int (fX1_deskNow σ q))) := by
  generalize hR : fX1_deskNow σ q = r
  refine PM.start (by decide) (Nat.le_of_ble_eq_true rfl) ?_
  intro p e s m below meth c ls hx hb hr hml hown hlocks hts hG hX hl
  have hown : s.vm.findClass RX1 = some m.cls := hown
  have hS0 : xS p m c cX1_deskNow 2 s _ RX1 := ⟨hx, hb, hml, hown, hts⟩
  have hl : lv_has ls 2 [(0, .ref (α 0 0)), (1, .int (q))] := hl
  unfold fX1_deskNow at hR
  refine lv_iload_n hx hb dX1_deskNow_0 rfl (lv_at hl 1 rfl) ?_
  by_cases c1 : q = 0
  · rw [if_pos c1] at hR
    refine lv_eq c1 ?_
    refine lv_tableIn (x := 0) (off := 67) (tgt := 68) hx hb dX1_deskNow_1 (by decide) (by decide) (by decide) (by decide) ?_
    refine lv_aload_n hx hb dX1_deskNow_68 rfl (lv_at hl 0 rfl) ?_
    refine gf (v := .int (tod σ)) (C := RX1) (T := TX1) (N := 6) (k := 5) hx hb hts hown hG cl_X1 in_X1 hX.ag (by decide) q308 rfl dX1_deskNow_69 ?_
    exact p_iret hx hb hr hlocks dX1_deskNow_72 (by rw [← hR])
  rw [if_neg c1] at hR
  by_cases c2 : q = 1
  · rw [if_pos c2] at hR
    refine lv_eq c2 ?_
    refine lv_tableIn (x := 1) (off := 72) (tgt := 73) hx hb dX1_deskNow_1 (by decide) (by decide) (by decide) (by decide) ?_
    refine lv_aload_n hx hb dX1_deskNow_73 rfl (lv_at hl 0 rfl) ?_
    refine gf (v := .ref (α 1 0)) (C := RX1) (T := TX1) (N := 6) (k := 0) hx hb hts hown hG cl_X1 in_X1 hX.ag (by decide) q301 rfl dX1_deskNow_74 ?_
    refine pcF (x := xL_size) (ci := 13) (As := []) (rest := []) hG.fw_size hS0 (met_xl_size l D E (j := 0) (by decide)) q331 q334 q336 q103 q338 hd_xL_size ⟨Nat.le_of_ble_eq_true rfl, Nat.le_of_ble_eq_true rfl⟩ hG cl_J2 (hX.lsR hG (j := 0) (by decide)) hX rfl hl.1 rfl (Nat.le_of_ble_eq_true rfl) dX1_deskNow_77 ⟨Nat.le_refl _, Nat.le_refl _⟩ ?_
    refine W.eq (g2 := F0 m 82 ls [.int (nI (nP σ))]) rfl ?_
    exact p_iret hx hb hr hlocks dX1_deskNow_82 (by rw [← hR])
  rw [if_neg c2] at hR
  by_cases c3 : q = 2
  · rw [if_pos c3] at hR
    refine lv_eq c3 ?_
    refine lv_tableIn (x := 2) (off := 82) (tgt := 83) hx hb dX1_deskNow_1 (by decide) (by decide) (by decide) (by decide) ?_
    refine lv_aload_n hx hb dX1_deskNow_83 rfl (lv_at hl 0 rfl) ?_
    refine gf (v := .ref (α 1 2)) (C := RX1) (T := TX1) (N := 6) (k := 3) hx hb hts hown hG cl_X1 in_X1 hX.ag (by decide) q305 rfl dX1_deskNow_84 ?_
    refine pcF (x := xL_size) (ci := 13) (As := []) (rest := []) hG.fw_size hS0 (met_xl_size l D E (j := 2) (by decide)) q331 q334 q336 q103 q338 hd_xL_size ⟨Nat.le_of_ble_eq_true rfl, Nat.le_of_ble_eq_true rfl⟩ hG cl_J2 (hX.lsR hG (j := 2) (by decide)) hX rfl hl.1 rfl (Nat.le_of_ble_eq_true rfl) dX1_deskNow_87 ⟨Nat.le_refl _, Nat.le_refl _⟩ ?_
    refine W.eq (g2 := F0 m 92 ls [.int (nI (nB σ))]) rfl ?_
    exact p_iret hx hb hr hlocks dX1_deskNow_92 (by rw [← hR])
  rw [if_neg c3] at hR
  by_cases c4 : q = 3
  · rw [if_pos c4] at hR
    refine lv_eq c4 ?_
    refine lv_tableIn (x := 3) (off := 92) (tgt := 93) hx hb dX1_deskNow_1 (by decide) (by decide) (by decide) (by decide) ?_
    refine lv_aload_n hx hb dX1_deskNow_93 rfl (lv_at hl 0 rfl) ?_
    refine gf (v := .ref (α 1 3)) (C := RX1) (T := TX1) (N := 6) (k := 4) hx hb hts hown hG cl_X1 in_X1 hX.ag (by decide) q307 rfl dX1_deskNow_94 ?_
    refine pcF (x := xL_size) (ci := 13) (As := []) (rest := []) hG.fw_size hS0 (met_xl_size l D E (j := 3) (by decide)) q331 q334 q336 q103 q338 hd_xL_size ⟨Nat.le_of_ble_eq_true rfl, Nat.le_of_ble_eq_true rfl⟩ hG cl_J2 (hX.lsR hG (j := 3) (by decide)) hX rfl hl.1 rfl (Nat.le_of_ble_eq_true rfl) dX1_deskNow_97 ⟨Nat.le_refl _, Nat.le_refl _⟩ ?_
    refine W.eq (g2 := F0 m 102 ls [.int (nI (nW σ))]) rfl ?_
    exact p_iret hx hb hr hlocks dX1_deskNow_102 (by rw [← hR])
  rw [if_neg c4] at hR
  by_cases c5 : q = 4
  · rw [if_pos c5] at hR
    refine lv_eq c5 ?_
    refine lv_tableIn (x := 4) (off := 102) (tgt := 103) hx hb dX1_deskNow_1 (by decide) (by decide) (by decide) (by decide) ?_
    refine lv_aload_n hx hb dX1_deskNow_103 rfl (lv_at hl 0 rfl) ?_
    refine gs hx hb (hG.en (i := 0) (by decide)) hown (hts _ q399) (fun _ h => h) dX1_deskNow_104 ?_
    refine pcV (As := [.ref (E (10 + 0))]) (rest := []) hS0 (met_X1_inState l D E 0 (by decide)) q401 q403 qs10 q100 q404 hd_X1_inState ⟨Nat.le_of_ble_eq_true rfl, Nat.le_of_ble_eq_true rfl⟩ hG (rcv hG cl_X1 hX.ag) hX rfl hl.1 rfl (Nat.le_of_ble_eq_true rfl) dX1_deskNow_107 ⟨Nat.le_refl _, Nat.le_refl _⟩ ?_
    refine W.eq (g2 := F0 m 110 ls [.int ((fX1_inState σ 0))]) rfl ?_
    exact p_iret hx hb hr hlocks dX1_deskNow_110 (by rw [← hR])
  rw [if_neg c5] at hR
  by_cases c6 : q = 5
  · rw [if_pos c6] at hR
    refine lv_eq c6 ?_
    refine lv_tableIn (x := 5) (off := 110) (tgt := 111) hx hb dX1_deskNow_1 (by decide) (by decide) (by decide) (by decide) ?_
    refine lv_aload_n hx hb dX1_deskNow_111 rfl (lv_at hl 0 rfl) ?_
    refine gs hx hb (hG.en (i := 1) (by decide)) hown (hts _ q363) (fun _ h => h) dX1_deskNow_112 ?_
    refine pcV (As := [.ref (E (10 + 1))]) (rest := []) hS0 (met_X1_inState l D E 1 (by decide)) q401 q403 qs10 q100 q404 hd_X1_inState ⟨Nat.le_of_ble_eq_true rfl, Nat.le_of_ble_eq_true rfl⟩ hG (rcv hG cl_X1 hX.ag) hX rfl hl.1 rfl (Nat.le_of_ble_eq_true rfl) dX1_deskNow_115 ⟨Nat.le_refl _, Nat.le_refl _⟩ ?_
    refine W.eq (g2 := F0 m 118 ls [.int ((fX1_inState σ 1))]) rfl ?_
    exact p_iret hx hb hr hlocks dX1_deskNow_118 (by rw [← hR])
  rw [if_neg c6] at hR
  by_cases c7 : q = 6
  · rw [if_pos c7] at hR
    refine lv_eq c7 ?_
    refine lv_tableIn (x := 6) (off := 118) (tgt := 119) hx hb dX1_deskNow_1 (by decide) (by decide) (by decide) (by decide) ?_
    refine lv_aload_n hx hb dX1_deskNow_119 rfl (lv_at hl 0 rfl) ?_
    refine gs hx hb (hG.en (i := 2) (by decide)) hown (hts _ q377) (fun _ h => h) dX1_deskNow_120 ?_
    refine pcV (As := [.ref (E (10 + 2))]) (rest := []) hS0 (met_X1_inState l D E 2 (by decide)) q401 q403 qs10 q100 q404 hd_X1_inState ⟨Nat.le_of_ble_eq_true rfl, Nat.le_of_ble_eq_true rfl⟩ hG (rcv hG cl_X1 hX.ag) hX rfl hl.1 rfl (Nat.le_of_ble_eq_true rfl) dX1_deskNow_123 ⟨Nat.le_refl _, Nat.le_refl _⟩ ?_
    refine W.eq (g2 := F0 m 126 ls [.int ((fX1_inState σ 2))]) rfl ?_
    exact p_iret hx hb hr hlocks dX1_deskNow_126 (by rw [← hR])
  rw [if_neg c7] at hR
  by_cases c8 : q = 7
  · rw [if_pos c8] at hR
    refine lv_eq c8 ?_
    refine lv_tableIn (x := 7) (off := 126) (tgt := 127) hx hb dX1_deskNow_1 (by decide) (by decide) (by decide) (by decide) ?_
    refine lv_aload_n hx hb dX1_deskNow_127 rfl (lv_at hl 0 rfl) ?_
    refine gs hx hb (hG.en (i := 3) (by decide)) hown (hts _ q405) (fun _ h => h) dX1_deskNow_128 ?_
    refine pcV (As := [.ref (E (10 + 3))]) (rest := []) hS0 (met_X1_inState l D E 3 (by decide)) q401 q403 qs10 q100 q404 hd_X1_inState ⟨Nat.le_of_ble_eq_true rfl, Nat.le_of_ble_eq_true rfl⟩ hG (rcv hG cl_X1 hX.ag) hX rfl hl.1 rfl (Nat.le_of_ble_eq_true rfl) dX1_deskNow_131 ⟨Nat.le_refl _, Nat.le_refl _⟩ ?_
    refine W.eq (g2 := F0 m 134 ls [.int ((fX1_inState σ 3))]) rfl ?_
    exact p_iret hx hb hr hlocks dX1_deskNow_134 (by rw [← hR])
  rw [if_neg c8] at hR
  by_cases c9 : q = 8
  · rw [if_pos c9] at hR
    refine lv_eq c9 ?_
    refine lv_tableIn (x := 8) (off := 134) (tgt := 135) hx hb dX1_deskNow_1 (by decide) (by decide) (by decide) (by decide) ?_
    refine lv_aload_n hx hb dX1_deskNow_135 rfl (lv_at hl 0 rfl) ?_
    refine pcV (As := []) (rest := []) hS0 (met_X1_paid l D E ) q407 q409 qs11 q100 q410 hd_X1_paid ⟨Nat.le_of_ble_eq_true rfl, Nat.le_of_ble_eq_true rfl⟩ hG (rcv hG cl_X1 hX.ag) hX rfl hl.1 rfl (Nat.le_of_ble_eq_true rfl) dX1_deskNow_136 ⟨Nat.le_refl _, Nat.le_refl _⟩ ?_
    refine W.eq (g2 := F0 m 139 ls [.int ((fX1_paid σ))]) rfl ?_
    refine lv_aload_n hx hb dX1_deskNow_139 rfl (lv_at hl 0 rfl) ?_
    refine lv_bipush (v := 10) hx hb dX1_deskNow_140 (by decide) ?_
    refine pcV (As := [.int 10]) (rest := [.int ((fX1_paid σ))]) hS0 (met_X1_ofAll l D E 10) q411 q413 qs12 q100 q414 hd_X1_ofAll ⟨Nat.le_of_ble_eq_true rfl, Nat.le_of_ble_eq_true rfl⟩ hG (rcv hG cl_X1 hX.ag) hX rfl hl.1 rfl (Nat.le_of_ble_eq_true rfl) dX1_deskNow_142 ⟨Nat.le_refl _, Nat.le_refl _⟩ ?_
    refine W.eq (g2 := F0 m 145 ls [.int ((fX1_ofAll σ 10)), .int ((fX1_paid σ))]) rfl ?_
    refine lv_isub hx hb dX1_deskNow_145 ?_
    exact p_iret hx hb hr hlocks dX1_deskNow_146 (by rw [← hR])
  rw [if_neg c9] at hR
  by_cases c10 : q = 9
  · rw [if_pos c10] at hR
    refine lv_eq c10 ?_
    refine lv_tableIn (x := 9) (off := 151) (tgt := 152) hx hb dX1_deskNow_1 (by decide) (by decide) (by decide) (by decide) ?_
    refine lv_aload_n hx hb dX1_deskNow_152 rfl (lv_at hl 0 rfl) ?_
    refine lv_iload_n hx hb dX1_deskNow_153 rfl (lv_at hl 1 rfl) ?_
    refine pcV (As := [.int (q)]) (rest := []) hS0 (met_X1_ofAll l D E q) q411 q413 qs12 q100 q414 hd_X1_ofAll ⟨Nat.le_of_ble_eq_true rfl, Nat.le_of_ble_eq_true rfl⟩ hG (rcv hG cl_X1 hX.ag) hX rfl hl.1 rfl (Nat.le_of_ble_eq_true rfl) dX1_deskNow_154 ⟨Nat.le_refl _, Nat.le_refl _⟩ ?_
    refine W.eq (g2 := F0 m 157 ls [.int ((fX1_ofAll σ q))]) rfl ?_
    exact p_iret hx hb hr hlocks dX1_deskNow_157 (by rw [← hR])
  rw [if_neg c10] at hR
  by_cases c11 : q = 10
  · rw [if_pos c11] at hR
    refine lv_eq c11 ?_
    refine lv_tableIn (x := 10) (off := 151) (tgt := 152) hx hb dX1_deskNow_1 (by decide) (by decide) (by decide) (by decide) ?_
    refine lv_aload_n hx hb dX1_deskNow_152 rfl (lv_at hl 0 rfl) ?_
    refine lv_iload_n hx hb dX1_deskNow_153 rfl (lv_at hl 1 rfl) ?_
    refine pcV (As := [.int (q)]) (rest := []) hS0 (met_X1_ofAll l D E q) q411 q413 qs12 q100 q414 hd_X1_ofAll ⟨Nat.le_of_ble_eq_true rfl, Nat.le_of_ble_eq_true rfl⟩ hG (rcv hG cl_X1 hX.ag) hX rfl hl.1 rfl (Nat.le_of_ble_eq_true rfl) dX1_deskNow_154 ⟨Nat.le_refl _, Nat.le_refl _⟩ ?_
    refine W.eq (g2 := F0 m 157 ls [.int ((fX1_ofAll σ q))]) rfl ?_
    exact p_iret hx hb hr hlocks dX1_deskNow_157 (by rw [← hR])
  rw [if_neg c11] at hR
  by_cases c12 : q = 11
  · rw [if_pos c12] at hR
    refine lv_eq c12 ?_
    refine lv_tableIn (x := 11) (off := 151) (tgt := 152) hx hb dX1_deskNow_1 (by decide) (by decide) (by decide) (by decide) ?_
    refine lv_aload_n hx hb dX1_deskNow_152 rfl (lv_at hl 0 rfl) ?_
    refine lv_iload_n hx hb dX1_deskNow_153 rfl (lv_at hl 1 rfl) ?_
    refine pcV (As := [.int (q)]) (rest := []) hS0 (met_X1_ofAll l D E q) q411 q413 qs12 q100 q414 hd_X1_ofAll ⟨Nat.le_of_ble_eq_true rfl, Nat.le_of_ble_eq_true rfl⟩ hG (rcv hG cl_X1 hX.ag) hX rfl hl.1 rfl (Nat.le_of_ble_eq_true rfl) dX1_deskNow_154 ⟨Nat.le_refl _, Nat.le_refl _⟩ ?_
    refine W.eq (g2 := F0 m 157 ls [.int ((fX1_ofAll σ q))]) rfl ?_
    exact p_iret hx hb hr hlocks dX1_deskNow_157 (by rw [← hR])
  rw [if_neg c12] at hR
  by_cases c13 : q = 12
  · rw [if_pos c13] at hR
    refine lv_eq c13 ?_
    refine lv_tableIn (x := 12) (off := 146) (tgt := 147) hx hb dX1_deskNow_1 (by decide) (by decide) (by decide) (by decide) ?_
    refine lv_aload_n hx hb dX1_deskNow_147 rfl (lv_at hl 0 rfl) ?_
    refine pcV (As := []) (rest := []) hS0 (met_X1_spread l D E ) q419 q421 qs13 q100 q422 hd_X1_spread ⟨Nat.le_of_ble_eq_true rfl, Nat.le_of_ble_eq_true rfl⟩ hG (rcv hG cl_X1 hX.ag) hX rfl hl.1 rfl (Nat.le_of_ble_eq_true rfl) dX1_deskNow_148 ⟨Nat.le_refl _, Nat.le_refl _⟩ ?_
    refine W.eq (g2 := F0 m 151 ls [.int ((fX1_spread σ))]) rfl ?_
    exact p_iret hx hb hr hlocks dX1_deskNow_151 (by rw [← hR])
  rw [if_neg c13] at hR
  refine lv_tableOut (tgt := 152) hx hb dX1_deskNow_1 (sw_out (lo := 0) (hi := 12) (by decide) (by decide) (fun z h1 h2 => by rcases (show z = 0 ∨ z = 1 ∨ z = 2 ∨ z = 3 ∨ z = 4 ∨ z = 5 ∨ z = 6 ∨ z = 7 ∨ z = 8 ∨ z = 9 ∨ z = 10 ∨ z = 11 ∨ z = 12 by omega) with rfl | rfl | rfl | rfl | rfl | rfl | rfl | rfl | rfl | rfl | rfl | rfl | rfl <;> first | exact c1 | exact c2 | exact c3 | exact c4 | exact c5 | exact c6 | exact c7 | exact c8 | exact c9 | exact c10 | exact c11 | exact c12 | exact c13)) (by decide) ?_
  refine lv_aload_n hx hb dX1_deskNow_152 rfl (lv_at hl 0 rfl) ?_
  refine lv_iload_n hx hb dX1_deskNow_153 rfl (lv_at hl 1 rfl) ?_
  refine pcV (As := [.int (q)]) (rest := []) hS0 (met_X1_ofAll l D E q) q411 q413 qs12 q100 q414 hd_X1_ofAll ⟨Nat.le_of_ble_eq_true rfl, Nat.le_of_ble_eq_true rfl⟩ hG (rcv hG cl_X1 hX.ag) hX rfl hl.1 rfl (Nat.le_of_ble_eq_true rfl) dX1_deskNow_154 ⟨Nat.le_refl _, Nat.le_refl _⟩ ?_
  refine W.eq (g2 := F0 m 157 ls [.int ((fX1_ofAll σ q))]) rfl ?_
  exact p_iret hx hb hr hlocks dX1_deskNow_157 (by rw [← hR])

def fX1_areFixedSound_L72 (σ : St) (i1 : Nat) (κ : Bool) : Nat → Nat → Bool
  | 0, i3 => κ
  | n + 1, i3 => (if ((fX10_is σ i1 1)) = true then (if ((fX10_is σ i3 1)) = true then (if (nI (wBand σ i3)) = (nI (wBand σ i1)) then (if (nI (wDay σ i3)) = (nI (wDay σ i1)) then false else fX1_areFixedSound_L72 σ i1 κ n (i3 + 1)) else fX1_areFixedSound_L72 σ i1 κ n (i3 + 1)) else fX1_areFixedSound_L72 σ i1 κ n (i3 + 1)) else κ)
def fX1_areFixedSound_L2 (σ : St)  (κ : Bool) : Nat → Nat → Bool
  | 0, i1 => κ
  | n + 1, i1 => (if ((fX10_is σ i1 1)) = true then (if (nI (popc (wSet σ i1))) = ((fX8_many σ (wBand σ i1))) then fX1_areFixedSound_L72 σ i1 (fX1_areFixedSound_L2 σ κ n (i1 + 1)) i1 0 else false) else fX1_areFixedSound_L72 σ i1 (fX1_areFixedSound_L2 σ κ n (i1 + 1)) i1 0)
def fX1_areFixedSound (σ : St) : Bool :=
  fX1_areFixedSound_L2 σ (true) (nW σ) 0
set_option maxHeartbeats 4000000 in
set_option maxRecDepth 100000 in
theorem met_X1_areFixedSound (l : Launch) (D : va_G) (E : Nat → Nat) {α : Nat → Nat → Nat} {F : Nat → Prop} {σ : St}   : PM l D E yX1_areFixedSound cX1_areFixedSound 5 (Option.some Jvm.ClassFile.FieldType.boolean) 3 64 [.ref (α 0 0)] (RX D E α F σ) (some (.int (bI (fX1_areFixedSound σ)))) := by
  generalize hR : fX1_areFixedSound σ = r
  refine PM.start (by decide) (Nat.le_of_ble_eq_true rfl) ?_
  intro p e s m below meth c ls hx hb hr hml hown hlocks hts hG hX hl
  have hown : s.vm.findClass RX1 = some m.cls := hown
  have hS0 : xS p m c cX1_areFixedSound 5 s _ RX1 := ⟨hx, hb, hml, hown, hts⟩
  have hl : lv_has ls 5 [(0, .ref (α 0 0))] := hl
  have hL72 : ∀ (i1 : Nat) (hki1 : i1 < nW σ) (κ : Bool) (hκ : ∀ (ls : Array Slot), κ = r → lv_has ls 5 [(0, .ref (α 0 0)), (1, .int (nI i1))] → W p l e { frames := 3, cells := 0, slots := 0, locals := 64 } s m [(.ref (α 0 0) : Value)].toArray below meth c s.heap [] 0 0 (MQ below (qP (some (.int (bI r)))) [(.ref (α 0 0) : Value)].toArray s 0 0 (fun _ => False)) (F0 m 145 ls [])) (n : Nat) (i3 : Nat), i3 + n = i1 → fX1_areFixedSound_L72 σ i1 κ n i3 = r → ∀ (ls : Array Slot), lv_has ls 5 [(0, .ref (α 0 0)), (1, .int (nI i1)), (2, .ref (α 5 i1)), (3, .int (nI i3))] → W p l e { frames := 3, cells := 0, slots := 0, locals := 64 } s m [(.ref (α 0 0) : Value)].toArray below meth c s.heap [] 0 0 (MQ below (qP (some (.int (bI r)))) [(.ref (α 0 0) : Value)].toArray s 0 0 (fun _ => False)) (F0 m 72 ls []) := by
    intro i1 hki1 κ hκ n
    induction n with
    | zero =>
      intro i3 hn hR ls hl
      rw [fX1_areFixedSound_L72] at hR
      refine lv_iload_n hx hb dX1_areFixedSound_72 rfl (lv_at hl 3 rfl) ?_
      refine lv_iload_n hx hb dX1_areFixedSound_73 rfl (lv_at hl 1 rfl) ?_
      refine lk_ge_out (k := i3) (N := i1) hx hb hn (tgt := 145) dX1_areFixedSound_74 (by decide) ?_
      exact hκ  ls hR (lv_sub hl [0, 1] rfl)
    | succ n ih =>
      intro i3 hn hR ls hl
      rw [fX1_areFixedSound_L72] at hR
      refine lv_iload_n hx hb dX1_areFixedSound_72 rfl (lv_at hl 3 rfl) ?_
      refine lv_iload_n hx hb dX1_areFixedSound_73 rfl (lv_at hl 1 rfl) ?_
      have hki3 : i3 < i1 := lk_lt hn
      refine lk_ge_in (k := i3) (N := i1) hx hb hki3 (by have := hX.nP10; have := hX.nW14; have := hX.nB6; omega) (tgt := 145) dX1_areFixedSound_74 (by decide) ?_
      refine lv_aload_n hx hb dX1_areFixedSound_77 rfl (lv_at hl 2 rfl) ?_
      refine gs hx hb (hG.en (i := 1) (by decide)) hown (hts _ q363) (fun _ h => h) dX1_areFixedSound_78 ?_
      refine pcV (As := [.ref (E (10 + 1))]) (rest := []) hS0 (met_X10_is l D E i1 1 hki1 (by decide)) q370 q371 q372 q130 q373 hd_X10_is ⟨Nat.le_of_ble_eq_true rfl, Nat.le_of_ble_eq_true rfl⟩ hG (rcv hG cl_X10 (hX.wd hki1)) hX rfl hl.1 rfl (Nat.le_of_ble_eq_true rfl) dX1_areFixedSound_81 ⟨Nat.le_refl _, Nat.le_refl _⟩ ?_
      refine W.eq (g2 := F0 m 84 ls [.int (bI ((fX10_is σ i1 1)))]) rfl ?_
      refine lb_if_eq (tgt := 145) hx hb dX1_areFixedSound_84 (by decide) (fun c2 => ?_) (fun c2 => ?_)
      · rw [if_neg c2] at hR
        exact hκ  ls hR (lv_sub hl [0, 1] rfl)
      · rw [if_pos c2] at hR
        refine lv_aload_n hx hb dX1_areFixedSound_87 rfl (lv_at hl 0 rfl) ?_
        refine gf (v := .ref (α 1 3)) (C := RX1) (T := TX1) (N := 6) (k := 4) hx hb hts hown hG cl_X1 in_X1 hX.ag (by decide) q307 rfl dX1_areFixedSound_88 ?_
        refine lv_iload_n hx hb dX1_areFixedSound_91 rfl (lv_at hl 3 rfl) ?_
        refine pcF (x := xL_get) (ci := 13) (As := [.int (nI i3)]) (rest := []) hG.fw_get hS0 (met_xl_get l D E (j := 3) (by decide) i3 (show i3 < nW σ from by have := hki3; omega)) q344 q347 q349 q103 q351 hd_xL_get ⟨Nat.le_of_ble_eq_true rfl, Nat.le_of_ble_eq_true rfl⟩ hG cl_J2 (hX.lsR hG (j := 3) (by decide)) hX rfl hl.1 rfl (Nat.le_of_ble_eq_true rfl) dX1_areFixedSound_92 ⟨Nat.le_refl _, Nat.le_refl _⟩ ?_
        refine W.eq (g2 := F0 m 97 ls [.ref (α 5 i3)]) rfl ?_
        refine gc (ci := 8) hx hb hown hG cl_X10 (rcv hG cl_X10 (hX.wd (show i3 < nW σ from by have := hki3; omega))) (hts _ q369) dX1_areFixedSound_97 ?_
        refine lv_astore (lv' := [(4, .ref (α 5 i3)), (0, .ref (α 0 0)), (1, .int (nI i1)), (2, .ref (α 5 i1)), (3, .int (nI i3))]) hx hb dX1_areFixedSound_100 hl (Nat.le_of_ble_eq_true rfl) rfl (fun ls hl => ?_)
        refine lv_aload hx hb dX1_areFixedSound_102 (lv_at hl 0 rfl) ?_
        refine gs hx hb (hG.en (i := 1) (by decide)) hown (hts _ q363) (fun _ h => h) dX1_areFixedSound_104 ?_
        refine pcV (As := [.ref (E (10 + 1))]) (rest := []) hS0 (met_X10_is l D E i3 1 (show i3 < nW σ from by have := hki3; omega) (by decide)) q370 q371 q372 q130 q373 hd_X10_is ⟨Nat.le_of_ble_eq_true rfl, Nat.le_of_ble_eq_true rfl⟩ hG (rcv hG cl_X10 (hX.wd (show i3 < nW σ from by have := hki3; omega))) hX rfl hl.1 rfl (Nat.le_of_ble_eq_true rfl) dX1_areFixedSound_107 ⟨Nat.le_refl _, Nat.le_refl _⟩ ?_
        refine W.eq (g2 := F0 m 110 ls [.int (bI ((fX10_is σ i3 1)))]) rfl ?_
        refine lb_if_eq (tgt := 139) hx hb dX1_areFixedSound_110 (by decide) (fun c3 => ?_) (fun c3 => ?_)
        · rw [if_neg c3] at hR
          refine lv_iinc (v := nI (i3 + 1)) (lv' := [(3, .int (nI (i3 + 1))), (4, .ref (α 5 i3)), (0, .ref (α 0 0)), (1, .int (nI i1)), (2, .ref (α 5 i1))]) hx hb dX1_areFixedSound_139 hl (k := 4) rfl (nI_1 i3) (Nat.le_of_ble_eq_true rfl) rfl (fun ls hl => ?_)
          refine lv_goto (tgt := 72) hx hb dX1_areFixedSound_142 (by decide) ?_
          exact ih (i3 + 1) (lk_st hn) hR ls (lv_sub hl [2, 3, 4, 0] rfl)
        · rw [if_pos c3] at hR
          refine lv_aload hx hb dX1_areFixedSound_113 (lv_at hl 0 rfl) ?_
          refine gfN (v := .int (nI (wBand σ i3))) (C := RX10) (T := TX10) (N := 12) (k := 0) hx hb hts hown hG cl_X10 in_X10 (hX.wd (show i3 < nW σ from by have := hki3; omega)) (by decide) q1010 rfl dX1_areFixedSound_115 ?_
          refine lv_aload_n hx hb dX1_areFixedSound_118 rfl (lv_at hl 3 rfl) ?_
          refine gfN (v := .int (nI (wBand σ i1))) (C := RX10) (T := TX10) (N := 12) (k := 0) hx hb hts hown hG cl_X10 in_X10 (hX.wd hki1) (by decide) q1010 rfl dX1_areFixedSound_119 ?_
          refine lv_icmp_ne (tgt := 139) hx hb dX1_areFixedSound_122 (by decide) (fun c4 => ?_) (fun c4 => ?_)
          · rw [if_neg c4] at hR
            refine lv_iinc (v := nI (i3 + 1)) (lv' := [(3, .int (nI (i3 + 1))), (4, .ref (α 5 i3)), (0, .ref (α 0 0)), (1, .int (nI i1)), (2, .ref (α 5 i1))]) hx hb dX1_areFixedSound_139 hl (k := 4) rfl (nI_1 i3) (Nat.le_of_ble_eq_true rfl) rfl (fun ls hl => ?_)
            refine lv_goto (tgt := 72) hx hb dX1_areFixedSound_142 (by decide) ?_
            exact ih (i3 + 1) (lk_st hn) hR ls (lv_sub hl [2, 3, 4, 0] rfl)
          · rw [if_pos c4] at hR
            refine lv_aload hx hb dX1_areFixedSound_125 (lv_at hl 0 rfl) ?_
            refine gfN (v := .int (nI (wDay σ i3))) (C := RX10) (T := TX10) (N := 12) (k := 1) hx hb hts hown hG cl_X10 in_X10 (hX.wd (show i3 < nW σ from by have := hki3; omega)) (by decide) q1012 rfl dX1_areFixedSound_127 ?_
            refine lv_aload_n hx hb dX1_areFixedSound_130 rfl (lv_at hl 3 rfl) ?_
            refine gfN (v := .int (nI (wDay σ i1))) (C := RX10) (T := TX10) (N := 12) (k := 1) hx hb hts hown hG cl_X10 in_X10 (hX.wd hki1) (by decide) q1012 rfl dX1_areFixedSound_131 ?_
            refine lv_icmp_ne (tgt := 139) hx hb dX1_areFixedSound_134 (by decide) (fun c5 => ?_) (fun c5 => ?_)
            · rw [if_neg c5] at hR
              refine lv_iinc (v := nI (i3 + 1)) (lv' := [(3, .int (nI (i3 + 1))), (4, .ref (α 5 i3)), (0, .ref (α 0 0)), (1, .int (nI i1)), (2, .ref (α 5 i1))]) hx hb dX1_areFixedSound_139 hl (k := 4) rfl (nI_1 i3) (Nat.le_of_ble_eq_true rfl) rfl (fun ls hl => ?_)
              refine lv_goto (tgt := 72) hx hb dX1_areFixedSound_142 (by decide) ?_
              exact ih (i3 + 1) (lk_st hn) hR ls (lv_sub hl [2, 3, 4, 0] rfl)
            · rw [if_pos c5] at hR
              refine lv_iconst (v := 0) hx hb dX1_areFixedSound_137 (by decide) ?_
              exact p_zret (b := false) hx hb hr hlocks dX1_areFixedSound_138 rfl (by rw [← hR])
  have hL2 : ∀ (κ : Bool) (hκ : ∀ (ls : Array Slot), κ = r → lv_has ls 5 [] → W p l e { frames := 3, cells := 0, slots := 0, locals := 64 } s m [(.ref (α 0 0) : Value)].toArray below meth c s.heap [] 0 0 (MQ below (qP (some (.int (bI r)))) [(.ref (α 0 0) : Value)].toArray s 0 0 (fun _ => False)) (F0 m 151 ls [])) (n : Nat) (i1 : Nat), i1 + n = nW σ → fX1_areFixedSound_L2 σ κ n i1 = r → ∀ (ls : Array Slot), lv_has ls 5 [(0, .ref (α 0 0)), (1, .int (nI i1))] → W p l e { frames := 3, cells := 0, slots := 0, locals := 64 } s m [(.ref (α 0 0) : Value)].toArray below meth c s.heap [] 0 0 (MQ below (qP (some (.int (bI r)))) [(.ref (α 0 0) : Value)].toArray s 0 0 (fun _ => False)) (F0 m 2 ls []) := by
    intro  κ hκ n
    induction n with
    | zero =>
      intro i1 hn hR ls hl
      rw [fX1_areFixedSound_L2] at hR
      refine lv_iload_n hx hb dX1_areFixedSound_2 rfl (lv_at hl 1 rfl) ?_
      refine lv_aload_n hx hb dX1_areFixedSound_3 rfl (lv_at hl 0 rfl) ?_
      refine gf (v := .ref (α 1 3)) (C := RX1) (T := TX1) (N := 6) (k := 4) hx hb hts hown hG cl_X1 in_X1 hX.ag (by decide) q307 rfl dX1_areFixedSound_4 ?_
      refine pcF (x := xL_size) (ci := 13) (As := []) (rest := [.int (nI i1)]) hG.fw_size hS0 (met_xl_size l D E (j := 3) (by decide)) q331 q334 q336 q103 q338 hd_xL_size ⟨Nat.le_of_ble_eq_true rfl, Nat.le_of_ble_eq_true rfl⟩ hG cl_J2 (hX.lsR hG (j := 3) (by decide)) hX rfl hl.1 rfl (Nat.le_of_ble_eq_true rfl) dX1_areFixedSound_7 ⟨Nat.le_refl _, Nat.le_refl _⟩ ?_
      refine W.eq (g2 := F0 m 12 ls [.int (nI (nW σ)), .int (nI i1)]) rfl ?_
      refine lk_ge_out (k := i1) (N := nW σ) hx hb hn (tgt := 151) dX1_areFixedSound_12 (by decide) ?_
      exact hκ  ls hR (lv_sub hl [] rfl)
    | succ n ih =>
      intro i1 hn hR ls hl
      rw [fX1_areFixedSound_L2] at hR
      refine lv_iload_n hx hb dX1_areFixedSound_2 rfl (lv_at hl 1 rfl) ?_
      refine lv_aload_n hx hb dX1_areFixedSound_3 rfl (lv_at hl 0 rfl) ?_
      refine gf (v := .ref (α 1 3)) (C := RX1) (T := TX1) (N := 6) (k := 4) hx hb hts hown hG cl_X1 in_X1 hX.ag (by decide) q307 rfl dX1_areFixedSound_4 ?_
      refine pcF (x := xL_size) (ci := 13) (As := []) (rest := [.int (nI i1)]) hG.fw_size hS0 (met_xl_size l D E (j := 3) (by decide)) q331 q334 q336 q103 q338 hd_xL_size ⟨Nat.le_of_ble_eq_true rfl, Nat.le_of_ble_eq_true rfl⟩ hG cl_J2 (hX.lsR hG (j := 3) (by decide)) hX rfl hl.1 rfl (Nat.le_of_ble_eq_true rfl) dX1_areFixedSound_7 ⟨Nat.le_refl _, Nat.le_refl _⟩ ?_
      refine W.eq (g2 := F0 m 12 ls [.int (nI (nW σ)), .int (nI i1)]) rfl ?_
      have hki1 : i1 < nW σ := lk_lt hn
      refine lk_ge_in (k := i1) (N := nW σ) hx hb hki1 (by have := hX.nW14; omega) (tgt := 151) dX1_areFixedSound_12 (by decide) ?_
      refine lv_aload_n hx hb dX1_areFixedSound_15 rfl (lv_at hl 0 rfl) ?_
      refine gf (v := .ref (α 1 3)) (C := RX1) (T := TX1) (N := 6) (k := 4) hx hb hts hown hG cl_X1 in_X1 hX.ag (by decide) q307 rfl dX1_areFixedSound_16 ?_
      refine lv_iload_n hx hb dX1_areFixedSound_19 rfl (lv_at hl 1 rfl) ?_
      refine pcF (x := xL_get) (ci := 13) (As := [.int (nI i1)]) (rest := []) hG.fw_get hS0 (met_xl_get l D E (j := 3) (by decide) i1 hki1) q344 q347 q349 q103 q351 hd_xL_get ⟨Nat.le_of_ble_eq_true rfl, Nat.le_of_ble_eq_true rfl⟩ hG cl_J2 (hX.lsR hG (j := 3) (by decide)) hX rfl hl.1 rfl (Nat.le_of_ble_eq_true rfl) dX1_areFixedSound_20 ⟨Nat.le_refl _, Nat.le_refl _⟩ ?_
      refine W.eq (g2 := F0 m 25 ls [.ref (α 5 i1)]) rfl ?_
      refine gc (ci := 8) hx hb hown hG cl_X10 (rcv hG cl_X10 (hX.wd hki1)) (hts _ q369) dX1_areFixedSound_25 ?_
      refine lv_astore_n (lv' := [(2, .ref (α 5 i1)), (0, .ref (α 0 0)), (1, .int (nI i1))]) hx hb dX1_areFixedSound_28 rfl hl (Nat.le_of_ble_eq_true rfl) rfl (fun ls hl => ?_)
      refine lv_aload_n hx hb dX1_areFixedSound_29 rfl (lv_at hl 0 rfl) ?_
      refine gs hx hb (hG.en (i := 1) (by decide)) hown (hts _ q363) (fun _ h => h) dX1_areFixedSound_30 ?_
      refine pcV (As := [.ref (E (10 + 1))]) (rest := []) hS0 (met_X10_is l D E i1 1 hki1 (by decide)) q370 q371 q372 q130 q373 hd_X10_is ⟨Nat.le_of_ble_eq_true rfl, Nat.le_of_ble_eq_true rfl⟩ hG (rcv hG cl_X10 (hX.wd hki1)) hX rfl hl.1 rfl (Nat.le_of_ble_eq_true rfl) dX1_areFixedSound_33 ⟨Nat.le_refl _, Nat.le_refl _⟩ ?_
      refine W.eq (g2 := F0 m 36 ls [.int (bI ((fX10_is σ i1 1)))]) rfl ?_
      refine lb_if_eq (tgt := 70) hx hb dX1_areFixedSound_36 (by decide) (fun c1 => ?_) (fun c1 => ?_)
      · rw [if_neg c1] at hR
        refine lv_iconst (v := 0) hx hb dX1_areFixedSound_70 (by decide) ?_
        refine lv_istore_n (lv' := [(3, .int 0), (2, .ref (α 5 i1)), (0, .ref (α 0 0)), (1, .int (nI i1))]) hx hb dX1_areFixedSound_71 rfl hl (Nat.le_of_ble_eq_true rfl) rfl (fun ls hl => ?_)
        refine hL72 i1 hki1 _ (fun  ls hR hl => ?_) i1 0 (Nat.zero_add _) hR ls (lv_sub hl [2, 3, 1, 0] rfl)
        refine lv_iinc (v := nI (i1 + 1)) (lv' := [(1, .int (nI (i1 + 1))), (0, .ref (α 0 0))]) hx hb dX1_areFixedSound_145 hl (k := 1) rfl (nI_1 i1) (Nat.le_of_ble_eq_true rfl) rfl (fun ls hl => ?_)
        refine lv_goto (tgt := 2) hx hb dX1_areFixedSound_148 (by decide) ?_
        exact ih (i1 + 1) (lk_st hn) hR ls (lv_sub hl [1, 0] rfl)
      · rw [if_pos c1] at hR
        refine lv_aload_n hx hb dX1_areFixedSound_39 rfl (lv_at hl 0 rfl) ?_
        refine gfN (v := .int (wSet σ i1)) (C := RX10) (T := TX10) (N := 12) (k := 8) hx hb hts hown hG cl_X10 in_X10 (hX.wd hki1) (by decide) q1027 rfl dX1_areFixedSound_40 ?_
        refine pcS (As := [.int (wSet σ i1)]) (rest := []) hS0 (met_size l D E (wSet σ i1)) q379 q380 q100 q381 hd_X1_size ⟨Nat.le_of_ble_eq_true rfl, Nat.le_of_ble_eq_true rfl⟩ hG trivial rfl hl.1 rfl (Nat.le_of_ble_eq_true rfl) dX1_areFixedSound_43 ⟨Nat.le_refl _, Nat.le_refl _⟩ ?_
        refine W.eq (g2 := F0 m 46 ls [.int (nI (popc (wSet σ i1)))]) rfl ?_
        refine lv_aload_n hx hb dX1_areFixedSound_46 rfl (lv_at hl 1 rfl) ?_
        refine gf (v := .ref (α 1 2)) (C := RX1) (T := TX1) (N := 6) (k := 3) hx hb hts hown hG cl_X1 in_X1 hX.ag (by decide) q305 rfl dX1_areFixedSound_47 ?_
        refine lv_aload_n hx hb dX1_areFixedSound_50 rfl (lv_at hl 0 rfl) ?_
        refine gfN (v := .int (nI (wBand σ i1))) (C := RX10) (T := TX10) (N := 12) (k := 0) hx hb hts hown hG cl_X10 in_X10 (hX.wd hki1) (by decide) q1010 rfl dX1_areFixedSound_51 ?_
        refine pcF (x := xL_get) (ci := 13) (As := [.int (nI (wBand σ i1))]) (rest := [.int (nI (popc (wSet σ i1)))]) hG.fw_get hS0 (met_xl_get l D E (j := 2) (by decide) (wBand σ i1) (hX.band hki1)) q344 q347 q349 q103 q351 hd_xL_get ⟨Nat.le_of_ble_eq_true rfl, Nat.le_of_ble_eq_true rfl⟩ hG cl_J2 (hX.lsR hG (j := 2) (by decide)) hX rfl hl.1 rfl (Nat.le_of_ble_eq_true rfl) dX1_areFixedSound_54 ⟨Nat.le_refl _, Nat.le_refl _⟩ ?_
        refine W.eq (g2 := F0 m 59 ls [.ref (α 9 (wBand σ i1)), .int (nI (popc (wSet σ i1)))]) rfl ?_
        refine gc (ci := 7) hx hb hown hG cl_X8 (rcv hG cl_X8 (hX.sh (hX.band hki1))) (hts _ q390) dX1_areFixedSound_59 ?_
        refine pcV (As := []) (rest := [.int (nI (popc (wSet σ i1)))]) hS0 (met_X8_many l D E (wBand σ i1) (hX.band hki1)) q391 q392 q393 q126 q394 hd_X8_many ⟨Nat.le_of_ble_eq_true rfl, Nat.le_of_ble_eq_true rfl⟩ hG (rcv hG cl_X8 (hX.sh (hX.band hki1))) hX rfl hl.1 rfl (Nat.le_of_ble_eq_true rfl) dX1_areFixedSound_62 ⟨Nat.le_refl _, Nat.le_refl _⟩ ?_
        refine W.eq (g2 := F0 m 65 ls [.int ((fX8_many σ (wBand σ i1))), .int (nI (popc (wSet σ i1)))]) rfl ?_
        refine lv_icmp_eq (tgt := 70) hx hb dX1_areFixedSound_65 (by decide) (fun c6 => ?_) (fun c6 => ?_)
        · rw [if_pos c6] at hR
          refine lv_iconst (v := 0) hx hb dX1_areFixedSound_70 (by decide) ?_
          refine lv_istore_n (lv' := [(3, .int 0), (2, .ref (α 5 i1)), (0, .ref (α 0 0)), (1, .int (nI i1))]) hx hb dX1_areFixedSound_71 rfl hl (Nat.le_of_ble_eq_true rfl) rfl (fun ls hl => ?_)
          refine hL72 i1 hki1 _ (fun  ls hR hl => ?_) i1 0 (Nat.zero_add _) hR ls (lv_sub hl [2, 3, 1, 0] rfl)
          refine lv_iinc (v := nI (i1 + 1)) (lv' := [(1, .int (nI (i1 + 1))), (0, .ref (α 0 0))]) hx hb dX1_areFixedSound_145 hl (k := 1) rfl (nI_1 i1) (Nat.le_of_ble_eq_true rfl) rfl (fun ls hl => ?_)
          refine lv_goto (tgt := 2) hx hb dX1_areFixedSound_148 (by decide) ?_
          exact ih (i1 + 1) (lk_st hn) hR ls (lv_sub hl [1, 0] rfl)
        · rw [if_neg c6] at hR
          refine lv_iconst (v := 0) hx hb dX1_areFixedSound_68 (by decide) ?_
          exact p_zret (b := false) hx hb hr hlocks dX1_areFixedSound_69 rfl (by rw [← hR])
  unfold fX1_areFixedSound at hR
  refine lv_iconst (v := 0) hx hb dX1_areFixedSound_0 (by decide) ?_
  refine lv_istore_n (lv' := [(1, .int 0), (0, .ref (α 0 0))]) hx hb dX1_areFixedSound_1 rfl hl (Nat.le_of_ble_eq_true rfl) rfl (fun ls hl => ?_)
  refine hL2  _ (fun  ls hR hl => ?_) (nW σ) 0 (Nat.zero_add _) hR ls (lv_sub hl [1, 0] rfl)
  refine lv_iconst (v := 1) hx hb dX1_areFixedSound_151 (by decide) ?_
  exact p_zret (b := true) hx hb hr hlocks dX1_areFixedSound_152 rfl (by rw [← hR])

def fX1_isSoundNow_L4 (σ : St)  (κ : Int32 → Bool) : Nat → Nat → Int32 → Bool
  | 0, i2, a1 => κ a1
  | n + 1, i2, a1 => fX1_isSoundNow_L4 σ κ n (i2 + 1) (a1 + ((fX1_playerNow σ i2 8)))
def fX1_isSoundNow_L35 (σ : St)  (κ : Int32 → Bool) : Nat → Nat → Int32 → Bool
  | 0, i2, a1_35 => κ a1_35
  | n + 1, i2, a1_35 => (if ((fX10_is σ i2 2)) = true then fX1_isSoundNow_L35 σ κ n (i2 + 1) (a1_35 - ((wLen σ i2) * (nI (popc (wSet σ i2))))) else fX1_isSoundNow_L35 σ κ n (i2 + 1) (a1_35 - 0))
def fX1_isSoundNow_L101 (σ : St) (a3 : Int32) (κ : Int32 → Bool) : Nat → Nat → Int32 → Bool
  | 0, i3, a2 => κ a2
  | n + 1, i3, a2 => fX1_isSoundNow_L101 σ a3 κ n (i3 + 1) (a2 + ((fX1_share σ i3)))
def fX1_isSoundNow (σ : St) : Bool :=
  fX1_isSoundNow_L4 σ (fun (a1 : Int32) => fX1_isSoundNow_L35 σ (fun (a3 : Int32) => fX1_isSoundNow_L101 σ a3 (fun (a4 : Int32) => (if ((fX1_areFixedSound σ)) = true then (if ((fX1_deskNow σ 8)) = (((fX1_paid σ)) - ((fX1_deskNow σ 10))) then (if a3 = 0 then (if 1000 < a4 then false else true) else false) else false) else false)) 16 0 0) (nW σ) 0 a1) (nP σ) 0 0
set_option maxHeartbeats 4000000 in
set_option maxRecDepth 100000 in
theorem met_X1_isSoundNow (l : Launch) (D : va_G) (E : Nat → Nat) {α : Nat → Nat → Nat} {F : Nat → Prop} {σ : St}   : PM l D E yX1_isSoundNow cX1_isSoundNow 4 (Option.some Jvm.ClassFile.FieldType.boolean) 6 135 [.ref (α 0 0)] (RX D E α F σ) (some (.int (bI (fX1_isSoundNow σ)))) := by
  generalize hR : fX1_isSoundNow σ = r
  refine PM.start (by decide) (Nat.le_of_ble_eq_true rfl) ?_
  intro p e s m below meth c ls hx hb hr hml hown hlocks hts hG hX hl
  have hown : s.vm.findClass RX1 = some m.cls := hown
  have hS0 : xS p m c cX1_isSoundNow 4 s _ RX1 := ⟨hx, hb, hml, hown, hts⟩
  have hl : lv_has ls 4 [(0, .ref (α 0 0))] := hl
  have hL4 : ∀ (κ : Int32 → Bool) (hκ : ∀ (a1 : Int32) (ls : Array Slot), κ a1 = r → lv_has ls 4 [(0, .ref (α 0 0)), (1, .int (a1))] → W p l e { frames := 6, cells := 0, slots := 0, locals := 135 } s m [(.ref (α 0 0) : Value)].toArray below meth c s.heap [] 0 0 (MQ below (qP (some (.int (bI r)))) [(.ref (α 0 0) : Value)].toArray s 0 0 (fun _ => False)) (F0 m 33 ls [])) (n : Nat) (i2 : Nat) (a1 : Int32), i2 + n = nP σ → fX1_isSoundNow_L4 σ κ n i2 a1 = r → ∀ (ls : Array Slot), lv_has ls 4 [(0, .ref (α 0 0)), (1, .int (a1)), (2, .int (nI i2))] → W p l e { frames := 6, cells := 0, slots := 0, locals := 135 } s m [(.ref (α 0 0) : Value)].toArray below meth c s.heap [] 0 0 (MQ below (qP (some (.int (bI r)))) [(.ref (α 0 0) : Value)].toArray s 0 0 (fun _ => False)) (F0 m 4 ls []) := by
    intro  κ hκ n
    induction n with
    | zero =>
      intro i2 a1 hn hR ls hl
      rw [fX1_isSoundNow_L4] at hR
      refine lv_iload_n hx hb dX1_isSoundNow_4 rfl (lv_at hl 2 rfl) ?_
      refine lv_aload_n hx hb dX1_isSoundNow_5 rfl (lv_at hl 0 rfl) ?_
      refine gf (v := .ref (α 1 0)) (C := RX1) (T := TX1) (N := 6) (k := 0) hx hb hts hown hG cl_X1 in_X1 hX.ag (by decide) q301 rfl dX1_isSoundNow_6 ?_
      refine pcF (x := xL_size) (ci := 13) (As := []) (rest := [.int (nI i2)]) hG.fw_size hS0 (met_xl_size l D E (j := 0) (by decide)) q331 q334 q336 q103 q338 hd_xL_size ⟨Nat.le_of_ble_eq_true rfl, Nat.le_of_ble_eq_true rfl⟩ hG cl_J2 (hX.lsR hG (j := 0) (by decide)) hX rfl hl.1 rfl (Nat.le_of_ble_eq_true rfl) dX1_isSoundNow_9 ⟨Nat.le_refl _, Nat.le_refl _⟩ ?_
      refine W.eq (g2 := F0 m 14 ls [.int (nI (nP σ)), .int (nI i2)]) rfl ?_
      refine lk_ge_out (k := i2) (N := nP σ) hx hb hn (tgt := 33) dX1_isSoundNow_14 (by decide) ?_
      exact hκ a1 ls hR (lv_sub hl [0, 1] rfl)
    | succ n ih =>
      intro i2 a1 hn hR ls hl
      rw [fX1_isSoundNow_L4] at hR
      refine lv_iload_n hx hb dX1_isSoundNow_4 rfl (lv_at hl 2 rfl) ?_
      refine lv_aload_n hx hb dX1_isSoundNow_5 rfl (lv_at hl 0 rfl) ?_
      refine gf (v := .ref (α 1 0)) (C := RX1) (T := TX1) (N := 6) (k := 0) hx hb hts hown hG cl_X1 in_X1 hX.ag (by decide) q301 rfl dX1_isSoundNow_6 ?_
      refine pcF (x := xL_size) (ci := 13) (As := []) (rest := [.int (nI i2)]) hG.fw_size hS0 (met_xl_size l D E (j := 0) (by decide)) q331 q334 q336 q103 q338 hd_xL_size ⟨Nat.le_of_ble_eq_true rfl, Nat.le_of_ble_eq_true rfl⟩ hG cl_J2 (hX.lsR hG (j := 0) (by decide)) hX rfl hl.1 rfl (Nat.le_of_ble_eq_true rfl) dX1_isSoundNow_9 ⟨Nat.le_refl _, Nat.le_refl _⟩ ?_
      refine W.eq (g2 := F0 m 14 ls [.int (nI (nP σ)), .int (nI i2)]) rfl ?_
      have hki2 : i2 < nP σ := lk_lt hn
      refine lk_ge_in (k := i2) (N := nP σ) hx hb hki2 (by have := hX.nP10; omega) (tgt := 33) dX1_isSoundNow_14 (by decide) ?_
      refine lv_iload_n hx hb dX1_isSoundNow_17 rfl (lv_at hl 1 rfl) ?_
      refine lv_aload_n hx hb dX1_isSoundNow_18 rfl (lv_at hl 0 rfl) ?_
      refine lv_iload_n hx hb dX1_isSoundNow_19 rfl (lv_at hl 2 rfl) ?_
      refine lv_bipush (v := 8) hx hb dX1_isSoundNow_20 (by decide) ?_
      refine pcV (As := [.int (nI i2), .int 8]) (rest := [.int (a1)]) hS0 (met_X1_playerNow l D E i2 8 hki2) q339 q341 qs5 q100 q342 hd_X1_playerNow ⟨Nat.le_of_ble_eq_true rfl, Nat.le_of_ble_eq_true rfl⟩ hG (rcv hG cl_X1 hX.ag) hX rfl hl.1 rfl (Nat.le_of_ble_eq_true rfl) dX1_isSoundNow_22 ⟨Nat.le_refl _, Nat.le_refl _⟩ ?_
      refine W.eq (g2 := F0 m 25 ls [.int ((fX1_playerNow σ i2 8)), .int (a1)]) rfl ?_
      refine lv_iadd hx hb dX1_isSoundNow_25 ?_
      refine lv_istore_n (lv' := [(1, .int (a1 + ((fX1_playerNow σ i2 8)))), (0, .ref (α 0 0)), (2, .int (nI i2))]) hx hb dX1_isSoundNow_26 rfl hl (Nat.le_of_ble_eq_true rfl) rfl (fun ls hl => ?_)
      refine lv_iinc (v := nI (i2 + 1)) (lv' := [(2, .int (nI (i2 + 1))), (1, .int (a1 + ((fX1_playerNow σ i2 8)))), (0, .ref (α 0 0))]) hx hb dX1_isSoundNow_27 hl (k := 2) rfl (nI_1 i2) (Nat.le_of_ble_eq_true rfl) rfl (fun ls hl => ?_)
      refine lv_goto (tgt := 4) hx hb dX1_isSoundNow_30 (by decide) ?_
      exact ih (i2 + 1) (a1 + ((fX1_playerNow σ i2 8))) (lk_st hn) hR ls (lv_sub hl [2, 1, 0] rfl)
  have hL35 : ∀ (κ : Int32 → Bool) (hκ : ∀ (a1_35 : Int32) (ls : Array Slot), κ a1_35 = r → lv_has ls 4 [(0, .ref (α 0 0)), (1, .int (a1_35))] → W p l e { frames := 6, cells := 0, slots := 0, locals := 135 } s m [(.ref (α 0 0) : Value)].toArray below meth c s.heap [] 0 0 (MQ below (qP (some (.int (bI r)))) [(.ref (α 0 0) : Value)].toArray s 0 0 (fun _ => False)) (F0 m 97 ls [])) (n : Nat) (i2 : Nat) (a1_35 : Int32), i2 + n = nW σ → fX1_isSoundNow_L35 σ κ n i2 a1_35 = r → ∀ (ls : Array Slot), lv_has ls 4 [(0, .ref (α 0 0)), (1, .int (a1_35)), (2, .int (nI i2))] → W p l e { frames := 6, cells := 0, slots := 0, locals := 135 } s m [(.ref (α 0 0) : Value)].toArray below meth c s.heap [] 0 0 (MQ below (qP (some (.int (bI r)))) [(.ref (α 0 0) : Value)].toArray s 0 0 (fun _ => False)) (F0 m 35 ls []) := by
    intro  κ hκ n
    induction n with
    | zero =>
      intro i2 a1_35 hn hR ls hl
      rw [fX1_isSoundNow_L35] at hR
      refine lv_iload_n hx hb dX1_isSoundNow_35 rfl (lv_at hl 2 rfl) ?_
      refine lv_aload_n hx hb dX1_isSoundNow_36 rfl (lv_at hl 0 rfl) ?_
      refine gf (v := .ref (α 1 3)) (C := RX1) (T := TX1) (N := 6) (k := 4) hx hb hts hown hG cl_X1 in_X1 hX.ag (by decide) q307 rfl dX1_isSoundNow_37 ?_
      refine pcF (x := xL_size) (ci := 13) (As := []) (rest := [.int (nI i2)]) hG.fw_size hS0 (met_xl_size l D E (j := 3) (by decide)) q331 q334 q336 q103 q338 hd_xL_size ⟨Nat.le_of_ble_eq_true rfl, Nat.le_of_ble_eq_true rfl⟩ hG cl_J2 (hX.lsR hG (j := 3) (by decide)) hX rfl hl.1 rfl (Nat.le_of_ble_eq_true rfl) dX1_isSoundNow_40 ⟨Nat.le_refl _, Nat.le_refl _⟩ ?_
      refine W.eq (g2 := F0 m 45 ls [.int (nI (nW σ)), .int (nI i2)]) rfl ?_
      refine lk_ge_out (k := i2) (N := nW σ) hx hb hn (tgt := 97) dX1_isSoundNow_45 (by decide) ?_
      exact hκ a1_35 ls hR (lv_sub hl [0, 1] rfl)
    | succ n ih =>
      intro i2 a1_35 hn hR ls hl
      rw [fX1_isSoundNow_L35] at hR
      refine lv_iload_n hx hb dX1_isSoundNow_35 rfl (lv_at hl 2 rfl) ?_
      refine lv_aload_n hx hb dX1_isSoundNow_36 rfl (lv_at hl 0 rfl) ?_
      refine gf (v := .ref (α 1 3)) (C := RX1) (T := TX1) (N := 6) (k := 4) hx hb hts hown hG cl_X1 in_X1 hX.ag (by decide) q307 rfl dX1_isSoundNow_37 ?_
      refine pcF (x := xL_size) (ci := 13) (As := []) (rest := [.int (nI i2)]) hG.fw_size hS0 (met_xl_size l D E (j := 3) (by decide)) q331 q334 q336 q103 q338 hd_xL_size ⟨Nat.le_of_ble_eq_true rfl, Nat.le_of_ble_eq_true rfl⟩ hG cl_J2 (hX.lsR hG (j := 3) (by decide)) hX rfl hl.1 rfl (Nat.le_of_ble_eq_true rfl) dX1_isSoundNow_40 ⟨Nat.le_refl _, Nat.le_refl _⟩ ?_
      refine W.eq (g2 := F0 m 45 ls [.int (nI (nW σ)), .int (nI i2)]) rfl ?_
      have hki2 : i2 < nW σ := lk_lt hn
      refine lk_ge_in (k := i2) (N := nW σ) hx hb hki2 (by have := hX.nW14; omega) (tgt := 97) dX1_isSoundNow_45 (by decide) ?_
      refine lv_aload_n hx hb dX1_isSoundNow_48 rfl (lv_at hl 0 rfl) ?_
      refine gf (v := .ref (α 1 3)) (C := RX1) (T := TX1) (N := 6) (k := 4) hx hb hts hown hG cl_X1 in_X1 hX.ag (by decide) q307 rfl dX1_isSoundNow_49 ?_
      refine lv_iload_n hx hb dX1_isSoundNow_52 rfl (lv_at hl 2 rfl) ?_
      refine pcF (x := xL_get) (ci := 13) (As := [.int (nI i2)]) (rest := []) hG.fw_get hS0 (met_xl_get l D E (j := 3) (by decide) i2 hki2) q344 q347 q349 q103 q351 hd_xL_get ⟨Nat.le_of_ble_eq_true rfl, Nat.le_of_ble_eq_true rfl⟩ hG cl_J2 (hX.lsR hG (j := 3) (by decide)) hX rfl hl.1 rfl (Nat.le_of_ble_eq_true rfl) dX1_isSoundNow_53 ⟨Nat.le_refl _, Nat.le_refl _⟩ ?_
      refine W.eq (g2 := F0 m 58 ls [.ref (α 5 i2)]) rfl ?_
      refine gc (ci := 8) hx hb hown hG cl_X10 (rcv hG cl_X10 (hX.wd hki2)) (hts _ q369) dX1_isSoundNow_58 ?_
      refine lv_astore_n (lv' := [(3, .ref (α 5 i2)), (0, .ref (α 0 0)), (1, .int (a1_35)), (2, .int (nI i2))]) hx hb dX1_isSoundNow_61 rfl hl (Nat.le_of_ble_eq_true rfl) rfl (fun ls hl => ?_)
      refine lv_iload_n hx hb dX1_isSoundNow_62 rfl (lv_at hl 2 rfl) ?_
      refine lv_aload_n hx hb dX1_isSoundNow_63 rfl (lv_at hl 0 rfl) ?_
      refine gs hx hb (hG.en (i := 2) (by decide)) hown (hts _ q377) (fun _ h => h) dX1_isSoundNow_64 ?_
      refine pcV (As := [.ref (E (10 + 2))]) (rest := [.int (a1_35)]) hS0 (met_X10_is l D E i2 2 hki2 (by decide)) q370 q371 q372 q130 q373 hd_X10_is ⟨Nat.le_of_ble_eq_true rfl, Nat.le_of_ble_eq_true rfl⟩ hG (rcv hG cl_X10 (hX.wd hki2)) hX rfl hl.1 rfl (Nat.le_of_ble_eq_true rfl) dX1_isSoundNow_67 ⟨Nat.le_refl _, Nat.le_refl _⟩ ?_
      refine W.eq (g2 := F0 m 70 ls [.int (bI ((fX10_is σ i2 2))), .int (a1_35)]) rfl ?_
      refine lb_if_eq (tgt := 88) hx hb dX1_isSoundNow_70 (by decide) (fun c2 => ?_) (fun c2 => ?_)
      · rw [if_neg c2] at hR
        refine lv_iconst (v := 0) hx hb dX1_isSoundNow_88 (by decide) ?_
        refine lv_isub hx hb dX1_isSoundNow_89 ?_
        refine lv_istore_n (lv' := [(1, .int (a1_35 - 0)), (3, .ref (α 5 i2)), (0, .ref (α 0 0)), (2, .int (nI i2))]) hx hb dX1_isSoundNow_90 rfl hl (Nat.le_of_ble_eq_true rfl) rfl (fun ls hl => ?_)
        refine lv_iinc (v := nI (i2 + 1)) (lv' := [(2, .int (nI (i2 + 1))), (1, .int (a1_35 - 0)), (3, .ref (α 5 i2)), (0, .ref (α 0 0))]) hx hb dX1_isSoundNow_91 hl (k := 3) rfl (nI_1 i2) (Nat.le_of_ble_eq_true rfl) rfl (fun ls hl => ?_)
        refine lv_goto (tgt := 35) hx hb dX1_isSoundNow_94 (by decide) ?_
        exact ih (i2 + 1) (a1_35 - 0) (lk_st hn) hR ls (lv_sub hl [3, 1, 0] rfl)
      · rw [if_pos c2] at hR
        refine lv_aload_n hx hb dX1_isSoundNow_73 rfl (lv_at hl 0 rfl) ?_
        refine gfN (v := .int (wLen σ i2)) (C := RX10) (T := TX10) (N := 12) (k := 4) hx hb hts hown hG cl_X10 in_X10 (hX.wd hki2) (by decide) q1018 rfl dX1_isSoundNow_74 ?_
        refine lv_aload_n hx hb dX1_isSoundNow_77 rfl (lv_at hl 0 rfl) ?_
        refine gfN (v := .int (wSet σ i2)) (C := RX10) (T := TX10) (N := 12) (k := 8) hx hb hts hown hG cl_X10 in_X10 (hX.wd hki2) (by decide) q1027 rfl dX1_isSoundNow_78 ?_
        refine pcS (As := [.int (wSet σ i2)]) (rest := [.int (wLen σ i2), .int (a1_35)]) hS0 (met_size l D E (wSet σ i2)) q379 q380 q100 q381 hd_X1_size ⟨Nat.le_of_ble_eq_true rfl, Nat.le_of_ble_eq_true rfl⟩ hG trivial rfl hl.1 rfl (Nat.le_of_ble_eq_true rfl) dX1_isSoundNow_81 ⟨Nat.le_refl _, Nat.le_refl _⟩ ?_
        refine W.eq (g2 := F0 m 84 ls [.int (nI (popc (wSet σ i2))), .int (wLen σ i2), .int (a1_35)]) rfl ?_
        refine lv_imul hx hb dX1_isSoundNow_84 ?_
        refine lv_goto (tgt := 89) hx hb dX1_isSoundNow_85 (by decide) ?_
        refine lv_isub hx hb dX1_isSoundNow_89 ?_
        refine lv_istore_n (lv' := [(1, .int (a1_35 - ((wLen σ i2) * (nI (popc (wSet σ i2)))))), (3, .ref (α 5 i2)), (0, .ref (α 0 0)), (2, .int (nI i2))]) hx hb dX1_isSoundNow_90 rfl hl (Nat.le_of_ble_eq_true rfl) rfl (fun ls hl => ?_)
        refine lv_iinc (v := nI (i2 + 1)) (lv' := [(2, .int (nI (i2 + 1))), (1, .int (a1_35 - ((wLen σ i2) * (nI (popc (wSet σ i2)))))), (3, .ref (α 5 i2)), (0, .ref (α 0 0))]) hx hb dX1_isSoundNow_91 hl (k := 3) rfl (nI_1 i2) (Nat.le_of_ble_eq_true rfl) rfl (fun ls hl => ?_)
        refine lv_goto (tgt := 35) hx hb dX1_isSoundNow_94 (by decide) ?_
        exact ih (i2 + 1) (a1_35 - ((wLen σ i2) * (nI (popc (wSet σ i2))))) (lk_st hn) hR ls (lv_sub hl [3, 1, 0] rfl)
  have hL101 : ∀ (a3 : Int32) (κ : Int32 → Bool) (hκ : ∀ (a2 : Int32) (ls : Array Slot), κ a2 = r → lv_has ls 4 [(0, .ref (α 0 0)), (1, .int (a3)), (2, .int (a2))] → W p l e { frames := 6, cells := 0, slots := 0, locals := 135 } s m [(.ref (α 0 0) : Value)].toArray below meth c s.heap [] 0 0 (MQ below (qP (some (.int (bI r)))) [(.ref (α 0 0) : Value)].toArray s 0 0 (fun _ => False)) (F0 m 121 ls [])) (n : Nat) (i3 : Nat) (a2 : Int32), i3 + n = 16 → fX1_isSoundNow_L101 σ a3 κ n i3 a2 = r → ∀ (ls : Array Slot), lv_has ls 4 [(0, .ref (α 0 0)), (1, .int (a3)), (2, .int (a2)), (3, .int (nI i3))] → W p l e { frames := 6, cells := 0, slots := 0, locals := 135 } s m [(.ref (α 0 0) : Value)].toArray below meth c s.heap [] 0 0 (MQ below (qP (some (.int (bI r)))) [(.ref (α 0 0) : Value)].toArray s 0 0 (fun _ => False)) (F0 m 101 ls []) := by
    intro a3 κ hκ n
    induction n with
    | zero =>
      intro i3 a2 hn hR ls hl
      rw [fX1_isSoundNow_L101] at hR
      refine lv_iload_n hx hb dX1_isSoundNow_101 rfl (lv_at hl 3 rfl) ?_
      refine lv_bipush (v := 16) hx hb dX1_isSoundNow_102 (by decide) ?_
      refine lk_ge_out (k := i3) (N := 16) hx hb hn (tgt := 121) dX1_isSoundNow_104 (by decide) ?_
      exact hκ a2 ls hR (lv_sub hl [0, 1, 2] rfl)
    | succ n ih =>
      intro i3 a2 hn hR ls hl
      rw [fX1_isSoundNow_L101] at hR
      refine lv_iload_n hx hb dX1_isSoundNow_101 rfl (lv_at hl 3 rfl) ?_
      refine lv_bipush (v := 16) hx hb dX1_isSoundNow_102 (by decide) ?_
      have hki3 : i3 < 16 := lk_lt hn
      refine lk_ge_in (k := i3) (N := 16) hx hb hki3 (by decide) (tgt := 121) dX1_isSoundNow_104 (by decide) ?_
      refine lv_iload_n hx hb dX1_isSoundNow_107 rfl (lv_at hl 2 rfl) ?_
      refine lv_aload_n hx hb dX1_isSoundNow_108 rfl (lv_at hl 0 rfl) ?_
      refine lv_iload_n hx hb dX1_isSoundNow_109 rfl (lv_at hl 3 rfl) ?_
      refine pcV (As := [.int (nI i3)]) (rest := [.int (a2)]) hS0 (met_X1_share l D E i3 hki3) q382 q384 qs7 q100 q385 hd_X1_share ⟨Nat.le_of_ble_eq_true rfl, Nat.le_of_ble_eq_true rfl⟩ hG (rcv hG cl_X1 hX.ag) hX rfl hl.1 rfl (Nat.le_of_ble_eq_true rfl) dX1_isSoundNow_110 ⟨Nat.le_refl _, Nat.le_refl _⟩ ?_
      refine W.eq (g2 := F0 m 113 ls [.int ((fX1_share σ i3)), .int (a2)]) rfl ?_
      refine lv_iadd hx hb dX1_isSoundNow_113 ?_
      refine lv_istore_n (lv' := [(2, .int (a2 + ((fX1_share σ i3)))), (0, .ref (α 0 0)), (1, .int (a3)), (3, .int (nI i3))]) hx hb dX1_isSoundNow_114 rfl hl (Nat.le_of_ble_eq_true rfl) rfl (fun ls hl => ?_)
      refine lv_iinc (v := nI (i3 + 1)) (lv' := [(3, .int (nI (i3 + 1))), (2, .int (a2 + ((fX1_share σ i3)))), (0, .ref (α 0 0)), (1, .int (a3))]) hx hb dX1_isSoundNow_115 hl (k := 3) rfl (nI_1 i3) (Nat.le_of_ble_eq_true rfl) rfl (fun ls hl => ?_)
      refine lv_goto (tgt := 101) hx hb dX1_isSoundNow_118 (by decide) ?_
      exact ih (i3 + 1) (a2 + ((fX1_share σ i3))) (lk_st hn) hR ls (lv_sub hl [2, 3, 1, 0] rfl)
  unfold fX1_isSoundNow at hR
  refine lv_iconst (v := 0) hx hb dX1_isSoundNow_0 (by decide) ?_
  refine lv_istore_n (lv' := [(1, .int 0), (0, .ref (α 0 0))]) hx hb dX1_isSoundNow_1 rfl hl (Nat.le_of_ble_eq_true rfl) rfl (fun ls hl => ?_)
  refine lv_iconst (v := 0) hx hb dX1_isSoundNow_2 (by decide) ?_
  refine lv_istore_n (lv' := [(2, .int 0), (1, .int 0), (0, .ref (α 0 0))]) hx hb dX1_isSoundNow_3 rfl hl (Nat.le_of_ble_eq_true rfl) rfl (fun ls hl => ?_)
  refine hL4  _ (fun a1 ls hR hl => ?_) (nP σ) 0 0 (Nat.zero_add _) hR ls (lv_sub hl [2, 1, 0] rfl)
  refine lv_iconst (v := 0) hx hb dX1_isSoundNow_33 (by decide) ?_
  refine lv_istore_n (lv' := [(2, .int 0), (0, .ref (α 0 0)), (1, .int (a1))]) hx hb dX1_isSoundNow_34 rfl hl (Nat.le_of_ble_eq_true rfl) rfl (fun ls hl => ?_)
  refine hL35  _ (fun a3 ls hR hl => ?_) (nW σ) 0 a1 (Nat.zero_add _) hR ls (lv_sub hl [1, 2, 0] rfl)
  refine lv_iconst (v := 0) hx hb dX1_isSoundNow_97 (by decide) ?_
  refine lv_istore_n (lv' := [(2, .int 0), (0, .ref (α 0 0)), (1, .int (a3))]) hx hb dX1_isSoundNow_98 rfl hl (Nat.le_of_ble_eq_true rfl) rfl (fun ls hl => ?_)
  refine lv_iconst (v := 0) hx hb dX1_isSoundNow_99 (by decide) ?_
  refine lv_istore_n (lv' := [(3, .int 0), (2, .int 0), (0, .ref (α 0 0)), (1, .int (a3))]) hx hb dX1_isSoundNow_100 rfl hl (Nat.le_of_ble_eq_true rfl) rfl (fun ls hl => ?_)
  refine hL101 a3 _ (fun a4 ls hR hl => ?_) 16 0 0 (Nat.zero_add _) hR ls (lv_sub hl [2, 3, 1, 0] rfl)
  refine lv_aload_n hx hb dX1_isSoundNow_121 rfl (lv_at hl 0 rfl) ?_
  refine pcV (As := []) (rest := []) hS0 (met_X1_areFixedSound l D E ) q386 q388 qs8 q100 q389 hd_X1_areFixedSound ⟨Nat.le_of_ble_eq_true rfl, Nat.le_of_ble_eq_true rfl⟩ hG (rcv hG cl_X1 hX.ag) hX rfl hl.1 rfl (Nat.le_of_ble_eq_true rfl) dX1_isSoundNow_122 ⟨Nat.le_refl _, Nat.le_refl _⟩ ?_
  refine W.eq (g2 := F0 m 125 ls [.int (bI ((fX1_areFixedSound σ)))]) rfl ?_
  refine lb_if_eq (tgt := 163) hx hb dX1_isSoundNow_125 (by decide) (fun c5 => ?_) (fun c5 => ?_)
  · rw [if_neg c5] at hR
    refine lv_iconst (v := 0) hx hb dX1_isSoundNow_163 (by decide) ?_
    exact p_zret (b := false) hx hb hr hlocks dX1_isSoundNow_164 rfl (by rw [← hR])
  · rw [if_pos c5] at hR
    refine lv_aload_n hx hb dX1_isSoundNow_128 rfl (lv_at hl 0 rfl) ?_
    refine lv_bipush (v := 8) hx hb dX1_isSoundNow_129 (by decide) ?_
    refine pcV (As := [.int 8]) (rest := []) hS0 (met_X1_deskNow l D E 8) q395 q397 qs9 q100 q398 hd_X1_deskNow ⟨Nat.le_of_ble_eq_true rfl, Nat.le_of_ble_eq_true rfl⟩ hG (rcv hG cl_X1 hX.ag) hX rfl hl.1 rfl (Nat.le_of_ble_eq_true rfl) dX1_isSoundNow_131 ⟨Nat.le_refl _, Nat.le_refl _⟩ ?_
    refine W.eq (g2 := F0 m 134 ls [.int ((fX1_deskNow σ 8))]) rfl ?_
    refine lv_aload_n hx hb dX1_isSoundNow_134 rfl (lv_at hl 0 rfl) ?_
    refine pcV (As := []) (rest := [.int ((fX1_deskNow σ 8))]) hS0 (met_X1_paid l D E ) q407 q409 qs11 q100 q410 hd_X1_paid ⟨Nat.le_of_ble_eq_true rfl, Nat.le_of_ble_eq_true rfl⟩ hG (rcv hG cl_X1 hX.ag) hX rfl hl.1 rfl (Nat.le_of_ble_eq_true rfl) dX1_isSoundNow_135 ⟨Nat.le_refl _, Nat.le_refl _⟩ ?_
    refine W.eq (g2 := F0 m 138 ls [.int ((fX1_paid σ)), .int ((fX1_deskNow σ 8))]) rfl ?_
    refine lv_aload_n hx hb dX1_isSoundNow_138 rfl (lv_at hl 0 rfl) ?_
    refine lv_bipush (v := 10) hx hb dX1_isSoundNow_139 (by decide) ?_
    refine pcV (As := [.int 10]) (rest := [.int ((fX1_paid σ)), .int ((fX1_deskNow σ 8))]) hS0 (met_X1_deskNow l D E 10) q395 q397 qs9 q100 q398 hd_X1_deskNow ⟨Nat.le_of_ble_eq_true rfl, Nat.le_of_ble_eq_true rfl⟩ hG (rcv hG cl_X1 hX.ag) hX rfl hl.1 rfl (Nat.le_of_ble_eq_true rfl) dX1_isSoundNow_141 ⟨Nat.le_refl _, Nat.le_refl _⟩ ?_
    refine W.eq (g2 := F0 m 144 ls [.int ((fX1_deskNow σ 10)), .int ((fX1_paid σ)), .int ((fX1_deskNow σ 8))]) rfl ?_
    refine lv_isub hx hb dX1_isSoundNow_144 ?_
    refine lv_icmp_ne (tgt := 163) hx hb dX1_isSoundNow_145 (by decide) (fun c6 => ?_) (fun c6 => ?_)
    · rw [if_neg c6] at hR
      refine lv_iconst (v := 0) hx hb dX1_isSoundNow_163 (by decide) ?_
      exact p_zret (b := false) hx hb hr hlocks dX1_isSoundNow_164 rfl (by rw [← hR])
    · rw [if_pos c6] at hR
      refine lv_iload_n hx hb dX1_isSoundNow_148 rfl (lv_at hl 1 rfl) ?_
      refine lv_if_ne (tgt := 163) hx hb dX1_isSoundNow_149 (by decide) (fun c7 => ?_) (fun c7 => ?_)
      · rw [if_neg c7] at hR
        refine lv_iconst (v := 0) hx hb dX1_isSoundNow_163 (by decide) ?_
        exact p_zret (b := false) hx hb hr hlocks dX1_isSoundNow_164 rfl (by rw [← hR])
      · rw [if_pos c7] at hR
        refine lv_iload_n hx hb dX1_isSoundNow_152 rfl (lv_at hl 2 rfl) ?_
        refine lv_sipush (v := 1000) hx hb dX1_isSoundNow_153 (by decide) ?_
        refine lv_icmp_gt (tgt := 163) hx hb dX1_isSoundNow_156 (by decide) (fun c8 => ?_) (fun c8 => ?_)
        · rw [if_pos c8] at hR
          refine lv_iconst (v := 0) hx hb dX1_isSoundNow_163 (by decide) ?_
          exact p_zret (b := false) hx hb hr hlocks dX1_isSoundNow_164 rfl (by rw [← hR])
        · rw [if_neg c8] at hR
          refine lv_iconst (v := 1) hx hb dX1_isSoundNow_159 (by decide) ?_
          refine lv_goto (tgt := 164) hx hb dX1_isSoundNow_160 (by decide) ?_
          exact p_zret (b := true) hx hb hr hlocks dX1_isSoundNow_164 rfl (by rw [← hR])

def fX1_isSound (σ : St) : Bool :=
  (fX1_isSoundNow σ)
set_option maxHeartbeats 4000000 in
set_option maxRecDepth 100000 in
theorem met_X1_isSound (l : Launch) (D : va_G) (E : Nat → Nat) {α : Nat → Nat → Nat} {F : Nat → Prop} {σ : St}   : PM l D E yX1_isSound cX1_isSound 1 (Option.some Jvm.ClassFile.FieldType.boolean) 7 158 [.ref (α 0 0)] (RX D E α F σ) (some (.int (bI (fX1_isSound σ)))) := by
  generalize hR : fX1_isSound σ = r
  refine PM.start (by decide) (Nat.le_of_ble_eq_true rfl) ?_
  intro p e s m below meth c ls hx hb hr hml hown hlocks hts hG hX hl
  have hown : s.vm.findClass RX1 = some m.cls := hown
  have hS0 : xS p m c cX1_isSound 1 s _ RX1 := ⟨hx, hb, hml, hown, hts⟩
  have hl : lv_has ls 1 [(0, .ref (α 0 0))] := hl
  unfold fX1_isSound at hR
  refine lv_aload_n hx hb dX1_isSound_0 rfl (lv_at hl 0 rfl) ?_
  refine pcV (As := []) (rest := []) hS0 (met_X1_isSoundNow l D E ) q326 q328 qs4 q100 q329 hd_X1_isSoundNow ⟨Nat.le_of_ble_eq_true rfl, Nat.le_of_ble_eq_true rfl⟩ hG (rcv hG cl_X1 hX.ag) hX rfl hl.1 rfl (Nat.le_of_ble_eq_true rfl) dX1_isSound_1 ⟨Nat.le_refl _, Nat.le_refl _⟩ ?_
  refine W.eq (g2 := F0 m 4 ls [.int (bI ((fX1_isSoundNow σ)))]) rfl ?_
  exact p_zret (b := (fX1_isSoundNow σ)) hx hb hr hlocks dX1_isSound_4 rfl (by rw [← hR])

