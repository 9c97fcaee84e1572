/-! loops that write -/
set_option maxRecDepth 100000
def fX2_find_L2 (σ : St)  (κ : St → St) : Nat → Nat → St → St
  | 0, i1, σ1 => κ σ1
  | n + 1, i1, σ1 => (if (nI (i1 / 6)) = (nI (i1 % 6)) then (fun (σ4 : St) => fX2_find_L2 σ κ n (i1 + 1) σ4) (sW σ1 41 i1 0) else (if (rHours σ1 i1) ≤ 0 then (fun (σ2 : St) => fX2_find_L2 σ κ n (i1 + 1) σ2) (sW σ1 41 i1 ((-1))) else (fun (σ3 : St) => fX2_find_L2 σ κ n (i1 + 1) σ3) (sW σ1 41 i1 (rHours σ1 i1))))
def fX2_find_L67 (σ : St) (i1 : Nat) (κ : St → St) : Nat → Nat → St → St
  | 0, i2, σ7 => κ σ7
  | n + 1, i2, σ7 => (if ((fX2_drive σ7 (i2 / 6) i1)) = ((-1)) then (fun (σ8 : St) => fX2_find_L67 σ i1 κ n (i2 + 1) σ8) (sW σ7 41 i2 (rDrives σ7 i2)) else (if ((fX2_drive σ7 i1 (i2 % 6))) = ((-1)) then (fun (σ9 : St) => fX2_find_L67 σ i1 κ n (i2 + 1) σ9) (sW σ7 41 i2 (rDrives σ7 i2)) else (if (rDrives σ7 i2) = ((-1)) then (fun (σ10 : St) => fX2_find_L67 σ i1 κ n (i2 + 1) σ10) (sW σ7 41 i2 (((fX2_drive σ7 (i2 / 6) i1)) + ((fX2_drive σ7 i1 (i2 % 6))))) else (if (rDrives σ7 i2) ≤ (((fX2_drive σ7 (i2 / 6) i1)) + ((fX2_drive σ7 i1 (i2 % 6)))) then (fun (σ11 : St) => fX2_find_L67 σ i1 κ n (i2 + 1) σ11) (sW σ7 41 i2 (rDrives σ7 i2)) else (fun (σ12 : St) => fX2_find_L67 σ i1 κ n (i2 + 1) σ12) (sW σ7 41 i2 (((fX2_drive σ7 (i2 / 6) i1)) + ((fX2_drive σ7 i1 (i2 % 6)))))))))
def fX2_find_L59 (σ : St)  (κ : St → St) : Nat → Nat → St → St
  | 0, i1, σ6 => κ σ6
  | n + 1, i1, σ6 => fX2_find_L67 σ i1 (fun (σ13 : St) => fX2_find_L59 σ κ n (i1 + 1) σ13) 36 0 σ6
def fX2_find (σ : St) : St :=
  fX2_find_L2 σ (fun (σ5 : St) => fX2_find_L59 σ (fun (σ14 : St) => σ14) 6 0 σ5) 36 0 σ
set_option maxHeartbeats 4000000 in
set_option maxRecDepth 100000 in
theorem met_X2_find (l : Launch) (D : va_G) (E : Nat → Nat) {α : Nat → Nat → Nat} {F : Nat → Prop} {σ : St}   : GM l D E yX2_find cX2_find 7 (Option.none : Option Jvm.ClassFile.FieldType) 1 22 0 0 [.ref (α 7 0)] (RX D E α F σ) F F (fun sz v h => v = none ∧ RX D E α (fN F sz) (fX2_find σ) h ∧ cnt (fX2_find σ) σ)  := by
  generalize hR : fX2_find σ = r
  refine GM.start (by decide) (Nat.le_of_ble_eq_true rfl) ?_
  intro p e s m below meth c ls hx hb hr hml hown hlocks hnm hts hG hX hS hl
  have hown : s.vm.findClass RX2 = some m.cls := hown
  have hS0 : xS p m c cX2_find 7 s _ RX2 := ⟨hx, hb, hml, hown, hts⟩
  have hl : lv_has ls 7 [(0, .ref (α 7 0))] := hl
  have hG0 := hG
  have hX0 := hX
  have hb0P := hX0.nP10
  have hb0B := hX0.nB6
  have hb0W := hX0.nW14
  have hFE := hX.fE
  have hX := hX.wide (n := s.heap.size) hG.2.2.1
  have hcn : cnt σ σ := cnt.rf
  have hL2 : ∀  (κ : St → St) (hκ : ∀ (σ1 : St) (H : Heap) (locs : List Loc) (ls : Array Slot), κ σ1 = r → cnt σ1 σ → RX D E α (fN F s.heap.size) σ1 H → xK F F s.heap H locs → lv_has ls 7 [(0, .ref (α 7 0))] → W p l e { frames := 1, cells := 0, slots := 0, locals := 22 } s m [(.ref (α 7 0) : Value)].toArray below meth c H locs 0 0 (MQ below (qG F ((fun sz v h => v = none ∧ RX D E α (fN F sz) r h ∧ cnt r σ) s.heap.size)) [(.ref (α 7 0) : Value)].toArray s 0 0 (fN F s.heap.size)) (F0 m 57 ls [])) (n : Nat) (i1 : Nat) (σ1 : St), i1 + n = 36 → fX2_find_L2 σ κ n i1 σ1 = r → ∀ (H : Heap) (locs : List Loc), cnt σ1 σ → RX D E α (fN F s.heap.size) σ1 H → xK F F s.heap H locs → ∀ (ls : Array Slot), lv_has ls 7 [(0, .ref (α 7 0)), (1, .int (nI i1))] → W p l e { frames := 1, cells := 0, slots := 0, locals := 22 } s m [(.ref (α 7 0) : Value)].toArray below meth c H locs 0 0 (MQ below (qG F ((fun sz v h => v = none ∧ RX D E α (fN F sz) r h ∧ cnt r σ) s.heap.size)) [(.ref (α 7 0) : Value)].toArray s 0 0 (fN F s.heap.size)) (F0 m 2 ls []) := by
    intro  κ hκ n
    induction n with
    | zero =>
      intro i1 σ1 hn hR H locs hcn hX hS ls hl
      rw [fX2_find_L2] at hR
      have hG := gE.ofS hG0 hS hFE
      refine lv_iload_n hx hb dX2_find_2 rfl (lv_at hl 1 rfl) ?_
      refine lv_aload_n hx hb dX2_find_3 rfl (lv_at hl 0 rfl) ?_
      refine gf (v := .ref (α 8 1)) (C := RX2) (T := TX2) (N := 2) (k := 1) hx hb hts hown hG cl_X2 in_X2 hX.rd (by decide) q193 rfl dX2_find_4 ?_
      refine gl (N := 36) hx hb hG hX.dr (t := 0) rfl rfl dX2_find_7 ?_
      refine lk_ge_out (k := i1) (N := 36) hx hb hn (tgt := 57) dX2_find_8 (by decide) ?_
      exact hκ σ1 _ _ ls hR hcn hX hS (lv_sub hl [0] rfl)
    | succ n ih =>
      intro i1 σ1 hn hR H locs hcn hX hS ls hl
      rw [fX2_find_L2] at hR
      have hG := gE.ofS hG0 hS hFE
      refine lv_iload_n hx hb dX2_find_2 rfl (lv_at hl 1 rfl) ?_
      refine lv_aload_n hx hb dX2_find_3 rfl (lv_at hl 0 rfl) ?_
      refine gf (v := .ref (α 8 1)) (C := RX2) (T := TX2) (N := 2) (k := 1) hx hb hts hown hG cl_X2 in_X2 hX.rd (by decide) q193 rfl dX2_find_4 ?_
      refine gl (N := 36) hx hb hG hX.dr (t := 0) rfl rfl dX2_find_7 ?_
      have hki1 : i1 < 36 := lk_lt hn
      refine lk_ge_in (k := i1) (N := 36) hx hb hki1 (by decide) (tgt := 57) dX2_find_8 (by decide) ?_
      refine lv_aload_n hx hb dX2_find_11 rfl (lv_at hl 0 rfl) ?_
      refine gf (v := .ref (α 8 1)) (C := RX2) (T := TX2) (N := 2) (k := 1) hx hb hts hown hG cl_X2 in_X2 hX.rd (by decide) q193 rfl dX2_find_12 ?_
      refine lv_iload_n hx hb dX2_find_15 rfl (lv_at hl 1 rfl) ?_
      refine lv_iload_n hx hb dX2_find_16 rfl (lv_at hl 1 rfl) ?_
      refine lv_bipush (v := 6) hx hb dX2_find_17 (by decide) ?_
      refine lv_idiv hx hb dX2_find_19 (by decide) ?_
      refine lv_eq (pk_div (a := i1) (d := 6) (show i1 < 2 ^ 31 from by have := hki1; omega) (by decide) (by decide)) ?_
      refine lv_iload_n hx hb dX2_find_20 rfl (lv_at hl 1 rfl) ?_
      refine lv_bipush (v := 6) hx hb dX2_find_21 (by decide) ?_
      refine lv_irem hx hb dX2_find_23 (by decide) ?_
      refine lv_eq (pk_rem (a := i1) (d := 6) (show i1 < 2 ^ 31 from by have := hki1; omega) (by decide) (by decide)) ?_
      refine lv_icmp_ne (tgt := 31) hx hb dX2_find_24 (by decide) (fun c1 => ?_) (fun c1 => ?_)
      · rw [if_neg c1] at hR
        refine lv_aload_n hx hb dX2_find_31 rfl (lv_at hl 0 rfl) ?_
        refine gf (v := .ref (α 8 0)) (C := RX2) (T := TX2) (N := 2) (k := 0) hx hb hts hown hG cl_X2 in_X2 hX.rd (by decide) q192 rfl dX2_find_32 ?_
        refine lv_iload_n hx hb dX2_find_35 rfl (lv_at hl 1 rfl) ?_
        refine gaI (N := 36) (k := i1) hx hb hG hX.hr hki1 (by decide) dX2_find_36 ?_
        refine lv_if_le (tgt := 49) hx hb dX2_find_37 (by decide) (fun c2 => ?_) (fun c2 => ?_)
        · rw [if_pos c2] at hR
          refine lv_iconst (v := (-1)) hx hb dX2_find_49 (by decide) ?_
          refine paI (N := 36) (k := i1) hx hb hG hS hX.dr hX.drF hX.drF hki1 (by decide) dX2_find_50 (fun H1 locs1 he hz hq hS => ?_)
          have hX := hX.Pdr  he hq
          have hG := gE.ofS hG0 hS hFE
          obtain ⟨σ2, hσ2⟩ : ∃ x, x = sW σ1 41 i1 ((-1)) := ⟨_, rfl⟩
          rw [← hσ2] at hR hX
          have hcn : cnt σ2 σ := by rw [hσ2]; exact hcn.sW
          try dsimp only at hR
          refine lv_iinc (v := nI (i1 + 1)) (lv' := [(1, .int (nI (i1 + 1))), (0, .ref (α 7 0))]) hx hb dX2_find_51 hl (k := 1) rfl (nI_1 i1) (Nat.le_of_ble_eq_true rfl) rfl (fun ls hl => ?_)
          refine lv_goto (tgt := 2) hx hb dX2_find_54 (by decide) ?_
          exact ih (i1 + 1) σ2 (lk_st hn) hR _ _ hcn hX hS ls (lv_sub hl [1, 0] rfl)
        · rw [if_neg c2] at hR
          refine lv_aload_n hx hb dX2_find_40 rfl (lv_at hl 0 rfl) ?_
          refine gf (v := .ref (α 8 0)) (C := RX2) (T := TX2) (N := 2) (k := 0) hx hb hts hown hG cl_X2 in_X2 hX.rd (by decide) q192 rfl dX2_find_41 ?_
          refine lv_iload_n hx hb dX2_find_44 rfl (lv_at hl 1 rfl) ?_
          refine gaI (N := 36) (k := i1) hx hb hG hX.hr hki1 (by decide) dX2_find_45 ?_
          refine lv_goto (tgt := 50) hx hb dX2_find_46 (by decide) ?_
          refine paI (N := 36) (k := i1) hx hb hG hS hX.dr hX.drF hX.drF hki1 (by decide) dX2_find_50 (fun H1 locs1 he hz hq hS => ?_)
          have hX := hX.Pdr  he hq
          have hG := gE.ofS hG0 hS hFE
          obtain ⟨σ3, hσ3⟩ : ∃ x, x = sW σ1 41 i1 (rHours σ1 i1) := ⟨_, rfl⟩
          rw [← hσ3] at hR hX
          have hcn : cnt σ3 σ := by rw [hσ3]; exact hcn.sW
          try dsimp only at hR
          refine lv_iinc (v := nI (i1 + 1)) (lv' := [(1, .int (nI (i1 + 1))), (0, .ref (α 7 0))]) hx hb dX2_find_51 hl (k := 1) rfl (nI_1 i1) (Nat.le_of_ble_eq_true rfl) rfl (fun ls hl => ?_)
          refine lv_goto (tgt := 2) hx hb dX2_find_54 (by decide) ?_
          exact ih (i1 + 1) σ3 (lk_st hn) hR _ _ hcn hX hS ls (lv_sub hl [1, 0] rfl)
      · rw [if_pos c1] at hR
        refine lv_iconst (v := 0) hx hb dX2_find_27 (by decide) ?_
        refine lv_goto (tgt := 50) hx hb dX2_find_28 (by decide) ?_
        refine paI (N := 36) (k := i1) hx hb hG hS hX.dr hX.drF hX.drF hki1 (by decide) dX2_find_50 (fun H1 locs1 he hz hq hS => ?_)
        have hX := hX.Pdr  he hq
        have hG := gE.ofS hG0 hS hFE
        obtain ⟨σ4, hσ4⟩ : ∃ x, x = sW σ1 41 i1 0 := ⟨_, rfl⟩
        rw [← hσ4] at hR hX
        have hcn : cnt σ4 σ := by rw [hσ4]; exact hcn.sW
        try dsimp only at hR
        refine lv_iinc (v := nI (i1 + 1)) (lv' := [(1, .int (nI (i1 + 1))), (0, .ref (α 7 0))]) hx hb dX2_find_51 hl (k := 1) rfl (nI_1 i1) (Nat.le_of_ble_eq_true rfl) rfl (fun ls hl => ?_)
        refine lv_goto (tgt := 2) hx hb dX2_find_54 (by decide) ?_
        exact ih (i1 + 1) σ4 (lk_st hn) hR _ _ hcn hX hS ls (lv_sub hl [1, 0] rfl)
  have hL67 : ∀ (i1 : Nat) (hf67_0 : i1 < 6) (κ : St → St) (hκ : ∀ (σ7 : St) (H : Heap) (locs : List Loc) (ls : Array Slot), κ σ7 = r → cnt σ7 σ → RX D E α (fN F s.heap.size) σ7 H → xK F F s.heap H locs → lv_has ls 7 [(0, .ref (α 7 0)), (1, .int (nI i1))] → W p l e { frames := 1, cells := 0, slots := 0, locals := 22 } s m [(.ref (α 7 0) : Value)].toArray below meth c H locs 0 0 (MQ below (qG F ((fun sz v h => v = none ∧ RX D E α (fN F sz) r h ∧ cnt r σ) s.heap.size)) [(.ref (α 7 0) : Value)].toArray s 0 0 (fN F s.heap.size)) (F0 m 180 ls [])) (n : Nat) (i2 : Nat) (σ7 : St), i2 + n = 36 → fX2_find_L67 σ i1 κ n i2 σ7 = r → ∀ (H : Heap) (locs : List Loc), cnt σ7 σ → RX D E α (fN F s.heap.size) σ7 H → xK F F s.heap H locs → ∀ (ls : Array Slot), lv_has ls 7 [(0, .ref (α 7 0)), (1, .int (nI i1)), (2, .int (nI i2))] → W p l e { frames := 1, cells := 0, slots := 0, locals := 22 } s m [(.ref (α 7 0) : Value)].toArray below meth c H locs 0 0 (MQ below (qG F ((fun sz v h => v = none ∧ RX D E α (fN F sz) r h ∧ cnt r σ) s.heap.size)) [(.ref (α 7 0) : Value)].toArray s 0 0 (fN F s.heap.size)) (F0 m 67 ls []) := by
    intro i1 hf67_0 κ hκ n
    induction n with
    | zero =>
      intro i2 σ7 hn hR H locs hcn hX hS ls hl
      rw [fX2_find_L67] at hR
      have hG := gE.ofS hG0 hS hFE
      refine lv_iload_n hx hb dX2_find_67 rfl (lv_at hl 2 rfl) ?_
      refine lv_aload_n hx hb dX2_find_68 rfl (lv_at hl 0 rfl) ?_
      refine gf (v := .ref (α 8 1)) (C := RX2) (T := TX2) (N := 2) (k := 1) hx hb hts hown hG cl_X2 in_X2 hX.rd (by decide) q193 rfl dX2_find_69 ?_
      refine gl (N := 36) hx hb hG hX.dr (t := 0) rfl rfl dX2_find_72 ?_
      refine lk_ge_out (k := i2) (N := 36) hx hb hn (tgt := 180) dX2_find_73 (by decide) ?_
      exact hκ σ7 _ _ ls hR hcn hX hS (lv_sub hl [0, 1] rfl)
    | succ n ih =>
      intro i2 σ7 hn hR H locs hcn hX hS ls hl
      rw [fX2_find_L67] at hR
      have hG := gE.ofS hG0 hS hFE
      refine lv_iload_n hx hb dX2_find_67 rfl (lv_at hl 2 rfl) ?_
      refine lv_aload_n hx hb dX2_find_68 rfl (lv_at hl 0 rfl) ?_
      refine gf (v := .ref (α 8 1)) (C := RX2) (T := TX2) (N := 2) (k := 1) hx hb hts hown hG cl_X2 in_X2 hX.rd (by decide) q193 rfl dX2_find_69 ?_
      refine gl (N := 36) hx hb hG hX.dr (t := 0) rfl rfl dX2_find_72 ?_
      have hki2 : i2 < 36 := lk_lt hn
      refine lk_ge_in (k := i2) (N := 36) hx hb hki2 (by decide) (tgt := 180) dX2_find_73 (by decide) ?_
      refine lv_aload_n hx hb dX2_find_76 rfl (lv_at hl 0 rfl) ?_
      refine lv_iload_n hx hb dX2_find_77 rfl (lv_at hl 2 rfl) ?_
      refine lv_bipush (v := 6) hx hb dX2_find_78 (by decide) ?_
      refine lv_idiv hx hb dX2_find_80 (by decide) ?_
      refine lv_eq (pk_div (a := i2) (d := 6) (show i2 < 2 ^ 31 from by have := hki2; omega) (by decide) (by decide)) ?_
      refine lv_iload_n hx hb dX2_find_81 rfl (lv_at hl 1 rfl) ?_
      refine pcV (As := [.int (nI (i2 / 6)), .int (nI i1)]) (rest := []) hS0 (met_X2_drive l D E (i2 / 6) i1 (show i2 / 6 < 6 from by omega) hf67_0) q188 q189 q190 q104 q191 hd_X2_drive ⟨Nat.le_of_ble_eq_true rfl, Nat.le_of_ble_eq_true rfl⟩ hG (rcv hG cl_X2 hX.rd) hX rfl hl.1 rfl (Nat.le_of_ble_eq_true rfl) dX2_find_82 ⟨Nat.le_of_ble_eq_true rfl, Nat.le_of_ble_eq_true rfl⟩ ?_
      refine W.eq (g2 := F0 m 85 ls [.int ((fX2_drive σ7 (i2 / 6) i1))]) rfl ?_
      refine lv_istore_n (lv' := [(3, .int ((fX2_drive σ7 (i2 / 6) i1))), (0, .ref (α 7 0)), (1, .int (nI i1)), (2, .int (nI i2))]) hx hb dX2_find_85 rfl hl (Nat.le_of_ble_eq_true rfl) rfl (fun ls hl => ?_)
      refine lv_aload_n hx hb dX2_find_86 rfl (lv_at hl 1 rfl) ?_
      refine lv_iload_n hx hb dX2_find_87 rfl (lv_at hl 2 rfl) ?_
      refine lv_iload_n hx hb dX2_find_88 rfl (lv_at hl 3 rfl) ?_
      refine lv_bipush (v := 6) hx hb dX2_find_89 (by decide) ?_
      refine lv_irem hx hb dX2_find_91 (by decide) ?_
      refine lv_eq (pk_rem (a := i2) (d := 6) (show i2 < 2 ^ 31 from by have := hki2; omega) (by decide) (by decide)) ?_
      refine pcV (As := [.int (nI i1), .int (nI (i2 % 6))]) (rest := []) hS0 (met_X2_drive l D E i1 (i2 % 6) hf67_0 (show i2 % 6 < 6 from by omega)) q188 q189 q190 q104 q191 hd_X2_drive ⟨Nat.le_of_ble_eq_true rfl, Nat.le_of_ble_eq_true rfl⟩ hG (rcv hG cl_X2 hX.rd) hX rfl hl.1 rfl (Nat.le_of_ble_eq_true rfl) dX2_find_92 ⟨Nat.le_of_ble_eq_true rfl, Nat.le_of_ble_eq_true rfl⟩ ?_
      refine W.eq (g2 := F0 m 95 ls [.int ((fX2_drive σ7 i1 (i2 % 6)))]) rfl ?_
      refine lv_istore (lv' := [(4, .int ((fX2_drive σ7 i1 (i2 % 6)))), (3, .int ((fX2_drive σ7 (i2 / 6) i1))), (0, .ref (α 7 0)), (1, .int (nI i1)), (2, .int (nI i2))]) hx hb dX2_find_95 hl (Nat.le_of_ble_eq_true rfl) rfl (fun ls hl => ?_)
      refine lv_iload_n hx hb dX2_find_97 rfl (lv_at hl 1 rfl) ?_
      refine lv_iconst (v := (-1)) hx hb dX2_find_98 (by decide) ?_
      refine lv_icmp_eq (tgt := 112) hx hb dX2_find_99 (by decide) (fun c3 => ?_) (fun c3 => ?_)
      · rw [if_pos c3] at hR
        refine lv_iconst (v := 0) hx hb dX2_find_112 (by decide) ?_
        refine lv_istore (lv' := [(5, .int 0), (4, .int ((fX2_drive σ7 i1 (i2 % 6)))), (3, .int ((fX2_drive σ7 (i2 / 6) i1))), (0, .ref (α 7 0)), (1, .int (nI i1)), (2, .int (nI i2))]) hx hb dX2_find_113 hl (Nat.le_of_ble_eq_true rfl) rfl (fun ls hl => ?_)
        refine lv_iload hx hb dX2_find_115 (lv_at hl 0 rfl) ?_
        refine lv_if_eq (tgt := 147) hx hb dX2_find_117 (by decide) (fun _ => ?_) (fun c9 => absurd (by decide) c9)
        refine lv_iconst (v := 0) hx hb dX2_find_147 (by decide) ?_
        refine lv_istore (lv' := [(6, .int 0), (5, .int 0), (4, .int ((fX2_drive σ7 i1 (i2 % 6)))), (3, .int ((fX2_drive σ7 (i2 / 6) i1))), (0, .ref (α 7 0)), (1, .int (nI i1)), (2, .int (nI i2))]) hx hb dX2_find_148 hl (Nat.le_of_ble_eq_true rfl) rfl (fun ls hl => ?_)
        refine lv_aload_n hx hb dX2_find_150 rfl (lv_at hl 4 rfl) ?_
        refine gf (v := .ref (α 8 1)) (C := RX2) (T := TX2) (N := 2) (k := 1) hx hb hts hown hG cl_X2 in_X2 hX.rd (by decide) q193 rfl dX2_find_151 ?_
        refine lv_iload_n hx hb dX2_find_154 rfl (lv_at hl 6 rfl) ?_
        refine lv_iload hx hb dX2_find_155 (lv_at hl 0 rfl) ?_
        refine lv_if_eq (tgt := 167) hx hb dX2_find_157 (by decide) (fun _ => ?_) (fun c9 => absurd (by decide) c9)
        refine lv_aload_n hx hb dX2_find_167 rfl (lv_at hl 4 rfl) ?_
        refine gf (v := .ref (α 8 1)) (C := RX2) (T := TX2) (N := 2) (k := 1) hx hb hts hown hG cl_X2 in_X2 hX.rd (by decide) q193 rfl dX2_find_168 ?_
        refine lv_iload_n hx hb dX2_find_171 rfl (lv_at hl 6 rfl) ?_
        refine gaI (N := 36) (k := i2) hx hb hG hX.dr hki2 (by decide) dX2_find_172 ?_
        refine paI (N := 36) (k := i2) hx hb hG hS hX.dr hX.drF hX.drF hki2 (by decide) dX2_find_173 (fun H1 locs1 he hz hq hS => ?_)
        have hX := hX.Pdr  he hq
        have hG := gE.ofS hG0 hS hFE
        obtain ⟨σ8, hσ8⟩ : ∃ x, x = sW σ7 41 i2 (rDrives σ7 i2) := ⟨_, rfl⟩
        rw [← hσ8] at hR hX
        have hcn : cnt σ8 σ := by rw [hσ8]; exact hcn.sW
        try dsimp only at hR
        refine lv_iinc (v := nI (i2 + 1)) (lv' := [(2, .int (nI (i2 + 1))), (6, .int 0), (5, .int 0), (4, .int ((fX2_drive σ7 i1 (i2 % 6)))), (3, .int ((fX2_drive σ7 (i2 / 6) i1))), (0, .ref (α 7 0)), (1, .int (nI i1))]) hx hb dX2_find_174 hl (k := 6) rfl (nI_1 i2) (Nat.le_of_ble_eq_true rfl) rfl (fun ls hl => ?_)
        refine lv_goto (tgt := 67) hx hb dX2_find_177 (by decide) ?_
        exact ih (i2 + 1) σ8 (lk_st hn) hR _ _ hcn hX hS ls (lv_sub hl [5, 6, 0] rfl)
      · rw [if_neg c3] at hR
        refine lv_iload hx hb dX2_find_102 (lv_at hl 0 rfl) ?_
        refine lv_iconst (v := (-1)) hx hb dX2_find_104 (by decide) ?_
        refine lv_icmp_eq (tgt := 112) hx hb dX2_find_105 (by decide) (fun c4 => ?_) (fun c4 => ?_)
        · rw [if_pos c4] at hR
          refine lv_iconst (v := 0) hx hb dX2_find_112 (by decide) ?_
          refine lv_istore (lv' := [(5, .int 0), (4, .int ((fX2_drive σ7 i1 (i2 % 6)))), (3, .int ((fX2_drive σ7 (i2 / 6) i1))), (0, .ref (α 7 0)), (1, .int (nI i1)), (2, .int (nI i2))]) hx hb dX2_find_113 hl (Nat.le_of_ble_eq_true rfl) rfl (fun ls hl => ?_)
          refine lv_iload hx hb dX2_find_115 (lv_at hl 0 rfl) ?_
          refine lv_if_eq (tgt := 147) hx hb dX2_find_117 (by decide) (fun _ => ?_) (fun c9 => absurd (by decide) c9)
          refine lv_iconst (v := 0) hx hb dX2_find_147 (by decide) ?_
          refine lv_istore (lv' := [(6, .int 0), (5, .int 0), (4, .int ((fX2_drive σ7 i1 (i2 % 6)))), (3, .int ((fX2_drive σ7 (i2 / 6) i1))), (0, .ref (α 7 0)), (1, .int (nI i1)), (2, .int (nI i2))]) hx hb dX2_find_148 hl (Nat.le_of_ble_eq_true rfl) rfl (fun ls hl => ?_)
          refine lv_aload_n hx hb dX2_find_150 rfl (lv_at hl 4 rfl) ?_
          refine gf (v := .ref (α 8 1)) (C := RX2) (T := TX2) (N := 2) (k := 1) hx hb hts hown hG cl_X2 in_X2 hX.rd (by decide) q193 rfl dX2_find_151 ?_
          refine lv_iload_n hx hb dX2_find_154 rfl (lv_at hl 6 rfl) ?_
          refine lv_iload hx hb dX2_find_155 (lv_at hl 0 rfl) ?_
          refine lv_if_eq (tgt := 167) hx hb dX2_find_157 (by decide) (fun _ => ?_) (fun c9 => absurd (by decide) c9)
          refine lv_aload_n hx hb dX2_find_167 rfl (lv_at hl 4 rfl) ?_
          refine gf (v := .ref (α 8 1)) (C := RX2) (T := TX2) (N := 2) (k := 1) hx hb hts hown hG cl_X2 in_X2 hX.rd (by decide) q193 rfl dX2_find_168 ?_
          refine lv_iload_n hx hb dX2_find_171 rfl (lv_at hl 6 rfl) ?_
          refine gaI (N := 36) (k := i2) hx hb hG hX.dr hki2 (by decide) dX2_find_172 ?_
          refine paI (N := 36) (k := i2) hx hb hG hS hX.dr hX.drF hX.drF hki2 (by decide) dX2_find_173 (fun H1 locs1 he hz hq hS => ?_)
          have hX := hX.Pdr  he hq
          have hG := gE.ofS hG0 hS hFE
          obtain ⟨σ9, hσ9⟩ : ∃ x, x = sW σ7 41 i2 (rDrives σ7 i2) := ⟨_, rfl⟩
          rw [← hσ9] at hR hX
          have hcn : cnt σ9 σ := by rw [hσ9]; exact hcn.sW
          try dsimp only at hR
          refine lv_iinc (v := nI (i2 + 1)) (lv' := [(2, .int (nI (i2 + 1))), (6, .int 0), (5, .int 0), (4, .int ((fX2_drive σ7 i1 (i2 % 6)))), (3, .int ((fX2_drive σ7 (i2 / 6) i1))), (0, .ref (α 7 0)), (1, .int (nI i1))]) hx hb dX2_find_174 hl (k := 6) rfl (nI_1 i2) (Nat.le_of_ble_eq_true rfl) rfl (fun ls hl => ?_)
          refine lv_goto (tgt := 67) hx hb dX2_find_177 (by decide) ?_
          exact ih (i2 + 1) σ9 (lk_st hn) hR _ _ hcn hX hS ls (lv_sub hl [5, 6, 0] rfl)
        · rw [if_neg c4] at hR
          refine lv_iconst (v := 1) hx hb dX2_find_108 (by decide) ?_
          refine lv_goto (tgt := 113) hx hb dX2_find_109 (by decide) ?_
          refine lv_istore (lv' := [(5, .int 1), (4, .int ((fX2_drive σ7 i1 (i2 % 6)))), (3, .int ((fX2_drive σ7 (i2 / 6) i1))), (0, .ref (α 7 0)), (1, .int (nI i1)), (2, .int (nI i2))]) hx hb dX2_find_113 hl (Nat.le_of_ble_eq_true rfl) rfl (fun ls hl => ?_)
          refine lv_iload hx hb dX2_find_115 (lv_at hl 0 rfl) ?_
          refine lv_if_eq (tgt := 147) hx hb dX2_find_117 (by decide) (fun c9 => absurd c9 (by decide)) (fun _ => ?_)
          refine lv_aload_n hx hb dX2_find_120 rfl (lv_at hl 3 rfl) ?_
          refine gf (v := .ref (α 8 1)) (C := RX2) (T := TX2) (N := 2) (k := 1) hx hb hts hown hG cl_X2 in_X2 hX.rd (by decide) q193 rfl dX2_find_121 ?_
          refine lv_iload_n hx hb dX2_find_124 rfl (lv_at hl 5 rfl) ?_
          refine gaI (N := 36) (k := i2) hx hb hG hX.dr hki2 (by decide) dX2_find_125 ?_
          refine lv_iconst (v := (-1)) hx hb dX2_find_126 (by decide) ?_
          refine lv_icmp_eq (tgt := 143) hx hb dX2_find_127 (by decide) (fun c5 => ?_) (fun c5 => ?_)
          · rw [if_pos c5] at hR
            refine lv_iconst (v := 1) hx hb dX2_find_143 (by decide) ?_
            refine lv_goto (tgt := 148) hx hb dX2_find_144 (by decide) ?_
            refine lv_istore (lv' := [(6, .int 1), (5, .int 1), (4, .int ((fX2_drive σ7 i1 (i2 % 6)))), (3, .int ((fX2_drive σ7 (i2 / 6) i1))), (0, .ref (α 7 0)), (1, .int (nI i1)), (2, .int (nI i2))]) hx hb dX2_find_148 hl (Nat.le_of_ble_eq_true rfl) rfl (fun ls hl => ?_)
            refine lv_aload_n hx hb dX2_find_150 rfl (lv_at hl 4 rfl) ?_
            refine gf (v := .ref (α 8 1)) (C := RX2) (T := TX2) (N := 2) (k := 1) hx hb hts hown hG cl_X2 in_X2 hX.rd (by decide) q193 rfl dX2_find_151 ?_
            refine lv_iload_n hx hb dX2_find_154 rfl (lv_at hl 6 rfl) ?_
            refine lv_iload hx hb dX2_find_155 (lv_at hl 0 rfl) ?_
            refine lv_if_eq (tgt := 167) hx hb dX2_find_157 (by decide) (fun c9 => absurd c9 (by decide)) (fun _ => ?_)
            refine lv_iload_n hx hb dX2_find_160 rfl (lv_at hl 3 rfl) ?_
            refine lv_iload hx hb dX2_find_161 (lv_at hl 2 rfl) ?_
            refine lv_iadd hx hb dX2_find_163 ?_
            refine lv_goto (tgt := 173) hx hb dX2_find_164 (by decide) ?_
            refine paI (N := 36) (k := i2) hx hb hG hS hX.dr hX.drF hX.drF hki2 (by decide) dX2_find_173 (fun H1 locs1 he hz hq hS => ?_)
            have hX := hX.Pdr  he hq
            have hG := gE.ofS hG0 hS hFE
            obtain ⟨σ10, hσ10⟩ : ∃ x, x = sW σ7 41 i2 (((fX2_drive σ7 (i2 / 6) i1)) + ((fX2_drive σ7 i1 (i2 % 6)))) := ⟨_, rfl⟩
            rw [← hσ10] at hR hX
            have hcn : cnt σ10 σ := by rw [hσ10]; exact hcn.sW
            try dsimp only at hR
            refine lv_iinc (v := nI (i2 + 1)) (lv' := [(2, .int (nI (i2 + 1))), (6, .int 1), (5, .int 1), (4, .int ((fX2_drive σ7 i1 (i2 % 6)))), (3, .int ((fX2_drive σ7 (i2 / 6) i1))), (0, .ref (α 7 0)), (1, .int (nI i1))]) hx hb dX2_find_174 hl (k := 6) rfl (nI_1 i2) (Nat.le_of_ble_eq_true rfl) rfl (fun ls hl => ?_)
            refine lv_goto (tgt := 67) hx hb dX2_find_177 (by decide) ?_
            exact ih (i2 + 1) σ10 (lk_st hn) hR _ _ hcn hX hS ls (lv_sub hl [5, 6, 0] rfl)
          · rw [if_neg c5] at hR
            refine lv_iload_n hx hb dX2_find_130 rfl (lv_at hl 2 rfl) ?_
            refine lv_iload hx hb dX2_find_131 (lv_at hl 1 rfl) ?_
            refine lv_iadd hx hb dX2_find_133 ?_
            refine lv_aload_n hx hb dX2_find_134 rfl (lv_at hl 3 rfl) ?_
            refine gf (v := .ref (α 8 1)) (C := RX2) (T := TX2) (N := 2) (k := 1) hx hb hts hown hG cl_X2 in_X2 hX.rd (by decide) q193 rfl dX2_find_135 ?_
            refine lv_iload_n hx hb dX2_find_138 rfl (lv_at hl 5 rfl) ?_
            refine gaI (N := 36) (k := i2) hx hb hG hX.dr hki2 (by decide) dX2_find_139 ?_
            refine lv_icmp_ge (tgt := 147) hx hb dX2_find_140 (by decide) (fun c6 => ?_) (fun c6 => ?_)
            · rw [if_pos c6] at hR
              refine lv_iconst (v := 0) hx hb dX2_find_147 (by decide) ?_
              refine lv_istore (lv' := [(6, .int 0), (5, .int 1), (4, .int ((fX2_drive σ7 i1 (i2 % 6)))), (3, .int ((fX2_drive σ7 (i2 / 6) i1))), (0, .ref (α 7 0)), (1, .int (nI i1)), (2, .int (nI i2))]) hx hb dX2_find_148 hl (Nat.le_of_ble_eq_true rfl) rfl (fun ls hl => ?_)
              refine lv_aload_n hx hb dX2_find_150 rfl (lv_at hl 4 rfl) ?_
              refine gf (v := .ref (α 8 1)) (C := RX2) (T := TX2) (N := 2) (k := 1) hx hb hts hown hG cl_X2 in_X2 hX.rd (by decide) q193 rfl dX2_find_151 ?_
              refine lv_iload_n hx hb dX2_find_154 rfl (lv_at hl 6 rfl) ?_
              refine lv_iload hx hb dX2_find_155 (lv_at hl 0 rfl) ?_
              refine lv_if_eq (tgt := 167) hx hb dX2_find_157 (by decide) (fun _ => ?_) (fun c9 => absurd (by decide) c9)
              refine lv_aload_n hx hb dX2_find_167 rfl (lv_at hl 4 rfl) ?_
              refine gf (v := .ref (α 8 1)) (C := RX2) (T := TX2) (N := 2) (k := 1) hx hb hts hown hG cl_X2 in_X2 hX.rd (by decide) q193 rfl dX2_find_168 ?_
              refine lv_iload_n hx hb dX2_find_171 rfl (lv_at hl 6 rfl) ?_
              refine gaI (N := 36) (k := i2) hx hb hG hX.dr hki2 (by decide) dX2_find_172 ?_
              refine paI (N := 36) (k := i2) hx hb hG hS hX.dr hX.drF hX.drF hki2 (by decide) dX2_find_173 (fun H1 locs1 he hz hq hS => ?_)
              have hX := hX.Pdr  he hq
              have hG := gE.ofS hG0 hS hFE
              obtain ⟨σ11, hσ11⟩ : ∃ x, x = sW σ7 41 i2 (rDrives σ7 i2) := ⟨_, rfl⟩
              rw [← hσ11] at hR hX
              have hcn : cnt σ11 σ := by rw [hσ11]; exact hcn.sW
              try dsimp only at hR
              refine lv_iinc (v := nI (i2 + 1)) (lv' := [(2, .int (nI (i2 + 1))), (6, .int 0), (5, .int 1), (4, .int ((fX2_drive σ7 i1 (i2 % 6)))), (3, .int ((fX2_drive σ7 (i2 / 6) i1))), (0, .ref (α 7 0)), (1, .int (nI i1))]) hx hb dX2_find_174 hl (k := 6) rfl (nI_1 i2) (Nat.le_of_ble_eq_true rfl) rfl (fun ls hl => ?_)
              refine lv_goto (tgt := 67) hx hb dX2_find_177 (by decide) ?_
              exact ih (i2 + 1) σ11 (lk_st hn) hR _ _ hcn hX hS ls (lv_sub hl [5, 6, 0] rfl)
            · rw [if_neg c6] at hR
              refine lv_iconst (v := 1) hx hb dX2_find_143 (by decide) ?_
              refine lv_goto (tgt := 148) hx hb dX2_find_144 (by decide) ?_
              refine lv_istore (lv' := [(6, .int 1), (5, .int 1), (4, .int ((fX2_drive σ7 i1 (i2 % 6)))), (3, .int ((fX2_drive σ7 (i2 / 6) i1))), (0, .ref (α 7 0)), (1, .int (nI i1)), (2, .int (nI i2))]) hx hb dX2_find_148 hl (Nat.le_of_ble_eq_true rfl) rfl (fun ls hl => ?_)
              refine lv_aload_n hx hb dX2_find_150 rfl (lv_at hl 4 rfl) ?_
              refine gf (v := .ref (α 8 1)) (C := RX2) (T := TX2) (N := 2) (k := 1) hx hb hts hown hG cl_X2 in_X2 hX.rd (by decide) q193 rfl dX2_find_151 ?_
              refine lv_iload_n hx hb dX2_find_154 rfl (lv_at hl 6 rfl) ?_
              refine lv_iload hx hb dX2_find_155 (lv_at hl 0 rfl) ?_
              refine lv_if_eq (tgt := 167) hx hb dX2_find_157 (by decide) (fun c9 => absurd c9 (by decide)) (fun _ => ?_)
              refine lv_iload_n hx hb dX2_find_160 rfl (lv_at hl 3 rfl) ?_
              refine lv_iload hx hb dX2_find_161 (lv_at hl 2 rfl) ?_
              refine lv_iadd hx hb dX2_find_163 ?_
              refine lv_goto (tgt := 173) hx hb dX2_find_164 (by decide) ?_
              refine paI (N := 36) (k := i2) hx hb hG hS hX.dr hX.drF hX.drF hki2 (by decide) dX2_find_173 (fun H1 locs1 he hz hq hS => ?_)
              have hX := hX.Pdr  he hq
              have hG := gE.ofS hG0 hS hFE
              obtain ⟨σ12, hσ12⟩ : ∃ x, x = sW σ7 41 i2 (((fX2_drive σ7 (i2 / 6) i1)) + ((fX2_drive σ7 i1 (i2 % 6)))) := ⟨_, rfl⟩
              rw [← hσ12] at hR hX
              have hcn : cnt σ12 σ := by rw [hσ12]; exact hcn.sW
              try dsimp only at hR
              refine lv_iinc (v := nI (i2 + 1)) (lv' := [(2, .int (nI (i2 + 1))), (6, .int 1), (5, .int 1), (4, .int ((fX2_drive σ7 i1 (i2 % 6)))), (3, .int ((fX2_drive σ7 (i2 / 6) i1))), (0, .ref (α 7 0)), (1, .int (nI i1))]) hx hb dX2_find_174 hl (k := 6) rfl (nI_1 i2) (Nat.le_of_ble_eq_true rfl) rfl (fun ls hl => ?_)
              refine lv_goto (tgt := 67) hx hb dX2_find_177 (by decide) ?_
              exact ih (i2 + 1) σ12 (lk_st hn) hR _ _ hcn hX hS ls (lv_sub hl [5, 6, 0] rfl)
  have hL59 : ∀  (κ : St → St) (hκ : ∀ (σ6 : St) (H : Heap) (locs : List Loc) (ls : Array Slot), κ σ6 = r → cnt σ6 σ → RX D E α (fN F s.heap.size) σ6 H → xK F F s.heap H locs → lv_has ls 7 [] → W p l e { frames := 1, cells := 0, slots := 0, locals := 22 } s m [(.ref (α 7 0) : Value)].toArray below meth c H locs 0 0 (MQ below (qG F ((fun sz v h => v = none ∧ RX D E α (fN F sz) r h ∧ cnt r σ) s.heap.size)) [(.ref (α 7 0) : Value)].toArray s 0 0 (fN F s.heap.size)) (F0 m 186 ls [])) (n : Nat) (i1 : Nat) (σ6 : St), i1 + n = 6 → fX2_find_L59 σ κ n i1 σ6 = r → ∀ (H : Heap) (locs : List Loc), cnt σ6 σ → RX D E α (fN F s.heap.size) σ6 H → xK F F s.heap H locs → ∀ (ls : Array Slot), lv_has ls 7 [(0, .ref (α 7 0)), (1, .int (nI i1))] → W p l e { frames := 1, cells := 0, slots := 0, locals := 22 } s m [(.ref (α 7 0) : Value)].toArray below meth c H locs 0 0 (MQ below (qG F ((fun sz v h => v = none ∧ RX D E α (fN F sz) r h ∧ cnt r σ) s.heap.size)) [(.ref (α 7 0) : Value)].toArray s 0 0 (fN F s.heap.size)) (F0 m 59 ls []) := by
    intro  κ hκ n
    induction n with
    | zero =>
      intro i1 σ6 hn hR H locs hcn hX hS ls hl
      rw [fX2_find_L59] at hR
      have hG := gE.ofS hG0 hS hFE
      refine lv_iload_n hx hb dX2_find_59 rfl (lv_at hl 1 rfl) ?_
      refine lv_bipush (v := 6) hx hb dX2_find_60 (by decide) ?_
      refine lk_ge_out (k := i1) (N := 6) hx hb hn (tgt := 186) dX2_find_62 (by decide) ?_
      exact hκ σ6 _ _ ls hR hcn hX hS (lv_sub hl [] rfl)
    | succ n ih =>
      intro i1 σ6 hn hR H locs hcn hX hS ls hl
      rw [fX2_find_L59] at hR
      have hG := gE.ofS hG0 hS hFE
      refine lv_iload_n hx hb dX2_find_59 rfl (lv_at hl 1 rfl) ?_
      refine lv_bipush (v := 6) hx hb dX2_find_60 (by decide) ?_
      have hki1 : i1 < 6 := lk_lt hn
      refine lk_ge_in (k := i1) (N := 6) hx hb hki1 (by decide) (tgt := 186) dX2_find_62 (by decide) ?_
      refine lv_iconst (v := 0) hx hb dX2_find_65 (by decide) ?_
      refine lv_istore_n (lv' := [(2, .int 0), (0, .ref (α 7 0)), (1, .int (nI i1))]) hx hb dX2_find_66 rfl hl (Nat.le_of_ble_eq_true rfl) rfl (fun ls hl => ?_)
      refine hL67 i1 hki1 _ (fun σ13 H1 locs1 ls hR hcn hX hS hl => ?_) 36 0 σ6 (Nat.zero_add _) hR _ _ hcn hX hS ls (lv_sub hl [1, 2, 0] rfl)
      try dsimp only at hR
      have hG := gE.ofS hG0 hS hFE
      refine lv_iinc (v := nI (i1 + 1)) (lv' := [(1, .int (nI (i1 + 1))), (0, .ref (α 7 0))]) hx hb dX2_find_180 hl (k := 1) rfl (nI_1 i1) (Nat.le_of_ble_eq_true rfl) rfl (fun ls hl => ?_)
      refine lv_goto (tgt := 59) hx hb dX2_find_183 (by decide) ?_
      exact ih (i1 + 1) σ13 (lk_st hn) hR _ _ hcn hX hS ls (lv_sub hl [1, 0] rfl)
  unfold fX2_find at hR
  refine lv_iconst (v := 0) hx hb dX2_find_0 (by decide) ?_
  refine lv_istore_n (lv' := [(1, .int 0), (0, .ref (α 7 0))]) hx hb dX2_find_1 rfl hl (Nat.le_of_ble_eq_true rfl) rfl (fun ls hl => ?_)
  refine hL2  _ (fun σ5 H1 locs1 ls hR hcn hX hS hl => ?_) 36 0 σ (Nat.zero_add _) hR _ _ hcn hX hS ls (lv_sub hl [1, 0] rfl)
  try dsimp only at hR
  have hG := gE.ofS hG0 hS hFE
  refine lv_iconst (v := 0) hx hb dX2_find_57 (by decide) ?_
  refine lv_istore_n (lv' := [(1, .int 0), (0, .ref (α 7 0))]) hx hb dX2_find_58 rfl hl (Nat.le_of_ble_eq_true rfl) rfl (fun ls hl => ?_)
  refine hL59  _ (fun σ14 H1 locs1 ls hR hcn hX hS hl => ?_) 6 0 σ5 (Nat.zero_add _) hR _ _ hcn hX hS ls (lv_sub hl [1, 0] rfl)
  try dsimp only at hR
  have hG := gE.ofS hG0 hS hFE
  exact g_vret hx hb hr hlocks hS ⟨Nat.le_of_ble_eq_true rfl, Nat.le_of_ble_eq_true rfl⟩ dX2_find_186 (by subst hR; exact ⟨rfl, hX, hcn⟩)

def fX2_set (σ : St) (i : Nat) (j : Nat) (z : Int32) : St :=
  (fun (σ1 : St) => (fun (σ2 : St) => (fun (σ3 : St) => σ3) ((fX2_find σ2))) (sW σ1 40 ((j * 6) + i) z)) (sW σ 40 ((i * 6) + j) z)
set_option maxHeartbeats 4000000 in
set_option maxRecDepth 100000 in
theorem met_X2_set (l : Launch) (D : va_G) (E : Nat → Nat) {α : Nat → Nat → Nat} {F : Nat → Prop} {σ : St} (i : Nat) (j : Nat) (z : Int32) (h_i : i < 6) (h_j : j < 6) : GM l D E yX2_set cX2_set 4 (Option.none : Option Jvm.ClassFile.FieldType) 2 48 0 0 [.ref (α 7 0), .int (nI i), .int (nI j), .int (z)] (RX D E α F σ) F F (fun sz v h => v = none ∧ RX D E α (fN F sz) (fX2_set σ i j z) h ∧ cnt (fX2_set σ i j z) σ)  := by
  generalize hR : fX2_set σ i j z = r
  refine GM.start (by decide) (Nat.le_of_ble_eq_true rfl) ?_
  intro p e s m below meth c ls hx hb hr hml hown hlocks hnm hts hG hX hS hl
  have hown : s.vm.findClass RX2 = some m.cls := hown
  have hS0 : xS p m c cX2_set 4 s _ RX2 := ⟨hx, hb, hml, hown, hts⟩
  have hl : lv_has ls 4 [(0, .ref (α 7 0)), (1, .int (nI i)), (2, .int (nI j)), (3, .int (z))] := hl
  have hG0 := hG
  have hX0 := hX
  have hb0P := hX0.nP10
  have hb0B := hX0.nB6
  have hb0W := hX0.nW14
  have hFE := hX.fE
  have hX := hX.wide (n := s.heap.size) hG.2.2.1
  have hcn : cnt σ σ := cnt.rf
  unfold fX2_set at hR
  refine lv_aload_n hx hb dX2_set_0 rfl (lv_at hl 0 rfl) ?_
  refine gf (v := .ref (α 8 0)) (C := RX2) (T := TX2) (N := 2) (k := 0) hx hb hts hown hG cl_X2 in_X2 hX.rd (by decide) q192 rfl dX2_set_1 ?_
  refine lv_iload_n hx hb dX2_set_4 rfl (lv_at hl 1 rfl) ?_
  refine lv_bipush (v := 6) hx hb dX2_set_5 (by decide) ?_
  refine lv_imul hx hb dX2_set_7 ?_
  refine lv_eq (pk_mul i 6) ?_
  refine lv_iload_n hx hb dX2_set_8 rfl (lv_at hl 2 rfl) ?_
  refine lv_iadd hx hb dX2_set_9 ?_
  refine lv_eq (nI_add (i * 6) j) ?_
  refine lv_iload_n hx hb dX2_set_10 rfl (lv_at hl 3 rfl) ?_
  refine paI (N := 36) (k := (i * 6) + j) hx hb hG hS hX.hr hX.hrF hX.hrF (show (i * 6) + j < 36 from by omega) (by decide) dX2_set_11 (fun H1 locs1 he hz hq hS => ?_)
  have hX := hX.Phr  he hq
  have hG := gE.ofS hG0 hS hFE
  obtain ⟨σ1, hσ1⟩ : ∃ x, x = sW σ 40 ((i * 6) + j) z := ⟨_, rfl⟩
  rw [← hσ1] at hR hX
  have hcn : cnt σ1 σ := by rw [hσ1]; exact hcn.sW
  try dsimp only at hR
  refine lv_aload_n hx hb dX2_set_12 rfl (lv_at hl 0 rfl) ?_
  refine gf (v := .ref (α 8 0)) (C := RX2) (T := TX2) (N := 2) (k := 0) hx hb hts hown hG cl_X2 in_X2 hX.rd (by decide) q192 rfl dX2_set_13 ?_
  refine lv_iload_n hx hb dX2_set_16 rfl (lv_at hl 2 rfl) ?_
  refine lv_bipush (v := 6) hx hb dX2_set_17 (by decide) ?_
  refine lv_imul hx hb dX2_set_19 ?_
  refine lv_eq (pk_mul j 6) ?_
  refine lv_iload_n hx hb dX2_set_20 rfl (lv_at hl 1 rfl) ?_
  refine lv_iadd hx hb dX2_set_21 ?_
  refine lv_eq (nI_add (j * 6) i) ?_
  refine lv_iload_n hx hb dX2_set_22 rfl (lv_at hl 3 rfl) ?_
  refine paI (N := 36) (k := (j * 6) + i) hx hb hG hS hX.hr hX.hrF hX.hrF (show (j * 6) + i < 36 from by omega) (by decide) dX2_set_23 (fun H1 locs1 he hz hq hS => ?_)
  have hX := hX.Phr  he hq
  have hG := gE.ofS hG0 hS hFE
  obtain ⟨σ2, hσ2⟩ : ∃ x, x = sW σ1 40 ((j * 6) + i) z := ⟨_, rfl⟩
  rw [← hσ2] at hR hX
  have hcn : cnt σ2 σ := by rw [hσ2]; exact hcn.sW
  try dsimp only at hR
  refine lv_aload_n hx hb dX2_set_24 rfl (lv_at hl 0 rfl) ?_
  have hB := hS.1
  refine gcV (As := []) (rest := []) hS0 (met_X2_find l D E ) q184 q186 qs0 q104 q187 hd_X2_find ⟨Nat.le_of_ble_eq_true rfl, Nat.le_of_ble_eq_true rfl⟩ hG (rcv hG cl_X2 hX.rd) hX rfl hl.1 rfl (Nat.le_of_ble_eq_true rfl) dX2_set_25 ⟨Nat.le_of_ble_eq_true rfl, Nat.le_of_ble_eq_true rfl⟩ hS (fun q h => h) (fun q h => h) (fun v H1 locs1 hP hz hk hS => ?_)
  obtain ⟨rfl, hZ, hc8⟩ := hP
  have hX := hZ.mono (fun q _ => fN_fN hB q) hX.fE
  have hG := gE.ofS hG0 hS hFE
  have hcn := hc8.tr hcn
  generalize hv_σ3 : (fX2_find σ2) = σ3 at hR hX hcn ⊢
  try dsimp only at hR
  refine W.eq (g2 := F0 m 28 ls []) rfl ?_
  exact g_vret hx hb hr hlocks hS ⟨Nat.le_of_ble_eq_true rfl, Nat.le_of_ble_eq_true rfl⟩ dX2_set_28 (by subst hR; exact ⟨rfl, hX, hcn⟩)

def fX1_road (σ : St) (a : Int32) (b : Int32) (z : Int32) : Nat × Int32 × St :=
  (if 0 ≤ a ∧ a < 6 then (if 0 ≤ b ∧ b < 6 then (if (nI ((Int32.toNatClampNeg a))) = (nI ((Int32.toNatClampNeg b))) then (2, 0, σ) else (if 0 ≤ z ∧ z ≤ 9 then (fun (σ1 : St) => (0, (fX2_drive σ1 ((Int32.toNatClampNeg a)) ((Int32.toNatClampNeg b))), σ1)) ((fX2_set σ ((Int32.toNatClampNeg a)) ((Int32.toNatClampNeg b)) z)) else (2, 0, σ))) else (1, 0, σ)) else (1, 0, σ))
set_option maxHeartbeats 4000000 in
set_option maxRecDepth 100000 in
theorem met_X1_road (l : Launch) (D : va_G) (E : Nat → Nat) (hlf : l.stackTraces = false) {α : Nat → Nat → Nat} {F : Nat → Prop} {σ : St} (a : Int32) (b : Int32) (z : Int32)  : XM l D E yX1_road cX1_road 4 (Option.some Jvm.ClassFile.FieldType.int) 8 142 4 24 [.ref (α 0 0), .int (a), .int (b), .int (z)] (RX D E α F σ) F F (fun sz v h => (fX1_road σ a b z).1 = 0 ∧ v = some (.int (fX1_road σ a b z).2.1) ∧ RX D E α (fN F sz) (fX1_road σ a b z).2.2 h ∧ cnt (fX1_road σ a b z).2.2 σ) (fun sz X h => X = exN (fX1_road σ a b z).1 ∧ (fX1_road σ a b z).1 ≠ 0 ∧ RX D E α (fN F sz) σ h) := by
  generalize hR : fX1_road σ a b z = r
  refine XM.start (by decide) (Nat.le_of_ble_eq_true rfl) ?_
  intro p e s m below meth c ls hx hb hr hml hown hlocks hex hts hG hX hS hl
  have hown : s.vm.findClass RX1 = some m.cls := hown
  have hS0 : xS p m c cX1_road 4 s _ RX1 := ⟨hx, hb, hml, hown, hts⟩
  have hl : lv_has ls 4 [(0, .ref (α 0 0)), (1, .int (a)), (2, .int (b)), (3, .int (z))] := hl
  have hG0 := hG
  have hX0 := hX
  have hb0P := hX0.nP10
  have hb0B := hX0.nB6
  have hb0W := hX0.nW14
  have hFE := hX.fE
  have hX := hX.wide (n := s.heap.size) hG.2.2.1
  have hcn : cnt σ σ := cnt.rf
  unfold fX1_road at hR
  refine lv_iload_n hx hb dX1_road_0 rfl (lv_at hl 1 rfl) ?_
  refine lv_bipush (v := 6) hx hb dX1_road_1 (by decide) ?_
  refine xcS (As := [.int (a), .int 6]) (rest := []) hS0 (met_X1_checkPlace l D E hlf a 6 _) q836 q837 q100 q838 hd_X1_checkPlace ⟨Nat.le_of_ble_eq_true rfl, Nat.le_of_ble_eq_true rfl⟩ hG rfl rfl hl.1 rfl (Nat.le_of_ble_eq_true rfl) dX1_road_3 ⟨Nat.le_of_ble_eq_true rfl, Nat.le_of_ble_eq_true rfl⟩ hS (fun q h => h.elim) (fun q h => h.elim) (fun X ce q9 H1 locs1 hP hz hk hS h1 h2 h3 => ?_) (fun v H1 locs1 hP hz hk hS => ?_)
  · obtain ⟨rfl, hc9⟩ := hP
    rw [if_neg hc9] at hR
    exact x_out hex hlocks h1 h2 h3 hS ⟨Nat.le_of_ble_eq_true rfl, Nat.le_of_ble_eq_true rfl⟩ (by subst hR; exact ⟨rfl, Nat.succ_ne_zero _, (hX.kept (fun q h4 _ => hk q h4 id))⟩)
  · obtain ⟨rfl, hc9, rfl⟩ := hP
    rw [if_pos hc9] at hR
    have k1 := hc9
    have nk1 := ck_ix k1 (by decide)
    refine W.eq (g2 := F0 m 6 ls []) rfl ?_
    refine lv_iload_n hx hb dX1_road_6 rfl (lv_at hl 2 rfl) ?_
    refine lv_bipush (v := 6) hx hb dX1_road_7 (by decide) ?_
    refine xcS (As := [.int (b), .int 6]) (rest := []) hS0 (met_X1_checkPlace l D E hlf b 6 _) q836 q837 q100 q838 hd_X1_checkPlace ⟨Nat.le_of_ble_eq_true rfl, Nat.le_of_ble_eq_true rfl⟩ hG rfl rfl hl.1 rfl (Nat.le_of_ble_eq_true rfl) dX1_road_9 ⟨Nat.le_of_ble_eq_true rfl, Nat.le_of_ble_eq_true rfl⟩ hS (fun q h => h.elim) (fun q h => h.elim) (fun X ce q9 H1 locs1 hP hz hk hS h1 h2 h3 => ?_) (fun v H1 locs1 hP hz hk hS => ?_)
    · obtain ⟨rfl, hc9⟩ := hP
      rw [if_neg hc9] at hR
      exact x_out hex hlocks h1 h2 h3 hS ⟨Nat.le_of_ble_eq_true rfl, Nat.le_of_ble_eq_true rfl⟩ (by subst hR; exact ⟨rfl, Nat.succ_ne_zero _, (hX.kept (fun q h4 _ => hk q h4 id))⟩)
    · obtain ⟨rfl, hc9, rfl⟩ := hP
      rw [if_pos hc9] at hR
      have k2 := hc9
      have nk2 := ck_ix k2 (by decide)
      refine W.eq (g2 := F0 m 12 ls []) rfl ?_
      refine lv_iload_n hx hb dX1_road_12 rfl (lv_at hl 1 rfl) ?_
      refine lv_eq nk1.1 ?_
      refine lv_iload_n hx hb dX1_road_13 rfl (lv_at hl 2 rfl) ?_
      refine lv_eq nk2.1 ?_
      refine lv_icmp_eq (tgt := 21) hx hb dX1_road_14 (by decide) (fun c3 => ?_) (fun c3 => ?_)
      · rw [if_pos c3] at hR
        refine lv_iconst (v := 0) hx hb dX1_road_21 (by decide) ?_
        refine xcS (As := [.int 0]) (rest := []) hS0 (met_X1_must l D E hlf false _) q863 q864 q100 q865 hd_X1_must ⟨Nat.le_of_ble_eq_true rfl, Nat.le_of_ble_eq_true rfl⟩ hG rfl rfl hl.1 rfl (Nat.le_of_ble_eq_true rfl) dX1_road_22 ⟨Nat.le_of_ble_eq_true rfl, Nat.le_of_ble_eq_true rfl⟩ hS (fun q h => h.elim) (fun q h => h.elim) (fun X ce q9 H1 locs1 hP hz hk hS h1 h2 h3 => ?_) (fun v H1 locs1 hP hz hk hS => ?_)
        · obtain ⟨rfl, hc9⟩ := hP
          exact x_out hex hlocks h1 h2 h3 hS ⟨Nat.le_of_ble_eq_true rfl, Nat.le_of_ble_eq_true rfl⟩ (by subst hR; exact ⟨rfl, Nat.succ_ne_zero _, (hX.kept (fun q h4 _ => hk q h4 id))⟩)
        · exact absurd hP.2.1 (by decide)
      · rw [if_neg c3] at hR
        refine lv_iconst (v := 1) hx hb dX1_road_17 (by decide) ?_
        refine lv_goto (tgt := 22) hx hb dX1_road_18 (by decide) ?_
        refine xcS (As := [.int 1]) (rest := []) hS0 (met_X1_must l D E hlf true _) q863 q864 q100 q865 hd_X1_must ⟨Nat.le_of_ble_eq_true rfl, Nat.le_of_ble_eq_true rfl⟩ hG rfl rfl hl.1 rfl (Nat.le_of_ble_eq_true rfl) dX1_road_22 ⟨Nat.le_of_ble_eq_true rfl, Nat.le_of_ble_eq_true rfl⟩ hS (fun q h => h.elim) (fun q h => h.elim) (fun X ce q9 H1 locs1 hP hz hk hS h1 h2 h3 => ?_) (fun v H1 locs1 hP hz hk hS => ?_)
        · exact absurd rfl hP.2
        · obtain ⟨rfl, hc9, rfl⟩ := hP
          refine W.eq (g2 := F0 m 25 ls []) rfl ?_
          refine lv_iload_n hx hb dX1_road_25 rfl (lv_at hl 3 rfl) ?_
          refine lv_iconst (v := 0) hx hb dX1_road_26 (by decide) ?_
          refine lv_bipush (v := 9) hx hb dX1_road_27 (by decide) ?_
          refine xcS (As := [.int (z), .int 0, .int 9]) (rest := []) hS0 (met_X1_mustBeIn l D E hlf z 0 9 _) q860 q861 q100 q862 hd_X1_mustBeIn ⟨Nat.le_of_ble_eq_true rfl, Nat.le_of_ble_eq_true rfl⟩ hG rfl rfl hl.1 rfl (Nat.le_of_ble_eq_true rfl) dX1_road_29 ⟨Nat.le_of_ble_eq_true rfl, Nat.le_of_ble_eq_true rfl⟩ hS (fun q h => h.elim) (fun q h => h.elim) (fun X ce q9 H1 locs1 hP hz hk hS h1 h2 h3 => ?_) (fun v H1 locs1 hP hz hk hS => ?_)
          · obtain ⟨rfl, hc9⟩ := hP
            rw [if_neg hc9] at hR
            exact x_out hex hlocks h1 h2 h3 hS ⟨Nat.le_of_ble_eq_true rfl, Nat.le_of_ble_eq_true rfl⟩ (by subst hR; exact ⟨rfl, Nat.succ_ne_zero _, (hX.kept (fun q h4 _ => hk q h4 id))⟩)
          · obtain ⟨rfl, hc9, rfl⟩ := hP
            rw [if_pos hc9] at hR
            have k5 := hc9
            refine W.eq (g2 := F0 m 32 ls []) rfl ?_
            refine lv_aload_n hx hb dX1_road_32 rfl (lv_at hl 0 rfl) ?_
            refine gf (v := .ref (α 7 0)) (C := RX1) (T := TX1) (N := 6) (k := 2) hx hb hts hown hG cl_X1 in_X1 hX.ag (by decide) q303 rfl dX1_road_33 ?_
            refine lv_iload_n hx hb dX1_road_36 rfl (lv_at hl 1 rfl) ?_
            refine lv_eq nk1.1 ?_
            refine lv_iload_n hx hb dX1_road_37 rfl (lv_at hl 2 rfl) ?_
            refine lv_eq nk2.1 ?_
            refine lv_iload_n hx hb dX1_road_38 rfl (lv_at hl 3 rfl) ?_
            have hB := hS.1
            refine gcV (As := [.int (nI ((Int32.toNatClampNeg a))), .int (nI ((Int32.toNatClampNeg b))), .int (z)]) (rest := []) hS0 (met_X2_set l D E ((Int32.toNatClampNeg a)) ((Int32.toNatClampNeg b)) z nk1.2 nk2.2) q969 q970 q971 q104 q972 hd_X2_set ⟨Nat.le_of_ble_eq_true rfl, Nat.le_of_ble_eq_true rfl⟩ hG (rcv hG cl_X2 hX.rd) hX rfl hl.1 rfl (Nat.le_of_ble_eq_true rfl) dX1_road_39 ⟨Nat.le_of_ble_eq_true rfl, Nat.le_of_ble_eq_true rfl⟩ hS (fun q h => h) (fun q h => h) (fun v H1 locs1 hP hz hk hS => ?_)
            obtain ⟨rfl, hZ, hc8⟩ := hP
            have hX := hZ.mono (fun q _ => fN_fN hB q) hX.fE
            have hG := gE.ofS hG0 hS hFE
            have hcn := hc8.tr hcn
            generalize hv_σ1 : (fX2_set σ ((Int32.toNatClampNeg a)) ((Int32.toNatClampNeg b)) z) = σ1 at hR hX hcn ⊢
            try dsimp only at hR
            refine W.eq (g2 := F0 m 42 ls []) rfl ?_
            refine lv_aload_n hx hb dX1_road_42 rfl (lv_at hl 0 rfl) ?_
            refine gf (v := .ref (α 7 0)) (C := RX1) (T := TX1) (N := 6) (k := 2) hx hb hts hown hG cl_X1 in_X1 hX.ag (by decide) q303 rfl dX1_road_43 ?_
            refine lv_iload_n hx hb dX1_road_46 rfl (lv_at hl 1 rfl) ?_
            refine lv_eq nk1.1 ?_
            refine lv_iload_n hx hb dX1_road_47 rfl (lv_at hl 2 rfl) ?_
            refine lv_eq nk2.1 ?_
            refine pcV (As := [.int (nI ((Int32.toNatClampNeg a))), .int (nI ((Int32.toNatClampNeg b)))]) (rest := []) hS0 (met_X2_drive l D E ((Int32.toNatClampNeg a)) ((Int32.toNatClampNeg b)) nk1.2 nk2.2) q513 q189 q190 q104 q191 hd_X2_drive ⟨Nat.le_of_ble_eq_true rfl, Nat.le_of_ble_eq_true rfl⟩ hG (rcv hG cl_X2 hX.rd) hX rfl hl.1 rfl (Nat.le_of_ble_eq_true rfl) dX1_road_48 ⟨Nat.le_of_ble_eq_true rfl, Nat.le_of_ble_eq_true rfl⟩ ?_
            refine W.eq (g2 := F0 m 51 ls [.int ((fX2_drive σ1 ((Int32.toNatClampNeg a)) ((Int32.toNatClampNeg b))))]) rfl ?_
            exact vx_ret (g_iret hx hb hr hlocks hS ⟨Nat.le_of_ble_eq_true rfl, Nat.le_of_ble_eq_true rfl⟩ dX1_road_51 (by subst hR; exact ⟨rfl, rfl, hX, hcn⟩))

def fX4_drive_L10 (σ : St) (th : Int32) (ca : Int32) (sm : Int64) (i1 : Nat) (κ : St → Int32 → Int32 → Int64 → MSt) : Nat → Nat → St → Int32 → Int32 → Int64 → MSt
  | 0, i2, σ2, th2, ca2, sm2 => κ σ2 th2 ca2 sm2
  | n + 1, i2, σ2, th2, ca2, sm2 => (if (nI i1) = (nI i2) then (fun (σ5 : St) => fX4_drive_L10 σ th ca sm i1 κ n (i2 + 1) σ5 th2 ca2 sm2) (sW σ2 41 ((i1 * 6) + i2) 0) else (if (rHours σ2 ((i1 * 6) + i2)) = 0 then (fun (σ4 : St) => fX4_drive_L10 σ th ca sm i1 κ n (i2 + 1) σ4 th2 ca2 sm2) (sW σ2 41 ((i1 * 6) + i2) ((-1))) else (fun (σ3 : St) => fX4_drive_L10 σ th ca sm i1 κ n (i2 + 1) σ3 th2 ca2 sm2) (sW σ2 41 ((i1 * 6) + i2) (rHours σ2 ((i1 * 6) + i2)))))
def fX4_drive_L2 (σ : St) (th : Int32) (ca : Int32) (sm : Int64)  (κ : St → Int32 → Int32 → Int64 → MSt) : Nat → Nat → St → Int32 → Int32 → Int64 → MSt
  | 0, i1, σ1, th1, ca1, sm1 => κ σ1 th1 ca1 sm1
  | n + 1, i1, σ1, th1, ca1, sm1 => fX4_drive_L10 σ th ca sm i1 (fun (σ6 : St) (th6 : Int32) (ca6 : Int32) (sm6 : Int64) => fX4_drive_L2 σ th ca sm κ n (i1 + 1) σ6 th6 ca6 sm6) 6 0 σ1 th1 ca1 sm1
def fX4_drive_L95 (σ : St) (th : Int32) (ca : Int32) (sm : Int64) (i1 : Nat) (i2 : Nat) (κ : St → Int32 → Int32 → Int64 → MSt) : Nat → Nat → St → Int32 → Int32 → Int64 → MSt
  | 0, i3, σ10, th10, ca10, sm10 => κ σ10 th10 ca10 sm10
  | n + 1, i3, σ10, th10, ca10, sm10 => (if (rDrives σ10 ((i2 * 6) + i1)) = ((-1)) then fX4_drive_L95 σ th ca sm i1 i2 κ n (i3 + 1) σ10 th10 ca10 sm10 else (if (rDrives σ10 ((i1 * 6) + i3)) = ((-1)) then fX4_drive_L95 σ th ca sm i1 i2 κ n (i3 + 1) σ10 th10 ca10 sm10 else (if (rDrives σ10 ((i2 * 6) + i3)) = ((-1)) then (fun (σ11 : St) => fX4_drive_L95 σ th ca sm i1 i2 κ n (i3 + 1) σ11 th10 ca10 sm10) (sW σ10 41 ((i2 * 6) + i3) ((rDrives σ10 ((i2 * 6) + i1)) + (rDrives σ10 ((i1 * 6) + i3)))) else (if (rDrives σ10 ((i2 * 6) + i3)) ≤ ((rDrives σ10 ((i2 * 6) + i1)) + (rDrives σ10 ((i1 * 6) + i3))) then fX4_drive_L95 σ th ca sm i1 i2 κ n (i3 + 1) σ10 th10 ca10 sm10 else (fun (σ12 : St) => fX4_drive_L95 σ th ca sm i1 i2 κ n (i3 + 1) σ12 th10 ca10 sm10) (sW σ10 41 ((i2 * 6) + i3) ((rDrives σ10 ((i2 * 6) + i1)) + (rDrives σ10 ((i1 * 6) + i3))))))))
def fX4_drive_L87 (σ : St) (th : Int32) (ca : Int32) (sm : Int64) (i1 : Nat) (κ : St → Int32 → Int32 → Int64 → MSt) : Nat → Nat → St → Int32 → Int32 → Int64 → MSt
  | 0, i2, σ9, th9, ca9, sm9 => κ σ9 th9 ca9 sm9
  | n + 1, i2, σ9, th9, ca9, sm9 => fX4_drive_L95 σ th ca sm i1 i2 (fun (σ13 : St) (th13 : Int32) (ca13 : Int32) (sm13 : Int64) => fX4_drive_L87 σ th ca sm i1 κ n (i2 + 1) σ13 th13 ca13 sm13) 6 0 σ9 th9 ca9 sm9
def fX4_drive_L79 (σ : St) (th : Int32) (ca : Int32) (sm : Int64)  (κ : St → Int32 → Int32 → Int64 → MSt) : Nat → Nat → St → Int32 → Int32 → Int64 → MSt
  | 0, i1, σ8, th8, ca8, sm8 => κ σ8 th8 ca8 sm8
  | n + 1, i1, σ8, th8, ca8, sm8 => fX4_drive_L87 σ th ca sm i1 (fun (σ14 : St) (th14 : Int32) (ca14 : Int32) (sm14 : Int64) => fX4_drive_L79 σ th ca sm κ n (i1 + 1) σ14 th14 ca14 sm14) 6 0 σ8 th8 ca8 sm8
def fX4_drive (σ : St) (th : Int32) (ca : Int32) (sm : Int64) : MSt :=
  fX4_drive_L2 σ th ca sm (fun (σ7 : St) (th7 : Int32) (ca7 : Int32) (sm7 : Int64) => fX4_drive_L79 σ th ca sm (fun (σ15 : St) (th15 : Int32) (ca15 : Int32) (sm15 : Int64) => ((σ15, th15, ca15, sm15) : MSt)) 6 0 σ7 th7 ca7 sm7) 6 0 σ th ca sm
set_option maxHeartbeats 4000000 in
set_option maxRecDepth 100000 in
theorem met_X4_drive (l : Launch) (D : va_G) (E : Nat → Nat) {β : Nat → Nat → Nat} {F : Nat → Prop} {σ : St} {th ca : Int32} {sm : Int64}   : GM l D E yX4_drive cX4_drive 7 (Option.none : Option Jvm.ClassFile.FieldType) 0 0 0 0 [.ref (β 0 0)] (RM D E β F σ th ca sm) F F (fun sz v h => v = none ∧ RM D E β (fN F sz) (fX4_drive σ th ca sm).1 (fX4_drive σ th ca sm).2.1 (fX4_drive σ th ca sm).2.2.1 (fX4_drive σ th ca sm).2.2.2 h ∧ cnt (fX4_drive σ th ca sm).1 σ)  := by
  generalize hR : fX4_drive σ th ca sm = r
  refine GM.start (by decide) (Nat.le_of_ble_eq_true rfl) ?_
  intro p e s m below meth c ls hx hb hr hml hown hlocks hnm hts hG hM hS hl
  have hown : s.vm.findClass RX4 = some m.cls := hown
  have hS0 : xS p m c cX4_drive 7 s _ RX4 := ⟨hx, hb, hml, hown, hts⟩
  have hl : lv_has ls 7 [(0, .ref (β 0 0))] := hl
  have hG0 := hG
  have hM0 := hM
  have hb0P := hM0.nP10
  have hb0B := hM0.nB6
  have hb0W := hM0.nW14
  have hFE := hM.fE
  have hM := hM.wide (n := s.heap.size) hG.2.2.1
  have hcn : cnt σ σ := cnt.rf
  have hL10 : ∀ (i1 : Nat) (hf10_0 : i1 < 6) (κ : St → Int32 → Int32 → Int64 → MSt) (hκ : ∀ (σ2 : St) (th2 : Int32) (ca2 : Int32) (sm2 : Int64) (H : Heap) (locs : List Loc) (ls : Array Slot), κ σ2 th2 ca2 sm2 = r → cnt σ2 σ → RM D E β (fN F s.heap.size) σ2 th2 ca2 sm2 H → xK F F s.heap H locs → lv_has ls 7 [(0, .ref (β 0 0)), (1, .int (nI i1))] → W p l e { frames := 0, cells := 0, slots := 0, locals := 0 } s m [(.ref (β 0 0) : Value)].toArray below meth c H locs 0 0 (MQ below (qG F ((fun sz v h => v = none ∧ RM D E β (fN F sz) r.1 r.2.1 r.2.2.1 r.2.2.2 h ∧ cnt r.1 σ) s.heap.size)) [(.ref (β 0 0) : Value)].toArray s 0 0 (fN F s.heap.size)) (F0 m 71 ls [])) (n : Nat) (i2 : Nat) (σ2 : St) (th2 : Int32) (ca2 : Int32) (sm2 : Int64), i2 + n = 6 → fX4_drive_L10 σ th ca sm i1 κ n i2 σ2 th2 ca2 sm2 = r → ∀ (H : Heap) (locs : List Loc), cnt σ2 σ → RM D E β (fN F s.heap.size) σ2 th2 ca2 sm2 H → xK F F s.heap H locs → ∀ (ls : Array Slot), lv_has ls 7 [(0, .ref (β 0 0)), (1, .int (nI i1)), (2, .int (nI i2))] → W p l e { frames := 0, cells := 0, slots := 0, locals := 0 } s m [(.ref (β 0 0) : Value)].toArray below meth c H locs 0 0 (MQ below (qG F ((fun sz v h => v = none ∧ RM D E β (fN F sz) r.1 r.2.1 r.2.2.1 r.2.2.2 h ∧ cnt r.1 σ) s.heap.size)) [(.ref (β 0 0) : Value)].toArray s 0 0 (fN F s.heap.size)) (F0 m 10 ls []) := by
    intro i1 hf10_0 κ hκ n
    induction n with
    | zero =>
      intro i2 σ2 th2 ca2 sm2 hn hR H locs hcn hM hS ls hl
      rw [fX4_drive_L10] at hR
      have hG := gE.ofS hG0 hS hFE
      refine lv_iload_n hx hb dX4_drive_10 rfl (lv_at hl 2 rfl) ?_
      refine lv_bipush (v := 6) hx hb dX4_drive_11 (by decide) ?_
      refine lk_ge_out (k := i2) (N := 6) hx hb hn (tgt := 71) dX4_drive_13 (by decide) ?_
      exact hκ σ2 th2 ca2 sm2 _ _ ls hR hcn hM hS (lv_sub hl [0, 1] rfl)
    | succ n ih =>
      intro i2 σ2 th2 ca2 sm2 hn hR H locs hcn hM hS ls hl
      rw [fX4_drive_L10] at hR
      have hG := gE.ofS hG0 hS hFE
      refine lv_iload_n hx hb dX4_drive_10 rfl (lv_at hl 2 rfl) ?_
      refine lv_bipush (v := 6) hx hb dX4_drive_11 (by decide) ?_
      have hki2 : i2 < 6 := lk_lt hn
      refine lk_ge_in (k := i2) (N := 6) hx hb hki2 (by decide) (tgt := 71) dX4_drive_13 (by decide) ?_
      refine lv_aload_n hx hb dX4_drive_16 rfl (lv_at hl 0 rfl) ?_
      refine gf (v := .ref (β 8 5)) (C := RX4) (T := TX4) (N := 13) (k := 11) hx hb hts hown hG cl_X4 in_X4 hM.ag (by decide) q1551 rfl dX4_drive_17 ?_
      refine lv_iload_n hx hb dX4_drive_20 rfl (lv_at hl 1 rfl) ?_
      refine lv_bipush (v := 6) hx hb dX4_drive_21 (by decide) ?_
      refine lv_imul hx hb dX4_drive_23 ?_
      refine lv_eq (pk_mul i1 6) ?_
      refine lv_iload_n hx hb dX4_drive_24 rfl (lv_at hl 2 rfl) ?_
      refine lv_iadd hx hb dX4_drive_25 ?_
      refine lv_eq (nI_add (i1 * 6) i2) ?_
      refine lv_iload_n hx hb dX4_drive_26 rfl (lv_at hl 1 rfl) ?_
      refine lv_iload_n hx hb dX4_drive_27 rfl (lv_at hl 2 rfl) ?_
      refine lv_icmp_ne (tgt := 35) hx hb dX4_drive_28 (by decide) (fun c1 => ?_) (fun c1 => ?_)
      · rw [if_neg c1] at hR
        refine lv_aload_n hx hb dX4_drive_35 rfl (lv_at hl 0 rfl) ?_
        refine gf (v := .ref (β 8 4)) (C := RX4) (T := TX4) (N := 13) (k := 10) hx hb hts hown hG cl_X4 in_X4 hM.ag (by decide) q1550 rfl dX4_drive_36 ?_
        refine lv_iload_n hx hb dX4_drive_39 rfl (lv_at hl 1 rfl) ?_
        refine lv_bipush (v := 6) hx hb dX4_drive_40 (by decide) ?_
        refine lv_imul hx hb dX4_drive_42 ?_
        refine lv_eq (pk_mul i1 6) ?_
        refine lv_iload_n hx hb dX4_drive_43 rfl (lv_at hl 2 rfl) ?_
        refine lv_iadd hx hb dX4_drive_44 ?_
        refine lv_eq (nI_add (i1 * 6) i2) ?_
        refine gaI (N := 36) (k := (i1 * 6) + i2) hx hb hG hM.ar4 (show (i1 * 6) + i2 < 36 from by omega) (by decide) dX4_drive_45 ?_
        refine lv_if_ne (tgt := 53) hx hb dX4_drive_46 (by decide) (fun c2 => ?_) (fun c2 => ?_)
        · rw [if_neg c2] at hR
          refine lv_aload_n hx hb dX4_drive_53 rfl (lv_at hl 0 rfl) ?_
          refine gf (v := .ref (β 8 4)) (C := RX4) (T := TX4) (N := 13) (k := 10) hx hb hts hown hG cl_X4 in_X4 hM.ag (by decide) q1550 rfl dX4_drive_54 ?_
          refine lv_iload_n hx hb dX4_drive_57 rfl (lv_at hl 1 rfl) ?_
          refine lv_bipush (v := 6) hx hb dX4_drive_58 (by decide) ?_
          refine lv_imul hx hb dX4_drive_60 ?_
          refine lv_eq (pk_mul i1 6) ?_
          refine lv_iload_n hx hb dX4_drive_61 rfl (lv_at hl 2 rfl) ?_
          refine lv_iadd hx hb dX4_drive_62 ?_
          refine lv_eq (nI_add (i1 * 6) i2) ?_
          refine gaI (N := 36) (k := (i1 * 6) + i2) hx hb hG hM.ar4 (show (i1 * 6) + i2 < 36 from by omega) (by decide) dX4_drive_63 ?_
          refine paI (N := 36) (k := (i1 * 6) + i2) hx hb hG hS hM.ar5 hM.ar5F hM.ar5F (show (i1 * 6) + i2 < 36 from by omega) (by decide) dX4_drive_64 (fun H1 locs1 he hz hq hS => ?_)
          have hM := hM.Pa41  he hq
          have hG := gE.ofS hG0 hS hFE
          obtain ⟨σ3, hσ3⟩ : ∃ x, x = sW σ2 41 ((i1 * 6) + i2) (rHours σ2 ((i1 * 6) + i2)) := ⟨_, rfl⟩
          rw [← hσ3] at hR hM
          have hcn : cnt σ3 σ := by rw [hσ3]; exact hcn.sW
          try dsimp only at hR
          refine lv_iinc (v := nI (i2 + 1)) (lv' := [(2, .int (nI (i2 + 1))), (0, .ref (β 0 0)), (1, .int (nI i1))]) hx hb dX4_drive_65 hl (k := 2) rfl (nI_1 i2) (Nat.le_of_ble_eq_true rfl) rfl (fun ls hl => ?_)
          refine lv_goto (tgt := 10) hx hb dX4_drive_68 (by decide) ?_
          exact ih (i2 + 1) σ3 th2 ca2 sm2 (lk_st hn) hR _ _ hcn hM hS ls (lv_sub hl [1, 2, 0] rfl)
        · rw [if_pos c2] at hR
          refine lv_iconst (v := (-1)) hx hb dX4_drive_49 (by decide) ?_
          refine lv_goto (tgt := 64) hx hb dX4_drive_50 (by decide) ?_
          refine paI (N := 36) (k := (i1 * 6) + i2) hx hb hG hS hM.ar5 hM.ar5F hM.ar5F (show (i1 * 6) + i2 < 36 from by omega) (by decide) dX4_drive_64 (fun H1 locs1 he hz hq hS => ?_)
          have hM := hM.Pa41  he hq
          have hG := gE.ofS hG0 hS hFE
          obtain ⟨σ4, hσ4⟩ : ∃ x, x = sW σ2 41 ((i1 * 6) + i2) ((-1)) := ⟨_, rfl⟩
          rw [← hσ4] at hR hM
          have hcn : cnt σ4 σ := by rw [hσ4]; exact hcn.sW
          try dsimp only at hR
          refine lv_iinc (v := nI (i2 + 1)) (lv' := [(2, .int (nI (i2 + 1))), (0, .ref (β 0 0)), (1, .int (nI i1))]) hx hb dX4_drive_65 hl (k := 2) rfl (nI_1 i2) (Nat.le_of_ble_eq_true rfl) rfl (fun ls hl => ?_)
          refine lv_goto (tgt := 10) hx hb dX4_drive_68 (by decide) ?_
          exact ih (i2 + 1) σ4 th2 ca2 sm2 (lk_st hn) hR _ _ hcn hM hS ls (lv_sub hl [1, 2, 0] rfl)
      · rw [if_pos c1] at hR
        refine lv_iconst (v := 0) hx hb dX4_drive_31 (by decide) ?_
        refine lv_goto (tgt := 64) hx hb dX4_drive_32 (by decide) ?_
        refine paI (N := 36) (k := (i1 * 6) + i2) hx hb hG hS hM.ar5 hM.ar5F hM.ar5F (show (i1 * 6) + i2 < 36 from by omega) (by decide) dX4_drive_64 (fun H1 locs1 he hz hq hS => ?_)
        have hM := hM.Pa41  he hq
        have hG := gE.ofS hG0 hS hFE
        obtain ⟨σ5, hσ5⟩ : ∃ x, x = sW σ2 41 ((i1 * 6) + i2) 0 := ⟨_, rfl⟩
        rw [← hσ5] at hR hM
        have hcn : cnt σ5 σ := by rw [hσ5]; exact hcn.sW
        try dsimp only at hR
        refine lv_iinc (v := nI (i2 + 1)) (lv' := [(2, .int (nI (i2 + 1))), (0, .ref (β 0 0)), (1, .int (nI i1))]) hx hb dX4_drive_65 hl (k := 2) rfl (nI_1 i2) (Nat.le_of_ble_eq_true rfl) rfl (fun ls hl => ?_)
        refine lv_goto (tgt := 10) hx hb dX4_drive_68 (by decide) ?_
        exact ih (i2 + 1) σ5 th2 ca2 sm2 (lk_st hn) hR _ _ hcn hM hS ls (lv_sub hl [1, 2, 0] rfl)
  have hL2 : ∀  (κ : St → Int32 → Int32 → Int64 → MSt) (hκ : ∀ (σ1 : St) (th1 : Int32) (ca1 : Int32) (sm1 : Int64) (H : Heap) (locs : List Loc) (ls : Array Slot), κ σ1 th1 ca1 sm1 = r → cnt σ1 σ → RM D E β (fN F s.heap.size) σ1 th1 ca1 sm1 H → xK F F s.heap H locs → lv_has ls 7 [(0, .ref (β 0 0))] → W p l e { frames := 0, cells := 0, slots := 0, locals := 0 } s m [(.ref (β 0 0) : Value)].toArray below meth c H locs 0 0 (MQ below (qG F ((fun sz v h => v = none ∧ RM D E β (fN F sz) r.1 r.2.1 r.2.2.1 r.2.2.2 h ∧ cnt r.1 σ) s.heap.size)) [(.ref (β 0 0) : Value)].toArray s 0 0 (fN F s.heap.size)) (F0 m 77 ls [])) (n : Nat) (i1 : Nat) (σ1 : St) (th1 : Int32) (ca1 : Int32) (sm1 : Int64), i1 + n = 6 → fX4_drive_L2 σ th ca sm κ n i1 σ1 th1 ca1 sm1 = r → ∀ (H : Heap) (locs : List Loc), cnt σ1 σ → RM D E β (fN F s.heap.size) σ1 th1 ca1 sm1 H → xK F F s.heap H locs → ∀ (ls : Array Slot), lv_has ls 7 [(0, .ref (β 0 0)), (1, .int (nI i1))] → W p l e { frames := 0, cells := 0, slots := 0, locals := 0 } s m [(.ref (β 0 0) : Value)].toArray below meth c H locs 0 0 (MQ below (qG F ((fun sz v h => v = none ∧ RM D E β (fN F sz) r.1 r.2.1 r.2.2.1 r.2.2.2 h ∧ cnt r.1 σ) s.heap.size)) [(.ref (β 0 0) : Value)].toArray s 0 0 (fN F s.heap.size)) (F0 m 2 ls []) := by
    intro  κ hκ n
    induction n with
    | zero =>
      intro i1 σ1 th1 ca1 sm1 hn hR H locs hcn hM hS ls hl
      rw [fX4_drive_L2] at hR
      have hG := gE.ofS hG0 hS hFE
      refine lv_iload_n hx hb dX4_drive_2 rfl (lv_at hl 1 rfl) ?_
      refine lv_bipush (v := 6) hx hb dX4_drive_3 (by decide) ?_
      refine lk_ge_out (k := i1) (N := 6) hx hb hn (tgt := 77) dX4_drive_5 (by decide) ?_
      exact hκ σ1 th1 ca1 sm1 _ _ ls hR hcn hM hS (lv_sub hl [0] rfl)
    | succ n ih =>
      intro i1 σ1 th1 ca1 sm1 hn hR H locs hcn hM hS ls hl
      rw [fX4_drive_L2] at hR
      have hG := gE.ofS hG0 hS hFE
      refine lv_iload_n hx hb dX4_drive_2 rfl (lv_at hl 1 rfl) ?_
      refine lv_bipush (v := 6) hx hb dX4_drive_3 (by decide) ?_
      have hki1 : i1 < 6 := lk_lt hn
      refine lk_ge_in (k := i1) (N := 6) hx hb hki1 (by decide) (tgt := 77) dX4_drive_5 (by decide) ?_
      refine lv_iconst (v := 0) hx hb dX4_drive_8 (by decide) ?_
      refine lv_istore_n (lv' := [(2, .int 0), (0, .ref (β 0 0)), (1, .int (nI i1))]) hx hb dX4_drive_9 rfl hl (Nat.le_of_ble_eq_true rfl) rfl (fun ls hl => ?_)
      refine hL10 i1 hki1 _ (fun σ6 th6 ca6 sm6 H1 locs1 ls hR hcn hM hS hl => ?_) 6 0 σ1 th1 ca1 sm1 (Nat.zero_add _) hR _ _ hcn hM hS ls (lv_sub hl [1, 2, 0] rfl)
      try dsimp only at hR
      have hG := gE.ofS hG0 hS hFE
      refine lv_iinc (v := nI (i1 + 1)) (lv' := [(1, .int (nI (i1 + 1))), (0, .ref (β 0 0))]) hx hb dX4_drive_71 hl (k := 1) rfl (nI_1 i1) (Nat.le_of_ble_eq_true rfl) rfl (fun ls hl => ?_)
      refine lv_goto (tgt := 2) hx hb dX4_drive_74 (by decide) ?_
      exact ih (i1 + 1) σ6 th6 ca6 sm6 (lk_st hn) hR _ _ hcn hM hS ls (lv_sub hl [1, 0] rfl)
  have hL95 : ∀ (i1 : Nat) (i2 : Nat) (hf95_0 : i1 < 6) (hf95_1 : i2 < 6) (κ : St → Int32 → Int32 → Int64 → MSt) (hκ : ∀ (σ10 : St) (th10 : Int32) (ca10 : Int32) (sm10 : Int64) (H : Heap) (locs : List Loc) (ls : Array Slot), κ σ10 th10 ca10 sm10 = r → cnt σ10 σ → RM D E β (fN F s.heap.size) σ10 th10 ca10 sm10 H → xK F F s.heap H locs → lv_has ls 7 [(0, .ref (β 0 0)), (1, .int (nI i1)), (2, .int (nI i2))] → W p l e { frames := 0, cells := 0, slots := 0, locals := 0 } s m [(.ref (β 0 0) : Value)].toArray below meth c H locs 0 0 (MQ below (qG F ((fun sz v h => v = none ∧ RM D E β (fN F sz) r.1 r.2.1 r.2.2.1 r.2.2.2 h ∧ cnt r.1 σ) s.heap.size)) [(.ref (β 0 0) : Value)].toArray s 0 0 (fN F s.heap.size)) (F0 m 190 ls [])) (n : Nat) (i3 : Nat) (σ10 : St) (th10 : Int32) (ca10 : Int32) (sm10 : Int64), i3 + n = 6 → fX4_drive_L95 σ th ca sm i1 i2 κ n i3 σ10 th10 ca10 sm10 = r → ∀ (H : Heap) (locs : List Loc), cnt σ10 σ → RM D E β (fN F s.heap.size) σ10 th10 ca10 sm10 H → xK F F s.heap H locs → ∀ (ls : Array Slot), lv_has ls 7 [(0, .ref (β 0 0)), (1, .int (nI i1)), (2, .int (nI i2)), (3, .int (nI i3))] → W p l e { frames := 0, cells := 0, slots := 0, locals := 0 } s m [(.ref (β 0 0) : Value)].toArray below meth c H locs 0 0 (MQ below (qG F ((fun sz v h => v = none ∧ RM D E β (fN F sz) r.1 r.2.1 r.2.2.1 r.2.2.2 h ∧ cnt r.1 σ) s.heap.size)) [(.ref (β 0 0) : Value)].toArray s 0 0 (fN F s.heap.size)) (F0 m 95 ls []) := by
    intro i1 i2 hf95_0 hf95_1 κ hκ n
    induction n with
    | zero =>
      intro i3 σ10 th10 ca10 sm10 hn hR H locs hcn hM hS ls hl
      rw [fX4_drive_L95] at hR
      have hG := gE.ofS hG0 hS hFE
      refine lv_iload_n hx hb dX4_drive_95 rfl (lv_at hl 3 rfl) ?_
      refine lv_bipush (v := 6) hx hb dX4_drive_96 (by decide) ?_
      refine lk_ge_out (k := i3) (N := 6) hx hb hn (tgt := 190) dX4_drive_98 (by decide) ?_
      exact hκ σ10 th10 ca10 sm10 _ _ ls hR hcn hM hS (lv_sub hl [0, 1, 2] rfl)
    | succ n ih =>
      intro i3 σ10 th10 ca10 sm10 hn hR H locs hcn hM hS ls hl
      rw [fX4_drive_L95] at hR
      have hG := gE.ofS hG0 hS hFE
      refine lv_iload_n hx hb dX4_drive_95 rfl (lv_at hl 3 rfl) ?_
      refine lv_bipush (v := 6) hx hb dX4_drive_96 (by decide) ?_
      have hki3 : i3 < 6 := lk_lt hn
      refine lk_ge_in (k := i3) (N := 6) hx hb hki3 (by decide) (tgt := 190) dX4_drive_98 (by decide) ?_
      refine lv_aload_n hx hb dX4_drive_101 rfl (lv_at hl 0 rfl) ?_
      refine gf (v := .ref (β 8 5)) (C := RX4) (T := TX4) (N := 13) (k := 11) hx hb hts hown hG cl_X4 in_X4 hM.ag (by decide) q1551 rfl dX4_drive_102 ?_
      refine lv_iload_n hx hb dX4_drive_105 rfl (lv_at hl 2 rfl) ?_
      refine lv_bipush (v := 6) hx hb dX4_drive_106 (by decide) ?_
      refine lv_imul hx hb dX4_drive_108 ?_
      refine lv_eq (pk_mul i2 6) ?_
      refine lv_iload_n hx hb dX4_drive_109 rfl (lv_at hl 1 rfl) ?_
      refine lv_iadd hx hb dX4_drive_110 ?_
      refine lv_eq (nI_add (i2 * 6) i1) ?_
      refine gaI (N := 36) (k := (i2 * 6) + i1) hx hb hG hM.ar5 (show (i2 * 6) + i1 < 36 from by omega) (by decide) dX4_drive_111 ?_
      refine lv_istore (lv' := [(4, .int (rDrives σ10 ((i2 * 6) + i1))), (0, .ref (β 0 0)), (1, .int (nI i1)), (2, .int (nI i2)), (3, .int (nI i3))]) hx hb dX4_drive_112 hl (Nat.le_of_ble_eq_true rfl) rfl (fun ls hl => ?_)
      refine lv_aload_n hx hb dX4_drive_114 rfl (lv_at hl 1 rfl) ?_
      refine gf (v := .ref (β 8 5)) (C := RX4) (T := TX4) (N := 13) (k := 11) hx hb hts hown hG cl_X4 in_X4 hM.ag (by decide) q1551 rfl dX4_drive_115 ?_
      refine lv_iload_n hx hb dX4_drive_118 rfl (lv_at hl 2 rfl) ?_
      refine lv_bipush (v := 6) hx hb dX4_drive_119 (by decide) ?_
      refine lv_imul hx hb dX4_drive_121 ?_
      refine lv_eq (pk_mul i1 6) ?_
      refine lv_iload_n hx hb dX4_drive_122 rfl (lv_at hl 4 rfl) ?_
      refine lv_iadd hx hb dX4_drive_123 ?_
      refine lv_eq (nI_add (i1 * 6) i3) ?_
      refine gaI (N := 36) (k := (i1 * 6) + i3) hx hb hG hM.ar5 (show (i1 * 6) + i3 < 36 from by omega) (by decide) dX4_drive_124 ?_
      refine lv_istore (lv' := [(5, .int (rDrives σ10 ((i1 * 6) + i3))), (4, .int (rDrives σ10 ((i2 * 6) + i1))), (0, .ref (β 0 0)), (1, .int (nI i1)), (2, .int (nI i2)), (3, .int (nI i3))]) hx hb dX4_drive_125 hl (Nat.le_of_ble_eq_true rfl) rfl (fun ls hl => ?_)
      refine lv_aload_n hx hb dX4_drive_127 rfl (lv_at hl 2 rfl) ?_
      refine gf (v := .ref (β 8 5)) (C := RX4) (T := TX4) (N := 13) (k := 11) hx hb hts hown hG cl_X4 in_X4 hM.ag (by decide) q1551 rfl dX4_drive_128 ?_
      refine lv_iload_n hx hb dX4_drive_131 rfl (lv_at hl 4 rfl) ?_
      refine lv_bipush (v := 6) hx hb dX4_drive_132 (by decide) ?_
      refine lv_imul hx hb dX4_drive_134 ?_
      refine lv_eq (pk_mul i2 6) ?_
      refine lv_iload_n hx hb dX4_drive_135 rfl (lv_at hl 5 rfl) ?_
      refine lv_iadd hx hb dX4_drive_136 ?_
      refine lv_eq (nI_add (i2 * 6) i3) ?_
      refine gaI (N := 36) (k := (i2 * 6) + i3) hx hb hG hM.ar5 (show (i2 * 6) + i3 < 36 from by omega) (by decide) dX4_drive_137 ?_
      refine lv_istore (lv' := [(6, .int (rDrives σ10 ((i2 * 6) + i3))), (5, .int (rDrives σ10 ((i1 * 6) + i3))), (4, .int (rDrives σ10 ((i2 * 6) + i1))), (0, .ref (β 0 0)), (1, .int (nI i1)), (2, .int (nI i2)), (3, .int (nI i3))]) hx hb dX4_drive_138 hl (Nat.le_of_ble_eq_true rfl) rfl (fun ls hl => ?_)
      refine lv_iload hx hb dX4_drive_140 (lv_at hl 2 rfl) ?_
      refine lv_iconst (v := (-1)) hx hb dX4_drive_142 (by decide) ?_
      refine lv_icmp_eq (tgt := 184) hx hb dX4_drive_143 (by decide) (fun c3 => ?_) (fun c3 => ?_)
      · rw [if_pos c3] at hR
        refine lv_iinc (v := nI (i3 + 1)) (lv' := [(3, .int (nI (i3 + 1))), (6, .int (rDrives σ10 ((i2 * 6) + i3))), (5, .int (rDrives σ10 ((i1 * 6) + i3))), (4, .int (rDrives σ10 ((i2 * 6) + i1))), (0, .ref (β 0 0)), (1, .int (nI i1)), (2, .int (nI i2))]) hx hb dX4_drive_184 hl (k := 6) rfl (nI_1 i3) (Nat.le_of_ble_eq_true rfl) rfl (fun ls hl => ?_)
        refine lv_goto (tgt := 95) hx hb dX4_drive_187 (by decide) ?_
        exact ih (i3 + 1) σ10 th10 ca10 sm10 (lk_st hn) hR _ _ hcn hM hS ls (lv_sub hl [4, 5, 6, 0] rfl)
      · rw [if_neg c3] at hR
        refine lv_iload hx hb dX4_drive_146 (lv_at hl 1 rfl) ?_
        refine lv_iconst (v := (-1)) hx hb dX4_drive_148 (by decide) ?_
        refine lv_icmp_eq (tgt := 184) hx hb dX4_drive_149 (by decide) (fun c4 => ?_) (fun c4 => ?_)
        · rw [if_pos c4] at hR
          refine lv_iinc (v := nI (i3 + 1)) (lv' := [(3, .int (nI (i3 + 1))), (6, .int (rDrives σ10 ((i2 * 6) + i3))), (5, .int (rDrives σ10 ((i1 * 6) + i3))), (4, .int (rDrives σ10 ((i2 * 6) + i1))), (0, .ref (β 0 0)), (1, .int (nI i1)), (2, .int (nI i2))]) hx hb dX4_drive_184 hl (k := 6) rfl (nI_1 i3) (Nat.le_of_ble_eq_true rfl) rfl (fun ls hl => ?_)
          refine lv_goto (tgt := 95) hx hb dX4_drive_187 (by decide) ?_
          exact ih (i3 + 1) σ10 th10 ca10 sm10 (lk_st hn) hR _ _ hcn hM hS ls (lv_sub hl [4, 5, 6, 0] rfl)
        · rw [if_neg c4] at hR
          refine lv_iload hx hb dX4_drive_152 (lv_at hl 0 rfl) ?_
          refine lv_iconst (v := (-1)) hx hb dX4_drive_154 (by decide) ?_
          refine lv_icmp_eq (tgt := 168) hx hb dX4_drive_155 (by decide) (fun c5 => ?_) (fun c5 => ?_)
          · rw [if_pos c5] at hR
            refine lv_aload_n hx hb dX4_drive_168 rfl (lv_at hl 3 rfl) ?_
            refine gf (v := .ref (β 8 5)) (C := RX4) (T := TX4) (N := 13) (k := 11) hx hb hts hown hG cl_X4 in_X4 hM.ag (by decide) q1551 rfl dX4_drive_169 ?_
            refine lv_iload_n hx hb dX4_drive_172 rfl (lv_at hl 5 rfl) ?_
            refine lv_bipush (v := 6) hx hb dX4_drive_173 (by decide) ?_
            refine lv_imul hx hb dX4_drive_175 ?_
            refine lv_eq (pk_mul i2 6) ?_
            refine lv_iload_n hx hb dX4_drive_176 rfl (lv_at hl 6 rfl) ?_
            refine lv_iadd hx hb dX4_drive_177 ?_
            refine lv_eq (nI_add (i2 * 6) i3) ?_
            refine lv_iload hx hb dX4_drive_178 (lv_at hl 2 rfl) ?_
            refine lv_iload hx hb dX4_drive_180 (lv_at hl 1 rfl) ?_
            refine lv_iadd hx hb dX4_drive_182 ?_
            refine paI (N := 36) (k := (i2 * 6) + i3) hx hb hG hS hM.ar5 hM.ar5F hM.ar5F (show (i2 * 6) + i3 < 36 from by omega) (by decide) dX4_drive_183 (fun H1 locs1 he hz hq hS => ?_)
            have hM := hM.Pa41  he hq
            have hG := gE.ofS hG0 hS hFE
            obtain ⟨σ11, hσ11⟩ : ∃ x, x = sW σ10 41 ((i2 * 6) + i3) ((rDrives σ10 ((i2 * 6) + i1)) + (rDrives σ10 ((i1 * 6) + i3))) := ⟨_, rfl⟩
            rw [← hσ11] at hR hM
            have hcn : cnt σ11 σ := by rw [hσ11]; exact hcn.sW
            try dsimp only at hR
            refine lv_iinc (v := nI (i3 + 1)) (lv' := [(3, .int (nI (i3 + 1))), (6, .int (rDrives σ10 ((i2 * 6) + i3))), (5, .int (rDrives σ10 ((i1 * 6) + i3))), (4, .int (rDrives σ10 ((i2 * 6) + i1))), (0, .ref (β 0 0)), (1, .int (nI i1)), (2, .int (nI i2))]) hx hb dX4_drive_184 hl (k := 6) rfl (nI_1 i3) (Nat.le_of_ble_eq_true rfl) rfl (fun ls hl => ?_)
            refine lv_goto (tgt := 95) hx hb dX4_drive_187 (by decide) ?_
            exact ih (i3 + 1) σ11 th10 ca10 sm10 (lk_st hn) hR _ _ hcn hM hS ls (lv_sub hl [4, 5, 6, 0] rfl)
          · rw [if_neg c5] at hR
            refine lv_iload hx hb dX4_drive_158 (lv_at hl 2 rfl) ?_
            refine lv_iload hx hb dX4_drive_160 (lv_at hl 1 rfl) ?_
            refine lv_iadd hx hb dX4_drive_162 ?_
            refine lv_iload hx hb dX4_drive_163 (lv_at hl 0 rfl) ?_
            refine lv_icmp_ge (tgt := 184) hx hb dX4_drive_165 (by decide) (fun c6 => ?_) (fun c6 => ?_)
            · rw [if_pos c6] at hR
              refine lv_iinc (v := nI (i3 + 1)) (lv' := [(3, .int (nI (i3 + 1))), (6, .int (rDrives σ10 ((i2 * 6) + i3))), (5, .int (rDrives σ10 ((i1 * 6) + i3))), (4, .int (rDrives σ10 ((i2 * 6) + i1))), (0, .ref (β 0 0)), (1, .int (nI i1)), (2, .int (nI i2))]) hx hb dX4_drive_184 hl (k := 6) rfl (nI_1 i3) (Nat.le_of_ble_eq_true rfl) rfl (fun ls hl => ?_)
              refine lv_goto (tgt := 95) hx hb dX4_drive_187 (by decide) ?_
              exact ih (i3 + 1) σ10 th10 ca10 sm10 (lk_st hn) hR _ _ hcn hM hS ls (lv_sub hl [4, 5, 6, 0] rfl)
            · rw [if_neg c6] at hR
              refine lv_aload_n hx hb dX4_drive_168 rfl (lv_at hl 3 rfl) ?_
              refine gf (v := .ref (β 8 5)) (C := RX4) (T := TX4) (N := 13) (k := 11) hx hb hts hown hG cl_X4 in_X4 hM.ag (by decide) q1551 rfl dX4_drive_169 ?_
              refine lv_iload_n hx hb dX4_drive_172 rfl (lv_at hl 5 rfl) ?_
              refine lv_bipush (v := 6) hx hb dX4_drive_173 (by decide) ?_
              refine lv_imul hx hb dX4_drive_175 ?_
              refine lv_eq (pk_mul i2 6) ?_
              refine lv_iload_n hx hb dX4_drive_176 rfl (lv_at hl 6 rfl) ?_
              refine lv_iadd hx hb dX4_drive_177 ?_
              refine lv_eq (nI_add (i2 * 6) i3) ?_
              refine lv_iload hx hb dX4_drive_178 (lv_at hl 2 rfl) ?_
              refine lv_iload hx hb dX4_drive_180 (lv_at hl 1 rfl) ?_
              refine lv_iadd hx hb dX4_drive_182 ?_
              refine paI (N := 36) (k := (i2 * 6) + i3) hx hb hG hS hM.ar5 hM.ar5F hM.ar5F (show (i2 * 6) + i3 < 36 from by omega) (by decide) dX4_drive_183 (fun H1 locs1 he hz hq hS => ?_)
              have hM := hM.Pa41  he hq
              have hG := gE.ofS hG0 hS hFE
              obtain ⟨σ12, hσ12⟩ : ∃ x, x = sW σ10 41 ((i2 * 6) + i3) ((rDrives σ10 ((i2 * 6) + i1)) + (rDrives σ10 ((i1 * 6) + i3))) := ⟨_, rfl⟩
              rw [← hσ12] at hR hM
              have hcn : cnt σ12 σ := by rw [hσ12]; exact hcn.sW
              try dsimp only at hR
              refine lv_iinc (v := nI (i3 + 1)) (lv' := [(3, .int (nI (i3 + 1))), (6, .int (rDrives σ10 ((i2 * 6) + i3))), (5, .int (rDrives σ10 ((i1 * 6) + i3))), (4, .int (rDrives σ10 ((i2 * 6) + i1))), (0, .ref (β 0 0)), (1, .int (nI i1)), (2, .int (nI i2))]) hx hb dX4_drive_184 hl (k := 6) rfl (nI_1 i3) (Nat.le_of_ble_eq_true rfl) rfl (fun ls hl => ?_)
              refine lv_goto (tgt := 95) hx hb dX4_drive_187 (by decide) ?_
              exact ih (i3 + 1) σ12 th10 ca10 sm10 (lk_st hn) hR _ _ hcn hM hS ls (lv_sub hl [4, 5, 6, 0] rfl)
  have hL87 : ∀ (i1 : Nat) (hf87_0 : i1 < 6) (κ : St → Int32 → Int32 → Int64 → MSt) (hκ : ∀ (σ9 : St) (th9 : Int32) (ca9 : Int32) (sm9 : Int64) (H : Heap) (locs : List Loc) (ls : Array Slot), κ σ9 th9 ca9 sm9 = r → cnt σ9 σ → RM D E β (fN F s.heap.size) σ9 th9 ca9 sm9 H → xK F F s.heap H locs → lv_has ls 7 [(0, .ref (β 0 0)), (1, .int (nI i1))] → W p l e { frames := 0, cells := 0, slots := 0, locals := 0 } s m [(.ref (β 0 0) : Value)].toArray below meth c H locs 0 0 (MQ below (qG F ((fun sz v h => v = none ∧ RM D E β (fN F sz) r.1 r.2.1 r.2.2.1 r.2.2.2 h ∧ cnt r.1 σ) s.heap.size)) [(.ref (β 0 0) : Value)].toArray s 0 0 (fN F s.heap.size)) (F0 m 196 ls [])) (n : Nat) (i2 : Nat) (σ9 : St) (th9 : Int32) (ca9 : Int32) (sm9 : Int64), i2 + n = 6 → fX4_drive_L87 σ th ca sm i1 κ n i2 σ9 th9 ca9 sm9 = r → ∀ (H : Heap) (locs : List Loc), cnt σ9 σ → RM D E β (fN F s.heap.size) σ9 th9 ca9 sm9 H → xK F F s.heap H locs → ∀ (ls : Array Slot), lv_has ls 7 [(0, .ref (β 0 0)), (1, .int (nI i1)), (2, .int (nI i2))] → W p l e { frames := 0, cells := 0, slots := 0, locals := 0 } s m [(.ref (β 0 0) : Value)].toArray below meth c H locs 0 0 (MQ below (qG F ((fun sz v h => v = none ∧ RM D E β (fN F sz) r.1 r.2.1 r.2.2.1 r.2.2.2 h ∧ cnt r.1 σ) s.heap.size)) [(.ref (β 0 0) : Value)].toArray s 0 0 (fN F s.heap.size)) (F0 m 87 ls []) := by
    intro i1 hf87_0 κ hκ n
    induction n with
    | zero =>
      intro i2 σ9 th9 ca9 sm9 hn hR H locs hcn hM hS ls hl
      rw [fX4_drive_L87] at hR
      have hG := gE.ofS hG0 hS hFE
      refine lv_iload_n hx hb dX4_drive_87 rfl (lv_at hl 2 rfl) ?_
      refine lv_bipush (v := 6) hx hb dX4_drive_88 (by decide) ?_
      refine lk_ge_out (k := i2) (N := 6) hx hb hn (tgt := 196) dX4_drive_90 (by decide) ?_
      exact hκ σ9 th9 ca9 sm9 _ _ ls hR hcn hM hS (lv_sub hl [0, 1] rfl)
    | succ n ih =>
      intro i2 σ9 th9 ca9 sm9 hn hR H locs hcn hM hS ls hl
      rw [fX4_drive_L87] at hR
      have hG := gE.ofS hG0 hS hFE
      refine lv_iload_n hx hb dX4_drive_87 rfl (lv_at hl 2 rfl) ?_
      refine lv_bipush (v := 6) hx hb dX4_drive_88 (by decide) ?_
      have hki2 : i2 < 6 := lk_lt hn
      refine lk_ge_in (k := i2) (N := 6) hx hb hki2 (by decide) (tgt := 196) dX4_drive_90 (by decide) ?_
      refine lv_iconst (v := 0) hx hb dX4_drive_93 (by decide) ?_
      refine lv_istore_n (lv' := [(3, .int 0), (0, .ref (β 0 0)), (1, .int (nI i1)), (2, .int (nI i2))]) hx hb dX4_drive_94 rfl hl (Nat.le_of_ble_eq_true rfl) rfl (fun ls hl => ?_)
      refine hL95 i1 i2 hf87_0 hki2 _ (fun σ13 th13 ca13 sm13 H1 locs1 ls hR hcn hM hS hl => ?_) 6 0 σ9 th9 ca9 sm9 (Nat.zero_add _) hR _ _ hcn hM hS ls (lv_sub hl [1, 2, 3, 0] rfl)
      try dsimp only at hR
      have hG := gE.ofS hG0 hS hFE
      refine lv_iinc (v := nI (i2 + 1)) (lv' := [(2, .int (nI (i2 + 1))), (0, .ref (β 0 0)), (1, .int (nI i1))]) hx hb dX4_drive_190 hl (k := 2) rfl (nI_1 i2) (Nat.le_of_ble_eq_true rfl) rfl (fun ls hl => ?_)
      refine lv_goto (tgt := 87) hx hb dX4_drive_193 (by decide) ?_
      exact ih (i2 + 1) σ13 th13 ca13 sm13 (lk_st hn) hR _ _ hcn hM hS ls (lv_sub hl [1, 2, 0] rfl)
  have hL79 : ∀  (κ : St → Int32 → Int32 → Int64 → MSt) (hκ : ∀ (σ8 : St) (th8 : Int32) (ca8 : Int32) (sm8 : Int64) (H : Heap) (locs : List Loc) (ls : Array Slot), κ σ8 th8 ca8 sm8 = r → cnt σ8 σ → RM D E β (fN F s.heap.size) σ8 th8 ca8 sm8 H → xK F F s.heap H locs → lv_has ls 7 [] → W p l e { frames := 0, cells := 0, slots := 0, locals := 0 } s m [(.ref (β 0 0) : Value)].toArray below meth c H locs 0 0 (MQ below (qG F ((fun sz v h => v = none ∧ RM D E β (fN F sz) r.1 r.2.1 r.2.2.1 r.2.2.2 h ∧ cnt r.1 σ) s.heap.size)) [(.ref (β 0 0) : Value)].toArray s 0 0 (fN F s.heap.size)) (F0 m 202 ls [])) (n : Nat) (i1 : Nat) (σ8 : St) (th8 : Int32) (ca8 : Int32) (sm8 : Int64), i1 + n = 6 → fX4_drive_L79 σ th ca sm κ n i1 σ8 th8 ca8 sm8 = r → ∀ (H : Heap) (locs : List Loc), cnt σ8 σ → RM D E β (fN F s.heap.size) σ8 th8 ca8 sm8 H → xK F F s.heap H locs → ∀ (ls : Array Slot), lv_has ls 7 [(0, .ref (β 0 0)), (1, .int (nI i1))] → W p l e { frames := 0, cells := 0, slots := 0, locals := 0 } s m [(.ref (β 0 0) : Value)].toArray below meth c H locs 0 0 (MQ below (qG F ((fun sz v h => v = none ∧ RM D E β (fN F sz) r.1 r.2.1 r.2.2.1 r.2.2.2 h ∧ cnt r.1 σ) s.heap.size)) [(.ref (β 0 0) : Value)].toArray s 0 0 (fN F s.heap.size)) (F0 m 79 ls []) := by
    intro  κ hκ n
    induction n with
    | zero =>
      intro i1 σ8 th8 ca8 sm8 hn hR H locs hcn hM hS ls hl
      rw [fX4_drive_L79] at hR
      have hG := gE.ofS hG0 hS hFE
      refine lv_iload_n hx hb dX4_drive_79 rfl (lv_at hl 1 rfl) ?_
      refine lv_bipush (v := 6) hx hb dX4_drive_80 (by decide) ?_
      refine lk_ge_out (k := i1) (N := 6) hx hb hn (tgt := 202) dX4_drive_82 (by decide) ?_
      exact hκ σ8 th8 ca8 sm8 _ _ ls hR hcn hM hS (lv_sub hl [] rfl)
    | succ n ih =>
      intro i1 σ8 th8 ca8 sm8 hn hR H locs hcn hM hS ls hl
      rw [fX4_drive_L79] at hR
      have hG := gE.ofS hG0 hS hFE
      refine lv_iload_n hx hb dX4_drive_79 rfl (lv_at hl 1 rfl) ?_
      refine lv_bipush (v := 6) hx hb dX4_drive_80 (by decide) ?_
      have hki1 : i1 < 6 := lk_lt hn
      refine lk_ge_in (k := i1) (N := 6) hx hb hki1 (by decide) (tgt := 202) dX4_drive_82 (by decide) ?_
      refine lv_iconst (v := 0) hx hb dX4_drive_85 (by decide) ?_
      refine lv_istore_n (lv' := [(2, .int 0), (0, .ref (β 0 0)), (1, .int (nI i1))]) hx hb dX4_drive_86 rfl hl (Nat.le_of_ble_eq_true rfl) rfl (fun ls hl => ?_)
      refine hL87 i1 hki1 _ (fun σ14 th14 ca14 sm14 H1 locs1 ls hR hcn hM hS hl => ?_) 6 0 σ8 th8 ca8 sm8 (Nat.zero_add _) hR _ _ hcn hM hS ls (lv_sub hl [1, 2, 0] rfl)
      try dsimp only at hR
      have hG := gE.ofS hG0 hS hFE
      refine lv_iinc (v := nI (i1 + 1)) (lv' := [(1, .int (nI (i1 + 1))), (0, .ref (β 0 0))]) hx hb dX4_drive_196 hl (k := 1) rfl (nI_1 i1) (Nat.le_of_ble_eq_true rfl) rfl (fun ls hl => ?_)
      refine lv_goto (tgt := 79) hx hb dX4_drive_199 (by decide) ?_
      exact ih (i1 + 1) σ14 th14 ca14 sm14 (lk_st hn) hR _ _ hcn hM hS ls (lv_sub hl [1, 0] rfl)
  unfold fX4_drive at hR
  refine lv_iconst (v := 0) hx hb dX4_drive_0 (by decide) ?_
  refine lv_istore_n (lv' := [(1, .int 0), (0, .ref (β 0 0))]) hx hb dX4_drive_1 rfl hl (Nat.le_of_ble_eq_true rfl) rfl (fun ls hl => ?_)
  refine hL2  _ (fun σ7 th7 ca7 sm7 H1 locs1 ls hR hcn hM hS hl => ?_) 6 0 σ th ca sm (Nat.zero_add _) hR _ _ hcn hM hS ls (lv_sub hl [1, 0] rfl)
  try dsimp only at hR
  have hG := gE.ofS hG0 hS hFE
  refine lv_iconst (v := 0) hx hb dX4_drive_77 (by decide) ?_
  refine lv_istore_n (lv' := [(1, .int 0), (0, .ref (β 0 0))]) hx hb dX4_drive_78 rfl hl (Nat.le_of_ble_eq_true rfl) rfl (fun ls hl => ?_)
  refine hL79  _ (fun σ15 th15 ca15 sm15 H1 locs1 ls hR hcn hM hS hl => ?_) 6 0 σ7 th7 ca7 sm7 (Nat.zero_add _) hR _ _ hcn hM hS ls (lv_sub hl [1, 0] rfl)
  try dsimp only at hR
  have hG := gE.ofS hG0 hS hFE
  exact g_vret hx hb hr hlocks hS ⟨Nat.le_of_ble_eq_true rfl, Nat.le_of_ble_eq_true rfl⟩ dX4_drive_202 (by subst hR; exact ⟨rfl, hM, hcn⟩)

def fX4_road (σ : St) (th : Int32) (ca : Int32) (sm : Int64) (a : Int32) (b : Int32) (z : Int32) : Int32 × MSt :=
  (if ((fX4_isTown a)) = true then (if ((fX4_isTown b)) = true then (if (nI ((Int32.toNatClampNeg a))) = (nI ((Int32.toNatClampNeg b))) then (fun (σ2 : St) => (fun (th2 : Int32) => (fun (ca2 : Int32) => (fun (sm2 : Int64) => (fun (v2 : Int32) => (v2, ((σ2, th2, ca2, sm2) : MSt))) ((fX4_refuse σ 0 ca sm 2).1)) ((fX4_refuse σ 0 ca sm 2).2.2.2.2)) ((fX4_refuse σ 0 ca sm 2).2.2.2.1)) ((fX4_refuse σ 0 ca sm 2).2.2.1)) ((fX4_refuse σ 0 ca sm 2).2.1) else (if ((fX4_is z 0 9)) = true then (fun (σ3 : St) => (fun (σ4 : St) => (fun (σ5 : St) => (fun (th5 : Int32) => (fun (ca5 : Int32) => (fun (sm5 : Int64) => ((fX4_driveOf σ5 ((Int32.toNatClampNeg a)) ((Int32.toNatClampNeg b))), ((σ5, th5, ca5, sm5) : MSt))) ((fX4_drive σ4 0 ca sm).2.2.2)) ((fX4_drive σ4 0 ca sm).2.2.1)) ((fX4_drive σ4 0 ca sm).2.1)) ((fX4_drive σ4 0 ca sm).1)) (sW σ3 40 ((((Int32.toNatClampNeg b)) * 6) + ((Int32.toNatClampNeg a))) z)) (sW σ 40 ((((Int32.toNatClampNeg a)) * 6) + ((Int32.toNatClampNeg b))) z) else (fun (σ6 : St) => (fun (th6 : Int32) => (fun (ca6 : Int32) => (fun (sm6 : Int64) => (fun (v6 : Int32) => (v6, ((σ6, th6, ca6, sm6) : MSt))) ((fX4_refuse σ 0 ca sm 2).1)) ((fX4_refuse σ 0 ca sm 2).2.2.2.2)) ((fX4_refuse σ 0 ca sm 2).2.2.2.1)) ((fX4_refuse σ 0 ca sm 2).2.2.1)) ((fX4_refuse σ 0 ca sm 2).2.1))) else (fun (σ7 : St) => (fun (th7 : Int32) => (fun (ca7 : Int32) => (fun (sm7 : Int64) => (fun (v7 : Int32) => (v7, ((σ7, th7, ca7, sm7) : MSt))) ((fX4_refuse σ 0 ca sm 1).1)) ((fX4_refuse σ 0 ca sm 1).2.2.2.2)) ((fX4_refuse σ 0 ca sm 1).2.2.2.1)) ((fX4_refuse σ 0 ca sm 1).2.2.1)) ((fX4_refuse σ 0 ca sm 1).2.1)) else (fun (σ1 : St) => (fun (th1 : Int32) => (fun (ca1 : Int32) => (fun (sm1 : Int64) => (fun (v1 : Int32) => (v1, ((σ1, th1, ca1, sm1) : MSt))) ((fX4_refuse σ 0 ca sm 1).1)) ((fX4_refuse σ 0 ca sm 1).2.2.2.2)) ((fX4_refuse σ 0 ca sm 1).2.2.2.1)) ((fX4_refuse σ 0 ca sm 1).2.2.1)) ((fX4_refuse σ 0 ca sm 1).2.1))
set_option maxHeartbeats 4000000 in
set_option maxRecDepth 100000 in
theorem met_X4_road (l : Launch) (D : va_G) (E : Nat → Nat) {β : Nat → Nat → Nat} {F : Nat → Prop} {σ : St} {th ca : Int32} {sm : Int64} (a : Int32) (b : Int32) (z : Int32)  : GM l D E yX4_road cX4_road 4 (Option.some Jvm.ClassFile.FieldType.int) 2 42 0 0 [.ref (β 0 0), .int (a), .int (b), .int (z)] (RM D E β F σ th ca sm) F F (fun sz v h => v = some (.int (fX4_road σ th ca sm a b z).1) ∧ RM D E β (fN F sz) (fX4_road σ th ca sm a b z).2.1 (fX4_road σ th ca sm a b z).2.2.1 (fX4_road σ th ca sm a b z).2.2.2.1 (fX4_road σ th ca sm a b z).2.2.2.2 h ∧ cnt (fX4_road σ th ca sm a b z).2.1 σ)  := by
  generalize hR : fX4_road σ th ca sm a b z = r
  refine GM.start (by decide) (Nat.le_of_ble_eq_true rfl) ?_
  intro p e s m below meth c ls hx hb hr hml hown hlocks hnm hts hG hM hS hl
  have hown : s.vm.findClass RX4 = some m.cls := hown
  have hS0 : xS p m c cX4_road 4 s _ RX4 := ⟨hx, hb, hml, hown, hts⟩
  have hl : lv_has ls 4 [(0, .ref (β 0 0)), (1, .int (a)), (2, .int (b)), (3, .int (z))] := hl
  have hG0 := hG
  have hM0 := hM
  have hb0P := hM0.nP10
  have hb0B := hM0.nB6
  have hb0W := hM0.nW14
  have hFE := hM.fE
  have hM := hM.wide (n := s.heap.size) hG.2.2.1
  have hcn : cnt σ σ := cnt.rf
  unfold fX4_road at hR
  refine lv_aload_n hx hb dX4_road_0 rfl (lv_at hl 0 rfl) ?_
  refine lv_iconst (v := 0) hx hb dX4_road_1 (by decide) ?_
  refine pf (ty0 := tyX4) (ty := tyX4 0) (v := .int 0) (C := RX4) (T := TX4) (N := 13) (k := 0) hx hb hts hown hG hS cl_X4 in_X4 tyX4_ok nmX4 hM.ag hM.agF hM.agF (by decide) q1540 rfl (tyX4_ok 0 (by decide)) rfl rfl (Nat.le_of_ble_eq_true rfl) dX4_road_2 (fun H1 locs1 he hz hq hS => ?_)
  have hM := hM.Pth  he hq
  have hG := gE.ofS hG0 hS hFE
  refine lv_iload_n hx hb dX4_road_5 rfl (lv_at hl 1 rfl) ?_
  refine pcS (As := [.int (a)]) (rest := []) hS0 (met_X4_isTown l D E a) q1661 q1662 q110 q1663 hd_X4_isTown ⟨Nat.le_of_ble_eq_true rfl, Nat.le_of_ble_eq_true rfl⟩ hG trivial rfl hl.1 rfl (Nat.le_of_ble_eq_true rfl) dX4_road_6 ⟨Nat.le_of_ble_eq_true rfl, Nat.le_of_ble_eq_true rfl⟩ ?_
  refine W.eq (g2 := F0 m 9 ls [.int (bI ((fX4_isTown a)))]) rfl ?_
  refine lb_if_eq (tgt := 19) hx hb dX4_road_9 (by decide) (fun c1 => ?_) (fun c1 => ?_)
  · rw [if_neg c1] at hR
    refine lv_aload_n hx hb dX4_road_19 rfl (lv_at hl 0 rfl) ?_
    refine lv_iconst (v := 1) hx hb dX4_road_20 (by decide) ?_
    have hB := hS.1
    refine gcV (As := [.int 1]) (rest := []) hS0 (met_X4_refuse l D E 1) q1591 q1593 qs55 q110 q1594 hd_X4_refuse ⟨Nat.le_of_ble_eq_true rfl, Nat.le_of_ble_eq_true rfl⟩ hG (rcv hG cl_X4 hM.ag) hM rfl hl.1 rfl (Nat.le_of_ble_eq_true rfl) dX4_road_21 ⟨Nat.le_of_ble_eq_true rfl, Nat.le_of_ble_eq_true rfl⟩ hS (fun q h => h) (fun q h => h) (fun v H1 locs1 hP hz hk hS => ?_)
    obtain ⟨rfl, hZ, hc8⟩ := hP
    have hM := hZ.mono (fun q _ => fN_fN hB q) hM.fE
    have hG := gE.ofS hG0 hS hFE
    have hcn := hc8.tr hcn
    generalize hv_σ1 : (fX4_refuse σ 0 ca sm 1).2.1 = σ1 at hR hM hcn ⊢
    generalize hv_th1 : (fX4_refuse σ 0 ca sm 1).2.2.1 = th1 at hR hM hcn ⊢
    generalize hv_ca1 : (fX4_refuse σ 0 ca sm 1).2.2.2.1 = ca1 at hR hM hcn ⊢
    generalize hv_sm1 : (fX4_refuse σ 0 ca sm 1).2.2.2.2 = sm1 at hR hM hcn ⊢
    generalize hv_v1 : (fX4_refuse σ 0 ca sm 1).1 = v1 at hR hM hcn ⊢
    try dsimp only at hR
    refine W.eq (g2 := F0 m 24 ls [.int (v1)]) rfl ?_
    exact g_iret hx hb hr hlocks hS ⟨Nat.le_of_ble_eq_true rfl, Nat.le_of_ble_eq_true rfl⟩ dX4_road_24 (by subst hR; exact ⟨rfl, hM, hcn⟩)
  · rw [if_pos c1] at hR
    have nc1 := isTown_ix c1
    refine lv_iload_n hx hb dX4_road_12 rfl (lv_at hl 2 rfl) ?_
    refine pcS (As := [.int (b)]) (rest := []) hS0 (met_X4_isTown l D E b) q1661 q1662 q110 q1663 hd_X4_isTown ⟨Nat.le_of_ble_eq_true rfl, Nat.le_of_ble_eq_true rfl⟩ hG trivial rfl hl.1 rfl (Nat.le_of_ble_eq_true rfl) dX4_road_13 ⟨Nat.le_of_ble_eq_true rfl, Nat.le_of_ble_eq_true rfl⟩ ?_
    refine W.eq (g2 := F0 m 16 ls [.int (bI ((fX4_isTown b)))]) rfl ?_
    refine lb_if_ne (tgt := 25) hx hb dX4_road_16 (by decide) (fun c2 => ?_) (fun c2 => ?_)
    · rw [if_pos c2] at hR
      have nc2 := isTown_ix c2
      refine lv_iload_n hx hb dX4_road_25 rfl (lv_at hl 1 rfl) ?_
      refine lv_eq nc1.1 ?_
      refine lv_iload_n hx hb dX4_road_26 rfl (lv_at hl 2 rfl) ?_
      refine lv_eq nc2.1 ?_
      refine lv_icmp_eq (tgt := 40) hx hb dX4_road_27 (by decide) (fun c3 => ?_) (fun c3 => ?_)
      · rw [if_pos c3] at hR
        refine lv_aload_n hx hb dX4_road_40 rfl (lv_at hl 0 rfl) ?_
        refine lv_iconst (v := 2) hx hb dX4_road_41 (by decide) ?_
        have hB := hS.1
        refine gcV (As := [.int 2]) (rest := []) hS0 (met_X4_refuse l D E 2) q1591 q1593 qs55 q110 q1594 hd_X4_refuse ⟨Nat.le_of_ble_eq_true rfl, Nat.le_of_ble_eq_true rfl⟩ hG (rcv hG cl_X4 hM.ag) hM rfl hl.1 rfl (Nat.le_of_ble_eq_true rfl) dX4_road_42 ⟨Nat.le_of_ble_eq_true rfl, Nat.le_of_ble_eq_true rfl⟩ hS (fun q h => h) (fun q h => h) (fun v H1 locs1 hP hz hk hS => ?_)
        obtain ⟨rfl, hZ, hc8⟩ := hP
        have hM := hZ.mono (fun q _ => fN_fN hB q) hM.fE
        have hG := gE.ofS hG0 hS hFE
        have hcn := hc8.tr hcn
        generalize hv_σ2 : (fX4_refuse σ 0 ca sm 2).2.1 = σ2 at hR hM hcn ⊢
        generalize hv_th2 : (fX4_refuse σ 0 ca sm 2).2.2.1 = th2 at hR hM hcn ⊢
        generalize hv_ca2 : (fX4_refuse σ 0 ca sm 2).2.2.2.1 = ca2 at hR hM hcn ⊢
        generalize hv_sm2 : (fX4_refuse σ 0 ca sm 2).2.2.2.2 = sm2 at hR hM hcn ⊢
        generalize hv_v2 : (fX4_refuse σ 0 ca sm 2).1 = v2 at hR hM hcn ⊢
        try dsimp only at hR
        refine W.eq (g2 := F0 m 45 ls [.int (v2)]) rfl ?_
        exact g_iret hx hb hr hlocks hS ⟨Nat.le_of_ble_eq_true rfl, Nat.le_of_ble_eq_true rfl⟩ dX4_road_45 (by subst hR; exact ⟨rfl, hM, hcn⟩)
      · rw [if_neg c3] at hR
        refine lv_iload_n hx hb dX4_road_30 rfl (lv_at hl 3 rfl) ?_
        refine lv_iconst (v := 0) hx hb dX4_road_31 (by decide) ?_
        refine lv_bipush (v := 9) hx hb dX4_road_32 (by decide) ?_
        refine pcS (As := [.int (z), .int 0, .int 9]) (rest := []) hS0 (met_X4_is l D E z 0 9) q1588 q1589 q110 q1590 hd_X4_is ⟨Nat.le_of_ble_eq_true rfl, Nat.le_of_ble_eq_true rfl⟩ hG trivial rfl hl.1 rfl (Nat.le_of_ble_eq_true rfl) dX4_road_34 ⟨Nat.le_of_ble_eq_true rfl, Nat.le_of_ble_eq_true rfl⟩ ?_
        refine W.eq (g2 := F0 m 37 ls [.int (bI ((fX4_is z 0 9)))]) rfl ?_
        refine lb_if_ne (tgt := 46) hx hb dX4_road_37 (by decide) (fun c4 => ?_) (fun c4 => ?_)
        · rw [if_pos c4] at hR
          refine lv_aload_n hx hb dX4_road_46 rfl (lv_at hl 0 rfl) ?_
          refine gf (v := .ref (β 8 4)) (C := RX4) (T := TX4) (N := 13) (k := 10) hx hb hts hown hG cl_X4 in_X4 hM.ag (by decide) q1550 rfl dX4_road_47 ?_
          refine lv_iload_n hx hb dX4_road_50 rfl (lv_at hl 1 rfl) ?_
          refine lv_eq nc1.1 ?_
          refine lv_bipush (v := 6) hx hb dX4_road_51 (by decide) ?_
          refine lv_imul hx hb dX4_road_53 ?_
          refine lv_eq (pk_mul ((Int32.toNatClampNeg a)) 6) ?_
          refine lv_iload_n hx hb dX4_road_54 rfl (lv_at hl 2 rfl) ?_
          refine lv_eq nc2.1 ?_
          refine lv_iadd hx hb dX4_road_55 ?_
          refine lv_eq (nI_add (((Int32.toNatClampNeg a)) * 6) ((Int32.toNatClampNeg b))) ?_
          refine lv_iload_n hx hb dX4_road_56 rfl (lv_at hl 3 rfl) ?_
          refine paI (N := 36) (k := (((Int32.toNatClampNeg a)) * 6) + ((Int32.toNatClampNeg b))) hx hb hG hS hM.ar4 hM.ar4F hM.ar4F (show (((Int32.toNatClampNeg a)) * 6) + ((Int32.toNatClampNeg b)) < 36 from by omega) (by decide) dX4_road_57 (fun H1 locs1 he hz hq hS => ?_)
          have hM := hM.Pa40  he hq
          have hG := gE.ofS hG0 hS hFE
          obtain ⟨σ3, hσ3⟩ : ∃ x, x = sW σ 40 ((((Int32.toNatClampNeg a)) * 6) + ((Int32.toNatClampNeg b))) z := ⟨_, rfl⟩
          rw [← hσ3] at hR hM
          have hcn : cnt σ3 σ := by rw [hσ3]; exact hcn.sW
          try dsimp only at hR
          refine lv_aload_n hx hb dX4_road_58 rfl (lv_at hl 0 rfl) ?_
          refine gf (v := .ref (β 8 4)) (C := RX4) (T := TX4) (N := 13) (k := 10) hx hb hts hown hG cl_X4 in_X4 hM.ag (by decide) q1550 rfl dX4_road_59 ?_
          refine lv_iload_n hx hb dX4_road_62 rfl (lv_at hl 2 rfl) ?_
          refine lv_eq nc2.1 ?_
          refine lv_bipush (v := 6) hx hb dX4_road_63 (by decide) ?_
          refine lv_imul hx hb dX4_road_65 ?_
          refine lv_eq (pk_mul ((Int32.toNatClampNeg b)) 6) ?_
          refine lv_iload_n hx hb dX4_road_66 rfl (lv_at hl 1 rfl) ?_
          refine lv_eq nc1.1 ?_
          refine lv_iadd hx hb dX4_road_67 ?_
          refine lv_eq (nI_add (((Int32.toNatClampNeg b)) * 6) ((Int32.toNatClampNeg a))) ?_
          refine lv_iload_n hx hb dX4_road_68 rfl (lv_at hl 3 rfl) ?_
          refine paI (N := 36) (k := (((Int32.toNatClampNeg b)) * 6) + ((Int32.toNatClampNeg a))) hx hb hG hS hM.ar4 hM.ar4F hM.ar4F (show (((Int32.toNatClampNeg b)) * 6) + ((Int32.toNatClampNeg a)) < 36 from by omega) (by decide) dX4_road_69 (fun H1 locs1 he hz hq hS => ?_)
          have hM := hM.Pa40  he hq
          have hG := gE.ofS hG0 hS hFE
          obtain ⟨σ4, hσ4⟩ : ∃ x, x = sW σ3 40 ((((Int32.toNatClampNeg b)) * 6) + ((Int32.toNatClampNeg a))) z := ⟨_, rfl⟩
          rw [← hσ4] at hR hM
          have hcn : cnt σ4 σ := by rw [hσ4]; exact hcn.sW
          try dsimp only at hR
          refine lv_aload_n hx hb dX4_road_70 rfl (lv_at hl 0 rfl) ?_
          have hB := hS.1
          refine gcV (As := []) (rest := []) hS0 (met_X4_drive l D E ) q1536 q1538 qs54 q110 q1539 hd_X4_drive ⟨Nat.le_of_ble_eq_true rfl, Nat.le_of_ble_eq_true rfl⟩ hG (rcv hG cl_X4 hM.ag) hM rfl hl.1 rfl (Nat.le_of_ble_eq_true rfl) dX4_road_71 ⟨Nat.le_of_ble_eq_true rfl, Nat.le_of_ble_eq_true rfl⟩ hS (fun q h => h) (fun q h => h) (fun v H1 locs1 hP hz hk hS => ?_)
          obtain ⟨rfl, hZ, hc8⟩ := hP
          have hM := hZ.mono (fun q _ => fN_fN hB q) hM.fE
          have hG := gE.ofS hG0 hS hFE
          have hcn := hc8.tr hcn
          generalize hv_σ5 : (fX4_drive σ4 0 ca sm).1 = σ5 at hR hM hcn ⊢
          generalize hv_th5 : (fX4_drive σ4 0 ca sm).2.1 = th5 at hR hM hcn ⊢
          generalize hv_ca5 : (fX4_drive σ4 0 ca sm).2.2.1 = ca5 at hR hM hcn ⊢
          generalize hv_sm5 : (fX4_drive σ4 0 ca sm).2.2.2 = sm5 at hR hM hcn ⊢
          try dsimp only at hR
          refine W.eq (g2 := F0 m 74 ls []) rfl ?_
          refine lv_aload_n hx hb dX4_road_74 rfl (lv_at hl 0 rfl) ?_
          refine lv_iload_n hx hb dX4_road_75 rfl (lv_at hl 1 rfl) ?_
          refine lv_eq nc1.1 ?_
          refine lv_iload_n hx hb dX4_road_76 rfl (lv_at hl 2 rfl) ?_
          refine lv_eq nc2.1 ?_
          refine pcV (As := [.int (nI ((Int32.toNatClampNeg a))), .int (nI ((Int32.toNatClampNeg b)))]) (rest := []) hS0 (met_X4_driveOf l D E ((Int32.toNatClampNeg a)) ((Int32.toNatClampNeg b)) nc1.2 nc2.2) q1664 q1666 qs58 q110 q1667 hd_X4_driveOf ⟨Nat.le_of_ble_eq_true rfl, Nat.le_of_ble_eq_true rfl⟩ hG (rcv hG cl_X4 hM.ag) hM rfl hl.1 rfl (Nat.le_of_ble_eq_true rfl) dX4_road_77 ⟨Nat.le_of_ble_eq_true rfl, Nat.le_of_ble_eq_true rfl⟩ ?_
          refine W.eq (g2 := F0 m 80 ls [.int ((fX4_driveOf σ5 ((Int32.toNatClampNeg a)) ((Int32.toNatClampNeg b))))]) rfl ?_
          exact g_iret hx hb hr hlocks hS ⟨Nat.le_of_ble_eq_true rfl, Nat.le_of_ble_eq_true rfl⟩ dX4_road_80 (by subst hR; exact ⟨rfl, hM, hcn⟩)
        · rw [if_neg c4] at hR
          refine lv_aload_n hx hb dX4_road_40 rfl (lv_at hl 0 rfl) ?_
          refine lv_iconst (v := 2) hx hb dX4_road_41 (by decide) ?_
          have hB := hS.1
          refine gcV (As := [.int 2]) (rest := []) hS0 (met_X4_refuse l D E 2) q1591 q1593 qs55 q110 q1594 hd_X4_refuse ⟨Nat.le_of_ble_eq_true rfl, Nat.le_of_ble_eq_true rfl⟩ hG (rcv hG cl_X4 hM.ag) hM rfl hl.1 rfl (Nat.le_of_ble_eq_true rfl) dX4_road_42 ⟨Nat.le_of_ble_eq_true rfl, Nat.le_of_ble_eq_true rfl⟩ hS (fun q h => h) (fun q h => h) (fun v H1 locs1 hP hz hk hS => ?_)
          obtain ⟨rfl, hZ, hc8⟩ := hP
          have hM := hZ.mono (fun q _ => fN_fN hB q) hM.fE
          have hG := gE.ofS hG0 hS hFE
          have hcn := hc8.tr hcn
          generalize hv_σ6 : (fX4_refuse σ 0 ca sm 2).2.1 = σ6 at hR hM hcn ⊢
          generalize hv_th6 : (fX4_refuse σ 0 ca sm 2).2.2.1 = th6 at hR hM hcn ⊢
          generalize hv_ca6 : (fX4_refuse σ 0 ca sm 2).2.2.2.1 = ca6 at hR hM hcn ⊢
          generalize hv_sm6 : (fX4_refuse σ 0 ca sm 2).2.2.2.2 = sm6 at hR hM hcn ⊢
          generalize hv_v6 : (fX4_refuse σ 0 ca sm 2).1 = v6 at hR hM hcn ⊢
          try dsimp only at hR
          refine W.eq (g2 := F0 m 45 ls [.int (v6)]) rfl ?_
          exact g_iret hx hb hr hlocks hS ⟨Nat.le_of_ble_eq_true rfl, Nat.le_of_ble_eq_true rfl⟩ dX4_road_45 (by subst hR; exact ⟨rfl, hM, hcn⟩)
    · rw [if_neg c2] at hR
      refine lv_aload_n hx hb dX4_road_19 rfl (lv_at hl 0 rfl) ?_
      refine lv_iconst (v := 1) hx hb dX4_road_20 (by decide) ?_
      have hB := hS.1
      refine gcV (As := [.int 1]) (rest := []) hS0 (met_X4_refuse l D E 1) q1591 q1593 qs55 q110 q1594 hd_X4_refuse ⟨Nat.le_of_ble_eq_true rfl, Nat.le_of_ble_eq_true rfl⟩ hG (rcv hG cl_X4 hM.ag) hM rfl hl.1 rfl (Nat.le_of_ble_eq_true rfl) dX4_road_21 ⟨Nat.le_of_ble_eq_true rfl, Nat.le_of_ble_eq_true rfl⟩ hS (fun q h => h) (fun q h => h) (fun v H1 locs1 hP hz hk hS => ?_)
      obtain ⟨rfl, hZ, hc8⟩ := hP
      have hM := hZ.mono (fun q _ => fN_fN hB q) hM.fE
      have hG := gE.ofS hG0 hS hFE
      have hcn := hc8.tr hcn
      generalize hv_σ7 : (fX4_refuse σ 0 ca sm 1).2.1 = σ7 at hR hM hcn ⊢
      generalize hv_th7 : (fX4_refuse σ 0 ca sm 1).2.2.1 = th7 at hR hM hcn ⊢
      generalize hv_ca7 : (fX4_refuse σ 0 ca sm 1).2.2.2.1 = ca7 at hR hM hcn ⊢
      generalize hv_sm7 : (fX4_refuse σ 0 ca sm 1).2.2.2.2 = sm7 at hR hM hcn ⊢
      generalize hv_v7 : (fX4_refuse σ 0 ca sm 1).1 = v7 at hR hM hcn ⊢
      try dsimp only at hR
      refine W.eq (g2 := F0 m 24 ls [.int (v7)]) rfl ?_
      exact g_iret hx hb hr hlocks hS ⟨Nat.le_of_ble_eq_true rfl, Nat.le_of_ble_eq_true rfl⟩ dX4_road_24 (by subst hR; exact ⟨rfl, hM, hcn⟩)

def fX4_song (σ : St) (th : Int32) (ca : Int32) (sm : Int64) (a : Int32) (b : Int32) (c_ : Int32) (z : Int32) : Int32 × MSt :=
  (if ((fX4_is a 0 15)) = true then (if ((fX4_is b 0 11)) = true then (if ((fX4_is c_ 0 9)) = true then (if ((fX4_is z 2 9)) = true then (fun (σ3 : St) => (fun (σ4 : St) => (fun (σ5 : St) => (sMin σ ((Int32.toNatClampNeg a)), ((σ5, 0, ca, sm) : MSt))) (sW σ4 32 ((Int32.toNatClampNeg a)) z)) (sW σ3 31 ((Int32.toNatClampNeg a)) c_)) (sW σ 30 ((Int32.toNatClampNeg a)) b) else (fun (σ6 : St) => (fun (th6 : Int32) => (fun (ca6 : Int32) => (fun (sm6 : Int64) => (fun (v6 : Int32) => (v6, ((σ6, th6, ca6, sm6) : MSt))) ((fX4_refuse σ 0 ca sm 2).1)) ((fX4_refuse σ 0 ca sm 2).2.2.2.2)) ((fX4_refuse σ 0 ca sm 2).2.2.2.1)) ((fX4_refuse σ 0 ca sm 2).2.2.1)) ((fX4_refuse σ 0 ca sm 2).2.1)) else (fun (σ2 : St) => (fun (th2 : Int32) => (fun (ca2 : Int32) => (fun (sm2 : Int64) => (fun (v2 : Int32) => (v2, ((σ2, th2, ca2, sm2) : MSt))) ((fX4_refuse σ 0 ca sm 2).1)) ((fX4_refuse σ 0 ca sm 2).2.2.2.2)) ((fX4_refuse σ 0 ca sm 2).2.2.2.1)) ((fX4_refuse σ 0 ca sm 2).2.2.1)) ((fX4_refuse σ 0 ca sm 2).2.1)) else (fun (σ1 : St) => (fun (th1 : Int32) => (fun (ca1 : Int32) => (fun (sm1 : Int64) => (fun (v1 : Int32) => (v1, ((σ1, th1, ca1, sm1) : MSt))) ((fX4_refuse σ 0 ca sm 2).1)) ((fX4_refuse σ 0 ca sm 2).2.2.2.2)) ((fX4_refuse σ 0 ca sm 2).2.2.2.1)) ((fX4_refuse σ 0 ca sm 2).2.2.1)) ((fX4_refuse σ 0 ca sm 2).2.1)) else (fun (σ7 : St) => (fun (th7 : Int32) => (fun (ca7 : Int32) => (fun (sm7 : Int64) => (fun (v7 : Int32) => (v7, ((σ7, th7, ca7, sm7) : MSt))) ((fX4_refuse σ 0 ca sm 1).1)) ((fX4_refuse σ 0 ca sm 1).2.2.2.2)) ((fX4_refuse σ 0 ca sm 1).2.2.2.1)) ((fX4_refuse σ 0 ca sm 1).2.2.1)) ((fX4_refuse σ 0 ca sm 1).2.1))
set_option maxHeartbeats 4000000 in
set_option maxRecDepth 100000 in
theorem met_X4_song (l : Launch) (D : va_G) (E : Nat → Nat) {β : Nat → Nat → Nat} {F : Nat → Prop} {σ : St} {th ca : Int32} {sm : Int64} (a : Int32) (b : Int32) (c_ : Int32) (z : Int32)  : GM l D E yX4_song cX4_song 6 (Option.some Jvm.ClassFile.FieldType.int) 1 22 0 0 [.ref (β 0 0), .int (a), .int (b), .int (c_), .int (z)] (RM D E β F σ th ca sm) F F (fun sz v h => v = some (.int (fX4_song σ th ca sm a b c_ z).1) ∧ RM D E β (fN F sz) (fX4_song σ th ca sm a b c_ z).2.1 (fX4_song σ th ca sm a b c_ z).2.2.1 (fX4_song σ th ca sm a b c_ z).2.2.2.1 (fX4_song σ th ca sm a b c_ z).2.2.2.2 h ∧ cnt (fX4_song σ th ca sm a b c_ z).2.1 σ)  := by
  generalize hR : fX4_song σ th ca sm a b c_ z = r
  refine GM.start (by decide) (Nat.le_of_ble_eq_true rfl) ?_
  intro p e s m below meth c ls hx hb hr hml hown hlocks hnm hts hG hM hS hl
  have hown : s.vm.findClass RX4 = some m.cls := hown
  have hS0 : xS p m c cX4_song 6 s _ RX4 := ⟨hx, hb, hml, hown, hts⟩
  have hl : lv_has ls 6 [(0, .ref (β 0 0)), (1, .int (a)), (2, .int (b)), (3, .int (c_)), (4, .int (z))] := hl
  have hG0 := hG
  have hM0 := hM
  have hb0P := hM0.nP10
  have hb0B := hM0.nB6
  have hb0W := hM0.nW14
  have hFE := hM.fE
  have hM := hM.wide (n := s.heap.size) hG.2.2.1
  have hcn : cnt σ σ := cnt.rf
  unfold fX4_song at hR
  refine lv_aload_n hx hb dX4_song_0 rfl (lv_at hl 0 rfl) ?_
  refine lv_iconst (v := 0) hx hb dX4_song_1 (by decide) ?_
  refine pf (ty0 := tyX4) (ty := tyX4 0) (v := .int 0) (C := RX4) (T := TX4) (N := 13) (k := 0) hx hb hts hown hG hS cl_X4 in_X4 tyX4_ok nmX4 hM.ag hM.agF hM.agF (by decide) q1540 rfl (tyX4_ok 0 (by decide)) rfl rfl (Nat.le_of_ble_eq_true rfl) dX4_song_2 (fun H1 locs1 he hz hq hS => ?_)
  have hM := hM.Pth  he hq
  have hG := gE.ofS hG0 hS hFE
  refine lv_iload_n hx hb dX4_song_5 rfl (lv_at hl 1 rfl) ?_
  refine lv_iconst (v := 0) hx hb dX4_song_6 (by decide) ?_
  refine lv_bipush (v := 15) hx hb dX4_song_7 (by decide) ?_
  refine pcS (As := [.int (a), .int 0, .int 15]) (rest := []) hS0 (met_X4_is l D E a 0 15) q1588 q1589 q110 q1590 hd_X4_is ⟨Nat.le_of_ble_eq_true rfl, Nat.le_of_ble_eq_true rfl⟩ hG trivial rfl hl.1 rfl (Nat.le_of_ble_eq_true rfl) dX4_song_9 ⟨Nat.le_of_ble_eq_true rfl, Nat.le_of_ble_eq_true rfl⟩ ?_
  refine W.eq (g2 := F0 m 12 ls [.int (bI ((fX4_is a 0 15)))]) rfl ?_
  refine lb_if_ne (tgt := 21) hx hb dX4_song_12 (by decide) (fun c1 => ?_) (fun c1 => ?_)
  · rw [if_pos c1] at hR
    have nc1 := is_ix (n := 15) (by decide) c1
    refine lv_iload_n hx hb dX4_song_21 rfl (lv_at hl 2 rfl) ?_
    refine lv_iconst (v := 0) hx hb dX4_song_22 (by decide) ?_
    refine lv_bipush (v := 11) hx hb dX4_song_23 (by decide) ?_
    refine pcS (As := [.int (b), .int 0, .int 11]) (rest := []) hS0 (met_X4_is l D E b 0 11) q1588 q1589 q110 q1590 hd_X4_is ⟨Nat.le_of_ble_eq_true rfl, Nat.le_of_ble_eq_true rfl⟩ hG trivial rfl hl.1 rfl (Nat.le_of_ble_eq_true rfl) dX4_song_25 ⟨Nat.le_of_ble_eq_true rfl, Nat.le_of_ble_eq_true rfl⟩ ?_
    refine W.eq (g2 := F0 m 28 ls [.int (bI ((fX4_is b 0 11)))]) rfl ?_
    refine lb_if_eq (tgt := 52) hx hb dX4_song_28 (by decide) (fun c2 => ?_) (fun c2 => ?_)
    · rw [if_neg c2] at hR
      refine lv_aload_n hx hb dX4_song_52 rfl (lv_at hl 0 rfl) ?_
      refine lv_iconst (v := 2) hx hb dX4_song_53 (by decide) ?_
      have hB := hS.1
      refine gcV (As := [.int 2]) (rest := []) hS0 (met_X4_refuse l D E 2) q1591 q1593 qs55 q110 q1594 hd_X4_refuse ⟨Nat.le_of_ble_eq_true rfl, Nat.le_of_ble_eq_true rfl⟩ hG (rcv hG cl_X4 hM.ag) hM rfl hl.1 rfl (Nat.le_of_ble_eq_true rfl) dX4_song_54 ⟨Nat.le_of_ble_eq_true rfl, Nat.le_of_ble_eq_true rfl⟩ hS (fun q h => h) (fun q h => h) (fun v H1 locs1 hP hz hk hS => ?_)
      obtain ⟨rfl, hZ, hc8⟩ := hP
      have hM := hZ.mono (fun q _ => fN_fN hB q) hM.fE
      have hG := gE.ofS hG0 hS hFE
      have hcn := hc8.tr hcn
      generalize hv_σ1 : (fX4_refuse σ 0 ca sm 2).2.1 = σ1 at hR hM hcn ⊢
      generalize hv_th1 : (fX4_refuse σ 0 ca sm 2).2.2.1 = th1 at hR hM hcn ⊢
      generalize hv_ca1 : (fX4_refuse σ 0 ca sm 2).2.2.2.1 = ca1 at hR hM hcn ⊢
      generalize hv_sm1 : (fX4_refuse σ 0 ca sm 2).2.2.2.2 = sm1 at hR hM hcn ⊢
      generalize hv_v1 : (fX4_refuse σ 0 ca sm 2).1 = v1 at hR hM hcn ⊢
      try dsimp only at hR
      refine W.eq (g2 := F0 m 57 ls [.int (v1)]) rfl ?_
      exact g_iret hx hb hr hlocks hS ⟨Nat.le_of_ble_eq_true rfl, Nat.le_of_ble_eq_true rfl⟩ dX4_song_57 (by subst hR; exact ⟨rfl, hM, hcn⟩)
    · rw [if_pos c2] at hR
      refine lv_iload_n hx hb dX4_song_31 rfl (lv_at hl 3 rfl) ?_
      refine lv_iconst (v := 0) hx hb dX4_song_32 (by decide) ?_
      refine lv_bipush (v := 9) hx hb dX4_song_33 (by decide) ?_
      refine pcS (As := [.int (c_), .int 0, .int 9]) (rest := []) hS0 (met_X4_is l D E c_ 0 9) q1588 q1589 q110 q1590 hd_X4_is ⟨Nat.le_of_ble_eq_true rfl, Nat.le_of_ble_eq_true rfl⟩ hG trivial rfl hl.1 rfl (Nat.le_of_ble_eq_true rfl) dX4_song_35 ⟨Nat.le_of_ble_eq_true rfl, Nat.le_of_ble_eq_true rfl⟩ ?_
      refine W.eq (g2 := F0 m 38 ls [.int (bI ((fX4_is c_ 0 9)))]) rfl ?_
      refine lb_if_eq (tgt := 52) hx hb dX4_song_38 (by decide) (fun c3 => ?_) (fun c3 => ?_)
      · rw [if_neg c3] at hR
        refine lv_aload_n hx hb dX4_song_52 rfl (lv_at hl 0 rfl) ?_
        refine lv_iconst (v := 2) hx hb dX4_song_53 (by decide) ?_
        have hB := hS.1
        refine gcV (As := [.int 2]) (rest := []) hS0 (met_X4_refuse l D E 2) q1591 q1593 qs55 q110 q1594 hd_X4_refuse ⟨Nat.le_of_ble_eq_true rfl, Nat.le_of_ble_eq_true rfl⟩ hG (rcv hG cl_X4 hM.ag) hM rfl hl.1 rfl (Nat.le_of_ble_eq_true rfl) dX4_song_54 ⟨Nat.le_of_ble_eq_true rfl, Nat.le_of_ble_eq_true rfl⟩ hS (fun q h => h) (fun q h => h) (fun v H1 locs1 hP hz hk hS => ?_)
        obtain ⟨rfl, hZ, hc8⟩ := hP
        have hM := hZ.mono (fun q _ => fN_fN hB q) hM.fE
        have hG := gE.ofS hG0 hS hFE
        have hcn := hc8.tr hcn
        generalize hv_σ2 : (fX4_refuse σ 0 ca sm 2).2.1 = σ2 at hR hM hcn ⊢
        generalize hv_th2 : (fX4_refuse σ 0 ca sm 2).2.2.1 = th2 at hR hM hcn ⊢
        generalize hv_ca2 : (fX4_refuse σ 0 ca sm 2).2.2.2.1 = ca2 at hR hM hcn ⊢
        generalize hv_sm2 : (fX4_refuse σ 0 ca sm 2).2.2.2.2 = sm2 at hR hM hcn ⊢
        generalize hv_v2 : (fX4_refuse σ 0 ca sm 2).1 = v2 at hR hM hcn ⊢
        try dsimp only at hR
        refine W.eq (g2 := F0 m 57 ls [.int (v2)]) rfl ?_
        exact g_iret hx hb hr hlocks hS ⟨Nat.le_of_ble_eq_true rfl, Nat.le_of_ble_eq_true rfl⟩ dX4_song_57 (by subst hR; exact ⟨rfl, hM, hcn⟩)
      · rw [if_pos c3] at hR
        refine lv_iload hx hb dX4_song_41 (lv_at hl 4 rfl) ?_
        refine lv_iconst (v := 2) hx hb dX4_song_43 (by decide) ?_
        refine lv_bipush (v := 9) hx hb dX4_song_44 (by decide) ?_
        refine pcS (As := [.int (z), .int 2, .int 9]) (rest := []) hS0 (met_X4_is l D E z 2 9) q1588 q1589 q110 q1590 hd_X4_is ⟨Nat.le_of_ble_eq_true rfl, Nat.le_of_ble_eq_true rfl⟩ hG trivial rfl hl.1 rfl (Nat.le_of_ble_eq_true rfl) dX4_song_46 ⟨Nat.le_of_ble_eq_true rfl, Nat.le_of_ble_eq_true rfl⟩ ?_
        refine W.eq (g2 := F0 m 49 ls [.int (bI ((fX4_is z 2 9)))]) rfl ?_
        refine lb_if_ne (tgt := 58) hx hb dX4_song_49 (by decide) (fun c4 => ?_) (fun c4 => ?_)
        · rw [if_pos c4] at hR
          refine lv_aload_n hx hb dX4_song_58 rfl (lv_at hl 0 rfl) ?_
          refine gf (v := .ref (β 8 2)) (C := RX4) (T := TX4) (N := 13) (k := 8) hx hb hts hown hG cl_X4 in_X4 hM.ag (by decide) q1548 rfl dX4_song_59 ?_
          refine lv_iload_n hx hb dX4_song_62 rfl (lv_at hl 1 rfl) ?_
          refine lv_eq nc1.1 ?_
          refine gaI (N := 16) (k := (Int32.toNatClampNeg a)) hx hb hG hM.ar2 nc1.2 (by decide) dX4_song_63 ?_
          refine lv_istore (lv' := [(5, .int (sMin σ ((Int32.toNatClampNeg a)))), (0, .ref (β 0 0)), (1, .int (a)), (2, .int (b)), (3, .int (c_)), (4, .int (z))]) hx hb dX4_song_64 hl (Nat.le_of_ble_eq_true rfl) rfl (fun ls hl => ?_)
          refine lv_aload_n hx hb dX4_song_66 rfl (lv_at hl 1 rfl) ?_
          refine gf (v := .ref (β 8 0)) (C := RX4) (T := TX4) (N := 13) (k := 6) hx hb hts hown hG cl_X4 in_X4 hM.ag (by decide) q1546 rfl dX4_song_67 ?_
          refine lv_iload_n hx hb dX4_song_70 rfl (lv_at hl 2 rfl) ?_
          refine lv_eq nc1.1 ?_
          refine lv_iload_n hx hb dX4_song_71 rfl (lv_at hl 3 rfl) ?_
          refine paI (N := 16) (k := (Int32.toNatClampNeg a)) hx hb hG hS hM.ar0 hM.ar0F hM.ar0F nc1.2 (by decide) dX4_song_72 (fun H1 locs1 he hz hq hS => ?_)
          have hM := hM.Pa30  he hq
          have hG := gE.ofS hG0 hS hFE
          obtain ⟨σ3, hσ3⟩ : ∃ x, x = sW σ 30 ((Int32.toNatClampNeg a)) b := ⟨_, rfl⟩
          rw [← hσ3] at hR hM
          have hcn : cnt σ3 σ := by rw [hσ3]; exact hcn.sW
          try dsimp only at hR
          refine lv_aload_n hx hb dX4_song_73 rfl (lv_at hl 1 rfl) ?_
          refine gf (v := .ref (β 8 1)) (C := RX4) (T := TX4) (N := 13) (k := 7) hx hb hts hown hG cl_X4 in_X4 hM.ag (by decide) q1547 rfl dX4_song_74 ?_
          refine lv_iload_n hx hb dX4_song_77 rfl (lv_at hl 2 rfl) ?_
          refine lv_eq nc1.1 ?_
          refine lv_iload_n hx hb dX4_song_78 rfl (lv_at hl 4 rfl) ?_
          refine paI (N := 16) (k := (Int32.toNatClampNeg a)) hx hb hG hS hM.ar1 hM.ar1F hM.ar1F nc1.2 (by decide) dX4_song_79 (fun H1 locs1 he hz hq hS => ?_)
          have hM := hM.Pa31  he hq
          have hG := gE.ofS hG0 hS hFE
          obtain ⟨σ4, hσ4⟩ : ∃ x, x = sW σ3 31 ((Int32.toNatClampNeg a)) c_ := ⟨_, rfl⟩
          rw [← hσ4] at hR hM
          have hcn : cnt σ4 σ := by rw [hσ4]; exact hcn.sW
          try dsimp only at hR
          refine lv_aload_n hx hb dX4_song_80 rfl (lv_at hl 1 rfl) ?_
          refine gf (v := .ref (β 8 2)) (C := RX4) (T := TX4) (N := 13) (k := 8) hx hb hts hown hG cl_X4 in_X4 hM.ag (by decide) q1548 rfl dX4_song_81 ?_
          refine lv_iload_n hx hb dX4_song_84 rfl (lv_at hl 2 rfl) ?_
          refine lv_eq nc1.1 ?_
          refine lv_iload hx hb dX4_song_85 (lv_at hl 5 rfl) ?_
          refine paI (N := 16) (k := (Int32.toNatClampNeg a)) hx hb hG hS hM.ar2 hM.ar2F hM.ar2F nc1.2 (by decide) dX4_song_87 (fun H1 locs1 he hz hq hS => ?_)
          have hM := hM.Pa32  he hq
          have hG := gE.ofS hG0 hS hFE
          obtain ⟨σ5, hσ5⟩ : ∃ x, x = sW σ4 32 ((Int32.toNatClampNeg a)) z := ⟨_, rfl⟩
          rw [← hσ5] at hR hM
          have hcn : cnt σ5 σ := by rw [hσ5]; exact hcn.sW
          try dsimp only at hR
          refine lv_iload hx hb dX4_song_88 (lv_at hl 0 rfl) ?_
          exact g_iret hx hb hr hlocks hS ⟨Nat.le_of_ble_eq_true rfl, Nat.le_of_ble_eq_true rfl⟩ dX4_song_90 (by subst hR; exact ⟨rfl, hM, hcn⟩)
        · rw [if_neg c4] at hR
          refine lv_aload_n hx hb dX4_song_52 rfl (lv_at hl 0 rfl) ?_
          refine lv_iconst (v := 2) hx hb dX4_song_53 (by decide) ?_
          have hB := hS.1
          refine gcV (As := [.int 2]) (rest := []) hS0 (met_X4_refuse l D E 2) q1591 q1593 qs55 q110 q1594 hd_X4_refuse ⟨Nat.le_of_ble_eq_true rfl, Nat.le_of_ble_eq_true rfl⟩ hG (rcv hG cl_X4 hM.ag) hM rfl hl.1 rfl (Nat.le_of_ble_eq_true rfl) dX4_song_54 ⟨Nat.le_of_ble_eq_true rfl, Nat.le_of_ble_eq_true rfl⟩ hS (fun q h => h) (fun q h => h) (fun v H1 locs1 hP hz hk hS => ?_)
          obtain ⟨rfl, hZ, hc8⟩ := hP
          have hM := hZ.mono (fun q _ => fN_fN hB q) hM.fE
          have hG := gE.ofS hG0 hS hFE
          have hcn := hc8.tr hcn
          generalize hv_σ6 : (fX4_refuse σ 0 ca sm 2).2.1 = σ6 at hR hM hcn ⊢
          generalize hv_th6 : (fX4_refuse σ 0 ca sm 2).2.2.1 = th6 at hR hM hcn ⊢
          generalize hv_ca6 : (fX4_refuse σ 0 ca sm 2).2.2.2.1 = ca6 at hR hM hcn ⊢
          generalize hv_sm6 : (fX4_refuse σ 0 ca sm 2).2.2.2.2 = sm6 at hR hM hcn ⊢
          generalize hv_v6 : (fX4_refuse σ 0 ca sm 2).1 = v6 at hR hM hcn ⊢
          try dsimp only at hR
          refine W.eq (g2 := F0 m 57 ls [.int (v6)]) rfl ?_
          exact g_iret hx hb hr hlocks hS ⟨Nat.le_of_ble_eq_true rfl, Nat.le_of_ble_eq_true rfl⟩ dX4_song_57 (by subst hR; exact ⟨rfl, hM, hcn⟩)
  · rw [if_neg c1] at hR
    refine lv_aload_n hx hb dX4_song_15 rfl (lv_at hl 0 rfl) ?_
    refine lv_iconst (v := 1) hx hb dX4_song_16 (by decide) ?_
    have hB := hS.1
    refine gcV (As := [.int 1]) (rest := []) hS0 (met_X4_refuse l D E 1) q1591 q1593 qs55 q110 q1594 hd_X4_refuse ⟨Nat.le_of_ble_eq_true rfl, Nat.le_of_ble_eq_true rfl⟩ hG (rcv hG cl_X4 hM.ag) hM rfl hl.1 rfl (Nat.le_of_ble_eq_true rfl) dX4_song_17 ⟨Nat.le_of_ble_eq_true rfl, Nat.le_of_ble_eq_true rfl⟩ hS (fun q h => h) (fun q h => h) (fun v H1 locs1 hP hz hk hS => ?_)
    obtain ⟨rfl, hZ, hc8⟩ := hP
    have hM := hZ.mono (fun q _ => fN_fN hB q) hM.fE
    have hG := gE.ofS hG0 hS hFE
    have hcn := hc8.tr hcn
    generalize hv_σ7 : (fX4_refuse σ 0 ca sm 1).2.1 = σ7 at hR hM hcn ⊢
    generalize hv_th7 : (fX4_refuse σ 0 ca sm 1).2.2.1 = th7 at hR hM hcn ⊢
    generalize hv_ca7 : (fX4_refuse σ 0 ca sm 1).2.2.2.1 = ca7 at hR hM hcn ⊢
    generalize hv_sm7 : (fX4_refuse σ 0 ca sm 1).2.2.2.2 = sm7 at hR hM hcn ⊢
    generalize hv_v7 : (fX4_refuse σ 0 ca sm 1).1 = v7 at hR hM hcn ⊢
    try dsimp only at hR
    refine W.eq (g2 := F0 m 20 ls [.int (v7)]) rfl ?_
    exact g_iret hx hb hr hlocks hS ⟨Nat.le_of_ble_eq_true rfl, Nat.le_of_ble_eq_true rfl⟩ dX4_song_20 (by subst hR; exact ⟨rfl, hM, hcn⟩)

def fX4_feud (σ : St) (th : Int32) (ca : Int32) (sm : Int64) (a : Int32) (b : Int32) (z : Bool) : Bool × MSt :=
  (if ((fX4_isPlayer σ a)) = true then (if ((fX4_isPlayer σ b)) = true then (if (nI ((Int32.toNatClampNeg a))) = (nI ((Int32.toNatClampNeg b))) then (false, ((σ, 2, ca, sm) : MSt)) else (if z = true then (fun (σ4 : St) => (if z = true then (fun (σ6 : St) => ((fX4_isIn (pFeuds σ ((Int32.toNatClampNeg a))) (nI ((Int32.toNatClampNeg b)))), ((σ6, 0, ca, sm) : MSt))) (sW σ4 13 ((Int32.toNatClampNeg b)) ((pFeuds σ4 ((Int32.toNatClampNeg b))) ||| (1 <<< ((nI ((Int32.toNatClampNeg a))) &&& 31)))) else (fun (σ5 : St) => ((fX4_isIn (pFeuds σ ((Int32.toNatClampNeg a))) (nI ((Int32.toNatClampNeg b)))), ((σ5, 0, ca, sm) : MSt))) (sW σ4 13 ((Int32.toNatClampNeg b)) ((pFeuds σ4 ((Int32.toNatClampNeg b))) &&& ((1 <<< ((nI ((Int32.toNatClampNeg a))) &&& 31)) ^^^ ((-1))))))) (sW σ 13 ((Int32.toNatClampNeg a)) ((pFeuds σ ((Int32.toNatClampNeg a))) ||| (1 <<< ((nI ((Int32.toNatClampNeg b))) &&& 31)))) else (fun (σ1 : St) => (if z = true then (fun (σ3 : St) => ((fX4_isIn (pFeuds σ ((Int32.toNatClampNeg a))) (nI ((Int32.toNatClampNeg b)))), ((σ3, 0, ca, sm) : MSt))) (sW σ1 13 ((Int32.toNatClampNeg b)) ((pFeuds σ1 ((Int32.toNatClampNeg b))) ||| (1 <<< ((nI ((Int32.toNatClampNeg a))) &&& 31)))) else (fun (σ2 : St) => ((fX4_isIn (pFeuds σ ((Int32.toNatClampNeg a))) (nI ((Int32.toNatClampNeg b)))), ((σ2, 0, ca, sm) : MSt))) (sW σ1 13 ((Int32.toNatClampNeg b)) ((pFeuds σ1 ((Int32.toNatClampNeg b))) &&& ((1 <<< ((nI ((Int32.toNatClampNeg a))) &&& 31)) ^^^ ((-1))))))) (sW σ 13 ((Int32.toNatClampNeg a)) ((pFeuds σ ((Int32.toNatClampNeg a))) &&& ((1 <<< ((nI ((Int32.toNatClampNeg b))) &&& 31)) ^^^ ((-1))))))) else (false, ((σ, 1, ca, sm) : MSt))) else (false, ((σ, 1, ca, sm) : MSt)))
set_option maxHeartbeats 4000000 in
set_option maxRecDepth 100000 in
theorem met_X4_feud (l : Launch) (D : va_G) (E : Nat → Nat) {β : Nat → Nat → Nat} {F : Nat → Prop} {σ : St} {th ca : Int32} {sm : Int64} (a : Int32) (b : Int32) (z : Bool)  : GM l D E yX4_feud cX4_feud 7 (Option.some Jvm.ClassFile.FieldType.boolean) 3 64 0 0 [.ref (β 0 0), .int (a), .int (b), .int (bI z)] (RM D E β F σ th ca sm) F F (fun sz v h => v = some (.int (bI (fX4_feud σ th ca sm a b z).1)) ∧ RM D E β (fN F sz) (fX4_feud σ th ca sm a b z).2.1 (fX4_feud σ th ca sm a b z).2.2.1 (fX4_feud σ th ca sm a b z).2.2.2.1 (fX4_feud σ th ca sm a b z).2.2.2.2 h ∧ cnt (fX4_feud σ th ca sm a b z).2.1 σ)  := by
  generalize hR : fX4_feud σ th ca sm a b z = r
  refine GM.start (by decide) (Nat.le_of_ble_eq_true rfl) ?_
  intro p e s m below meth c ls hx hb hr hml hown hlocks hnm hts hG hM hS hl
  have hown : s.vm.findClass RX4 = some m.cls := hown
  have hS0 : xS p m c cX4_feud 7 s _ RX4 := ⟨hx, hb, hml, hown, hts⟩
  have hl : lv_has ls 7 [(0, .ref (β 0 0)), (1, .int (a)), (2, .int (b)), (3, .int (bI z))] := hl
  have hG0 := hG
  have hM0 := hM
  have hb0P := hM0.nP10
  have hb0B := hM0.nB6
  have hb0W := hM0.nW14
  have hFE := hM.fE
  have hM := hM.wide (n := s.heap.size) hG.2.2.1
  have hcn : cnt σ σ := cnt.rf
  unfold fX4_feud at hR
  refine lv_aload_n hx hb dX4_feud_0 rfl (lv_at hl 0 rfl) ?_
  refine lv_aload_n hx hb dX4_feud_1 rfl (lv_at hl 0 rfl) ?_
  refine lv_iload_n hx hb dX4_feud_2 rfl (lv_at hl 1 rfl) ?_
  refine pcV (As := [.int (a)]) (rest := [.ref (β 0 0)]) hS0 (met_X4_isPlayer l D E a) q1635 q1637 qs57 q110 q1638 hd_X4_isPlayer ⟨Nat.le_of_ble_eq_true rfl, Nat.le_of_ble_eq_true rfl⟩ hG (rcv hG cl_X4 hM.ag) hM rfl hl.1 rfl (Nat.le_of_ble_eq_true rfl) dX4_feud_3 ⟨Nat.le_of_ble_eq_true rfl, Nat.le_of_ble_eq_true rfl⟩ ?_
  refine W.eq (g2 := F0 m 6 ls [.int (bI ((fX4_isPlayer σ a))), .ref (β 0 0)]) rfl ?_
  refine lb_if_eq (tgt := 17) hx hb dX4_feud_6 (by decide) (fun c1 => ?_) (fun c1 => ?_)
  · rw [if_neg c1] at hR
    refine lv_iconst (v := 1) hx hb dX4_feud_17 (by decide) ?_
    refine lv_goto (tgt := 31) hx hb dX4_feud_18 (by decide) ?_
    refine pf (ty0 := tyX4) (ty := tyX4 0) (v := .int 1) (C := RX4) (T := TX4) (N := 13) (k := 0) hx hb hts hown hG hS cl_X4 in_X4 tyX4_ok nmX4 hM.ag hM.agF hM.agF (by decide) q1540 rfl (tyX4_ok 0 (by decide)) rfl rfl (Nat.le_of_ble_eq_true rfl) dX4_feud_31 (fun H1 locs1 he hz hq hS => ?_)
    have hM := hM.Pth  he hq
    have hG := gE.ofS hG0 hS hFE
    refine lv_aload_n hx hb dX4_feud_34 rfl (lv_at hl 0 rfl) ?_
    refine gf (v := .int 1) (C := RX4) (T := TX4) (N := 13) (k := 0) hx hb hts hown hG cl_X4 in_X4 hM.ag (by decide) q1540 rfl dX4_feud_35 ?_
    refine lv_if_le (tgt := 43) hx hb dX4_feud_38 (by decide) (fun c9 => absurd c9 (by decide)) (fun _ => ?_)
    refine lv_iconst (v := 0) hx hb dX4_feud_41 (by decide) ?_
    exact g_zret (b := false) hx hb hr hlocks hS ⟨Nat.le_of_ble_eq_true rfl, Nat.le_of_ble_eq_true rfl⟩ dX4_feud_42 rfl (by subst hR; exact ⟨rfl, hM, hcn⟩)
  · rw [if_pos c1] at hR
    have nc1 := isPlayer_ix hM c1
    refine lv_aload_n hx hb dX4_feud_9 rfl (lv_at hl 0 rfl) ?_
    refine lv_iload_n hx hb dX4_feud_10 rfl (lv_at hl 2 rfl) ?_
    refine pcV (As := [.int (b)]) (rest := [.ref (β 0 0)]) hS0 (met_X4_isPlayer l D E b) q1635 q1637 qs57 q110 q1638 hd_X4_isPlayer ⟨Nat.le_of_ble_eq_true rfl, Nat.le_of_ble_eq_true rfl⟩ hG (rcv hG cl_X4 hM.ag) hM rfl hl.1 rfl (Nat.le_of_ble_eq_true rfl) dX4_feud_11 ⟨Nat.le_of_ble_eq_true rfl, Nat.le_of_ble_eq_true rfl⟩ ?_
    refine W.eq (g2 := F0 m 14 ls [.int (bI ((fX4_isPlayer σ b))), .ref (β 0 0)]) rfl ?_
    refine lb_if_ne (tgt := 21) hx hb dX4_feud_14 (by decide) (fun c2 => ?_) (fun c2 => ?_)
    · rw [if_pos c2] at hR
      have nc2 := isPlayer_ix hM c2
      refine lv_iload_n hx hb dX4_feud_21 rfl (lv_at hl 1 rfl) ?_
      refine lv_eq nc1.1 ?_
      refine lv_iload_n hx hb dX4_feud_22 rfl (lv_at hl 2 rfl) ?_
      refine lv_eq nc2.1 ?_
      refine lv_icmp_ne (tgt := 30) hx hb dX4_feud_23 (by decide) (fun c3 => ?_) (fun c3 => ?_)
      · rw [if_neg c3] at hR
        refine lv_iconst (v := 0) hx hb dX4_feud_30 (by decide) ?_
        refine pf (ty0 := tyX4) (ty := tyX4 0) (v := .int 0) (C := RX4) (T := TX4) (N := 13) (k := 0) hx hb hts hown hG hS cl_X4 in_X4 tyX4_ok nmX4 hM.ag hM.agF hM.agF (by decide) q1540 rfl (tyX4_ok 0 (by decide)) rfl rfl (Nat.le_of_ble_eq_true rfl) dX4_feud_31 (fun H1 locs1 he hz hq hS => ?_)
        have hM := hM.Pth  he hq
        have hG := gE.ofS hG0 hS hFE
        refine lv_aload_n hx hb dX4_feud_34 rfl (lv_at hl 0 rfl) ?_
        refine gf (v := .int 0) (C := RX4) (T := TX4) (N := 13) (k := 0) hx hb hts hown hG cl_X4 in_X4 hM.ag (by decide) q1540 rfl dX4_feud_35 ?_
        refine lv_if_le (tgt := 43) hx hb dX4_feud_38 (by decide) (fun _ => ?_) (fun c9 => absurd (by decide) c9)
        refine lv_aload_n hx hb dX4_feud_43 rfl (lv_at hl 0 rfl) ?_
        refine gf (v := .ref (β 1 0)) (C := RX4) (T := TX4) (N := 13) (k := 3) hx hb hts hown hG cl_X4 in_X4 hM.ag (by decide) q1543 rfl dX4_feud_44 ?_
        refine lv_iload_n hx hb dX4_feud_47 rfl (lv_at hl 1 rfl) ?_
        refine lv_eq nc1.1 ?_
        refine pcV (As := [.int (nI ((Int32.toNatClampNeg a)))]) (rest := []) hS0 (met_ml_get l D E (j := 0) (by decide) ((Int32.toNatClampNeg a)) nc1.2) q1639 q349 q2082 q103 q351 hd_J2_get ⟨Nat.le_of_ble_eq_true rfl, Nat.le_of_ble_eq_true rfl⟩ hG (hM.lsR hG (j := 0) (by decide)) hM rfl hl.1 rfl (Nat.le_of_ble_eq_true rfl) dX4_feud_48 ⟨Nat.le_of_ble_eq_true rfl, Nat.le_of_ble_eq_true rfl⟩ ?_
        refine W.eq (g2 := F0 m 51 ls [.ref (β 3 ((Int32.toNatClampNeg a)))]) rfl ?_
        refine gc (ci := 6) hx hb hown hG cl_X7 (rcv hG cl_X7 (hM.pl nc1.2)) (hts _ q1601) dX4_feud_51 ?_
        refine lv_astore (lv' := [(4, .ref (β 3 ((Int32.toNatClampNeg a)))), (0, .ref (β 0 0)), (1, .int (a)), (2, .int (b)), (3, .int (bI z))]) hx hb dX4_feud_54 hl (Nat.le_of_ble_eq_true rfl) rfl (fun ls hl => ?_)
        refine lv_aload_n hx hb dX4_feud_56 rfl (lv_at hl 1 rfl) ?_
        refine gf (v := .ref (β 1 0)) (C := RX4) (T := TX4) (N := 13) (k := 3) hx hb hts hown hG cl_X4 in_X4 hM.ag (by decide) q1543 rfl dX4_feud_57 ?_
        refine lv_iload_n hx hb dX4_feud_60 rfl (lv_at hl 3 rfl) ?_
        refine lv_eq nc2.1 ?_
        refine pcV (As := [.int (nI ((Int32.toNatClampNeg b)))]) (rest := []) hS0 (met_ml_get l D E (j := 0) (by decide) ((Int32.toNatClampNeg b)) nc2.2) q1639 q349 q2082 q103 q351 hd_J2_get ⟨Nat.le_of_ble_eq_true rfl, Nat.le_of_ble_eq_true rfl⟩ hG (hM.lsR hG (j := 0) (by decide)) hM rfl hl.1 rfl (Nat.le_of_ble_eq_true rfl) dX4_feud_61 ⟨Nat.le_of_ble_eq_true rfl, Nat.le_of_ble_eq_true rfl⟩ ?_
        refine W.eq (g2 := F0 m 64 ls [.ref (β 3 ((Int32.toNatClampNeg b)))]) rfl ?_
        refine gc (ci := 6) hx hb hown hG cl_X7 (rcv hG cl_X7 (hM.pl nc2.2)) (hts _ q1601) dX4_feud_64 ?_
        refine lv_astore (lv' := [(5, .ref (β 3 ((Int32.toNatClampNeg b)))), (4, .ref (β 3 ((Int32.toNatClampNeg a)))), (0, .ref (β 0 0)), (1, .int (a)), (2, .int (b)), (3, .int (bI z))]) hx hb dX4_feud_67 hl (Nat.le_of_ble_eq_true rfl) rfl (fun ls hl => ?_)
        refine lv_aload hx hb dX4_feud_69 (lv_at hl 1 rfl) ?_
        refine gfN (v := .int (pFeuds σ ((Int32.toNatClampNeg a)))) (C := RX7) (T := TX7) (N := 7) (k := 4) hx hb hts hown hG cl_X7 in_X7 (hM.pl nc1.2) (by decide) q1611 rfl dX4_feud_71 ?_
        refine lv_iload_n hx hb dX4_feud_74 rfl (lv_at hl 4 rfl) ?_
        refine lv_eq nc2.1 ?_
        refine pcS (As := [.int (pFeuds σ ((Int32.toNatClampNeg a))), .int (nI ((Int32.toNatClampNeg b)))]) (rest := []) hS0 (met_X4_isIn l D E (pFeuds σ ((Int32.toNatClampNeg a))) (nI ((Int32.toNatClampNeg b)))) q1654 q1655 q110 q1656 hd_X4_isIn ⟨Nat.le_of_ble_eq_true rfl, Nat.le_of_ble_eq_true rfl⟩ hG trivial rfl hl.1 rfl (Nat.le_of_ble_eq_true rfl) dX4_feud_75 ⟨Nat.le_of_ble_eq_true rfl, Nat.le_of_ble_eq_true rfl⟩ ?_
        refine W.eq (g2 := F0 m 78 ls [.int (bI ((fX4_isIn (pFeuds σ ((Int32.toNatClampNeg a))) (nI ((Int32.toNatClampNeg b))))))]) rfl ?_
        refine lv_istore (lv' := [(6, .int (bI ((fX4_isIn (pFeuds σ ((Int32.toNatClampNeg a))) (nI ((Int32.toNatClampNeg b))))))), (5, .ref (β 3 ((Int32.toNatClampNeg b)))), (4, .ref (β 3 ((Int32.toNatClampNeg a)))), (0, .ref (β 0 0)), (1, .int (a)), (2, .int (b)), (3, .int (bI z))]) hx hb dX4_feud_78 hl (Nat.le_of_ble_eq_true rfl) rfl (fun ls hl => ?_)
        refine lv_aload hx hb dX4_feud_80 (lv_at hl 2 rfl) ?_
        refine lv_iload_n hx hb dX4_feud_82 rfl (lv_at hl 6 rfl) ?_
        refine lb_if_eq (tgt := 98) hx hb dX4_feud_83 (by decide) (fun c4 => ?_) (fun c4 => ?_)
        · rw [if_neg c4] at hR
          refine lv_aload hx hb dX4_feud_98 (lv_at hl 2 rfl) ?_
          refine gfN (v := .int (pFeuds σ ((Int32.toNatClampNeg a)))) (C := RX7) (T := TX7) (N := 7) (k := 4) hx hb hts hown hG cl_X7 in_X7 (hM.pl nc1.2) (by decide) q1611 rfl dX4_feud_100 ?_
          refine lv_iconst (v := 1) hx hb dX4_feud_103 (by decide) ?_
          refine lv_iload_n hx hb dX4_feud_104 rfl (lv_at hl 5 rfl) ?_
          refine lv_eq nc2.1 ?_
          refine lv_ishl hx hb dX4_feud_105 ?_
          refine lv_iconst (v := (-1)) hx hb dX4_feud_106 (by decide) ?_
          refine lv_ixor hx hb dX4_feud_107 ?_
          refine lv_iand hx hb dX4_feud_108 ?_
          refine pfN (ty0 := tyX7) (ty := tyX7 4) (v := .int ((pFeuds σ ((Int32.toNatClampNeg a))) &&& ((1 <<< ((nI ((Int32.toNatClampNeg b))) &&& 31)) ^^^ ((-1))))) (C := RX7) (T := TX7) (N := 7) (k := 4) hx hb hts hown hG hS cl_X7 in_X7 tyX7_ok nmX7 (hM.pl nc1.2) (hM.plF nc1.2) (hM.plF nc1.2) (by decide) q1611 rfl (tyX7_ok 4 (by decide)) rfl rfl (Nat.le_of_ble_eq_true rfl) dX4_feud_109 (fun H1 locs1 he hz hq hS => ?_)
          have hM := hM.Pp13 nc1.2 he hq
          have hG := gE.ofS hG0 hS hFE
          obtain ⟨σ1, hσ1⟩ : ∃ x, x = sW σ 13 ((Int32.toNatClampNeg a)) ((pFeuds σ ((Int32.toNatClampNeg a))) &&& ((1 <<< ((nI ((Int32.toNatClampNeg b))) &&& 31)) ^^^ ((-1)))) := ⟨_, rfl⟩
          rw [← hσ1] at hR hM
          have hcn : cnt σ1 σ := by rw [hσ1]; exact hcn.sW
          try dsimp only at hR
          refine lv_aload hx hb dX4_feud_112 (lv_at hl 1 rfl) ?_
          refine lv_iload_n hx hb dX4_feud_114 rfl (lv_at hl 6 rfl) ?_
          refine lb_if_eq (tgt := 130) hx hb dX4_feud_115 (by decide) (fun c5 => ?_) (fun c5 => ?_)
          · rw [if_neg c5] at hR
            refine lv_aload hx hb dX4_feud_130 (lv_at hl 1 rfl) ?_
            refine gfN (v := .int (pFeuds σ1 ((Int32.toNatClampNeg b)))) (C := RX7) (T := TX7) (N := 7) (k := 4) hx hb hts hown hG cl_X7 in_X7 (hM.pl (hcn.p nc2.2)) (by decide) q1611 rfl dX4_feud_132 ?_
            refine lv_iconst (v := 1) hx hb dX4_feud_135 (by decide) ?_
            refine lv_iload_n hx hb dX4_feud_136 rfl (lv_at hl 4 rfl) ?_
            refine lv_eq nc1.1 ?_
            refine lv_ishl hx hb dX4_feud_137 ?_
            refine lv_iconst (v := (-1)) hx hb dX4_feud_138 (by decide) ?_
            refine lv_ixor hx hb dX4_feud_139 ?_
            refine lv_iand hx hb dX4_feud_140 ?_
            refine pfN (ty0 := tyX7) (ty := tyX7 4) (v := .int ((pFeuds σ1 ((Int32.toNatClampNeg b))) &&& ((1 <<< ((nI ((Int32.toNatClampNeg a))) &&& 31)) ^^^ ((-1))))) (C := RX7) (T := TX7) (N := 7) (k := 4) hx hb hts hown hG hS cl_X7 in_X7 tyX7_ok nmX7 (hM.pl (hcn.p nc2.2)) (hM.plF (hcn.p nc2.2)) (hM.plF (hcn.p nc2.2)) (by decide) q1611 rfl (tyX7_ok 4 (by decide)) rfl rfl (Nat.le_of_ble_eq_true rfl) dX4_feud_141 (fun H1 locs1 he hz hq hS => ?_)
            have hM := hM.Pp13 (hcn.p nc2.2) he hq
            have hG := gE.ofS hG0 hS hFE
            obtain ⟨σ2, hσ2⟩ : ∃ x, x = sW σ1 13 ((Int32.toNatClampNeg b)) ((pFeuds σ1 ((Int32.toNatClampNeg b))) &&& ((1 <<< ((nI ((Int32.toNatClampNeg a))) &&& 31)) ^^^ ((-1)))) := ⟨_, rfl⟩
            rw [← hσ2] at hR hM
            have hcn : cnt σ2 σ := by rw [hσ2]; exact hcn.sW
            try dsimp only at hR
            refine lv_iload hx hb dX4_feud_144 (lv_at hl 0 rfl) ?_
            exact g_zret (b := (fX4_isIn (pFeuds σ ((Int32.toNatClampNeg a))) (nI ((Int32.toNatClampNeg b))))) hx hb hr hlocks hS ⟨Nat.le_of_ble_eq_true rfl, Nat.le_of_ble_eq_true rfl⟩ dX4_feud_146 rfl (by subst hR; exact ⟨rfl, hM, hcn⟩)
          · rw [if_pos c5] at hR
            refine lv_aload hx hb dX4_feud_118 (lv_at hl 1 rfl) ?_
            refine gfN (v := .int (pFeuds σ1 ((Int32.toNatClampNeg b)))) (C := RX7) (T := TX7) (N := 7) (k := 4) hx hb hts hown hG cl_X7 in_X7 (hM.pl (hcn.p nc2.2)) (by decide) q1611 rfl dX4_feud_120 ?_
            refine lv_iconst (v := 1) hx hb dX4_feud_123 (by decide) ?_
            refine lv_iload_n hx hb dX4_feud_124 rfl (lv_at hl 4 rfl) ?_
            refine lv_eq nc1.1 ?_
            refine lv_ishl hx hb dX4_feud_125 ?_
            refine lv_ior hx hb dX4_feud_126 ?_
            refine lv_goto (tgt := 141) hx hb dX4_feud_127 (by decide) ?_
            refine pfN (ty0 := tyX7) (ty := tyX7 4) (v := .int ((pFeuds σ1 ((Int32.toNatClampNeg b))) ||| (1 <<< ((nI ((Int32.toNatClampNeg a))) &&& 31)))) (C := RX7) (T := TX7) (N := 7) (k := 4) hx hb hts hown hG hS cl_X7 in_X7 tyX7_ok nmX7 (hM.pl (hcn.p nc2.2)) (hM.plF (hcn.p nc2.2)) (hM.plF (hcn.p nc2.2)) (by decide) q1611 rfl (tyX7_ok 4 (by decide)) rfl rfl (Nat.le_of_ble_eq_true rfl) dX4_feud_141 (fun H1 locs1 he hz hq hS => ?_)
            have hM := hM.Pp13 (hcn.p nc2.2) he hq
            have hG := gE.ofS hG0 hS hFE
            obtain ⟨σ3, hσ3⟩ : ∃ x, x = sW σ1 13 ((Int32.toNatClampNeg b)) ((pFeuds σ1 ((Int32.toNatClampNeg b))) ||| (1 <<< ((nI ((Int32.toNatClampNeg a))) &&& 31))) := ⟨_, rfl⟩
            rw [← hσ3] at hR hM
            have hcn : cnt σ3 σ := by rw [hσ3]; exact hcn.sW
            try dsimp only at hR
            refine lv_iload hx hb dX4_feud_144 (lv_at hl 0 rfl) ?_
            exact g_zret (b := (fX4_isIn (pFeuds σ ((Int32.toNatClampNeg a))) (nI ((Int32.toNatClampNeg b))))) hx hb hr hlocks hS ⟨Nat.le_of_ble_eq_true rfl, Nat.le_of_ble_eq_true rfl⟩ dX4_feud_146 rfl (by subst hR; exact ⟨rfl, hM, hcn⟩)
        · rw [if_pos c4] at hR
          refine lv_aload hx hb dX4_feud_86 (lv_at hl 2 rfl) ?_
          refine gfN (v := .int (pFeuds σ ((Int32.toNatClampNeg a)))) (C := RX7) (T := TX7) (N := 7) (k := 4) hx hb hts hown hG cl_X7 in_X7 (hM.pl nc1.2) (by decide) q1611 rfl dX4_feud_88 ?_
          refine lv_iconst (v := 1) hx hb dX4_feud_91 (by decide) ?_
          refine lv_iload_n hx hb dX4_feud_92 rfl (lv_at hl 5 rfl) ?_
          refine lv_eq nc2.1 ?_
          refine lv_ishl hx hb dX4_feud_93 ?_
          refine lv_ior hx hb dX4_feud_94 ?_
          refine lv_goto (tgt := 109) hx hb dX4_feud_95 (by decide) ?_
          refine pfN (ty0 := tyX7) (ty := tyX7 4) (v := .int ((pFeuds σ ((Int32.toNatClampNeg a))) ||| (1 <<< ((nI ((Int32.toNatClampNeg b))) &&& 31)))) (C := RX7) (T := TX7) (N := 7) (k := 4) hx hb hts hown hG hS cl_X7 in_X7 tyX7_ok nmX7 (hM.pl nc1.2) (hM.plF nc1.2) (hM.plF nc1.2) (by decide) q1611 rfl (tyX7_ok 4 (by decide)) rfl rfl (Nat.le_of_ble_eq_true rfl) dX4_feud_109 (fun H1 locs1 he hz hq hS => ?_)
          have hM := hM.Pp13 nc1.2 he hq
          have hG := gE.ofS hG0 hS hFE
          obtain ⟨σ4, hσ4⟩ : ∃ x, x = sW σ 13 ((Int32.toNatClampNeg a)) ((pFeuds σ ((Int32.toNatClampNeg a))) ||| (1 <<< ((nI ((Int32.toNatClampNeg b))) &&& 31))) := ⟨_, rfl⟩
          rw [← hσ4] at hR hM
          have hcn : cnt σ4 σ := by rw [hσ4]; exact hcn.sW
          try dsimp only at hR
          refine lv_aload hx hb dX4_feud_112 (lv_at hl 1 rfl) ?_
          refine lv_iload_n hx hb dX4_feud_114 rfl (lv_at hl 6 rfl) ?_
          refine lb_if_eq (tgt := 130) hx hb dX4_feud_115 (by decide) (fun c6 => ?_) (fun c6 => ?_)
          · rw [if_neg c6] at hR
            refine lv_aload hx hb dX4_feud_130 (lv_at hl 1 rfl) ?_
            refine gfN (v := .int (pFeuds σ4 ((Int32.toNatClampNeg b)))) (C := RX7) (T := TX7) (N := 7) (k := 4) hx hb hts hown hG cl_X7 in_X7 (hM.pl (hcn.p nc2.2)) (by decide) q1611 rfl dX4_feud_132 ?_
            refine lv_iconst (v := 1) hx hb dX4_feud_135 (by decide) ?_
            refine lv_iload_n hx hb dX4_feud_136 rfl (lv_at hl 4 rfl) ?_
            refine lv_eq nc1.1 ?_
            refine lv_ishl hx hb dX4_feud_137 ?_
            refine lv_iconst (v := (-1)) hx hb dX4_feud_138 (by decide) ?_
            refine lv_ixor hx hb dX4_feud_139 ?_
            refine lv_iand hx hb dX4_feud_140 ?_
            refine pfN (ty0 := tyX7) (ty := tyX7 4) (v := .int ((pFeuds σ4 ((Int32.toNatClampNeg b))) &&& ((1 <<< ((nI ((Int32.toNatClampNeg a))) &&& 31)) ^^^ ((-1))))) (C := RX7) (T := TX7) (N := 7) (k := 4) hx hb hts hown hG hS cl_X7 in_X7 tyX7_ok nmX7 (hM.pl (hcn.p nc2.2)) (hM.plF (hcn.p nc2.2)) (hM.plF (hcn.p nc2.2)) (by decide) q1611 rfl (tyX7_ok 4 (by decide)) rfl rfl (Nat.le_of_ble_eq_true rfl) dX4_feud_141 (fun H1 locs1 he hz hq hS => ?_)
            have hM := hM.Pp13 (hcn.p nc2.2) he hq
            have hG := gE.ofS hG0 hS hFE
            obtain ⟨σ5, hσ5⟩ : ∃ x, x = sW σ4 13 ((Int32.toNatClampNeg b)) ((pFeuds σ4 ((Int32.toNatClampNeg b))) &&& ((1 <<< ((nI ((Int32.toNatClampNeg a))) &&& 31)) ^^^ ((-1)))) := ⟨_, rfl⟩
            rw [← hσ5] at hR hM
            have hcn : cnt σ5 σ := by rw [hσ5]; exact hcn.sW
            try dsimp only at hR
            refine lv_iload hx hb dX4_feud_144 (lv_at hl 0 rfl) ?_
            exact g_zret (b := (fX4_isIn (pFeuds σ ((Int32.toNatClampNeg a))) (nI ((Int32.toNatClampNeg b))))) hx hb hr hlocks hS ⟨Nat.le_of_ble_eq_true rfl, Nat.le_of_ble_eq_true rfl⟩ dX4_feud_146 rfl (by subst hR; exact ⟨rfl, hM, hcn⟩)
          · rw [if_pos c6] at hR
            refine lv_aload hx hb dX4_feud_118 (lv_at hl 1 rfl) ?_
            refine gfN (v := .int (pFeuds σ4 ((Int32.toNatClampNeg b)))) (C := RX7) (T := TX7) (N := 7) (k := 4) hx hb hts hown hG cl_X7 in_X7 (hM.pl (hcn.p nc2.2)) (by decide) q1611 rfl dX4_feud_120 ?_
            refine lv_iconst (v := 1) hx hb dX4_feud_123 (by decide) ?_
            refine lv_iload_n hx hb dX4_feud_124 rfl (lv_at hl 4 rfl) ?_
            refine lv_eq nc1.1 ?_
            refine lv_ishl hx hb dX4_feud_125 ?_
            refine lv_ior hx hb dX4_feud_126 ?_
            refine lv_goto (tgt := 141) hx hb dX4_feud_127 (by decide) ?_
            refine pfN (ty0 := tyX7) (ty := tyX7 4) (v := .int ((pFeuds σ4 ((Int32.toNatClampNeg b))) ||| (1 <<< ((nI ((Int32.toNatClampNeg a))) &&& 31)))) (C := RX7) (T := TX7) (N := 7) (k := 4) hx hb hts hown hG hS cl_X7 in_X7 tyX7_ok nmX7 (hM.pl (hcn.p nc2.2)) (hM.plF (hcn.p nc2.2)) (hM.plF (hcn.p nc2.2)) (by decide) q1611 rfl (tyX7_ok 4 (by decide)) rfl rfl (Nat.le_of_ble_eq_true rfl) dX4_feud_141 (fun H1 locs1 he hz hq hS => ?_)
            have hM := hM.Pp13 (hcn.p nc2.2) he hq
            have hG := gE.ofS hG0 hS hFE
            obtain ⟨σ6, hσ6⟩ : ∃ x, x = sW σ4 13 ((Int32.toNatClampNeg b)) ((pFeuds σ4 ((Int32.toNatClampNeg b))) ||| (1 <<< ((nI ((Int32.toNatClampNeg a))) &&& 31))) := ⟨_, rfl⟩
            rw [← hσ6] at hR hM
            have hcn : cnt σ6 σ := by rw [hσ6]; exact hcn.sW
            try dsimp only at hR
            refine lv_iload hx hb dX4_feud_144 (lv_at hl 0 rfl) ?_
            exact g_zret (b := (fX4_isIn (pFeuds σ ((Int32.toNatClampNeg a))) (nI ((Int32.toNatClampNeg b))))) hx hb hr hlocks hS ⟨Nat.le_of_ble_eq_true rfl, Nat.le_of_ble_eq_true rfl⟩ dX4_feud_146 rfl (by subst hR; exact ⟨rfl, hM, hcn⟩)
      · rw [if_pos c3] at hR
        refine lv_iconst (v := 2) hx hb dX4_feud_26 (by decide) ?_
        refine lv_goto (tgt := 31) hx hb dX4_feud_27 (by decide) ?_
        refine pf (ty0 := tyX4) (ty := tyX4 0) (v := .int 2) (C := RX4) (T := TX4) (N := 13) (k := 0) hx hb hts hown hG hS cl_X4 in_X4 tyX4_ok nmX4 hM.ag hM.agF hM.agF (by decide) q1540 rfl (tyX4_ok 0 (by decide)) rfl rfl (Nat.le_of_ble_eq_true rfl) dX4_feud_31 (fun H1 locs1 he hz hq hS => ?_)
        have hM := hM.Pth  he hq
        have hG := gE.ofS hG0 hS hFE
        refine lv_aload_n hx hb dX4_feud_34 rfl (lv_at hl 0 rfl) ?_
        refine gf (v := .int 2) (C := RX4) (T := TX4) (N := 13) (k := 0) hx hb hts hown hG cl_X4 in_X4 hM.ag (by decide) q1540 rfl dX4_feud_35 ?_
        refine lv_if_le (tgt := 43) hx hb dX4_feud_38 (by decide) (fun c9 => absurd c9 (by decide)) (fun _ => ?_)
        refine lv_iconst (v := 0) hx hb dX4_feud_41 (by decide) ?_
        exact g_zret (b := false) hx hb hr hlocks hS ⟨Nat.le_of_ble_eq_true rfl, Nat.le_of_ble_eq_true rfl⟩ dX4_feud_42 rfl (by subst hR; exact ⟨rfl, hM, hcn⟩)
    · rw [if_neg c2] at hR
      refine lv_iconst (v := 1) hx hb dX4_feud_17 (by decide) ?_
      refine lv_goto (tgt := 31) hx hb dX4_feud_18 (by decide) ?_
      refine pf (ty0 := tyX4) (ty := tyX4 0) (v := .int 1) (C := RX4) (T := TX4) (N := 13) (k := 0) hx hb hts hown hG hS cl_X4 in_X4 tyX4_ok nmX4 hM.ag hM.agF hM.agF (by decide) q1540 rfl (tyX4_ok 0 (by decide)) rfl rfl (Nat.le_of_ble_eq_true rfl) dX4_feud_31 (fun H1 locs1 he hz hq hS => ?_)
      have hM := hM.Pth  he hq
      have hG := gE.ofS hG0 hS hFE
      refine lv_aload_n hx hb dX4_feud_34 rfl (lv_at hl 0 rfl) ?_
      refine gf (v := .int 1) (C := RX4) (T := TX4) (N := 13) (k := 0) hx hb hts hown hG cl_X4 in_X4 hM.ag (by decide) q1540 rfl dX4_feud_35 ?_
      refine lv_if_le (tgt := 43) hx hb dX4_feud_38 (by decide) (fun c9 => absurd c9 (by decide)) (fun _ => ?_)
      refine lv_iconst (v := 0) hx hb dX4_feud_41 (by decide) ?_
      exact g_zret (b := false) hx hb hr hlocks hS ⟨Nat.le_of_ble_eq_true rfl, Nat.le_of_ble_eq_true rfl⟩ dX4_feud_42 rfl (by subst hR; exact ⟨rfl, hM, hcn⟩)

def fX4_late (σ : St) (th : Int32) (ca : Int32) (sm : Int64) (a : Int32) (z : Int32) : Int32 × MSt :=
  (if ((fX4_isWedding σ a)) = true then (if ((fX4_is z 0 240)) = true then (if (nI (wState σ ((Int32.toNatClampNeg a)))) = 1 then (fun (σ1 : St) => ((fX11_quarters σ1 ((Int32.toNatClampNeg a))), ((σ1, 0, ca, sm) : MSt))) (sW σ 27 ((Int32.toNatClampNeg a)) z) else (fun (σ2 : St) => (fun (th2 : Int32) => (fun (ca2 : Int32) => (fun (sm2 : Int64) => (fun (v2 : Int32) => (v2, ((σ2, th2, ca2, sm2) : MSt))) ((fX4_refuse σ 0 ca sm 3).1)) ((fX4_refuse σ 0 ca sm 3).2.2.2.2)) ((fX4_refuse σ 0 ca sm 3).2.2.2.1)) ((fX4_refuse σ 0 ca sm 3).2.2.1)) ((fX4_refuse σ 0 ca sm 3).2.1)) else (fun (σ3 : St) => (fun (th3 : Int32) => (fun (ca3 : Int32) => (fun (sm3 : Int64) => (fun (v3 : Int32) => (v3, ((σ3, th3, ca3, sm3) : MSt))) ((fX4_refuse σ 0 ca sm 2).1)) ((fX4_refuse σ 0 ca sm 2).2.2.2.2)) ((fX4_refuse σ 0 ca sm 2).2.2.2.1)) ((fX4_refuse σ 0 ca sm 2).2.2.1)) ((fX4_refuse σ 0 ca sm 2).2.1)) else (fun (σ4 : St) => (fun (th4 : Int32) => (fun (ca4 : Int32) => (fun (sm4 : Int64) => (fun (v4 : Int32) => (v4, ((σ4, th4, ca4, sm4) : MSt))) ((fX4_refuse σ 0 ca sm 1).1)) ((fX4_refuse σ 0 ca sm 1).2.2.2.2)) ((fX4_refuse σ 0 ca sm 1).2.2.2.1)) ((fX4_refuse σ 0 ca sm 1).2.2.1)) ((fX4_refuse σ 0 ca sm 1).2.1))
set_option maxHeartbeats 4000000 in
set_option maxRecDepth 100000 in
theorem met_X4_late (l : Launch) (D : va_G) (E : Nat → Nat) {β : Nat → Nat → Nat} {F : Nat → Prop} {σ : St} {th ca : Int32} {sm : Int64} (a : Int32) (z : Int32)  : GM l D E yX4_late cX4_late 4 (Option.some Jvm.ClassFile.FieldType.int) 3 64 0 0 [.ref (β 0 0), .int (a), .int (z)] (RM D E β F σ th ca sm) F F (fun sz v h => v = some (.int (fX4_late σ th ca sm a z).1) ∧ RM D E β (fN F sz) (fX4_late σ th ca sm a z).2.1 (fX4_late σ th ca sm a z).2.2.1 (fX4_late σ th ca sm a z).2.2.2.1 (fX4_late σ th ca sm a z).2.2.2.2 h ∧ cnt (fX4_late σ th ca sm a z).2.1 σ)  := by
  generalize hR : fX4_late σ th ca sm a z = r
  refine GM.start (by decide) (Nat.le_of_ble_eq_true rfl) ?_
  intro p e s m below meth c ls hx hb hr hml hown hlocks hnm hts hG hM hS hl
  have hown : s.vm.findClass RX4 = some m.cls := hown
  have hS0 : xS p m c cX4_late 4 s _ RX4 := ⟨hx, hb, hml, hown, hts⟩
  have hl : lv_has ls 4 [(0, .ref (β 0 0)), (1, .int (a)), (2, .int (z))] := hl
  have hG0 := hG
  have hM0 := hM
  have hb0P := hM0.nP10
  have hb0B := hM0.nB6
  have hb0W := hM0.nW14
  have hFE := hM.fE
  have hM := hM.wide (n := s.heap.size) hG.2.2.1
  have hcn : cnt σ σ := cnt.rf
  unfold fX4_late at hR
  refine lv_aload_n hx hb dX4_late_0 rfl (lv_at hl 0 rfl) ?_
  refine lv_iconst (v := 0) hx hb dX4_late_1 (by decide) ?_
  refine pf (ty0 := tyX4) (ty := tyX4 0) (v := .int 0) (C := RX4) (T := TX4) (N := 13) (k := 0) hx hb hts hown hG hS cl_X4 in_X4 tyX4_ok nmX4 hM.ag hM.agF hM.agF (by decide) q1540 rfl (tyX4_ok 0 (by decide)) rfl rfl (Nat.le_of_ble_eq_true rfl) dX4_late_2 (fun H1 locs1 he hz hq hS => ?_)
  have hM := hM.Pth  he hq
  have hG := gE.ofS hG0 hS hFE
  refine lv_aload_n hx hb dX4_late_5 rfl (lv_at hl 0 rfl) ?_
  refine lv_iload_n hx hb dX4_late_6 rfl (lv_at hl 1 rfl) ?_
  refine pcV (As := [.int (a)]) (rest := []) hS0 (met_X4_isWedding l D E a) q1745 q1747 qs62 q110 q1748 hd_X4_isWedding ⟨Nat.le_of_ble_eq_true rfl, Nat.le_of_ble_eq_true rfl⟩ hG (rcv hG cl_X4 hM.ag) hM rfl hl.1 rfl (Nat.le_of_ble_eq_true rfl) dX4_late_7 ⟨Nat.le_of_ble_eq_true rfl, Nat.le_of_ble_eq_true rfl⟩ ?_
  refine W.eq (g2 := F0 m 10 ls [.int (bI ((fX4_isWedding σ a)))]) rfl ?_
  refine lb_if_ne (tgt := 19) hx hb dX4_late_10 (by decide) (fun c1 => ?_) (fun c1 => ?_)
  · rw [if_pos c1] at hR
    have nc1 := isWedding_ix hM c1
    refine lv_iload_n hx hb dX4_late_19 rfl (lv_at hl 2 rfl) ?_
    refine lv_iconst (v := 0) hx hb dX4_late_20 (by decide) ?_
    refine lv_sipush (v := 240) hx hb dX4_late_21 (by decide) ?_
    refine pcS (As := [.int (z), .int 0, .int 240]) (rest := []) hS0 (met_X4_is l D E z 0 240) q1588 q1589 q110 q1590 hd_X4_is ⟨Nat.le_of_ble_eq_true rfl, Nat.le_of_ble_eq_true rfl⟩ hG trivial rfl hl.1 rfl (Nat.le_of_ble_eq_true rfl) dX4_late_24 ⟨Nat.le_of_ble_eq_true rfl, Nat.le_of_ble_eq_true rfl⟩ ?_
    refine W.eq (g2 := F0 m 27 ls [.int (bI ((fX4_is z 0 240)))]) rfl ?_
    refine lb_if_ne (tgt := 36) hx hb dX4_late_27 (by decide) (fun c2 => ?_) (fun c2 => ?_)
    · rw [if_pos c2] at hR
      refine lv_aload_n hx hb dX4_late_36 rfl (lv_at hl 0 rfl) ?_
      refine gf (v := .ref (β 1 2)) (C := RX4) (T := TX4) (N := 13) (k := 5) hx hb hts hown hG cl_X4 in_X4 hM.ag (by decide) q1545 rfl dX4_late_37 ?_
      refine lv_iload_n hx hb dX4_late_40 rfl (lv_at hl 1 rfl) ?_
      refine lv_eq nc1.1 ?_
      refine pcV (As := [.int (nI ((Int32.toNatClampNeg a)))]) (rest := []) hS0 (met_ml_get l D E (j := 2) (by decide) ((Int32.toNatClampNeg a)) nc1.2) q1639 q349 q2082 q103 q351 hd_J2_get ⟨Nat.le_of_ble_eq_true rfl, Nat.le_of_ble_eq_true rfl⟩ hG (hM.lsR hG (j := 2) (by decide)) hM rfl hl.1 rfl (Nat.le_of_ble_eq_true rfl) dX4_late_41 ⟨Nat.le_of_ble_eq_true rfl, Nat.le_of_ble_eq_true rfl⟩ ?_
      refine W.eq (g2 := F0 m 44 ls [.ref (β 5 ((Int32.toNatClampNeg a)))]) rfl ?_
      refine gc (ci := 9) hx hb hown hG cl_X11 (rcv hG cl_X11 (hM.wd nc1.2)) (hts _ q1695) dX4_late_44 ?_
      refine lv_astore_n (lv' := [(3, .ref (β 5 ((Int32.toNatClampNeg a)))), (0, .ref (β 0 0)), (1, .int (a)), (2, .int (z))]) hx hb dX4_late_47 rfl hl (Nat.le_of_ble_eq_true rfl) rfl (fun ls hl => ?_)
      refine lv_aload_n hx hb dX4_late_48 rfl (lv_at hl 0 rfl) ?_
      refine gfN (v := .int (nI (wState σ ((Int32.toNatClampNeg a))))) (C := RX11) (T := TX11) (N := 12) (k := 7) hx hb hts hown hG cl_X11 in_X11 (hM.wd nc1.2) (by decide) q1710 rfl dX4_late_49 ?_
      refine lv_iconst (v := 1) hx hb dX4_late_52 (by decide) ?_
      refine lv_icmp_eq (tgt := 62) hx hb dX4_late_53 (by decide) (fun c3 => ?_) (fun c3 => ?_)
      · rw [if_pos c3] at hR
        refine lv_aload_n hx hb dX4_late_62 rfl (lv_at hl 0 rfl) ?_
        refine lv_iload_n hx hb dX4_late_63 rfl (lv_at hl 3 rfl) ?_
        refine pfN (ty0 := tyX11) (ty := tyX11 10) (v := .int (z)) (C := RX11) (T := TX11) (N := 12) (k := 10) hx hb hts hown hG hS cl_X11 in_X11 tyX11_ok nmX11 (hM.wd nc1.2) (hM.wdF nc1.2) (hM.wdF nc1.2) (by decide) q1714 rfl (tyX11_ok 10 (by decide)) rfl rfl (Nat.le_of_ble_eq_true rfl) dX4_late_64 (fun H1 locs1 he hz hq hS => ?_)
        have hM := hM.Pw27 nc1.2 he hq
        have hG := gE.ofS hG0 hS hFE
        obtain ⟨σ1, hσ1⟩ : ∃ x, x = sW σ 27 ((Int32.toNatClampNeg a)) z := ⟨_, rfl⟩
        rw [← hσ1] at hR hM
        have hcn : cnt σ1 σ := by rw [hσ1]; exact hcn.sW
        try dsimp only at hR
        refine lv_aload_n hx hb dX4_late_67 rfl (lv_at hl 0 rfl) ?_
        refine pcV (As := []) (rest := []) hS0 (met_X11_quarters l D E ((Int32.toNatClampNeg a)) (hcn.w nc1.2)) q1873 q1874 q1875 q131 q1876 hd_X11_quarters ⟨Nat.le_of_ble_eq_true rfl, Nat.le_of_ble_eq_true rfl⟩ hG (rcv hG cl_X11 (hM.wd (hcn.w nc1.2))) hM rfl hl.1 rfl (Nat.le_of_ble_eq_true rfl) dX4_late_68 ⟨Nat.le_of_ble_eq_true rfl, Nat.le_of_ble_eq_true rfl⟩ ?_
        refine W.eq (g2 := F0 m 71 ls [.int ((fX11_quarters σ1 ((Int32.toNatClampNeg a))))]) rfl ?_
        exact g_iret hx hb hr hlocks hS ⟨Nat.le_of_ble_eq_true rfl, Nat.le_of_ble_eq_true rfl⟩ dX4_late_71 (by subst hR; exact ⟨rfl, hM, hcn⟩)
      · rw [if_neg c3] at hR
        refine lv_aload_n hx hb dX4_late_56 rfl (lv_at hl 1 rfl) ?_
        refine lv_iconst (v := 3) hx hb dX4_late_57 (by decide) ?_
        have hB := hS.1
        refine gcV (As := [.int 3]) (rest := []) hS0 (met_X4_refuse l D E 3) q1591 q1593 qs55 q110 q1594 hd_X4_refuse ⟨Nat.le_of_ble_eq_true rfl, Nat.le_of_ble_eq_true rfl⟩ hG (rcv hG cl_X4 hM.ag) hM rfl hl.1 rfl (Nat.le_of_ble_eq_true rfl) dX4_late_58 ⟨Nat.le_of_ble_eq_true rfl, Nat.le_of_ble_eq_true rfl⟩ hS (fun q h => h) (fun q h => h) (fun v H1 locs1 hP hz hk hS => ?_)
        obtain ⟨rfl, hZ, hc8⟩ := hP
        have hM := hZ.mono (fun q _ => fN_fN hB q) hM.fE
        have hG := gE.ofS hG0 hS hFE
        have hcn := hc8.tr hcn
        generalize hv_σ2 : (fX4_refuse σ 0 ca sm 3).2.1 = σ2 at hR hM hcn ⊢
        generalize hv_th2 : (fX4_refuse σ 0 ca sm 3).2.2.1 = th2 at hR hM hcn ⊢
        generalize hv_ca2 : (fX4_refuse σ 0 ca sm 3).2.2.2.1 = ca2 at hR hM hcn ⊢
        generalize hv_sm2 : (fX4_refuse σ 0 ca sm 3).2.2.2.2 = sm2 at hR hM hcn ⊢
        generalize hv_v2 : (fX4_refuse σ 0 ca sm 3).1 = v2 at hR hM hcn ⊢
        try dsimp only at hR
        refine W.eq (g2 := F0 m 61 ls [.int (v2)]) rfl ?_
        exact g_iret hx hb hr hlocks hS ⟨Nat.le_of_ble_eq_true rfl, Nat.le_of_ble_eq_true rfl⟩ dX4_late_61 (by subst hR; exact ⟨rfl, hM, hcn⟩)
    · rw [if_neg c2] at hR
      refine lv_aload_n hx hb dX4_late_30 rfl (lv_at hl 0 rfl) ?_
      refine lv_iconst (v := 2) hx hb dX4_late_31 (by decide) ?_
      have hB := hS.1
      refine gcV (As := [.int 2]) (rest := []) hS0 (met_X4_refuse l D E 2) q1591 q1593 qs55 q110 q1594 hd_X4_refuse ⟨Nat.le_of_ble_eq_true rfl, Nat.le_of_ble_eq_true rfl⟩ hG (rcv hG cl_X4 hM.ag) hM rfl hl.1 rfl (Nat.le_of_ble_eq_true rfl) dX4_late_32 ⟨Nat.le_of_ble_eq_true rfl, Nat.le_of_ble_eq_true rfl⟩ hS (fun q h => h) (fun q h => h) (fun v H1 locs1 hP hz hk hS => ?_)
      obtain ⟨rfl, hZ, hc8⟩ := hP
      have hM := hZ.mono (fun q _ => fN_fN hB q) hM.fE
      have hG := gE.ofS hG0 hS hFE
      have hcn := hc8.tr hcn
      generalize hv_σ3 : (fX4_refuse σ 0 ca sm 2).2.1 = σ3 at hR hM hcn ⊢
      generalize hv_th3 : (fX4_refuse σ 0 ca sm 2).2.2.1 = th3 at hR hM hcn ⊢
      generalize hv_ca3 : (fX4_refuse σ 0 ca sm 2).2.2.2.1 = ca3 at hR hM hcn ⊢
      generalize hv_sm3 : (fX4_refuse σ 0 ca sm 2).2.2.2.2 = sm3 at hR hM hcn ⊢
      generalize hv_v3 : (fX4_refuse σ 0 ca sm 2).1 = v3 at hR hM hcn ⊢
      try dsimp only at hR
      refine W.eq (g2 := F0 m 35 ls [.int (v3)]) rfl ?_
      exact g_iret hx hb hr hlocks hS ⟨Nat.le_of_ble_eq_true rfl, Nat.le_of_ble_eq_true rfl⟩ dX4_late_35 (by subst hR; exact ⟨rfl, hM, hcn⟩)
  · rw [if_neg c1] at hR
    refine lv_aload_n hx hb dX4_late_13 rfl (lv_at hl 0 rfl) ?_
    refine lv_iconst (v := 1) hx hb dX4_late_14 (by decide) ?_
    have hB := hS.1
    refine gcV (As := [.int 1]) (rest := []) hS0 (met_X4_refuse l D E 1) q1591 q1593 qs55 q110 q1594 hd_X4_refuse ⟨Nat.le_of_ble_eq_true rfl, Nat.le_of_ble_eq_true rfl⟩ hG (rcv hG cl_X4 hM.ag) hM rfl hl.1 rfl (Nat.le_of_ble_eq_true rfl) dX4_late_15 ⟨Nat.le_of_ble_eq_true rfl, Nat.le_of_ble_eq_true rfl⟩ hS (fun q h => h) (fun q h => h) (fun v H1 locs1 hP hz hk hS => ?_)
    obtain ⟨rfl, hZ, hc8⟩ := hP
    have hM := hZ.mono (fun q _ => fN_fN hB q) hM.fE
    have hG := gE.ofS hG0 hS hFE
    have hcn := hc8.tr hcn
    generalize hv_σ4 : (fX4_refuse σ 0 ca sm 1).2.1 = σ4 at hR hM hcn ⊢
    generalize hv_th4 : (fX4_refuse σ 0 ca sm 1).2.2.1 = th4 at hR hM hcn ⊢
    generalize hv_ca4 : (fX4_refuse σ 0 ca sm 1).2.2.2.1 = ca4 at hR hM hcn ⊢
    generalize hv_sm4 : (fX4_refuse σ 0 ca sm 1).2.2.2.2 = sm4 at hR hM hcn ⊢
    generalize hv_v4 : (fX4_refuse σ 0 ca sm 1).1 = v4 at hR hM hcn ⊢
    try dsimp only at hR
    refine W.eq (g2 := F0 m 18 ls [.int (v4)]) rfl ?_
    exact g_iret hx hb hr hlocks hS ⟨Nat.le_of_ble_eq_true rfl, Nat.le_of_ble_eq_true rfl⟩ dX4_late_18 (by subst hR; exact ⟨rfl, hM, hcn⟩)

def fX4_cancel (σ : St) (th : Int32) (ca : Int32) (sm : Int64) (a : Int32) : Int32 × MSt :=
  (if ((fX4_isWedding σ a)) = true then (if (nI (wState σ ((Int32.toNatClampNeg a)))) ≤ 1 then (if (nI (wState σ ((Int32.toNatClampNeg a)))) = 1 then (fun (σ3 : St) => (fun (σ4 : St) => ((fX4_owed σ ((Int32.toNatClampNeg a))), ((σ4, 0, (ca + (if 0 < (((fX4_owed σ ((Int32.toNatClampNeg a)))) - (wPaid σ ((Int32.toNatClampNeg a)))) then (((fX4_owed σ ((Int32.toNatClampNeg a)))) - (wPaid σ ((Int32.toNatClampNeg a)))) else 0)), sm) : MSt))) (sN σ3 5 ((Int32.toNatClampNeg a)) 3)) (sW σ 26 ((Int32.toNatClampNeg a)) ((wPaid σ ((Int32.toNatClampNeg a))) + (if 0 < (((fX4_owed σ ((Int32.toNatClampNeg a)))) - (wPaid σ ((Int32.toNatClampNeg a)))) then (((fX4_owed σ ((Int32.toNatClampNeg a)))) - (wPaid σ ((Int32.toNatClampNeg a)))) else 0))) else (fun (σ1 : St) => (fun (σ2 : St) => (0, ((σ2, 0, (ca + (if 0 < (0 - (wPaid σ ((Int32.toNatClampNeg a)))) then (0 - (wPaid σ ((Int32.toNatClampNeg a)))) else 0)), sm) : MSt))) (sN σ1 5 ((Int32.toNatClampNeg a)) 3)) (sW σ 26 ((Int32.toNatClampNeg a)) ((wPaid σ ((Int32.toNatClampNeg a))) + (if 0 < (0 - (wPaid σ ((Int32.toNatClampNeg a)))) then (0 - (wPaid σ ((Int32.toNatClampNeg a)))) else 0)))) else (fun (σ5 : St) => (fun (th5 : Int32) => (fun (ca5 : Int32) => (fun (sm5 : Int64) => (fun (v5 : Int32) => (v5, ((σ5, th5, ca5, sm5) : MSt))) ((fX4_refuse σ 0 ca sm 2).1)) ((fX4_refuse σ 0 ca sm 2).2.2.2.2)) ((fX4_refuse σ 0 ca sm 2).2.2.2.1)) ((fX4_refuse σ 0 ca sm 2).2.2.1)) ((fX4_refuse σ 0 ca sm 2).2.1)) else (fun (σ6 : St) => (fun (th6 : Int32) => (fun (ca6 : Int32) => (fun (sm6 : Int64) => (fun (v6 : Int32) => (v6, ((σ6, th6, ca6, sm6) : MSt))) ((fX4_refuse σ 0 ca sm 1).1)) ((fX4_refuse σ 0 ca sm 1).2.2.2.2)) ((fX4_refuse σ 0 ca sm 1).2.2.2.1)) ((fX4_refuse σ 0 ca sm 1).2.2.1)) ((fX4_refuse σ 0 ca sm 1).2.1))
set_option maxHeartbeats 4000000 in
set_option maxRecDepth 100000 in
theorem met_X4_cancel (l : Launch) (D : va_G) (E : Nat → Nat) {β : Nat → Nat → Nat} {F : Nat → Prop} {σ : St} {th ca : Int32} {sm : Int64} (a : Int32)  : GM l D E yX4_cancel cX4_cancel 5 (Option.some Jvm.ClassFile.FieldType.int) 3 64 0 0 [.ref (β 0 0), .int (a)] (RM D E β F σ th ca sm) F F (fun sz v h => v = some (.int (fX4_cancel σ th ca sm a).1) ∧ RM D E β (fN F sz) (fX4_cancel σ th ca sm a).2.1 (fX4_cancel σ th ca sm a).2.2.1 (fX4_cancel σ th ca sm a).2.2.2.1 (fX4_cancel σ th ca sm a).2.2.2.2 h ∧ cnt (fX4_cancel σ th ca sm a).2.1 σ)  := by
  generalize hR : fX4_cancel σ th ca sm a = r
  refine GM.start (by decide) (Nat.le_of_ble_eq_true rfl) ?_
  intro p e s m below meth c ls hx hb hr hml hown hlocks hnm hts hG hM hS hl
  have hown : s.vm.findClass RX4 = some m.cls := hown
  have hS0 : xS p m c cX4_cancel 5 s _ RX4 := ⟨hx, hb, hml, hown, hts⟩
  have hl : lv_has ls 5 [(0, .ref (β 0 0)), (1, .int (a))] := hl
  have hG0 := hG
  have hM0 := hM
  have hb0P := hM0.nP10
  have hb0B := hM0.nB6
  have hb0W := hM0.nW14
  have hFE := hM.fE
  have hM := hM.wide (n := s.heap.size) hG.2.2.1
  have hcn : cnt σ σ := cnt.rf
  unfold fX4_cancel at hR
  refine lv_aload_n hx hb dX4_cancel_0 rfl (lv_at hl 0 rfl) ?_
  refine lv_iconst (v := 0) hx hb dX4_cancel_1 (by decide) ?_
  refine pf (ty0 := tyX4) (ty := tyX4 0) (v := .int 0) (C := RX4) (T := TX4) (N := 13) (k := 0) hx hb hts hown hG hS cl_X4 in_X4 tyX4_ok nmX4 hM.ag hM.agF hM.agF (by decide) q1540 rfl (tyX4_ok 0 (by decide)) rfl rfl (Nat.le_of_ble_eq_true rfl) dX4_cancel_2 (fun H1 locs1 he hz hq hS => ?_)
  have hM := hM.Pth  he hq
  have hG := gE.ofS hG0 hS hFE
  refine lv_aload_n hx hb dX4_cancel_5 rfl (lv_at hl 0 rfl) ?_
  refine lv_iload_n hx hb dX4_cancel_6 rfl (lv_at hl 1 rfl) ?_
  refine pcV (As := [.int (a)]) (rest := []) hS0 (met_X4_isWedding l D E a) q1745 q1747 qs62 q110 q1748 hd_X4_isWedding ⟨Nat.le_of_ble_eq_true rfl, Nat.le_of_ble_eq_true rfl⟩ hG (rcv hG cl_X4 hM.ag) hM rfl hl.1 rfl (Nat.le_of_ble_eq_true rfl) dX4_cancel_7 ⟨Nat.le_of_ble_eq_true rfl, Nat.le_of_ble_eq_true rfl⟩ ?_
  refine W.eq (g2 := F0 m 10 ls [.int (bI ((fX4_isWedding σ a)))]) rfl ?_
  refine lb_if_ne (tgt := 19) hx hb dX4_cancel_10 (by decide) (fun c1 => ?_) (fun c1 => ?_)
  · rw [if_pos c1] at hR
    have nc1 := isWedding_ix hM c1
    refine lv_aload_n hx hb dX4_cancel_19 rfl (lv_at hl 0 rfl) ?_
    refine gf (v := .ref (β 1 2)) (C := RX4) (T := TX4) (N := 13) (k := 5) hx hb hts hown hG cl_X4 in_X4 hM.ag (by decide) q1545 rfl dX4_cancel_20 ?_
    refine lv_iload_n hx hb dX4_cancel_23 rfl (lv_at hl 1 rfl) ?_
    refine lv_eq nc1.1 ?_
    refine pcV (As := [.int (nI ((Int32.toNatClampNeg a)))]) (rest := []) hS0 (met_ml_get l D E (j := 2) (by decide) ((Int32.toNatClampNeg a)) nc1.2) q1639 q349 q2082 q103 q351 hd_J2_get ⟨Nat.le_of_ble_eq_true rfl, Nat.le_of_ble_eq_true rfl⟩ hG (hM.lsR hG (j := 2) (by decide)) hM rfl hl.1 rfl (Nat.le_of_ble_eq_true rfl) dX4_cancel_24 ⟨Nat.le_of_ble_eq_true rfl, Nat.le_of_ble_eq_true rfl⟩ ?_
    refine W.eq (g2 := F0 m 27 ls [.ref (β 5 ((Int32.toNatClampNeg a)))]) rfl ?_
    refine gc (ci := 9) hx hb hown hG cl_X11 (rcv hG cl_X11 (hM.wd nc1.2)) (hts _ q1695) dX4_cancel_27 ?_
    refine lv_astore_n (lv' := [(2, .ref (β 5 ((Int32.toNatClampNeg a)))), (0, .ref (β 0 0)), (1, .int (a))]) hx hb dX4_cancel_30 rfl hl (Nat.le_of_ble_eq_true rfl) rfl (fun ls hl => ?_)
    refine lv_aload_n hx hb dX4_cancel_31 rfl (lv_at hl 0 rfl) ?_
    refine gfN (v := .int (nI (wState σ ((Int32.toNatClampNeg a))))) (C := RX11) (T := TX11) (N := 12) (k := 7) hx hb hts hown hG cl_X11 in_X11 (hM.wd nc1.2) (by decide) q1710 rfl dX4_cancel_32 ?_
    refine lv_iconst (v := 1) hx hb dX4_cancel_35 (by decide) ?_
    refine lv_icmp_le (tgt := 45) hx hb dX4_cancel_36 (by decide) (fun c2 => ?_) (fun c2 => ?_)
    · rw [if_pos c2] at hR
      refine lv_aload_n hx hb dX4_cancel_45 rfl (lv_at hl 0 rfl) ?_
      refine gfN (v := .int (nI (wState σ ((Int32.toNatClampNeg a))))) (C := RX11) (T := TX11) (N := 12) (k := 7) hx hb hts hown hG cl_X11 in_X11 (hM.wd nc1.2) (by decide) q1710 rfl dX4_cancel_46 ?_
      refine lv_iconst (v := 1) hx hb dX4_cancel_49 (by decide) ?_
      refine lv_icmp_ne (tgt := 61) hx hb dX4_cancel_50 (by decide) (fun c3 => ?_) (fun c3 => ?_)
      · rw [if_neg c3] at hR
        refine lv_iconst (v := 0) hx hb dX4_cancel_61 (by decide) ?_
        refine lv_istore_n (lv' := [(3, .int 0), (2, .ref (β 5 ((Int32.toNatClampNeg a)))), (0, .ref (β 0 0)), (1, .int (a))]) hx hb dX4_cancel_62 rfl hl (Nat.le_of_ble_eq_true rfl) rfl (fun ls hl => ?_)
        refine lv_iconst (v := 0) hx hb dX4_cancel_63 (by decide) ?_
        refine lv_iload_n hx hb dX4_cancel_64 rfl (lv_at hl 0 rfl) ?_
        refine lv_aload_n hx hb dX4_cancel_65 rfl (lv_at hl 1 rfl) ?_
        refine gfN (v := .int (wPaid σ ((Int32.toNatClampNeg a)))) (C := RX11) (T := TX11) (N := 12) (k := 11) hx hb hts hown hG cl_X11 in_X11 (hM.wd nc1.2) (by decide) q1715 rfl dX4_cancel_66 ?_
        refine lv_isub hx hb dX4_cancel_69 ?_
        refine va_mmax hx hb (hml.trans hl.1.symm) hown (hts _ q1860) (hts _ q249) (hts _ q107) (hts _ q250) (Nat.le_of_ble_eq_true rfl) (Nat.le_of_ble_eq_true rfl) (Nat.le_of_ble_eq_true rfl) (Nat.le_of_ble_eq_true rfl) dX4_cancel_70 ?_
        refine W.eq (g2 := F0 m 73 ls [.int (if 0 < (0 - (wPaid σ ((Int32.toNatClampNeg a)))) then (0 - (wPaid σ ((Int32.toNatClampNeg a)))) else 0)]) rfl ?_
        refine lv_istore (lv' := [(4, .int (if 0 < (0 - (wPaid σ ((Int32.toNatClampNeg a)))) then (0 - (wPaid σ ((Int32.toNatClampNeg a)))) else 0)), (3, .int 0), (2, .ref (β 5 ((Int32.toNatClampNeg a)))), (0, .ref (β 0 0)), (1, .int (a))]) hx hb dX4_cancel_73 hl (Nat.le_of_ble_eq_true rfl) rfl (fun ls hl => ?_)
        refine lv_aload_n hx hb dX4_cancel_75 rfl (lv_at hl 2 rfl) ?_
        refine lv_dup hx hb dX4_cancel_76 rfl ?_
        refine gfN (v := .int (wPaid σ ((Int32.toNatClampNeg a)))) (C := RX11) (T := TX11) (N := 12) (k := 11) hx hb hts hown hG cl_X11 in_X11 (hM.wd nc1.2) (by decide) q1715 rfl dX4_cancel_77 ?_
        refine lv_iload hx hb dX4_cancel_80 (lv_at hl 0 rfl) ?_
        refine lv_iadd hx hb dX4_cancel_82 ?_
        refine pfN (ty0 := tyX11) (ty := tyX11 11) (v := .int ((wPaid σ ((Int32.toNatClampNeg a))) + (if 0 < (0 - (wPaid σ ((Int32.toNatClampNeg a)))) then (0 - (wPaid σ ((Int32.toNatClampNeg a)))) else 0))) (C := RX11) (T := TX11) (N := 12) (k := 11) hx hb hts hown hG hS cl_X11 in_X11 tyX11_ok nmX11 (hM.wd nc1.2) (hM.wdF nc1.2) (hM.wdF nc1.2) (by decide) q1715 rfl (tyX11_ok 11 (by decide)) rfl rfl (Nat.le_of_ble_eq_true rfl) dX4_cancel_83 (fun H1 locs1 he hz hq hS => ?_)
        have hM := hM.Pw26 nc1.2 he hq
        have hG := gE.ofS hG0 hS hFE
        obtain ⟨σ1, hσ1⟩ : ∃ x, x = sW σ 26 ((Int32.toNatClampNeg a)) ((wPaid σ ((Int32.toNatClampNeg a))) + (if 0 < (0 - (wPaid σ ((Int32.toNatClampNeg a)))) then (0 - (wPaid σ ((Int32.toNatClampNeg a)))) else 0)) := ⟨_, rfl⟩
        rw [← hσ1] at hR hM
        have hcn : cnt σ1 σ := by rw [hσ1]; exact hcn.sW
        try dsimp only at hR
        refine lv_aload_n hx hb dX4_cancel_86 rfl (lv_at hl 3 rfl) ?_
        refine lv_dup hx hb dX4_cancel_87 rfl ?_
        refine gf (v := .int (ca)) (C := RX4) (T := TX4) (N := 13) (k := 2) hx hb hts hown hG cl_X4 in_X4 hM.ag (by decide) q1542 rfl dX4_cancel_88 ?_
        refine lv_iload hx hb dX4_cancel_91 (lv_at hl 0 rfl) ?_
        refine lv_iadd hx hb dX4_cancel_93 ?_
        refine pf (ty0 := tyX4) (ty := tyX4 2) (v := .int (ca + (if 0 < (0 - (wPaid σ ((Int32.toNatClampNeg a)))) then (0 - (wPaid σ ((Int32.toNatClampNeg a)))) else 0))) (C := RX4) (T := TX4) (N := 13) (k := 2) hx hb hts hown hG hS cl_X4 in_X4 tyX4_ok nmX4 hM.ag hM.agF hM.agF (by decide) q1542 rfl (tyX4_ok 2 (by decide)) rfl rfl (Nat.le_of_ble_eq_true rfl) dX4_cancel_94 (fun H1 locs1 he hz hq hS => ?_)
        have hM := hM.Pca  he hq
        have hG := gE.ofS hG0 hS hFE
        refine lv_aload_n hx hb dX4_cancel_97 rfl (lv_at hl 2 rfl) ?_
        refine lv_iconst (v := 3) hx hb dX4_cancel_98 (by decide) ?_
        refine pfN (ty0 := tyX11) (ty := tyX11 7) (v := .int 3) (C := RX11) (T := TX11) (N := 12) (k := 7) hx hb hts hown hG hS cl_X11 in_X11 tyX11_ok nmX11 (hM.wd (hcn.w nc1.2)) (hM.wdF (hcn.w nc1.2)) (hM.wdF (hcn.w nc1.2)) (by decide) q1710 rfl (tyX11_ok 7 (by decide)) rfl rfl (Nat.le_of_ble_eq_true rfl) dX4_cancel_99 (fun H1 locs1 he hz hq hS => ?_)
        have hM := hM.Pwst (hcn.w nc1.2) (v := 3) (by decide) he hq
        have hG := gE.ofS hG0 hS hFE
        obtain ⟨σ2, hσ2⟩ : ∃ x, x = sN σ1 5 ((Int32.toNatClampNeg a)) 3 := ⟨_, rfl⟩
        rw [← hσ2] at hR hM
        have hcn : cnt σ2 σ := by rw [hσ2]; exact hcn.sN (by decide)
        try dsimp only at hR
        refine lv_iload_n hx hb dX4_cancel_102 rfl (lv_at hl 1 rfl) ?_
        exact g_iret hx hb hr hlocks hS ⟨Nat.le_of_ble_eq_true rfl, Nat.le_of_ble_eq_true rfl⟩ dX4_cancel_103 (by subst hR; exact ⟨rfl, hM, hcn⟩)
      · rw [if_pos c3] at hR
        refine lv_aload_n hx hb dX4_cancel_53 rfl (lv_at hl 1 rfl) ?_
        refine lv_aload_n hx hb dX4_cancel_54 rfl (lv_at hl 0 rfl) ?_
        refine pcV (As := [.ref (β 5 ((Int32.toNatClampNeg a)))]) (rest := []) hS0 (met_X4_owed l D E ((Int32.toNatClampNeg a)) nc1.2) q1856 q1858 qs76 q110 q1859 hd_X4_owed ⟨Nat.le_of_ble_eq_true rfl, Nat.le_of_ble_eq_true rfl⟩ hG (rcv hG cl_X4 hM.ag) hM rfl hl.1 rfl (Nat.le_of_ble_eq_true rfl) dX4_cancel_55 ⟨Nat.le_of_ble_eq_true rfl, Nat.le_of_ble_eq_true rfl⟩ ?_
        refine W.eq (g2 := F0 m 58 ls [.int ((fX4_owed σ ((Int32.toNatClampNeg a))))]) rfl ?_
        refine lv_goto (tgt := 62) hx hb dX4_cancel_58 (by decide) ?_
        refine lv_istore_n (lv' := [(3, .int ((fX4_owed σ ((Int32.toNatClampNeg a))))), (2, .ref (β 5 ((Int32.toNatClampNeg a)))), (0, .ref (β 0 0)), (1, .int (a))]) hx hb dX4_cancel_62 rfl hl (Nat.le_of_ble_eq_true rfl) rfl (fun ls hl => ?_)
        refine lv_iconst (v := 0) hx hb dX4_cancel_63 (by decide) ?_
        refine lv_iload_n hx hb dX4_cancel_64 rfl (lv_at hl 0 rfl) ?_
        refine lv_aload_n hx hb dX4_cancel_65 rfl (lv_at hl 1 rfl) ?_
        refine gfN (v := .int (wPaid σ ((Int32.toNatClampNeg a)))) (C := RX11) (T := TX11) (N := 12) (k := 11) hx hb hts hown hG cl_X11 in_X11 (hM.wd nc1.2) (by decide) q1715 rfl dX4_cancel_66 ?_
        refine lv_isub hx hb dX4_cancel_69 ?_
        refine va_mmax hx hb (hml.trans hl.1.symm) hown (hts _ q1860) (hts _ q249) (hts _ q107) (hts _ q250) (Nat.le_of_ble_eq_true rfl) (Nat.le_of_ble_eq_true rfl) (Nat.le_of_ble_eq_true rfl) (Nat.le_of_ble_eq_true rfl) dX4_cancel_70 ?_
        refine W.eq (g2 := F0 m 73 ls [.int (if 0 < (((fX4_owed σ ((Int32.toNatClampNeg a)))) - (wPaid σ ((Int32.toNatClampNeg a)))) then (((fX4_owed σ ((Int32.toNatClampNeg a)))) - (wPaid σ ((Int32.toNatClampNeg a)))) else 0)]) rfl ?_
        refine lv_istore (lv' := [(4, .int (if 0 < (((fX4_owed σ ((Int32.toNatClampNeg a)))) - (wPaid σ ((Int32.toNatClampNeg a)))) then (((fX4_owed σ ((Int32.toNatClampNeg a)))) - (wPaid σ ((Int32.toNatClampNeg a)))) else 0)), (3, .int ((fX4_owed σ ((Int32.toNatClampNeg a))))), (2, .ref (β 5 ((Int32.toNatClampNeg a)))), (0, .ref (β 0 0)), (1, .int (a))]) hx hb dX4_cancel_73 hl (Nat.le_of_ble_eq_true rfl) rfl (fun ls hl => ?_)
        refine lv_aload_n hx hb dX4_cancel_75 rfl (lv_at hl 2 rfl) ?_
        refine lv_dup hx hb dX4_cancel_76 rfl ?_
        refine gfN (v := .int (wPaid σ ((Int32.toNatClampNeg a)))) (C := RX11) (T := TX11) (N := 12) (k := 11) hx hb hts hown hG cl_X11 in_X11 (hM.wd nc1.2) (by decide) q1715 rfl dX4_cancel_77 ?_
        refine lv_iload hx hb dX4_cancel_80 (lv_at hl 0 rfl) ?_
        refine lv_iadd hx hb dX4_cancel_82 ?_
        refine pfN (ty0 := tyX11) (ty := tyX11 11) (v := .int ((wPaid σ ((Int32.toNatClampNeg a))) + (if 0 < (((fX4_owed σ ((Int32.toNatClampNeg a)))) - (wPaid σ ((Int32.toNatClampNeg a)))) then (((fX4_owed σ ((Int32.toNatClampNeg a)))) - (wPaid σ ((Int32.toNatClampNeg a)))) else 0))) (C := RX11) (T := TX11) (N := 12) (k := 11) hx hb hts hown hG hS cl_X11 in_X11 tyX11_ok nmX11 (hM.wd nc1.2) (hM.wdF nc1.2) (hM.wdF nc1.2) (by decide) q1715 rfl (tyX11_ok 11 (by decide)) rfl rfl (Nat.le_of_ble_eq_true rfl) dX4_cancel_83 (fun H1 locs1 he hz hq hS => ?_)
        have hM := hM.Pw26 nc1.2 he hq
        have hG := gE.ofS hG0 hS hFE
        obtain ⟨σ3, hσ3⟩ : ∃ x, x = sW σ 26 ((Int32.toNatClampNeg a)) ((wPaid σ ((Int32.toNatClampNeg a))) + (if 0 < (((fX4_owed σ ((Int32.toNatClampNeg a)))) - (wPaid σ ((Int32.toNatClampNeg a)))) then (((fX4_owed σ ((Int32.toNatClampNeg a)))) - (wPaid σ ((Int32.toNatClampNeg a)))) else 0)) := ⟨_, rfl⟩
        rw [← hσ3] at hR hM
        have hcn : cnt σ3 σ := by rw [hσ3]; exact hcn.sW
        try dsimp only at hR
        refine lv_aload_n hx hb dX4_cancel_86 rfl (lv_at hl 3 rfl) ?_
        refine lv_dup hx hb dX4_cancel_87 rfl ?_
        refine gf (v := .int (ca)) (C := RX4) (T := TX4) (N := 13) (k := 2) hx hb hts hown hG cl_X4 in_X4 hM.ag (by decide) q1542 rfl dX4_cancel_88 ?_
        refine lv_iload hx hb dX4_cancel_91 (lv_at hl 0 rfl) ?_
        refine lv_iadd hx hb dX4_cancel_93 ?_
        refine pf (ty0 := tyX4) (ty := tyX4 2) (v := .int (ca + (if 0 < (((fX4_owed σ ((Int32.toNatClampNeg a)))) - (wPaid σ ((Int32.toNatClampNeg a)))) then (((fX4_owed σ ((Int32.toNatClampNeg a)))) - (wPaid σ ((Int32.toNatClampNeg a)))) else 0))) (C := RX4) (T := TX4) (N := 13) (k := 2) hx hb hts hown hG hS cl_X4 in_X4 tyX4_ok nmX4 hM.ag hM.agF hM.agF (by decide) q1542 rfl (tyX4_ok 2 (by decide)) rfl rfl (Nat.le_of_ble_eq_true rfl) dX4_cancel_94 (fun H1 locs1 he hz hq hS => ?_)
        have hM := hM.Pca  he hq
        have hG := gE.ofS hG0 hS hFE
        refine lv_aload_n hx hb dX4_cancel_97 rfl (lv_at hl 2 rfl) ?_
        refine lv_iconst (v := 3) hx hb dX4_cancel_98 (by decide) ?_
        refine pfN (ty0 := tyX11) (ty := tyX11 7) (v := .int 3) (C := RX11) (T := TX11) (N := 12) (k := 7) hx hb hts hown hG hS cl_X11 in_X11 tyX11_ok nmX11 (hM.wd (hcn.w nc1.2)) (hM.wdF (hcn.w nc1.2)) (hM.wdF (hcn.w nc1.2)) (by decide) q1710 rfl (tyX11_ok 7 (by decide)) rfl rfl (Nat.le_of_ble_eq_true rfl) dX4_cancel_99 (fun H1 locs1 he hz hq hS => ?_)
        have hM := hM.Pwst (hcn.w nc1.2) (v := 3) (by decide) he hq
        have hG := gE.ofS hG0 hS hFE
        obtain ⟨σ4, hσ4⟩ : ∃ x, x = sN σ3 5 ((Int32.toNatClampNeg a)) 3 := ⟨_, rfl⟩
        rw [← hσ4] at hR hM
        have hcn : cnt σ4 σ := by rw [hσ4]; exact hcn.sN (by decide)
        try dsimp only at hR
        refine lv_iload_n hx hb dX4_cancel_102 rfl (lv_at hl 1 rfl) ?_
        exact g_iret hx hb hr hlocks hS ⟨Nat.le_of_ble_eq_true rfl, Nat.le_of_ble_eq_true rfl⟩ dX4_cancel_103 (by subst hR; exact ⟨rfl, hM, hcn⟩)
    · rw [if_neg c2] at hR
      refine lv_aload_n hx hb dX4_cancel_39 rfl (lv_at hl 1 rfl) ?_
      refine lv_iconst (v := 2) hx hb dX4_cancel_40 (by decide) ?_
      have hB := hS.1
      refine gcV (As := [.int 2]) (rest := []) hS0 (met_X4_refuse l D E 2) q1591 q1593 qs55 q110 q1594 hd_X4_refuse ⟨Nat.le_of_ble_eq_true rfl, Nat.le_of_ble_eq_true rfl⟩ hG (rcv hG cl_X4 hM.ag) hM rfl hl.1 rfl (Nat.le_of_ble_eq_true rfl) dX4_cancel_41 ⟨Nat.le_of_ble_eq_true rfl, Nat.le_of_ble_eq_true rfl⟩ hS (fun q h => h) (fun q h => h) (fun v H1 locs1 hP hz hk hS => ?_)
      obtain ⟨rfl, hZ, hc8⟩ := hP
      have hM := hZ.mono (fun q _ => fN_fN hB q) hM.fE
      have hG := gE.ofS hG0 hS hFE
      have hcn := hc8.tr hcn
      generalize hv_σ5 : (fX4_refuse σ 0 ca sm 2).2.1 = σ5 at hR hM hcn ⊢
      generalize hv_th5 : (fX4_refuse σ 0 ca sm 2).2.2.1 = th5 at hR hM hcn ⊢
      generalize hv_ca5 : (fX4_refuse σ 0 ca sm 2).2.2.2.1 = ca5 at hR hM hcn ⊢
      generalize hv_sm5 : (fX4_refuse σ 0 ca sm 2).2.2.2.2 = sm5 at hR hM hcn ⊢
      generalize hv_v5 : (fX4_refuse σ 0 ca sm 2).1 = v5 at hR hM hcn ⊢
      try dsimp only at hR
      refine W.eq (g2 := F0 m 44 ls [.int (v5)]) rfl ?_
      exact g_iret hx hb hr hlocks hS ⟨Nat.le_of_ble_eq_true rfl, Nat.le_of_ble_eq_true rfl⟩ dX4_cancel_44 (by subst hR; exact ⟨rfl, hM, hcn⟩)
  · rw [if_neg c1] at hR
    refine lv_aload_n hx hb dX4_cancel_13 rfl (lv_at hl 0 rfl) ?_
    refine lv_iconst (v := 1) hx hb dX4_cancel_14 (by decide) ?_
    have hB := hS.1
    refine gcV (As := [.int 1]) (rest := []) hS0 (met_X4_refuse l D E 1) q1591 q1593 qs55 q110 q1594 hd_X4_refuse ⟨Nat.le_of_ble_eq_true rfl, Nat.le_of_ble_eq_true rfl⟩ hG (rcv hG cl_X4 hM.ag) hM rfl hl.1 rfl (Nat.le_of_ble_eq_true rfl) dX4_cancel_15 ⟨Nat.le_of_ble_eq_true rfl, Nat.le_of_ble_eq_true rfl⟩ hS (fun q h => h) (fun q h => h) (fun v H1 locs1 hP hz hk hS => ?_)
    obtain ⟨rfl, hZ, hc8⟩ := hP
    have hM := hZ.mono (fun q _ => fN_fN hB q) hM.fE
    have hG := gE.ofS hG0 hS hFE
    have hcn := hc8.tr hcn
    generalize hv_σ6 : (fX4_refuse σ 0 ca sm 1).2.1 = σ6 at hR hM hcn ⊢
    generalize hv_th6 : (fX4_refuse σ 0 ca sm 1).2.2.1 = th6 at hR hM hcn ⊢
    generalize hv_ca6 : (fX4_refuse σ 0 ca sm 1).2.2.2.1 = ca6 at hR hM hcn ⊢
    generalize hv_sm6 : (fX4_refuse σ 0 ca sm 1).2.2.2.2 = sm6 at hR hM hcn ⊢
    generalize hv_v6 : (fX4_refuse σ 0 ca sm 1).1 = v6 at hR hM hcn ⊢
    try dsimp only at hR
    refine W.eq (g2 := F0 m 18 ls [.int (v6)]) rfl ?_
    exact g_iret hx hb hr hlocks hS ⟨Nat.le_of_ble_eq_true rfl, Nat.le_of_ble_eq_true rfl⟩ dX4_cancel_18 (by subst hR; exact ⟨rfl, hM, hcn⟩)

def fX4_fixNow (σ : St) (th : Int32) (ca : Int32) (sm : Int64) (wi : Nat) (z : Int32) : MSt :=
  (fun (σ1 : St) => (fun (σ2 : St) => (fun (σ3 : St) => (fun (σ4 : St) => ((σ4, th, (ca + (wPaid σ4 wi)), sm) : MSt)) (sW σ3 26 wi ((wPrice σ3 wi) / 5))) (sW σ2 25 wi ((fX4_priceOf ((fX4_costOf σ2 z wi)))))) (sW σ1 24 wi z)) (sN σ 5 wi 1)
set_option maxHeartbeats 4000000 in
set_option maxRecDepth 100000 in
theorem met_X4_fixNow (l : Launch) (D : va_G) (E : Nat → Nat) {β : Nat → Nat → Nat} {F : Nat → Prop} {σ : St} {th ca : Int32} {sm : Int64} (wi : Nat) (z : Int32) (h_wi : wi < nW σ) : GM l D E yX4_fixNow cX4_fixNow 4 (Option.none : Option Jvm.ClassFile.FieldType) 5 112 0 0 [.ref (β 0 0), .int (nI wi), .int (z)] (RM D E β F σ th ca sm) F F (fun sz v h => v = none ∧ RM D E β (fN F sz) (fX4_fixNow σ th ca sm wi z).1 (fX4_fixNow σ th ca sm wi z).2.1 (fX4_fixNow σ th ca sm wi z).2.2.1 (fX4_fixNow σ th ca sm wi z).2.2.2 h ∧ cnt (fX4_fixNow σ th ca sm wi z).1 σ)  := by
  generalize hR : fX4_fixNow σ th ca sm wi z = r
  refine GM.start (by decide) (Nat.le_of_ble_eq_true rfl) ?_
  intro p e s m below meth c ls hx hb hr hml hown hlocks hnm hts hG hM hS hl
  have hown : s.vm.findClass RX4 = some m.cls := hown
  have hS0 : xS p m c cX4_fixNow 4 s _ RX4 := ⟨hx, hb, hml, hown, hts⟩
  have hl : lv_has ls 4 [(0, .ref (β 0 0)), (1, .int (nI wi)), (2, .int (z))] := hl
  have hG0 := hG
  have hM0 := hM
  have hb0P := hM0.nP10
  have hb0B := hM0.nB6
  have hb0W := hM0.nW14
  have hFE := hM.fE
  have hM := hM.wide (n := s.heap.size) hG.2.2.1
  have hcn : cnt σ σ := cnt.rf
  unfold fX4_fixNow at hR
  refine lv_aload_n hx hb dX4_fixNow_0 rfl (lv_at hl 0 rfl) ?_
  refine gf (v := .ref (β 1 2)) (C := RX4) (T := TX4) (N := 13) (k := 5) hx hb hts hown hG cl_X4 in_X4 hM.ag (by decide) q1545 rfl dX4_fixNow_1 ?_
  refine lv_iload_n hx hb dX4_fixNow_4 rfl (lv_at hl 1 rfl) ?_
  refine pcV (As := [.int (nI wi)]) (rest := []) hS0 (met_ml_get l D E (j := 2) (by decide) wi h_wi) q1639 q349 q2082 q103 q351 hd_J2_get ⟨Nat.le_of_ble_eq_true rfl, Nat.le_of_ble_eq_true rfl⟩ hG (hM.lsR hG (j := 2) (by decide)) hM rfl hl.1 rfl (Nat.le_of_ble_eq_true rfl) dX4_fixNow_5 ⟨Nat.le_of_ble_eq_true rfl, Nat.le_of_ble_eq_true rfl⟩ ?_
  refine W.eq (g2 := F0 m 8 ls [.ref (β 5 wi)]) rfl ?_
  refine gc (ci := 9) hx hb hown hG cl_X11 (rcv hG cl_X11 (hM.wd h_wi)) (hts _ q1695) dX4_fixNow_8 ?_
  refine lv_astore_n (lv' := [(3, .ref (β 5 wi)), (0, .ref (β 0 0)), (1, .int (nI wi)), (2, .int (z))]) hx hb dX4_fixNow_11 rfl hl (Nat.le_of_ble_eq_true rfl) rfl (fun ls hl => ?_)
  refine lv_aload_n hx hb dX4_fixNow_12 rfl (lv_at hl 0 rfl) ?_
  refine lv_iconst (v := 1) hx hb dX4_fixNow_13 (by decide) ?_
  refine pfN (ty0 := tyX11) (ty := tyX11 7) (v := .int 1) (C := RX11) (T := TX11) (N := 12) (k := 7) hx hb hts hown hG hS cl_X11 in_X11 tyX11_ok nmX11 (hM.wd h_wi) (hM.wdF h_wi) (hM.wdF h_wi) (by decide) q1710 rfl (tyX11_ok 7 (by decide)) rfl rfl (Nat.le_of_ble_eq_true rfl) dX4_fixNow_14 (fun H1 locs1 he hz hq hS => ?_)
  have hM := hM.Pwst h_wi (v := 1) (by decide) he hq
  have hG := gE.ofS hG0 hS hFE
  obtain ⟨σ1, hσ1⟩ : ∃ x, x = sN σ 5 wi 1 := ⟨_, rfl⟩
  rw [← hσ1] at hR hM
  have hcn : cnt σ1 σ := by rw [hσ1]; exact hcn.sN (by decide)
  try dsimp only at hR
  refine lv_aload_n hx hb dX4_fixNow_17 rfl (lv_at hl 0 rfl) ?_
  refine lv_iload_n hx hb dX4_fixNow_18 rfl (lv_at hl 3 rfl) ?_
  refine pfN (ty0 := tyX11) (ty := tyX11 8) (v := .int (z)) (C := RX11) (T := TX11) (N := 12) (k := 8) hx hb hts hown hG hS cl_X11 in_X11 tyX11_ok nmX11 (hM.wd (hcn.w h_wi)) (hM.wdF (hcn.w h_wi)) (hM.wdF (hcn.w h_wi)) (by decide) q1711 rfl (tyX11_ok 8 (by decide)) rfl rfl (Nat.le_of_ble_eq_true rfl) dX4_fixNow_19 (fun H1 locs1 he hz hq hS => ?_)
  have hM := hM.Pw24 (hcn.w h_wi) he hq
  have hG := gE.ofS hG0 hS hFE
  obtain ⟨σ2, hσ2⟩ : ∃ x, x = sW σ1 24 wi z := ⟨_, rfl⟩
  rw [← hσ2] at hR hM
  have hcn : cnt σ2 σ := by rw [hσ2]; exact hcn.sW
  try dsimp only at hR
  refine lv_aload_n hx hb dX4_fixNow_22 rfl (lv_at hl 0 rfl) ?_
  refine lv_aload_n hx hb dX4_fixNow_23 rfl (lv_at hl 1 rfl) ?_
  refine lv_iload_n hx hb dX4_fixNow_24 rfl (lv_at hl 3 rfl) ?_
  refine lv_aload_n hx hb dX4_fixNow_25 rfl (lv_at hl 0 rfl) ?_
  refine pcV (As := [.int (z), .ref (β 5 wi)]) (rest := [.ref (β 5 wi)]) hS0 (met_X4_costOf l D E z wi (hcn.w h_wi)) q1791 q1793 qs73 q110 q1794 hd_X4_costOf ⟨Nat.le_of_ble_eq_true rfl, Nat.le_of_ble_eq_true rfl⟩ hG (rcv hG cl_X4 hM.ag) hM rfl hl.1 rfl (Nat.le_of_ble_eq_true rfl) dX4_fixNow_26 ⟨Nat.le_of_ble_eq_true rfl, Nat.le_of_ble_eq_true rfl⟩ ?_
  refine W.eq (g2 := F0 m 29 ls [.int ((fX4_costOf σ2 z wi)), .ref (β 5 wi)]) rfl ?_
  refine pcS (As := [.int ((fX4_costOf σ2 z wi))]) (rest := [.ref (β 5 wi)]) hS0 (met_X4_priceOf l D E ((fX4_costOf σ2 z wi))) q1803 q1804 q110 q1805 hd_X4_priceOf ⟨Nat.le_of_ble_eq_true rfl, Nat.le_of_ble_eq_true rfl⟩ hG trivial rfl hl.1 rfl (Nat.le_of_ble_eq_true rfl) dX4_fixNow_29 ⟨Nat.le_of_ble_eq_true rfl, Nat.le_of_ble_eq_true rfl⟩ ?_
  refine W.eq (g2 := F0 m 32 ls [.int ((fX4_priceOf ((fX4_costOf σ2 z wi)))), .ref (β 5 wi)]) rfl ?_
  refine pfN (ty0 := tyX11) (ty := tyX11 9) (v := .int ((fX4_priceOf ((fX4_costOf σ2 z wi))))) (C := RX11) (T := TX11) (N := 12) (k := 9) hx hb hts hown hG hS cl_X11 in_X11 tyX11_ok nmX11 (hM.wd (hcn.w h_wi)) (hM.wdF (hcn.w h_wi)) (hM.wdF (hcn.w h_wi)) (by decide) q1712 rfl (tyX11_ok 9 (by decide)) rfl rfl (Nat.le_of_ble_eq_true rfl) dX4_fixNow_32 (fun H1 locs1 he hz hq hS => ?_)
  have hM := hM.Pw25 (hcn.w h_wi) he hq
  have hG := gE.ofS hG0 hS hFE
  obtain ⟨σ3, hσ3⟩ : ∃ x, x = sW σ2 25 wi ((fX4_priceOf ((fX4_costOf σ2 z wi)))) := ⟨_, rfl⟩
  rw [← hσ3] at hR hM
  have hcn : cnt σ3 σ := by rw [hσ3]; exact hcn.sW
  try dsimp only at hR
  refine lv_aload_n hx hb dX4_fixNow_35 rfl (lv_at hl 0 rfl) ?_
  refine lv_aload_n hx hb dX4_fixNow_36 rfl (lv_at hl 0 rfl) ?_
  refine gfN (v := .int (wPrice σ3 wi)) (C := RX11) (T := TX11) (N := 12) (k := 9) hx hb hts hown hG cl_X11 in_X11 (hM.wd (hcn.w h_wi)) (by decide) q1712 rfl dX4_fixNow_37 ?_
  refine lv_iconst (v := 5) hx hb dX4_fixNow_40 (by decide) ?_
  refine lv_idiv hx hb dX4_fixNow_41 (by decide) ?_
  refine pfN (ty0 := tyX11) (ty := tyX11 11) (v := .int ((wPrice σ3 wi) / 5)) (C := RX11) (T := TX11) (N := 12) (k := 11) hx hb hts hown hG hS cl_X11 in_X11 tyX11_ok nmX11 (hM.wd (hcn.w h_wi)) (hM.wdF (hcn.w h_wi)) (hM.wdF (hcn.w h_wi)) (by decide) q1715 rfl (tyX11_ok 11 (by decide)) rfl rfl (Nat.le_of_ble_eq_true rfl) dX4_fixNow_42 (fun H1 locs1 he hz hq hS => ?_)
  have hM := hM.Pw26 (hcn.w h_wi) he hq
  have hG := gE.ofS hG0 hS hFE
  obtain ⟨σ4, hσ4⟩ : ∃ x, x = sW σ3 26 wi ((wPrice σ3 wi) / 5) := ⟨_, rfl⟩
  rw [← hσ4] at hR hM
  have hcn : cnt σ4 σ := by rw [hσ4]; exact hcn.sW
  try dsimp only at hR
  refine lv_aload_n hx hb dX4_fixNow_45 rfl (lv_at hl 1 rfl) ?_
  refine lv_dup hx hb dX4_fixNow_46 rfl ?_
  refine gf (v := .int (ca)) (C := RX4) (T := TX4) (N := 13) (k := 2) hx hb hts hown hG cl_X4 in_X4 hM.ag (by decide) q1542 rfl dX4_fixNow_47 ?_
  refine lv_aload_n hx hb dX4_fixNow_50 rfl (lv_at hl 0 rfl) ?_
  refine gfN (v := .int (wPaid σ4 wi)) (C := RX11) (T := TX11) (N := 12) (k := 11) hx hb hts hown hG cl_X11 in_X11 (hM.wd (hcn.w h_wi)) (by decide) q1715 rfl dX4_fixNow_51 ?_
  refine lv_iadd hx hb dX4_fixNow_54 ?_
  refine pf (ty0 := tyX4) (ty := tyX4 2) (v := .int (ca + (wPaid σ4 wi))) (C := RX4) (T := TX4) (N := 13) (k := 2) hx hb hts hown hG hS cl_X4 in_X4 tyX4_ok nmX4 hM.ag hM.agF hM.agF (by decide) q1542 rfl (tyX4_ok 2 (by decide)) rfl rfl (Nat.le_of_ble_eq_true rfl) dX4_fixNow_55 (fun H1 locs1 he hz hq hS => ?_)
  have hM := hM.Pca  he hq
  have hG := gE.ofS hG0 hS hFE
  exact g_vret hx hb hr hlocks hS ⟨Nat.le_of_ble_eq_true rfl, Nat.le_of_ble_eq_true rfl⟩ dX4_fixNow_58 (by subst hR; exact ⟨rfl, hM, hcn⟩)

def fX4_illNow_L22 (σ : St) (th : Int32) (ca : Int32) (sm : Int64) (ui : Nat) (di : Nat)  (κ : Int32 → St → Int32 → Int32 → Int64 → Int32 × MSt) : Nat → Nat → Int32 → St → Int32 → Int32 → Int64 → Int32 × MSt
  | 0, i4, a3, σ2, th2, ca2, sm2 => κ a3 σ2 th2 ca2 sm2
  | n + 1, i4, a3, σ2, th2, ca2, sm2 => (if (nI (wState σ2 i4)) = 1 then (if (nI (wDay σ2 i4)) = (nI di) then (if ((fX4_isIn (wSet σ2 i4) (nI ui))) = true then (if ((gX4_best σ2 i4 0 (wSet σ2 i4))) = ((-1)) then (fun (σ3 : St) => (fun (σ4 : St) => fX4_illNow_L22 σ th ca sm ui di κ n (i4 + 1) (a3 + 1) σ4 th2 ((ca2 - ((wPaid σ3 i4) + ((wPrice σ3 i4) / 10)))) sm2) (sW σ3 26 i4 (-((wPrice σ3 i4) / 10)))) (sN σ2 5 i4 3) else (fun (σ5 : St) => fX4_illNow_L22 σ th ca sm ui di κ n (i4 + 1) a3 σ5 th2 ca2 sm2) (sW σ2 24 i4 ((gX4_best σ2 i4 0 (wSet σ2 i4))))) else fX4_illNow_L22 σ th ca sm ui di κ n (i4 + 1) a3 σ2 th2 ca2 sm2) else fX4_illNow_L22 σ th ca sm ui di κ n (i4 + 1) a3 σ2 th2 ca2 sm2) else fX4_illNow_L22 σ th ca sm ui di κ n (i4 + 1) a3 σ2 th2 ca2 sm2)
def fX4_illNow (σ : St) (th : Int32) (ca : Int32) (sm : Int64) (ui : Nat) (di : Nat) : Int32 × MSt :=
  (fun (σ1 : St) => fX4_illNow_L22 σ th ca sm ui di (fun (a5 : Int32) (σ6 : St) (th6 : Int32) (ca6 : Int32) (sm6 : Int64) => (a5, ((σ6, th6, ca6, sm6) : MSt))) (nW σ) 0 0 σ1 th ca sm) (sO σ ui di 1)
set_option maxHeartbeats 4000000 in
set_option maxRecDepth 100000 in
theorem met_X4_illNow (l : Launch) (D : va_G) (E : Nat → Nat) {β : Nat → Nat → Nat} {F : Nat → Prop} {σ : St} {th ca : Int32} {sm : Int64} (ui : Nat) (di : Nat) (h_ui : ui < nP σ) (h_di : di < 366) : GM l D E yX4_illNow cX4_illNow 7 (Option.some Jvm.ClassFile.FieldType.int) 21 463 0 0 [.ref (β 0 0), .int (nI ui), .int (nI di)] (RM D E β F σ th ca sm) F F (fun sz v h => v = some (.int (fX4_illNow σ th ca sm ui di).1) ∧ RM D E β (fN F sz) (fX4_illNow σ th ca sm ui di).2.1 (fX4_illNow σ th ca sm ui di).2.2.1 (fX4_illNow σ th ca sm ui di).2.2.2.1 (fX4_illNow σ th ca sm ui di).2.2.2.2 h ∧ cnt (fX4_illNow σ th ca sm ui di).2.1 σ)  := by
  generalize hR : fX4_illNow σ th ca sm ui di = r
  refine GM.start (by decide) (Nat.le_of_ble_eq_true rfl) ?_
  intro p e s m below meth c ls hx hb hr hml hown hlocks hnm hts hG hM hS hl
  have hown : s.vm.findClass RX4 = some m.cls := hown
  have hS0 : xS p m c cX4_illNow 7 s _ RX4 := ⟨hx, hb, hml, hown, hts⟩
  have hl : lv_has ls 7 [(0, .ref (β 0 0)), (1, .int (nI ui)), (2, .int (nI di))] := hl
  have hG0 := hG
  have hM0 := hM
  have hb0P := hM0.nP10
  have hb0B := hM0.nB6
  have hb0W := hM0.nW14
  have hFE := hM.fE
  have hM := hM.wide (n := s.heap.size) hG.2.2.1
  have hcn : cnt σ σ := cnt.rf
  have hL22 : ∀  (κ : Int32 → St → Int32 → Int32 → Int64 → Int32 × MSt) (hκ : ∀ (a3 : Int32) (σ2 : St) (th2 : Int32) (ca2 : Int32) (sm2 : Int64) (H : Heap) (locs : List Loc) (ls : Array Slot), κ a3 σ2 th2 ca2 sm2 = r → cnt σ2 σ → RM D E β (fN F s.heap.size) σ2 th2 ca2 sm2 H → xK F F s.heap H locs → lv_has ls 7 [(3, .int (a3))] → W p l e { frames := 21, cells := 0, slots := 0, locals := 463 } s m [(.ref (β 0 0) : Value), .int (nI ui), .int (nI di)].toArray below meth c H locs 0 0 (MQ below (qG F ((fun sz v h => v = some (.int r.1) ∧ RM D E β (fN F sz) r.2.1 r.2.2.1 r.2.2.2.1 r.2.2.2.2 h ∧ cnt r.2.1 σ) s.heap.size)) [(.ref (β 0 0) : Value), .int (nI ui), .int (nI di)].toArray s 0 0 (fN F s.heap.size)) (F0 m 163 ls [])) (n : Nat) (i4 : Nat) (a3 : Int32) (σ2 : St) (th2 : Int32) (ca2 : Int32) (sm2 : Int64), i4 + n = nW σ → fX4_illNow_L22 σ th ca sm ui di κ n i4 a3 σ2 th2 ca2 sm2 = r → ∀ (H : Heap) (locs : List Loc), cnt σ2 σ → RM D E β (fN F s.heap.size) σ2 th2 ca2 sm2 H → xK F F s.heap H locs → ∀ (ls : Array Slot), lv_has ls 7 [(0, .ref (β 0 0)), (1, .int (nI ui)), (2, .int (nI di)), (3, .int (a3)), (4, .int (nI i4))] → W p l e { frames := 21, cells := 0, slots := 0, locals := 463 } s m [(.ref (β 0 0) : Value), .int (nI ui), .int (nI di)].toArray below meth c H locs 0 0 (MQ below (qG F ((fun sz v h => v = some (.int r.1) ∧ RM D E β (fN F sz) r.2.1 r.2.2.1 r.2.2.2.1 r.2.2.2.2 h ∧ cnt r.2.1 σ) s.heap.size)) [(.ref (β 0 0) : Value), .int (nI ui), .int (nI di)].toArray s 0 0 (fN F s.heap.size)) (F0 m 22 ls []) := by
    intro  κ hκ n
    induction n with
    | zero =>
      intro i4 a3 σ2 th2 ca2 sm2 hn hR H locs hcn hM hS ls hl
      rw [fX4_illNow_L22] at hR
      have hG := gE.ofS hG0 hS hFE
      refine lv_iload hx hb dX4_illNow_22 (lv_at hl 4 rfl) ?_
      refine lv_aload_n hx hb dX4_illNow_24 rfl (lv_at hl 0 rfl) ?_
      refine gf (v := .ref (β 1 2)) (C := RX4) (T := TX4) (N := 13) (k := 5) hx hb hts hown hG cl_X4 in_X4 hM.ag (by decide) q1545 rfl dX4_illNow_25 ?_
      refine pcV (As := []) (rest := [.int (nI i4)]) hS0 (met_ml_size l D E (j := 2) (by decide)) q1600 q336 q2080 q103 q338 hd_J2_size ⟨Nat.le_of_ble_eq_true rfl, Nat.le_of_ble_eq_true rfl⟩ hG (hM.lsR hG (j := 2) (by decide)) hM rfl hl.1 rfl (Nat.le_of_ble_eq_true rfl) dX4_illNow_28 ⟨Nat.le_of_ble_eq_true rfl, Nat.le_of_ble_eq_true rfl⟩ ?_
      refine W.eq (g2 := F0 m 31 ls [.int (nI (nW σ2)), .int (nI i4)]) rfl ?_
      refine lk_ge_out (k := i4) (N := nW σ2) hx hb (Eq.trans hn hcn.2.2.symm) (tgt := 163) dX4_illNow_31 (by decide) ?_
      exact hκ a3 σ2 th2 ca2 sm2 _ _ ls hR hcn hM hS (lv_sub hl [3] rfl)
    | succ n ih =>
      intro i4 a3 σ2 th2 ca2 sm2 hn hR H locs hcn hM hS ls hl
      rw [fX4_illNow_L22] at hR
      have hG := gE.ofS hG0 hS hFE
      refine lv_iload hx hb dX4_illNow_22 (lv_at hl 4 rfl) ?_
      refine lv_aload_n hx hb dX4_illNow_24 rfl (lv_at hl 0 rfl) ?_
      refine gf (v := .ref (β 1 2)) (C := RX4) (T := TX4) (N := 13) (k := 5) hx hb hts hown hG cl_X4 in_X4 hM.ag (by decide) q1545 rfl dX4_illNow_25 ?_
      refine pcV (As := []) (rest := [.int (nI i4)]) hS0 (met_ml_size l D E (j := 2) (by decide)) q1600 q336 q2080 q103 q338 hd_J2_size ⟨Nat.le_of_ble_eq_true rfl, Nat.le_of_ble_eq_true rfl⟩ hG (hM.lsR hG (j := 2) (by decide)) hM rfl hl.1 rfl (Nat.le_of_ble_eq_true rfl) dX4_illNow_28 ⟨Nat.le_of_ble_eq_true rfl, Nat.le_of_ble_eq_true rfl⟩ ?_
      refine W.eq (g2 := F0 m 31 ls [.int (nI (nW σ2)), .int (nI i4)]) rfl ?_
      have hki4 : i4 < nW σ := lk_lt hn
      refine lk_ge_in (k := i4) (N := nW σ2) hx hb (hcn.w hki4) (by have := hM.nP10; have := hM.nW14; have := hM.nB6; omega) (tgt := 163) dX4_illNow_31 (by decide) ?_
      refine lv_aload_n hx hb dX4_illNow_34 rfl (lv_at hl 0 rfl) ?_
      refine gf (v := .ref (β 1 2)) (C := RX4) (T := TX4) (N := 13) (k := 5) hx hb hts hown hG cl_X4 in_X4 hM.ag (by decide) q1545 rfl dX4_illNow_35 ?_
      refine lv_iload hx hb dX4_illNow_38 (lv_at hl 4 rfl) ?_
      refine pcV (As := [.int (nI i4)]) (rest := []) hS0 (met_ml_get l D E (j := 2) (by decide) i4 (hcn.w hki4)) q1639 q349 q2082 q103 q351 hd_J2_get ⟨Nat.le_of_ble_eq_true rfl, Nat.le_of_ble_eq_true rfl⟩ hG (hM.lsR hG (j := 2) (by decide)) hM rfl hl.1 rfl (Nat.le_of_ble_eq_true rfl) dX4_illNow_40 ⟨Nat.le_of_ble_eq_true rfl, Nat.le_of_ble_eq_true rfl⟩ ?_
      refine W.eq (g2 := F0 m 43 ls [.ref (β 5 i4)]) rfl ?_
      refine gc (ci := 9) hx hb hown hG cl_X11 (rcv hG cl_X11 (hM.wd (hcn.w hki4))) (hts _ q1695) dX4_illNow_43 ?_
      refine lv_astore (lv' := [(5, .ref (β 5 i4)), (0, .ref (β 0 0)), (1, .int (nI ui)), (2, .int (nI di)), (3, .int (a3)), (4, .int (nI i4))]) hx hb dX4_illNow_46 hl (Nat.le_of_ble_eq_true rfl) rfl (fun ls hl => ?_)
      refine lv_aload hx hb dX4_illNow_48 (lv_at hl 0 rfl) ?_
      refine gfN (v := .int (nI (wState σ2 i4))) (C := RX11) (T := TX11) (N := 12) (k := 7) hx hb hts hown hG cl_X11 in_X11 (hM.wd (hcn.w hki4)) (by decide) q1710 rfl dX4_illNow_50 ?_
      refine lv_iconst (v := 1) hx hb dX4_illNow_53 (by decide) ?_
      refine lv_icmp_ne (tgt := 157) hx hb dX4_illNow_54 (by decide) (fun c1 => ?_) (fun c1 => ?_)
      · rw [if_neg c1] at hR
        refine lv_iinc (v := nI (i4 + 1)) (lv' := [(4, .int (nI (i4 + 1))), (5, .ref (β 5 i4)), (0, .ref (β 0 0)), (1, .int (nI ui)), (2, .int (nI di)), (3, .int (a3))]) hx hb dX4_illNow_157 hl (k := 5) rfl (nI_1 i4) (Nat.le_of_ble_eq_true rfl) rfl (fun ls hl => ?_)
        refine lv_goto (tgt := 22) hx hb dX4_illNow_160 (by decide) ?_
        exact ih (i4 + 1) a3 σ2 th2 ca2 sm2 (lk_st hn) hR _ _ hcn hM hS ls (lv_sub hl [2, 3, 4, 5, 0] rfl)
      · rw [if_pos c1] at hR
        refine lv_aload hx hb dX4_illNow_57 (lv_at hl 0 rfl) ?_
        refine gfN (v := .int (nI (wDay σ2 i4))) (C := RX11) (T := TX11) (N := 12) (k := 1) hx hb hts hown hG cl_X11 in_X11 (hM.wd (hcn.w hki4)) (by decide) q1702 rfl dX4_illNow_59 ?_
        refine lv_iload_n hx hb dX4_illNow_62 rfl (lv_at hl 3 rfl) ?_
        refine lv_icmp_ne (tgt := 157) hx hb dX4_illNow_63 (by decide) (fun c2 => ?_) (fun c2 => ?_)
        · rw [if_neg c2] at hR
          refine lv_iinc (v := nI (i4 + 1)) (lv' := [(4, .int (nI (i4 + 1))), (5, .ref (β 5 i4)), (0, .ref (β 0 0)), (1, .int (nI ui)), (2, .int (nI di)), (3, .int (a3))]) hx hb dX4_illNow_157 hl (k := 5) rfl (nI_1 i4) (Nat.le_of_ble_eq_true rfl) rfl (fun ls hl => ?_)
          refine lv_goto (tgt := 22) hx hb dX4_illNow_160 (by decide) ?_
          exact ih (i4 + 1) a3 σ2 th2 ca2 sm2 (lk_st hn) hR _ _ hcn hM hS ls (lv_sub hl [2, 3, 4, 5, 0] rfl)
        · rw [if_pos c2] at hR
          refine lv_aload hx hb dX4_illNow_66 (lv_at hl 0 rfl) ?_
          refine gfN (v := .int (wSet σ2 i4)) (C := RX11) (T := TX11) (N := 12) (k := 8) hx hb hts hown hG cl_X11 in_X11 (hM.wd (hcn.w hki4)) (by decide) q1711 rfl dX4_illNow_68 ?_
          refine lv_iload_n hx hb dX4_illNow_71 rfl (lv_at hl 2 rfl) ?_
          refine pcS (As := [.int (wSet σ2 i4), .int (nI ui)]) (rest := []) hS0 (met_X4_isIn l D E (wSet σ2 i4) (nI ui)) q1654 q1655 q110 q1656 hd_X4_isIn ⟨Nat.le_of_ble_eq_true rfl, Nat.le_of_ble_eq_true rfl⟩ hG trivial rfl hl.1 rfl (Nat.le_of_ble_eq_true rfl) dX4_illNow_72 ⟨Nat.le_of_ble_eq_true rfl, Nat.le_of_ble_eq_true rfl⟩ ?_
          refine W.eq (g2 := F0 m 75 ls [.int (bI ((fX4_isIn (wSet σ2 i4) (nI ui))))]) rfl ?_
          refine lb_if_ne (tgt := 81) hx hb dX4_illNow_75 (by decide) (fun c3 => ?_) (fun c3 => ?_)
          · rw [if_pos c3] at hR
            refine lv_aload_n hx hb dX4_illNow_81 rfl (lv_at hl 1 rfl) ?_
            refine lv_iload hx hb dX4_illNow_82 (lv_at hl 5 rfl) ?_
            refine lv_iconst (v := 0) hx hb dX4_illNow_84 (by decide) ?_
            refine lv_aload hx hb dX4_illNow_85 (lv_at hl 0 rfl) ?_
            refine gfN (v := .int (wSet σ2 i4)) (C := RX11) (T := TX11) (N := 12) (k := 8) hx hb hts hown hG cl_X11 in_X11 (hM.wd (hcn.w hki4)) (by decide) q1711 rfl dX4_illNow_87 ?_
            refine pcV (As := [.int (nI i4), .int 0, .int (wSet σ2 i4)]) (rest := []) hS0 (met_gX4_best l D E i4 0 (wSet σ2 i4) (hcn.w hki4)) q1753 q1755 qs64 q110 q1756 hd_X4_best ⟨Nat.le_of_ble_eq_true rfl, Nat.le_of_ble_eq_true rfl⟩ hG (rcv hG cl_X4 hM.ag) hM rfl hl.1 rfl (Nat.le_of_ble_eq_true rfl) dX4_illNow_90 ⟨Nat.le_of_ble_eq_true rfl, Nat.le_of_ble_eq_true rfl⟩ ?_
            refine W.eq (g2 := F0 m 93 ls [.int ((gX4_best σ2 i4 0 (wSet σ2 i4)))]) rfl ?_
            refine lv_istore (lv' := [(6, .int ((gX4_best σ2 i4 0 (wSet σ2 i4)))), (5, .ref (β 5 i4)), (0, .ref (β 0 0)), (1, .int (nI ui)), (2, .int (nI di)), (3, .int (a3)), (4, .int (nI i4))]) hx hb dX4_illNow_93 hl (Nat.le_of_ble_eq_true rfl) rfl (fun ls hl => ?_)
            refine lv_iload hx hb dX4_illNow_95 (lv_at hl 0 rfl) ?_
            refine lv_iconst (v := (-1)) hx hb dX4_illNow_97 (by decide) ?_
            refine lv_icmp_eq (tgt := 111) hx hb dX4_illNow_98 (by decide) (fun c4 => ?_) (fun c4 => ?_)
            · rw [if_pos c4] at hR
              refine lv_aload hx hb dX4_illNow_111 (lv_at hl 1 rfl) ?_
              refine lv_iconst (v := 3) hx hb dX4_illNow_113 (by decide) ?_
              refine pfN (ty0 := tyX11) (ty := tyX11 7) (v := .int 3) (C := RX11) (T := TX11) (N := 12) (k := 7) hx hb hts hown hG hS cl_X11 in_X11 tyX11_ok nmX11 (hM.wd (hcn.w hki4)) (hM.wdF (hcn.w hki4)) (hM.wdF (hcn.w hki4)) (by decide) q1710 rfl (tyX11_ok 7 (by decide)) rfl rfl (Nat.le_of_ble_eq_true rfl) dX4_illNow_114 (fun H1 locs1 he hz hq hS => ?_)
              have hM := hM.Pwst (hcn.w hki4) (v := 3) (by decide) he hq
              have hG := gE.ofS hG0 hS hFE
              obtain ⟨σ3, hσ3⟩ : ∃ x, x = sN σ2 5 i4 3 := ⟨_, rfl⟩
              rw [← hσ3] at hR hM
              have hcn : cnt σ3 σ := by rw [hσ3]; exact hcn.sN (by decide)
              try dsimp only at hR
              refine lv_aload_n hx hb dX4_illNow_117 rfl (lv_at hl 2 rfl) ?_
              refine lv_dup hx hb dX4_illNow_118 rfl ?_
              refine gf (v := .int (ca2)) (C := RX4) (T := TX4) (N := 13) (k := 2) hx hb hts hown hG cl_X4 in_X4 hM.ag (by decide) q1542 rfl dX4_illNow_119 ?_
              refine lv_aload hx hb dX4_illNow_122 (lv_at hl 1 rfl) ?_
              refine gfN (v := .int (wPaid σ3 i4)) (C := RX11) (T := TX11) (N := 12) (k := 11) hx hb hts hown hG cl_X11 in_X11 (hM.wd (hcn.w hki4)) (by decide) q1715 rfl dX4_illNow_124 ?_
              refine lv_aload hx hb dX4_illNow_127 (lv_at hl 1 rfl) ?_
              refine gfN (v := .int (wPrice σ3 i4)) (C := RX11) (T := TX11) (N := 12) (k := 9) hx hb hts hown hG cl_X11 in_X11 (hM.wd (hcn.w hki4)) (by decide) q1712 rfl dX4_illNow_129 ?_
              refine lv_bipush (v := 10) hx hb dX4_illNow_132 (by decide) ?_
              refine lv_idiv hx hb dX4_illNow_134 (by decide) ?_
              refine lv_iadd hx hb dX4_illNow_135 ?_
              refine lv_isub hx hb dX4_illNow_136 ?_
              refine pf (ty0 := tyX4) (ty := tyX4 2) (v := .int (ca2 - ((wPaid σ3 i4) + ((wPrice σ3 i4) / 10)))) (C := RX4) (T := TX4) (N := 13) (k := 2) hx hb hts hown hG hS cl_X4 in_X4 tyX4_ok nmX4 hM.ag hM.agF hM.agF (by decide) q1542 rfl (tyX4_ok 2 (by decide)) rfl rfl (Nat.le_of_ble_eq_true rfl) dX4_illNow_137 (fun H1 locs1 he hz hq hS => ?_)
              have hM := hM.Pca  he hq
              have hG := gE.ofS hG0 hS hFE
              refine lv_aload hx hb dX4_illNow_140 (lv_at hl 1 rfl) ?_
              refine lv_aload hx hb dX4_illNow_142 (lv_at hl 1 rfl) ?_
              refine gfN (v := .int (wPrice σ3 i4)) (C := RX11) (T := TX11) (N := 12) (k := 9) hx hb hts hown hG cl_X11 in_X11 (hM.wd (hcn.w hki4)) (by decide) q1712 rfl dX4_illNow_144 ?_
              refine lv_bipush (v := 10) hx hb dX4_illNow_147 (by decide) ?_
              refine lv_idiv hx hb dX4_illNow_149 (by decide) ?_
              refine lv_ineg hx hb dX4_illNow_150 ?_
              refine pfN (ty0 := tyX11) (ty := tyX11 11) (v := .int (-((wPrice σ3 i4) / 10))) (C := RX11) (T := TX11) (N := 12) (k := 11) hx hb hts hown hG hS cl_X11 in_X11 tyX11_ok nmX11 (hM.wd (hcn.w hki4)) (hM.wdF (hcn.w hki4)) (hM.wdF (hcn.w hki4)) (by decide) q1715 rfl (tyX11_ok 11 (by decide)) rfl rfl (Nat.le_of_ble_eq_true rfl) dX4_illNow_151 (fun H1 locs1 he hz hq hS => ?_)
              have hM := hM.Pw26 (hcn.w hki4) he hq
              have hG := gE.ofS hG0 hS hFE
              obtain ⟨σ4, hσ4⟩ : ∃ x, x = sW σ3 26 i4 (-((wPrice σ3 i4) / 10)) := ⟨_, rfl⟩
              rw [← hσ4] at hR hM
              have hcn : cnt σ4 σ := by rw [hσ4]; exact hcn.sW
              try dsimp only at hR
              refine lv_iinc (v := a3 + 1) (lv' := [(3, .int (a3 + 1)), (6, .int ((gX4_best σ2 i4 0 (wSet σ2 i4)))), (5, .ref (β 5 i4)), (0, .ref (β 0 0)), (1, .int (nI ui)), (2, .int (nI di)), (4, .int (nI i4))]) hx hb dX4_illNow_154 hl (k := 5) rfl rfl (Nat.le_of_ble_eq_true rfl) rfl (fun ls hl => ?_)
              refine lv_iinc (v := nI (i4 + 1)) (lv' := [(4, .int (nI (i4 + 1))), (3, .int (a3 + 1)), (6, .int ((gX4_best σ2 i4 0 (wSet σ2 i4)))), (5, .ref (β 5 i4)), (0, .ref (β 0 0)), (1, .int (nI ui)), (2, .int (nI di))]) hx hb dX4_illNow_157 hl (k := 6) rfl (nI_1 i4) (Nat.le_of_ble_eq_true rfl) rfl (fun ls hl => ?_)
              refine lv_goto (tgt := 22) hx hb dX4_illNow_160 (by decide) ?_
              exact ih (i4 + 1) (a3 + 1) σ4 th2 ((ca2 - ((wPaid σ3 i4) + ((wPrice σ3 i4) / 10)))) sm2 (lk_st hn) hR _ _ hcn hM hS ls (lv_sub hl [4, 5, 6, 1, 0] rfl)
            · rw [if_neg c4] at hR
              refine lv_aload hx hb dX4_illNow_101 (lv_at hl 1 rfl) ?_
              refine lv_iload hx hb dX4_illNow_103 (lv_at hl 0 rfl) ?_
              refine pfN (ty0 := tyX11) (ty := tyX11 8) (v := .int ((gX4_best σ2 i4 0 (wSet σ2 i4)))) (C := RX11) (T := TX11) (N := 12) (k := 8) hx hb hts hown hG hS cl_X11 in_X11 tyX11_ok nmX11 (hM.wd (hcn.w hki4)) (hM.wdF (hcn.w hki4)) (hM.wdF (hcn.w hki4)) (by decide) q1711 rfl (tyX11_ok 8 (by decide)) rfl rfl (Nat.le_of_ble_eq_true rfl) dX4_illNow_105 (fun H1 locs1 he hz hq hS => ?_)
              have hM := hM.Pw24 (hcn.w hki4) he hq
              have hG := gE.ofS hG0 hS hFE
              obtain ⟨σ5, hσ5⟩ : ∃ x, x = sW σ2 24 i4 ((gX4_best σ2 i4 0 (wSet σ2 i4))) := ⟨_, rfl⟩
              rw [← hσ5] at hR hM
              have hcn : cnt σ5 σ := by rw [hσ5]; exact hcn.sW
              try dsimp only at hR
              refine lv_goto (tgt := 157) hx hb dX4_illNow_108 (by decide) ?_
              refine lv_iinc (v := nI (i4 + 1)) (lv' := [(4, .int (nI (i4 + 1))), (6, .int ((gX4_best σ2 i4 0 (wSet σ2 i4)))), (5, .ref (β 5 i4)), (0, .ref (β 0 0)), (1, .int (nI ui)), (2, .int (nI di)), (3, .int (a3))]) hx hb dX4_illNow_157 hl (k := 6) rfl (nI_1 i4) (Nat.le_of_ble_eq_true rfl) rfl (fun ls hl => ?_)
              refine lv_goto (tgt := 22) hx hb dX4_illNow_160 (by decide) ?_
              exact ih (i4 + 1) a3 σ5 th2 ca2 sm2 (lk_st hn) hR _ _ hcn hM hS ls (lv_sub hl [3, 4, 5, 6, 0] rfl)
          · rw [if_neg c3] at hR
            refine lv_goto (tgt := 157) hx hb dX4_illNow_78 (by decide) ?_
            refine lv_iinc (v := nI (i4 + 1)) (lv' := [(4, .int (nI (i4 + 1))), (5, .ref (β 5 i4)), (0, .ref (β 0 0)), (1, .int (nI ui)), (2, .int (nI di)), (3, .int (a3))]) hx hb dX4_illNow_157 hl (k := 5) rfl (nI_1 i4) (Nat.le_of_ble_eq_true rfl) rfl (fun ls hl => ?_)
            refine lv_goto (tgt := 22) hx hb dX4_illNow_160 (by decide) ?_
            exact ih (i4 + 1) a3 σ2 th2 ca2 sm2 (lk_st hn) hR _ _ hcn hM hS ls (lv_sub hl [2, 3, 4, 5, 0] rfl)
  unfold fX4_illNow at hR
  refine lv_aload_n hx hb dX4_illNow_0 rfl (lv_at hl 0 rfl) ?_
  refine gf (v := .ref (β 1 0)) (C := RX4) (T := TX4) (N := 13) (k := 3) hx hb hts hown hG cl_X4 in_X4 hM.ag (by decide) q1543 rfl dX4_illNow_1 ?_
  refine lv_iload_n hx hb dX4_illNow_4 rfl (lv_at hl 1 rfl) ?_
  refine pcV (As := [.int (nI ui)]) (rest := []) hS0 (met_ml_get l D E (j := 0) (by decide) ui h_ui) q1639 q349 q2082 q103 q351 hd_J2_get ⟨Nat.le_of_ble_eq_true rfl, Nat.le_of_ble_eq_true rfl⟩ hG (hM.lsR hG (j := 0) (by decide)) hM rfl hl.1 rfl (Nat.le_of_ble_eq_true rfl) dX4_illNow_5 ⟨Nat.le_of_ble_eq_true rfl, Nat.le_of_ble_eq_true rfl⟩ ?_
  refine W.eq (g2 := F0 m 8 ls [.ref (β 3 ui)]) rfl ?_
  refine gc (ci := 6) hx hb hown hG cl_X7 (rcv hG cl_X7 (hM.pl h_ui)) (hts _ q1601) dX4_illNow_8 ?_
  refine gfN (v := .ref (β 4 ui)) (C := RX7) (T := TX7) (N := 7) (k := 6) hx hb hts hown hG cl_X7 in_X7 (hM.pl h_ui) (by decide) q1614 rfl dX4_illNow_11 ?_
  refine lv_iload_n hx hb dX4_illNow_14 rfl (lv_at hl 2 rfl) ?_
  refine lv_iconst (v := 1) hx hb dX4_illNow_15 (by decide) ?_
  refine paZ (N := 366) (k := di) (v := 1) rfl hx hb hG hS (hM.off h_ui) (hM.ofF h_ui) (hM.ofF h_ui) h_di (by decide) dX4_illNow_16 (fun H1 locs1 he hz hq hS => ?_)
  have hM := hM.Pof h_ui he hq
  have hG := gE.ofS hG0 hS hFE
  obtain ⟨σ1, hσ1⟩ : ∃ x, x = sO σ ui di 1 := ⟨_, rfl⟩
  rw [← hσ1] at hR hM
  have hcn : cnt σ1 σ := by rw [hσ1]; exact hcn.sO
  try dsimp only at hR
  refine lv_iconst (v := 0) hx hb dX4_illNow_17 (by decide) ?_
  refine lv_istore_n (lv' := [(3, .int 0), (0, .ref (β 0 0)), (1, .int (nI ui)), (2, .int (nI di))]) hx hb dX4_illNow_18 rfl hl (Nat.le_of_ble_eq_true rfl) rfl (fun ls hl => ?_)
  refine lv_iconst (v := 0) hx hb dX4_illNow_19 (by decide) ?_
  refine lv_istore (lv' := [(4, .int 0), (3, .int 0), (0, .ref (β 0 0)), (1, .int (nI ui)), (2, .int (nI di))]) hx hb dX4_illNow_20 hl (Nat.le_of_ble_eq_true rfl) rfl (fun ls hl => ?_)
  refine hL22  _ (fun a5 σ6 th6 ca6 sm6 H1 locs1 ls hR hcn hM hS hl => ?_) (nW σ) 0 0 σ1 th ca sm (Nat.zero_add _) hR _ _ hcn hM hS ls (lv_sub hl [2, 3, 4, 1, 0] rfl)
  try dsimp only at hR
  have hG := gE.ofS hG0 hS hFE
  refine lv_iload_n hx hb dX4_illNow_163 rfl (lv_at hl 0 rfl) ?_
  exact g_iret hx hb hr hlocks hS ⟨Nat.le_of_ble_eq_true rfl, Nat.le_of_ble_eq_true rfl⟩ dX4_illNow_164 (by subst hR; exact ⟨rfl, hM, hcn⟩)

def fX4_ill (σ : St) (th : Int32) (ca : Int32) (sm : Int64) (a : Int32) (b : Int32) : Int32 × MSt :=
  (if ((fX4_isPlayer σ a)) = true then (if ((fX4_isDay σ b)) = true then (fun (σ2 : St) => (fun (th2 : Int32) => (fun (ca2 : Int32) => (fun (sm2 : Int64) => (fun (v2 : Int32) => (v2, ((σ2, th2, ca2, sm2) : MSt))) ((fX4_illNow σ 0 ca sm ((Int32.toNatClampNeg a)) ((Int32.toNatClampNeg b))).1)) ((fX4_illNow σ 0 ca sm ((Int32.toNatClampNeg a)) ((Int32.toNatClampNeg b))).2.2.2.2)) ((fX4_illNow σ 0 ca sm ((Int32.toNatClampNeg a)) ((Int32.toNatClampNeg b))).2.2.2.1)) ((fX4_illNow σ 0 ca sm ((Int32.toNatClampNeg a)) ((Int32.toNatClampNeg b))).2.2.1)) ((fX4_illNow σ 0 ca sm ((Int32.toNatClampNeg a)) ((Int32.toNatClampNeg b))).2.1) else (fun (σ1 : St) => (fun (th1 : Int32) => (fun (ca1 : Int32) => (fun (sm1 : Int64) => (fun (v1 : Int32) => (v1, ((σ1, th1, ca1, sm1) : MSt))) ((fX4_refuse σ 0 ca sm 2).1)) ((fX4_refuse σ 0 ca sm 2).2.2.2.2)) ((fX4_refuse σ 0 ca sm 2).2.2.2.1)) ((fX4_refuse σ 0 ca sm 2).2.2.1)) ((fX4_refuse σ 0 ca sm 2).2.1)) else (fun (σ3 : St) => (fun (th3 : Int32) => (fun (ca3 : Int32) => (fun (sm3 : Int64) => (fun (v3 : Int32) => (v3, ((σ3, th3, ca3, sm3) : MSt))) ((fX4_refuse σ 0 ca sm 1).1)) ((fX4_refuse σ 0 ca sm 1).2.2.2.2)) ((fX4_refuse σ 0 ca sm 1).2.2.2.1)) ((fX4_refuse σ 0 ca sm 1).2.2.1)) ((fX4_refuse σ 0 ca sm 1).2.1))
set_option maxHeartbeats 4000000 in
set_option maxRecDepth 100000 in
theorem met_X4_ill (l : Launch) (D : va_G) (E : Nat → Nat) {β : Nat → Nat → Nat} {F : Nat → Prop} {σ : St} {th ca : Int32} {sm : Int64} (a : Int32) (b : Int32) (h0 : 0 ≤ tod σ) : GM l D E yX4_ill cX4_ill 3 (Option.some Jvm.ClassFile.FieldType.int) 22 489 0 0 [.ref (β 0 0), .int (a), .int (b)] (RM D E β F σ th ca sm) F F (fun sz v h => v = some (.int (fX4_ill σ th ca sm a b).1) ∧ RM D E β (fN F sz) (fX4_ill σ th ca sm a b).2.1 (fX4_ill σ th ca sm a b).2.2.1 (fX4_ill σ th ca sm a b).2.2.2.1 (fX4_ill σ th ca sm a b).2.2.2.2 h ∧ cnt (fX4_ill σ th ca sm a b).2.1 σ)  := by
  generalize hR : fX4_ill σ th ca sm a b = r
  refine GM.start (by decide) (Nat.le_of_ble_eq_true rfl) ?_
  intro p e s m below meth c ls hx hb hr hml hown hlocks hnm hts hG hM hS hl
  have hown : s.vm.findClass RX4 = some m.cls := hown
  have hS0 : xS p m c cX4_ill 3 s _ RX4 := ⟨hx, hb, hml, hown, hts⟩
  have hl : lv_has ls 3 [(0, .ref (β 0 0)), (1, .int (a)), (2, .int (b))] := hl
  have hG0 := hG
  have hM0 := hM
  have hb0P := hM0.nP10
  have hb0B := hM0.nB6
  have hb0W := hM0.nW14
  have hFE := hM.fE
  have hM := hM.wide (n := s.heap.size) hG.2.2.1
  have hcn : cnt σ σ := cnt.rf
  unfold fX4_ill at hR
  refine lv_aload_n hx hb dX4_ill_0 rfl (lv_at hl 0 rfl) ?_
  refine lv_iconst (v := 0) hx hb dX4_ill_1 (by decide) ?_
  refine pf (ty0 := tyX4) (ty := tyX4 0) (v := .int 0) (C := RX4) (T := TX4) (N := 13) (k := 0) hx hb hts hown hG hS cl_X4 in_X4 tyX4_ok nmX4 hM.ag hM.agF hM.agF (by decide) q1540 rfl (tyX4_ok 0 (by decide)) rfl rfl (Nat.le_of_ble_eq_true rfl) dX4_ill_2 (fun H1 locs1 he hz hq hS => ?_)
  have hM := hM.Pth  he hq
  have hG := gE.ofS hG0 hS hFE
  refine lv_aload_n hx hb dX4_ill_5 rfl (lv_at hl 0 rfl) ?_
  refine lv_iload_n hx hb dX4_ill_6 rfl (lv_at hl 1 rfl) ?_
  refine pcV (As := [.int (a)]) (rest := []) hS0 (met_X4_isPlayer l D E a) q1635 q1637 qs57 q110 q1638 hd_X4_isPlayer ⟨Nat.le_of_ble_eq_true rfl, Nat.le_of_ble_eq_true rfl⟩ hG (rcv hG cl_X4 hM.ag) hM rfl hl.1 rfl (Nat.le_of_ble_eq_true rfl) dX4_ill_7 ⟨Nat.le_of_ble_eq_true rfl, Nat.le_of_ble_eq_true rfl⟩ ?_
  refine W.eq (g2 := F0 m 10 ls [.int (bI ((fX4_isPlayer σ a)))]) rfl ?_
  refine lb_if_ne (tgt := 19) hx hb dX4_ill_10 (by decide) (fun c1 => ?_) (fun c1 => ?_)
  · rw [if_pos c1] at hR
    have nc1 := isPlayer_ix hM c1
    refine lv_aload_n hx hb dX4_ill_19 rfl (lv_at hl 0 rfl) ?_
    refine lv_iload_n hx hb dX4_ill_20 rfl (lv_at hl 2 rfl) ?_
    refine pcV (As := [.int (b)]) (rest := []) hS0 (met_X4_isDay l D E b) q1687 q1689 qs60 q110 q1690 hd_X4_isDay ⟨Nat.le_of_ble_eq_true rfl, Nat.le_of_ble_eq_true rfl⟩ hG (rcv hG cl_X4 hM.ag) hM rfl hl.1 rfl (Nat.le_of_ble_eq_true rfl) dX4_ill_21 ⟨Nat.le_of_ble_eq_true rfl, Nat.le_of_ble_eq_true rfl⟩ ?_
    refine W.eq (g2 := F0 m 24 ls [.int (bI ((fX4_isDay σ b)))]) rfl ?_
    refine lb_if_eq (tgt := 36) hx hb dX4_ill_24 (by decide) (fun c2 => ?_) (fun c2 => ?_)
    · rw [if_neg c2] at hR
      refine lv_aload_n hx hb dX4_ill_36 rfl (lv_at hl 0 rfl) ?_
      refine lv_iconst (v := 2) hx hb dX4_ill_37 (by decide) ?_
      have hB := hS.1
      refine gcV (As := [.int 2]) (rest := []) hS0 (met_X4_refuse l D E 2) q1591 q1593 qs55 q110 q1594 hd_X4_refuse ⟨Nat.le_of_ble_eq_true rfl, Nat.le_of_ble_eq_true rfl⟩ hG (rcv hG cl_X4 hM.ag) hM rfl hl.1 rfl (Nat.le_of_ble_eq_true rfl) dX4_ill_38 ⟨Nat.le_of_ble_eq_true rfl, Nat.le_of_ble_eq_true rfl⟩ hS (fun q h => h) (fun q h => h) (fun v H1 locs1 hP hz hk hS => ?_)
      obtain ⟨rfl, hZ, hc8⟩ := hP
      have hM := hZ.mono (fun q _ => fN_fN hB q) hM.fE
      have hG := gE.ofS hG0 hS hFE
      have hcn := hc8.tr hcn
      generalize hv_σ1 : (fX4_refuse σ 0 ca sm 2).2.1 = σ1 at hR hM hcn ⊢
      generalize hv_th1 : (fX4_refuse σ 0 ca sm 2).2.2.1 = th1 at hR hM hcn ⊢
      generalize hv_ca1 : (fX4_refuse σ 0 ca sm 2).2.2.2.1 = ca1 at hR hM hcn ⊢
      generalize hv_sm1 : (fX4_refuse σ 0 ca sm 2).2.2.2.2 = sm1 at hR hM hcn ⊢
      generalize hv_v1 : (fX4_refuse σ 0 ca sm 2).1 = v1 at hR hM hcn ⊢
      try dsimp only at hR
      refine W.eq (g2 := F0 m 41 ls [.int (v1)]) rfl ?_
      exact g_iret hx hb hr hlocks hS ⟨Nat.le_of_ble_eq_true rfl, Nat.le_of_ble_eq_true rfl⟩ dX4_ill_41 (by subst hR; exact ⟨rfl, hM, hcn⟩)
    · rw [if_pos c2] at hR
      have nc2 := isDay_ix h0 c2
      refine lv_aload_n hx hb dX4_ill_27 rfl (lv_at hl 0 rfl) ?_
      refine lv_iload_n hx hb dX4_ill_28 rfl (lv_at hl 1 rfl) ?_
      refine lv_eq nc1.1 ?_
      refine lv_iload_n hx hb dX4_ill_29 rfl (lv_at hl 2 rfl) ?_
      refine lv_eq nc2.1 ?_
      have hB := hS.1
      refine gcV (As := [.int (nI ((Int32.toNatClampNeg a))), .int (nI ((Int32.toNatClampNeg b)))]) (rest := []) hS0 (met_X4_illNow l D E ((Int32.toNatClampNeg a)) ((Int32.toNatClampNeg b)) nc1.2 nc2.2) q1865 q1867 qs77 q110 q1868 hd_X4_illNow ⟨Nat.le_of_ble_eq_true rfl, Nat.le_of_ble_eq_true rfl⟩ hG (rcv hG cl_X4 hM.ag) hM rfl hl.1 rfl (Nat.le_of_ble_eq_true rfl) dX4_ill_30 ⟨Nat.le_of_ble_eq_true rfl, Nat.le_of_ble_eq_true rfl⟩ hS (fun q h => h) (fun q h => h) (fun v H1 locs1 hP hz hk hS => ?_)
      obtain ⟨rfl, hZ, hc8⟩ := hP
      have hM := hZ.mono (fun q _ => fN_fN hB q) hM.fE
      have hG := gE.ofS hG0 hS hFE
      have hcn := hc8.tr hcn
      generalize hv_σ2 : (fX4_illNow σ 0 ca sm ((Int32.toNatClampNeg a)) ((Int32.toNatClampNeg b))).2.1 = σ2 at hR hM hcn ⊢
      generalize hv_th2 : (fX4_illNow σ 0 ca sm ((Int32.toNatClampNeg a)) ((Int32.toNatClampNeg b))).2.2.1 = th2 at hR hM hcn ⊢
      generalize hv_ca2 : (fX4_illNow σ 0 ca sm ((Int32.toNatClampNeg a)) ((Int32.toNatClampNeg b))).2.2.2.1 = ca2 at hR hM hcn ⊢
      generalize hv_sm2 : (fX4_illNow σ 0 ca sm ((Int32.toNatClampNeg a)) ((Int32.toNatClampNeg b))).2.2.2.2 = sm2 at hR hM hcn ⊢
      generalize hv_v2 : (fX4_illNow σ 0 ca sm ((Int32.toNatClampNeg a)) ((Int32.toNatClampNeg b))).1 = v2 at hR hM hcn ⊢
      try dsimp only at hR
      refine W.eq (g2 := F0 m 33 ls [.int (v2)]) rfl ?_
      refine lv_goto (tgt := 41) hx hb dX4_ill_33 (by decide) ?_
      exact g_iret hx hb hr hlocks hS ⟨Nat.le_of_ble_eq_true rfl, Nat.le_of_ble_eq_true rfl⟩ dX4_ill_41 (by subst hR; exact ⟨rfl, hM, hcn⟩)
  · rw [if_neg c1] at hR
    refine lv_aload_n hx hb dX4_ill_13 rfl (lv_at hl 0 rfl) ?_
    refine lv_iconst (v := 1) hx hb dX4_ill_14 (by decide) ?_
    have hB := hS.1
    refine gcV (As := [.int 1]) (rest := []) hS0 (met_X4_refuse l D E 1) q1591 q1593 qs55 q110 q1594 hd_X4_refuse ⟨Nat.le_of_ble_eq_true rfl, Nat.le_of_ble_eq_true rfl⟩ hG (rcv hG cl_X4 hM.ag) hM rfl hl.1 rfl (Nat.le_of_ble_eq_true rfl) dX4_ill_15 ⟨Nat.le_of_ble_eq_true rfl, Nat.le_of_ble_eq_true rfl⟩ hS (fun q h => h) (fun q h => h) (fun v H1 locs1 hP hz hk hS => ?_)
    obtain ⟨rfl, hZ, hc8⟩ := hP
    have hM := hZ.mono (fun q _ => fN_fN hB q) hM.fE
    have hG := gE.ofS hG0 hS hFE
    have hcn := hc8.tr hcn
    generalize hv_σ3 : (fX4_refuse σ 0 ca sm 1).2.1 = σ3 at hR hM hcn ⊢
    generalize hv_th3 : (fX4_refuse σ 0 ca sm 1).2.2.1 = th3 at hR hM hcn ⊢
    generalize hv_ca3 : (fX4_refuse σ 0 ca sm 1).2.2.2.1 = ca3 at hR hM hcn ⊢
    generalize hv_sm3 : (fX4_refuse σ 0 ca sm 1).2.2.2.2 = sm3 at hR hM hcn ⊢
    generalize hv_v3 : (fX4_refuse σ 0 ca sm 1).1 = v3 at hR hM hcn ⊢
    try dsimp only at hR
    refine W.eq (g2 := F0 m 18 ls [.int (v3)]) rfl ?_
    exact g_iret hx hb hr hlocks hS ⟨Nat.le_of_ble_eq_true rfl, Nat.le_of_ble_eq_true rfl⟩ dX4_ill_18 (by subst hR; exact ⟨rfl, hM, hcn⟩)

def fX4_drive_2 (σ : St) (th : Int32) (ca : Int32) (sm : Int64) (a : Int32) (b : Int32) : Int32 × MSt :=
  (if ((fX4_isTown a)) = true then (if ((fX4_isTown b)) = true then ((fX4_driveOf σ ((Int32.toNatClampNeg a)) ((Int32.toNatClampNeg b))), ((σ, 0, ca, sm) : MSt)) else (fun (σ2 : St) => (fun (th2 : Int32) => (fun (ca2 : Int32) => (fun (sm2 : Int64) => (fun (v2 : Int32) => (v2, ((σ2, th2, ca2, sm2) : MSt))) ((fX4_refuse σ 0 ca sm 1).1)) ((fX4_refuse σ 0 ca sm 1).2.2.2.2)) ((fX4_refuse σ 0 ca sm 1).2.2.2.1)) ((fX4_refuse σ 0 ca sm 1).2.2.1)) ((fX4_refuse σ 0 ca sm 1).2.1)) else (fun (σ1 : St) => (fun (th1 : Int32) => (fun (ca1 : Int32) => (fun (sm1 : Int64) => (fun (v1 : Int32) => (v1, ((σ1, th1, ca1, sm1) : MSt))) ((fX4_refuse σ 0 ca sm 1).1)) ((fX4_refuse σ 0 ca sm 1).2.2.2.2)) ((fX4_refuse σ 0 ca sm 1).2.2.2.1)) ((fX4_refuse σ 0 ca sm 1).2.2.1)) ((fX4_refuse σ 0 ca sm 1).2.1))
set_option maxHeartbeats 4000000 in
set_option maxRecDepth 100000 in
theorem met_X4_drive_2 (l : Launch) (D : va_G) (E : Nat → Nat) {β : Nat → Nat → Nat} {F : Nat → Prop} {σ : St} {th ca : Int32} {sm : Int64} (a : Int32) (b : Int32)  : GM l D E yX4_drive_2 cX4_drive_2 3 (Option.some Jvm.ClassFile.FieldType.int) 2 42 0 0 [.ref (β 0 0), .int (a), .int (b)] (RM D E β F σ th ca sm) F F (fun sz v h => v = some (.int (fX4_drive_2 σ th ca sm a b).1) ∧ RM D E β (fN F sz) (fX4_drive_2 σ th ca sm a b).2.1 (fX4_drive_2 σ th ca sm a b).2.2.1 (fX4_drive_2 σ th ca sm a b).2.2.2.1 (fX4_drive_2 σ th ca sm a b).2.2.2.2 h ∧ cnt (fX4_drive_2 σ th ca sm a b).2.1 σ)  := by
  generalize hR : fX4_drive_2 σ th ca sm a b = r
  refine GM.start (by decide) (Nat.le_of_ble_eq_true rfl) ?_
  intro p e s m below meth c ls hx hb hr hml hown hlocks hnm hts hG hM hS hl
  have hown : s.vm.findClass RX4 = some m.cls := hown
  have hS0 : xS p m c cX4_drive_2 3 s _ RX4 := ⟨hx, hb, hml, hown, hts⟩
  have hl : lv_has ls 3 [(0, .ref (β 0 0)), (1, .int (a)), (2, .int (b))] := hl
  have hG0 := hG
  have hM0 := hM
  have hb0P := hM0.nP10
  have hb0B := hM0.nB6
  have hb0W := hM0.nW14
  have hFE := hM.fE
  have hM := hM.wide (n := s.heap.size) hG.2.2.1
  have hcn : cnt σ σ := cnt.rf
  unfold fX4_drive_2 at hR
  refine lv_aload_n hx hb dX4_drive_2_0 rfl (lv_at hl 0 rfl) ?_
  refine lv_iconst (v := 0) hx hb dX4_drive_2_1 (by decide) ?_
  refine pf (ty0 := tyX4) (ty := tyX4 0) (v := .int 0) (C := RX4) (T := TX4) (N := 13) (k := 0) hx hb hts hown hG hS cl_X4 in_X4 tyX4_ok nmX4 hM.ag hM.agF hM.agF (by decide) q1540 rfl (tyX4_ok 0 (by decide)) rfl rfl (Nat.le_of_ble_eq_true rfl) dX4_drive_2_2 (fun H1 locs1 he hz hq hS => ?_)
  have hM := hM.Pth  he hq
  have hG := gE.ofS hG0 hS hFE
  refine lv_iload_n hx hb dX4_drive_2_5 rfl (lv_at hl 1 rfl) ?_
  refine pcS (As := [.int (a)]) (rest := []) hS0 (met_X4_isTown l D E a) q1661 q1662 q110 q1663 hd_X4_isTown ⟨Nat.le_of_ble_eq_true rfl, Nat.le_of_ble_eq_true rfl⟩ hG trivial rfl hl.1 rfl (Nat.le_of_ble_eq_true rfl) dX4_drive_2_6 ⟨Nat.le_of_ble_eq_true rfl, Nat.le_of_ble_eq_true rfl⟩ ?_
  refine W.eq (g2 := F0 m 9 ls [.int (bI ((fX4_isTown a)))]) rfl ?_
  refine lb_if_eq (tgt := 28) hx hb dX4_drive_2_9 (by decide) (fun c1 => ?_) (fun c1 => ?_)
  · rw [if_neg c1] at hR
    refine lv_aload_n hx hb dX4_drive_2_28 rfl (lv_at hl 0 rfl) ?_
    refine lv_iconst (v := 1) hx hb dX4_drive_2_29 (by decide) ?_
    have hB := hS.1
    refine gcV (As := [.int 1]) (rest := []) hS0 (met_X4_refuse l D E 1) q1591 q1593 qs55 q110 q1594 hd_X4_refuse ⟨Nat.le_of_ble_eq_true rfl, Nat.le_of_ble_eq_true rfl⟩ hG (rcv hG cl_X4 hM.ag) hM rfl hl.1 rfl (Nat.le_of_ble_eq_true rfl) dX4_drive_2_30 ⟨Nat.le_of_ble_eq_true rfl, Nat.le_of_ble_eq_true rfl⟩ hS (fun q h => h) (fun q h => h) (fun v H1 locs1 hP hz hk hS => ?_)
    obtain ⟨rfl, hZ, hc8⟩ := hP
    have hM := hZ.mono (fun q _ => fN_fN hB q) hM.fE
    have hG := gE.ofS hG0 hS hFE
    have hcn := hc8.tr hcn
    generalize hv_σ1 : (fX4_refuse σ 0 ca sm 1).2.1 = σ1 at hR hM hcn ⊢
    generalize hv_th1 : (fX4_refuse σ 0 ca sm 1).2.2.1 = th1 at hR hM hcn ⊢
    generalize hv_ca1 : (fX4_refuse σ 0 ca sm 1).2.2.2.1 = ca1 at hR hM hcn ⊢
    generalize hv_sm1 : (fX4_refuse σ 0 ca sm 1).2.2.2.2 = sm1 at hR hM hcn ⊢
    generalize hv_v1 : (fX4_refuse σ 0 ca sm 1).1 = v1 at hR hM hcn ⊢
    try dsimp only at hR
    refine W.eq (g2 := F0 m 33 ls [.int (v1)]) rfl ?_
    exact g_iret hx hb hr hlocks hS ⟨Nat.le_of_ble_eq_true rfl, Nat.le_of_ble_eq_true rfl⟩ dX4_drive_2_33 (by subst hR; exact ⟨rfl, hM, hcn⟩)
  · rw [if_pos c1] at hR
    have nc1 := isTown_ix c1
    refine lv_iload_n hx hb dX4_drive_2_12 rfl (lv_at hl 2 rfl) ?_
    refine pcS (As := [.int (b)]) (rest := []) hS0 (met_X4_isTown l D E b) q1661 q1662 q110 q1663 hd_X4_isTown ⟨Nat.le_of_ble_eq_true rfl, Nat.le_of_ble_eq_true rfl⟩ hG trivial rfl hl.1 rfl (Nat.le_of_ble_eq_true rfl) dX4_drive_2_13 ⟨Nat.le_of_ble_eq_true rfl, Nat.le_of_ble_eq_true rfl⟩ ?_
    refine W.eq (g2 := F0 m 16 ls [.int (bI ((fX4_isTown b)))]) rfl ?_
    refine lb_if_eq (tgt := 28) hx hb dX4_drive_2_16 (by decide) (fun c2 => ?_) (fun c2 => ?_)
    · rw [if_neg c2] at hR
      refine lv_aload_n hx hb dX4_drive_2_28 rfl (lv_at hl 0 rfl) ?_
      refine lv_iconst (v := 1) hx hb dX4_drive_2_29 (by decide) ?_
      have hB := hS.1
      refine gcV (As := [.int 1]) (rest := []) hS0 (met_X4_refuse l D E 1) q1591 q1593 qs55 q110 q1594 hd_X4_refuse ⟨Nat.le_of_ble_eq_true rfl, Nat.le_of_ble_eq_true rfl⟩ hG (rcv hG cl_X4 hM.ag) hM rfl hl.1 rfl (Nat.le_of_ble_eq_true rfl) dX4_drive_2_30 ⟨Nat.le_of_ble_eq_true rfl, Nat.le_of_ble_eq_true rfl⟩ hS (fun q h => h) (fun q h => h) (fun v H1 locs1 hP hz hk hS => ?_)
      obtain ⟨rfl, hZ, hc8⟩ := hP
      have hM := hZ.mono (fun q _ => fN_fN hB q) hM.fE
      have hG := gE.ofS hG0 hS hFE
      have hcn := hc8.tr hcn
      generalize hv_σ2 : (fX4_refuse σ 0 ca sm 1).2.1 = σ2 at hR hM hcn ⊢
      generalize hv_th2 : (fX4_refuse σ 0 ca sm 1).2.2.1 = th2 at hR hM hcn ⊢
      generalize hv_ca2 : (fX4_refuse σ 0 ca sm 1).2.2.2.1 = ca2 at hR hM hcn ⊢
      generalize hv_sm2 : (fX4_refuse σ 0 ca sm 1).2.2.2.2 = sm2 at hR hM hcn ⊢
      generalize hv_v2 : (fX4_refuse σ 0 ca sm 1).1 = v2 at hR hM hcn ⊢
      try dsimp only at hR
      refine W.eq (g2 := F0 m 33 ls [.int (v2)]) rfl ?_
      exact g_iret hx hb hr hlocks hS ⟨Nat.le_of_ble_eq_true rfl, Nat.le_of_ble_eq_true rfl⟩ dX4_drive_2_33 (by subst hR; exact ⟨rfl, hM, hcn⟩)
    · rw [if_pos c2] at hR
      have nc2 := isTown_ix c2
      refine lv_aload_n hx hb dX4_drive_2_19 rfl (lv_at hl 0 rfl) ?_
      refine lv_iload_n hx hb dX4_drive_2_20 rfl (lv_at hl 1 rfl) ?_
      refine lv_eq nc1.1 ?_
      refine lv_iload_n hx hb dX4_drive_2_21 rfl (lv_at hl 2 rfl) ?_
      refine lv_eq nc2.1 ?_
      refine pcV (As := [.int (nI ((Int32.toNatClampNeg a))), .int (nI ((Int32.toNatClampNeg b)))]) (rest := []) hS0 (met_X4_driveOf l D E ((Int32.toNatClampNeg a)) ((Int32.toNatClampNeg b)) nc1.2 nc2.2) q1664 q1666 qs58 q110 q1667 hd_X4_driveOf ⟨Nat.le_of_ble_eq_true rfl, Nat.le_of_ble_eq_true rfl⟩ hG (rcv hG cl_X4 hM.ag) hM rfl hl.1 rfl (Nat.le_of_ble_eq_true rfl) dX4_drive_2_22 ⟨Nat.le_of_ble_eq_true rfl, Nat.le_of_ble_eq_true rfl⟩ ?_
      refine W.eq (g2 := F0 m 25 ls [.int ((fX4_driveOf σ ((Int32.toNatClampNeg a)) ((Int32.toNatClampNeg b))))]) rfl ?_
      refine lv_goto (tgt := 33) hx hb dX4_drive_2_25 (by decide) ?_
      exact g_iret hx hb hr hlocks hS ⟨Nat.le_of_ble_eq_true rfl, Nat.le_of_ble_eq_true rfl⟩ dX4_drive_2_33 (by subst hR; exact ⟨rfl, hM, hcn⟩)

def fX4_free (σ : St) (th : Int32) (ca : Int32) (sm : Int64) (a : Int32) (b : Int32) : Bool × MSt :=
  (if ((fX4_isPlayer σ a)) = true then (if ((fX4_isWedding σ b)) = true then (if ((fX4_isFree σ ((Int32.toNatClampNeg a)) ((Int32.toNatClampNeg b)))) = true then (true, ((σ, 0, ca, sm) : MSt)) else (false, ((σ, 0, ca, sm) : MSt))) else (false, ((σ, 1, ca, sm) : MSt))) else (false, ((σ, 1, ca, sm) : MSt)))
set_option maxHeartbeats 4000000 in
set_option maxRecDepth 100000 in
theorem met_X4_free (l : Launch) (D : va_G) (E : Nat → Nat) {β : Nat → Nat → Nat} {F : Nat → Prop} {σ : St} {th ca : Int32} {sm : Int64} (a : Int32) (b : Int32)  : GM l D E yX4_free cX4_free 3 (Option.some Jvm.ClassFile.FieldType.boolean) 4 94 0 0 [.ref (β 0 0), .int (a), .int (b)] (RM D E β F σ th ca sm) F F (fun sz v h => v = some (.int (bI (fX4_free σ th ca sm a b).1)) ∧ RM D E β (fN F sz) (fX4_free σ th ca sm a b).2.1 (fX4_free σ th ca sm a b).2.2.1 (fX4_free σ th ca sm a b).2.2.2.1 (fX4_free σ th ca sm a b).2.2.2.2 h ∧ cnt (fX4_free σ th ca sm a b).2.1 σ)  := by
  generalize hR : fX4_free σ th ca sm a b = r
  refine GM.start (by decide) (Nat.le_of_ble_eq_true rfl) ?_
  intro p e s m below meth c ls hx hb hr hml hown hlocks hnm hts hG hM hS hl
  have hown : s.vm.findClass RX4 = some m.cls := hown
  have hS0 : xS p m c cX4_free 3 s _ RX4 := ⟨hx, hb, hml, hown, hts⟩
  have hl : lv_has ls 3 [(0, .ref (β 0 0)), (1, .int (a)), (2, .int (b))] := hl
  have hG0 := hG
  have hM0 := hM
  have hb0P := hM0.nP10
  have hb0B := hM0.nB6
  have hb0W := hM0.nW14
  have hFE := hM.fE
  have hM := hM.wide (n := s.heap.size) hG.2.2.1
  have hcn : cnt σ σ := cnt.rf
  unfold fX4_free at hR
  refine lv_aload_n hx hb dX4_free_0 rfl (lv_at hl 0 rfl) ?_
  refine lv_aload_n hx hb dX4_free_1 rfl (lv_at hl 0 rfl) ?_
  refine lv_iload_n hx hb dX4_free_2 rfl (lv_at hl 1 rfl) ?_
  refine pcV (As := [.int (a)]) (rest := [.ref (β 0 0)]) hS0 (met_X4_isPlayer l D E a) q1635 q1637 qs57 q110 q1638 hd_X4_isPlayer ⟨Nat.le_of_ble_eq_true rfl, Nat.le_of_ble_eq_true rfl⟩ hG (rcv hG cl_X4 hM.ag) hM rfl hl.1 rfl (Nat.le_of_ble_eq_true rfl) dX4_free_3 ⟨Nat.le_of_ble_eq_true rfl, Nat.le_of_ble_eq_true rfl⟩ ?_
  refine W.eq (g2 := F0 m 6 ls [.int (bI ((fX4_isPlayer σ a))), .ref (β 0 0)]) rfl ?_
  refine lb_if_eq (tgt := 21) hx hb dX4_free_6 (by decide) (fun c1 => ?_) (fun c1 => ?_)
  · rw [if_neg c1] at hR
    refine lv_iconst (v := 1) hx hb dX4_free_21 (by decide) ?_
    refine pf (ty0 := tyX4) (ty := tyX4 0) (v := .int 1) (C := RX4) (T := TX4) (N := 13) (k := 0) hx hb hts hown hG hS cl_X4 in_X4 tyX4_ok nmX4 hM.ag hM.agF hM.agF (by decide) q1540 rfl (tyX4_ok 0 (by decide)) rfl rfl (Nat.le_of_ble_eq_true rfl) dX4_free_22 (fun H1 locs1 he hz hq hS => ?_)
    have hM := hM.Pth  he hq
    have hG := gE.ofS hG0 hS hFE
    refine lv_aload_n hx hb dX4_free_25 rfl (lv_at hl 0 rfl) ?_
    refine gf (v := .int 1) (C := RX4) (T := TX4) (N := 13) (k := 0) hx hb hts hown hG cl_X4 in_X4 hM.ag (by decide) q1540 rfl dX4_free_26 ?_
    refine lv_if_ne (tgt := 45) hx hb dX4_free_29 (by decide) (fun _ => ?_) (fun c9 => absurd c9 (by decide))
    refine lv_iconst (v := 0) hx hb dX4_free_45 (by decide) ?_
    exact g_zret (b := false) hx hb hr hlocks hS ⟨Nat.le_of_ble_eq_true rfl, Nat.le_of_ble_eq_true rfl⟩ dX4_free_46 rfl (by subst hR; exact ⟨rfl, hM, hcn⟩)
  · rw [if_pos c1] at hR
    have nc1 := isPlayer_ix hM c1
    refine lv_aload_n hx hb dX4_free_9 rfl (lv_at hl 0 rfl) ?_
    refine lv_iload_n hx hb dX4_free_10 rfl (lv_at hl 2 rfl) ?_
    refine pcV (As := [.int (b)]) (rest := [.ref (β 0 0)]) hS0 (met_X4_isWedding l D E b) q1745 q1747 qs62 q110 q1748 hd_X4_isWedding ⟨Nat.le_of_ble_eq_true rfl, Nat.le_of_ble_eq_true rfl⟩ hG (rcv hG cl_X4 hM.ag) hM rfl hl.1 rfl (Nat.le_of_ble_eq_true rfl) dX4_free_11 ⟨Nat.le_of_ble_eq_true rfl, Nat.le_of_ble_eq_true rfl⟩ ?_
    refine W.eq (g2 := F0 m 14 ls [.int (bI ((fX4_isWedding σ b))), .ref (β 0 0)]) rfl ?_
    refine lb_if_eq (tgt := 21) hx hb dX4_free_14 (by decide) (fun c2 => ?_) (fun c2 => ?_)
    · rw [if_neg c2] at hR
      refine lv_iconst (v := 1) hx hb dX4_free_21 (by decide) ?_
      refine pf (ty0 := tyX4) (ty := tyX4 0) (v := .int 1) (C := RX4) (T := TX4) (N := 13) (k := 0) hx hb hts hown hG hS cl_X4 in_X4 tyX4_ok nmX4 hM.ag hM.agF hM.agF (by decide) q1540 rfl (tyX4_ok 0 (by decide)) rfl rfl (Nat.le_of_ble_eq_true rfl) dX4_free_22 (fun H1 locs1 he hz hq hS => ?_)
      have hM := hM.Pth  he hq
      have hG := gE.ofS hG0 hS hFE
      refine lv_aload_n hx hb dX4_free_25 rfl (lv_at hl 0 rfl) ?_
      refine gf (v := .int 1) (C := RX4) (T := TX4) (N := 13) (k := 0) hx hb hts hown hG cl_X4 in_X4 hM.ag (by decide) q1540 rfl dX4_free_26 ?_
      refine lv_if_ne (tgt := 45) hx hb dX4_free_29 (by decide) (fun _ => ?_) (fun c9 => absurd c9 (by decide))
      refine lv_iconst (v := 0) hx hb dX4_free_45 (by decide) ?_
      exact g_zret (b := false) hx hb hr hlocks hS ⟨Nat.le_of_ble_eq_true rfl, Nat.le_of_ble_eq_true rfl⟩ dX4_free_46 rfl (by subst hR; exact ⟨rfl, hM, hcn⟩)
    · rw [if_pos c2] at hR
      have nc2 := isWedding_ix hM c2
      refine lv_iconst (v := 0) hx hb dX4_free_17 (by decide) ?_
      refine lv_goto (tgt := 22) hx hb dX4_free_18 (by decide) ?_
      refine pf (ty0 := tyX4) (ty := tyX4 0) (v := .int 0) (C := RX4) (T := TX4) (N := 13) (k := 0) hx hb hts hown hG hS cl_X4 in_X4 tyX4_ok nmX4 hM.ag hM.agF hM.agF (by decide) q1540 rfl (tyX4_ok 0 (by decide)) rfl rfl (Nat.le_of_ble_eq_true rfl) dX4_free_22 (fun H1 locs1 he hz hq hS => ?_)
      have hM := hM.Pth  he hq
      have hG := gE.ofS hG0 hS hFE
      refine lv_aload_n hx hb dX4_free_25 rfl (lv_at hl 0 rfl) ?_
      refine gf (v := .int 0) (C := RX4) (T := TX4) (N := 13) (k := 0) hx hb hts hown hG cl_X4 in_X4 hM.ag (by decide) q1540 rfl dX4_free_26 ?_
      refine lv_if_ne (tgt := 45) hx hb dX4_free_29 (by decide) (fun c9 => absurd (by decide) c9) (fun _ => ?_)
      refine lv_aload_n hx hb dX4_free_32 rfl (lv_at hl 0 rfl) ?_
      refine lv_iload_n hx hb dX4_free_33 rfl (lv_at hl 1 rfl) ?_
      refine lv_eq nc1.1 ?_
      refine lv_iload_n hx hb dX4_free_34 rfl (lv_at hl 2 rfl) ?_
      refine lv_eq nc2.1 ?_
      refine pcV (As := [.int (nI ((Int32.toNatClampNeg a))), .int (nI ((Int32.toNatClampNeg b)))]) (rest := []) hS0 (met_X4_isFree l D E ((Int32.toNatClampNeg a)) ((Int32.toNatClampNeg b)) nc1.2 nc2.2) q1761 q1763 qs66 q110 q1764 hd_X4_isFree ⟨Nat.le_of_ble_eq_true rfl, Nat.le_of_ble_eq_true rfl⟩ hG (rcv hG cl_X4 hM.ag) hM rfl hl.1 rfl (Nat.le_of_ble_eq_true rfl) dX4_free_35 ⟨Nat.le_of_ble_eq_true rfl, Nat.le_of_ble_eq_true rfl⟩ ?_
      refine W.eq (g2 := F0 m 38 ls [.int (bI ((fX4_isFree σ ((Int32.toNatClampNeg a)) ((Int32.toNatClampNeg b)))))]) rfl ?_
      refine lb_if_eq (tgt := 45) hx hb dX4_free_38 (by decide) (fun c3 => ?_) (fun c3 => ?_)
      · rw [if_neg c3] at hR
        refine lv_iconst (v := 0) hx hb dX4_free_45 (by decide) ?_
        exact g_zret (b := false) hx hb hr hlocks hS ⟨Nat.le_of_ble_eq_true rfl, Nat.le_of_ble_eq_true rfl⟩ dX4_free_46 rfl (by subst hR; exact ⟨rfl, hM, hcn⟩)
      · rw [if_pos c3] at hR
        refine lv_iconst (v := 1) hx hb dX4_free_41 (by decide) ?_
        refine lv_goto (tgt := 46) hx hb dX4_free_42 (by decide) ?_
        exact g_zret (b := true) hx hb hr hlocks hS ⟨Nat.le_of_ble_eq_true rfl, Nat.le_of_ble_eq_true rfl⟩ dX4_free_46 rfl (by subst hR; exact ⟨rfl, hM, hcn⟩)

def fX4_filling (σ : St) (th : Int32) (ca : Int32) (sm : Int64) (a : Int32) (b : Int32) : Int32 × MSt :=
  (if ((fX4_isWedding σ a)) = true then (if ((fX4_is b 0 3)) = true then ((fX4_fillingNow σ ((Int32.toNatClampNeg a)) b), ((σ, 0, ca, sm) : MSt)) else (fun (σ1 : St) => (fun (th1 : Int32) => (fun (ca1 : Int32) => (fun (sm1 : Int64) => (fun (v1 : Int32) => (v1, ((σ1, th1, ca1, sm1) : MSt))) ((fX4_refuse σ 0 ca sm 2).1)) ((fX4_refuse σ 0 ca sm 2).2.2.2.2)) ((fX4_refuse σ 0 ca sm 2).2.2.2.1)) ((fX4_refuse σ 0 ca sm 2).2.2.1)) ((fX4_refuse σ 0 ca sm 2).2.1)) else (fun (σ2 : St) => (fun (th2 : Int32) => (fun (ca2 : Int32) => (fun (sm2 : Int64) => (fun (v2 : Int32) => (v2, ((σ2, th2, ca2, sm2) : MSt))) ((fX4_refuse σ 0 ca sm 1).1)) ((fX4_refuse σ 0 ca sm 1).2.2.2.2)) ((fX4_refuse σ 0 ca sm 1).2.2.2.1)) ((fX4_refuse σ 0 ca sm 1).2.2.1)) ((fX4_refuse σ 0 ca sm 1).2.1))
set_option maxHeartbeats 4000000 in
set_option maxRecDepth 100000 in
theorem met_X4_filling (l : Launch) (D : va_G) (E : Nat → Nat) {β : Nat → Nat → Nat} {F : Nat → Prop} {σ : St} {th ca : Int32} {sm : Int64} (a : Int32) (b : Int32)  : GM l D E yX4_filling cX4_filling 3 (Option.some Jvm.ClassFile.FieldType.int) 23 512 0 0 [.ref (β 0 0), .int (a), .int (b)] (RM D E β F σ th ca sm) F F (fun sz v h => v = some (.int (fX4_filling σ th ca sm a b).1) ∧ RM D E β (fN F sz) (fX4_filling σ th ca sm a b).2.1 (fX4_filling σ th ca sm a b).2.2.1 (fX4_filling σ th ca sm a b).2.2.2.1 (fX4_filling σ th ca sm a b).2.2.2.2 h ∧ cnt (fX4_filling σ th ca sm a b).2.1 σ)  := by
  generalize hR : fX4_filling σ th ca sm a b = r
  refine GM.start (by decide) (Nat.le_of_ble_eq_true rfl) ?_
  intro p e s m below meth c ls hx hb hr hml hown hlocks hnm hts hG hM hS hl
  have hown : s.vm.findClass RX4 = some m.cls := hown
  have hS0 : xS p m c cX4_filling 3 s _ RX4 := ⟨hx, hb, hml, hown, hts⟩
  have hl : lv_has ls 3 [(0, .ref (β 0 0)), (1, .int (a)), (2, .int (b))] := hl
  have hG0 := hG
  have hM0 := hM
  have hb0P := hM0.nP10
  have hb0B := hM0.nB6
  have hb0W := hM0.nW14
  have hFE := hM.fE
  have hM := hM.wide (n := s.heap.size) hG.2.2.1
  have hcn : cnt σ σ := cnt.rf
  unfold fX4_filling at hR
  refine lv_aload_n hx hb dX4_filling_0 rfl (lv_at hl 0 rfl) ?_
  refine lv_iconst (v := 0) hx hb dX4_filling_1 (by decide) ?_
  refine pf (ty0 := tyX4) (ty := tyX4 0) (v := .int 0) (C := RX4) (T := TX4) (N := 13) (k := 0) hx hb hts hown hG hS cl_X4 in_X4 tyX4_ok nmX4 hM.ag hM.agF hM.agF (by decide) q1540 rfl (tyX4_ok 0 (by decide)) rfl rfl (Nat.le_of_ble_eq_true rfl) dX4_filling_2 (fun H1 locs1 he hz hq hS => ?_)
  have hM := hM.Pth  he hq
  have hG := gE.ofS hG0 hS hFE
  refine lv_aload_n hx hb dX4_filling_5 rfl (lv_at hl 0 rfl) ?_
  refine lv_iload_n hx hb dX4_filling_6 rfl (lv_at hl 1 rfl) ?_
  refine pcV (As := [.int (a)]) (rest := []) hS0 (met_X4_isWedding l D E a) q1745 q1747 qs62 q110 q1748 hd_X4_isWedding ⟨Nat.le_of_ble_eq_true rfl, Nat.le_of_ble_eq_true rfl⟩ hG (rcv hG cl_X4 hM.ag) hM rfl hl.1 rfl (Nat.le_of_ble_eq_true rfl) dX4_filling_7 ⟨Nat.le_of_ble_eq_true rfl, Nat.le_of_ble_eq_true rfl⟩ ?_
  refine W.eq (g2 := F0 m 10 ls [.int (bI ((fX4_isWedding σ a)))]) rfl ?_
  refine lb_if_ne (tgt := 19) hx hb dX4_filling_10 (by decide) (fun c1 => ?_) (fun c1 => ?_)
  · rw [if_pos c1] at hR
    have nc1 := isWedding_ix hM c1
    refine lv_iload_n hx hb dX4_filling_19 rfl (lv_at hl 2 rfl) ?_
    refine lv_iconst (v := 0) hx hb dX4_filling_20 (by decide) ?_
    refine lv_iconst (v := 3) hx hb dX4_filling_21 (by decide) ?_
    refine pcS (As := [.int (b), .int 0, .int 3]) (rest := []) hS0 (met_X4_is l D E b 0 3) q1588 q1589 q110 q1590 hd_X4_is ⟨Nat.le_of_ble_eq_true rfl, Nat.le_of_ble_eq_true rfl⟩ hG trivial rfl hl.1 rfl (Nat.le_of_ble_eq_true rfl) dX4_filling_22 ⟨Nat.le_of_ble_eq_true rfl, Nat.le_of_ble_eq_true rfl⟩ ?_
    refine W.eq (g2 := F0 m 25 ls [.int (bI ((fX4_is b 0 3)))]) rfl ?_
    refine lb_if_eq (tgt := 37) hx hb dX4_filling_25 (by decide) (fun c2 => ?_) (fun c2 => ?_)
    · rw [if_neg c2] at hR
      refine lv_aload_n hx hb dX4_filling_37 rfl (lv_at hl 0 rfl) ?_
      refine lv_iconst (v := 2) hx hb dX4_filling_38 (by decide) ?_
      have hB := hS.1
      refine gcV (As := [.int 2]) (rest := []) hS0 (met_X4_refuse l D E 2) q1591 q1593 qs55 q110 q1594 hd_X4_refuse ⟨Nat.le_of_ble_eq_true rfl, Nat.le_of_ble_eq_true rfl⟩ hG (rcv hG cl_X4 hM.ag) hM rfl hl.1 rfl (Nat.le_of_ble_eq_true rfl) dX4_filling_39 ⟨Nat.le_of_ble_eq_true rfl, Nat.le_of_ble_eq_true rfl⟩ hS (fun q h => h) (fun q h => h) (fun v H1 locs1 hP hz hk hS => ?_)
      obtain ⟨rfl, hZ, hc8⟩ := hP
      have hM := hZ.mono (fun q _ => fN_fN hB q) hM.fE
      have hG := gE.ofS hG0 hS hFE
      have hcn := hc8.tr hcn
      generalize hv_σ1 : (fX4_refuse σ 0 ca sm 2).2.1 = σ1 at hR hM hcn ⊢
      generalize hv_th1 : (fX4_refuse σ 0 ca sm 2).2.2.1 = th1 at hR hM hcn ⊢
      generalize hv_ca1 : (fX4_refuse σ 0 ca sm 2).2.2.2.1 = ca1 at hR hM hcn ⊢
      generalize hv_sm1 : (fX4_refuse σ 0 ca sm 2).2.2.2.2 = sm1 at hR hM hcn ⊢
      generalize hv_v1 : (fX4_refuse σ 0 ca sm 2).1 = v1 at hR hM hcn ⊢
      try dsimp only at hR
      refine W.eq (g2 := F0 m 42 ls [.int (v1)]) rfl ?_
      exact g_iret hx hb hr hlocks hS ⟨Nat.le_of_ble_eq_true rfl, Nat.le_of_ble_eq_true rfl⟩ dX4_filling_42 (by subst hR; exact ⟨rfl, hM, hcn⟩)
    · rw [if_pos c2] at hR
      refine lv_aload_n hx hb dX4_filling_28 rfl (lv_at hl 0 rfl) ?_
      refine lv_iload_n hx hb dX4_filling_29 rfl (lv_at hl 1 rfl) ?_
      refine lv_eq nc1.1 ?_
      refine lv_iload_n hx hb dX4_filling_30 rfl (lv_at hl 2 rfl) ?_
      refine pcV (As := [.int (nI ((Int32.toNatClampNeg a))), .int (b)]) (rest := []) hS0 (met_X4_fillingNow l D E ((Int32.toNatClampNeg a)) b nc1.2) q1961 q1963 qs90 q110 q1964 hd_X4_fillingNow ⟨Nat.le_of_ble_eq_true rfl, Nat.le_of_ble_eq_true rfl⟩ hG (rcv hG cl_X4 hM.ag) hM rfl hl.1 rfl (Nat.le_of_ble_eq_true rfl) dX4_filling_31 ⟨Nat.le_of_ble_eq_true rfl, Nat.le_of_ble_eq_true rfl⟩ ?_
      refine W.eq (g2 := F0 m 34 ls [.int ((fX4_fillingNow σ ((Int32.toNatClampNeg a)) b))]) rfl ?_
      refine lv_goto (tgt := 42) hx hb dX4_filling_34 (by decide) ?_
      exact g_iret hx hb hr hlocks hS ⟨Nat.le_of_ble_eq_true rfl, Nat.le_of_ble_eq_true rfl⟩ dX4_filling_42 (by subst hR; exact ⟨rfl, hM, hcn⟩)
  · rw [if_neg c1] at hR
    refine lv_aload_n hx hb dX4_filling_13 rfl (lv_at hl 0 rfl) ?_
    refine lv_iconst (v := 1) hx hb dX4_filling_14 (by decide) ?_
    have hB := hS.1
    refine gcV (As := [.int 1]) (rest := []) hS0 (met_X4_refuse l D E 1) q1591 q1593 qs55 q110 q1594 hd_X4_refuse ⟨Nat.le_of_ble_eq_true rfl, Nat.le_of_ble_eq_true rfl⟩ hG (rcv hG cl_X4 hM.ag) hM rfl hl.1 rfl (Nat.le_of_ble_eq_true rfl) dX4_filling_15 ⟨Nat.le_of_ble_eq_true rfl, Nat.le_of_ble_eq_true rfl⟩ hS (fun q h => h) (fun q h => h) (fun v H1 locs1 hP hz hk hS => ?_)
    obtain ⟨rfl, hZ, hc8⟩ := hP
    have hM := hZ.mono (fun q _ => fN_fN hB q) hM.fE
    have hG := gE.ofS hG0 hS hFE
    have hcn := hc8.tr hcn
    generalize hv_σ2 : (fX4_refuse σ 0 ca sm 1).2.1 = σ2 at hR hM hcn ⊢
    generalize hv_th2 : (fX4_refuse σ 0 ca sm 1).2.2.1 = th2 at hR hM hcn ⊢
    generalize hv_ca2 : (fX4_refuse σ 0 ca sm 1).2.2.2.1 = ca2 at hR hM hcn ⊢
    generalize hv_sm2 : (fX4_refuse σ 0 ca sm 1).2.2.2.2 = sm2 at hR hM hcn ⊢
    generalize hv_v2 : (fX4_refuse σ 0 ca sm 1).1 = v2 at hR hM hcn ⊢
    try dsimp only at hR
    refine W.eq (g2 := F0 m 18 ls [.int (v2)]) rfl ?_
    exact g_iret hx hb hr hlocks hS ⟨Nat.le_of_ble_eq_true rfl, Nat.le_of_ble_eq_true rfl⟩ dX4_filling_18 (by subst hR; exact ⟨rfl, hM, hcn⟩)

def fX4_key_L34 (σ : St) (th : Int32) (ca : Int32) (sm : Int64) (a : Int32)  (κ : St → Int32 → Int32 → Int64 → Int32 × MSt) : Nat → Nat → St → Int32 → Int32 → Int64 → Int32 × MSt
  | 0, i2, σ1, th1, ca1, sm1 => κ σ1 th1 ca1 sm1
  | n + 1, i2, σ1, th1, ca1, sm1 => (if ((gX4_best σ1 ((Int32.toNatClampNeg a)) (1 <<< ((nI i2) &&& 31)) 0)) = ((-1)) then (nI i2, ((σ1, th1, ca1, sm1) : MSt)) else fX4_key_L34 σ th ca sm a κ n (i2 + 1) σ1 th1 ca1 sm1)
def fX4_key (σ : St) (th : Int32) (ca : Int32) (sm : Int64) (a : Int32) : Int32 × MSt :=
  (if ((fX4_isWedding σ a)) = true then (if ((gX4_best σ ((Int32.toNatClampNeg a)) 0 0)) = ((-1)) then ((-1), ((σ, 0, ca, sm) : MSt)) else fX4_key_L34 σ th ca sm a (fun (σ2 : St) (th2 : Int32) (ca2 : Int32) (sm2 : Int64) => ((-1), ((σ2, th2, ca2, sm2) : MSt))) (nP σ) 0 σ 0 ca sm) else (fun (σ3 : St) => (fun (th3 : Int32) => (fun (ca3 : Int32) => (fun (sm3 : Int64) => (fun (v3 : Int32) => (v3, ((σ3, th3, ca3, sm3) : MSt))) ((fX4_refuse σ 0 ca sm 1).1)) ((fX4_refuse σ 0 ca sm 1).2.2.2.2)) ((fX4_refuse σ 0 ca sm 1).2.2.2.1)) ((fX4_refuse σ 0 ca sm 1).2.2.1)) ((fX4_refuse σ 0 ca sm 1).2.1))
set_option maxHeartbeats 4000000 in
set_option maxRecDepth 100000 in
theorem met_X4_key (l : Launch) (D : va_G) (E : Nat → Nat) {β : Nat → Nat → Nat} {F : Nat → Prop} {σ : St} {th ca : Int32} {sm : Int64} (a : Int32)  : GM l D E yX4_key cX4_key 3 (Option.some Jvm.ClassFile.FieldType.int) 21 463 0 0 [.ref (β 0 0), .int (a)] (RM D E β F σ th ca sm) F F (fun sz v h => v = some (.int (fX4_key σ th ca sm a).1) ∧ RM D E β (fN F sz) (fX4_key σ th ca sm a).2.1 (fX4_key σ th ca sm a).2.2.1 (fX4_key σ th ca sm a).2.2.2.1 (fX4_key σ th ca sm a).2.2.2.2 h ∧ cnt (fX4_key σ th ca sm a).2.1 σ)  := by
  generalize hR : fX4_key σ th ca sm a = r
  refine GM.start (by decide) (Nat.le_of_ble_eq_true rfl) ?_
  intro p e s m below meth c ls hx hb hr hml hown hlocks hnm hts hG hM hS hl
  have hown : s.vm.findClass RX4 = some m.cls := hown
  have hS0 : xS p m c cX4_key 3 s _ RX4 := ⟨hx, hb, hml, hown, hts⟩
  have hl : lv_has ls 3 [(0, .ref (β 0 0)), (1, .int (a))] := hl
  have hG0 := hG
  have hM0 := hM
  have hb0P := hM0.nP10
  have hb0B := hM0.nB6
  have hb0W := hM0.nW14
  have hFE := hM.fE
  have hM := hM.wide (n := s.heap.size) hG.2.2.1
  have hcn : cnt σ σ := cnt.rf
  have hL34 : ∀ (hf34_0 : (Int32.toNatClampNeg a) < nW σ) (hg34_0 : a = nI ((Int32.toNatClampNeg a))) (κ : St → Int32 → Int32 → Int64 → Int32 × MSt) (hκ : ∀ (σ1 : St) (th1 : Int32) (ca1 : Int32) (sm1 : Int64) (H : Heap) (locs : List Loc) (ls : Array Slot), κ σ1 th1 ca1 sm1 = r → cnt σ1 σ → RM D E β (fN F s.heap.size) σ1 th1 ca1 sm1 H → xK F F s.heap H locs → lv_has ls 3 [] → W p l e { frames := 21, cells := 0, slots := 0, locals := 463 } s m [(.ref (β 0 0) : Value), .int (a)].toArray below meth c H locs 0 0 (MQ below (qG F ((fun sz v h => v = some (.int r.1) ∧ RM D E β (fN F sz) r.2.1 r.2.2.1 r.2.2.2.1 r.2.2.2.2 h ∧ cnt r.2.1 σ) s.heap.size)) [(.ref (β 0 0) : Value), .int (a)].toArray s 0 0 (fN F s.heap.size)) (F0 m 66 ls [])) (n : Nat) (i2 : Nat) (σ1 : St) (th1 : Int32) (ca1 : Int32) (sm1 : Int64), i2 + n = nP σ → fX4_key_L34 σ th ca sm a κ n i2 σ1 th1 ca1 sm1 = r → ∀ (H : Heap) (locs : List Loc), cnt σ1 σ → RM D E β (fN F s.heap.size) σ1 th1 ca1 sm1 H → xK F F s.heap H locs → ∀ (ls : Array Slot), lv_has ls 3 [(0, .ref (β 0 0)), (1, .int (a)), (2, .int (nI i2))] → W p l e { frames := 21, cells := 0, slots := 0, locals := 463 } s m [(.ref (β 0 0) : Value), .int (a)].toArray below meth c H locs 0 0 (MQ below (qG F ((fun sz v h => v = some (.int r.1) ∧ RM D E β (fN F sz) r.2.1 r.2.2.1 r.2.2.2.1 r.2.2.2.2 h ∧ cnt r.2.1 σ) s.heap.size)) [(.ref (β 0 0) : Value), .int (a)].toArray s 0 0 (fN F s.heap.size)) (F0 m 34 ls []) := by
    intro hf34_0 hg34_0 κ hκ n
    induction n with
    | zero =>
      intro i2 σ1 th1 ca1 sm1 hn hR H locs hcn hM hS ls hl
      rw [fX4_key_L34] at hR
      have hG := gE.ofS hG0 hS hFE
      refine lv_iload_n hx hb dX4_key_34 rfl (lv_at hl 2 rfl) ?_
      refine lv_aload_n hx hb dX4_key_35 rfl (lv_at hl 0 rfl) ?_
      refine gf (v := .ref (β 1 0)) (C := RX4) (T := TX4) (N := 13) (k := 3) hx hb hts hown hG cl_X4 in_X4 hM.ag (by decide) q1543 rfl dX4_key_36 ?_
      refine pcV (As := []) (rest := [.int (nI i2)]) hS0 (met_ml_size l D E (j := 0) (by decide)) q1600 q336 q2080 q103 q338 hd_J2_size ⟨Nat.le_of_ble_eq_true rfl, Nat.le_of_ble_eq_true rfl⟩ hG (hM.lsR hG (j := 0) (by decide)) hM rfl hl.1 rfl (Nat.le_of_ble_eq_true rfl) dX4_key_39 ⟨Nat.le_of_ble_eq_true rfl, Nat.le_of_ble_eq_true rfl⟩ ?_
      refine W.eq (g2 := F0 m 42 ls [.int (nI (nP σ1)), .int (nI i2)]) rfl ?_
      refine lk_ge_out (k := i2) (N := nP σ1) hx hb (Eq.trans hn hcn.1.symm) (tgt := 66) dX4_key_42 (by decide) ?_
      exact hκ σ1 th1 ca1 sm1 _ _ ls hR hcn hM hS (lv_sub hl [] rfl)
    | succ n ih =>
      intro i2 σ1 th1 ca1 sm1 hn hR H locs hcn hM hS ls hl
      rw [fX4_key_L34] at hR
      have hG := gE.ofS hG0 hS hFE
      refine lv_iload_n hx hb dX4_key_34 rfl (lv_at hl 2 rfl) ?_
      refine lv_aload_n hx hb dX4_key_35 rfl (lv_at hl 0 rfl) ?_
      refine gf (v := .ref (β 1 0)) (C := RX4) (T := TX4) (N := 13) (k := 3) hx hb hts hown hG cl_X4 in_X4 hM.ag (by decide) q1543 rfl dX4_key_36 ?_
      refine pcV (As := []) (rest := [.int (nI i2)]) hS0 (met_ml_size l D E (j := 0) (by decide)) q1600 q336 q2080 q103 q338 hd_J2_size ⟨Nat.le_of_ble_eq_true rfl, Nat.le_of_ble_eq_true rfl⟩ hG (hM.lsR hG (j := 0) (by decide)) hM rfl hl.1 rfl (Nat.le_of_ble_eq_true rfl) dX4_key_39 ⟨Nat.le_of_ble_eq_true rfl, Nat.le_of_ble_eq_true rfl⟩ ?_
      refine W.eq (g2 := F0 m 42 ls [.int (nI (nP σ1)), .int (nI i2)]) rfl ?_
      have hki2 : i2 < nP σ := lk_lt hn
      refine lk_ge_in (k := i2) (N := nP σ1) hx hb (hcn.p hki2) (by have := hM.nP10; have := hM.nW14; have := hM.nB6; omega) (tgt := 66) dX4_key_42 (by decide) ?_
      refine lv_aload_n hx hb dX4_key_45 rfl (lv_at hl 0 rfl) ?_
      refine lv_iload_n hx hb dX4_key_46 rfl (lv_at hl 1 rfl) ?_
      refine lv_eq hg34_0 ?_
      refine lv_iconst (v := 1) hx hb dX4_key_47 (by decide) ?_
      refine lv_iload_n hx hb dX4_key_48 rfl (lv_at hl 2 rfl) ?_
      refine lv_ishl hx hb dX4_key_49 ?_
      refine lv_iconst (v := 0) hx hb dX4_key_50 (by decide) ?_
      refine pcV (As := [.int (nI ((Int32.toNatClampNeg a))), .int (1 <<< ((nI i2) &&& 31)), .int 0]) (rest := []) hS0 (met_gX4_best l D E ((Int32.toNatClampNeg a)) (1 <<< ((nI i2) &&& 31)) 0 (hcn.w hf34_0)) q1753 q1755 qs64 q110 q1756 hd_X4_best ⟨Nat.le_of_ble_eq_true rfl, Nat.le_of_ble_eq_true rfl⟩ hG (rcv hG cl_X4 hM.ag) hM rfl hl.1 rfl (Nat.le_of_ble_eq_true rfl) dX4_key_51 ⟨Nat.le_of_ble_eq_true rfl, Nat.le_of_ble_eq_true rfl⟩ ?_
      refine W.eq (g2 := F0 m 54 ls [.int ((gX4_best σ1 ((Int32.toNatClampNeg a)) (1 <<< ((nI i2) &&& 31)) 0))]) rfl ?_
      refine lv_iconst (v := (-1)) hx hb dX4_key_54 (by decide) ?_
      refine lv_icmp_ne (tgt := 60) hx hb dX4_key_55 (by decide) (fun c3 => ?_) (fun c3 => ?_)
      · rw [if_neg c3] at hR
        refine lv_iinc (v := nI (i2 + 1)) (lv' := [(2, .int (nI (i2 + 1))), (0, .ref (β 0 0)), (1, .int (a))]) hx hb dX4_key_60 hl (k := 2) rfl (nI_1 i2) (Nat.le_of_ble_eq_true rfl) rfl (fun ls hl => ?_)
        refine lv_goto (tgt := 34) hx hb dX4_key_63 (by decide) ?_
        exact ih (i2 + 1) σ1 th1 ca1 sm1 (lk_st hn) hR _ _ hcn hM hS ls (lv_sub hl [1, 2, 0] rfl)
      · rw [if_pos c3] at hR
        refine lv_iload_n hx hb dX4_key_58 rfl (lv_at hl 2 rfl) ?_
        exact g_iret hx hb hr hlocks hS ⟨Nat.le_of_ble_eq_true rfl, Nat.le_of_ble_eq_true rfl⟩ dX4_key_59 (by subst hR; exact ⟨rfl, hM, hcn⟩)
  unfold fX4_key at hR
  refine lv_aload_n hx hb dX4_key_0 rfl (lv_at hl 0 rfl) ?_
  refine lv_iconst (v := 0) hx hb dX4_key_1 (by decide) ?_
  refine pf (ty0 := tyX4) (ty := tyX4 0) (v := .int 0) (C := RX4) (T := TX4) (N := 13) (k := 0) hx hb hts hown hG hS cl_X4 in_X4 tyX4_ok nmX4 hM.ag hM.agF hM.agF (by decide) q1540 rfl (tyX4_ok 0 (by decide)) rfl rfl (Nat.le_of_ble_eq_true rfl) dX4_key_2 (fun H1 locs1 he hz hq hS => ?_)
  have hM := hM.Pth  he hq
  have hG := gE.ofS hG0 hS hFE
  refine lv_aload_n hx hb dX4_key_5 rfl (lv_at hl 0 rfl) ?_
  refine lv_iload_n hx hb dX4_key_6 rfl (lv_at hl 1 rfl) ?_
  refine pcV (As := [.int (a)]) (rest := []) hS0 (met_X4_isWedding l D E a) q1745 q1747 qs62 q110 q1748 hd_X4_isWedding ⟨Nat.le_of_ble_eq_true rfl, Nat.le_of_ble_eq_true rfl⟩ hG (rcv hG cl_X4 hM.ag) hM rfl hl.1 rfl (Nat.le_of_ble_eq_true rfl) dX4_key_7 ⟨Nat.le_of_ble_eq_true rfl, Nat.le_of_ble_eq_true rfl⟩ ?_
  refine W.eq (g2 := F0 m 10 ls [.int (bI ((fX4_isWedding σ a)))]) rfl ?_
  refine lb_if_ne (tgt := 19) hx hb dX4_key_10 (by decide) (fun c1 => ?_) (fun c1 => ?_)
  · rw [if_pos c1] at hR
    have nc1 := isWedding_ix hM c1
    refine lv_aload_n hx hb dX4_key_19 rfl (lv_at hl 0 rfl) ?_
    refine lv_iload_n hx hb dX4_key_20 rfl (lv_at hl 1 rfl) ?_
    refine lv_eq nc1.1 ?_
    refine lv_iconst (v := 0) hx hb dX4_key_21 (by decide) ?_
    refine lv_iconst (v := 0) hx hb dX4_key_22 (by decide) ?_
    refine pcV (As := [.int (nI ((Int32.toNatClampNeg a))), .int 0, .int 0]) (rest := []) hS0 (met_gX4_best l D E ((Int32.toNatClampNeg a)) 0 0 nc1.2) q1753 q1755 qs64 q110 q1756 hd_X4_best ⟨Nat.le_of_ble_eq_true rfl, Nat.le_of_ble_eq_true rfl⟩ hG (rcv hG cl_X4 hM.ag) hM rfl hl.1 rfl (Nat.le_of_ble_eq_true rfl) dX4_key_23 ⟨Nat.le_of_ble_eq_true rfl, Nat.le_of_ble_eq_true rfl⟩ ?_
    refine W.eq (g2 := F0 m 26 ls [.int ((gX4_best σ ((Int32.toNatClampNeg a)) 0 0))]) rfl ?_
    refine lv_iconst (v := (-1)) hx hb dX4_key_26 (by decide) ?_
    refine lv_icmp_ne (tgt := 32) hx hb dX4_key_27 (by decide) (fun c2 => ?_) (fun c2 => ?_)
    · rw [if_neg c2] at hR
      refine lv_iconst (v := 0) hx hb dX4_key_32 (by decide) ?_
      refine lv_istore_n (lv' := [(2, .int 0), (0, .ref (β 0 0)), (1, .int (a))]) hx hb dX4_key_33 rfl hl (Nat.le_of_ble_eq_true rfl) rfl (fun ls hl => ?_)
      refine hL34 nc1.2 nc1.1 _ (fun σ2 th2 ca2 sm2 H1 locs1 ls hR hcn hM hS hl => ?_) (nP σ) 0 σ 0 ca sm (Nat.zero_add _) hR _ _ hcn hM hS ls (lv_sub hl [1, 2, 0] rfl)
      try dsimp only at hR
      have hG := gE.ofS hG0 hS hFE
      refine lv_iconst (v := (-1)) hx hb dX4_key_66 (by decide) ?_
      exact g_iret hx hb hr hlocks hS ⟨Nat.le_of_ble_eq_true rfl, Nat.le_of_ble_eq_true rfl⟩ dX4_key_67 (by subst hR; exact ⟨rfl, hM, hcn⟩)
    · rw [if_pos c2] at hR
      refine lv_iconst (v := (-1)) hx hb dX4_key_30 (by decide) ?_
      exact g_iret hx hb hr hlocks hS ⟨Nat.le_of_ble_eq_true rfl, Nat.le_of_ble_eq_true rfl⟩ dX4_key_31 (by subst hR; exact ⟨rfl, hM, hcn⟩)
  · rw [if_neg c1] at hR
    refine lv_aload_n hx hb dX4_key_13 rfl (lv_at hl 0 rfl) ?_
    refine lv_iconst (v := 1) hx hb dX4_key_14 (by decide) ?_
    have hB := hS.1
    refine gcV (As := [.int 1]) (rest := []) hS0 (met_X4_refuse l D E 1) q1591 q1593 qs55 q110 q1594 hd_X4_refuse ⟨Nat.le_of_ble_eq_true rfl, Nat.le_of_ble_eq_true rfl⟩ hG (rcv hG cl_X4 hM.ag) hM rfl hl.1 rfl (Nat.le_of_ble_eq_true rfl) dX4_key_15 ⟨Nat.le_of_ble_eq_true rfl, Nat.le_of_ble_eq_true rfl⟩ hS (fun q h => h) (fun q h => h) (fun v H1 locs1 hP hz hk hS => ?_)
    obtain ⟨rfl, hZ, hc8⟩ := hP
    have hM := hZ.mono (fun q _ => fN_fN hB q) hM.fE
    have hG := gE.ofS hG0 hS hFE
    have hcn := hc8.tr hcn
    generalize hv_σ3 : (fX4_refuse σ 0 ca sm 1).2.1 = σ3 at hR hM hcn ⊢
    generalize hv_th3 : (fX4_refuse σ 0 ca sm 1).2.2.1 = th3 at hR hM hcn ⊢
    generalize hv_ca3 : (fX4_refuse σ 0 ca sm 1).2.2.2.1 = ca3 at hR hM hcn ⊢
    generalize hv_sm3 : (fX4_refuse σ 0 ca sm 1).2.2.2.2 = sm3 at hR hM hcn ⊢
    generalize hv_v3 : (fX4_refuse σ 0 ca sm 1).1 = v3 at hR hM hcn ⊢
    try dsimp only at hR
    refine W.eq (g2 := F0 m 18 ls [.int (v3)]) rfl ?_
    exact g_iret hx hb hr hlocks hS ⟨Nat.le_of_ble_eq_true rfl, Nat.le_of_ble_eq_true rfl⟩ dX4_key_18 (by subst hR; exact ⟨rfl, hM, hcn⟩)

def fX4_wouldCancel (σ : St) (th : Int32) (ca : Int32) (sm : Int64) (a : Int32) : Int32 × MSt :=
  (if ((fX4_isWedding σ a)) = true then (if (nI (wState σ ((Int32.toNatClampNeg a)))) = 1 then ((if 0 < (((fX4_owed σ ((Int32.toNatClampNeg a)))) - (wPaid σ ((Int32.toNatClampNeg a)))) then (((fX4_owed σ ((Int32.toNatClampNeg a)))) - (wPaid σ ((Int32.toNatClampNeg a)))) else 0) - ((fX4_gain σ ((Int32.toNatClampNeg a)))), ((σ, 0, ca, sm) : MSt)) else (fun (σ1 : St) => (fun (th1 : Int32) => (fun (ca1 : Int32) => (fun (sm1 : Int64) => (fun (v1 : Int32) => (v1, ((σ1, th1, ca1, sm1) : MSt))) ((fX4_refuse σ 0 ca sm 2).1)) ((fX4_refuse σ 0 ca sm 2).2.2.2.2)) ((fX4_refuse σ 0 ca sm 2).2.2.2.1)) ((fX4_refuse σ 0 ca sm 2).2.2.1)) ((fX4_refuse σ 0 ca sm 2).2.1)) else (fun (σ2 : St) => (fun (th2 : Int32) => (fun (ca2 : Int32) => (fun (sm2 : Int64) => (fun (v2 : Int32) => (v2, ((σ2, th2, ca2, sm2) : MSt))) ((fX4_refuse σ 0 ca sm 1).1)) ((fX4_refuse σ 0 ca sm 1).2.2.2.2)) ((fX4_refuse σ 0 ca sm 1).2.2.2.1)) ((fX4_refuse σ 0 ca sm 1).2.2.1)) ((fX4_refuse σ 0 ca sm 1).2.1))
set_option maxHeartbeats 4000000 in
set_option maxRecDepth 100000 in
theorem met_X4_wouldCancel (l : Launch) (D : va_G) (E : Nat → Nat) {β : Nat → Nat → Nat} {F : Nat → Prop} {σ : St} {th ca : Int32} {sm : Int64} (a : Int32)  : GM l D E yX4_wouldCancel cX4_wouldCancel 3 (Option.some Jvm.ClassFile.FieldType.int) 6 133 0 0 [.ref (β 0 0), .int (a)] (RM D E β F σ th ca sm) F F (fun sz v h => v = some (.int (fX4_wouldCancel σ th ca sm a).1) ∧ RM D E β (fN F sz) (fX4_wouldCancel σ th ca sm a).2.1 (fX4_wouldCancel σ th ca sm a).2.2.1 (fX4_wouldCancel σ th ca sm a).2.2.2.1 (fX4_wouldCancel σ th ca sm a).2.2.2.2 h ∧ cnt (fX4_wouldCancel σ th ca sm a).2.1 σ)  := by
  generalize hR : fX4_wouldCancel σ th ca sm a = r
  refine GM.start (by decide) (Nat.le_of_ble_eq_true rfl) ?_
  intro p e s m below meth c ls hx hb hr hml hown hlocks hnm hts hG hM hS hl
  have hown : s.vm.findClass RX4 = some m.cls := hown
  have hS0 : xS p m c cX4_wouldCancel 3 s _ RX4 := ⟨hx, hb, hml, hown, hts⟩
  have hl : lv_has ls 3 [(0, .ref (β 0 0)), (1, .int (a))] := hl
  have hG0 := hG
  have hM0 := hM
  have hb0P := hM0.nP10
  have hb0B := hM0.nB6
  have hb0W := hM0.nW14
  have hFE := hM.fE
  have hM := hM.wide (n := s.heap.size) hG.2.2.1
  have hcn : cnt σ σ := cnt.rf
  unfold fX4_wouldCancel at hR
  refine lv_aload_n hx hb dX4_wouldCancel_0 rfl (lv_at hl 0 rfl) ?_
  refine lv_iconst (v := 0) hx hb dX4_wouldCancel_1 (by decide) ?_
  refine pf (ty0 := tyX4) (ty := tyX4 0) (v := .int 0) (C := RX4) (T := TX4) (N := 13) (k := 0) hx hb hts hown hG hS cl_X4 in_X4 tyX4_ok nmX4 hM.ag hM.agF hM.agF (by decide) q1540 rfl (tyX4_ok 0 (by decide)) rfl rfl (Nat.le_of_ble_eq_true rfl) dX4_wouldCancel_2 (fun H1 locs1 he hz hq hS => ?_)
  have hM := hM.Pth  he hq
  have hG := gE.ofS hG0 hS hFE
  refine lv_aload_n hx hb dX4_wouldCancel_5 rfl (lv_at hl 0 rfl) ?_
  refine lv_iload_n hx hb dX4_wouldCancel_6 rfl (lv_at hl 1 rfl) ?_
  refine pcV (As := [.int (a)]) (rest := []) hS0 (met_X4_isWedding l D E a) q1745 q1747 qs62 q110 q1748 hd_X4_isWedding ⟨Nat.le_of_ble_eq_true rfl, Nat.le_of_ble_eq_true rfl⟩ hG (rcv hG cl_X4 hM.ag) hM rfl hl.1 rfl (Nat.le_of_ble_eq_true rfl) dX4_wouldCancel_7 ⟨Nat.le_of_ble_eq_true rfl, Nat.le_of_ble_eq_true rfl⟩ ?_
  refine W.eq (g2 := F0 m 10 ls [.int (bI ((fX4_isWedding σ a)))]) rfl ?_
  refine lb_if_ne (tgt := 19) hx hb dX4_wouldCancel_10 (by decide) (fun c1 => ?_) (fun c1 => ?_)
  · rw [if_pos c1] at hR
    have nc1 := isWedding_ix hM c1
    refine lv_aload_n hx hb dX4_wouldCancel_19 rfl (lv_at hl 0 rfl) ?_
    refine gf (v := .ref (β 1 2)) (C := RX4) (T := TX4) (N := 13) (k := 5) hx hb hts hown hG cl_X4 in_X4 hM.ag (by decide) q1545 rfl dX4_wouldCancel_20 ?_
    refine lv_iload_n hx hb dX4_wouldCancel_23 rfl (lv_at hl 1 rfl) ?_
    refine lv_eq nc1.1 ?_
    refine pcV (As := [.int (nI ((Int32.toNatClampNeg a)))]) (rest := []) hS0 (met_ml_get l D E (j := 2) (by decide) ((Int32.toNatClampNeg a)) nc1.2) q1639 q349 q2082 q103 q351 hd_J2_get ⟨Nat.le_of_ble_eq_true rfl, Nat.le_of_ble_eq_true rfl⟩ hG (hM.lsR hG (j := 2) (by decide)) hM rfl hl.1 rfl (Nat.le_of_ble_eq_true rfl) dX4_wouldCancel_24 ⟨Nat.le_of_ble_eq_true rfl, Nat.le_of_ble_eq_true rfl⟩ ?_
    refine W.eq (g2 := F0 m 27 ls [.ref (β 5 ((Int32.toNatClampNeg a)))]) rfl ?_
    refine gc (ci := 9) hx hb hown hG cl_X11 (rcv hG cl_X11 (hM.wd nc1.2)) (hts _ q1695) dX4_wouldCancel_27 ?_
    refine lv_astore_n (lv' := [(2, .ref (β 5 ((Int32.toNatClampNeg a)))), (0, .ref (β 0 0)), (1, .int (a))]) hx hb dX4_wouldCancel_30 rfl hl (Nat.le_of_ble_eq_true rfl) rfl (fun ls hl => ?_)
    refine lv_aload_n hx hb dX4_wouldCancel_31 rfl (lv_at hl 0 rfl) ?_
    refine gfN (v := .int (nI (wState σ ((Int32.toNatClampNeg a))))) (C := RX11) (T := TX11) (N := 12) (k := 7) hx hb hts hown hG cl_X11 in_X11 (hM.wd nc1.2) (by decide) q1710 rfl dX4_wouldCancel_32 ?_
    refine lv_iconst (v := 1) hx hb dX4_wouldCancel_35 (by decide) ?_
    refine lv_icmp_ne (tgt := 62) hx hb dX4_wouldCancel_36 (by decide) (fun c2 => ?_) (fun c2 => ?_)
    · rw [if_neg c2] at hR
      refine lv_aload_n hx hb dX4_wouldCancel_62 rfl (lv_at hl 1 rfl) ?_
      refine lv_iconst (v := 2) hx hb dX4_wouldCancel_63 (by decide) ?_
      have hB := hS.1
      refine gcV (As := [.int 2]) (rest := []) hS0 (met_X4_refuse l D E 2) q1591 q1593 qs55 q110 q1594 hd_X4_refuse ⟨Nat.le_of_ble_eq_true rfl, Nat.le_of_ble_eq_true rfl⟩ hG (rcv hG cl_X4 hM.ag) hM rfl hl.1 rfl (Nat.le_of_ble_eq_true rfl) dX4_wouldCancel_64 ⟨Nat.le_of_ble_eq_true rfl, Nat.le_of_ble_eq_true rfl⟩ hS (fun q h => h) (fun q h => h) (fun v H1 locs1 hP hz hk hS => ?_)
      obtain ⟨rfl, hZ, hc8⟩ := hP
      have hM := hZ.mono (fun q _ => fN_fN hB q) hM.fE
      have hG := gE.ofS hG0 hS hFE
      have hcn := hc8.tr hcn
      generalize hv_σ1 : (fX4_refuse σ 0 ca sm 2).2.1 = σ1 at hR hM hcn ⊢
      generalize hv_th1 : (fX4_refuse σ 0 ca sm 2).2.2.1 = th1 at hR hM hcn ⊢
      generalize hv_ca1 : (fX4_refuse σ 0 ca sm 2).2.2.2.1 = ca1 at hR hM hcn ⊢
      generalize hv_sm1 : (fX4_refuse σ 0 ca sm 2).2.2.2.2 = sm1 at hR hM hcn ⊢
      generalize hv_v1 : (fX4_refuse σ 0 ca sm 2).1 = v1 at hR hM hcn ⊢
      try dsimp only at hR
      refine W.eq (g2 := F0 m 67 ls [.int (v1)]) rfl ?_
      exact g_iret hx hb hr hlocks hS ⟨Nat.le_of_ble_eq_true rfl, Nat.le_of_ble_eq_true rfl⟩ dX4_wouldCancel_67 (by subst hR; exact ⟨rfl, hM, hcn⟩)
    · rw [if_pos c2] at hR
      refine lv_iconst (v := 0) hx hb dX4_wouldCancel_39 (by decide) ?_
      refine lv_aload_n hx hb dX4_wouldCancel_40 rfl (lv_at hl 1 rfl) ?_
      refine lv_aload_n hx hb dX4_wouldCancel_41 rfl (lv_at hl 0 rfl) ?_
      refine pcV (As := [.ref (β 5 ((Int32.toNatClampNeg a)))]) (rest := [.int 0]) hS0 (met_X4_owed l D E ((Int32.toNatClampNeg a)) nc1.2) q1856 q1858 qs76 q110 q1859 hd_X4_owed ⟨Nat.le_of_ble_eq_true rfl, Nat.le_of_ble_eq_true rfl⟩ hG (rcv hG cl_X4 hM.ag) hM rfl hl.1 rfl (Nat.le_of_ble_eq_true rfl) dX4_wouldCancel_42 ⟨Nat.le_of_ble_eq_true rfl, Nat.le_of_ble_eq_true rfl⟩ ?_
      refine W.eq (g2 := F0 m 45 ls [.int ((fX4_owed σ ((Int32.toNatClampNeg a)))), .int 0]) rfl ?_
      refine lv_aload_n hx hb dX4_wouldCancel_45 rfl (lv_at hl 0 rfl) ?_
      refine gfN (v := .int (wPaid σ ((Int32.toNatClampNeg a)))) (C := RX11) (T := TX11) (N := 12) (k := 11) hx hb hts hown hG cl_X11 in_X11 (hM.wd nc1.2) (by decide) q1715 rfl dX4_wouldCancel_46 ?_
      refine lv_isub hx hb dX4_wouldCancel_49 ?_
      refine va_mmax hx hb (hml.trans hl.1.symm) hown (hts _ q1860) (hts _ q249) (hts _ q107) (hts _ q250) (Nat.le_of_ble_eq_true rfl) (Nat.le_of_ble_eq_true rfl) (Nat.le_of_ble_eq_true rfl) (Nat.le_of_ble_eq_true rfl) dX4_wouldCancel_50 ?_
      refine W.eq (g2 := F0 m 53 ls [.int (if 0 < (((fX4_owed σ ((Int32.toNatClampNeg a)))) - (wPaid σ ((Int32.toNatClampNeg a)))) then (((fX4_owed σ ((Int32.toNatClampNeg a)))) - (wPaid σ ((Int32.toNatClampNeg a)))) else 0)]) rfl ?_
      refine lv_aload_n hx hb dX4_wouldCancel_53 rfl (lv_at hl 1 rfl) ?_
      refine lv_aload_n hx hb dX4_wouldCancel_54 rfl (lv_at hl 0 rfl) ?_
      refine pcV (As := [.ref (β 5 ((Int32.toNatClampNeg a)))]) (rest := [.int (if 0 < (((fX4_owed σ ((Int32.toNatClampNeg a)))) - (wPaid σ ((Int32.toNatClampNeg a)))) then (((fX4_owed σ ((Int32.toNatClampNeg a)))) - (wPaid σ ((Int32.toNatClampNeg a)))) else 0)]) hS0 (met_X4_gain l D E ((Int32.toNatClampNeg a)) nc1.2) q1886 q1888 qs79 q110 q1889 hd_X4_gain ⟨Nat.le_of_ble_eq_true rfl, Nat.le_of_ble_eq_true rfl⟩ hG (rcv hG cl_X4 hM.ag) hM rfl hl.1 rfl (Nat.le_of_ble_eq_true rfl) dX4_wouldCancel_55 ⟨Nat.le_of_ble_eq_true rfl, Nat.le_of_ble_eq_true rfl⟩ ?_
      refine W.eq (g2 := F0 m 58 ls [.int ((fX4_gain σ ((Int32.toNatClampNeg a)))), .int (if 0 < (((fX4_owed σ ((Int32.toNatClampNeg a)))) - (wPaid σ ((Int32.toNatClampNeg a)))) then (((fX4_owed σ ((Int32.toNatClampNeg a)))) - (wPaid σ ((Int32.toNatClampNeg a)))) else 0)]) rfl ?_
      refine lv_isub hx hb dX4_wouldCancel_58 ?_
      refine lv_goto (tgt := 67) hx hb dX4_wouldCancel_59 (by decide) ?_
      exact g_iret hx hb hr hlocks hS ⟨Nat.le_of_ble_eq_true rfl, Nat.le_of_ble_eq_true rfl⟩ dX4_wouldCancel_67 (by subst hR; exact ⟨rfl, hM, hcn⟩)
  · rw [if_neg c1] at hR
    refine lv_aload_n hx hb dX4_wouldCancel_13 rfl (lv_at hl 0 rfl) ?_
    refine lv_iconst (v := 1) hx hb dX4_wouldCancel_14 (by decide) ?_
    have hB := hS.1
    refine gcV (As := [.int 1]) (rest := []) hS0 (met_X4_refuse l D E 1) q1591 q1593 qs55 q110 q1594 hd_X4_refuse ⟨Nat.le_of_ble_eq_true rfl, Nat.le_of_ble_eq_true rfl⟩ hG (rcv hG cl_X4 hM.ag) hM rfl hl.1 rfl (Nat.le_of_ble_eq_true rfl) dX4_wouldCancel_15 ⟨Nat.le_of_ble_eq_true rfl, Nat.le_of_ble_eq_true rfl⟩ hS (fun q h => h) (fun q h => h) (fun v H1 locs1 hP hz hk hS => ?_)
    obtain ⟨rfl, hZ, hc8⟩ := hP
    have hM := hZ.mono (fun q _ => fN_fN hB q) hM.fE
    have hG := gE.ofS hG0 hS hFE
    have hcn := hc8.tr hcn
    generalize hv_σ2 : (fX4_refuse σ 0 ca sm 1).2.1 = σ2 at hR hM hcn ⊢
    generalize hv_th2 : (fX4_refuse σ 0 ca sm 1).2.2.1 = th2 at hR hM hcn ⊢
    generalize hv_ca2 : (fX4_refuse σ 0 ca sm 1).2.2.2.1 = ca2 at hR hM hcn ⊢
    generalize hv_sm2 : (fX4_refuse σ 0 ca sm 1).2.2.2.2 = sm2 at hR hM hcn ⊢
    generalize hv_v2 : (fX4_refuse σ 0 ca sm 1).1 = v2 at hR hM hcn ⊢
    try dsimp only at hR
    refine W.eq (g2 := F0 m 18 ls [.int (v2)]) rfl ?_
    exact g_iret hx hb hr hlocks hS ⟨Nat.le_of_ble_eq_true rfl, Nat.le_of_ble_eq_true rfl⟩ dX4_wouldCancel_18 (by subst hR; exact ⟨rfl, hM, hcn⟩)

def fX4_isSound (σ : St) (th : Int32) (ca : Int32) (sm : Int64) : Bool × MSt :=
  ((fX4_isSoundNow σ ca), ((σ, 0, ca, sm) : MSt))
set_option maxHeartbeats 4000000 in
set_option maxRecDepth 100000 in
theorem met_X4_isSound (l : Launch) (D : va_G) (E : Nat → Nat) {β : Nat → Nat → Nat} {F : Nat → Prop} {σ : St} {th ca : Int32} {sm : Int64}   : GM l D E yX4_isSound cX4_isSound 1 (Option.some Jvm.ClassFile.FieldType.boolean) 5 117 0 0 [.ref (β 0 0)] (RM D E β F σ th ca sm) F F (fun sz v h => v = some (.int (bI (fX4_isSound σ th ca sm).1)) ∧ RM D E β (fN F sz) (fX4_isSound σ th ca sm).2.1 (fX4_isSound σ th ca sm).2.2.1 (fX4_isSound σ th ca sm).2.2.2.1 (fX4_isSound σ th ca sm).2.2.2.2 h ∧ cnt (fX4_isSound σ th ca sm).2.1 σ)  := by
  generalize hR : fX4_isSound σ th ca sm = r
  refine GM.start (by decide) (Nat.le_of_ble_eq_true rfl) ?_
  intro p e s m below meth c ls hx hb hr hml hown hlocks hnm hts hG hM hS hl
  have hown : s.vm.findClass RX4 = some m.cls := hown
  have hS0 : xS p m c cX4_isSound 1 s _ RX4 := ⟨hx, hb, hml, hown, hts⟩
  have hl : lv_has ls 1 [(0, .ref (β 0 0))] := hl
  have hG0 := hG
  have hM0 := hM
  have hb0P := hM0.nP10
  have hb0B := hM0.nB6
  have hb0W := hM0.nW14
  have hFE := hM.fE
  have hM := hM.wide (n := s.heap.size) hG.2.2.1
  have hcn : cnt σ σ := cnt.rf
  unfold fX4_isSound at hR
  refine lv_aload_n hx hb dX4_isSound_0 rfl (lv_at hl 0 rfl) ?_
  refine lv_iconst (v := 0) hx hb dX4_isSound_1 (by decide) ?_
  refine pf (ty0 := tyX4) (ty := tyX4 0) (v := .int 0) (C := RX4) (T := TX4) (N := 13) (k := 0) hx hb hts hown hG hS cl_X4 in_X4 tyX4_ok nmX4 hM.ag hM.agF hM.agF (by decide) q1540 rfl (tyX4_ok 0 (by decide)) rfl rfl (Nat.le_of_ble_eq_true rfl) dX4_isSound_2 (fun H1 locs1 he hz hq hS => ?_)
  have hM := hM.Pth  he hq
  have hG := gE.ofS hG0 hS hFE
  refine lv_aload_n hx hb dX4_isSound_5 rfl (lv_at hl 0 rfl) ?_
  refine pcV (As := []) (rest := []) hS0 (met_X4_isSoundNow l D E ) q2048 q2050 qs97 q110 q2051 hd_X4_isSoundNow ⟨Nat.le_of_ble_eq_true rfl, Nat.le_of_ble_eq_true rfl⟩ hG (rcv hG cl_X4 hM.ag) hM rfl hl.1 rfl (Nat.le_of_ble_eq_true rfl) dX4_isSound_6 ⟨Nat.le_of_ble_eq_true rfl, Nat.le_of_ble_eq_true rfl⟩ ?_
  refine W.eq (g2 := F0 m 9 ls [.int (bI ((fX4_isSoundNow σ ca)))]) rfl ?_
  exact g_zret (b := (fX4_isSoundNow σ ca)) hx hb hr hlocks hS ⟨Nat.le_of_ble_eq_true rfl, Nat.le_of_ble_eq_true rfl⟩ dX4_isSound_9 rfl (by subst hR; exact ⟨rfl, hM, hcn⟩)

def fX4_add (σ : St) (th : Int32) (ca : Int32) (sm : Int64) (z : Int64) : MSt :=
  ((σ, th, ca, ((sm * ((31 : Int64))) + z)) : MSt)
set_option maxHeartbeats 4000000 in
set_option maxRecDepth 100000 in
theorem met_X4_add (l : Launch) (D : va_G) (E : Nat → Nat) {β : Nat → Nat → Nat} {F : Nat → Prop} {σ : St} {th ca : Int32} {sm : Int64} (z : Int64)  : GM l D E yX4_add cX4_add 3 (Option.none : Option Jvm.ClassFile.FieldType) 0 0 0 0 [.ref (β 0 0), .long (z)] (RM D E β F σ th ca sm) F F (fun sz v h => v = none ∧ RM D E β (fN F sz) (fX4_add σ th ca sm z).1 (fX4_add σ th ca sm z).2.1 (fX4_add σ th ca sm z).2.2.1 (fX4_add σ th ca sm z).2.2.2 h ∧ cnt (fX4_add σ th ca sm z).1 σ)  := by
  generalize hR : fX4_add σ th ca sm z = r
  refine GM.start (by decide) (Nat.le_of_ble_eq_true rfl) ?_
  intro p e s m below meth c ls hx hb hr hml hown hlocks hnm hts hG hM hS hl
  have hown : s.vm.findClass RX4 = some m.cls := hown
  have hS0 : xS p m c cX4_add 3 s _ RX4 := ⟨hx, hb, hml, hown, hts⟩
  have hl : lv_has ls 3 [(0, .ref (β 0 0)), (1, .long (z))] := hl
  have hG0 := hG
  have hM0 := hM
  have hb0P := hM0.nP10
  have hb0B := hM0.nB6
  have hb0W := hM0.nW14
  have hFE := hM.fE
  have hM := hM.wide (n := s.heap.size) hG.2.2.1
  have hcn : cnt σ σ := cnt.rf
  unfold fX4_add at hR
  refine lv_aload_n hx hb dX4_add_0 rfl (lv_at hl 0 rfl) ?_
  refine lv_aload_n hx hb dX4_add_1 rfl (lv_at hl 0 rfl) ?_
  refine gf (v := .long (sm)) (C := RX4) (T := TX4) (N := 13) (k := 12) hx hb hts hown hG cl_X4 in_X4 hM.ag (by decide) q1552 rfl dX4_add_2 ?_
  refine lv_ldc2 (v := 31) hx hb hown (hts _ q2061) dX4_add_5 ?_
  refine lv_lmul hx hb dX4_add_8 ?_
  refine lv_lload_n hx hb dX4_add_9 rfl (lv_at hl 1 rfl) ?_
  refine lv_ladd hx hb dX4_add_10 ?_
  refine pf (ty0 := tyX4) (ty := tyX4 12) (v := .long ((sm * ((31 : Int64))) + z)) (C := RX4) (T := TX4) (N := 13) (k := 12) hx hb hts hown hG hS cl_X4 in_X4 tyX4_ok nmX4 hM.ag hM.agF hM.agF (by decide) q1552 rfl (tyX4_ok 12 (by decide)) rfl rfl (Nat.le_of_ble_eq_true rfl) dX4_add_11 (fun H1 locs1 he hz hq hS => ?_)
  have hM := hM.Psm  he hq
  have hG := gE.ofS hG0 hS hFE
  exact g_vret hx hb hr hlocks hS ⟨Nat.le_of_ble_eq_true rfl, Nat.le_of_ble_eq_true rfl⟩ dX4_add_14 (by subst hR; exact ⟨rfl, hM, hcn⟩)

def fX4_ofSong (σ : St) (th : Int32) (ca : Int32) (sm : Int64) (a : Int32) (b : Int32) : Int32 × MSt :=
  (if ((fX4_is a 0 15)) = true then (if ((fX4_is b 0 5)) = true then ((fX4_ofSongNow σ ((Int32.toNatClampNeg a)) b), ((σ, 0, ca, sm) : MSt)) else (fun (σ1 : St) => (fun (th1 : Int32) => (fun (ca1 : Int32) => (fun (sm1 : Int64) => (fun (v1 : Int32) => (v1, ((σ1, th1, ca1, sm1) : MSt))) ((fX4_refuse σ 0 ca sm 2).1)) ((fX4_refuse σ 0 ca sm 2).2.2.2.2)) ((fX4_refuse σ 0 ca sm 2).2.2.2.1)) ((fX4_refuse σ 0 ca sm 2).2.2.1)) ((fX4_refuse σ 0 ca sm 2).2.1)) else (fun (σ2 : St) => (fun (th2 : Int32) => (fun (ca2 : Int32) => (fun (sm2 : Int64) => (fun (v2 : Int32) => (v2, ((σ2, th2, ca2, sm2) : MSt))) ((fX4_refuse σ 0 ca sm 1).1)) ((fX4_refuse σ 0 ca sm 1).2.2.2.2)) ((fX4_refuse σ 0 ca sm 1).2.2.2.1)) ((fX4_refuse σ 0 ca sm 1).2.2.1)) ((fX4_refuse σ 0 ca sm 1).2.1))
set_option maxHeartbeats 4000000 in
set_option maxRecDepth 100000 in
theorem met_X4_ofSong (l : Launch) (D : va_G) (E : Nat → Nat) {β : Nat → Nat → Nat} {F : Nat → Prop} {σ : St} {th ca : Int32} {sm : Int64} (a : Int32) (b : Int32)  : GM l D E yX4_ofSong cX4_ofSong 3 (Option.some Jvm.ClassFile.FieldType.int) 4 88 0 0 [.ref (β 0 0), .int (a), .int (b)] (RM D E β F σ th ca sm) F F (fun sz v h => v = some (.int (fX4_ofSong σ th ca sm a b).1) ∧ RM D E β (fN F sz) (fX4_ofSong σ th ca sm a b).2.1 (fX4_ofSong σ th ca sm a b).2.2.1 (fX4_ofSong σ th ca sm a b).2.2.2.1 (fX4_ofSong σ th ca sm a b).2.2.2.2 h ∧ cnt (fX4_ofSong σ th ca sm a b).2.1 σ)  := by
  generalize hR : fX4_ofSong σ th ca sm a b = r
  refine GM.start (by decide) (Nat.le_of_ble_eq_true rfl) ?_
  intro p e s m below meth c ls hx hb hr hml hown hlocks hnm hts hG hM hS hl
  have hown : s.vm.findClass RX4 = some m.cls := hown
  have hS0 : xS p m c cX4_ofSong 3 s _ RX4 := ⟨hx, hb, hml, hown, hts⟩
  have hl : lv_has ls 3 [(0, .ref (β 0 0)), (1, .int (a)), (2, .int (b))] := hl
  have hG0 := hG
  have hM0 := hM
  have hb0P := hM0.nP10
  have hb0B := hM0.nB6
  have hb0W := hM0.nW14
  have hFE := hM.fE
  have hM := hM.wide (n := s.heap.size) hG.2.2.1
  have hcn : cnt σ σ := cnt.rf
  unfold fX4_ofSong at hR
  refine lv_aload_n hx hb dX4_ofSong_0 rfl (lv_at hl 0 rfl) ?_
  refine lv_iconst (v := 0) hx hb dX4_ofSong_1 (by decide) ?_
  refine pf (ty0 := tyX4) (ty := tyX4 0) (v := .int 0) (C := RX4) (T := TX4) (N := 13) (k := 0) hx hb hts hown hG hS cl_X4 in_X4 tyX4_ok nmX4 hM.ag hM.agF hM.agF (by decide) q1540 rfl (tyX4_ok 0 (by decide)) rfl rfl (Nat.le_of_ble_eq_true rfl) dX4_ofSong_2 (fun H1 locs1 he hz hq hS => ?_)
  have hM := hM.Pth  he hq
  have hG := gE.ofS hG0 hS hFE
  refine lv_iload_n hx hb dX4_ofSong_5 rfl (lv_at hl 1 rfl) ?_
  refine lv_iconst (v := 0) hx hb dX4_ofSong_6 (by decide) ?_
  refine lv_bipush (v := 15) hx hb dX4_ofSong_7 (by decide) ?_
  refine pcS (As := [.int (a), .int 0, .int 15]) (rest := []) hS0 (met_X4_is l D E a 0 15) q1588 q1589 q110 q1590 hd_X4_is ⟨Nat.le_of_ble_eq_true rfl, Nat.le_of_ble_eq_true rfl⟩ hG trivial rfl hl.1 rfl (Nat.le_of_ble_eq_true rfl) dX4_ofSong_9 ⟨Nat.le_of_ble_eq_true rfl, Nat.le_of_ble_eq_true rfl⟩ ?_
  refine W.eq (g2 := F0 m 12 ls [.int (bI ((fX4_is a 0 15)))]) rfl ?_
  refine lb_if_ne (tgt := 21) hx hb dX4_ofSong_12 (by decide) (fun c1 => ?_) (fun c1 => ?_)
  · rw [if_pos c1] at hR
    have nc1 := is_ix (n := 15) (by decide) c1
    refine lv_iload_n hx hb dX4_ofSong_21 rfl (lv_at hl 2 rfl) ?_
    refine lv_iconst (v := 0) hx hb dX4_ofSong_22 (by decide) ?_
    refine lv_iconst (v := 5) hx hb dX4_ofSong_23 (by decide) ?_
    refine pcS (As := [.int (b), .int 0, .int 5]) (rest := []) hS0 (met_X4_is l D E b 0 5) q1588 q1589 q110 q1590 hd_X4_is ⟨Nat.le_of_ble_eq_true rfl, Nat.le_of_ble_eq_true rfl⟩ hG trivial rfl hl.1 rfl (Nat.le_of_ble_eq_true rfl) dX4_ofSong_24 ⟨Nat.le_of_ble_eq_true rfl, Nat.le_of_ble_eq_true rfl⟩ ?_
    refine W.eq (g2 := F0 m 27 ls [.int (bI ((fX4_is b 0 5)))]) rfl ?_
    refine lb_if_eq (tgt := 39) hx hb dX4_ofSong_27 (by decide) (fun c2 => ?_) (fun c2 => ?_)
    · rw [if_neg c2] at hR
      refine lv_aload_n hx hb dX4_ofSong_39 rfl (lv_at hl 0 rfl) ?_
      refine lv_iconst (v := 2) hx hb dX4_ofSong_40 (by decide) ?_
      have hB := hS.1
      refine gcV (As := [.int 2]) (rest := []) hS0 (met_X4_refuse l D E 2) q1591 q1593 qs55 q110 q1594 hd_X4_refuse ⟨Nat.le_of_ble_eq_true rfl, Nat.le_of_ble_eq_true rfl⟩ hG (rcv hG cl_X4 hM.ag) hM rfl hl.1 rfl (Nat.le_of_ble_eq_true rfl) dX4_ofSong_41 ⟨Nat.le_of_ble_eq_true rfl, Nat.le_of_ble_eq_true rfl⟩ hS (fun q h => h) (fun q h => h) (fun v H1 locs1 hP hz hk hS => ?_)
      obtain ⟨rfl, hZ, hc8⟩ := hP
      have hM := hZ.mono (fun q _ => fN_fN hB q) hM.fE
      have hG := gE.ofS hG0 hS hFE
      have hcn := hc8.tr hcn
      generalize hv_σ1 : (fX4_refuse σ 0 ca sm 2).2.1 = σ1 at hR hM hcn ⊢
      generalize hv_th1 : (fX4_refuse σ 0 ca sm 2).2.2.1 = th1 at hR hM hcn ⊢
      generalize hv_ca1 : (fX4_refuse σ 0 ca sm 2).2.2.2.1 = ca1 at hR hM hcn ⊢
      generalize hv_sm1 : (fX4_refuse σ 0 ca sm 2).2.2.2.2 = sm1 at hR hM hcn ⊢
      generalize hv_v1 : (fX4_refuse σ 0 ca sm 2).1 = v1 at hR hM hcn ⊢
      try dsimp only at hR
      refine W.eq (g2 := F0 m 44 ls [.int (v1)]) rfl ?_
      exact g_iret hx hb hr hlocks hS ⟨Nat.le_of_ble_eq_true rfl, Nat.le_of_ble_eq_true rfl⟩ dX4_ofSong_44 (by subst hR; exact ⟨rfl, hM, hcn⟩)
    · rw [if_pos c2] at hR
      refine lv_aload_n hx hb dX4_ofSong_30 rfl (lv_at hl 0 rfl) ?_
      refine lv_iload_n hx hb dX4_ofSong_31 rfl (lv_at hl 1 rfl) ?_
      refine lv_eq nc1.1 ?_
      refine lv_iload_n hx hb dX4_ofSong_32 rfl (lv_at hl 2 rfl) ?_
      refine pcV (As := [.int (nI ((Int32.toNatClampNeg a))), .int (b)]) (rest := []) hS0 (met_X4_ofSongNow l D E ((Int32.toNatClampNeg a)) b nc1.2) q1925 q1927 qs86 q110 q1928 hd_X4_ofSongNow ⟨Nat.le_of_ble_eq_true rfl, Nat.le_of_ble_eq_true rfl⟩ hG (rcv hG cl_X4 hM.ag) hM rfl hl.1 rfl (Nat.le_of_ble_eq_true rfl) dX4_ofSong_33 ⟨Nat.le_of_ble_eq_true rfl, Nat.le_of_ble_eq_true rfl⟩ ?_
      refine W.eq (g2 := F0 m 36 ls [.int ((fX4_ofSongNow σ ((Int32.toNatClampNeg a)) b))]) rfl ?_
      refine lv_goto (tgt := 44) hx hb dX4_ofSong_36 (by decide) ?_
      exact g_iret hx hb hr hlocks hS ⟨Nat.le_of_ble_eq_true rfl, Nat.le_of_ble_eq_true rfl⟩ dX4_ofSong_44 (by subst hR; exact ⟨rfl, hM, hcn⟩)
  · rw [if_neg c1] at hR
    refine lv_aload_n hx hb dX4_ofSong_15 rfl (lv_at hl 0 rfl) ?_
    refine lv_iconst (v := 1) hx hb dX4_ofSong_16 (by decide) ?_
    have hB := hS.1
    refine gcV (As := [.int 1]) (rest := []) hS0 (met_X4_refuse l D E 1) q1591 q1593 qs55 q110 q1594 hd_X4_refuse ⟨Nat.le_of_ble_eq_true rfl, Nat.le_of_ble_eq_true rfl⟩ hG (rcv hG cl_X4 hM.ag) hM rfl hl.1 rfl (Nat.le_of_ble_eq_true rfl) dX4_ofSong_17 ⟨Nat.le_of_ble_eq_true rfl, Nat.le_of_ble_eq_true rfl⟩ hS (fun q h => h) (fun q h => h) (fun v H1 locs1 hP hz hk hS => ?_)
    obtain ⟨rfl, hZ, hc8⟩ := hP
    have hM := hZ.mono (fun q _ => fN_fN hB q) hM.fE
    have hG := gE.ofS hG0 hS hFE
    have hcn := hc8.tr hcn
    generalize hv_σ2 : (fX4_refuse σ 0 ca sm 1).2.1 = σ2 at hR hM hcn ⊢
    generalize hv_th2 : (fX4_refuse σ 0 ca sm 1).2.2.1 = th2 at hR hM hcn ⊢
    generalize hv_ca2 : (fX4_refuse σ 0 ca sm 1).2.2.2.1 = ca2 at hR hM hcn ⊢
    generalize hv_sm2 : (fX4_refuse σ 0 ca sm 1).2.2.2.2 = sm2 at hR hM hcn ⊢
    generalize hv_v2 : (fX4_refuse σ 0 ca sm 1).1 = v2 at hR hM hcn ⊢
    try dsimp only at hR
    refine W.eq (g2 := F0 m 20 ls [.int (v2)]) rfl ?_
    exact g_iret hx hb hr hlocks hS ⟨Nat.le_of_ble_eq_true rfl, Nat.le_of_ble_eq_true rfl⟩ dX4_ofSong_20 (by subst hR; exact ⟨rfl, hM, hcn⟩)

def fX4_ofBand (σ : St) (th : Int32) (ca : Int32) (sm : Int64) (a : Int32) (b : Int32) : Int32 × MSt :=
  (if ((fX4_isBand σ a)) = true then (if ((fX4_is b 0 8)) = true then ((fX4_ofBandNow σ ((Int32.toNatClampNeg a)) ((Int32.toNatClampNeg b))), ((σ, 0, ca, sm) : MSt)) else (fun (σ1 : St) => (fun (th1 : Int32) => (fun (ca1 : Int32) => (fun (sm1 : Int64) => (fun (v1 : Int32) => (v1, ((σ1, th1, ca1, sm1) : MSt))) ((fX4_refuse σ 0 ca sm 2).1)) ((fX4_refuse σ 0 ca sm 2).2.2.2.2)) ((fX4_refuse σ 0 ca sm 2).2.2.2.1)) ((fX4_refuse σ 0 ca sm 2).2.2.1)) ((fX4_refuse σ 0 ca sm 2).2.1)) else (fun (σ2 : St) => (fun (th2 : Int32) => (fun (ca2 : Int32) => (fun (sm2 : Int64) => (fun (v2 : Int32) => (v2, ((σ2, th2, ca2, sm2) : MSt))) ((fX4_refuse σ 0 ca sm 1).1)) ((fX4_refuse σ 0 ca sm 1).2.2.2.2)) ((fX4_refuse σ 0 ca sm 1).2.2.2.1)) ((fX4_refuse σ 0 ca sm 1).2.2.1)) ((fX4_refuse σ 0 ca sm 1).2.1))
set_option maxHeartbeats 4000000 in
set_option maxRecDepth 100000 in
theorem met_X4_ofBand (l : Launch) (D : va_G) (E : Nat → Nat) {β : Nat → Nat → Nat} {F : Nat → Prop} {σ : St} {th ca : Int32} {sm : Int64} (a : Int32) (b : Int32)  : GM l D E yX4_ofBand cX4_ofBand 3 (Option.some Jvm.ClassFile.FieldType.int) 4 88 0 0 [.ref (β 0 0), .int (a), .int (b)] (RM D E β F σ th ca sm) F F (fun sz v h => v = some (.int (fX4_ofBand σ th ca sm a b).1) ∧ RM D E β (fN F sz) (fX4_ofBand σ th ca sm a b).2.1 (fX4_ofBand σ th ca sm a b).2.2.1 (fX4_ofBand σ th ca sm a b).2.2.2.1 (fX4_ofBand σ th ca sm a b).2.2.2.2 h ∧ cnt (fX4_ofBand σ th ca sm a b).2.1 σ)  := by
  generalize hR : fX4_ofBand σ th ca sm a b = r
  refine GM.start (by decide) (Nat.le_of_ble_eq_true rfl) ?_
  intro p e s m below meth c ls hx hb hr hml hown hlocks hnm hts hG hM hS hl
  have hown : s.vm.findClass RX4 = some m.cls := hown
  have hS0 : xS p m c cX4_ofBand 3 s _ RX4 := ⟨hx, hb, hml, hown, hts⟩
  have hl : lv_has ls 3 [(0, .ref (β 0 0)), (1, .int (a)), (2, .int (b))] := hl
  have hG0 := hG
  have hM0 := hM
  have hb0P := hM0.nP10
  have hb0B := hM0.nB6
  have hb0W := hM0.nW14
  have hFE := hM.fE
  have hM := hM.wide (n := s.heap.size) hG.2.2.1
  have hcn : cnt σ σ := cnt.rf
  unfold fX4_ofBand at hR
  refine lv_aload_n hx hb dX4_ofBand_0 rfl (lv_at hl 0 rfl) ?_
  refine lv_iconst (v := 0) hx hb dX4_ofBand_1 (by decide) ?_
  refine pf (ty0 := tyX4) (ty := tyX4 0) (v := .int 0) (C := RX4) (T := TX4) (N := 13) (k := 0) hx hb hts hown hG hS cl_X4 in_X4 tyX4_ok nmX4 hM.ag hM.agF hM.agF (by decide) q1540 rfl (tyX4_ok 0 (by decide)) rfl rfl (Nat.le_of_ble_eq_true rfl) dX4_ofBand_2 (fun H1 locs1 he hz hq hS => ?_)
  have hM := hM.Pth  he hq
  have hG := gE.ofS hG0 hS hFE
  refine lv_aload_n hx hb dX4_ofBand_5 rfl (lv_at hl 0 rfl) ?_
  refine lv_iload_n hx hb dX4_ofBand_6 rfl (lv_at hl 1 rfl) ?_
  refine pcV (As := [.int (a)]) (rest := []) hS0 (met_X4_isBand l D E a) q1683 q1685 qs59 q110 q1686 hd_X4_isBand ⟨Nat.le_of_ble_eq_true rfl, Nat.le_of_ble_eq_true rfl⟩ hG (rcv hG cl_X4 hM.ag) hM rfl hl.1 rfl (Nat.le_of_ble_eq_true rfl) dX4_ofBand_7 ⟨Nat.le_of_ble_eq_true rfl, Nat.le_of_ble_eq_true rfl⟩ ?_
  refine W.eq (g2 := F0 m 10 ls [.int (bI ((fX4_isBand σ a)))]) rfl ?_
  refine lb_if_ne (tgt := 19) hx hb dX4_ofBand_10 (by decide) (fun c1 => ?_) (fun c1 => ?_)
  · rw [if_pos c1] at hR
    have nc1 := isBand_ix hM c1
    refine lv_iload_n hx hb dX4_ofBand_19 rfl (lv_at hl 2 rfl) ?_
    refine lv_iconst (v := 0) hx hb dX4_ofBand_20 (by decide) ?_
    refine lv_bipush (v := 8) hx hb dX4_ofBand_21 (by decide) ?_
    refine pcS (As := [.int (b), .int 0, .int 8]) (rest := []) hS0 (met_X4_is l D E b 0 8) q1588 q1589 q110 q1590 hd_X4_is ⟨Nat.le_of_ble_eq_true rfl, Nat.le_of_ble_eq_true rfl⟩ hG trivial rfl hl.1 rfl (Nat.le_of_ble_eq_true rfl) dX4_ofBand_23 ⟨Nat.le_of_ble_eq_true rfl, Nat.le_of_ble_eq_true rfl⟩ ?_
    refine W.eq (g2 := F0 m 26 ls [.int (bI ((fX4_is b 0 8)))]) rfl ?_
    refine lb_if_eq (tgt := 38) hx hb dX4_ofBand_26 (by decide) (fun c2 => ?_) (fun c2 => ?_)
    · rw [if_neg c2] at hR
      refine lv_aload_n hx hb dX4_ofBand_38 rfl (lv_at hl 0 rfl) ?_
      refine lv_iconst (v := 2) hx hb dX4_ofBand_39 (by decide) ?_
      have hB := hS.1
      refine gcV (As := [.int 2]) (rest := []) hS0 (met_X4_refuse l D E 2) q1591 q1593 qs55 q110 q1594 hd_X4_refuse ⟨Nat.le_of_ble_eq_true rfl, Nat.le_of_ble_eq_true rfl⟩ hG (rcv hG cl_X4 hM.ag) hM rfl hl.1 rfl (Nat.le_of_ble_eq_true rfl) dX4_ofBand_40 ⟨Nat.le_of_ble_eq_true rfl, Nat.le_of_ble_eq_true rfl⟩ hS (fun q h => h) (fun q h => h) (fun v H1 locs1 hP hz hk hS => ?_)
      obtain ⟨rfl, hZ, hc8⟩ := hP
      have hM := hZ.mono (fun q _ => fN_fN hB q) hM.fE
      have hG := gE.ofS hG0 hS hFE
      have hcn := hc8.tr hcn
      generalize hv_σ1 : (fX4_refuse σ 0 ca sm 2).2.1 = σ1 at hR hM hcn ⊢
      generalize hv_th1 : (fX4_refuse σ 0 ca sm 2).2.2.1 = th1 at hR hM hcn ⊢
      generalize hv_ca1 : (fX4_refuse σ 0 ca sm 2).2.2.2.1 = ca1 at hR hM hcn ⊢
      generalize hv_sm1 : (fX4_refuse σ 0 ca sm 2).2.2.2.2 = sm1 at hR hM hcn ⊢
      generalize hv_v1 : (fX4_refuse σ 0 ca sm 2).1 = v1 at hR hM hcn ⊢
      try dsimp only at hR
      refine W.eq (g2 := F0 m 43 ls [.int (v1)]) rfl ?_
      exact g_iret hx hb hr hlocks hS ⟨Nat.le_of_ble_eq_true rfl, Nat.le_of_ble_eq_true rfl⟩ dX4_ofBand_43 (by subst hR; exact ⟨rfl, hM, hcn⟩)
    · rw [if_pos c2] at hR
      have nc2 := is_ix (n := 8) (by decide) c2
      refine lv_aload_n hx hb dX4_ofBand_29 rfl (lv_at hl 0 rfl) ?_
      refine lv_iload_n hx hb dX4_ofBand_30 rfl (lv_at hl 1 rfl) ?_
      refine lv_eq nc1.1 ?_
      refine lv_iload_n hx hb dX4_ofBand_31 rfl (lv_at hl 2 rfl) ?_
      refine lv_eq nc2.1 ?_
      refine pcV (As := [.int (nI ((Int32.toNatClampNeg a))), .int (nI ((Int32.toNatClampNeg b)))]) (rest := []) hS0 (met_X4_ofBandNow l D E ((Int32.toNatClampNeg a)) ((Int32.toNatClampNeg b)) nc1.2 nc2.2) q1937 q1939 qs88 q110 q1940 hd_X4_ofBandNow ⟨Nat.le_of_ble_eq_true rfl, Nat.le_of_ble_eq_true rfl⟩ hG (rcv hG cl_X4 hM.ag) hM rfl hl.1 rfl (Nat.le_of_ble_eq_true rfl) dX4_ofBand_32 ⟨Nat.le_of_ble_eq_true rfl, Nat.le_of_ble_eq_true rfl⟩ ?_
      refine W.eq (g2 := F0 m 35 ls [.int ((fX4_ofBandNow σ ((Int32.toNatClampNeg a)) ((Int32.toNatClampNeg b))))]) rfl ?_
      refine lv_goto (tgt := 43) hx hb dX4_ofBand_35 (by decide) ?_
      exact g_iret hx hb hr hlocks hS ⟨Nat.le_of_ble_eq_true rfl, Nat.le_of_ble_eq_true rfl⟩ dX4_ofBand_43 (by subst hR; exact ⟨rfl, hM, hcn⟩)
  · rw [if_neg c1] at hR
    refine lv_aload_n hx hb dX4_ofBand_13 rfl (lv_at hl 0 rfl) ?_
    refine lv_iconst (v := 1) hx hb dX4_ofBand_14 (by decide) ?_
    have hB := hS.1
    refine gcV (As := [.int 1]) (rest := []) hS0 (met_X4_refuse l D E 1) q1591 q1593 qs55 q110 q1594 hd_X4_refuse ⟨Nat.le_of_ble_eq_true rfl, Nat.le_of_ble_eq_true rfl⟩ hG (rcv hG cl_X4 hM.ag) hM rfl hl.1 rfl (Nat.le_of_ble_eq_true rfl) dX4_ofBand_15 ⟨Nat.le_of_ble_eq_true rfl, Nat.le_of_ble_eq_true rfl⟩ hS (fun q h => h) (fun q h => h) (fun v H1 locs1 hP hz hk hS => ?_)
    obtain ⟨rfl, hZ, hc8⟩ := hP
    have hM := hZ.mono (fun q _ => fN_fN hB q) hM.fE
    have hG := gE.ofS hG0 hS hFE
    have hcn := hc8.tr hcn
    generalize hv_σ2 : (fX4_refuse σ 0 ca sm 1).2.1 = σ2 at hR hM hcn ⊢
    generalize hv_th2 : (fX4_refuse σ 0 ca sm 1).2.2.1 = th2 at hR hM hcn ⊢
    generalize hv_ca2 : (fX4_refuse σ 0 ca sm 1).2.2.2.1 = ca2 at hR hM hcn ⊢
    generalize hv_sm2 : (fX4_refuse σ 0 ca sm 1).2.2.2.2 = sm2 at hR hM hcn ⊢
    generalize hv_v2 : (fX4_refuse σ 0 ca sm 1).1 = v2 at hR hM hcn ⊢
    try dsimp only at hR
    refine W.eq (g2 := F0 m 18 ls [.int (v2)]) rfl ?_
    exact g_iret hx hb hr hlocks hS ⟨Nat.le_of_ble_eq_true rfl, Nat.le_of_ble_eq_true rfl⟩ dX4_ofBand_18 (by subst hR; exact ⟨rfl, hM, hcn⟩)

def fX4_ofWeddingNow (σ : St) (th : Int32) (ca : Int32) (sm : Int64) (wi : Nat) (b : Int32) : Int32 × MSt :=
  (if b = 0 then (nI (wBand σ wi), ((σ, th, ca, sm) : MSt)) else (if b = 1 then (nI (wDay σ wi), ((σ, th, ca, sm) : MSt)) else (if b = 2 then (nI (wTown σ wi), ((σ, th, ca, sm) : MSt)) else (if b = 3 then (wStart σ wi, ((σ, th, ca, sm) : MSt)) else (if b = 4 then (wLen σ wi, ((σ, th, ca, sm) : MSt)) else (if b = 5 then (wSongs σ wi, ((σ, th, ca, sm) : MSt)) else (if b = 6 then (nI (wState σ wi), ((σ, th, ca, sm) : MSt)) else (if b = 7 then (wSet σ wi, ((σ, th, ca, sm) : MSt)) else (if b = 8 then (wPrice σ wi, ((σ, th, ca, sm) : MSt)) else (if b = 9 then (wLate σ wi, ((σ, th, ca, sm) : MSt)) else (if b = 10 then (wPaid σ wi, ((σ, th, ca, sm) : MSt)) else (if b = 11 then ((fX4_place σ wi), ((σ, th, ca, sm) : MSt)) else ((fX11_quarters σ wi), ((σ, th, ca, sm) : MSt))))))))))))))
set_option maxHeartbeats 4000000 in
set_option maxRecDepth 100000 in
theorem met_X4_ofWeddingNow (l : Launch) (D : va_G) (E : Nat → Nat) {β : Nat → Nat → Nat} {F : Nat → Prop} {σ : St} {th ca : Int32} {sm : Int64} (wi : Nat) (b : Int32) (h_wi : wi < nW σ) : GM l D E yX4_ofWeddingNow cX4_ofWeddingNow 4 (Option.some Jvm.ClassFile.FieldType.int) 4 89 0 0 [.ref (β 0 0), .int (nI wi), .int (b)] (RM D E β F σ th ca sm) F F (fun sz v h => v = some (.int (fX4_ofWeddingNow σ th ca sm wi b).1) ∧ RM D E β (fN F sz) (fX4_ofWeddingNow σ th ca sm wi b).2.1 (fX4_ofWeddingNow σ th ca sm wi b).2.2.1 (fX4_ofWeddingNow σ th ca sm wi b).2.2.2.1 (fX4_ofWeddingNow σ th ca sm wi b).2.2.2.2 h ∧ cnt (fX4_ofWeddingNow σ th ca sm wi b).2.1 σ)  := by
  generalize hR : fX4_ofWeddingNow σ th ca sm wi b = r
  refine GM.start (by decide) (Nat.le_of_ble_eq_true rfl) ?_
  intro p e s m below meth c ls hx hb hr hml hown hlocks hnm hts hG hM hS hl
  have hown : s.vm.findClass RX4 = some m.cls := hown
  have hS0 : xS p m c cX4_ofWeddingNow 4 s _ RX4 := ⟨hx, hb, hml, hown, hts⟩
  have hl : lv_has ls 4 [(0, .ref (β 0 0)), (1, .int (nI wi)), (2, .int (b))] := hl
  have hG0 := hG
  have hM0 := hM
  have hb0P := hM0.nP10
  have hb0B := hM0.nB6
  have hb0W := hM0.nW14
  have hFE := hM.fE
  have hM := hM.wide (n := s.heap.size) hG.2.2.1
  have hcn : cnt σ σ := cnt.rf
  unfold fX4_ofWeddingNow at hR
  refine lv_aload_n hx hb dX4_ofWeddingNow_0 rfl (lv_at hl 0 rfl) ?_
  refine gf (v := .ref (β 1 2)) (C := RX4) (T := TX4) (N := 13) (k := 5) hx hb hts hown hG cl_X4 in_X4 hM.ag (by decide) q1545 rfl dX4_ofWeddingNow_1 ?_
  refine lv_iload_n hx hb dX4_ofWeddingNow_4 rfl (lv_at hl 1 rfl) ?_
  refine pcV (As := [.int (nI wi)]) (rest := []) hS0 (met_ml_get l D E (j := 2) (by decide) wi h_wi) q1639 q349 q2082 q103 q351 hd_J2_get ⟨Nat.le_of_ble_eq_true rfl, Nat.le_of_ble_eq_true rfl⟩ hG (hM.lsR hG (j := 2) (by decide)) hM rfl hl.1 rfl (Nat.le_of_ble_eq_true rfl) dX4_ofWeddingNow_5 ⟨Nat.le_of_ble_eq_true rfl, Nat.le_of_ble_eq_true rfl⟩ ?_
  refine W.eq (g2 := F0 m 8 ls [.ref (β 5 wi)]) rfl ?_
  refine gc (ci := 9) hx hb hown hG cl_X11 (rcv hG cl_X11 (hM.wd h_wi)) (hts _ q1695) dX4_ofWeddingNow_8 ?_
  refine lv_astore_n (lv' := [(3, .ref (β 5 wi)), (0, .ref (β 0 0)), (1, .int (nI wi)), (2, .int (b))]) hx hb dX4_ofWeddingNow_11 rfl hl (Nat.le_of_ble_eq_true rfl) rfl (fun ls hl => ?_)
  refine lv_iload_n hx hb dX4_ofWeddingNow_12 rfl (lv_at hl 3 rfl) ?_
  by_cases c1 : b = 0
  · rw [if_pos c1] at hR
    refine lv_eq c1 ?_
    refine lv_tableIn (x := 0) (off := 63) (tgt := 76) hx hb dX4_ofWeddingNow_13 (by decide) (by decide) (by decide) (by decide) ?_
    refine lv_aload_n hx hb dX4_ofWeddingNow_76 rfl (lv_at hl 0 rfl) ?_
    refine gfN (v := .int (nI (wBand σ wi))) (C := RX11) (T := TX11) (N := 12) (k := 0) hx hb hts hown hG cl_X11 in_X11 (hM.wd h_wi) (by decide) q1701 rfl dX4_ofWeddingNow_77 ?_
    exact g_iret hx hb hr hlocks hS ⟨Nat.le_of_ble_eq_true rfl, Nat.le_of_ble_eq_true rfl⟩ dX4_ofWeddingNow_80 (by subst hR; exact ⟨rfl, hM, hcn⟩)
  rw [if_neg c1] at hR
  by_cases c2 : b = 1
  · rw [if_pos c2] at hR
    refine lv_eq c2 ?_
    refine lv_tableIn (x := 1) (off := 68) (tgt := 81) hx hb dX4_ofWeddingNow_13 (by decide) (by decide) (by decide) (by decide) ?_
    refine lv_aload_n hx hb dX4_ofWeddingNow_81 rfl (lv_at hl 0 rfl) ?_
    refine gfN (v := .int (nI (wDay σ wi))) (C := RX11) (T := TX11) (N := 12) (k := 1) hx hb hts hown hG cl_X11 in_X11 (hM.wd h_wi) (by decide) q1702 rfl dX4_ofWeddingNow_82 ?_
    exact g_iret hx hb hr hlocks hS ⟨Nat.le_of_ble_eq_true rfl, Nat.le_of_ble_eq_true rfl⟩ dX4_ofWeddingNow_85 (by subst hR; exact ⟨rfl, hM, hcn⟩)
  rw [if_neg c2] at hR
  by_cases c3 : b = 2
  · rw [if_pos c3] at hR
    refine lv_eq c3 ?_
    refine lv_tableIn (x := 2) (off := 73) (tgt := 86) hx hb dX4_ofWeddingNow_13 (by decide) (by decide) (by decide) (by decide) ?_
    refine lv_aload_n hx hb dX4_ofWeddingNow_86 rfl (lv_at hl 0 rfl) ?_
    refine gfN (v := .int (nI (wTown σ wi))) (C := RX11) (T := TX11) (N := 12) (k := 2) hx hb hts hown hG cl_X11 in_X11 (hM.wd h_wi) (by decide) q1703 rfl dX4_ofWeddingNow_87 ?_
    exact g_iret hx hb hr hlocks hS ⟨Nat.le_of_ble_eq_true rfl, Nat.le_of_ble_eq_true rfl⟩ dX4_ofWeddingNow_90 (by subst hR; exact ⟨rfl, hM, hcn⟩)
  rw [if_neg c3] at hR
  by_cases c4 : b = 3
  · rw [if_pos c4] at hR
    refine lv_eq c4 ?_
    refine lv_tableIn (x := 3) (off := 78) (tgt := 91) hx hb dX4_ofWeddingNow_13 (by decide) (by decide) (by decide) (by decide) ?_
    refine lv_aload_n hx hb dX4_ofWeddingNow_91 rfl (lv_at hl 0 rfl) ?_
    refine gfN (v := .int (wStart σ wi)) (C := RX11) (T := TX11) (N := 12) (k := 3) hx hb hts hown hG cl_X11 in_X11 (hM.wd h_wi) (by decide) q1705 rfl dX4_ofWeddingNow_92 ?_
    exact g_iret hx hb hr hlocks hS ⟨Nat.le_of_ble_eq_true rfl, Nat.le_of_ble_eq_true rfl⟩ dX4_ofWeddingNow_95 (by subst hR; exact ⟨rfl, hM, hcn⟩)
  rw [if_neg c4] at hR
  by_cases c5 : b = 4
  · rw [if_pos c5] at hR
    refine lv_eq c5 ?_
    refine lv_tableIn (x := 4) (off := 83) (tgt := 96) hx hb dX4_ofWeddingNow_13 (by decide) (by decide) (by decide) (by decide) ?_
    refine lv_aload_n hx hb dX4_ofWeddingNow_96 rfl (lv_at hl 0 rfl) ?_
    refine gfN (v := .int (wLen σ wi)) (C := RX11) (T := TX11) (N := 12) (k := 4) hx hb hts hown hG cl_X11 in_X11 (hM.wd h_wi) (by decide) q1707 rfl dX4_ofWeddingNow_97 ?_
    exact g_iret hx hb hr hlocks hS ⟨Nat.le_of_ble_eq_true rfl, Nat.le_of_ble_eq_true rfl⟩ dX4_ofWeddingNow_100 (by subst hR; exact ⟨rfl, hM, hcn⟩)
  rw [if_neg c5] at hR
  by_cases c6 : b = 5
  · rw [if_pos c6] at hR
    refine lv_eq c6 ?_
    refine lv_tableIn (x := 5) (off := 88) (tgt := 101) hx hb dX4_ofWeddingNow_13 (by decide) (by decide) (by decide) (by decide) ?_
    refine lv_aload_n hx hb dX4_ofWeddingNow_101 rfl (lv_at hl 0 rfl) ?_
    refine gfN (v := .int (wSongs σ wi)) (C := RX11) (T := TX11) (N := 12) (k := 5) hx hb hts hown hG cl_X11 in_X11 (hM.wd h_wi) (by decide) q1708 rfl dX4_ofWeddingNow_102 ?_
    exact g_iret hx hb hr hlocks hS ⟨Nat.le_of_ble_eq_true rfl, Nat.le_of_ble_eq_true rfl⟩ dX4_ofWeddingNow_105 (by subst hR; exact ⟨rfl, hM, hcn⟩)
  rw [if_neg c6] at hR
  by_cases c7 : b = 6
  · rw [if_pos c7] at hR
    refine lv_eq c7 ?_
    refine lv_tableIn (x := 6) (off := 93) (tgt := 106) hx hb dX4_ofWeddingNow_13 (by decide) (by decide) (by decide) (by decide) ?_
    refine lv_aload_n hx hb dX4_ofWeddingNow_106 rfl (lv_at hl 0 rfl) ?_
    refine gfN (v := .int (nI (wState σ wi))) (C := RX11) (T := TX11) (N := 12) (k := 7) hx hb hts hown hG cl_X11 in_X11 (hM.wd h_wi) (by decide) q1710 rfl dX4_ofWeddingNow_107 ?_
    exact g_iret hx hb hr hlocks hS ⟨Nat.le_of_ble_eq_true rfl, Nat.le_of_ble_eq_true rfl⟩ dX4_ofWeddingNow_110 (by subst hR; exact ⟨rfl, hM, hcn⟩)
  rw [if_neg c7] at hR
  by_cases c8 : b = 7
  · rw [if_pos c8] at hR
    refine lv_eq c8 ?_
    refine lv_tableIn (x := 7) (off := 98) (tgt := 111) hx hb dX4_ofWeddingNow_13 (by decide) (by decide) (by decide) (by decide) ?_
    refine lv_aload_n hx hb dX4_ofWeddingNow_111 rfl (lv_at hl 0 rfl) ?_
    refine gfN (v := .int (wSet σ wi)) (C := RX11) (T := TX11) (N := 12) (k := 8) hx hb hts hown hG cl_X11 in_X11 (hM.wd h_wi) (by decide) q1711 rfl dX4_ofWeddingNow_112 ?_
    exact g_iret hx hb hr hlocks hS ⟨Nat.le_of_ble_eq_true rfl, Nat.le_of_ble_eq_true rfl⟩ dX4_ofWeddingNow_115 (by subst hR; exact ⟨rfl, hM, hcn⟩)
  rw [if_neg c8] at hR
  by_cases c9 : b = 8
  · rw [if_pos c9] at hR
    refine lv_eq c9 ?_
    refine lv_tableIn (x := 8) (off := 103) (tgt := 116) hx hb dX4_ofWeddingNow_13 (by decide) (by decide) (by decide) (by decide) ?_
    refine lv_aload_n hx hb dX4_ofWeddingNow_116 rfl (lv_at hl 0 rfl) ?_
    refine gfN (v := .int (wPrice σ wi)) (C := RX11) (T := TX11) (N := 12) (k := 9) hx hb hts hown hG cl_X11 in_X11 (hM.wd h_wi) (by decide) q1712 rfl dX4_ofWeddingNow_117 ?_
    exact g_iret hx hb hr hlocks hS ⟨Nat.le_of_ble_eq_true rfl, Nat.le_of_ble_eq_true rfl⟩ dX4_ofWeddingNow_120 (by subst hR; exact ⟨rfl, hM, hcn⟩)
  rw [if_neg c9] at hR
  by_cases c10 : b = 9
  · rw [if_pos c10] at hR
    refine lv_eq c10 ?_
    refine lv_tableIn (x := 9) (off := 108) (tgt := 121) hx hb dX4_ofWeddingNow_13 (by decide) (by decide) (by decide) (by decide) ?_
    refine lv_aload_n hx hb dX4_ofWeddingNow_121 rfl (lv_at hl 0 rfl) ?_
    refine gfN (v := .int (wLate σ wi)) (C := RX11) (T := TX11) (N := 12) (k := 10) hx hb hts hown hG cl_X11 in_X11 (hM.wd h_wi) (by decide) q1714 rfl dX4_ofWeddingNow_122 ?_
    exact g_iret hx hb hr hlocks hS ⟨Nat.le_of_ble_eq_true rfl, Nat.le_of_ble_eq_true rfl⟩ dX4_ofWeddingNow_125 (by subst hR; exact ⟨rfl, hM, hcn⟩)
  rw [if_neg c10] at hR
  by_cases c11 : b = 10
  · rw [if_pos c11] at hR
    refine lv_eq c11 ?_
    refine lv_tableIn (x := 10) (off := 113) (tgt := 126) hx hb dX4_ofWeddingNow_13 (by decide) (by decide) (by decide) (by decide) ?_
    refine lv_aload_n hx hb dX4_ofWeddingNow_126 rfl (lv_at hl 0 rfl) ?_
    refine gfN (v := .int (wPaid σ wi)) (C := RX11) (T := TX11) (N := 12) (k := 11) hx hb hts hown hG cl_X11 in_X11 (hM.wd h_wi) (by decide) q1715 rfl dX4_ofWeddingNow_127 ?_
    exact g_iret hx hb hr hlocks hS ⟨Nat.le_of_ble_eq_true rfl, Nat.le_of_ble_eq_true rfl⟩ dX4_ofWeddingNow_130 (by subst hR; exact ⟨rfl, hM, hcn⟩)
  rw [if_neg c11] at hR
  by_cases c12 : b = 11
  · rw [if_pos c12] at hR
    refine lv_eq c12 ?_
    refine lv_tableIn (x := 11) (off := 118) (tgt := 131) hx hb dX4_ofWeddingNow_13 (by decide) (by decide) (by decide) (by decide) ?_
    refine lv_aload_n hx hb dX4_ofWeddingNow_131 rfl (lv_at hl 1 rfl) ?_
    refine lv_iload_n hx hb dX4_ofWeddingNow_132 rfl (lv_at hl 2 rfl) ?_
    refine pcV (As := [.int (nI wi)]) (rest := []) hS0 (met_X4_place l D E wi h_wi) q1749 q1751 qs63 q110 q1752 hd_X4_place ⟨Nat.le_of_ble_eq_true rfl, Nat.le_of_ble_eq_true rfl⟩ hG (rcv hG cl_X4 hM.ag) hM rfl hl.1 rfl (Nat.le_of_ble_eq_true rfl) dX4_ofWeddingNow_133 ⟨Nat.le_of_ble_eq_true rfl, Nat.le_of_ble_eq_true rfl⟩ ?_
    refine W.eq (g2 := F0 m 136 ls [.int ((fX4_place σ wi))]) rfl ?_
    exact g_iret hx hb hr hlocks hS ⟨Nat.le_of_ble_eq_true rfl, Nat.le_of_ble_eq_true rfl⟩ dX4_ofWeddingNow_136 (by subst hR; exact ⟨rfl, hM, hcn⟩)
  rw [if_neg c12] at hR
  refine lv_tableOut (tgt := 137) hx hb dX4_ofWeddingNow_13 (sw_out (lo := 0) (hi := 11) (by decide) (by decide) (fun z h1 h2 => by rcases (show z = 0 ∨ z = 1 ∨ z = 2 ∨ z = 3 ∨ z = 4 ∨ z = 5 ∨ z = 6 ∨ z = 7 ∨ z = 8 ∨ z = 9 ∨ z = 10 ∨ z = 11 by omega) with rfl | rfl | rfl | rfl | rfl | rfl | rfl | rfl | rfl | rfl | rfl | rfl <;> first | exact c1 | exact c2 | exact c3 | exact c4 | exact c5 | exact c6 | exact c7 | exact c8 | exact c9 | exact c10 | exact c11 | exact c12)) (by decide) ?_
  refine lv_aload_n hx hb dX4_ofWeddingNow_137 rfl (lv_at hl 0 rfl) ?_
  refine pcV (As := []) (rest := []) hS0 (met_X11_quarters l D E wi h_wi) q1873 q1874 q1875 q131 q1876 hd_X11_quarters ⟨Nat.le_of_ble_eq_true rfl, Nat.le_of_ble_eq_true rfl⟩ hG (rcv hG cl_X11 (hM.wd h_wi)) hM rfl hl.1 rfl (Nat.le_of_ble_eq_true rfl) dX4_ofWeddingNow_138 ⟨Nat.le_of_ble_eq_true rfl, Nat.le_of_ble_eq_true rfl⟩ ?_
  refine W.eq (g2 := F0 m 141 ls [.int ((fX11_quarters σ wi))]) rfl ?_
  exact g_iret hx hb hr hlocks hS ⟨Nat.le_of_ble_eq_true rfl, Nat.le_of_ble_eq_true rfl⟩ dX4_ofWeddingNow_141 (by subst hR; exact ⟨rfl, hM, hcn⟩)

def fX4_ofWedding (σ : St) (th : Int32) (ca : Int32) (sm : Int64) (a : Int32) (b : Int32) : Int32 × MSt :=
  (if ((fX4_isWedding σ a)) = true then (if ((fX4_is b 0 12)) = true then (fun (σ2 : St) => (fun (th2 : Int32) => (fun (ca2 : Int32) => (fun (sm2 : Int64) => (fun (v2 : Int32) => (v2, ((σ2, th2, ca2, sm2) : MSt))) ((fX4_ofWeddingNow σ 0 ca sm ((Int32.toNatClampNeg a)) (nI ((Int32.toNatClampNeg b)))).1)) ((fX4_ofWeddingNow σ 0 ca sm ((Int32.toNatClampNeg a)) (nI ((Int32.toNatClampNeg b)))).2.2.2.2)) ((fX4_ofWeddingNow σ 0 ca sm ((Int32.toNatClampNeg a)) (nI ((Int32.toNatClampNeg b)))).2.2.2.1)) ((fX4_ofWeddingNow σ 0 ca sm ((Int32.toNatClampNeg a)) (nI ((Int32.toNatClampNeg b)))).2.2.1)) ((fX4_ofWeddingNow σ 0 ca sm ((Int32.toNatClampNeg a)) (nI ((Int32.toNatClampNeg b)))).2.1) else (fun (σ1 : St) => (fun (th1 : Int32) => (fun (ca1 : Int32) => (fun (sm1 : Int64) => (fun (v1 : Int32) => (v1, ((σ1, th1, ca1, sm1) : MSt))) ((fX4_refuse σ 0 ca sm 2).1)) ((fX4_refuse σ 0 ca sm 2).2.2.2.2)) ((fX4_refuse σ 0 ca sm 2).2.2.2.1)) ((fX4_refuse σ 0 ca sm 2).2.2.1)) ((fX4_refuse σ 0 ca sm 2).2.1)) else (fun (σ3 : St) => (fun (th3 : Int32) => (fun (ca3 : Int32) => (fun (sm3 : Int64) => (fun (v3 : Int32) => (v3, ((σ3, th3, ca3, sm3) : MSt))) ((fX4_refuse σ 0 ca sm 1).1)) ((fX4_refuse σ 0 ca sm 1).2.2.2.2)) ((fX4_refuse σ 0 ca sm 1).2.2.2.1)) ((fX4_refuse σ 0 ca sm 1).2.2.1)) ((fX4_refuse σ 0 ca sm 1).2.1))
set_option maxHeartbeats 4000000 in
set_option maxRecDepth 100000 in
theorem met_X4_ofWedding (l : Launch) (D : va_G) (E : Nat → Nat) {β : Nat → Nat → Nat} {F : Nat → Prop} {σ : St} {th ca : Int32} {sm : Int64} (a : Int32) (b : Int32)  : GM l D E yX4_ofWedding cX4_ofWedding 3 (Option.some Jvm.ClassFile.FieldType.int) 5 112 0 0 [.ref (β 0 0), .int (a), .int (b)] (RM D E β F σ th ca sm) F F (fun sz v h => v = some (.int (fX4_ofWedding σ th ca sm a b).1) ∧ RM D E β (fN F sz) (fX4_ofWedding σ th ca sm a b).2.1 (fX4_ofWedding σ th ca sm a b).2.2.1 (fX4_ofWedding σ th ca sm a b).2.2.2.1 (fX4_ofWedding σ th ca sm a b).2.2.2.2 h ∧ cnt (fX4_ofWedding σ th ca sm a b).2.1 σ)  := by
  generalize hR : fX4_ofWedding σ th ca sm a b = r
  refine GM.start (by decide) (Nat.le_of_ble_eq_true rfl) ?_
  intro p e s m below meth c ls hx hb hr hml hown hlocks hnm hts hG hM hS hl
  have hown : s.vm.findClass RX4 = some m.cls := hown
  have hS0 : xS p m c cX4_ofWedding 3 s _ RX4 := ⟨hx, hb, hml, hown, hts⟩
  have hl : lv_has ls 3 [(0, .ref (β 0 0)), (1, .int (a)), (2, .int (b))] := hl
  have hG0 := hG
  have hM0 := hM
  have hb0P := hM0.nP10
  have hb0B := hM0.nB6
  have hb0W := hM0.nW14
  have hFE := hM.fE
  have hM := hM.wide (n := s.heap.size) hG.2.2.1
  have hcn : cnt σ σ := cnt.rf
  unfold fX4_ofWedding at hR
  refine lv_aload_n hx hb dX4_ofWedding_0 rfl (lv_at hl 0 rfl) ?_
  refine lv_iconst (v := 0) hx hb dX4_ofWedding_1 (by decide) ?_
  refine pf (ty0 := tyX4) (ty := tyX4 0) (v := .int 0) (C := RX4) (T := TX4) (N := 13) (k := 0) hx hb hts hown hG hS cl_X4 in_X4 tyX4_ok nmX4 hM.ag hM.agF hM.agF (by decide) q1540 rfl (tyX4_ok 0 (by decide)) rfl rfl (Nat.le_of_ble_eq_true rfl) dX4_ofWedding_2 (fun H1 locs1 he hz hq hS => ?_)
  have hM := hM.Pth  he hq
  have hG := gE.ofS hG0 hS hFE
  refine lv_aload_n hx hb dX4_ofWedding_5 rfl (lv_at hl 0 rfl) ?_
  refine lv_iload_n hx hb dX4_ofWedding_6 rfl (lv_at hl 1 rfl) ?_
  refine pcV (As := [.int (a)]) (rest := []) hS0 (met_X4_isWedding l D E a) q1745 q1747 qs62 q110 q1748 hd_X4_isWedding ⟨Nat.le_of_ble_eq_true rfl, Nat.le_of_ble_eq_true rfl⟩ hG (rcv hG cl_X4 hM.ag) hM rfl hl.1 rfl (Nat.le_of_ble_eq_true rfl) dX4_ofWedding_7 ⟨Nat.le_of_ble_eq_true rfl, Nat.le_of_ble_eq_true rfl⟩ ?_
  refine W.eq (g2 := F0 m 10 ls [.int (bI ((fX4_isWedding σ a)))]) rfl ?_
  refine lb_if_ne (tgt := 19) hx hb dX4_ofWedding_10 (by decide) (fun c1 => ?_) (fun c1 => ?_)
  · rw [if_pos c1] at hR
    have nc1 := isWedding_ix hM c1
    refine lv_iload_n hx hb dX4_ofWedding_19 rfl (lv_at hl 2 rfl) ?_
    refine lv_iconst (v := 0) hx hb dX4_ofWedding_20 (by decide) ?_
    refine lv_bipush (v := 12) hx hb dX4_ofWedding_21 (by decide) ?_
    refine pcS (As := [.int (b), .int 0, .int 12]) (rest := []) hS0 (met_X4_is l D E b 0 12) q1588 q1589 q110 q1590 hd_X4_is ⟨Nat.le_of_ble_eq_true rfl, Nat.le_of_ble_eq_true rfl⟩ hG trivial rfl hl.1 rfl (Nat.le_of_ble_eq_true rfl) dX4_ofWedding_23 ⟨Nat.le_of_ble_eq_true rfl, Nat.le_of_ble_eq_true rfl⟩ ?_
    refine W.eq (g2 := F0 m 26 ls [.int (bI ((fX4_is b 0 12)))]) rfl ?_
    refine lb_if_eq (tgt := 38) hx hb dX4_ofWedding_26 (by decide) (fun c2 => ?_) (fun c2 => ?_)
    · rw [if_neg c2] at hR
      refine lv_aload_n hx hb dX4_ofWedding_38 rfl (lv_at hl 0 rfl) ?_
      refine lv_iconst (v := 2) hx hb dX4_ofWedding_39 (by decide) ?_
      have hB := hS.1
      refine gcV (As := [.int 2]) (rest := []) hS0 (met_X4_refuse l D E 2) q1591 q1593 qs55 q110 q1594 hd_X4_refuse ⟨Nat.le_of_ble_eq_true rfl, Nat.le_of_ble_eq_true rfl⟩ hG (rcv hG cl_X4 hM.ag) hM rfl hl.1 rfl (Nat.le_of_ble_eq_true rfl) dX4_ofWedding_40 ⟨Nat.le_of_ble_eq_true rfl, Nat.le_of_ble_eq_true rfl⟩ hS (fun q h => h) (fun q h => h) (fun v H1 locs1 hP hz hk hS => ?_)
      obtain ⟨rfl, hZ, hc8⟩ := hP
      have hM := hZ.mono (fun q _ => fN_fN hB q) hM.fE
      have hG := gE.ofS hG0 hS hFE
      have hcn := hc8.tr hcn
      generalize hv_σ1 : (fX4_refuse σ 0 ca sm 2).2.1 = σ1 at hR hM hcn ⊢
      generalize hv_th1 : (fX4_refuse σ 0 ca sm 2).2.2.1 = th1 at hR hM hcn ⊢
      generalize hv_ca1 : (fX4_refuse σ 0 ca sm 2).2.2.2.1 = ca1 at hR hM hcn ⊢
      generalize hv_sm1 : (fX4_refuse σ 0 ca sm 2).2.2.2.2 = sm1 at hR hM hcn ⊢
      generalize hv_v1 : (fX4_refuse σ 0 ca sm 2).1 = v1 at hR hM hcn ⊢
      try dsimp only at hR
      refine W.eq (g2 := F0 m 43 ls [.int (v1)]) rfl ?_
      exact g_iret hx hb hr hlocks hS ⟨Nat.le_of_ble_eq_true rfl, Nat.le_of_ble_eq_true rfl⟩ dX4_ofWedding_43 (by subst hR; exact ⟨rfl, hM, hcn⟩)
    · rw [if_pos c2] at hR
      have nc2 := is_ix (n := 12) (by decide) c2
      refine lv_aload_n hx hb dX4_ofWedding_29 rfl (lv_at hl 0 rfl) ?_
      refine lv_iload_n hx hb dX4_ofWedding_30 rfl (lv_at hl 1 rfl) ?_
      refine lv_eq nc1.1 ?_
      refine lv_iload_n hx hb dX4_ofWedding_31 rfl (lv_at hl 2 rfl) ?_
      refine lv_eq nc2.1 ?_
      have hB := hS.1
      refine gcV (As := [.int (nI ((Int32.toNatClampNeg a))), .int (nI ((Int32.toNatClampNeg b)))]) (rest := []) hS0 (met_X4_ofWeddingNow l D E ((Int32.toNatClampNeg a)) (nI ((Int32.toNatClampNeg b))) nc1.2) q1945 q1947 qs89 q110 q1948 hd_X4_ofWeddingNow ⟨Nat.le_of_ble_eq_true rfl, Nat.le_of_ble_eq_true rfl⟩ hG (rcv hG cl_X4 hM.ag) hM rfl hl.1 rfl (Nat.le_of_ble_eq_true rfl) dX4_ofWedding_32 ⟨Nat.le_of_ble_eq_true rfl, Nat.le_of_ble_eq_true rfl⟩ hS (fun q h => h) (fun q h => h) (fun v H1 locs1 hP hz hk hS => ?_)
      obtain ⟨rfl, hZ, hc8⟩ := hP
      have hM := hZ.mono (fun q _ => fN_fN hB q) hM.fE
      have hG := gE.ofS hG0 hS hFE
      have hcn := hc8.tr hcn
      generalize hv_σ2 : (fX4_ofWeddingNow σ 0 ca sm ((Int32.toNatClampNeg a)) (nI ((Int32.toNatClampNeg b)))).2.1 = σ2 at hR hM hcn ⊢
      generalize hv_th2 : (fX4_ofWeddingNow σ 0 ca sm ((Int32.toNatClampNeg a)) (nI ((Int32.toNatClampNeg b)))).2.2.1 = th2 at hR hM hcn ⊢
      generalize hv_ca2 : (fX4_ofWeddingNow σ 0 ca sm ((Int32.toNatClampNeg a)) (nI ((Int32.toNatClampNeg b)))).2.2.2.1 = ca2 at hR hM hcn ⊢
      generalize hv_sm2 : (fX4_ofWeddingNow σ 0 ca sm ((Int32.toNatClampNeg a)) (nI ((Int32.toNatClampNeg b)))).2.2.2.2 = sm2 at hR hM hcn ⊢
      generalize hv_v2 : (fX4_ofWeddingNow σ 0 ca sm ((Int32.toNatClampNeg a)) (nI ((Int32.toNatClampNeg b)))).1 = v2 at hR hM hcn ⊢
      try dsimp only at hR
      refine W.eq (g2 := F0 m 35 ls [.int (v2)]) rfl ?_
      refine lv_goto (tgt := 43) hx hb dX4_ofWedding_35 (by decide) ?_
      exact g_iret hx hb hr hlocks hS ⟨Nat.le_of_ble_eq_true rfl, Nat.le_of_ble_eq_true rfl⟩ dX4_ofWedding_43 (by subst hR; exact ⟨rfl, hM, hcn⟩)
  · rw [if_neg c1] at hR
    refine lv_aload_n hx hb dX4_ofWedding_13 rfl (lv_at hl 0 rfl) ?_
    refine lv_iconst (v := 1) hx hb dX4_ofWedding_14 (by decide) ?_
    have hB := hS.1
    refine gcV (As := [.int 1]) (rest := []) hS0 (met_X4_refuse l D E 1) q1591 q1593 qs55 q110 q1594 hd_X4_refuse ⟨Nat.le_of_ble_eq_true rfl, Nat.le_of_ble_eq_true rfl⟩ hG (rcv hG cl_X4 hM.ag) hM rfl hl.1 rfl (Nat.le_of_ble_eq_true rfl) dX4_ofWedding_15 ⟨Nat.le_of_ble_eq_true rfl, Nat.le_of_ble_eq_true rfl⟩ hS (fun q h => h) (fun q h => h) (fun v H1 locs1 hP hz hk hS => ?_)
    obtain ⟨rfl, hZ, hc8⟩ := hP
    have hM := hZ.mono (fun q _ => fN_fN hB q) hM.fE
    have hG := gE.ofS hG0 hS hFE
    have hcn := hc8.tr hcn
    generalize hv_σ3 : (fX4_refuse σ 0 ca sm 1).2.1 = σ3 at hR hM hcn ⊢
    generalize hv_th3 : (fX4_refuse σ 0 ca sm 1).2.2.1 = th3 at hR hM hcn ⊢
    generalize hv_ca3 : (fX4_refuse σ 0 ca sm 1).2.2.2.1 = ca3 at hR hM hcn ⊢
    generalize hv_sm3 : (fX4_refuse σ 0 ca sm 1).2.2.2.2 = sm3 at hR hM hcn ⊢
    generalize hv_v3 : (fX4_refuse σ 0 ca sm 1).1 = v3 at hR hM hcn ⊢
    try dsimp only at hR
    refine W.eq (g2 := F0 m 18 ls [.int (v3)]) rfl ?_
    exact g_iret hx hb hr hlocks hS ⟨Nat.le_of_ble_eq_true rfl, Nat.le_of_ble_eq_true rfl⟩ dX4_ofWedding_18 (by subst hR; exact ⟨rfl, hM, hcn⟩)

def fX4_thrown (σ : St) (th : Int32) : Int32 :=
  th
set_option maxHeartbeats 4000000 in
set_option maxRecDepth 100000 in
theorem met_X4_thrown (l : Launch) (D : va_G) (E : Nat → Nat) {β : Nat → Nat → Nat} {F : Nat → Prop} {σ : St} {th ca : Int32} {sm : Int64}   : PM l D E yX4_thrown cX4_thrown 1 (Option.some Jvm.ClassFile.FieldType.int) 0 0 [.ref (β 0 0)] (RM D E β F σ th ca sm) (some (.int (fX4_thrown σ th))) := by
  generalize hR : fX4_thrown σ th = r
  refine PM.start (by decide) (Nat.le_of_ble_eq_true rfl) ?_
  intro p e s m below meth c ls hx hb hr hml hown hlocks hts hG hM hl
  have hown : s.vm.findClass RX4 = some m.cls := hown
  have hS0 : xS p m c cX4_thrown 1 s _ RX4 := ⟨hx, hb, hml, hown, hts⟩
  have hl : lv_has ls 1 [(0, .ref (β 0 0))] := hl
  unfold fX4_thrown at hR
  refine lv_aload_n hx hb dX4_thrown_0 rfl (lv_at hl 0 rfl) ?_
  refine gf (v := .int (th)) (C := RX4) (T := TX4) (N := 13) (k := 0) hx hb hts hown hG cl_X4 in_X4 hM.ag (by decide) q1540 rfl dX4_thrown_1 ?_
  exact p_iret hx hb hr hlocks dX4_thrown_4 (by rw [← hR])

