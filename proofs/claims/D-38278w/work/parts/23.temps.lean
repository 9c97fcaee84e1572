/-! temporaries -/
set_option maxRecDepth 100000
theorem df_X1 : ∀ j, j < 6 → defaultValue (tyX1 j) = vp_V [.null, .null, .null, .null, .null, .int 0] j := by
  intro j hj
  match j, hj with
  | 0, _ => rfl
  | 1, _ => rfl
  | 2, _ => rfl
  | 3, _ => rfl
  | 4, _ => rfl
  | 5, _ => rfl
  | k + 6, h => exact absurd h (by omega)
theorem df_X2 : ∀ j, j < 2 → defaultValue (tyX2 j) = vp_V [.null, .null] j := by
  intro j hj
  match j, hj with
  | 0, _ => rfl
  | 1, _ => rfl
  | k + 2, h => exact absurd h (by omega)
theorem df_X3 : ∀ j, j < 4 → defaultValue (tyX3 j) = vp_V [.int 0, .int 0, .int 0, .int 0] j := by
  intro j hj
  match j, hj with
  | 0, _ => rfl
  | 1, _ => rfl
  | 2, _ => rfl
  | 3, _ => rfl
  | k + 4, h => exact absurd h (by omega)
theorem df_X4 : ∀ j, j < 13 → defaultValue (tyX4 j) = vp_V [.int 0, .int 0, .int 0, .null, .null, .null, .null, .null, .null, .null, .null, .null, .long (0)] j := by
  intro j hj
  match j, hj with
  | 0, _ => rfl
  | 1, _ => rfl
  | 2, _ => rfl
  | 3, _ => rfl
  | 4, _ => rfl
  | 5, _ => rfl
  | 6, _ => rfl
  | 7, _ => rfl
  | 8, _ => rfl
  | 9, _ => rfl
  | 10, _ => rfl
  | 11, _ => rfl
  | 12, _ => rfl
  | k + 13, h => exact absurd h (by omega)
theorem df_X5 : ∀ j, j < 2 → defaultValue (tyX5 j) = vp_V [.long (0), .null] j := by
  intro j hj
  match j, hj with
  | 0, _ => rfl
  | 1, _ => rfl
  | k + 2, h => exact absurd h (by omega)
theorem df_X6 : ∀ j, j < 7 → defaultValue (tyX6 j) = vp_V [.int 0, .int 0, .int 0, .int 0, .int 0, .int 0, .null] j := by
  intro j hj
  match j, hj with
  | 0, _ => rfl
  | 1, _ => rfl
  | 2, _ => rfl
  | 3, _ => rfl
  | 4, _ => rfl
  | 5, _ => rfl
  | 6, _ => rfl
  | k + 7, h => exact absurd h (by omega)
theorem df_X7 : ∀ j, j < 7 → defaultValue (tyX7 j) = vp_V [.int 0, .int 0, .int 0, .int 0, .int 0, .int 0, .null] j := by
  intro j hj
  match j, hj with
  | 0, _ => rfl
  | 1, _ => rfl
  | 2, _ => rfl
  | 3, _ => rfl
  | 4, _ => rfl
  | 5, _ => rfl
  | 6, _ => rfl
  | k + 7, h => exact absurd h (by omega)
theorem df_X8 : ∀ j, j < 2 → defaultValue (tyX8 j) = vp_V [.null, .null] j := by
  intro j hj
  match j, hj with
  | 0, _ => rfl
  | 1, _ => rfl
  | k + 2, h => exact absurd h (by omega)
theorem df_X10 : ∀ j, j < 12 → defaultValue (tyX10 j) = vp_V [.int 0, .int 0, .int 0, .int 0, .int 0, .int 0, .int 0, .null, .int 0, .int 0, .int 0, .int 0] j := by
  intro j hj
  match j, hj with
  | 0, _ => rfl
  | 1, _ => rfl
  | 2, _ => rfl
  | 3, _ => rfl
  | 4, _ => rfl
  | 5, _ => rfl
  | 6, _ => rfl
  | 7, _ => rfl
  | 8, _ => rfl
  | 9, _ => rfl
  | 10, _ => rfl
  | 11, _ => rfl
  | k + 12, h => exact absurd h (by omega)
theorem df_X11 : ∀ j, j < 12 → defaultValue (tyX11 j) = vp_V [.int 0, .int 0, .int 0, .int 0, .int 0, .int 0, .int 0, .int 0, .int 0, .int 0, .int 0, .int 0] j := by
  intro j hj
  match j, hj with
  | 0, _ => rfl
  | 1, _ => rfl
  | 2, _ => rfl
  | 3, _ => rfl
  | 4, _ => rfl
  | 5, _ => rfl
  | 6, _ => rfl
  | 7, _ => rfl
  | 8, _ => rfl
  | 9, _ => rfl
  | 10, _ => rfl
  | 11, _ => rfl
  | k + 12, h => exact absurd h (by omega)
theorem df_X12 : ∀ j, j < 9 → defaultValue (tyX12 j) = vp_V [.null, .null, .int 0, .int 0, .null, .int 0, .int 0, .int 0, .null] j := by
  intro j hj
  match j, hj with
  | 0, _ => rfl
  | 1, _ => rfl
  | 2, _ => rfl
  | 3, _ => rfl
  | 4, _ => rfl
  | 5, _ => rfl
  | 6, _ => rfl
  | 7, _ => rfl
  | 8, _ => rfl
  | k + 9, h => exact absurd h (by omega)
theorem df_X13 : ∀ j, j < 3 → defaultValue (tyX13 j) = vp_V [.int 0, .null, .int 0] j := by
  intro j hj
  match j, hj with
  | 0, _ => rfl
  | 1, _ => rfl
  | 2, _ => rfl
  | k + 3, h => exact absurd h (by omega)
theorem df_X14 : ∀ j, j < 1 → defaultValue (tyX14 j) = vp_V [.long (0)] j := by
  intro j hj
  match j, hj with
  | 0, _ => rfl
  | k + 1, h => exact absurd h (by omega)
theorem df_J2 : ∀ j, j < 3 → defaultValue (tyJ2 j) = vp_V [.int 0, .null, .int 0] j := by
  intro j hj
  match j, hj with
  | 0, _ => rfl
  | 1, _ => rfl
  | 2, _ => rfl
  | k + 3, h => exact absurd h (by omega)
theorem df_J17 : ∀ j, j < 1 → defaultValue (tyJ17 j) = vp_V [.int 0] j := by
  intro j hj
  match j, hj with
  | 0, _ => rfl
  | k + 1, h => exact absurd h (by omega)
theorem df_J19 : ∀ j, j < 4 → defaultValue (tyJ19 j) = vp_V [.int 0, .int 0, .int 0, .null] j := by
  intro j hj
  match j, hj with
  | 0, _ => rfl
  | 1, _ => rfl
  | 2, _ => rfl
  | 3, _ => rfl
  | k + 4, h => exact absurd h (by omega)
theorem df_J20 : ∀ j, j < 1 → defaultValue (tyJ20 j) = vp_V [.null] j := by
  intro j hj
  match j, hj with
  | 0, _ => rfl
  | k + 1, h => exact absurd h (by omega)
theorem df_J22 : ∀ j, j < 4 → defaultValue (tyJ22 j) = vp_V [.null, .int 0, .int 0, .int 0] j := by
  intro j hj
  match j, hj with
  | 0, _ => rfl
  | 1, _ => rfl
  | 2, _ => rfl
  | 3, _ => rfl
  | k + 4, h => exact absurd h (by omega)
theorem df_J11 : ∀ j, j < 4 → defaultValue (tyJ11 j) = vp_V [.null, .int 0, .int 0, .int 0] j := by
  intro j hj
  match j, hj with
  | 0, _ => rfl
  | 1, _ => rfl
  | 2, _ => rfl
  | 3, _ => rfl
  | k + 4, h => exact absurd h (by omega)
theorem nI_sb {a b : Nat} (h : b ≤ a) : nI a - nI b = nI (a - b) := by
  obtain ⟨c, rfl⟩ : ∃ c, a = b + c := ⟨a - b, by omega⟩
  rw [Nat.add_sub_cancel_left, ← nI_add, Int32.add_comm, Int32.add_sub_cancel]
theorem fN_E {E : Nat → Nat} {F : Nat → Prop} {n : Nat} (hFE : ∀ q, F q → E 0 ≤ q) (h : E 0 ≤ n) : ∀ q, fN F n q → E 0 ≤ q := fun q z => z.elim (hFE q) (fun z => Nat.le_trans h z)
theorem gE.de {D : va_G} {E : Nat → Nat} {s : State} {H : Heap} (hG : gE D E s H) : va_Z "java/util/ArrayList" "DEFAULTCAPACITY_EMPTY_ELEMENTDATA" "[Ljava/lang/Object;" (.ref (E 6)) (gA E) s H := hG.2.2.2.2.2.2.2.2.1
theorem gE.em {D : va_G} {E : Nat → Nat} {s : State} {H : Heap} (hG : gE D E s H) : va_Z "java/util/Optional" "EMPTY" "Ljava/util/Optional;" (.ref (E 7)) (gA E) s H := hG.2.2.2.2.2.2.2.2.2.2.1
theorem gE.hi {D : va_G} {E : Nat → Nat} {s : State} {H : Heap} (hG : gE D E s H) : va_Z "java/lang/Integer$IntegerCache" "high" "I" (.int 127) (gA E) s H := hG.2.2.2.2.2.1
theorem gE.ic {D : va_G} {E : Nat → Nat} {s : State} {H : Heap} (hG : gE D E s H) : va_Z "java/lang/Integer$IntegerCache" "cache" "[Ljava/lang/Integer;" (.ref (E 5)) (gA E) s H := hG.2.2.2.2.2.2.1
def fX4_weddingsOf_L6 (σ : St) (k : Nat)  (κ : (Nat → Int32) → Nat → Int32) : Nat → Nat → (Nat → Int32) → Nat → Int32
  | 0, i3, t_t1_6 => κ t_t1_6
  | n + 1, i3, t_t1_6 => (if ((fX4_isIn (wSet σ i3) (nI k))) = true then (if (nI (wState σ i3)) = 1 then (fun (f9 : Nat → Int32) => (if (nI (wState σ i3)) = 2 then (fun (f13 : Nat → Int32) => (if (nI (wState σ i3)) = 2 then (fun (f15 : Nat → Int32) => fX4_weddingsOf_L6 σ k κ n (i3 + 1) f15) (upd f13 2 (((f13) 2) + (wLen σ i3))) else (fun (f14 : Nat → Int32) => fX4_weddingsOf_L6 σ k κ n (i3 + 1) f14) (upd f13 2 (((f13) 2) + 0)))) (upd f9 1 (((f9) 1) + 1)) else (fun (f10 : Nat → Int32) => (if (nI (wState σ i3)) = 2 then (fun (f12 : Nat → Int32) => fX4_weddingsOf_L6 σ k κ n (i3 + 1) f12) (upd f10 2 (((f10) 2) + (wLen σ i3))) else (fun (f11 : Nat → Int32) => fX4_weddingsOf_L6 σ k κ n (i3 + 1) f11) (upd f10 2 (((f10) 2) + 0)))) (upd f9 1 (((f9) 1) + 0)))) (upd t_t1_6 0 (((t_t1_6) 0) + 1)) else (fun (f2 : Nat → Int32) => (if (nI (wState σ i3)) = 2 then (fun (f6 : Nat → Int32) => (if (nI (wState σ i3)) = 2 then (fun (f8 : Nat → Int32) => fX4_weddingsOf_L6 σ k κ n (i3 + 1) f8) (upd f6 2 (((f6) 2) + (wLen σ i3))) else (fun (f7 : Nat → Int32) => fX4_weddingsOf_L6 σ k κ n (i3 + 1) f7) (upd f6 2 (((f6) 2) + 0)))) (upd f2 1 (((f2) 1) + 1)) else (fun (f3 : Nat → Int32) => (if (nI (wState σ i3)) = 2 then (fun (f5 : Nat → Int32) => fX4_weddingsOf_L6 σ k κ n (i3 + 1) f5) (upd f3 2 (((f3) 2) + (wLen σ i3))) else (fun (f4 : Nat → Int32) => fX4_weddingsOf_L6 σ k κ n (i3 + 1) f4) (upd f3 2 (((f3) 2) + 0)))) (upd f2 1 (((f2) 1) + 0)))) (upd t_t1_6 0 (((t_t1_6) 0) + 0))) else fX4_weddingsOf_L6 σ k κ n (i3 + 1) t_t1_6)
def fX4_weddingsOf (σ : St) (k : Nat) : Nat → Int32 :=
  fX4_weddingsOf_L6 σ k (fun (t_t1_9 : (Nat → Int32)) => t_t1_9) (nW σ) 0 (fun _ => 0)
set_option maxHeartbeats 4000000 in
set_option maxRecDepth 100000 in
theorem met_X4_weddingsOf (l : Launch) (D : va_G) (E : Nat → Nat) {β : Nat → Nat → Nat} {F : Nat → Prop} {σ : St} {th ca : Int32} {sm : Int64} (k : Nat)  : GM l D E yX4_weddingsOf cX4_weddingsOf 5 (Option.some (Jvm.ClassFile.FieldType.array Jvm.ClassFile.FieldType.int)) 3 64 1 3 [.ref (β 0 0), .int (nI k)] (RM D E β F σ th ca sm) (fun _ => False) (fun _ => False) (fun sz v h => ∃ q, v = some (.ref q) ∧ sz ≤ q ∧ va_at D vwCl (q, arI E 3 (fX4_weddingsOf σ k)) h)  := by
  generalize hR : fX4_weddingsOf σ k = r
  refine GM.start (by decide) (Nat.le_of_ble_eq_true rfl) ?_
  intro p e s m below meth c ls hx hb hr hml hown hlocks hnm hts hG hM hS hl
  have hown : s.vm.findClass RX4 = some m.cls := hown
  have hS0 : xS p m c cX4_weddingsOf 5 s _ RX4 := ⟨hx, hb, hml, hown, hts⟩
  have hl : lv_has ls 5 [(0, .ref (β 0 0)), (1, .int (nI k))] := hl
  have hG0 := hG
  have hM0 := hM
  have hb0P := hM0.nP10
  have hb0B := hM0.nB6
  have hb0W := hM0.nW14
  have hFE := hM.fE
  obtain ⟨Fc, hM, hFn⟩ := hM.nar
  have hFa : ∀ q, Fc q → fN F s.heap.size q := fun q z => Or.inl (hFn q z).1
  have hFb : ∀ q, Fc q → q < s.heap.size := fun q z => (hFn q z).2
  have hcn : cnt σ σ := cnt.rf
  have hL6 : ∀ (q1 : Nat) (hge_t1 : s.heap.size ≤ q1) (κ : (Nat → Int32) → Nat → Int32) (hκ : ∀ (t_t1_6 : (Nat → Int32)) (H : Heap) (locs : List Loc) (Fc : Nat → Prop) (ls : Array Slot), κ t_t1_6 = r → RM D E β Fc σ th ca sm H → (∀ q, Fc q → fN F s.heap.size q) → (∀ q, Fc q → q < H.size) → ¬ Fc q1 → va_at D vwCl (q1, arI E 3 t_t1_6) H → xK (fun _ => False) (fun _ => False) s.heap H locs → lv_has ls 5 [(2, .ref (q1))] → W p l e { frames := 3, cells := 1, slots := 3, locals := 64 } s m [(.ref (β 0 0) : Value), .int (nI k)].toArray below meth c H locs 1 3 (MQ below (qG (fun _ => False) ((fun sz v h => ∃ q, v = some (.ref q) ∧ sz ≤ q ∧ va_at D vwCl (q, arI E 3 r) h) s.heap.size)) [(.ref (β 0 0) : Value), .int (nI k)].toArray s 1 3 (fN (fun _ => False) s.heap.size)) (F0 m 115 ls [])) (n : Nat) (i3 : Nat) (t_t1_6 : (Nat → Int32)), i3 + n = nW σ → fX4_weddingsOf_L6 σ k κ n i3 t_t1_6 = r → ∀ (H : Heap) (locs : List Loc) (Fc : Nat → Prop), RM D E β Fc σ th ca sm H → (∀ q, Fc q → fN F s.heap.size q) → (∀ q, Fc q → q < H.size) → ¬ Fc q1 → va_at D vwCl (q1, arI E 3 t_t1_6) H → xK (fun _ => False) (fun _ => False) s.heap H locs → ∀ (ls : Array Slot), lv_has ls 5 [(0, .ref (β 0 0)), (1, .int (nI k)), (2, .ref (q1)), (3, .int (nI i3))] → W p l e { frames := 3, cells := 1, slots := 3, locals := 64 } s m [(.ref (β 0 0) : Value), .int (nI k)].toArray below meth c H locs 1 3 (MQ below (qG (fun _ => False) ((fun sz v h => ∃ q, v = some (.ref q) ∧ sz ≤ q ∧ va_at D vwCl (q, arI E 3 r) h) s.heap.size)) [(.ref (β 0 0) : Value), .int (nI k)].toArray s 1 3 (fN (fun _ => False) s.heap.size)) (F0 m 6 ls []) := by
    intro q1 hge_t1 κ hκ n
    induction n with
    | zero =>
      intro i3 t_t1_6 hn hR H locs Fc hM hFa hFb hd_t1 hT_t1 hS ls hl
      rw [fX4_weddingsOf_L6] at hR
      have hG := gE.ofS hG0 hS (fun _ h => h.elim)
      refine lv_iload_n hx hb dX4_weddingsOf_6 rfl (lv_at hl 3 rfl) ?_
      refine lv_aload_n hx hb dX4_weddingsOf_7 rfl (lv_at hl 0 rfl) ?_
      refine gf (v := .ref (β 1 2)) (C := RX4) (T := TX4) (N := 13) (k := 5) hx hb hts hown hG cl_X4 in_X4 hM.ag (by decide) q1545 rfl dX4_weddingsOf_8 ?_
      refine pcV (As := []) (rest := [.int (nI i3)]) hS0 (met_ml_size l D E (j := 2) (by decide)) q1600 q336 q2080 q103 q338 hd_J2_size ⟨Nat.le_of_ble_eq_true rfl, Nat.le_of_ble_eq_true rfl⟩ hG (hM.lsR hG (j := 2) (by decide)) hM rfl hl.1 rfl (Nat.le_of_ble_eq_true rfl) dX4_weddingsOf_11 ⟨Nat.le_of_ble_eq_true rfl, Nat.le_of_ble_eq_true rfl⟩ ?_
      refine W.eq (g2 := F0 m 14 ls [.int (nI (nW σ)), .int (nI i3)]) rfl ?_
      refine lk_ge_out (k := i3) (N := nW σ) hx hb hn (tgt := 115) dX4_weddingsOf_14 (by decide) ?_
      exact hκ t_t1_6 _ _ _ ls hR hM hFa (fun q z => by have := hFb q z; omega) hd_t1 hT_t1 hS (lv_sub hl [2] rfl)
    | succ n ih =>
      intro i3 t_t1_6 hn hR H locs Fc hM hFa hFb hd_t1 hT_t1 hS ls hl
      rw [fX4_weddingsOf_L6] at hR
      have hG := gE.ofS hG0 hS (fun _ h => h.elim)
      refine lv_iload_n hx hb dX4_weddingsOf_6 rfl (lv_at hl 3 rfl) ?_
      refine lv_aload_n hx hb dX4_weddingsOf_7 rfl (lv_at hl 0 rfl) ?_
      refine gf (v := .ref (β 1 2)) (C := RX4) (T := TX4) (N := 13) (k := 5) hx hb hts hown hG cl_X4 in_X4 hM.ag (by decide) q1545 rfl dX4_weddingsOf_8 ?_
      refine pcV (As := []) (rest := [.int (nI i3)]) hS0 (met_ml_size l D E (j := 2) (by decide)) q1600 q336 q2080 q103 q338 hd_J2_size ⟨Nat.le_of_ble_eq_true rfl, Nat.le_of_ble_eq_true rfl⟩ hG (hM.lsR hG (j := 2) (by decide)) hM rfl hl.1 rfl (Nat.le_of_ble_eq_true rfl) dX4_weddingsOf_11 ⟨Nat.le_of_ble_eq_true rfl, Nat.le_of_ble_eq_true rfl⟩ ?_
      refine W.eq (g2 := F0 m 14 ls [.int (nI (nW σ)), .int (nI i3)]) rfl ?_
      have hki3 : i3 < nW σ := lk_lt hn
      refine lk_ge_in (k := i3) (N := nW σ) hx hb hki3 (by have := hM.nP10; have := hM.nW14; have := hM.nB6; omega) (tgt := 115) dX4_weddingsOf_14 (by decide) ?_
      refine lv_aload_n hx hb dX4_weddingsOf_17 rfl (lv_at hl 0 rfl) ?_
      refine gf (v := .ref (β 1 2)) (C := RX4) (T := TX4) (N := 13) (k := 5) hx hb hts hown hG cl_X4 in_X4 hM.ag (by decide) q1545 rfl dX4_weddingsOf_18 ?_
      refine lv_iload_n hx hb dX4_weddingsOf_21 rfl (lv_at hl 3 rfl) ?_
      refine pcV (As := [.int (nI i3)]) (rest := []) hS0 (met_ml_get l D E (j := 2) (by decide) i3 hki3) q1639 q349 q2082 q103 q351 hd_J2_get ⟨Nat.le_of_ble_eq_true rfl, Nat.le_of_ble_eq_true rfl⟩ hG (hM.lsR hG (j := 2) (by decide)) hM rfl hl.1 rfl (Nat.le_of_ble_eq_true rfl) dX4_weddingsOf_22 ⟨Nat.le_of_ble_eq_true rfl, Nat.le_of_ble_eq_true rfl⟩ ?_
      refine W.eq (g2 := F0 m 25 ls [.ref (β 5 i3)]) rfl ?_
      refine gc (ci := 9) hx hb hown hG cl_X11 (rcv hG cl_X11 (hM.wd hki3)) (hts _ q1695) dX4_weddingsOf_25 ?_
      refine lv_astore (lv' := [(4, .ref (β 5 i3)), (0, .ref (β 0 0)), (1, .int (nI k)), (2, .ref (q1)), (3, .int (nI i3))]) hx hb dX4_weddingsOf_28 hl (Nat.le_of_ble_eq_true rfl) rfl (fun ls hl => ?_)
      refine lv_aload hx hb dX4_weddingsOf_30 (lv_at hl 0 rfl) ?_
      refine gfN (v := .int (wSet σ i3)) (C := RX11) (T := TX11) (N := 12) (k := 8) hx hb hts hown hG cl_X11 in_X11 (hM.wd hki3) (by decide) q1711 rfl dX4_weddingsOf_32 ?_
      refine lv_iload_n hx hb dX4_weddingsOf_35 rfl (lv_at hl 2 rfl) ?_
      refine pcS (As := [.int (wSet σ i3), .int (nI k)]) (rest := []) hS0 (met_X4_isIn l D E (wSet σ i3) (nI k)) q1654 q1655 q110 q1656 hd_X4_isIn ⟨Nat.le_of_ble_eq_true rfl, Nat.le_of_ble_eq_true rfl⟩ hG trivial rfl hl.1 rfl (Nat.le_of_ble_eq_true rfl) dX4_weddingsOf_36 ⟨Nat.le_of_ble_eq_true rfl, Nat.le_of_ble_eq_true rfl⟩ ?_
      refine W.eq (g2 := F0 m 39 ls [.int (bI ((fX4_isIn (wSet σ i3) (nI k))))]) rfl ?_
      refine lb_if_ne (tgt := 45) hx hb dX4_weddingsOf_39 (by decide) (fun c1 => ?_) (fun c1 => ?_)
      · rw [if_pos c1] at hR
        refine lv_aload_n hx hb dX4_weddingsOf_45 rfl (lv_at hl 3 rfl) ?_
        refine lv_iconst (v := 0) hx hb dX4_weddingsOf_46 (by decide) ?_
        refine lv_dup2_11 hx hb dX4_weddingsOf_47 rfl rfl ?_
        refine gaI (N := 3) (k := 0) hx hb hG hT_t1 (by decide) (by decide) dX4_weddingsOf_48 ?_
        refine lv_aload hx hb dX4_weddingsOf_49 (lv_at hl 0 rfl) ?_
        refine gfN (v := .int (nI (wState σ i3))) (C := RX11) (T := TX11) (N := 12) (k := 7) hx hb hts hown hG cl_X11 in_X11 (hM.wd hki3) (by decide) q1710 rfl dX4_weddingsOf_51 ?_
        refine lv_iconst (v := 1) hx hb dX4_weddingsOf_54 (by decide) ?_
        refine lv_icmp_ne (tgt := 62) hx hb dX4_weddingsOf_55 (by decide) (fun c2 => ?_) (fun c2 => ?_)
        · rw [if_neg c2] at hR
          refine lv_iconst (v := 0) hx hb dX4_weddingsOf_62 (by decide) ?_
          refine lv_iadd hx hb dX4_weddingsOf_63 ?_
          have hB := hS.1
          have hL_t1 : q1 < _ := hT_t1.lt
          refine paI (N := 3) (k := 0) hx hb hG hS hT_t1 (Or.inr hge_t1) (Or.inr hge_t1) (by decide) (by decide) dX4_weddingsOf_64 (fun H1 locs1 he hz hq hS => ?_)
          have hM := hM.kept (fun q h4 h5 => hq q (fun e9 => hd_t1 (e9 ▸ h5)))
          have hG := gE.ofS hG0 hS (fun _ h => h.elim)
          obtain ⟨f2, hf2⟩ : ∃ x, x = upd t_t1_6 0 (((t_t1_6) 0) + 0) := ⟨_, rfl⟩
          rw [← hf2] at hR he
          try dsimp only at hR
          have hT_t1 : va_at D vwCl (q1, arI E 3 f2) H1 := he
          refine lv_aload_n hx hb dX4_weddingsOf_65 rfl (lv_at hl 3 rfl) ?_
          refine lv_iconst (v := 1) hx hb dX4_weddingsOf_66 (by decide) ?_
          refine lv_dup2_11 hx hb dX4_weddingsOf_67 rfl rfl ?_
          refine gaI (N := 3) (k := 1) hx hb hG hT_t1 (by decide) (by decide) dX4_weddingsOf_68 ?_
          refine lv_aload hx hb dX4_weddingsOf_69 (lv_at hl 0 rfl) ?_
          refine gfN (v := .int (nI (wState σ i3))) (C := RX11) (T := TX11) (N := 12) (k := 7) hx hb hts hown hG cl_X11 in_X11 (hM.wd hki3) (by decide) q1710 rfl dX4_weddingsOf_71 ?_
          refine lv_iconst (v := 2) hx hb dX4_weddingsOf_74 (by decide) ?_
          refine lv_icmp_ne (tgt := 82) hx hb dX4_weddingsOf_75 (by decide) (fun c3 => ?_) (fun c3 => ?_)
          · rw [if_neg c3] at hR
            refine lv_iconst (v := 0) hx hb dX4_weddingsOf_82 (by decide) ?_
            refine lv_iadd hx hb dX4_weddingsOf_83 ?_
            have hB := hS.1
            have hL_t1 : q1 < _ := hT_t1.lt
            refine paI (N := 3) (k := 1) hx hb hG hS hT_t1 (Or.inr hge_t1) (Or.inr hge_t1) (by decide) (by decide) dX4_weddingsOf_84 (fun H1 locs1 he hz hq hS => ?_)
            have hM := hM.kept (fun q h4 h5 => hq q (fun e9 => hd_t1 (e9 ▸ h5)))
            have hG := gE.ofS hG0 hS (fun _ h => h.elim)
            obtain ⟨f3, hf3⟩ : ∃ x, x = upd f2 1 (((f2) 1) + 0) := ⟨_, rfl⟩
            rw [← hf3] at hR he
            try dsimp only at hR
            have hT_t1 : va_at D vwCl (q1, arI E 3 f3) H1 := he
            refine lv_aload_n hx hb dX4_weddingsOf_85 rfl (lv_at hl 3 rfl) ?_
            refine lv_iconst (v := 2) hx hb dX4_weddingsOf_86 (by decide) ?_
            refine lv_dup2_11 hx hb dX4_weddingsOf_87 rfl rfl ?_
            refine gaI (N := 3) (k := 2) hx hb hG hT_t1 (by decide) (by decide) dX4_weddingsOf_88 ?_
            refine lv_aload hx hb dX4_weddingsOf_89 (lv_at hl 0 rfl) ?_
            refine gfN (v := .int (nI (wState σ i3))) (C := RX11) (T := TX11) (N := 12) (k := 7) hx hb hts hown hG cl_X11 in_X11 (hM.wd hki3) (by decide) q1710 rfl dX4_weddingsOf_91 ?_
            refine lv_iconst (v := 2) hx hb dX4_weddingsOf_94 (by decide) ?_
            refine lv_icmp_ne (tgt := 106) hx hb dX4_weddingsOf_95 (by decide) (fun c4 => ?_) (fun c4 => ?_)
            · rw [if_neg c4] at hR
              refine lv_iconst (v := 0) hx hb dX4_weddingsOf_106 (by decide) ?_
              refine lv_iadd hx hb dX4_weddingsOf_107 ?_
              have hB := hS.1
              have hL_t1 : q1 < _ := hT_t1.lt
              refine paI (N := 3) (k := 2) hx hb hG hS hT_t1 (Or.inr hge_t1) (Or.inr hge_t1) (by decide) (by decide) dX4_weddingsOf_108 (fun H1 locs1 he hz hq hS => ?_)
              have hM := hM.kept (fun q h4 h5 => hq q (fun e9 => hd_t1 (e9 ▸ h5)))
              have hG := gE.ofS hG0 hS (fun _ h => h.elim)
              obtain ⟨f4, hf4⟩ : ∃ x, x = upd f3 2 (((f3) 2) + 0) := ⟨_, rfl⟩
              rw [← hf4] at hR he
              try dsimp only at hR
              have hT_t1 : va_at D vwCl (q1, arI E 3 f4) H1 := he
              refine lv_iinc (v := nI (i3 + 1)) (lv' := [(3, .int (nI (i3 + 1))), (4, .ref (β 5 i3)), (0, .ref (β 0 0)), (1, .int (nI k)), (2, .ref (q1))]) hx hb dX4_weddingsOf_109 hl (k := 4) rfl (nI_1 i3) (Nat.le_of_ble_eq_true rfl) rfl (fun ls hl => ?_)
              refine lv_goto (tgt := 6) hx hb dX4_weddingsOf_112 (by decide) ?_
              exact ih (i3 + 1) f4 (lk_st hn) hR _ _ _ hM hFa (fun q z => by have := hFb q z; omega) hd_t1 hT_t1 hS ls (lv_sub hl [2, 3, 4, 0] rfl)
            · rw [if_pos c4] at hR
              refine lv_aload hx hb dX4_weddingsOf_98 (lv_at hl 0 rfl) ?_
              refine gfN (v := .int (wLen σ i3)) (C := RX11) (T := TX11) (N := 12) (k := 4) hx hb hts hown hG cl_X11 in_X11 (hM.wd hki3) (by decide) q1707 rfl dX4_weddingsOf_100 ?_
              refine lv_goto (tgt := 107) hx hb dX4_weddingsOf_103 (by decide) ?_
              refine lv_iadd hx hb dX4_weddingsOf_107 ?_
              have hB := hS.1
              have hL_t1 : q1 < _ := hT_t1.lt
              refine paI (N := 3) (k := 2) hx hb hG hS hT_t1 (Or.inr hge_t1) (Or.inr hge_t1) (by decide) (by decide) dX4_weddingsOf_108 (fun H1 locs1 he hz hq hS => ?_)
              have hM := hM.kept (fun q h4 h5 => hq q (fun e9 => hd_t1 (e9 ▸ h5)))
              have hG := gE.ofS hG0 hS (fun _ h => h.elim)
              obtain ⟨f5, hf5⟩ : ∃ x, x = upd f3 2 (((f3) 2) + (wLen σ i3)) := ⟨_, rfl⟩
              rw [← hf5] at hR he
              try dsimp only at hR
              have hT_t1 : va_at D vwCl (q1, arI E 3 f5) H1 := he
              refine lv_iinc (v := nI (i3 + 1)) (lv' := [(3, .int (nI (i3 + 1))), (4, .ref (β 5 i3)), (0, .ref (β 0 0)), (1, .int (nI k)), (2, .ref (q1))]) hx hb dX4_weddingsOf_109 hl (k := 4) rfl (nI_1 i3) (Nat.le_of_ble_eq_true rfl) rfl (fun ls hl => ?_)
              refine lv_goto (tgt := 6) hx hb dX4_weddingsOf_112 (by decide) ?_
              exact ih (i3 + 1) f5 (lk_st hn) hR _ _ _ hM hFa (fun q z => by have := hFb q z; omega) hd_t1 hT_t1 hS ls (lv_sub hl [2, 3, 4, 0] rfl)
          · rw [if_pos c3] at hR
            refine lv_iconst (v := 1) hx hb dX4_weddingsOf_78 (by decide) ?_
            refine lv_goto (tgt := 83) hx hb dX4_weddingsOf_79 (by decide) ?_
            refine lv_iadd hx hb dX4_weddingsOf_83 ?_
            have hB := hS.1
            have hL_t1 : q1 < _ := hT_t1.lt
            refine paI (N := 3) (k := 1) hx hb hG hS hT_t1 (Or.inr hge_t1) (Or.inr hge_t1) (by decide) (by decide) dX4_weddingsOf_84 (fun H1 locs1 he hz hq hS => ?_)
            have hM := hM.kept (fun q h4 h5 => hq q (fun e9 => hd_t1 (e9 ▸ h5)))
            have hG := gE.ofS hG0 hS (fun _ h => h.elim)
            obtain ⟨f6, hf6⟩ : ∃ x, x = upd f2 1 (((f2) 1) + 1) := ⟨_, rfl⟩
            rw [← hf6] at hR he
            try dsimp only at hR
            have hT_t1 : va_at D vwCl (q1, arI E 3 f6) H1 := he
            refine lv_aload_n hx hb dX4_weddingsOf_85 rfl (lv_at hl 3 rfl) ?_
            refine lv_iconst (v := 2) hx hb dX4_weddingsOf_86 (by decide) ?_
            refine lv_dup2_11 hx hb dX4_weddingsOf_87 rfl rfl ?_
            refine gaI (N := 3) (k := 2) hx hb hG hT_t1 (by decide) (by decide) dX4_weddingsOf_88 ?_
            refine lv_aload hx hb dX4_weddingsOf_89 (lv_at hl 0 rfl) ?_
            refine gfN (v := .int (nI (wState σ i3))) (C := RX11) (T := TX11) (N := 12) (k := 7) hx hb hts hown hG cl_X11 in_X11 (hM.wd hki3) (by decide) q1710 rfl dX4_weddingsOf_91 ?_
            refine lv_iconst (v := 2) hx hb dX4_weddingsOf_94 (by decide) ?_
            refine lv_icmp_ne (tgt := 106) hx hb dX4_weddingsOf_95 (by decide) (fun c5 => ?_) (fun c5 => ?_)
            · rw [if_neg c5] at hR
              refine lv_iconst (v := 0) hx hb dX4_weddingsOf_106 (by decide) ?_
              refine lv_iadd hx hb dX4_weddingsOf_107 ?_
              have hB := hS.1
              have hL_t1 : q1 < _ := hT_t1.lt
              refine paI (N := 3) (k := 2) hx hb hG hS hT_t1 (Or.inr hge_t1) (Or.inr hge_t1) (by decide) (by decide) dX4_weddingsOf_108 (fun H1 locs1 he hz hq hS => ?_)
              have hM := hM.kept (fun q h4 h5 => hq q (fun e9 => hd_t1 (e9 ▸ h5)))
              have hG := gE.ofS hG0 hS (fun _ h => h.elim)
              obtain ⟨f7, hf7⟩ : ∃ x, x = upd f6 2 (((f6) 2) + 0) := ⟨_, rfl⟩
              rw [← hf7] at hR he
              try dsimp only at hR
              have hT_t1 : va_at D vwCl (q1, arI E 3 f7) H1 := he
              refine lv_iinc (v := nI (i3 + 1)) (lv' := [(3, .int (nI (i3 + 1))), (4, .ref (β 5 i3)), (0, .ref (β 0 0)), (1, .int (nI k)), (2, .ref (q1))]) hx hb dX4_weddingsOf_109 hl (k := 4) rfl (nI_1 i3) (Nat.le_of_ble_eq_true rfl) rfl (fun ls hl => ?_)
              refine lv_goto (tgt := 6) hx hb dX4_weddingsOf_112 (by decide) ?_
              exact ih (i3 + 1) f7 (lk_st hn) hR _ _ _ hM hFa (fun q z => by have := hFb q z; omega) hd_t1 hT_t1 hS ls (lv_sub hl [2, 3, 4, 0] rfl)
            · rw [if_pos c5] at hR
              refine lv_aload hx hb dX4_weddingsOf_98 (lv_at hl 0 rfl) ?_
              refine gfN (v := .int (wLen σ i3)) (C := RX11) (T := TX11) (N := 12) (k := 4) hx hb hts hown hG cl_X11 in_X11 (hM.wd hki3) (by decide) q1707 rfl dX4_weddingsOf_100 ?_
              refine lv_goto (tgt := 107) hx hb dX4_weddingsOf_103 (by decide) ?_
              refine lv_iadd hx hb dX4_weddingsOf_107 ?_
              have hB := hS.1
              have hL_t1 : q1 < _ := hT_t1.lt
              refine paI (N := 3) (k := 2) hx hb hG hS hT_t1 (Or.inr hge_t1) (Or.inr hge_t1) (by decide) (by decide) dX4_weddingsOf_108 (fun H1 locs1 he hz hq hS => ?_)
              have hM := hM.kept (fun q h4 h5 => hq q (fun e9 => hd_t1 (e9 ▸ h5)))
              have hG := gE.ofS hG0 hS (fun _ h => h.elim)
              obtain ⟨f8, hf8⟩ : ∃ x, x = upd f6 2 (((f6) 2) + (wLen σ i3)) := ⟨_, rfl⟩
              rw [← hf8] at hR he
              try dsimp only at hR
              have hT_t1 : va_at D vwCl (q1, arI E 3 f8) H1 := he
              refine lv_iinc (v := nI (i3 + 1)) (lv' := [(3, .int (nI (i3 + 1))), (4, .ref (β 5 i3)), (0, .ref (β 0 0)), (1, .int (nI k)), (2, .ref (q1))]) hx hb dX4_weddingsOf_109 hl (k := 4) rfl (nI_1 i3) (Nat.le_of_ble_eq_true rfl) rfl (fun ls hl => ?_)
              refine lv_goto (tgt := 6) hx hb dX4_weddingsOf_112 (by decide) ?_
              exact ih (i3 + 1) f8 (lk_st hn) hR _ _ _ hM hFa (fun q z => by have := hFb q z; omega) hd_t1 hT_t1 hS ls (lv_sub hl [2, 3, 4, 0] rfl)
        · rw [if_pos c2] at hR
          refine lv_iconst (v := 1) hx hb dX4_weddingsOf_58 (by decide) ?_
          refine lv_goto (tgt := 63) hx hb dX4_weddingsOf_59 (by decide) ?_
          refine lv_iadd hx hb dX4_weddingsOf_63 ?_
          have hB := hS.1
          have hL_t1 : q1 < _ := hT_t1.lt
          refine paI (N := 3) (k := 0) hx hb hG hS hT_t1 (Or.inr hge_t1) (Or.inr hge_t1) (by decide) (by decide) dX4_weddingsOf_64 (fun H1 locs1 he hz hq hS => ?_)
          have hM := hM.kept (fun q h4 h5 => hq q (fun e9 => hd_t1 (e9 ▸ h5)))
          have hG := gE.ofS hG0 hS (fun _ h => h.elim)
          obtain ⟨f9, hf9⟩ : ∃ x, x = upd t_t1_6 0 (((t_t1_6) 0) + 1) := ⟨_, rfl⟩
          rw [← hf9] at hR he
          try dsimp only at hR
          have hT_t1 : va_at D vwCl (q1, arI E 3 f9) H1 := he
          refine lv_aload_n hx hb dX4_weddingsOf_65 rfl (lv_at hl 3 rfl) ?_
          refine lv_iconst (v := 1) hx hb dX4_weddingsOf_66 (by decide) ?_
          refine lv_dup2_11 hx hb dX4_weddingsOf_67 rfl rfl ?_
          refine gaI (N := 3) (k := 1) hx hb hG hT_t1 (by decide) (by decide) dX4_weddingsOf_68 ?_
          refine lv_aload hx hb dX4_weddingsOf_69 (lv_at hl 0 rfl) ?_
          refine gfN (v := .int (nI (wState σ i3))) (C := RX11) (T := TX11) (N := 12) (k := 7) hx hb hts hown hG cl_X11 in_X11 (hM.wd hki3) (by decide) q1710 rfl dX4_weddingsOf_71 ?_
          refine lv_iconst (v := 2) hx hb dX4_weddingsOf_74 (by decide) ?_
          refine lv_icmp_ne (tgt := 82) hx hb dX4_weddingsOf_75 (by decide) (fun c6 => ?_) (fun c6 => ?_)
          · rw [if_neg c6] at hR
            refine lv_iconst (v := 0) hx hb dX4_weddingsOf_82 (by decide) ?_
            refine lv_iadd hx hb dX4_weddingsOf_83 ?_
            have hB := hS.1
            have hL_t1 : q1 < _ := hT_t1.lt
            refine paI (N := 3) (k := 1) hx hb hG hS hT_t1 (Or.inr hge_t1) (Or.inr hge_t1) (by decide) (by decide) dX4_weddingsOf_84 (fun H1 locs1 he hz hq hS => ?_)
            have hM := hM.kept (fun q h4 h5 => hq q (fun e9 => hd_t1 (e9 ▸ h5)))
            have hG := gE.ofS hG0 hS (fun _ h => h.elim)
            obtain ⟨f10, hf10⟩ : ∃ x, x = upd f9 1 (((f9) 1) + 0) := ⟨_, rfl⟩
            rw [← hf10] at hR he
            try dsimp only at hR
            have hT_t1 : va_at D vwCl (q1, arI E 3 f10) H1 := he
            refine lv_aload_n hx hb dX4_weddingsOf_85 rfl (lv_at hl 3 rfl) ?_
            refine lv_iconst (v := 2) hx hb dX4_weddingsOf_86 (by decide) ?_
            refine lv_dup2_11 hx hb dX4_weddingsOf_87 rfl rfl ?_
            refine gaI (N := 3) (k := 2) hx hb hG hT_t1 (by decide) (by decide) dX4_weddingsOf_88 ?_
            refine lv_aload hx hb dX4_weddingsOf_89 (lv_at hl 0 rfl) ?_
            refine gfN (v := .int (nI (wState σ i3))) (C := RX11) (T := TX11) (N := 12) (k := 7) hx hb hts hown hG cl_X11 in_X11 (hM.wd hki3) (by decide) q1710 rfl dX4_weddingsOf_91 ?_
            refine lv_iconst (v := 2) hx hb dX4_weddingsOf_94 (by decide) ?_
            refine lv_icmp_ne (tgt := 106) hx hb dX4_weddingsOf_95 (by decide) (fun c7 => ?_) (fun c7 => ?_)
            · rw [if_neg c7] at hR
              refine lv_iconst (v := 0) hx hb dX4_weddingsOf_106 (by decide) ?_
              refine lv_iadd hx hb dX4_weddingsOf_107 ?_
              have hB := hS.1
              have hL_t1 : q1 < _ := hT_t1.lt
              refine paI (N := 3) (k := 2) hx hb hG hS hT_t1 (Or.inr hge_t1) (Or.inr hge_t1) (by decide) (by decide) dX4_weddingsOf_108 (fun H1 locs1 he hz hq hS => ?_)
              have hM := hM.kept (fun q h4 h5 => hq q (fun e9 => hd_t1 (e9 ▸ h5)))
              have hG := gE.ofS hG0 hS (fun _ h => h.elim)
              obtain ⟨f11, hf11⟩ : ∃ x, x = upd f10 2 (((f10) 2) + 0) := ⟨_, rfl⟩
              rw [← hf11] at hR he
              try dsimp only at hR
              have hT_t1 : va_at D vwCl (q1, arI E 3 f11) H1 := he
              refine lv_iinc (v := nI (i3 + 1)) (lv' := [(3, .int (nI (i3 + 1))), (4, .ref (β 5 i3)), (0, .ref (β 0 0)), (1, .int (nI k)), (2, .ref (q1))]) hx hb dX4_weddingsOf_109 hl (k := 4) rfl (nI_1 i3) (Nat.le_of_ble_eq_true rfl) rfl (fun ls hl => ?_)
              refine lv_goto (tgt := 6) hx hb dX4_weddingsOf_112 (by decide) ?_
              exact ih (i3 + 1) f11 (lk_st hn) hR _ _ _ hM hFa (fun q z => by have := hFb q z; omega) hd_t1 hT_t1 hS ls (lv_sub hl [2, 3, 4, 0] rfl)
            · rw [if_pos c7] at hR
              refine lv_aload hx hb dX4_weddingsOf_98 (lv_at hl 0 rfl) ?_
              refine gfN (v := .int (wLen σ i3)) (C := RX11) (T := TX11) (N := 12) (k := 4) hx hb hts hown hG cl_X11 in_X11 (hM.wd hki3) (by decide) q1707 rfl dX4_weddingsOf_100 ?_
              refine lv_goto (tgt := 107) hx hb dX4_weddingsOf_103 (by decide) ?_
              refine lv_iadd hx hb dX4_weddingsOf_107 ?_
              have hB := hS.1
              have hL_t1 : q1 < _ := hT_t1.lt
              refine paI (N := 3) (k := 2) hx hb hG hS hT_t1 (Or.inr hge_t1) (Or.inr hge_t1) (by decide) (by decide) dX4_weddingsOf_108 (fun H1 locs1 he hz hq hS => ?_)
              have hM := hM.kept (fun q h4 h5 => hq q (fun e9 => hd_t1 (e9 ▸ h5)))
              have hG := gE.ofS hG0 hS (fun _ h => h.elim)
              obtain ⟨f12, hf12⟩ : ∃ x, x = upd f10 2 (((f10) 2) + (wLen σ i3)) := ⟨_, rfl⟩
              rw [← hf12] at hR he
              try dsimp only at hR
              have hT_t1 : va_at D vwCl (q1, arI E 3 f12) H1 := he
              refine lv_iinc (v := nI (i3 + 1)) (lv' := [(3, .int (nI (i3 + 1))), (4, .ref (β 5 i3)), (0, .ref (β 0 0)), (1, .int (nI k)), (2, .ref (q1))]) hx hb dX4_weddingsOf_109 hl (k := 4) rfl (nI_1 i3) (Nat.le_of_ble_eq_true rfl) rfl (fun ls hl => ?_)
              refine lv_goto (tgt := 6) hx hb dX4_weddingsOf_112 (by decide) ?_
              exact ih (i3 + 1) f12 (lk_st hn) hR _ _ _ hM hFa (fun q z => by have := hFb q z; omega) hd_t1 hT_t1 hS ls (lv_sub hl [2, 3, 4, 0] rfl)
          · rw [if_pos c6] at hR
            refine lv_iconst (v := 1) hx hb dX4_weddingsOf_78 (by decide) ?_
            refine lv_goto (tgt := 83) hx hb dX4_weddingsOf_79 (by decide) ?_
            refine lv_iadd hx hb dX4_weddingsOf_83 ?_
            have hB := hS.1
            have hL_t1 : q1 < _ := hT_t1.lt
            refine paI (N := 3) (k := 1) hx hb hG hS hT_t1 (Or.inr hge_t1) (Or.inr hge_t1) (by decide) (by decide) dX4_weddingsOf_84 (fun H1 locs1 he hz hq hS => ?_)
            have hM := hM.kept (fun q h4 h5 => hq q (fun e9 => hd_t1 (e9 ▸ h5)))
            have hG := gE.ofS hG0 hS (fun _ h => h.elim)
            obtain ⟨f13, hf13⟩ : ∃ x, x = upd f9 1 (((f9) 1) + 1) := ⟨_, rfl⟩
            rw [← hf13] at hR he
            try dsimp only at hR
            have hT_t1 : va_at D vwCl (q1, arI E 3 f13) H1 := he
            refine lv_aload_n hx hb dX4_weddingsOf_85 rfl (lv_at hl 3 rfl) ?_
            refine lv_iconst (v := 2) hx hb dX4_weddingsOf_86 (by decide) ?_
            refine lv_dup2_11 hx hb dX4_weddingsOf_87 rfl rfl ?_
            refine gaI (N := 3) (k := 2) hx hb hG hT_t1 (by decide) (by decide) dX4_weddingsOf_88 ?_
            refine lv_aload hx hb dX4_weddingsOf_89 (lv_at hl 0 rfl) ?_
            refine gfN (v := .int (nI (wState σ i3))) (C := RX11) (T := TX11) (N := 12) (k := 7) hx hb hts hown hG cl_X11 in_X11 (hM.wd hki3) (by decide) q1710 rfl dX4_weddingsOf_91 ?_
            refine lv_iconst (v := 2) hx hb dX4_weddingsOf_94 (by decide) ?_
            refine lv_icmp_ne (tgt := 106) hx hb dX4_weddingsOf_95 (by decide) (fun c8 => ?_) (fun c8 => ?_)
            · rw [if_neg c8] at hR
              refine lv_iconst (v := 0) hx hb dX4_weddingsOf_106 (by decide) ?_
              refine lv_iadd hx hb dX4_weddingsOf_107 ?_
              have hB := hS.1
              have hL_t1 : q1 < _ := hT_t1.lt
              refine paI (N := 3) (k := 2) hx hb hG hS hT_t1 (Or.inr hge_t1) (Or.inr hge_t1) (by decide) (by decide) dX4_weddingsOf_108 (fun H1 locs1 he hz hq hS => ?_)
              have hM := hM.kept (fun q h4 h5 => hq q (fun e9 => hd_t1 (e9 ▸ h5)))
              have hG := gE.ofS hG0 hS (fun _ h => h.elim)
              obtain ⟨f14, hf14⟩ : ∃ x, x = upd f13 2 (((f13) 2) + 0) := ⟨_, rfl⟩
              rw [← hf14] at hR he
              try dsimp only at hR
              have hT_t1 : va_at D vwCl (q1, arI E 3 f14) H1 := he
              refine lv_iinc (v := nI (i3 + 1)) (lv' := [(3, .int (nI (i3 + 1))), (4, .ref (β 5 i3)), (0, .ref (β 0 0)), (1, .int (nI k)), (2, .ref (q1))]) hx hb dX4_weddingsOf_109 hl (k := 4) rfl (nI_1 i3) (Nat.le_of_ble_eq_true rfl) rfl (fun ls hl => ?_)
              refine lv_goto (tgt := 6) hx hb dX4_weddingsOf_112 (by decide) ?_
              exact ih (i3 + 1) f14 (lk_st hn) hR _ _ _ hM hFa (fun q z => by have := hFb q z; omega) hd_t1 hT_t1 hS ls (lv_sub hl [2, 3, 4, 0] rfl)
            · rw [if_pos c8] at hR
              refine lv_aload hx hb dX4_weddingsOf_98 (lv_at hl 0 rfl) ?_
              refine gfN (v := .int (wLen σ i3)) (C := RX11) (T := TX11) (N := 12) (k := 4) hx hb hts hown hG cl_X11 in_X11 (hM.wd hki3) (by decide) q1707 rfl dX4_weddingsOf_100 ?_
              refine lv_goto (tgt := 107) hx hb dX4_weddingsOf_103 (by decide) ?_
              refine lv_iadd hx hb dX4_weddingsOf_107 ?_
              have hB := hS.1
              have hL_t1 : q1 < _ := hT_t1.lt
              refine paI (N := 3) (k := 2) hx hb hG hS hT_t1 (Or.inr hge_t1) (Or.inr hge_t1) (by decide) (by decide) dX4_weddingsOf_108 (fun H1 locs1 he hz hq hS => ?_)
              have hM := hM.kept (fun q h4 h5 => hq q (fun e9 => hd_t1 (e9 ▸ h5)))
              have hG := gE.ofS hG0 hS (fun _ h => h.elim)
              obtain ⟨f15, hf15⟩ : ∃ x, x = upd f13 2 (((f13) 2) + (wLen σ i3)) := ⟨_, rfl⟩
              rw [← hf15] at hR he
              try dsimp only at hR
              have hT_t1 : va_at D vwCl (q1, arI E 3 f15) H1 := he
              refine lv_iinc (v := nI (i3 + 1)) (lv' := [(3, .int (nI (i3 + 1))), (4, .ref (β 5 i3)), (0, .ref (β 0 0)), (1, .int (nI k)), (2, .ref (q1))]) hx hb dX4_weddingsOf_109 hl (k := 4) rfl (nI_1 i3) (Nat.le_of_ble_eq_true rfl) rfl (fun ls hl => ?_)
              refine lv_goto (tgt := 6) hx hb dX4_weddingsOf_112 (by decide) ?_
              exact ih (i3 + 1) f15 (lk_st hn) hR _ _ _ hM hFa (fun q z => by have := hFb q z; omega) hd_t1 hT_t1 hS ls (lv_sub hl [2, 3, 4, 0] rfl)
      · rw [if_neg c1] at hR
        refine lv_goto (tgt := 109) hx hb dX4_weddingsOf_42 (by decide) ?_
        refine lv_iinc (v := nI (i3 + 1)) (lv' := [(3, .int (nI (i3 + 1))), (4, .ref (β 5 i3)), (0, .ref (β 0 0)), (1, .int (nI k)), (2, .ref (q1))]) hx hb dX4_weddingsOf_109 hl (k := 4) rfl (nI_1 i3) (Nat.le_of_ble_eq_true rfl) rfl (fun ls hl => ?_)
        refine lv_goto (tgt := 6) hx hb dX4_weddingsOf_112 (by decide) ?_
        exact ih (i3 + 1) t_t1_6 (lk_st hn) hR _ _ _ hM hFa (fun q z => by have := hFb q z; omega) hd_t1 hT_t1 hS ls (lv_sub hl [2, 3, 4, 0] rfl)
  unfold fX4_weddingsOf at hR
  refine lv_iconst (v := 3) hx hb dX4_weddingsOf_0 (by decide) ?_
  have hB := hS.1
  refine nwZ (atype := .int) (ty := .int) (t := 0) (cA := E 1) (N := 3) (z := (3, .inl (fun _ => 0))) hx hb hts hG hS q199 rfl rfl trivial (fun _ => rfl) (by decide) (by decide) ⟨Nat.le_of_ble_eq_true rfl, Nat.le_of_ble_eq_true rfl⟩ dX4_weddingsOf_1 (fun q1 H1 hq9 hT_t1 hz ho hS => ?_)
  have hM := hM.kept (fun q h4 _ => ho q h4)
  have hG := gE.ofS hG0 hS (fun _ h => h.elim)
  have hge_t1 : s.heap.size ≤ q1 := by have := hB; omega
  have hd_t1 : ¬ Fc q1 := fun z => by have := hFb _ z; omega
  refine lv_astore_n (lv' := [(2, .ref (q1)), (0, .ref (β 0 0)), (1, .int (nI k))]) hx hb dX4_weddingsOf_3 rfl hl (Nat.le_of_ble_eq_true rfl) rfl (fun ls hl => ?_)
  refine lv_iconst (v := 0) hx hb dX4_weddingsOf_4 (by decide) ?_
  refine lv_istore_n (lv' := [(3, .int 0), (2, .ref (q1)), (0, .ref (β 0 0)), (1, .int (nI k))]) hx hb dX4_weddingsOf_5 rfl hl (Nat.le_of_ble_eq_true rfl) rfl (fun ls hl => ?_)
  refine hL6 q1 hge_t1 _ (fun t_t1_9 H1 locs1 Fc ls hR hM hFa hFb hd_t1 hT_t1 hS hl => ?_) (nW σ) 0 (fun _ => 0) (Nat.zero_add _) hR _ _ _ hM hFa (fun q z => by have := hFb q z; omega) hd_t1 hT_t1 hS ls (lv_sub hl [2, 3, 1, 0] rfl)
  try dsimp only at hR
  have hG := gE.ofS hG0 hS (fun _ h => h.elim)
  refine lv_aload_n hx hb dX4_weddingsOf_115 rfl (lv_at hl 0 rfl) ?_
  exact g_aret hx hb hr (Or.inr ⟨_, rfl⟩) hlocks hS ⟨Nat.le_of_ble_eq_true rfl, Nat.le_of_ble_eq_true rfl⟩ dX4_weddingsOf_116 (by subst hR; exact ⟨_, rfl, hge_t1, hT_t1⟩)

def fJ16_init (a : Nat) : Unit :=
  ()
set_option maxHeartbeats 4000000 in
set_option maxRecDepth 100000 in
theorem met_J16_init (l : Launch) (D : va_G) (E : Nat → Nat) (a : Nat)  : GM l D E yJ16_init cJ16_init 1 (Option.none : Option Jvm.ClassFile.FieldType) 1 12 0 0 [.ref (a)] (fun _ => True) (fun _ => False) (fun _ => False) (fun sz v h => v = none)  := by
  generalize hR : fJ16_init a = r
  refine GM.start (by decide) (Nat.le_of_ble_eq_true rfl) ?_
  intro p e s m below meth c ls hx hb hr hml hown hlocks hnm hts hG hTriv hS hl
  have hown : s.vm.findClass RJ16 = some m.cls := hown
  have hS0 : xS p m c cJ16_init 1 s _ RJ16 := ⟨hx, hb, hml, hown, hts⟩
  have hl : lv_has ls 1 [(0, .ref (a))] := hl
  have hG0 := hG
  unfold fJ16_init at hR
  refine lv_aload_n hx hb dJ16_init_0 rfl (lv_at hl 0 rfl) ?_
  refine W.objInit hx hb hown (hts _ q645) (hts _ q147) (hts _ q148) rfl (by rw [hml]; exact hl.1) rfl dJ16_init_1 (Nat.le_of_ble_eq_true rfl) (Nat.le_of_ble_eq_true rfl) ?_
  refine W.eq (g2 := F0 m 4 ls []) rfl ?_
  exact g_vret hx hb hr hlocks hS ⟨Nat.le_of_ble_eq_true rfl, Nat.le_of_ble_eq_true rfl⟩ dJ16_init_4 (by subst hR; exact rfl)

def fJ0_init (a : Nat) : Unit :=
  ()
set_option maxHeartbeats 4000000 in
set_option maxRecDepth 100000 in
theorem met_J0_init (l : Launch) (D : va_G) (E : Nat → Nat) (a : Nat)  : GM l D E yJ0_init cJ0_init 1 (Option.none : Option Jvm.ClassFile.FieldType) 1 12 0 0 [.ref (a)] (fun _ => True) (fun _ => False) (fun _ => False) (fun sz v h => v = none)  := by
  generalize hR : fJ0_init a = r
  refine GM.start (by decide) (Nat.le_of_ble_eq_true rfl) ?_
  intro p e s m below meth c ls hx hb hr hml hown hlocks hnm hts hG hTriv hS hl
  have hown : s.vm.findClass RJ0 = some m.cls := hown
  have hS0 : xS p m c cJ0_init 1 s _ RJ0 := ⟨hx, hb, hml, hown, hts⟩
  have hl : lv_has ls 1 [(0, .ref (a))] := hl
  have hG0 := hG
  unfold fJ0_init at hR
  refine lv_aload_n hx hb dJ0_init_0 rfl (lv_at hl 0 rfl) ?_
  refine W.objInit hx hb hown (hts _ q160) (hts _ q147) (hts _ q148) rfl (by rw [hml]; exact hl.1) rfl dJ0_init_1 (Nat.le_of_ble_eq_true rfl) (Nat.le_of_ble_eq_true rfl) ?_
  refine W.eq (g2 := F0 m 4 ls []) rfl ?_
  exact g_vret hx hb hr hlocks hS ⟨Nat.le_of_ble_eq_true rfl, Nat.le_of_ble_eq_true rfl⟩ dJ0_init_4 (by subst hR; exact rfl)

set_option maxHeartbeats 4000000 in
set_option maxRecDepth 100000 in
theorem met_J1_init (l : Launch) (D : va_G) (E : Nat → Nat) (q0 : Nat)  : GM l D E yJ1_init cJ1_init 1 (Option.none : Option Jvm.ClassFile.FieldType) 2 32 0 0 [.ref (q0)] (fun h => va_at D vwCl (q0, .inr (13, [.int 0, .null, .int 0])) h ∧ E 0 ≤ q0) (fun z => z = q0) (fun z => z = q0) (fun sz v h => v = none ∧ va_at D vwCl (q0, .inr (13, [.int 0, .null, .int 0])) h)  := by
  refine GM.start (by decide) (Nat.le_of_ble_eq_true rfl) ?_
  intro p e s m below meth c ls hx hb hr hml hown hlocks hnm hts hG ⟨hT_this, hq0⟩ hS hl
  have hown : s.vm.findClass RJ1 = some m.cls := hown
  have hS0 : xS p m c cJ1_init 1 s _ RJ1 := ⟨hx, hb, hml, hown, hts⟩
  have hl : lv_has ls 1 [(0, .ref (q0))] := hl
  have hG0 := hG
  refine lv_aload_n hx hb dJ1_init_0 rfl (lv_at hl 0 rfl) ?_
  have hB := hS.1
  have hL_this : q0 < _ := hT_this.lt
  refine gcI (As := []) (rest := []) hS0 (met_J0_init l D E q0) q157 q158 q101 q159 rfl hd_J0_init ⟨Nat.le_of_ble_eq_true rfl, Nat.le_of_ble_eq_true rfl⟩ hG trivial rfl hl.1 rfl (Nat.le_of_ble_eq_true rfl) dJ1_init_1 ⟨Nat.le_of_ble_eq_true rfl, Nat.le_of_ble_eq_true rfl⟩ hS (fun q h => h.elim) (fun q h => h.elim) (fun v H1 locs1 hP hz hk hS => ?_)
  obtain rfl := hP
  have hT_this : va_at D vwCl (q0, .inr (13, [.int 0, .null, .int 0])) H1 := hT_this.kept (hk _ hT_this.lt id)
  have hG := gE.ofS hG0 hS (fun q h => by have h : q = q0 := h; rw [h]; exact hq0)
  refine W.eq (g2 := F0 m 4 ls []) rfl ?_
  refine lv_aload_n hx hb dJ1_init_4 rfl (lv_at hl 0 rfl) ?_
  refine lv_iconst (v := 0) hx hb dJ1_init_5 (by decide) ?_
  have hB := hS.1
  have hL_this : q0 < _ := hT_this.lt
  refine pf (ty0 := tyJ2) (ty := tyJ2 0) (v := .int 0) (C := RJ2) (T := TJ2) (N := 3) (k := 0) hx hb hts hown hG hS cl_J2 in_J2 tyJ2_ok nmJ2 hT_this (Or.inl rfl) (Or.inl rfl) (by decide) q167 rfl (tyJ2_ok 0 (by decide)) rfl rfl (Nat.le_of_ble_eq_true rfl) dJ1_init_6 (fun H1 locs1 he hz hq hS => ?_)
  have hT_this : va_at D vwCl (q0, .inr (13, [.int 0, .null, .int 0])) H1 := he
  have hG := gE.ofS hG0 hS (fun q h => by have h : q = q0 := h; rw [h]; exact hq0)
  exact g_vret hx hb hr hlocks hS ⟨Nat.le_of_ble_eq_true rfl, Nat.le_of_ble_eq_true rfl⟩ dJ1_init_9 (by skip; exact ⟨rfl, hT_this⟩)

set_option maxHeartbeats 4000000 in
set_option maxRecDepth 100000 in
theorem met_J2_init (l : Launch) (D : va_G) (E : Nat → Nat) (q0 : Nat)  : GM l D E yJ2_init cJ2_init 1 (Option.none : Option Jvm.ClassFile.FieldType) 3 52 0 0 [.ref (q0)] (fun h => va_at D vwCl (q0, .inr (13, [.int 0, .null, .int 0])) h ∧ E 0 ≤ q0) (fun z => z = q0) (fun z => z = q0) (fun sz v h => v = none ∧ va_at D vwCl (q0, .inr (13, [.int 0, .ref (E 6), .int 0])) h)  := by
  refine GM.start (by decide) (Nat.le_of_ble_eq_true rfl) ?_
  intro p e s m below meth c ls hx hb hr hml hown hlocks hnm hts hG ⟨hT_this, hq0⟩ hS hl
  have hown : s.vm.findClass RJ2 = some m.cls := hown
  have hS0 : xS p m c cJ2_init 1 s _ RJ2 := ⟨hx, hb, hml, hown, hts⟩
  have hl : lv_has ls 1 [(0, .ref (q0))] := hl
  have hG0 := hG
  refine lv_aload_n hx hb dJ2_init_0 rfl (lv_at hl 0 rfl) ?_
  have hB := hS.1
  have hL_this : q0 < _ := hT_this.lt
  refine gcI (As := []) (rest := []) hS0 (met_J1_init l D E q0) q154 q155 q102 q156 rfl hd_J1_init ⟨Nat.le_of_ble_eq_true rfl, Nat.le_of_ble_eq_true rfl⟩ hG ⟨hT_this, hq0⟩ rfl hl.1 rfl (Nat.le_of_ble_eq_true rfl) dJ2_init_1 ⟨Nat.le_of_ble_eq_true rfl, Nat.le_of_ble_eq_true rfl⟩ hS (fun q h => by have h : q = q0 := h; rw [h]; exact (Or.inl rfl)) (fun q h => by have h : q = q0 := h; rw [h]; exact (Or.inl rfl)) (fun v H1 locs1 hP hz hk hS => ?_)
  obtain ⟨rfl, hT9⟩ := hP
  have hT_this : va_at D vwCl (q0, .inr (13, [.int 0, .null, .int 0])) H1 := hT9
  have hG := gE.ofS hG0 hS (fun q h => by have h : q = q0 := h; rw [h]; exact hq0)
  refine W.eq (g2 := F0 m 4 ls []) rfl ?_
  refine lv_aload_n hx hb dJ2_init_4 rfl (lv_at hl 0 rfl) ?_
  refine gs hx hb hG.de hown (hts _ q161) (fun _ h => h) dJ2_init_5 ?_
  have hB := hS.1
  have hL_this : q0 < _ := hT_this.lt
  refine pf (ty0 := tyJ2) (ty := tyJ2 1) (v := .ref (E 6)) (C := RJ2) (T := TJ2) (N := 3) (k := 1) hx hb hts hown hG hS cl_J2 in_J2 tyJ2_ok nmJ2 hT_this (Or.inl rfl) (Or.inl rfl) (by decide) q163 rfl (tyJ2_ok 1 (by decide)) rfl rfl (Nat.le_of_ble_eq_true rfl) dJ2_init_8 (fun H1 locs1 he hz hq hS => ?_)
  have hT_this : va_at D vwCl (q0, .inr (13, [.int 0, .ref (E 6), .int 0])) H1 := he
  have hG := gE.ofS hG0 hS (fun q h => by have h : q = q0 := h; rw [h]; exact hq0)
  exact g_vret hx hb hr hlocks hS ⟨Nat.le_of_ble_eq_true rfl, Nat.le_of_ble_eq_true rfl⟩ dJ2_init_11 (by skip; exact ⟨rfl, hT_this⟩)

set_option maxHeartbeats 4000000 in
set_option maxRecDepth 100000 in
theorem met_X3_init (l : Launch) (D : va_G) (E : Nat → Nat) (q0 : Nat) (a_ : Int32) (b_ : Int32) (c_ : Int32) (d_ : Int32)  : GM l D E yX3_init cX3_init 5 (Option.none : Option Jvm.ClassFile.FieldType) 1 12 0 0 [.ref (q0), .int (a_), .int (b_), .int (c_), .int (d_)] (fun h => va_at D vwCl (q0, .inr (2, [.int 0, .int 0, .int 0, .int 0])) h ∧ E 0 ≤ q0) (fun z => z = q0) (fun z => z = q0) (fun sz v h => v = none ∧ va_at D vwCl (q0, .inr (2, [.int (a_), .int (b_), .int (c_), .int (d_)])) h)  := by
  refine GM.start (by decide) (Nat.le_of_ble_eq_true rfl) ?_
  intro p e s m below meth c ls hx hb hr hml hown hlocks hnm hts hG ⟨hT_this, hq0⟩ hS hl
  have hown : s.vm.findClass RX3 = some m.cls := hown
  have hS0 : xS p m c cX3_init 5 s _ RX3 := ⟨hx, hb, hml, hown, hts⟩
  have hl : lv_has ls 5 [(0, .ref (q0)), (1, .int (a_)), (2, .int (b_)), (3, .int (c_)), (4, .int (d_))] := hl
  have hG0 := hG
  refine lv_aload_n hx hb dX3_init_0 rfl (lv_at hl 0 rfl) ?_
  refine W.objInit hx hb hown (hts _ q205) (hts _ q147) (hts _ q148) rfl (by rw [hml]; exact hl.1) rfl dX3_init_1 (Nat.le_of_ble_eq_true rfl) (Nat.le_of_ble_eq_true rfl) ?_
  refine W.eq (g2 := F0 m 4 ls []) rfl ?_
  refine lv_aload_n hx hb dX3_init_4 rfl (lv_at hl 0 rfl) ?_
  refine lv_iload_n hx hb dX3_init_5 rfl (lv_at hl 1 rfl) ?_
  have hB := hS.1
  have hL_this : q0 < _ := hT_this.lt
  refine pfF (ty0 := tyX3) (ty := tyX3 0) (v := .int (a_)) (C := RX3) (T := TX3) (N := 4) (k := 0) hx hb hts hown hG hS cl_X3 in_X3 tyX3_ok nmX3 hT_this (Or.inl rfl) (Or.inl rfl) (by decide) q206 rfl hnm rfl (tyX3_ok 0 (by decide)) rfl rfl (Nat.le_of_ble_eq_true rfl) dX3_init_6 (fun H1 locs1 he hz hq hS => ?_)
  have hT_this : va_at D vwCl (q0, .inr (2, [.int (a_), .int 0, .int 0, .int 0])) H1 := he
  have hG := gE.ofS hG0 hS (fun q h => by have h : q = q0 := h; rw [h]; exact hq0)
  refine lv_aload_n hx hb dX3_init_9 rfl (lv_at hl 0 rfl) ?_
  refine lv_iload_n hx hb dX3_init_10 rfl (lv_at hl 2 rfl) ?_
  have hB := hS.1
  have hL_this : q0 < _ := hT_this.lt
  refine pfF (ty0 := tyX3) (ty := tyX3 1) (v := .int (b_)) (C := RX3) (T := TX3) (N := 4) (k := 1) hx hb hts hown hG hS cl_X3 in_X3 tyX3_ok nmX3 hT_this (Or.inl rfl) (Or.inl rfl) (by decide) q208 rfl hnm rfl (tyX3_ok 1 (by decide)) rfl rfl (Nat.le_of_ble_eq_true rfl) dX3_init_11 (fun H1 locs1 he hz hq hS => ?_)
  have hT_this : va_at D vwCl (q0, .inr (2, [.int (a_), .int (b_), .int 0, .int 0])) H1 := he
  have hG := gE.ofS hG0 hS (fun q h => by have h : q = q0 := h; rw [h]; exact hq0)
  refine lv_aload_n hx hb dX3_init_14 rfl (lv_at hl 0 rfl) ?_
  refine lv_iload_n hx hb dX3_init_15 rfl (lv_at hl 3 rfl) ?_
  have hB := hS.1
  have hL_this : q0 < _ := hT_this.lt
  refine pfF (ty0 := tyX3) (ty := tyX3 2) (v := .int (c_)) (C := RX3) (T := TX3) (N := 4) (k := 2) hx hb hts hown hG hS cl_X3 in_X3 tyX3_ok nmX3 hT_this (Or.inl rfl) (Or.inl rfl) (by decide) q210 rfl hnm rfl (tyX3_ok 2 (by decide)) rfl rfl (Nat.le_of_ble_eq_true rfl) dX3_init_16 (fun H1 locs1 he hz hq hS => ?_)
  have hT_this : va_at D vwCl (q0, .inr (2, [.int (a_), .int (b_), .int (c_), .int 0])) H1 := he
  have hG := gE.ofS hG0 hS (fun q h => by have h : q = q0 := h; rw [h]; exact hq0)
  refine lv_aload_n hx hb dX3_init_19 rfl (lv_at hl 0 rfl) ?_
  refine lv_iload hx hb dX3_init_20 (lv_at hl 4 rfl) ?_
  have hB := hS.1
  have hL_this : q0 < _ := hT_this.lt
  refine pfF (ty0 := tyX3) (ty := tyX3 3) (v := .int (d_)) (C := RX3) (T := TX3) (N := 4) (k := 3) hx hb hts hown hG hS cl_X3 in_X3 tyX3_ok nmX3 hT_this (Or.inl rfl) (Or.inl rfl) (by decide) q212 rfl hnm rfl (tyX3_ok 3 (by decide)) rfl rfl (Nat.le_of_ble_eq_true rfl) dX3_init_22 (fun H1 locs1 he hz hq hS => ?_)
  have hT_this : va_at D vwCl (q0, .inr (2, [.int (a_), .int (b_), .int (c_), .int (d_)])) H1 := he
  have hG := gE.ofS hG0 hS (fun q h => by have h : q = q0 := h; rw [h]; exact hq0)
  exact g_vret hx hb hr hlocks hS ⟨Nat.le_of_ble_eq_true rfl, Nat.le_of_ble_eq_true rfl⟩ dX3_init_25 (by skip; exact ⟨rfl, hT_this⟩)

set_option maxHeartbeats 4000000 in
set_option maxRecDepth 100000 in
theorem met_X10_init (l : Launch) (D : va_G) (E : Nat → Nat) (q0 : Nat) (a_ : Int32) (b_ : Int32) (c_ : Int32) (d_ : Int32) (e_ : Int32) (f_ : Int32) (g_ : Int32)  : GM l D E yX10_init cX10_init 8 (Option.none : Option Jvm.ClassFile.FieldType) 1 12 0 0 [.ref (q0), .int (a_), .int (b_), .int (c_), .int (d_), .int (e_), .int (f_), .int (g_)] (fun h => va_at D vwCl (q0, .inr (8, [.int 0, .int 0, .int 0, .int 0, .int 0, .int 0, .int 0, .null, .int 0, .int 0, .int 0, .int 0])) h ∧ E 0 ≤ q0) (fun z => z = q0) (fun z => z = q0) (fun sz v h => v = none ∧ va_at D vwCl (q0, .inr (8, [.int (a_), .int (b_), .int (c_), .int (d_), .int (e_), .int (f_), .int (g_), .ref (E (10 + 0)), .int 0, .int 0, .int 0, .int 0])) h)  := by
  refine GM.start (by decide) (Nat.le_of_ble_eq_true rfl) ?_
  intro p e s m below meth c ls hx hb hr hml hown hlocks hnm hts hG ⟨hT_this, hq0⟩ hS hl
  have hown : s.vm.findClass RX10 = some m.cls := hown
  have hS0 : xS p m c cX10_init 8 s _ RX10 := ⟨hx, hb, hml, hown, hts⟩
  have hl : lv_has ls 8 [(0, .ref (q0)), (1, .int (a_)), (2, .int (b_)), (3, .int (c_)), (4, .int (d_)), (5, .int (e_)), (6, .int (f_)), (7, .int (g_))] := hl
  have hG0 := hG
  refine lv_aload_n hx hb dX10_init_0 rfl (lv_at hl 0 rfl) ?_
  refine W.objInit hx hb hown (hts _ q1007) (hts _ q147) (hts _ q148) rfl (by rw [hml]; exact hl.1) rfl dX10_init_1 (Nat.le_of_ble_eq_true rfl) (Nat.le_of_ble_eq_true rfl) ?_
  refine W.eq (g2 := F0 m 4 ls []) rfl ?_
  refine lv_aload_n hx hb dX10_init_4 rfl (lv_at hl 0 rfl) ?_
  refine gs hx hb (hG.en (i := 0) (by decide)) hown (hts _ q488) (fun _ h => h) dX10_init_5 ?_
  have hB := hS.1
  have hL_this : q0 < _ := hT_this.lt
  refine pf (ty0 := tyX10) (ty := tyX10 7) (v := .ref (E (10 + 0))) (C := RX10) (T := TX10) (N := 12) (k := 7) hx hb hts hown hG hS cl_X10 in_X10 tyX10_ok nmX10 hT_this (Or.inl rfl) (Or.inl rfl) (by decide) q1024 rfl (tyX10_ok 7 (by decide)) rfl rfl (Nat.le_of_ble_eq_true rfl) dX10_init_8 (fun H1 locs1 he hz hq hS => ?_)
  have hT_this : va_at D vwCl (q0, .inr (8, [.int 0, .int 0, .int 0, .int 0, .int 0, .int 0, .int 0, .ref (E (10 + 0)), .int 0, .int 0, .int 0, .int 0])) H1 := he
  have hG := gE.ofS hG0 hS (fun q h => by have h : q = q0 := h; rw [h]; exact hq0)
  refine lv_aload_n hx hb dX10_init_11 rfl (lv_at hl 0 rfl) ?_
  refine lv_iload_n hx hb dX10_init_12 rfl (lv_at hl 1 rfl) ?_
  have hB := hS.1
  have hL_this : q0 < _ := hT_this.lt
  refine pfF (ty0 := tyX10) (ty := tyX10 0) (v := .int (a_)) (C := RX10) (T := TX10) (N := 12) (k := 0) hx hb hts hown hG hS cl_X10 in_X10 tyX10_ok nmX10 hT_this (Or.inl rfl) (Or.inl rfl) (by decide) q1008 rfl hnm rfl (tyX10_ok 0 (by decide)) rfl rfl (Nat.le_of_ble_eq_true rfl) dX10_init_13 (fun H1 locs1 he hz hq hS => ?_)
  have hT_this : va_at D vwCl (q0, .inr (8, [.int (a_), .int 0, .int 0, .int 0, .int 0, .int 0, .int 0, .ref (E (10 + 0)), .int 0, .int 0, .int 0, .int 0])) H1 := he
  have hG := gE.ofS hG0 hS (fun q h => by have h : q = q0 := h; rw [h]; exact hq0)
  refine lv_aload_n hx hb dX10_init_16 rfl (lv_at hl 0 rfl) ?_
  refine lv_iload_n hx hb dX10_init_17 rfl (lv_at hl 2 rfl) ?_
  have hB := hS.1
  have hL_this : q0 < _ := hT_this.lt
  refine pfF (ty0 := tyX10) (ty := tyX10 1) (v := .int (b_)) (C := RX10) (T := TX10) (N := 12) (k := 1) hx hb hts hown hG hS cl_X10 in_X10 tyX10_ok nmX10 hT_this (Or.inl rfl) (Or.inl rfl) (by decide) q1011 rfl hnm rfl (tyX10_ok 1 (by decide)) rfl rfl (Nat.le_of_ble_eq_true rfl) dX10_init_18 (fun H1 locs1 he hz hq hS => ?_)
  have hT_this : va_at D vwCl (q0, .inr (8, [.int (a_), .int (b_), .int 0, .int 0, .int 0, .int 0, .int 0, .ref (E (10 + 0)), .int 0, .int 0, .int 0, .int 0])) H1 := he
  have hG := gE.ofS hG0 hS (fun q h => by have h : q = q0 := h; rw [h]; exact hq0)
  refine lv_aload_n hx hb dX10_init_21 rfl (lv_at hl 0 rfl) ?_
  refine lv_iload_n hx hb dX10_init_22 rfl (lv_at hl 3 rfl) ?_
  have hB := hS.1
  have hL_this : q0 < _ := hT_this.lt
  refine pfF (ty0 := tyX10) (ty := tyX10 2) (v := .int (c_)) (C := RX10) (T := TX10) (N := 12) (k := 2) hx hb hts hown hG hS cl_X10 in_X10 tyX10_ok nmX10 hT_this (Or.inl rfl) (Or.inl rfl) (by decide) q1013 rfl hnm rfl (tyX10_ok 2 (by decide)) rfl rfl (Nat.le_of_ble_eq_true rfl) dX10_init_23 (fun H1 locs1 he hz hq hS => ?_)
  have hT_this : va_at D vwCl (q0, .inr (8, [.int (a_), .int (b_), .int (c_), .int 0, .int 0, .int 0, .int 0, .ref (E (10 + 0)), .int 0, .int 0, .int 0, .int 0])) H1 := he
  have hG := gE.ofS hG0 hS (fun q h => by have h : q = q0 := h; rw [h]; exact hq0)
  refine lv_aload_n hx hb dX10_init_26 rfl (lv_at hl 0 rfl) ?_
  refine lv_iload hx hb dX10_init_27 (lv_at hl 4 rfl) ?_
  have hB := hS.1
  have hL_this : q0 < _ := hT_this.lt
  refine pfF (ty0 := tyX10) (ty := tyX10 3) (v := .int (d_)) (C := RX10) (T := TX10) (N := 12) (k := 3) hx hb hts hown hG hS cl_X10 in_X10 tyX10_ok nmX10 hT_this (Or.inl rfl) (Or.inl rfl) (by decide) q1015 rfl hnm rfl (tyX10_ok 3 (by decide)) rfl rfl (Nat.le_of_ble_eq_true rfl) dX10_init_29 (fun H1 locs1 he hz hq hS => ?_)
  have hT_this : va_at D vwCl (q0, .inr (8, [.int (a_), .int (b_), .int (c_), .int (d_), .int 0, .int 0, .int 0, .ref (E (10 + 0)), .int 0, .int 0, .int 0, .int 0])) H1 := he
  have hG := gE.ofS hG0 hS (fun q h => by have h : q = q0 := h; rw [h]; exact hq0)
  refine lv_aload_n hx hb dX10_init_32 rfl (lv_at hl 0 rfl) ?_
  refine lv_iload hx hb dX10_init_33 (lv_at hl 5 rfl) ?_
  have hB := hS.1
  have hL_this : q0 < _ := hT_this.lt
  refine pfF (ty0 := tyX10) (ty := tyX10 4) (v := .int (e_)) (C := RX10) (T := TX10) (N := 12) (k := 4) hx hb hts hown hG hS cl_X10 in_X10 tyX10_ok nmX10 hT_this (Or.inl rfl) (Or.inl rfl) (by decide) q1017 rfl hnm rfl (tyX10_ok 4 (by decide)) rfl rfl (Nat.le_of_ble_eq_true rfl) dX10_init_35 (fun H1 locs1 he hz hq hS => ?_)
  have hT_this : va_at D vwCl (q0, .inr (8, [.int (a_), .int (b_), .int (c_), .int (d_), .int (e_), .int 0, .int 0, .ref (E (10 + 0)), .int 0, .int 0, .int 0, .int 0])) H1 := he
  have hG := gE.ofS hG0 hS (fun q h => by have h : q = q0 := h; rw [h]; exact hq0)
  refine lv_aload_n hx hb dX10_init_38 rfl (lv_at hl 0 rfl) ?_
  refine lv_iload hx hb dX10_init_39 (lv_at hl 6 rfl) ?_
  have hB := hS.1
  have hL_this : q0 < _ := hT_this.lt
  refine pfF (ty0 := tyX10) (ty := tyX10 5) (v := .int (f_)) (C := RX10) (T := TX10) (N := 12) (k := 5) hx hb hts hown hG hS cl_X10 in_X10 tyX10_ok nmX10 hT_this (Or.inl rfl) (Or.inl rfl) (by decide) q1019 rfl hnm rfl (tyX10_ok 5 (by decide)) rfl rfl (Nat.le_of_ble_eq_true rfl) dX10_init_41 (fun H1 locs1 he hz hq hS => ?_)
  have hT_this : va_at D vwCl (q0, .inr (8, [.int (a_), .int (b_), .int (c_), .int (d_), .int (e_), .int (f_), .int 0, .ref (E (10 + 0)), .int 0, .int 0, .int 0, .int 0])) H1 := he
  have hG := gE.ofS hG0 hS (fun q h => by have h : q = q0 := h; rw [h]; exact hq0)
  refine lv_aload_n hx hb dX10_init_44 rfl (lv_at hl 0 rfl) ?_
  refine lv_iload hx hb dX10_init_45 (lv_at hl 7 rfl) ?_
  have hB := hS.1
  have hL_this : q0 < _ := hT_this.lt
  refine pfF (ty0 := tyX10) (ty := tyX10 6) (v := .int (g_)) (C := RX10) (T := TX10) (N := 12) (k := 6) hx hb hts hown hG hS cl_X10 in_X10 tyX10_ok nmX10 hT_this (Or.inl rfl) (Or.inl rfl) (by decide) q1022 rfl hnm rfl (tyX10_ok 6 (by decide)) rfl rfl (Nat.le_of_ble_eq_true rfl) dX10_init_47 (fun H1 locs1 he hz hq hS => ?_)
  have hT_this : va_at D vwCl (q0, .inr (8, [.int (a_), .int (b_), .int (c_), .int (d_), .int (e_), .int (f_), .int (g_), .ref (E (10 + 0)), .int 0, .int 0, .int 0, .int 0])) H1 := he
  have hG := gE.ofS hG0 hS (fun q h => by have h : q = q0 := h; rw [h]; exact hq0)
  exact g_vret hx hb hr hlocks hS ⟨Nat.le_of_ble_eq_true rfl, Nat.le_of_ble_eq_true rfl⟩ dX10_init_50 (by skip; exact ⟨rfl, hT_this⟩)

set_option maxHeartbeats 4000000 in
set_option maxRecDepth 100000 in
theorem met_X13_init (l : Launch) (D : va_G) (E : Nat → Nat) (q0 : Nat) (a_ : Int32) (b_ : Nat) (c_ : Int32)  : GM l D E yX13_init cX13_init 4 (Option.none : Option Jvm.ClassFile.FieldType) 1 12 0 0 [.ref (q0), .int (a_), .ref (b_), .int (c_)] (fun h => va_at D vwCl (q0, .inr (11, [.int 0, .null, .int 0])) h ∧ E 0 ≤ q0) (fun z => z = q0) (fun z => z = q0) (fun sz v h => v = none ∧ va_at D vwCl (q0, .inr (11, [.int (a_), .ref (b_), .int (c_)])) h)  := by
  refine GM.start (by decide) (Nat.le_of_ble_eq_true rfl) ?_
  intro p e s m below meth c ls hx hb hr hml hown hlocks hnm hts hG ⟨hT_this, hq0⟩ hS hl
  have hown : s.vm.findClass RX13 = some m.cls := hown
  have hS0 : xS p m c cX13_init 4 s _ RX13 := ⟨hx, hb, hml, hown, hts⟩
  have hl : lv_has ls 4 [(0, .ref (q0)), (1, .int (a_)), (2, .ref (b_)), (3, .int (c_))] := hl
  have hG0 := hG
  refine lv_aload_n hx hb dX13_init_0 rfl (lv_at hl 0 rfl) ?_
  refine W.objInit hx hb hown (hts _ q693) (hts _ q147) (hts _ q148) rfl (by rw [hml]; exact hl.1) rfl dX13_init_1 (Nat.le_of_ble_eq_true rfl) (Nat.le_of_ble_eq_true rfl) ?_
  refine W.eq (g2 := F0 m 4 ls []) rfl ?_
  refine lv_aload_n hx hb dX13_init_4 rfl (lv_at hl 0 rfl) ?_
  refine lv_iload_n hx hb dX13_init_5 rfl (lv_at hl 1 rfl) ?_
  have hB := hS.1
  have hL_this : q0 < _ := hT_this.lt
  refine pfF (ty0 := tyX13) (ty := tyX13 0) (v := .int (a_)) (C := RX13) (T := TX13) (N := 3) (k := 0) hx hb hts hown hG hS cl_X13 in_X13 tyX13_ok nmX13 hT_this (Or.inl rfl) (Or.inl rfl) (by decide) q694 rfl hnm rfl (tyX13_ok 0 (by decide)) rfl rfl (Nat.le_of_ble_eq_true rfl) dX13_init_6 (fun H1 locs1 he hz hq hS => ?_)
  have hT_this : va_at D vwCl (q0, .inr (11, [.int (a_), .null, .int 0])) H1 := he
  have hG := gE.ofS hG0 hS (fun q h => by have h : q = q0 := h; rw [h]; exact hq0)
  refine lv_aload_n hx hb dX13_init_9 rfl (lv_at hl 0 rfl) ?_
  refine lv_aload_n hx hb dX13_init_10 rfl (lv_at hl 2 rfl) ?_
  have hB := hS.1
  have hL_this : q0 < _ := hT_this.lt
  refine pfF (ty0 := tyX13) (ty := tyX13 1) (v := .ref (b_)) (C := RX13) (T := TX13) (N := 3) (k := 1) hx hb hts hown hG hS cl_X13 in_X13 tyX13_ok nmX13 hT_this (Or.inl rfl) (Or.inl rfl) (by decide) q696 rfl hnm rfl (tyX13_ok 1 (by decide)) rfl rfl (Nat.le_of_ble_eq_true rfl) dX13_init_11 (fun H1 locs1 he hz hq hS => ?_)
  have hT_this : va_at D vwCl (q0, .inr (11, [.int (a_), .ref (b_), .int 0])) H1 := he
  have hG := gE.ofS hG0 hS (fun q h => by have h : q = q0 := h; rw [h]; exact hq0)
  refine lv_aload_n hx hb dX13_init_14 rfl (lv_at hl 0 rfl) ?_
  refine lv_iload_n hx hb dX13_init_15 rfl (lv_at hl 3 rfl) ?_
  have hB := hS.1
  have hL_this : q0 < _ := hT_this.lt
  refine pfF (ty0 := tyX13) (ty := tyX13 2) (v := .int (c_)) (C := RX13) (T := TX13) (N := 3) (k := 2) hx hb hts hown hG hS cl_X13 in_X13 tyX13_ok nmX13 hT_this (Or.inl rfl) (Or.inl rfl) (by decide) q698 rfl hnm rfl (tyX13_ok 2 (by decide)) rfl rfl (Nat.le_of_ble_eq_true rfl) dX13_init_16 (fun H1 locs1 he hz hq hS => ?_)
  have hT_this : va_at D vwCl (q0, .inr (11, [.int (a_), .ref (b_), .int (c_)])) H1 := he
  have hG := gE.ofS hG0 hS (fun q h => by have h : q = q0 := h; rw [h]; exact hq0)
  exact g_vret hx hb hr hlocks hS ⟨Nat.le_of_ble_eq_true rfl, Nat.le_of_ble_eq_true rfl⟩ dX13_init_19 (by skip; exact ⟨rfl, hT_this⟩)

set_option maxHeartbeats 4000000 in
set_option maxRecDepth 100000 in
theorem met_X14_init (l : Launch) (D : va_G) (E : Nat → Nat) (q0 : Nat)  : GM l D E yX14_init cX14_init 1 (Option.none : Option Jvm.ClassFile.FieldType) 1 12 0 0 [.ref (q0)] (fun h => va_at D vwCl (q0, .inr (12, [.long (0)])) h ∧ E 0 ≤ q0) (fun z => z = q0) (fun z => z = q0) (fun sz v h => v = none ∧ va_at D vwCl (q0, .inr (12, [.long ((58278 : Int64))])) h)  := by
  refine GM.start (by decide) (Nat.le_of_ble_eq_true rfl) ?_
  intro p e s m below meth c ls hx hb hr hml hown hlocks hnm hts hG ⟨hT_this, hq0⟩ hS hl
  have hown : s.vm.findClass RX14 = some m.cls := hown
  have hS0 : xS p m c cX14_init 1 s _ RX14 := ⟨hx, hb, hml, hown, hts⟩
  have hl : lv_has ls 1 [(0, .ref (q0))] := hl
  have hG0 := hG
  refine lv_aload_n hx hb dX14_init_0 rfl (lv_at hl 0 rfl) ?_
  refine W.objInit hx hb hown (hts _ q434) (hts _ q147) (hts _ q148) rfl (by rw [hml]; exact hl.1) rfl dX14_init_1 (Nat.le_of_ble_eq_true rfl) (Nat.le_of_ble_eq_true rfl) ?_
  refine W.eq (g2 := F0 m 4 ls []) rfl ?_
  refine lv_aload_n hx hb dX14_init_4 rfl (lv_at hl 0 rfl) ?_
  refine lv_ldc2 (v := 58278) hx hb hown (hts _ q435) dX14_init_5 ?_
  have hB := hS.1
  have hL_this : q0 < _ := hT_this.lt
  refine pf (ty0 := tyX14) (ty := tyX14 0) (v := .long ((58278 : Int64))) (C := RX14) (T := TX14) (N := 1) (k := 0) hx hb hts hown hG hS cl_X14 in_X14 tyX14_ok nmX14 hT_this (Or.inl rfl) (Or.inl rfl) (by decide) q436 rfl (tyX14_ok 0 (by decide)) rfl rfl (Nat.le_of_ble_eq_true rfl) dX14_init_8 (fun H1 locs1 he hz hq hS => ?_)
  have hT_this : va_at D vwCl (q0, .inr (12, [.long ((58278 : Int64))])) H1 := he
  have hG := gE.ofS hG0 hS (fun q h => by have h : q = q0 := h; rw [h]; exact hq0)
  exact g_vret hx hb hr hlocks hS ⟨Nat.le_of_ble_eq_true rfl, Nat.le_of_ble_eq_true rfl⟩ dX14_init_11 (by skip; exact ⟨rfl, hT_this⟩)

set_option maxHeartbeats 4000000 in
set_option maxRecDepth 100000 in
theorem met_X11_init (l : Launch) (D : va_G) (E : Nat → Nat) (q0 : Nat)  : GM l D E yX11_init cX11_init 1 (Option.none : Option Jvm.ClassFile.FieldType) 1 12 0 0 [.ref (q0)] (fun h => va_at D vwCl (q0, .inr (9, [.int 0, .int 0, .int 0, .int 0, .int 0, .int 0, .int 0, .int 0, .int 0, .int 0, .int 0, .int 0])) h ∧ E 0 ≤ q0) (fun z => z = q0) (fun z => z = q0) (fun sz v h => v = none ∧ va_at D vwCl (q0, .inr (9, [.int 0, .int 0, .int 0, .int 0, .int 0, .int 0, .int 0, .int 0, .int 0, .int 0, .int 0, .int 0])) h)  := by
  refine GM.start (by decide) (Nat.le_of_ble_eq_true rfl) ?_
  intro p e s m below meth c ls hx hb hr hml hown hlocks hnm hts hG ⟨hT_this, hq0⟩ hS hl
  have hown : s.vm.findClass RX11 = some m.cls := hown
  have hS0 : xS p m c cX11_init 1 s _ RX11 := ⟨hx, hb, hml, hown, hts⟩
  have hl : lv_has ls 1 [(0, .ref (q0))] := hl
  have hG0 := hG
  refine lv_aload_n hx hb dX11_init_0 rfl (lv_at hl 0 rfl) ?_
  refine W.objInit hx hb hown (hts _ q1700) (hts _ q147) (hts _ q148) rfl (by rw [hml]; exact hl.1) rfl dX11_init_1 (Nat.le_of_ble_eq_true rfl) (Nat.le_of_ble_eq_true rfl) ?_
  refine W.eq (g2 := F0 m 4 ls []) rfl ?_
  exact g_vret hx hb hr hlocks hS ⟨Nat.le_of_ble_eq_true rfl, Nat.le_of_ble_eq_true rfl⟩ dX11_init_4 (by skip; exact ⟨rfl, hT_this⟩)

set_option maxHeartbeats 4000000 in
set_option maxRecDepth 100000 in
theorem met_X5_init (l : Launch) (D : va_G) (E : Nat → Nat) (q0 : Nat)  : GM l D E yX5_init cX5_init 1 (Option.none : Option Jvm.ClassFile.FieldType) 1 12 0 0 [.ref (q0)] (fun h => va_at D vwCl (q0, .inr (4, [.long (0), .null])) h ∧ E 0 ≤ q0) (fun z => z = q0) (fun z => z = q0) (fun sz v h => v = none ∧ va_at D vwCl (q0, .inr (4, [.long (0), .null])) h)  := by
  refine GM.start (by decide) (Nat.le_of_ble_eq_true rfl) ?_
  intro p e s m below meth c ls hx hb hr hml hown hlocks hnm hts hG ⟨hT_this, hq0⟩ hS hl
  have hown : s.vm.findClass RX5 = some m.cls := hown
  have hS0 : xS p m c cX5_init 1 s _ RX5 := ⟨hx, hb, hml, hown, hts⟩
  have hl : lv_has ls 1 [(0, .ref (q0))] := hl
  have hG0 := hG
  refine lv_aload_n hx hb dX5_init_0 rfl (lv_at hl 0 rfl) ?_
  refine W.objInit hx hb hown (hts _ q742) (hts _ q147) (hts _ q148) rfl (by rw [hml]; exact hl.1) rfl dX5_init_1 (Nat.le_of_ble_eq_true rfl) (Nat.le_of_ble_eq_true rfl) ?_
  refine W.eq (g2 := F0 m 4 ls []) rfl ?_
  exact g_vret hx hb hr hlocks hS ⟨Nat.le_of_ble_eq_true rfl, Nat.le_of_ble_eq_true rfl⟩ dX5_init_4 (by skip; exact ⟨rfl, hT_this⟩)

set_option maxHeartbeats 4000000 in
set_option maxRecDepth 100000 in
theorem met_J17_init (l : Launch) (D : va_G) (E : Nat → Nat) (q0 : Nat) (a_ : Int32)  : GM l D E yJ17_init cJ17_init 2 (Option.none : Option Jvm.ClassFile.FieldType) 2 32 0 0 [.ref (q0), .int (a_)] (fun h => va_at D vwCl (q0, .inr (14, [.int 0])) h ∧ E 0 ≤ q0) (fun z => z = q0) (fun z => z = q0) (fun sz v h => v = none ∧ va_at D vwCl (q0, .inr (14, [.int (a_)])) h)  := by
  refine GM.start (by decide) (Nat.le_of_ble_eq_true rfl) ?_
  intro p e s m below meth c ls hx hb hr hml hown hlocks hnm hts hG ⟨hT_this, hq0⟩ hS hl
  have hown : s.vm.findClass RJ17 = some m.cls := hown
  have hS0 : xS p m c cJ17_init 2 s _ RJ17 := ⟨hx, hb, hml, hown, hts⟩
  have hl : lv_has ls 2 [(0, .ref (q0)), (1, .int (a_))] := hl
  have hG0 := hG
  refine lv_aload_n hx hb dJ17_init_0 rfl (lv_at hl 0 rfl) ?_
  have hB := hS.1
  have hL_this : q0 < _ := hT_this.lt
  refine gcI (As := []) (rest := []) hS0 (met_J16_init l D E q0) q642 q643 q124 q644 rfl hd_J16_init ⟨Nat.le_of_ble_eq_true rfl, Nat.le_of_ble_eq_true rfl⟩ hG trivial rfl hl.1 rfl (Nat.le_of_ble_eq_true rfl) dJ17_init_1 ⟨Nat.le_of_ble_eq_true rfl, Nat.le_of_ble_eq_true rfl⟩ hS (fun q h => h.elim) (fun q h => h.elim) (fun v H1 locs1 hP hz hk hS => ?_)
  obtain rfl := hP
  have hT_this : va_at D vwCl (q0, .inr (14, [.int 0])) H1 := hT_this.kept (hk _ hT_this.lt id)
  have hG := gE.ofS hG0 hS (fun q h => by have h : q = q0 := h; rw [h]; exact hq0)
  refine W.eq (g2 := F0 m 4 ls []) rfl ?_
  refine lv_aload_n hx hb dJ17_init_4 rfl (lv_at hl 0 rfl) ?_
  refine lv_iload_n hx hb dJ17_init_5 rfl (lv_at hl 1 rfl) ?_
  have hB := hS.1
  have hL_this : q0 < _ := hT_this.lt
  refine pfF (ty0 := tyJ17) (ty := tyJ17 0) (v := .int (a_)) (C := RJ17) (T := TJ17) (N := 1) (k := 0) hx hb hts hown hG hS cl_J17 in_J17 tyJ17_ok nmJ17 hT_this (Or.inl rfl) (Or.inl rfl) (by decide) q646 rfl hnm rfl (tyJ17_ok 0 (by decide)) rfl rfl (Nat.le_of_ble_eq_true rfl) dJ17_init_6 (fun H1 locs1 he hz hq hS => ?_)
  have hT_this : va_at D vwCl (q0, .inr (14, [.int (a_)])) H1 := he
  have hG := gE.ofS hG0 hS (fun q h => by have h : q = q0 := h; rw [h]; exact hq0)
  exact g_vret hx hb hr hlocks hS ⟨Nat.le_of_ble_eq_true rfl, Nat.le_of_ble_eq_true rfl⟩ dJ17_init_9 (by skip; exact ⟨rfl, hT_this⟩)

set_option maxHeartbeats 4000000 in
set_option maxRecDepth 100000 in
theorem met_J20_init (l : Launch) (D : va_G) (E : Nat → Nat) (q0 : Nat) (a_ : Nat)  : GM l D E yJ20_init cJ20_init 2 (Option.none : Option Jvm.ClassFile.FieldType) 1 12 0 0 [.ref (q0), .ref (a_)] (fun h => va_at D vwCl (q0, .inr (16, [.null])) h ∧ E 0 ≤ q0) (fun z => z = q0) (fun z => z = q0) (fun sz v h => v = none ∧ va_at D vwCl (q0, .inr (16, [.ref (a_)])) h)  := by
  refine GM.start (by decide) (Nat.le_of_ble_eq_true rfl) ?_
  intro p e s m below meth c ls hx hb hr hml hown hlocks hnm hts hG ⟨hT_this, hq0⟩ hS hl
  have hown : s.vm.findClass RJ20 = some m.cls := hown
  have hS0 : xS p m c cJ20_init 2 s _ RJ20 := ⟨hx, hb, hml, hown, hts⟩
  have hl : lv_has ls 2 [(0, .ref (q0)), (1, .ref (a_))] := hl
  have hG0 := hG
  refine lv_aload_n hx hb dJ20_init_0 rfl (lv_at hl 0 rfl) ?_
  refine W.objInit hx hb hown (hts _ q718) (hts _ q147) (hts _ q148) rfl (by rw [hml]; exact hl.1) rfl dJ20_init_1 (Nat.le_of_ble_eq_true rfl) (Nat.le_of_ble_eq_true rfl) ?_
  refine W.eq (g2 := F0 m 4 ls []) rfl ?_
  refine lv_aload_n hx hb dJ20_init_4 rfl (lv_at hl 0 rfl) ?_
  refine lv_aload_n hx hb dJ20_init_5 rfl (lv_at hl 1 rfl) ?_
  have hB := hS.1
  have hL_this : q0 < _ := hT_this.lt
  refine pfF (ty0 := tyJ20) (ty := tyJ20 0) (v := .ref (a_)) (C := RJ20) (T := TJ20) (N := 1) (k := 0) hx hb hts hown hG hS cl_J20 in_J20 tyJ20_ok nmJ20 hT_this (Or.inl rfl) (Or.inl rfl) (by decide) q719 rfl hnm rfl (tyJ20_ok 0 (by decide)) rfl rfl (Nat.le_of_ble_eq_true rfl) dJ20_init_6 (fun H1 locs1 he hz hq hS => ?_)
  have hT_this : va_at D vwCl (q0, .inr (16, [.ref (a_)])) H1 := he
  have hG := gE.ofS hG0 hS (fun q h => by have h : q = q0 := h; rw [h]; exact hq0)
  exact g_vret hx hb hr hlocks hS ⟨Nat.le_of_ble_eq_true rfl, Nat.le_of_ble_eq_true rfl⟩ dJ20_init_9 (by skip; exact ⟨rfl, hT_this⟩)

