/-! the model: arrays of its own -/
set_option maxRecDepth 100000
theorem nar_of {v : Int32} (h : v &&& 1 = v) : narrow .boolean (.int v) = .int v := by
  show Value.int _ = _
  rw [h]
theorem sw6g {q : Nat} (c0 : ¬ nI q = 0) (c1 : ¬ nI q = 1) (c2 : ¬ nI q = 2) (c3 : ¬ nI q = 3) (c4 : ¬ nI q = 4) (c5 : ¬ nI q = 5) : 5 < q := by
  rcases q with _ | _ | _ | _ | _ | _ | q
  · exact absurd rfl c0
  · exact absurd rfl c1
  · exact absurd rfl c2
  · exact absurd rfl c3
  · exact absurd rfl c4
  · exact absurd rfl c5
  · omega
theorem met_J2_isEmpty (l : Launch) (D : va_G) (E : Nat → Nat) {lst arr n cap : Nat} {mc : Int32} {g : Nat → Option Nat} : PM l D E yJ2_isEmpty cJ2_isEmpty 1 (Option.some Jvm.ClassFile.FieldType.boolean) 0 0 [.ref lst] (LR D E lst arr n cap mc g) (some (.int (bI (decide (nI n = 0))))) := by
  refine PM.start (by decide) (Nat.le_of_ble_eq_true rfl) ?_
  intro p e s m below meth c ls hx hb hr hml hown hlocks hts hG hL hl
  have hown : s.vm.findClass RJ2 = some m.cls := hown
  have hl : lv_has ls 1 [(0, .ref lst)] := hl
  refine lv_aload_n hx hb dJ2_isEmpty_0 rfl (lv_at hl 0 rfl) ?_
  refine gf (v := .int (nI n)) (C := RJ2) (T := TJ2) (N := 3) (k := 2) hx hb hts hown hG cl_J2 in_J2 hL.1 (by decide) q166 rfl dJ2_isEmpty_1 ?_
  refine lv_if_ne (tgt := 11) hx hb dJ2_isEmpty_4 (by decide) (fun c1 => ?_) (fun c1 => ?_)
  · refine lv_iconst (v := 0) hx hb dJ2_isEmpty_11 (by decide) ?_
    exact p_zret (b := decide (nI n = 0)) hx hb hr hlocks dJ2_isEmpty_12 (by rw [decide_eq_false c1]; rfl) rfl
  · refine lv_iconst (v := 1) hx hb dJ2_isEmpty_7 (by decide) ?_
    refine lv_goto (tgt := 12) hx hb dJ2_isEmpty_8 (by decide) ?_
    exact p_zret (b := decide (nI n = 0)) hx hb hr hlocks dJ2_isEmpty_12 (by rw [decide_eq_true c1]; rfl) rfl
theorem met_ml_isEmpty (l : Launch) (D : va_G) (E : Nat → Nat) {β : Nat → Nat → Nat} {F : Nat → Prop} {σ : St} {th ca : Int32} {sm : Int64} {j : Nat} (hj : j < 3) : PM l D E yJ2_isEmpty cJ2_isEmpty 1 (Option.some Jvm.ClassFile.FieldType.boolean) 0 0 [.ref (β 1 j)] (RM D E β F σ th ca sm) (some (.int (bI (decide (nI (mCnt σ j) = 0))))) :=
  PM.ex (ι := Nat × Nat × Int32 × (Nat → Option Nat)) (P2 := fun x H => LR D E (β 1 j) x.1 (mCnt σ j) x.2.1 x.2.2.1 x.2.2.2 H) (fun x => met_J2_isEmpty l D E) (fun H h => by
    obtain ⟨cap, mc, g, h1, -⟩ := h.ls hj
    exact ⟨(β 2 j, cap, mc, g), h1⟩)

def fX4_ofPlayerNow (σ : St) (ui : Nat) (q : Nat) : Int32 :=
  (if (nI q) = 0 then pIns σ ui else (if (nI q) = 1 then pSongs σ ui else (if (nI q) = 2 then nI (pHome σ ui) else (if (nI q) = 3 then pFee σ ui else (if (nI q) = 4 then pFeuds σ ui else (if (nI q) = 5 then pEarned σ ui else ((fX4_weddingsOf σ ui)) (q - 6)))))))
set_option maxHeartbeats 4000000 in
set_option maxRecDepth 100000 in
theorem met_X4_ofPlayerNow (l : Launch) (D : va_G) (E : Nat → Nat) {β : Nat → Nat → Nat} {F : Nat → Prop} {σ : St} {th ca : Int32} {sm : Int64} (ui : Nat) (q : Nat) (h_ui : ui < nP σ) (h_q : q < 9) : GM l D E yX4_ofPlayerNow cX4_ofPlayerNow 4 (Option.some Jvm.ClassFile.FieldType.int) 4 88 1 3 [.ref (β 0 0), .int (nI ui), .int (nI q)] (RM D E β F σ th ca sm) (fun _ => False) (fun _ => False) (fun sz v h => v = some (.int (fX4_ofPlayerNow σ ui q)))  := by
  generalize hR : fX4_ofPlayerNow σ ui q = r
  refine GM.start (by decide) (Nat.le_of_ble_eq_true rfl) ?_
  intro p e s m below meth c ls hx hb hr hml hown hlocks hnm hts hG hM hS hl
  have hown : s.vm.findClass RX4 = some m.cls := hown
  have hS0 : xS p m c cX4_ofPlayerNow 4 s _ RX4 := ⟨hx, hb, hml, hown, hts⟩
  have hl : lv_has ls 4 [(0, .ref (β 0 0)), (1, .int (nI ui)), (2, .int (nI q))] := hl
  have hG0 := hG
  have hM0 := hM
  have hb0P := hM0.nP10
  have hb0B := hM0.nB6
  have hb0W := hM0.nW14
  have hFE := hM.fE
  obtain ⟨Fc, hM, hFn⟩ := hM.nar
  have hFa : ∀ q, Fc q → fN F s.heap.size q := fun q z => Or.inl (hFn q z).1
  have hFb : ∀ q, Fc q → q < s.heap.size := fun q z => (hFn q z).2
  have hcn : cnt σ σ := cnt.rf
  unfold fX4_ofPlayerNow at hR
  refine lv_aload_n hx hb dX4_ofPlayerNow_0 rfl (lv_at hl 0 rfl) ?_
  refine gf (v := .ref (β 1 0)) (C := RX4) (T := TX4) (N := 13) (k := 3) hx hb hts hown hG cl_X4 in_X4 hM.ag (by decide) q1543 rfl dX4_ofPlayerNow_1 ?_
  refine lv_iload_n hx hb dX4_ofPlayerNow_4 rfl (lv_at hl 1 rfl) ?_
  refine pcV (As := [.int (nI ui)]) (rest := []) hS0 (met_ml_get l D E (j := 0) (by decide) ui h_ui) q1639 q349 q2082 q103 q351 hd_J2_get ⟨Nat.le_of_ble_eq_true rfl, Nat.le_of_ble_eq_true rfl⟩ hG (hM.lsR hG (j := 0) (by decide)) hM rfl hl.1 rfl (Nat.le_of_ble_eq_true rfl) dX4_ofPlayerNow_5 ⟨Nat.le_of_ble_eq_true rfl, Nat.le_of_ble_eq_true rfl⟩ ?_
  refine W.eq (g2 := F0 m 8 ls [.ref (β 3 ui)]) rfl ?_
  refine gc (ci := 6) hx hb hown hG cl_X7 (rcv hG cl_X7 (hM.pl h_ui)) (hts _ q1601) dX4_ofPlayerNow_8 ?_
  refine lv_astore_n (lv' := [(3, .ref (β 3 ui)), (0, .ref (β 0 0)), (1, .int (nI ui)), (2, .int (nI q))]) hx hb dX4_ofPlayerNow_11 rfl hl (Nat.le_of_ble_eq_true rfl) rfl (fun ls hl => ?_)
  refine lv_iload_n hx hb dX4_ofPlayerNow_12 rfl (lv_at hl 3 rfl) ?_
  by_cases c1 : (nI q) = 0
  · rw [if_pos c1] at hR
    refine lv_eq c1 ?_
    refine lv_tableIn (x := 0) (off := 39) (tgt := 52) hx hb dX4_ofPlayerNow_13 (by decide) (by decide) (by decide) (by decide) ?_
    refine lv_aload_n hx hb dX4_ofPlayerNow_52 rfl (lv_at hl 0 rfl) ?_
    refine gfN (v := .int (pIns σ ui)) (C := RX7) (T := TX7) (N := 7) (k := 0) hx hb hts hown hG cl_X7 in_X7 (hM.pl h_ui) (by decide) q1607 rfl dX4_ofPlayerNow_53 ?_
    exact g_iret hx hb hr hlocks hS ⟨Nat.le_of_ble_eq_true rfl, Nat.le_of_ble_eq_true rfl⟩ dX4_ofPlayerNow_56 (by subst hR; exact rfl)
  rw [if_neg c1] at hR
  by_cases c2 : (nI q) = 1
  · rw [if_pos c2] at hR
    refine lv_eq c2 ?_
    refine lv_tableIn (x := 1) (off := 44) (tgt := 57) hx hb dX4_ofPlayerNow_13 (by decide) (by decide) (by decide) (by decide) ?_
    refine lv_aload_n hx hb dX4_ofPlayerNow_57 rfl (lv_at hl 0 rfl) ?_
    refine gfN (v := .int (pSongs σ ui)) (C := RX7) (T := TX7) (N := 7) (k := 1) hx hb hts hown hG cl_X7 in_X7 (hM.pl h_ui) (by decide) q1608 rfl dX4_ofPlayerNow_58 ?_
    exact g_iret hx hb hr hlocks hS ⟨Nat.le_of_ble_eq_true rfl, Nat.le_of_ble_eq_true rfl⟩ dX4_ofPlayerNow_61 (by subst hR; exact rfl)
  rw [if_neg c2] at hR
  by_cases c3 : (nI q) = 2
  · rw [if_pos c3] at hR
    refine lv_eq c3 ?_
    refine lv_tableIn (x := 2) (off := 49) (tgt := 62) hx hb dX4_ofPlayerNow_13 (by decide) (by decide) (by decide) (by decide) ?_
    refine lv_aload_n hx hb dX4_ofPlayerNow_62 rfl (lv_at hl 0 rfl) ?_
    refine gfN (v := .int (nI (pHome σ ui))) (C := RX7) (T := TX7) (N := 7) (k := 2) hx hb hts hown hG cl_X7 in_X7 (hM.pl h_ui) (by decide) q1609 rfl dX4_ofPlayerNow_63 ?_
    exact g_iret hx hb hr hlocks hS ⟨Nat.le_of_ble_eq_true rfl, Nat.le_of_ble_eq_true rfl⟩ dX4_ofPlayerNow_66 (by subst hR; exact rfl)
  rw [if_neg c3] at hR
  by_cases c4 : (nI q) = 3
  · rw [if_pos c4] at hR
    refine lv_eq c4 ?_
    refine lv_tableIn (x := 3) (off := 54) (tgt := 67) hx hb dX4_ofPlayerNow_13 (by decide) (by decide) (by decide) (by decide) ?_
    refine lv_aload_n hx hb dX4_ofPlayerNow_67 rfl (lv_at hl 0 rfl) ?_
    refine gfN (v := .int (pFee σ ui)) (C := RX7) (T := TX7) (N := 7) (k := 3) hx hb hts hown hG cl_X7 in_X7 (hM.pl h_ui) (by decide) q1610 rfl dX4_ofPlayerNow_68 ?_
    exact g_iret hx hb hr hlocks hS ⟨Nat.le_of_ble_eq_true rfl, Nat.le_of_ble_eq_true rfl⟩ dX4_ofPlayerNow_71 (by subst hR; exact rfl)
  rw [if_neg c4] at hR
  by_cases c5 : (nI q) = 4
  · rw [if_pos c5] at hR
    refine lv_eq c5 ?_
    refine lv_tableIn (x := 4) (off := 59) (tgt := 72) hx hb dX4_ofPlayerNow_13 (by decide) (by decide) (by decide) (by decide) ?_
    refine lv_aload_n hx hb dX4_ofPlayerNow_72 rfl (lv_at hl 0 rfl) ?_
    refine gfN (v := .int (pFeuds σ ui)) (C := RX7) (T := TX7) (N := 7) (k := 4) hx hb hts hown hG cl_X7 in_X7 (hM.pl h_ui) (by decide) q1611 rfl dX4_ofPlayerNow_73 ?_
    exact g_iret hx hb hr hlocks hS ⟨Nat.le_of_ble_eq_true rfl, Nat.le_of_ble_eq_true rfl⟩ dX4_ofPlayerNow_76 (by subst hR; exact rfl)
  rw [if_neg c5] at hR
  by_cases c6 : (nI q) = 5
  · rw [if_pos c6] at hR
    refine lv_eq c6 ?_
    refine lv_tableIn (x := 5) (off := 64) (tgt := 77) hx hb dX4_ofPlayerNow_13 (by decide) (by decide) (by decide) (by decide) ?_
    refine lv_aload_n hx hb dX4_ofPlayerNow_77 rfl (lv_at hl 0 rfl) ?_
    refine gfN (v := .int (pEarned σ ui)) (C := RX7) (T := TX7) (N := 7) (k := 5) hx hb hts hown hG cl_X7 in_X7 (hM.pl h_ui) (by decide) q1612 rfl dX4_ofPlayerNow_78 ?_
    exact g_iret hx hb hr hlocks hS ⟨Nat.le_of_ble_eq_true rfl, Nat.le_of_ble_eq_true rfl⟩ dX4_ofPlayerNow_81 (by subst hR; exact rfl)
  rw [if_neg c6] at hR
  refine lv_tableOut (tgt := 82) hx hb dX4_ofPlayerNow_13 (sw_out (lo := 0) (hi := 5) (by decide) (by decide) (fun z h1 h2 => by rcases (show z = 0 ∨ z = 1 ∨ z = 2 ∨ z = 3 ∨ z = 4 ∨ z = 5 by omega) with rfl | rfl | rfl | rfl | rfl | rfl <;> first | exact c1 | exact c2 | exact c3 | exact c4 | exact c5 | exact c6)) (by decide) ?_
  refine lv_aload_n hx hb dX4_ofPlayerNow_82 rfl (lv_at hl 1 rfl) ?_
  refine lv_iload_n hx hb dX4_ofPlayerNow_83 rfl (lv_at hl 2 rfl) ?_
  have hB := hS.1
  refine gcV (As := [.int (nI ui)]) (rest := []) hS0 (met_X4_weddingsOf l D E ui) q1917 q1919 qs85 q110 q1920 hd_X4_weddingsOf ⟨Nat.le_of_ble_eq_true rfl, Nat.le_of_ble_eq_true rfl⟩ hG (rcv hG cl_X4 hM.ag) hM rfl hl.1 rfl (Nat.le_of_ble_eq_true rfl) dX4_ofPlayerNow_84 ⟨Nat.le_of_ble_eq_true rfl, Nat.le_of_ble_eq_true rfl⟩ hS (fun q h => h.elim) (fun q h => h.elim) (fun v H1 locs1 hP hz hk hS => ?_)
  obtain ⟨q84, rfl, hq9, hT_t84⟩ := hP
  have hM := hM.kept (fun q h4 _ => hk q h4 id)
  have hG := gE.ofS hG0 hS (fun _ h => h.elim)
  have hge_t84 : s.heap.size ≤ q84 := by have := hB; omega
  have hd_t84 : ¬ Fc q84 := fun z => by have := hFb _ z; omega
  refine W.eq (g2 := F0 m 87 ls [.ref (q84)]) rfl ?_
  refine lv_iload_n hx hb dX4_ofPlayerNow_87 rfl (lv_at hl 3 rfl) ?_
  refine lv_bipush (v := 6) hx hb dX4_ofPlayerNow_88 (by decide) ?_
  refine lv_isub hx hb dX4_ofPlayerNow_90 ?_
  refine lv_eq (nI_sb (a := q) (b := 6) (sw6g c1 c2 c3 c4 c5 c6)) ?_
  refine gaI (N := 3) (k := q - 6) hx hb hG hT_t84 (show q - 6 < 3 from by omega) (by decide) dX4_ofPlayerNow_91 ?_
  exact g_iret hx hb hr hlocks hS ⟨Nat.le_of_ble_eq_true rfl, Nat.le_of_ble_eq_true rfl⟩ dX4_ofPlayerNow_92 (by subst hR; exact rfl)

def fX4_apart_L22 (σ : St)  (κ : Int32 → Int32 → Int32) : Nat → Nat → Int32 → Int32 → Int32
  | 0, i3, a1, a2 => κ a1 a2
  | n + 1, i3, a1, a2 => fX4_apart_L22 σ κ n (i3 + 1) (if a1 < (((fX4_weddingsOf σ i3)) 2) then (((fX4_weddingsOf σ i3)) 2) else a1) (if (((fX4_weddingsOf σ i3)) 2) < a2 then (((fX4_weddingsOf σ i3)) 2) else a2)
def fX4_apart (σ : St) : Int32 :=
  (if ((decide (nI (nP σ) = 0))) = true then fX4_apart_L22 σ (fun (a4 : Int32) (a5 : Int32) => a4 - a5) (nP σ) 0 0 0 else fX4_apart_L22 σ (fun (a2 : Int32) (a3 : Int32) => a2 - a3) (nP σ) 0 0 9999)
set_option maxHeartbeats 4000000 in
set_option maxRecDepth 100000 in
theorem met_X4_apart (l : Launch) (D : va_G) (E : Nat → Nat) {β : Nat → Nat → Nat} {F : Nat → Prop} {σ : St} {th ca : Int32} {sm : Int64}   : GM l D E yX4_apart cX4_apart 5 (Option.some Jvm.ClassFile.FieldType.int) 4 88 11 33 [.ref (β 0 0)] (RM D E β F σ th ca sm) (fun _ => False) (fun _ => False) (fun sz v h => v = some (.int (fX4_apart σ)))  := by
  generalize hR : fX4_apart σ = r
  refine GM.start (by decide) (Nat.le_of_ble_eq_true rfl) ?_
  intro p e s m below meth c ls hx hb hr hml hown hlocks hnm hts hG hM hS hl
  have hown : s.vm.findClass RX4 = some m.cls := hown
  have hS0 : xS p m c cX4_apart 5 s _ RX4 := ⟨hx, hb, hml, hown, hts⟩
  have hl : lv_has ls 5 [(0, .ref (β 0 0))] := hl
  have hG0 := hG
  have hM0 := hM
  have hb0P := hM0.nP10
  have hb0B := hM0.nB6
  have hb0W := hM0.nW14
  have hFE := hM.fE
  obtain ⟨Fc, hM, hFn⟩ := hM.nar
  have hFa : ∀ q, Fc q → fN F s.heap.size q := fun q z => Or.inl (hFn q z).1
  have hFb : ∀ q, Fc q → q < s.heap.size := fun q z => (hFn q z).2
  have hcn : cnt σ σ := cnt.rf
  have hL22 : ∀  (κ : Int32 → Int32 → Int32) (hκ : ∀ (a1 : Int32) (a2 : Int32) (H : Heap) (locs : List Loc) (Fc : Nat → Prop) (ls : Array Slot), κ a1 a2 = r → RM D E β Fc σ th ca sm H → (∀ q, Fc q → fN F s.heap.size q) → (∀ q, Fc q → q < H.size) → xK (fun _ => False) (fun _ => False) s.heap H locs → lv_has ls 5 [(1, .int (a1)), (2, .int (a2))] → W p l e { frames := 4, cells := 11, slots := 33, locals := 88 } s m [(.ref (β 0 0) : Value)].toArray below meth c H locs (0 + 10) (0 + 30) (MQ below (qG (fun _ => False) ((fun sz v h => v = some (.int r)) s.heap.size)) [(.ref (β 0 0) : Value)].toArray s 11 33 (fN (fun _ => False) s.heap.size)) (F0 m 62 ls [])) (n : Nat) (i3 : Nat) (a1 : Int32) (a2 : Int32) , i3 + n = nP σ → fX4_apart_L22 σ κ n i3 a1 a2 = r → ∀ (H : Heap) (locs : List Loc) (Fc : Nat → Prop), RM D E β Fc σ th ca sm H → (∀ q, Fc q → fN F s.heap.size q) → (∀ q, Fc q → q < H.size) → xK (fun _ => False) (fun _ => False) s.heap H locs → ∀ (ls : Array Slot), lv_has ls 5 [(0, .ref (β 0 0)), (1, .int (a1)), (2, .int (a2)), (3, .int (nI i3))] → W p l e { frames := 4, cells := 11, slots := 33, locals := 88 } s m [(.ref (β 0 0) : Value)].toArray below meth c H locs (0 + i3 * 1) (0 + i3 * 3) (MQ below (qG (fun _ => False) ((fun sz v h => v = some (.int r)) s.heap.size)) [(.ref (β 0 0) : Value)].toArray s 11 33 (fN (fun _ => False) s.heap.size)) (F0 m 22 ls []) := by
    intro  κ hκ n
    induction n with
    | zero =>
      intro i3 a1 a2 hn hR H locs Fc hM hFa hFb hS ls hl
      rw [fX4_apart_L22] at hR
      have hG := gE.ofS hG0 hS (fun _ h => h.elim)
      have hb_i3 : i3 ≤ 10 := by have := hM0.nP10; have := hM0.nB6; have := hM0.nW14; omega
      refine lv_iload_n hx hb dX4_apart_22 rfl (lv_at hl 3 rfl) ?_
      refine lv_aload_n hx hb dX4_apart_23 rfl (lv_at hl 0 rfl) ?_
      refine gf (v := .ref (β 1 0)) (C := RX4) (T := TX4) (N := 13) (k := 3) hx hb hts hown hG cl_X4 in_X4 hM.ag (by decide) q1543 rfl dX4_apart_24 ?_
      refine pcV (As := []) (rest := [.int (nI i3)]) hS0 (met_ml_size l D E (j := 0) (by decide)) q1600 q336 q2080 q103 q338 hd_J2_size ⟨Nat.le_of_ble_eq_true rfl, Nat.le_of_ble_eq_true rfl⟩ hG (hM.lsR hG (j := 0) (by decide)) hM rfl hl.1 rfl (Nat.le_of_ble_eq_true rfl) dX4_apart_27 ⟨by show _ ≤ 11; omega, by show _ ≤ 33; omega⟩ ?_
      refine W.eq (g2 := F0 m 30 ls [.int (nI (nP σ)), .int (nI i3)]) rfl ?_
      refine lk_ge_out (k := i3) (N := nP σ) hx hb hn (tgt := 62) dX4_apart_30 (by decide) ?_
      exact W.widen (by show _ ≤ _; omega) (by show _ ≤ _; omega) (hκ a1 a2 _ _ _ ls hR hM hFa (fun q z => by have := hFb q z; omega) hS (lv_sub hl [1, 2] rfl))
    | succ n ih =>
      intro i3 a1 a2 hn hR H locs Fc hM hFa hFb hS ls hl
      rw [fX4_apart_L22] at hR
      have hG := gE.ofS hG0 hS (fun _ h => h.elim)
      have hb_i3 : i3 ≤ 10 := by have := hM0.nP10; have := hM0.nB6; have := hM0.nW14; omega
      refine lv_iload_n hx hb dX4_apart_22 rfl (lv_at hl 3 rfl) ?_
      refine lv_aload_n hx hb dX4_apart_23 rfl (lv_at hl 0 rfl) ?_
      refine gf (v := .ref (β 1 0)) (C := RX4) (T := TX4) (N := 13) (k := 3) hx hb hts hown hG cl_X4 in_X4 hM.ag (by decide) q1543 rfl dX4_apart_24 ?_
      refine pcV (As := []) (rest := [.int (nI i3)]) hS0 (met_ml_size l D E (j := 0) (by decide)) q1600 q336 q2080 q103 q338 hd_J2_size ⟨Nat.le_of_ble_eq_true rfl, Nat.le_of_ble_eq_true rfl⟩ hG (hM.lsR hG (j := 0) (by decide)) hM rfl hl.1 rfl (Nat.le_of_ble_eq_true rfl) dX4_apart_27 ⟨by show _ ≤ 11; omega, by show _ ≤ 33; omega⟩ ?_
      refine W.eq (g2 := F0 m 30 ls [.int (nI (nP σ)), .int (nI i3)]) rfl ?_
      have hki3 : i3 < nP σ := lk_lt hn
      refine lk_ge_in (k := i3) (N := nP σ) hx hb hki3 (by have := hM.nP10; have := hM.nW14; have := hM.nB6; omega) (tgt := 62) dX4_apart_30 (by decide) ?_
      refine lv_aload_n hx hb dX4_apart_33 rfl (lv_at hl 0 rfl) ?_
      refine lv_iload_n hx hb dX4_apart_34 rfl (lv_at hl 3 rfl) ?_
      have hB := hS.1
      refine gcV (As := [.int (nI i3)]) (rest := []) hS0 (met_X4_weddingsOf l D E i3) q1917 q1919 qs85 q110 q1920 hd_X4_weddingsOf ⟨Nat.le_of_ble_eq_true rfl, Nat.le_of_ble_eq_true rfl⟩ hG (rcv hG cl_X4 hM.ag) hM rfl hl.1 rfl (Nat.le_of_ble_eq_true rfl) dX4_apart_35 ⟨by show _ ≤ 11; omega, by show _ ≤ 33; omega⟩ hS (fun q h => h.elim) (fun q h => h.elim) (fun v H1 locs1 hP hz hk hS => ?_)
      obtain ⟨q35, rfl, hq9, hT_t35⟩ := hP
      have hM := hM.kept (fun q h4 _ => hk q h4 id)
      have hG := gE.ofS hG0 hS (fun _ h => h.elim)
      have hge_t35 : s.heap.size ≤ q35 := by have := hB; omega
      have hd_t35 : ¬ Fc q35 := fun z => by have := hFb _ z; omega
      refine W.eq (g2 := F0 m 38 ls [.ref (q35)]) rfl ?_
      refine lv_iconst (v := 2) hx hb dX4_apart_38 (by decide) ?_
      refine gaI (N := 3) (k := 2) hx hb hG hT_t35 (by decide) (by decide) dX4_apart_39 ?_
      refine lv_istore (lv' := [(4, .int (((fX4_weddingsOf σ i3)) 2)), (0, .ref (β 0 0)), (1, .int (a1)), (2, .int (a2)), (3, .int (nI i3))]) hx hb dX4_apart_40 hl (Nat.le_of_ble_eq_true rfl) rfl (fun ls hl => ?_)
      refine lv_iload_n hx hb dX4_apart_42 rfl (lv_at hl 2 rfl) ?_
      refine lv_iload hx hb dX4_apart_43 (lv_at hl 0 rfl) ?_
      refine va_mmax hx hb (hml.trans hl.1.symm) hown (hts _ q1860) (hts _ q249) (hts _ q107) (hts _ q250) (Nat.le_of_ble_eq_true rfl) (Nat.le_of_ble_eq_true rfl) (by show _ ≤ 11; omega) (by show _ ≤ 33; omega) dX4_apart_45 ?_
      refine W.eq (g2 := F0 m 48 ls [.int (if a1 < (((fX4_weddingsOf σ i3)) 2) then (((fX4_weddingsOf σ i3)) 2) else a1)]) rfl ?_
      refine lv_istore_n (lv' := [(1, .int (if a1 < (((fX4_weddingsOf σ i3)) 2) then (((fX4_weddingsOf σ i3)) 2) else a1)), (4, .int (((fX4_weddingsOf σ i3)) 2)), (0, .ref (β 0 0)), (2, .int (a2)), (3, .int (nI i3))]) hx hb dX4_apart_48 rfl hl (Nat.le_of_ble_eq_true rfl) rfl (fun ls hl => ?_)
      refine lv_iload_n hx hb dX4_apart_49 rfl (lv_at hl 3 rfl) ?_
      refine lv_iload hx hb dX4_apart_50 (lv_at hl 1 rfl) ?_
      refine va_mmin hx hb (hml.trans hl.1.symm) hown (hts _ q1907) (hts _ q293) (hts _ q107) (hts _ q294) (Nat.le_of_ble_eq_true rfl) (Nat.le_of_ble_eq_true rfl) (by show _ ≤ 11; omega) (by show _ ≤ 33; omega) dX4_apart_52 ?_
      refine W.eq (g2 := F0 m 55 ls [.int (if (((fX4_weddingsOf σ i3)) 2) < a2 then (((fX4_weddingsOf σ i3)) 2) else a2)]) rfl ?_
      refine lv_istore_n (lv' := [(2, .int (if (((fX4_weddingsOf σ i3)) 2) < a2 then (((fX4_weddingsOf σ i3)) 2) else a2)), (1, .int (if a1 < (((fX4_weddingsOf σ i3)) 2) then (((fX4_weddingsOf σ i3)) 2) else a1)), (4, .int (((fX4_weddingsOf σ i3)) 2)), (0, .ref (β 0 0)), (3, .int (nI i3))]) hx hb dX4_apart_55 rfl hl (Nat.le_of_ble_eq_true rfl) rfl (fun ls hl => ?_)
      refine lv_iinc (v := nI (i3 + 1)) (lv' := [(3, .int (nI (i3 + 1))), (2, .int (if (((fX4_weddingsOf σ i3)) 2) < a2 then (((fX4_weddingsOf σ i3)) 2) else a2)), (1, .int (if a1 < (((fX4_weddingsOf σ i3)) 2) then (((fX4_weddingsOf σ i3)) 2) else a1)), (4, .int (((fX4_weddingsOf σ i3)) 2)), (0, .ref (β 0 0))]) hx hb dX4_apart_56 hl (k := 4) rfl (nI_1 i3) (Nat.le_of_ble_eq_true rfl) rfl (fun ls hl => ?_)
      refine lv_goto (tgt := 22) hx hb dX4_apart_59 (by decide) ?_
      exact W.widen (by show _ ≤ _; omega) (by show _ ≤ _; omega) (ih (i3 + 1) (if a1 < (((fX4_weddingsOf σ i3)) 2) then (((fX4_weddingsOf σ i3)) 2) else a1) (if (((fX4_weddingsOf σ i3)) 2) < a2 then (((fX4_weddingsOf σ i3)) 2) else a2) (lk_st hn) hR _ _ _ hM hFa (fun q z => by have := hFb q z; omega) hS ls (lv_sub hl [4, 2, 1, 0] rfl))
  unfold fX4_apart at hR
  refine lv_iconst (v := 0) hx hb dX4_apart_0 (by decide) ?_
  refine lv_istore_n (lv' := [(1, .int 0), (0, .ref (β 0 0))]) hx hb dX4_apart_1 rfl hl (Nat.le_of_ble_eq_true rfl) rfl (fun ls hl => ?_)
  refine lv_aload_n hx hb dX4_apart_2 rfl (lv_at hl 1 rfl) ?_
  refine gf (v := .ref (β 1 0)) (C := RX4) (T := TX4) (N := 13) (k := 3) hx hb hts hown hG cl_X4 in_X4 hM.ag (by decide) q1543 rfl dX4_apart_3 ?_
  refine pcV (As := []) (rest := []) hS0 (met_ml_isEmpty l D E (j := 0) (by decide)) q2006 q2007 q2008 q103 q2009 hd_J2_isEmpty ⟨Nat.le_of_ble_eq_true rfl, Nat.le_of_ble_eq_true rfl⟩ hG (hM.lsR hG (j := 0) (by decide)) hM rfl hl.1 rfl (Nat.le_of_ble_eq_true rfl) dX4_apart_6 ⟨Nat.le_of_ble_eq_true rfl, Nat.le_of_ble_eq_true rfl⟩ ?_
  refine W.eq (g2 := F0 m 9 ls [.int (bI ((decide (nI (nP σ) = 0))))]) rfl ?_
  refine lb_if_eq (tgt := 16) hx hb dX4_apart_9 (by decide) (fun c1 => ?_) (fun c1 => ?_)
  · rw [if_neg c1] at hR
    refine lv_sipush (v := 9999) hx hb dX4_apart_16 (by decide) ?_
    refine lv_istore_n (lv' := [(2, .int 9999), (1, .int 0), (0, .ref (β 0 0))]) hx hb dX4_apart_19 rfl hl (Nat.le_of_ble_eq_true rfl) rfl (fun ls hl => ?_)
    refine lv_iconst (v := 0) hx hb dX4_apart_20 (by decide) ?_
    refine lv_istore_n (lv' := [(3, .int 0), (2, .int 9999), (1, .int 0), (0, .ref (β 0 0))]) hx hb dX4_apart_21 rfl hl (Nat.le_of_ble_eq_true rfl) rfl (fun ls hl => ?_)
    refine W.widen (k := 0 + 0 * 1) (n := 0 + 0 * 3) (by show _ ≤ _; omega) (by show _ ≤ _; omega) ?_
    refine hL22  _ (fun a2 a3 H1 locs1 Fc ls hR hM hFa hFb hS hl => ?_) (nP σ) 0 0 9999  (Nat.zero_add _) hR _ _ _ hM hFa (fun q z => by have := hFb q z; omega) hS ls (lv_sub hl [3, 2, 1, 0] rfl)
    try dsimp only at hR
    have hG := gE.ofS hG0 hS (fun _ h => h.elim)
    refine lv_iload_n hx hb dX4_apart_62 rfl (lv_at hl 0 rfl) ?_
    refine lv_iload_n hx hb dX4_apart_63 rfl (lv_at hl 1 rfl) ?_
    refine lv_isub hx hb dX4_apart_64 ?_
    exact g_iret hx hb hr hlocks hS ⟨by show _ ≤ 11; omega, by show _ ≤ 33; omega⟩ dX4_apart_65 (by subst hR; exact rfl)
  · rw [if_pos c1] at hR
    refine lv_iconst (v := 0) hx hb dX4_apart_12 (by decide) ?_
    refine lv_goto (tgt := 19) hx hb dX4_apart_13 (by decide) ?_
    refine lv_istore_n (lv' := [(2, .int 0), (1, .int 0), (0, .ref (β 0 0))]) hx hb dX4_apart_19 rfl hl (Nat.le_of_ble_eq_true rfl) rfl (fun ls hl => ?_)
    refine lv_iconst (v := 0) hx hb dX4_apart_20 (by decide) ?_
    refine lv_istore_n (lv' := [(3, .int 0), (2, .int 0), (1, .int 0), (0, .ref (β 0 0))]) hx hb dX4_apart_21 rfl hl (Nat.le_of_ble_eq_true rfl) rfl (fun ls hl => ?_)
    refine W.widen (k := 0 + 0 * 1) (n := 0 + 0 * 3) (by show _ ≤ _; omega) (by show _ ≤ _; omega) ?_
    refine hL22  _ (fun a4 a5 H1 locs1 Fc ls hR hM hFa hFb hS hl => ?_) (nP σ) 0 0 0  (Nat.zero_add _) hR _ _ _ hM hFa (fun q z => by have := hFb q z; omega) hS ls (lv_sub hl [3, 2, 1, 0] rfl)
    try dsimp only at hR
    have hG := gE.ofS hG0 hS (fun _ h => h.elim)
    refine lv_iload_n hx hb dX4_apart_62 rfl (lv_at hl 0 rfl) ?_
    refine lv_iload_n hx hb dX4_apart_63 rfl (lv_at hl 1 rfl) ?_
    refine lv_isub hx hb dX4_apart_64 ?_
    exact g_iret hx hb hr hlocks hS ⟨by show _ ≤ 11; omega, by show _ ≤ 33; omega⟩ dX4_apart_65 (by subst hR; exact rfl)

def fX4_deskNow_L95 (σ : St) (ca : Int32) (q : Int32)  (κ : Int32 → Int32) : Nat → Nat → Int32 → Int32
  | 0, i3, a2 => κ a2
  | n + 1, i3, a2 => (if (nI (wState σ i3)) = (q - 4) then fX4_deskNow_L95 σ ca q κ n (i3 + 1) (a2 + 1) else fX4_deskNow_L95 σ ca q κ n (i3 + 1) (a2 + 0))
def fX4_deskNow_L149 (σ : St) (ca : Int32) (q : Int32)  (κ : Int32 → Int32) : Nat → Nat → Int32 → Int32
  | 0, i3, a2 => κ a2
  | n + 1, i3, a2 => fX4_deskNow_L149 σ ca q κ n (i3 + 1) (a2 + (nI (popc (pFeuds σ i3))))
def fX4_deskNow_L192 (σ : St) (ca : Int32) (q : Int32)  (κ : Int32 → Int32) : Nat → Nat → Int32 → Int32
  | 0, i3, a2 => κ a2
  | n + 1, i3, a2 => fX4_deskNow_L192 σ ca q κ n (i3 + 1) (a2 + (pEarned σ i3))
def fX4_deskNow_L265 (σ : St) (ca : Int32) (q : Int32) (i3 : Nat) (κ : Int32 → Int32) : Nat → Nat → Int32 → Int32
  | 0, i6, a2_265 => κ a2_265
  | n + 1, i6, a2_265 => (if (pOff σ i3 i6) = 0 then fX4_deskNow_L265 σ ca q i3 κ n (i6 + 1) (a2_265 + 0) else fX4_deskNow_L265 σ ca q i3 κ n (i6 + 1) (a2_265 + 1))
def fX4_deskNow_L230 (σ : St) (ca : Int32) (q : Int32)  (κ : Int32 → Int32) : Nat → Nat → Int32 → Int32
  | 0, i3, a2 => κ a2
  | n + 1, i3, a2 => fX4_deskNow_L265 σ ca q i3 (fun (a24 : Int32) => fX4_deskNow_L230 σ ca q κ n (i3 + 1) a24) 366 0 a2
def fX4_deskNow (σ : St) (ca : Int32) (q : Int32) : Int32 :=
  (if q = 0 then tod σ else (if q = 1 then nI (nP σ) else (if q = 2 then nI (nB σ) else (if q = 3 then nI (nW σ) else (if q = 4 then fX4_deskNow_L95 σ ca q (fun (a7 : Int32) => a7) (nW σ) 0 0 else (if q = 5 then fX4_deskNow_L95 σ ca q (fun (a10 : Int32) => a10) (nW σ) 0 0 else (if q = 6 then fX4_deskNow_L95 σ ca q (fun (a13 : Int32) => a13) (nW σ) 0 0 else (if q = 7 then fX4_deskNow_L95 σ ca q (fun (a16 : Int32) => a16) (nW σ) 0 0 else (if q = 8 then ca else (if q = 9 then fX4_deskNow_L149 σ ca q (fun (a19 : Int32) => a19 / 2) (nP σ) 0 0 else (if q = 10 then fX4_deskNow_L192 σ ca q (fun (a21 : Int32) => a21) (nP σ) 0 0 else (if q = 11 then fX4_deskNow_L230 σ ca q (fun (a25 : Int32) => a25) (nP σ) 0 0 else (fX4_apart σ)))))))))))))
set_option maxHeartbeats 4000000 in
set_option maxRecDepth 100000 in
theorem met_X4_deskNow (l : Launch) (D : va_G) (E : Nat → Nat) {β : Nat → Nat → Nat} {F : Nat → Prop} {σ : St} {th ca : Int32} {sm : Int64} (q : Int32)  : GM l D E yX4_deskNow cX4_deskNow 8 (Option.some Jvm.ClassFile.FieldType.int) 5 112 11 33 [.ref (β 0 0), .int (q)] (RM D E β F σ th ca sm) (fun _ => False) (fun _ => False) (fun sz v h => v = some (.int (fX4_deskNow σ ca q)))  := by
  generalize hR : fX4_deskNow σ ca q = r
  refine GM.start (by decide) (Nat.le_of_ble_eq_true rfl) ?_
  intro p e s m below meth c ls hx hb hr hml hown hlocks hnm hts hG hM hS hl
  have hown : s.vm.findClass RX4 = some m.cls := hown
  have hS0 : xS p m c cX4_deskNow 8 s _ RX4 := ⟨hx, hb, hml, hown, hts⟩
  have hl : lv_has ls 8 [(0, .ref (β 0 0)), (1, .int (q))] := hl
  have hG0 := hG
  have hM0 := hM
  have hb0P := hM0.nP10
  have hb0B := hM0.nB6
  have hb0W := hM0.nW14
  have hFE := hM.fE
  obtain ⟨Fc, hM, hFn⟩ := hM.nar
  have hFa : ∀ q, Fc q → fN F s.heap.size q := fun q z => Or.inl (hFn q z).1
  have hFb : ∀ q, Fc q → q < s.heap.size := fun q z => (hFn q z).2
  have hcn : cnt σ σ := cnt.rf
  have hL95 : ∀  (κ : Int32 → Int32) (hκ : ∀ (a2 : Int32) (H : Heap) (locs : List Loc) (Fc : Nat → Prop) (ls : Array Slot), κ a2 = r → RM D E β Fc σ th ca sm H → (∀ q, Fc q → fN F s.heap.size q) → (∀ q, Fc q → q < H.size) → xK (fun _ => False) (fun _ => False) s.heap H locs → lv_has ls 8 [(2, .int (a2))] → W p l e { frames := 5, cells := 11, slots := 33, locals := 112 } s m [(.ref (β 0 0) : Value), .int (q)].toArray below meth c H locs 0 0 (MQ below (qG (fun _ => False) ((fun sz v h => v = some (.int r)) s.heap.size)) [(.ref (β 0 0) : Value), .int (q)].toArray s 11 33 (fN (fun _ => False) s.heap.size)) (F0 m 140 ls [])) (n : Nat) (i3 : Nat) (a2 : Int32) , i3 + n = nW σ → fX4_deskNow_L95 σ ca q κ n i3 a2 = r → ∀ (H : Heap) (locs : List Loc) (Fc : Nat → Prop), RM D E β Fc σ th ca sm H → (∀ q, Fc q → fN F s.heap.size q) → (∀ q, Fc q → q < H.size) → xK (fun _ => False) (fun _ => False) s.heap H locs → ∀ (ls : Array Slot), lv_has ls 8 [(0, .ref (β 0 0)), (1, .int (q)), (2, .int (a2)), (3, .int (nI i3))] → W p l e { frames := 5, cells := 11, slots := 33, locals := 112 } s m [(.ref (β 0 0) : Value), .int (q)].toArray below meth c H locs 0 0 (MQ below (qG (fun _ => False) ((fun sz v h => v = some (.int r)) s.heap.size)) [(.ref (β 0 0) : Value), .int (q)].toArray s 11 33 (fN (fun _ => False) s.heap.size)) (F0 m 95 ls []) := by
    intro  κ hκ n
    induction n with
    | zero =>
      intro i3 a2 hn hR H locs Fc hM hFa hFb hS ls hl
      rw [fX4_deskNow_L95] at hR
      have hG := gE.ofS hG0 hS (fun _ h => h.elim)
      refine lv_iload_n hx hb dX4_deskNow_95 rfl (lv_at hl 3 rfl) ?_
      refine lv_aload_n hx hb dX4_deskNow_96 rfl (lv_at hl 0 rfl) ?_
      refine gf (v := .ref (β 1 2)) (C := RX4) (T := TX4) (N := 13) (k := 5) hx hb hts hown hG cl_X4 in_X4 hM.ag (by decide) q1545 rfl dX4_deskNow_97 ?_
      refine pcV (As := []) (rest := [.int (nI i3)]) hS0 (met_ml_size l D E (j := 2) (by decide)) q1600 q336 q2080 q103 q338 hd_J2_size ⟨Nat.le_of_ble_eq_true rfl, Nat.le_of_ble_eq_true rfl⟩ hG (hM.lsR hG (j := 2) (by decide)) hM rfl hl.1 rfl (Nat.le_of_ble_eq_true rfl) dX4_deskNow_100 ⟨Nat.le_of_ble_eq_true rfl, Nat.le_of_ble_eq_true rfl⟩ ?_
      refine W.eq (g2 := F0 m 103 ls [.int (nI (nW σ)), .int (nI i3)]) rfl ?_
      refine lk_ge_out (k := i3) (N := nW σ) hx hb hn (tgt := 140) dX4_deskNow_103 (by decide) ?_
      exact hκ a2 _ _ _ ls hR hM hFa (fun q z => by have := hFb q z; omega) hS (lv_sub hl [2] rfl)
    | succ n ih =>
      intro i3 a2 hn hR H locs Fc hM hFa hFb hS ls hl
      rw [fX4_deskNow_L95] at hR
      have hG := gE.ofS hG0 hS (fun _ h => h.elim)
      refine lv_iload_n hx hb dX4_deskNow_95 rfl (lv_at hl 3 rfl) ?_
      refine lv_aload_n hx hb dX4_deskNow_96 rfl (lv_at hl 0 rfl) ?_
      refine gf (v := .ref (β 1 2)) (C := RX4) (T := TX4) (N := 13) (k := 5) hx hb hts hown hG cl_X4 in_X4 hM.ag (by decide) q1545 rfl dX4_deskNow_97 ?_
      refine pcV (As := []) (rest := [.int (nI i3)]) hS0 (met_ml_size l D E (j := 2) (by decide)) q1600 q336 q2080 q103 q338 hd_J2_size ⟨Nat.le_of_ble_eq_true rfl, Nat.le_of_ble_eq_true rfl⟩ hG (hM.lsR hG (j := 2) (by decide)) hM rfl hl.1 rfl (Nat.le_of_ble_eq_true rfl) dX4_deskNow_100 ⟨Nat.le_of_ble_eq_true rfl, Nat.le_of_ble_eq_true rfl⟩ ?_
      refine W.eq (g2 := F0 m 103 ls [.int (nI (nW σ)), .int (nI i3)]) rfl ?_
      have hki3 : i3 < nW σ := lk_lt hn
      refine lk_ge_in (k := i3) (N := nW σ) hx hb hki3 (by have := hM.nP10; have := hM.nW14; have := hM.nB6; omega) (tgt := 140) dX4_deskNow_103 (by decide) ?_
      refine lv_iload_n hx hb dX4_deskNow_106 rfl (lv_at hl 2 rfl) ?_
      refine lv_aload_n hx hb dX4_deskNow_107 rfl (lv_at hl 0 rfl) ?_
      refine gf (v := .ref (β 1 2)) (C := RX4) (T := TX4) (N := 13) (k := 5) hx hb hts hown hG cl_X4 in_X4 hM.ag (by decide) q1545 rfl dX4_deskNow_108 ?_
      refine lv_iload_n hx hb dX4_deskNow_111 rfl (lv_at hl 3 rfl) ?_
      refine pcV (As := [.int (nI i3)]) (rest := [.int (a2)]) hS0 (met_ml_get l D E (j := 2) (by decide) i3 hki3) q1639 q349 q2082 q103 q351 hd_J2_get ⟨Nat.le_of_ble_eq_true rfl, Nat.le_of_ble_eq_true rfl⟩ hG (hM.lsR hG (j := 2) (by decide)) hM rfl hl.1 rfl (Nat.le_of_ble_eq_true rfl) dX4_deskNow_112 ⟨Nat.le_of_ble_eq_true rfl, Nat.le_of_ble_eq_true rfl⟩ ?_
      refine W.eq (g2 := F0 m 115 ls [.ref (β 5 i3), .int (a2)]) rfl ?_
      refine gc (ci := 9) hx hb hown hG cl_X11 (rcv hG cl_X11 (hM.wd hki3)) (hts _ q1695) dX4_deskNow_115 ?_
      refine gfN (v := .int (nI (wState σ i3))) (C := RX11) (T := TX11) (N := 12) (k := 7) hx hb hts hown hG cl_X11 in_X11 (hM.wd hki3) (by decide) q1710 rfl dX4_deskNow_118 ?_
      refine lv_iload_n hx hb dX4_deskNow_121 rfl (lv_at hl 1 rfl) ?_
      refine lv_iconst (v := 4) hx hb dX4_deskNow_122 (by decide) ?_
      refine lv_isub hx hb dX4_deskNow_123 ?_
      refine lv_icmp_ne (tgt := 131) hx hb dX4_deskNow_124 (by decide) (fun c6 => ?_) (fun c6 => ?_)
      · rw [if_neg c6] at hR
        refine lv_iconst (v := 0) hx hb dX4_deskNow_131 (by decide) ?_
        refine lv_iadd hx hb dX4_deskNow_132 ?_
        refine lv_istore_n (lv' := [(2, .int (a2 + 0)), (0, .ref (β 0 0)), (1, .int (q)), (3, .int (nI i3))]) hx hb dX4_deskNow_133 rfl hl (Nat.le_of_ble_eq_true rfl) rfl (fun ls hl => ?_)
        refine lv_iinc (v := nI (i3 + 1)) (lv' := [(3, .int (nI (i3 + 1))), (2, .int (a2 + 0)), (0, .ref (β 0 0)), (1, .int (q))]) hx hb dX4_deskNow_134 hl (k := 3) rfl (nI_1 i3) (Nat.le_of_ble_eq_true rfl) rfl (fun ls hl => ?_)
        refine lv_goto (tgt := 95) hx hb dX4_deskNow_137 (by decide) ?_
        exact ih (i3 + 1) (a2 + 0) (lk_st hn) hR _ _ _ hM hFa (fun q z => by have := hFb q z; omega) hS ls (lv_sub hl [2, 3, 1, 0] rfl)
      · rw [if_pos c6] at hR
        refine lv_iconst (v := 1) hx hb dX4_deskNow_127 (by decide) ?_
        refine lv_goto (tgt := 132) hx hb dX4_deskNow_128 (by decide) ?_
        refine lv_iadd hx hb dX4_deskNow_132 ?_
        refine lv_istore_n (lv' := [(2, .int (a2 + 1)), (0, .ref (β 0 0)), (1, .int (q)), (3, .int (nI i3))]) hx hb dX4_deskNow_133 rfl hl (Nat.le_of_ble_eq_true rfl) rfl (fun ls hl => ?_)
        refine lv_iinc (v := nI (i3 + 1)) (lv' := [(3, .int (nI (i3 + 1))), (2, .int (a2 + 1)), (0, .ref (β 0 0)), (1, .int (q))]) hx hb dX4_deskNow_134 hl (k := 3) rfl (nI_1 i3) (Nat.le_of_ble_eq_true rfl) rfl (fun ls hl => ?_)
        refine lv_goto (tgt := 95) hx hb dX4_deskNow_137 (by decide) ?_
        exact ih (i3 + 1) (a2 + 1) (lk_st hn) hR _ _ _ hM hFa (fun q z => by have := hFb q z; omega) hS ls (lv_sub hl [2, 3, 1, 0] rfl)
  have hL149 : ∀  (κ : Int32 → Int32) (hκ : ∀ (a2 : Int32) (H : Heap) (locs : List Loc) (Fc : Nat → Prop) (ls : Array Slot), κ a2 = r → RM D E β Fc σ th ca sm H → (∀ q, Fc q → fN F s.heap.size q) → (∀ q, Fc q → q < H.size) → xK (fun _ => False) (fun _ => False) s.heap H locs → lv_has ls 8 [(2, .int (a2))] → W p l e { frames := 5, cells := 11, slots := 33, locals := 112 } s m [(.ref (β 0 0) : Value), .int (q)].toArray below meth c H locs 0 0 (MQ below (qG (fun _ => False) ((fun sz v h => v = some (.int r)) s.heap.size)) [(.ref (β 0 0) : Value), .int (q)].toArray s 11 33 (fN (fun _ => False) s.heap.size)) (F0 m 186 ls [])) (n : Nat) (i3 : Nat) (a2 : Int32) , i3 + n = nP σ → fX4_deskNow_L149 σ ca q κ n i3 a2 = r → ∀ (H : Heap) (locs : List Loc) (Fc : Nat → Prop), RM D E β Fc σ th ca sm H → (∀ q, Fc q → fN F s.heap.size q) → (∀ q, Fc q → q < H.size) → xK (fun _ => False) (fun _ => False) s.heap H locs → ∀ (ls : Array Slot), lv_has ls 8 [(0, .ref (β 0 0)), (2, .int (a2)), (3, .int (nI i3))] → W p l e { frames := 5, cells := 11, slots := 33, locals := 112 } s m [(.ref (β 0 0) : Value), .int (q)].toArray below meth c H locs 0 0 (MQ below (qG (fun _ => False) ((fun sz v h => v = some (.int r)) s.heap.size)) [(.ref (β 0 0) : Value), .int (q)].toArray s 11 33 (fN (fun _ => False) s.heap.size)) (F0 m 149 ls []) := by
    intro  κ hκ n
    induction n with
    | zero =>
      intro i3 a2 hn hR H locs Fc hM hFa hFb hS ls hl
      rw [fX4_deskNow_L149] at hR
      have hG := gE.ofS hG0 hS (fun _ h => h.elim)
      refine lv_iload_n hx hb dX4_deskNow_149 rfl (lv_at hl 2 rfl) ?_
      refine lv_aload_n hx hb dX4_deskNow_150 rfl (lv_at hl 0 rfl) ?_
      refine gf (v := .ref (β 1 0)) (C := RX4) (T := TX4) (N := 13) (k := 3) hx hb hts hown hG cl_X4 in_X4 hM.ag (by decide) q1543 rfl dX4_deskNow_151 ?_
      refine pcV (As := []) (rest := [.int (nI i3)]) hS0 (met_ml_size l D E (j := 0) (by decide)) q1600 q336 q2080 q103 q338 hd_J2_size ⟨Nat.le_of_ble_eq_true rfl, Nat.le_of_ble_eq_true rfl⟩ hG (hM.lsR hG (j := 0) (by decide)) hM rfl hl.1 rfl (Nat.le_of_ble_eq_true rfl) dX4_deskNow_154 ⟨Nat.le_of_ble_eq_true rfl, Nat.le_of_ble_eq_true rfl⟩ ?_
      refine W.eq (g2 := F0 m 157 ls [.int (nI (nP σ)), .int (nI i3)]) rfl ?_
      refine lk_ge_out (k := i3) (N := nP σ) hx hb hn (tgt := 186) dX4_deskNow_157 (by decide) ?_
      exact hκ a2 _ _ _ ls hR hM hFa (fun q z => by have := hFb q z; omega) hS (lv_sub hl [1] rfl)
    | succ n ih =>
      intro i3 a2 hn hR H locs Fc hM hFa hFb hS ls hl
      rw [fX4_deskNow_L149] at hR
      have hG := gE.ofS hG0 hS (fun _ h => h.elim)
      refine lv_iload_n hx hb dX4_deskNow_149 rfl (lv_at hl 2 rfl) ?_
      refine lv_aload_n hx hb dX4_deskNow_150 rfl (lv_at hl 0 rfl) ?_
      refine gf (v := .ref (β 1 0)) (C := RX4) (T := TX4) (N := 13) (k := 3) hx hb hts hown hG cl_X4 in_X4 hM.ag (by decide) q1543 rfl dX4_deskNow_151 ?_
      refine pcV (As := []) (rest := [.int (nI i3)]) hS0 (met_ml_size l D E (j := 0) (by decide)) q1600 q336 q2080 q103 q338 hd_J2_size ⟨Nat.le_of_ble_eq_true rfl, Nat.le_of_ble_eq_true rfl⟩ hG (hM.lsR hG (j := 0) (by decide)) hM rfl hl.1 rfl (Nat.le_of_ble_eq_true rfl) dX4_deskNow_154 ⟨Nat.le_of_ble_eq_true rfl, Nat.le_of_ble_eq_true rfl⟩ ?_
      refine W.eq (g2 := F0 m 157 ls [.int (nI (nP σ)), .int (nI i3)]) rfl ?_
      have hki3 : i3 < nP σ := lk_lt hn
      refine lk_ge_in (k := i3) (N := nP σ) hx hb hki3 (by have := hM.nP10; have := hM.nW14; have := hM.nB6; omega) (tgt := 186) dX4_deskNow_157 (by decide) ?_
      refine lv_iload_n hx hb dX4_deskNow_160 rfl (lv_at hl 1 rfl) ?_
      refine lv_aload_n hx hb dX4_deskNow_161 rfl (lv_at hl 0 rfl) ?_
      refine gf (v := .ref (β 1 0)) (C := RX4) (T := TX4) (N := 13) (k := 3) hx hb hts hown hG cl_X4 in_X4 hM.ag (by decide) q1543 rfl dX4_deskNow_162 ?_
      refine lv_iload_n hx hb dX4_deskNow_165 rfl (lv_at hl 2 rfl) ?_
      refine pcV (As := [.int (nI i3)]) (rest := [.int (a2)]) hS0 (met_ml_get l D E (j := 0) (by decide) i3 hki3) q1639 q349 q2082 q103 q351 hd_J2_get ⟨Nat.le_of_ble_eq_true rfl, Nat.le_of_ble_eq_true rfl⟩ hG (hM.lsR hG (j := 0) (by decide)) hM rfl hl.1 rfl (Nat.le_of_ble_eq_true rfl) dX4_deskNow_166 ⟨Nat.le_of_ble_eq_true rfl, Nat.le_of_ble_eq_true rfl⟩ ?_
      refine W.eq (g2 := F0 m 169 ls [.ref (β 3 i3), .int (a2)]) rfl ?_
      refine gc (ci := 6) hx hb hown hG cl_X7 (rcv hG cl_X7 (hM.pl hki3)) (hts _ q1601) dX4_deskNow_169 ?_
      refine gfN (v := .int (pFeuds σ i3)) (C := RX7) (T := TX7) (N := 7) (k := 4) hx hb hts hown hG cl_X7 in_X7 (hM.pl hki3) (by decide) q1611 rfl dX4_deskNow_172 ?_
      refine pcS (As := [.int (pFeuds σ i3)]) (rest := [.int (a2)]) hS0 (met_bitCount l D E (pFeuds σ i3)) q1640 q1641 q125 q1642 hd_J17_bitCount ⟨Nat.le_of_ble_eq_true rfl, Nat.le_of_ble_eq_true rfl⟩ hG trivial rfl hl.1 rfl (Nat.le_of_ble_eq_true rfl) dX4_deskNow_175 ⟨Nat.le_of_ble_eq_true rfl, Nat.le_of_ble_eq_true rfl⟩ ?_
      refine W.eq (g2 := F0 m 178 ls [.int (nI (popc (pFeuds σ i3))), .int (a2)]) rfl ?_
      refine lv_iadd hx hb dX4_deskNow_178 ?_
      refine lv_istore_n (lv' := [(2, .int (a2 + (nI (popc (pFeuds σ i3))))), (0, .ref (β 0 0)), (3, .int (nI i3))]) hx hb dX4_deskNow_179 rfl hl (Nat.le_of_ble_eq_true rfl) rfl (fun ls hl => ?_)
      refine lv_iinc (v := nI (i3 + 1)) (lv' := [(3, .int (nI (i3 + 1))), (2, .int (a2 + (nI (popc (pFeuds σ i3))))), (0, .ref (β 0 0))]) hx hb dX4_deskNow_180 hl (k := 2) rfl (nI_1 i3) (Nat.le_of_ble_eq_true rfl) rfl (fun ls hl => ?_)
      refine lv_goto (tgt := 149) hx hb dX4_deskNow_183 (by decide) ?_
      exact ih (i3 + 1) (a2 + (nI (popc (pFeuds σ i3)))) (lk_st hn) hR _ _ _ hM hFa (fun q z => by have := hFb q z; omega) hS ls (lv_sub hl [2, 1, 0] rfl)
  have hL192 : ∀  (κ : Int32 → Int32) (hκ : ∀ (a2 : Int32) (H : Heap) (locs : List Loc) (Fc : Nat → Prop) (ls : Array Slot), κ a2 = r → RM D E β Fc σ th ca sm H → (∀ q, Fc q → fN F s.heap.size q) → (∀ q, Fc q → q < H.size) → xK (fun _ => False) (fun _ => False) s.heap H locs → lv_has ls 8 [(2, .int (a2))] → W p l e { frames := 5, cells := 11, slots := 33, locals := 112 } s m [(.ref (β 0 0) : Value), .int (q)].toArray below meth c H locs 0 0 (MQ below (qG (fun _ => False) ((fun sz v h => v = some (.int r)) s.heap.size)) [(.ref (β 0 0) : Value), .int (q)].toArray s 11 33 (fN (fun _ => False) s.heap.size)) (F0 m 226 ls [])) (n : Nat) (i3 : Nat) (a2 : Int32) , i3 + n = nP σ → fX4_deskNow_L192 σ ca q κ n i3 a2 = r → ∀ (H : Heap) (locs : List Loc) (Fc : Nat → Prop), RM D E β Fc σ th ca sm H → (∀ q, Fc q → fN F s.heap.size q) → (∀ q, Fc q → q < H.size) → xK (fun _ => False) (fun _ => False) s.heap H locs → ∀ (ls : Array Slot), lv_has ls 8 [(0, .ref (β 0 0)), (2, .int (a2)), (3, .int (nI i3))] → W p l e { frames := 5, cells := 11, slots := 33, locals := 112 } s m [(.ref (β 0 0) : Value), .int (q)].toArray below meth c H locs 0 0 (MQ below (qG (fun _ => False) ((fun sz v h => v = some (.int r)) s.heap.size)) [(.ref (β 0 0) : Value), .int (q)].toArray s 11 33 (fN (fun _ => False) s.heap.size)) (F0 m 192 ls []) := by
    intro  κ hκ n
    induction n with
    | zero =>
      intro i3 a2 hn hR H locs Fc hM hFa hFb hS ls hl
      rw [fX4_deskNow_L192] at hR
      have hG := gE.ofS hG0 hS (fun _ h => h.elim)
      refine lv_iload_n hx hb dX4_deskNow_192 rfl (lv_at hl 2 rfl) ?_
      refine lv_aload_n hx hb dX4_deskNow_193 rfl (lv_at hl 0 rfl) ?_
      refine gf (v := .ref (β 1 0)) (C := RX4) (T := TX4) (N := 13) (k := 3) hx hb hts hown hG cl_X4 in_X4 hM.ag (by decide) q1543 rfl dX4_deskNow_194 ?_
      refine pcV (As := []) (rest := [.int (nI i3)]) hS0 (met_ml_size l D E (j := 0) (by decide)) q1600 q336 q2080 q103 q338 hd_J2_size ⟨Nat.le_of_ble_eq_true rfl, Nat.le_of_ble_eq_true rfl⟩ hG (hM.lsR hG (j := 0) (by decide)) hM rfl hl.1 rfl (Nat.le_of_ble_eq_true rfl) dX4_deskNow_197 ⟨Nat.le_of_ble_eq_true rfl, Nat.le_of_ble_eq_true rfl⟩ ?_
      refine W.eq (g2 := F0 m 200 ls [.int (nI (nP σ)), .int (nI i3)]) rfl ?_
      refine lk_ge_out (k := i3) (N := nP σ) hx hb hn (tgt := 226) dX4_deskNow_200 (by decide) ?_
      exact hκ a2 _ _ _ ls hR hM hFa (fun q z => by have := hFb q z; omega) hS (lv_sub hl [1] rfl)
    | succ n ih =>
      intro i3 a2 hn hR H locs Fc hM hFa hFb hS ls hl
      rw [fX4_deskNow_L192] at hR
      have hG := gE.ofS hG0 hS (fun _ h => h.elim)
      refine lv_iload_n hx hb dX4_deskNow_192 rfl (lv_at hl 2 rfl) ?_
      refine lv_aload_n hx hb dX4_deskNow_193 rfl (lv_at hl 0 rfl) ?_
      refine gf (v := .ref (β 1 0)) (C := RX4) (T := TX4) (N := 13) (k := 3) hx hb hts hown hG cl_X4 in_X4 hM.ag (by decide) q1543 rfl dX4_deskNow_194 ?_
      refine pcV (As := []) (rest := [.int (nI i3)]) hS0 (met_ml_size l D E (j := 0) (by decide)) q1600 q336 q2080 q103 q338 hd_J2_size ⟨Nat.le_of_ble_eq_true rfl, Nat.le_of_ble_eq_true rfl⟩ hG (hM.lsR hG (j := 0) (by decide)) hM rfl hl.1 rfl (Nat.le_of_ble_eq_true rfl) dX4_deskNow_197 ⟨Nat.le_of_ble_eq_true rfl, Nat.le_of_ble_eq_true rfl⟩ ?_
      refine W.eq (g2 := F0 m 200 ls [.int (nI (nP σ)), .int (nI i3)]) rfl ?_
      have hki3 : i3 < nP σ := lk_lt hn
      refine lk_ge_in (k := i3) (N := nP σ) hx hb hki3 (by have := hM.nP10; have := hM.nW14; have := hM.nB6; omega) (tgt := 226) dX4_deskNow_200 (by decide) ?_
      refine lv_iload_n hx hb dX4_deskNow_203 rfl (lv_at hl 1 rfl) ?_
      refine lv_aload_n hx hb dX4_deskNow_204 rfl (lv_at hl 0 rfl) ?_
      refine gf (v := .ref (β 1 0)) (C := RX4) (T := TX4) (N := 13) (k := 3) hx hb hts hown hG cl_X4 in_X4 hM.ag (by decide) q1543 rfl dX4_deskNow_205 ?_
      refine lv_iload_n hx hb dX4_deskNow_208 rfl (lv_at hl 2 rfl) ?_
      refine pcV (As := [.int (nI i3)]) (rest := [.int (a2)]) hS0 (met_ml_get l D E (j := 0) (by decide) i3 hki3) q1639 q349 q2082 q103 q351 hd_J2_get ⟨Nat.le_of_ble_eq_true rfl, Nat.le_of_ble_eq_true rfl⟩ hG (hM.lsR hG (j := 0) (by decide)) hM rfl hl.1 rfl (Nat.le_of_ble_eq_true rfl) dX4_deskNow_209 ⟨Nat.le_of_ble_eq_true rfl, Nat.le_of_ble_eq_true rfl⟩ ?_
      refine W.eq (g2 := F0 m 212 ls [.ref (β 3 i3), .int (a2)]) rfl ?_
      refine gc (ci := 6) hx hb hown hG cl_X7 (rcv hG cl_X7 (hM.pl hki3)) (hts _ q1601) dX4_deskNow_212 ?_
      refine gfN (v := .int (pEarned σ i3)) (C := RX7) (T := TX7) (N := 7) (k := 5) hx hb hts hown hG cl_X7 in_X7 (hM.pl hki3) (by decide) q1612 rfl dX4_deskNow_215 ?_
      refine lv_iadd hx hb dX4_deskNow_218 ?_
      refine lv_istore_n (lv' := [(2, .int (a2 + (pEarned σ i3))), (0, .ref (β 0 0)), (3, .int (nI i3))]) hx hb dX4_deskNow_219 rfl hl (Nat.le_of_ble_eq_true rfl) rfl (fun ls hl => ?_)
      refine lv_iinc (v := nI (i3 + 1)) (lv' := [(3, .int (nI (i3 + 1))), (2, .int (a2 + (pEarned σ i3))), (0, .ref (β 0 0))]) hx hb dX4_deskNow_220 hl (k := 2) rfl (nI_1 i3) (Nat.le_of_ble_eq_true rfl) rfl (fun ls hl => ?_)
      refine lv_goto (tgt := 192) hx hb dX4_deskNow_223 (by decide) ?_
      exact ih (i3 + 1) (a2 + (pEarned σ i3)) (lk_st hn) hR _ _ _ hM hFa (fun q z => by have := hFb q z; omega) hS ls (lv_sub hl [2, 1, 0] rfl)
  have hL265 : ∀ (i3 : Nat) (hf265_0 : i3 < nP σ) (κ : Int32 → Int32) (hκ : ∀ (a2_265 : Int32) (H : Heap) (locs : List Loc) (Fc : Nat → Prop) (ls : Array Slot), κ a2_265 = r → RM D E β Fc σ th ca sm H → (∀ q, Fc q → fN F s.heap.size q) → (∀ q, Fc q → q < H.size) → xK (fun _ => False) (fun _ => False) s.heap H locs → lv_has ls 8 [(0, .ref (β 0 0)), (2, .int (a2_265)), (3, .int (nI i3))] → W p l e { frames := 5, cells := 11, slots := 33, locals := 112 } s m [(.ref (β 0 0) : Value), .int (q)].toArray below meth c H locs 0 0 (MQ below (qG (fun _ => False) ((fun sz v h => v = some (.int r)) s.heap.size)) [(.ref (β 0 0) : Value), .int (q)].toArray s 11 33 (fN (fun _ => False) s.heap.size)) (F0 m 298 ls [])) (n : Nat) (i6 : Nat) (a2_265 : Int32) , i6 + n = 366 → fX4_deskNow_L265 σ ca q i3 κ n i6 a2_265 = r → ∀ (H : Heap) (locs : List Loc) (Fc : Nat → Prop), RM D E β Fc σ th ca sm H → (∀ q, Fc q → fN F s.heap.size q) → (∀ q, Fc q → q < H.size) → xK (fun _ => False) (fun _ => False) s.heap H locs → ∀ (ls : Array Slot), lv_has ls 8 [(0, .ref (β 0 0)), (2, .int (a2_265)), (3, .int (nI i3)), (4, .ref (β 4 i3)), (5, .int (nI 366)), (6, .int (nI i6))] → W p l e { frames := 5, cells := 11, slots := 33, locals := 112 } s m [(.ref (β 0 0) : Value), .int (q)].toArray below meth c H locs 0 0 (MQ below (qG (fun _ => False) ((fun sz v h => v = some (.int r)) s.heap.size)) [(.ref (β 0 0) : Value), .int (q)].toArray s 11 33 (fN (fun _ => False) s.heap.size)) (F0 m 265 ls []) := by
    intro i3 hf265_0 κ hκ n
    induction n with
    | zero =>
      intro i6 a2_265 hn hR H locs Fc hM hFa hFb hS ls hl
      rw [fX4_deskNow_L265] at hR
      have hG := gE.ofS hG0 hS (fun _ h => h.elim)
      refine lv_iload hx hb dX4_deskNow_265 (lv_at hl 5 rfl) ?_
      refine lv_iload hx hb dX4_deskNow_267 (lv_at hl 4 rfl) ?_
      refine lk_ge_out (k := i6) (N := 366) hx hb hn (tgt := 298) dX4_deskNow_269 (by decide) ?_
      exact hκ a2_265 _ _ _ ls hR hM hFa (fun q z => by have := hFb q z; omega) hS (lv_sub hl [0, 1, 2] rfl)
    | succ n ih =>
      intro i6 a2_265 hn hR H locs Fc hM hFa hFb hS ls hl
      rw [fX4_deskNow_L265] at hR
      have hG := gE.ofS hG0 hS (fun _ h => h.elim)
      refine lv_iload hx hb dX4_deskNow_265 (lv_at hl 5 rfl) ?_
      refine lv_iload hx hb dX4_deskNow_267 (lv_at hl 4 rfl) ?_
      have hki6 : i6 < 366 := lk_lt hn
      refine lk_ge_in (k := i6) (N := 366) hx hb hki6 (by decide) (tgt := 298) dX4_deskNow_269 (by decide) ?_
      refine lv_aload hx hb dX4_deskNow_272 (lv_at hl 3 rfl) ?_
      refine lv_iload hx hb dX4_deskNow_274 (lv_at hl 5 rfl) ?_
      refine gaZ (N := 366) (k := i6) hx hb hG (hM.off hf265_0) hki6 (by decide) dX4_deskNow_276 ?_
      refine lv_istore (lv' := [(7, .int (pOff σ i3 i6)), (0, .ref (β 0 0)), (2, .int (a2_265)), (3, .int (nI i3)), (4, .ref (β 4 i3)), (5, .int (nI 366)), (6, .int (nI i6))]) hx hb dX4_deskNow_277 hl (Nat.le_of_ble_eq_true rfl) rfl (fun ls hl => ?_)
      refine lv_iload_n hx hb dX4_deskNow_279 rfl (lv_at hl 2 rfl) ?_
      refine lv_iload hx hb dX4_deskNow_280 (lv_at hl 0 rfl) ?_
      refine lv_if_eq (tgt := 289) hx hb dX4_deskNow_282 (by decide) (fun c23 => ?_) (fun c23 => ?_)
      · rw [if_pos c23] at hR
        refine lv_iconst (v := 0) hx hb dX4_deskNow_289 (by decide) ?_
        refine lv_iadd hx hb dX4_deskNow_290 ?_
        refine lv_istore_n (lv' := [(2, .int (a2_265 + 0)), (7, .int (pOff σ i3 i6)), (0, .ref (β 0 0)), (3, .int (nI i3)), (4, .ref (β 4 i3)), (5, .int (nI 366)), (6, .int (nI i6))]) hx hb dX4_deskNow_291 rfl hl (Nat.le_of_ble_eq_true rfl) rfl (fun ls hl => ?_)
        refine lv_iinc (v := nI (i6 + 1)) (lv' := [(6, .int (nI (i6 + 1))), (2, .int (a2_265 + 0)), (7, .int (pOff σ i3 i6)), (0, .ref (β 0 0)), (3, .int (nI i3)), (4, .ref (β 4 i3)), (5, .int (nI 366))]) hx hb dX4_deskNow_292 hl (k := 6) rfl (nI_1 i6) (Nat.le_of_ble_eq_true rfl) rfl (fun ls hl => ?_)
        refine lv_goto (tgt := 265) hx hb dX4_deskNow_295 (by decide) ?_
        exact ih (i6 + 1) (a2_265 + 0) (lk_st hn) hR _ _ _ hM hFa (fun q z => by have := hFb q z; omega) hS ls (lv_sub hl [3, 1, 4, 5, 6, 0] rfl)
      · rw [if_neg c23] at hR
        refine lv_iconst (v := 1) hx hb dX4_deskNow_285 (by decide) ?_
        refine lv_goto (tgt := 290) hx hb dX4_deskNow_286 (by decide) ?_
        refine lv_iadd hx hb dX4_deskNow_290 ?_
        refine lv_istore_n (lv' := [(2, .int (a2_265 + 1)), (7, .int (pOff σ i3 i6)), (0, .ref (β 0 0)), (3, .int (nI i3)), (4, .ref (β 4 i3)), (5, .int (nI 366)), (6, .int (nI i6))]) hx hb dX4_deskNow_291 rfl hl (Nat.le_of_ble_eq_true rfl) rfl (fun ls hl => ?_)
        refine lv_iinc (v := nI (i6 + 1)) (lv' := [(6, .int (nI (i6 + 1))), (2, .int (a2_265 + 1)), (7, .int (pOff σ i3 i6)), (0, .ref (β 0 0)), (3, .int (nI i3)), (4, .ref (β 4 i3)), (5, .int (nI 366))]) hx hb dX4_deskNow_292 hl (k := 6) rfl (nI_1 i6) (Nat.le_of_ble_eq_true rfl) rfl (fun ls hl => ?_)
        refine lv_goto (tgt := 265) hx hb dX4_deskNow_295 (by decide) ?_
        exact ih (i6 + 1) (a2_265 + 1) (lk_st hn) hR _ _ _ hM hFa (fun q z => by have := hFb q z; omega) hS ls (lv_sub hl [3, 1, 4, 5, 6, 0] rfl)
  have hL230 : ∀  (κ : Int32 → Int32) (hκ : ∀ (a2 : Int32) (H : Heap) (locs : List Loc) (Fc : Nat → Prop) (ls : Array Slot), κ a2 = r → RM D E β Fc σ th ca sm H → (∀ q, Fc q → fN F s.heap.size q) → (∀ q, Fc q → q < H.size) → xK (fun _ => False) (fun _ => False) s.heap H locs → lv_has ls 8 [(2, .int (a2))] → W p l e { frames := 5, cells := 11, slots := 33, locals := 112 } s m [(.ref (β 0 0) : Value), .int (q)].toArray below meth c H locs 0 0 (MQ below (qG (fun _ => False) ((fun sz v h => v = some (.int r)) s.heap.size)) [(.ref (β 0 0) : Value), .int (q)].toArray s 11 33 (fN (fun _ => False) s.heap.size)) (F0 m 304 ls [])) (n : Nat) (i3 : Nat) (a2 : Int32) , i3 + n = nP σ → fX4_deskNow_L230 σ ca q κ n i3 a2 = r → ∀ (H : Heap) (locs : List Loc) (Fc : Nat → Prop), RM D E β Fc σ th ca sm H → (∀ q, Fc q → fN F s.heap.size q) → (∀ q, Fc q → q < H.size) → xK (fun _ => False) (fun _ => False) s.heap H locs → ∀ (ls : Array Slot), lv_has ls 8 [(0, .ref (β 0 0)), (2, .int (a2)), (3, .int (nI i3))] → W p l e { frames := 5, cells := 11, slots := 33, locals := 112 } s m [(.ref (β 0 0) : Value), .int (q)].toArray below meth c H locs 0 0 (MQ below (qG (fun _ => False) ((fun sz v h => v = some (.int r)) s.heap.size)) [(.ref (β 0 0) : Value), .int (q)].toArray s 11 33 (fN (fun _ => False) s.heap.size)) (F0 m 230 ls []) := by
    intro  κ hκ n
    induction n with
    | zero =>
      intro i3 a2 hn hR H locs Fc hM hFa hFb hS ls hl
      rw [fX4_deskNow_L230] at hR
      have hG := gE.ofS hG0 hS (fun _ h => h.elim)
      refine lv_iload_n hx hb dX4_deskNow_230 rfl (lv_at hl 2 rfl) ?_
      refine lv_aload_n hx hb dX4_deskNow_231 rfl (lv_at hl 0 rfl) ?_
      refine gf (v := .ref (β 1 0)) (C := RX4) (T := TX4) (N := 13) (k := 3) hx hb hts hown hG cl_X4 in_X4 hM.ag (by decide) q1543 rfl dX4_deskNow_232 ?_
      refine pcV (As := []) (rest := [.int (nI i3)]) hS0 (met_ml_size l D E (j := 0) (by decide)) q1600 q336 q2080 q103 q338 hd_J2_size ⟨Nat.le_of_ble_eq_true rfl, Nat.le_of_ble_eq_true rfl⟩ hG (hM.lsR hG (j := 0) (by decide)) hM rfl hl.1 rfl (Nat.le_of_ble_eq_true rfl) dX4_deskNow_235 ⟨Nat.le_of_ble_eq_true rfl, Nat.le_of_ble_eq_true rfl⟩ ?_
      refine W.eq (g2 := F0 m 238 ls [.int (nI (nP σ)), .int (nI i3)]) rfl ?_
      refine lk_ge_out (k := i3) (N := nP σ) hx hb hn (tgt := 304) dX4_deskNow_238 (by decide) ?_
      exact hκ a2 _ _ _ ls hR hM hFa (fun q z => by have := hFb q z; omega) hS (lv_sub hl [1] rfl)
    | succ n ih =>
      intro i3 a2 hn hR H locs Fc hM hFa hFb hS ls hl
      rw [fX4_deskNow_L230] at hR
      have hG := gE.ofS hG0 hS (fun _ h => h.elim)
      refine lv_iload_n hx hb dX4_deskNow_230 rfl (lv_at hl 2 rfl) ?_
      refine lv_aload_n hx hb dX4_deskNow_231 rfl (lv_at hl 0 rfl) ?_
      refine gf (v := .ref (β 1 0)) (C := RX4) (T := TX4) (N := 13) (k := 3) hx hb hts hown hG cl_X4 in_X4 hM.ag (by decide) q1543 rfl dX4_deskNow_232 ?_
      refine pcV (As := []) (rest := [.int (nI i3)]) hS0 (met_ml_size l D E (j := 0) (by decide)) q1600 q336 q2080 q103 q338 hd_J2_size ⟨Nat.le_of_ble_eq_true rfl, Nat.le_of_ble_eq_true rfl⟩ hG (hM.lsR hG (j := 0) (by decide)) hM rfl hl.1 rfl (Nat.le_of_ble_eq_true rfl) dX4_deskNow_235 ⟨Nat.le_of_ble_eq_true rfl, Nat.le_of_ble_eq_true rfl⟩ ?_
      refine W.eq (g2 := F0 m 238 ls [.int (nI (nP σ)), .int (nI i3)]) rfl ?_
      have hki3 : i3 < nP σ := lk_lt hn
      refine lk_ge_in (k := i3) (N := nP σ) hx hb hki3 (by have := hM.nP10; have := hM.nW14; have := hM.nB6; omega) (tgt := 304) dX4_deskNow_238 (by decide) ?_
      refine lv_aload_n hx hb dX4_deskNow_241 rfl (lv_at hl 0 rfl) ?_
      refine gf (v := .ref (β 1 0)) (C := RX4) (T := TX4) (N := 13) (k := 3) hx hb hts hown hG cl_X4 in_X4 hM.ag (by decide) q1543 rfl dX4_deskNow_242 ?_
      refine lv_iload_n hx hb dX4_deskNow_245 rfl (lv_at hl 2 rfl) ?_
      refine pcV (As := [.int (nI i3)]) (rest := []) hS0 (met_ml_get l D E (j := 0) (by decide) i3 hki3) q1639 q349 q2082 q103 q351 hd_J2_get ⟨Nat.le_of_ble_eq_true rfl, Nat.le_of_ble_eq_true rfl⟩ hG (hM.lsR hG (j := 0) (by decide)) hM rfl hl.1 rfl (Nat.le_of_ble_eq_true rfl) dX4_deskNow_246 ⟨Nat.le_of_ble_eq_true rfl, Nat.le_of_ble_eq_true rfl⟩ ?_
      refine W.eq (g2 := F0 m 249 ls [.ref (β 3 i3)]) rfl ?_
      refine gc (ci := 6) hx hb hown hG cl_X7 (rcv hG cl_X7 (hM.pl hki3)) (hts _ q1601) dX4_deskNow_249 ?_
      refine gfN (v := .ref (β 4 i3)) (C := RX7) (T := TX7) (N := 7) (k := 6) hx hb hts hown hG cl_X7 in_X7 (hM.pl hki3) (by decide) q1614 rfl dX4_deskNow_252 ?_
      refine lv_astore (lv' := [(4, .ref (β 4 i3)), (0, .ref (β 0 0)), (2, .int (a2)), (3, .int (nI i3))]) hx hb dX4_deskNow_255 hl (Nat.le_of_ble_eq_true rfl) rfl (fun ls hl => ?_)
      refine lv_aload hx hb dX4_deskNow_257 (lv_at hl 0 rfl) ?_
      refine gl (N := 366) hx hb hG (hM.off hki3) (t := 1) rfl rfl dX4_deskNow_259 ?_
      refine lv_istore (lv' := [(5, .int (nI 366)), (4, .ref (β 4 i3)), (0, .ref (β 0 0)), (2, .int (a2)), (3, .int (nI i3))]) hx hb dX4_deskNow_260 hl (Nat.le_of_ble_eq_true rfl) rfl (fun ls hl => ?_)
      refine lv_iconst (v := 0) hx hb dX4_deskNow_262 (by decide) ?_
      refine lv_istore (lv' := [(6, .int 0), (5, .int (nI 366)), (4, .ref (β 4 i3)), (0, .ref (β 0 0)), (2, .int (a2)), (3, .int (nI i3))]) hx hb dX4_deskNow_263 hl (Nat.le_of_ble_eq_true rfl) rfl (fun ls hl => ?_)
      refine hL265 i3 hki3 _ (fun a24 H1 locs1 Fc ls hR hM hFa hFb hS hl => ?_) 366 0 a2  (Nat.zero_add _) hR _ _ _ hM hFa (fun q z => by have := hFb q z; omega) hS ls (lv_sub hl [3, 4, 5, 2, 1, 0] rfl)
      try dsimp only at hR
      have hG := gE.ofS hG0 hS (fun _ h => h.elim)
      refine lv_iinc (v := nI (i3 + 1)) (lv' := [(3, .int (nI (i3 + 1))), (0, .ref (β 0 0)), (2, .int (a24))]) hx hb dX4_deskNow_298 hl (k := 2) rfl (nI_1 i3) (Nat.le_of_ble_eq_true rfl) rfl (fun ls hl => ?_)
      refine lv_goto (tgt := 230) hx hb dX4_deskNow_301 (by decide) ?_
      exact ih (i3 + 1) a24 (lk_st hn) hR _ _ _ hM hFa (fun q z => by have := hFb q z; omega) hS ls (lv_sub hl [1, 2, 0] rfl)
  unfold fX4_deskNow at hR
  refine lv_iconst (v := 0) hx hb dX4_deskNow_0 (by decide) ?_
  refine lv_istore_n (lv' := [(2, .int 0), (0, .ref (β 0 0)), (1, .int (q))]) hx hb dX4_deskNow_1 rfl hl (Nat.le_of_ble_eq_true rfl) rfl (fun ls hl => ?_)
  refine lv_iload_n hx hb dX4_deskNow_2 rfl (lv_at hl 2 rfl) ?_
  by_cases c1 : q = 0
  · rw [if_pos c1] at hR
    refine lv_eq c1 ?_
    refine lv_tableIn (x := 0) (off := 61) (tgt := 64) hx hb dX4_deskNow_3 (by decide) (by decide) (by decide) (by decide) ?_
    refine lv_aload_n hx hb dX4_deskNow_64 rfl (lv_at hl 1 rfl) ?_
    refine gf (v := .int (tod σ)) (C := RX4) (T := TX4) (N := 13) (k := 1) hx hb hts hown hG cl_X4 in_X4 hM.ag (by decide) q1541 rfl dX4_deskNow_65 ?_
    exact g_iret hx hb hr hlocks hS ⟨Nat.le_of_ble_eq_true rfl, Nat.le_of_ble_eq_true rfl⟩ dX4_deskNow_68 (by subst hR; exact rfl)
  rw [if_neg c1] at hR
  by_cases c2 : q = 1
  · rw [if_pos c2] at hR
    refine lv_eq c2 ?_
    refine lv_tableIn (x := 1) (off := 66) (tgt := 69) hx hb dX4_deskNow_3 (by decide) (by decide) (by decide) (by decide) ?_
    refine lv_aload_n hx hb dX4_deskNow_69 rfl (lv_at hl 1 rfl) ?_
    refine gf (v := .ref (β 1 0)) (C := RX4) (T := TX4) (N := 13) (k := 3) hx hb hts hown hG cl_X4 in_X4 hM.ag (by decide) q1543 rfl dX4_deskNow_70 ?_
    refine pcV (As := []) (rest := []) hS0 (met_ml_size l D E (j := 0) (by decide)) q1600 q336 q2080 q103 q338 hd_J2_size ⟨Nat.le_of_ble_eq_true rfl, Nat.le_of_ble_eq_true rfl⟩ hG (hM.lsR hG (j := 0) (by decide)) hM rfl hl.1 rfl (Nat.le_of_ble_eq_true rfl) dX4_deskNow_73 ⟨Nat.le_of_ble_eq_true rfl, Nat.le_of_ble_eq_true rfl⟩ ?_
    refine W.eq (g2 := F0 m 76 ls [.int (nI (nP σ))]) rfl ?_
    exact g_iret hx hb hr hlocks hS ⟨Nat.le_of_ble_eq_true rfl, Nat.le_of_ble_eq_true rfl⟩ dX4_deskNow_76 (by subst hR; exact rfl)
  rw [if_neg c2] at hR
  by_cases c3 : q = 2
  · rw [if_pos c3] at hR
    refine lv_eq c3 ?_
    refine lv_tableIn (x := 2) (off := 74) (tgt := 77) hx hb dX4_deskNow_3 (by decide) (by decide) (by decide) (by decide) ?_
    refine lv_aload_n hx hb dX4_deskNow_77 rfl (lv_at hl 1 rfl) ?_
    refine gf (v := .ref (β 1 1)) (C := RX4) (T := TX4) (N := 13) (k := 4) hx hb hts hown hG cl_X4 in_X4 hM.ag (by decide) q1544 rfl dX4_deskNow_78 ?_
    refine pcV (As := []) (rest := []) hS0 (met_ml_size l D E (j := 1) (by decide)) q1600 q336 q2080 q103 q338 hd_J2_size ⟨Nat.le_of_ble_eq_true rfl, Nat.le_of_ble_eq_true rfl⟩ hG (hM.lsR hG (j := 1) (by decide)) hM rfl hl.1 rfl (Nat.le_of_ble_eq_true rfl) dX4_deskNow_81 ⟨Nat.le_of_ble_eq_true rfl, Nat.le_of_ble_eq_true rfl⟩ ?_
    refine W.eq (g2 := F0 m 84 ls [.int (nI (nB σ))]) rfl ?_
    exact g_iret hx hb hr hlocks hS ⟨Nat.le_of_ble_eq_true rfl, Nat.le_of_ble_eq_true rfl⟩ dX4_deskNow_84 (by subst hR; exact rfl)
  rw [if_neg c3] at hR
  by_cases c4 : q = 3
  · rw [if_pos c4] at hR
    refine lv_eq c4 ?_
    refine lv_tableIn (x := 3) (off := 82) (tgt := 85) hx hb dX4_deskNow_3 (by decide) (by decide) (by decide) (by decide) ?_
    refine lv_aload_n hx hb dX4_deskNow_85 rfl (lv_at hl 1 rfl) ?_
    refine gf (v := .ref (β 1 2)) (C := RX4) (T := TX4) (N := 13) (k := 5) hx hb hts hown hG cl_X4 in_X4 hM.ag (by decide) q1545 rfl dX4_deskNow_86 ?_
    refine pcV (As := []) (rest := []) hS0 (met_ml_size l D E (j := 2) (by decide)) q1600 q336 q2080 q103 q338 hd_J2_size ⟨Nat.le_of_ble_eq_true rfl, Nat.le_of_ble_eq_true rfl⟩ hG (hM.lsR hG (j := 2) (by decide)) hM rfl hl.1 rfl (Nat.le_of_ble_eq_true rfl) dX4_deskNow_89 ⟨Nat.le_of_ble_eq_true rfl, Nat.le_of_ble_eq_true rfl⟩ ?_
    refine W.eq (g2 := F0 m 92 ls [.int (nI (nW σ))]) rfl ?_
    exact g_iret hx hb hr hlocks hS ⟨Nat.le_of_ble_eq_true rfl, Nat.le_of_ble_eq_true rfl⟩ dX4_deskNow_92 (by subst hR; exact rfl)
  rw [if_neg c4] at hR
  by_cases c5 : q = 4
  · rw [if_pos c5] at hR
    refine lv_eq c5 ?_
    refine lv_tableIn (x := 4) (off := 90) (tgt := 93) hx hb dX4_deskNow_3 (by decide) (by decide) (by decide) (by decide) ?_
    refine lv_iconst (v := 0) hx hb dX4_deskNow_93 (by decide) ?_
    refine lv_istore_n (lv' := [(3, .int 0), (2, .int 0), (0, .ref (β 0 0)), (1, .int (q))]) hx hb dX4_deskNow_94 rfl hl (Nat.le_of_ble_eq_true rfl) rfl (fun ls hl => ?_)
    refine hL95  _ (fun a7 H1 locs1 Fc ls hR hM hFa hFb hS hl => ?_) (nW σ) 0 0  (Nat.zero_add _) hR _ _ _ hM hFa (fun q z => by have := hFb q z; omega) hS ls (lv_sub hl [2, 3, 1, 0] rfl)
    try dsimp only at hR
    have hG := gE.ofS hG0 hS (fun _ h => h.elim)
    refine lv_iload_n hx hb dX4_deskNow_140 rfl (lv_at hl 0 rfl) ?_
    exact g_iret hx hb hr hlocks hS ⟨Nat.le_of_ble_eq_true rfl, Nat.le_of_ble_eq_true rfl⟩ dX4_deskNow_141 (by subst hR; exact rfl)
  rw [if_neg c5] at hR
  by_cases c8 : q = 5
  · rw [if_pos c8] at hR
    refine lv_eq c8 ?_
    refine lv_tableIn (x := 5) (off := 90) (tgt := 93) hx hb dX4_deskNow_3 (by decide) (by decide) (by decide) (by decide) ?_
    refine lv_iconst (v := 0) hx hb dX4_deskNow_93 (by decide) ?_
    refine lv_istore_n (lv' := [(3, .int 0), (2, .int 0), (0, .ref (β 0 0)), (1, .int (q))]) hx hb dX4_deskNow_94 rfl hl (Nat.le_of_ble_eq_true rfl) rfl (fun ls hl => ?_)
    refine hL95  _ (fun a10 H1 locs1 Fc ls hR hM hFa hFb hS hl => ?_) (nW σ) 0 0  (Nat.zero_add _) hR _ _ _ hM hFa (fun q z => by have := hFb q z; omega) hS ls (lv_sub hl [2, 3, 1, 0] rfl)
    try dsimp only at hR
    have hG := gE.ofS hG0 hS (fun _ h => h.elim)
    refine lv_iload_n hx hb dX4_deskNow_140 rfl (lv_at hl 0 rfl) ?_
    exact g_iret hx hb hr hlocks hS ⟨Nat.le_of_ble_eq_true rfl, Nat.le_of_ble_eq_true rfl⟩ dX4_deskNow_141 (by subst hR; exact rfl)
  rw [if_neg c8] at hR
  by_cases c11 : q = 6
  · rw [if_pos c11] at hR
    refine lv_eq c11 ?_
    refine lv_tableIn (x := 6) (off := 90) (tgt := 93) hx hb dX4_deskNow_3 (by decide) (by decide) (by decide) (by decide) ?_
    refine lv_iconst (v := 0) hx hb dX4_deskNow_93 (by decide) ?_
    refine lv_istore_n (lv' := [(3, .int 0), (2, .int 0), (0, .ref (β 0 0)), (1, .int (q))]) hx hb dX4_deskNow_94 rfl hl (Nat.le_of_ble_eq_true rfl) rfl (fun ls hl => ?_)
    refine hL95  _ (fun a13 H1 locs1 Fc ls hR hM hFa hFb hS hl => ?_) (nW σ) 0 0  (Nat.zero_add _) hR _ _ _ hM hFa (fun q z => by have := hFb q z; omega) hS ls (lv_sub hl [2, 3, 1, 0] rfl)
    try dsimp only at hR
    have hG := gE.ofS hG0 hS (fun _ h => h.elim)
    refine lv_iload_n hx hb dX4_deskNow_140 rfl (lv_at hl 0 rfl) ?_
    exact g_iret hx hb hr hlocks hS ⟨Nat.le_of_ble_eq_true rfl, Nat.le_of_ble_eq_true rfl⟩ dX4_deskNow_141 (by subst hR; exact rfl)
  rw [if_neg c11] at hR
  by_cases c14 : q = 7
  · rw [if_pos c14] at hR
    refine lv_eq c14 ?_
    refine lv_tableIn (x := 7) (off := 90) (tgt := 93) hx hb dX4_deskNow_3 (by decide) (by decide) (by decide) (by decide) ?_
    refine lv_iconst (v := 0) hx hb dX4_deskNow_93 (by decide) ?_
    refine lv_istore_n (lv' := [(3, .int 0), (2, .int 0), (0, .ref (β 0 0)), (1, .int (q))]) hx hb dX4_deskNow_94 rfl hl (Nat.le_of_ble_eq_true rfl) rfl (fun ls hl => ?_)
    refine hL95  _ (fun a16 H1 locs1 Fc ls hR hM hFa hFb hS hl => ?_) (nW σ) 0 0  (Nat.zero_add _) hR _ _ _ hM hFa (fun q z => by have := hFb q z; omega) hS ls (lv_sub hl [2, 3, 1, 0] rfl)
    try dsimp only at hR
    have hG := gE.ofS hG0 hS (fun _ h => h.elim)
    refine lv_iload_n hx hb dX4_deskNow_140 rfl (lv_at hl 0 rfl) ?_
    exact g_iret hx hb hr hlocks hS ⟨Nat.le_of_ble_eq_true rfl, Nat.le_of_ble_eq_true rfl⟩ dX4_deskNow_141 (by subst hR; exact rfl)
  rw [if_neg c14] at hR
  by_cases c17 : q = 8
  · rw [if_pos c17] at hR
    refine lv_eq c17 ?_
    refine lv_tableIn (x := 8) (off := 139) (tgt := 142) hx hb dX4_deskNow_3 (by decide) (by decide) (by decide) (by decide) ?_
    refine lv_aload_n hx hb dX4_deskNow_142 rfl (lv_at hl 1 rfl) ?_
    refine gf (v := .int (ca)) (C := RX4) (T := TX4) (N := 13) (k := 2) hx hb hts hown hG cl_X4 in_X4 hM.ag (by decide) q1542 rfl dX4_deskNow_143 ?_
    exact g_iret hx hb hr hlocks hS ⟨Nat.le_of_ble_eq_true rfl, Nat.le_of_ble_eq_true rfl⟩ dX4_deskNow_146 (by subst hR; exact rfl)
  rw [if_neg c17] at hR
  by_cases c18 : q = 9
  · rw [if_pos c18] at hR
    refine lv_eq c18 ?_
    refine lv_tableIn (x := 9) (off := 144) (tgt := 147) hx hb dX4_deskNow_3 (by decide) (by decide) (by decide) (by decide) ?_
    refine lv_iconst (v := 0) hx hb dX4_deskNow_147 (by decide) ?_
    refine lv_istore_n (lv' := [(3, .int 0), (2, .int 0), (0, .ref (β 0 0)), (1, .int (q))]) hx hb dX4_deskNow_148 rfl hl (Nat.le_of_ble_eq_true rfl) rfl (fun ls hl => ?_)
    refine hL149  _ (fun a19 H1 locs1 Fc ls hR hM hFa hFb hS hl => ?_) (nP σ) 0 0  (Nat.zero_add _) hR _ _ _ hM hFa (fun q z => by have := hFb q z; omega) hS ls (lv_sub hl [2, 1, 0] rfl)
    try dsimp only at hR
    have hG := gE.ofS hG0 hS (fun _ h => h.elim)
    refine lv_iload_n hx hb dX4_deskNow_186 rfl (lv_at hl 0 rfl) ?_
    refine lv_iconst (v := 2) hx hb dX4_deskNow_187 (by decide) ?_
    refine lv_idiv hx hb dX4_deskNow_188 (by decide) ?_
    exact g_iret hx hb hr hlocks hS ⟨Nat.le_of_ble_eq_true rfl, Nat.le_of_ble_eq_true rfl⟩ dX4_deskNow_189 (by subst hR; exact rfl)
  rw [if_neg c18] at hR
  by_cases c20 : q = 10
  · rw [if_pos c20] at hR
    refine lv_eq c20 ?_
    refine lv_tableIn (x := 10) (off := 187) (tgt := 190) hx hb dX4_deskNow_3 (by decide) (by decide) (by decide) (by decide) ?_
    refine lv_iconst (v := 0) hx hb dX4_deskNow_190 (by decide) ?_
    refine lv_istore_n (lv' := [(3, .int 0), (2, .int 0), (0, .ref (β 0 0)), (1, .int (q))]) hx hb dX4_deskNow_191 rfl hl (Nat.le_of_ble_eq_true rfl) rfl (fun ls hl => ?_)
    refine hL192  _ (fun a21 H1 locs1 Fc ls hR hM hFa hFb hS hl => ?_) (nP σ) 0 0  (Nat.zero_add _) hR _ _ _ hM hFa (fun q z => by have := hFb q z; omega) hS ls (lv_sub hl [2, 1, 0] rfl)
    try dsimp only at hR
    have hG := gE.ofS hG0 hS (fun _ h => h.elim)
    refine lv_iload_n hx hb dX4_deskNow_226 rfl (lv_at hl 0 rfl) ?_
    exact g_iret hx hb hr hlocks hS ⟨Nat.le_of_ble_eq_true rfl, Nat.le_of_ble_eq_true rfl⟩ dX4_deskNow_227 (by subst hR; exact rfl)
  rw [if_neg c20] at hR
  by_cases c22 : q = 11
  · rw [if_pos c22] at hR
    refine lv_eq c22 ?_
    refine lv_tableIn (x := 11) (off := 225) (tgt := 228) hx hb dX4_deskNow_3 (by decide) (by decide) (by decide) (by decide) ?_
    refine lv_iconst (v := 0) hx hb dX4_deskNow_228 (by decide) ?_
    refine lv_istore_n (lv' := [(3, .int 0), (2, .int 0), (0, .ref (β 0 0)), (1, .int (q))]) hx hb dX4_deskNow_229 rfl hl (Nat.le_of_ble_eq_true rfl) rfl (fun ls hl => ?_)
    refine hL230  _ (fun a25 H1 locs1 Fc ls hR hM hFa hFb hS hl => ?_) (nP σ) 0 0  (Nat.zero_add _) hR _ _ _ hM hFa (fun q z => by have := hFb q z; omega) hS ls (lv_sub hl [2, 1, 0] rfl)
    try dsimp only at hR
    have hG := gE.ofS hG0 hS (fun _ h => h.elim)
    refine lv_iload_n hx hb dX4_deskNow_304 rfl (lv_at hl 0 rfl) ?_
    exact g_iret hx hb hr hlocks hS ⟨Nat.le_of_ble_eq_true rfl, Nat.le_of_ble_eq_true rfl⟩ dX4_deskNow_305 (by subst hR; exact rfl)
  rw [if_neg c22] at hR
  refine lv_tableOut (tgt := 306) hx hb dX4_deskNow_3 (sw_out (lo := 0) (hi := 11) (by decide) (by decide) (fun z h1 h2 => by rcases (show z = 0 ∨ z = 1 ∨ z = 2 ∨ z = 3 ∨ z = 4 ∨ z = 5 ∨ z = 6 ∨ z = 7 ∨ z = 8 ∨ z = 9 ∨ z = 10 ∨ z = 11 by omega) with rfl | rfl | rfl | rfl | rfl | rfl | rfl | rfl | rfl | rfl | rfl | rfl <;> first | exact c1 | exact c2 | exact c3 | exact c4 | exact c5 | exact c8 | exact c11 | exact c14 | exact c17 | exact c18 | exact c20 | exact c22)) (by decide) ?_
  refine lv_aload_n hx hb dX4_deskNow_306 rfl (lv_at hl 1 rfl) ?_
  have hB := hS.1
  refine gcV (As := []) (rest := []) hS0 (met_X4_apart l D E ) q2002 q2004 qs95 q110 q2005 hd_X4_apart ⟨Nat.le_of_ble_eq_true rfl, Nat.le_of_ble_eq_true rfl⟩ hG (rcv hG cl_X4 hM.ag) hM rfl hl.1 rfl (Nat.le_of_ble_eq_true rfl) dX4_deskNow_307 ⟨Nat.le_of_ble_eq_true rfl, Nat.le_of_ble_eq_true rfl⟩ hS (fun q h => h.elim) (fun q h => h.elim) (fun v H1 locs1 hP hz hk hS => ?_)
  obtain rfl := hP
  have hM := hM.kept (fun q h4 _ => hk q h4 id)
  have hG := gE.ofS hG0 hS (fun _ h => h.elim)
  refine W.eq (g2 := F0 m 310 ls [.int ((fX4_apart σ))]) rfl ?_
  exact g_iret hx hb hr hlocks hS ⟨Nat.le_of_ble_eq_true rfl, Nat.le_of_ble_eq_true rfl⟩ dX4_deskNow_310 (by subst hR; exact rfl)

def fX4_desk (σ : St) (th : Int32) (ca : Int32) (sm : Int64) (a : Int32) : Int32 × MSt :=
  (if ((fX4_is a 0 12)) = true then ((fX4_deskNow σ ca (nI ((Int32.toNatClampNeg a)))), ((σ, 0, ca, sm) : MSt)) else (fun (σ1 : St) => (fun (th1 : Int32) => (fun (ca1 : Int32) => (fun (sm1 : Int64) => (fun (v1 : Int32) => (v1, ((σ1, th1, ca1, sm1) : MSt))) ((fX4_refuse σ 0 ca sm 1).1)) ((fX4_refuse σ 0 ca sm 1).2.2.2.2)) ((fX4_refuse σ 0 ca sm 1).2.2.2.1)) ((fX4_refuse σ 0 ca sm 1).2.2.1)) ((fX4_refuse σ 0 ca sm 1).2.1))
set_option maxHeartbeats 4000000 in
set_option maxRecDepth 100000 in
theorem met_X4_desk (l : Launch) (D : va_G) (E : Nat → Nat) {β : Nat → Nat → Nat} {F : Nat → Prop} {σ : St} {th ca : Int32} {sm : Int64} (a : Int32)  : GM l D E yX4_desk cX4_desk 2 (Option.some Jvm.ClassFile.FieldType.int) 6 139 11 33 [.ref (β 0 0), .int (a)] (RM D E β F σ th ca sm) F F (fun sz v h => v = some (.int (fX4_desk σ th ca sm a).1) ∧ RM D E β (fN F sz) (fX4_desk σ th ca sm a).2.1 (fX4_desk σ th ca sm a).2.2.1 (fX4_desk σ th ca sm a).2.2.2.1 (fX4_desk σ th ca sm a).2.2.2.2 h ∧ cnt (fX4_desk σ th ca sm a).2.1 σ)  := by
  generalize hR : fX4_desk σ th ca sm a = r
  refine GM.start (by decide) (Nat.le_of_ble_eq_true rfl) ?_
  intro p e s m below meth c ls hx hb hr hml hown hlocks hnm hts hG hM hS hl
  have hown : s.vm.findClass RX4 = some m.cls := hown
  have hS0 : xS p m c cX4_desk 2 s _ RX4 := ⟨hx, hb, hml, hown, hts⟩
  have hl : lv_has ls 2 [(0, .ref (β 0 0)), (1, .int (a))] := hl
  have hG0 := hG
  have hM0 := hM
  have hb0P := hM0.nP10
  have hb0B := hM0.nB6
  have hb0W := hM0.nW14
  have hFE := hM.fE
  obtain ⟨Fc, hM, hFn⟩ := hM.nar
  have hFa : ∀ q, Fc q → fN F s.heap.size q := fun q z => Or.inl (hFn q z).1
  have hFb : ∀ q, Fc q → q < s.heap.size := fun q z => (hFn q z).2
  have hcn : cnt σ σ := cnt.rf
  unfold fX4_desk at hR
  refine lv_aload_n hx hb dX4_desk_0 rfl (lv_at hl 0 rfl) ?_
  refine lv_iconst (v := 0) hx hb dX4_desk_1 (by decide) ?_
  refine pf (ty0 := tyX4) (ty := tyX4 0) (v := .int 0) (C := RX4) (T := TX4) (N := 13) (k := 0) hx hb hts hown hG hS cl_X4 in_X4 tyX4_ok nmX4 hM.ag (hFa _ hM.agF) (hFa _ hM.agF) (by decide) q1540 rfl (tyX4_ok 0 (by decide)) rfl rfl (Nat.le_of_ble_eq_true rfl) dX4_desk_2 (fun H1 locs1 he hz hq hS => ?_)
  have hM := hM.Pth  he hq
  have hG := gE.ofS hG0 hS hFE
  refine lv_iload_n hx hb dX4_desk_5 rfl (lv_at hl 1 rfl) ?_
  refine lv_iconst (v := 0) hx hb dX4_desk_6 (by decide) ?_
  refine lv_bipush (v := 12) hx hb dX4_desk_7 (by decide) ?_
  refine pcS (As := [.int (a), .int 0, .int 12]) (rest := []) hS0 (met_X4_is l D E a 0 12) q1588 q1589 q110 q1590 hd_X4_is ⟨Nat.le_of_ble_eq_true rfl, Nat.le_of_ble_eq_true rfl⟩ hG trivial rfl hl.1 rfl (Nat.le_of_ble_eq_true rfl) dX4_desk_9 ⟨Nat.le_of_ble_eq_true rfl, Nat.le_of_ble_eq_true rfl⟩ ?_
  refine W.eq (g2 := F0 m 12 ls [.int (bI ((fX4_is a 0 12)))]) rfl ?_
  refine lb_if_eq (tgt := 23) hx hb dX4_desk_12 (by decide) (fun c1 => ?_) (fun c1 => ?_)
  · rw [if_neg c1] at hR
    refine lv_aload_n hx hb dX4_desk_23 rfl (lv_at hl 0 rfl) ?_
    refine lv_iconst (v := 1) hx hb dX4_desk_24 (by decide) ?_
    have hB := hS.1
    refine gcV (As := [.int 1]) (rest := []) hS0 (met_X4_refuse l D E 1) q1591 q1593 qs55 q110 q1594 hd_X4_refuse ⟨Nat.le_of_ble_eq_true rfl, Nat.le_of_ble_eq_true rfl⟩ hG (rcv hG cl_X4 hM.ag) hM rfl hl.1 rfl (Nat.le_of_ble_eq_true rfl) dX4_desk_25 ⟨Nat.le_of_ble_eq_true rfl, Nat.le_of_ble_eq_true rfl⟩ hS (fun q h => hFa q h) (fun q h => hFa q h) (fun v H1 locs1 hP hz hk hS => ?_)
    obtain ⟨rfl, hZ, hc8⟩ := hP
    obtain ⟨Fd, hM, hFn⟩ := hZ.nar
    have hFa : ∀ q, Fd q → fN F s.heap.size q := fun q z => (hFn q z).1.elim (hFa q) (fun z9 => Or.inr (Nat.le_trans hB z9))
    have hFb : ∀ q, Fd q → q < H1.size := fun q z => (hFn q z).2
    clear hFn
    generalize Fd = Fc at hM hFa hFb
    have hG := gE.ofS hG0 hS hFE
    have hcn := hc8.tr hcn
    generalize hv_σ1 : (fX4_refuse σ 0 ca sm 1).2.1 = σ1 at hR hM hcn ⊢
    generalize hv_th1 : (fX4_refuse σ 0 ca sm 1).2.2.1 = th1 at hR hM hcn ⊢
    generalize hv_ca1 : (fX4_refuse σ 0 ca sm 1).2.2.2.1 = ca1 at hR hM hcn ⊢
    generalize hv_sm1 : (fX4_refuse σ 0 ca sm 1).2.2.2.2 = sm1 at hR hM hcn ⊢
    generalize hv_v1 : (fX4_refuse σ 0 ca sm 1).1 = v1 at hR hM hcn ⊢
    try dsimp only at hR
    refine W.eq (g2 := F0 m 28 ls [.int (v1)]) rfl ?_
    exact g_iret hx hb hr hlocks hS ⟨Nat.le_of_ble_eq_true rfl, Nat.le_of_ble_eq_true rfl⟩ dX4_desk_28 (by subst hR; exact ⟨rfl, (hM.mono (fun q _ z => hFa q z) (fN_E hFE hG0.2.2.1)), hcn⟩)
  · rw [if_pos c1] at hR
    have nc1 := is_ix (n := 12) (by decide) c1
    refine lv_aload_n hx hb dX4_desk_15 rfl (lv_at hl 0 rfl) ?_
    refine lv_iload_n hx hb dX4_desk_16 rfl (lv_at hl 1 rfl) ?_
    refine lv_eq nc1.1 ?_
    have hB := hS.1
    refine gcV (As := [.int (nI ((Int32.toNatClampNeg a)))]) (rest := []) hS0 (met_X4_deskNow l D E (nI ((Int32.toNatClampNeg a)))) q1998 q2000 qs94 q110 q2001 hd_X4_deskNow ⟨Nat.le_of_ble_eq_true rfl, Nat.le_of_ble_eq_true rfl⟩ hG (rcv hG cl_X4 hM.ag) hM rfl hl.1 rfl (Nat.le_of_ble_eq_true rfl) dX4_desk_17 ⟨Nat.le_of_ble_eq_true rfl, Nat.le_of_ble_eq_true rfl⟩ hS (fun q h => h.elim) (fun q h => h.elim) (fun v H1 locs1 hP hz hk hS => ?_)
    obtain rfl := hP
    have hM := hM.kept (fun q h4 _ => hk q h4 id)
    have hG := gE.ofS hG0 hS hFE
    refine W.eq (g2 := F0 m 20 ls [.int ((fX4_deskNow σ ca (nI ((Int32.toNatClampNeg a)))))]) rfl ?_
    refine lv_goto (tgt := 28) hx hb dX4_desk_20 (by decide) ?_
    exact g_iret hx hb hr hlocks hS ⟨Nat.le_of_ble_eq_true rfl, Nat.le_of_ble_eq_true rfl⟩ dX4_desk_28 (by subst hR; exact ⟨rfl, (hM.mono (fun q _ z => hFa q z) (fN_E hFE hG0.2.2.1)), hcn⟩)

def fX4_ofPlayer (σ : St) (th : Int32) (ca : Int32) (sm : Int64) (a : Int32) (b : Int32) : Int32 × MSt :=
  (if ((fX4_isPlayer σ a)) = true then (if ((fX4_is b 0 8)) = true then ((fX4_ofPlayerNow σ ((Int32.toNatClampNeg a)) ((Int32.toNatClampNeg b))), ((σ, 0, ca, sm) : MSt)) else (fun (σ1 : St) => (fun (th1 : Int32) => (fun (ca1 : Int32) => (fun (sm1 : Int64) => (fun (v1 : Int32) => (v1, ((σ1, th1, ca1, sm1) : MSt))) ((fX4_refuse σ 0 ca sm 2).1)) ((fX4_refuse σ 0 ca sm 2).2.2.2.2)) ((fX4_refuse σ 0 ca sm 2).2.2.2.1)) ((fX4_refuse σ 0 ca sm 2).2.2.1)) ((fX4_refuse σ 0 ca sm 2).2.1)) else (fun (σ2 : St) => (fun (th2 : Int32) => (fun (ca2 : Int32) => (fun (sm2 : Int64) => (fun (v2 : Int32) => (v2, ((σ2, th2, ca2, sm2) : MSt))) ((fX4_refuse σ 0 ca sm 1).1)) ((fX4_refuse σ 0 ca sm 1).2.2.2.2)) ((fX4_refuse σ 0 ca sm 1).2.2.2.1)) ((fX4_refuse σ 0 ca sm 1).2.2.1)) ((fX4_refuse σ 0 ca sm 1).2.1))
set_option maxHeartbeats 4000000 in
set_option maxRecDepth 100000 in
theorem met_X4_ofPlayer (l : Launch) (D : va_G) (E : Nat → Nat) {β : Nat → Nat → Nat} {F : Nat → Prop} {σ : St} {th ca : Int32} {sm : Int64} (a : Int32) (b : Int32)  : GM l D E yX4_ofPlayer cX4_ofPlayer 3 (Option.some Jvm.ClassFile.FieldType.int) 5 111 1 3 [.ref (β 0 0), .int (a), .int (b)] (RM D E β F σ th ca sm) F F (fun sz v h => v = some (.int (fX4_ofPlayer σ th ca sm a b).1) ∧ RM D E β (fN F sz) (fX4_ofPlayer σ th ca sm a b).2.1 (fX4_ofPlayer σ th ca sm a b).2.2.1 (fX4_ofPlayer σ th ca sm a b).2.2.2.1 (fX4_ofPlayer σ th ca sm a b).2.2.2.2 h ∧ cnt (fX4_ofPlayer σ th ca sm a b).2.1 σ)  := by
  generalize hR : fX4_ofPlayer σ th ca sm a b = r
  refine GM.start (by decide) (Nat.le_of_ble_eq_true rfl) ?_
  intro p e s m below meth c ls hx hb hr hml hown hlocks hnm hts hG hM hS hl
  have hown : s.vm.findClass RX4 = some m.cls := hown
  have hS0 : xS p m c cX4_ofPlayer 3 s _ RX4 := ⟨hx, hb, hml, hown, hts⟩
  have hl : lv_has ls 3 [(0, .ref (β 0 0)), (1, .int (a)), (2, .int (b))] := hl
  have hG0 := hG
  have hM0 := hM
  have hb0P := hM0.nP10
  have hb0B := hM0.nB6
  have hb0W := hM0.nW14
  have hFE := hM.fE
  obtain ⟨Fc, hM, hFn⟩ := hM.nar
  have hFa : ∀ q, Fc q → fN F s.heap.size q := fun q z => Or.inl (hFn q z).1
  have hFb : ∀ q, Fc q → q < s.heap.size := fun q z => (hFn q z).2
  have hcn : cnt σ σ := cnt.rf
  unfold fX4_ofPlayer at hR
  refine lv_aload_n hx hb dX4_ofPlayer_0 rfl (lv_at hl 0 rfl) ?_
  refine lv_iconst (v := 0) hx hb dX4_ofPlayer_1 (by decide) ?_
  refine pf (ty0 := tyX4) (ty := tyX4 0) (v := .int 0) (C := RX4) (T := TX4) (N := 13) (k := 0) hx hb hts hown hG hS cl_X4 in_X4 tyX4_ok nmX4 hM.ag (hFa _ hM.agF) (hFa _ hM.agF) (by decide) q1540 rfl (tyX4_ok 0 (by decide)) rfl rfl (Nat.le_of_ble_eq_true rfl) dX4_ofPlayer_2 (fun H1 locs1 he hz hq hS => ?_)
  have hM := hM.Pth  he hq
  have hG := gE.ofS hG0 hS hFE
  refine lv_aload_n hx hb dX4_ofPlayer_5 rfl (lv_at hl 0 rfl) ?_
  refine lv_iload_n hx hb dX4_ofPlayer_6 rfl (lv_at hl 1 rfl) ?_
  refine pcV (As := [.int (a)]) (rest := []) hS0 (met_X4_isPlayer l D E a) q1635 q1637 qs57 q110 q1638 hd_X4_isPlayer ⟨Nat.le_of_ble_eq_true rfl, Nat.le_of_ble_eq_true rfl⟩ hG (rcv hG cl_X4 hM.ag) hM rfl hl.1 rfl (Nat.le_of_ble_eq_true rfl) dX4_ofPlayer_7 ⟨Nat.le_of_ble_eq_true rfl, Nat.le_of_ble_eq_true rfl⟩ ?_
  refine W.eq (g2 := F0 m 10 ls [.int (bI ((fX4_isPlayer σ a)))]) rfl ?_
  refine lb_if_ne (tgt := 19) hx hb dX4_ofPlayer_10 (by decide) (fun c1 => ?_) (fun c1 => ?_)
  · rw [if_pos c1] at hR
    have nc1 := isPlayer_ix hM c1
    refine lv_iload_n hx hb dX4_ofPlayer_19 rfl (lv_at hl 2 rfl) ?_
    refine lv_iconst (v := 0) hx hb dX4_ofPlayer_20 (by decide) ?_
    refine lv_bipush (v := 8) hx hb dX4_ofPlayer_21 (by decide) ?_
    refine pcS (As := [.int (b), .int 0, .int 8]) (rest := []) hS0 (met_X4_is l D E b 0 8) q1588 q1589 q110 q1590 hd_X4_is ⟨Nat.le_of_ble_eq_true rfl, Nat.le_of_ble_eq_true rfl⟩ hG trivial rfl hl.1 rfl (Nat.le_of_ble_eq_true rfl) dX4_ofPlayer_23 ⟨Nat.le_of_ble_eq_true rfl, Nat.le_of_ble_eq_true rfl⟩ ?_
    refine W.eq (g2 := F0 m 26 ls [.int (bI ((fX4_is b 0 8)))]) rfl ?_
    refine lb_if_eq (tgt := 38) hx hb dX4_ofPlayer_26 (by decide) (fun c2 => ?_) (fun c2 => ?_)
    · rw [if_neg c2] at hR
      refine lv_aload_n hx hb dX4_ofPlayer_38 rfl (lv_at hl 0 rfl) ?_
      refine lv_iconst (v := 2) hx hb dX4_ofPlayer_39 (by decide) ?_
      have hB := hS.1
      refine gcV (As := [.int 2]) (rest := []) hS0 (met_X4_refuse l D E 2) q1591 q1593 qs55 q110 q1594 hd_X4_refuse ⟨Nat.le_of_ble_eq_true rfl, Nat.le_of_ble_eq_true rfl⟩ hG (rcv hG cl_X4 hM.ag) hM rfl hl.1 rfl (Nat.le_of_ble_eq_true rfl) dX4_ofPlayer_40 ⟨Nat.le_of_ble_eq_true rfl, Nat.le_of_ble_eq_true rfl⟩ hS (fun q h => hFa q h) (fun q h => hFa q h) (fun v H1 locs1 hP hz hk hS => ?_)
      obtain ⟨rfl, hZ, hc8⟩ := hP
      obtain ⟨Fd, hM, hFn⟩ := hZ.nar
      have hFa : ∀ q, Fd q → fN F s.heap.size q := fun q z => (hFn q z).1.elim (hFa q) (fun z9 => Or.inr (Nat.le_trans hB z9))
      have hFb : ∀ q, Fd q → q < H1.size := fun q z => (hFn q z).2
      clear hFn
      generalize Fd = Fc at hM hFa hFb
      have hG := gE.ofS hG0 hS hFE
      have hcn := hc8.tr hcn
      generalize hv_σ1 : (fX4_refuse σ 0 ca sm 2).2.1 = σ1 at hR hM hcn ⊢
      generalize hv_th1 : (fX4_refuse σ 0 ca sm 2).2.2.1 = th1 at hR hM hcn ⊢
      generalize hv_ca1 : (fX4_refuse σ 0 ca sm 2).2.2.2.1 = ca1 at hR hM hcn ⊢
      generalize hv_sm1 : (fX4_refuse σ 0 ca sm 2).2.2.2.2 = sm1 at hR hM hcn ⊢
      generalize hv_v1 : (fX4_refuse σ 0 ca sm 2).1 = v1 at hR hM hcn ⊢
      try dsimp only at hR
      refine W.eq (g2 := F0 m 43 ls [.int (v1)]) rfl ?_
      exact g_iret hx hb hr hlocks hS ⟨Nat.le_of_ble_eq_true rfl, Nat.le_of_ble_eq_true rfl⟩ dX4_ofPlayer_43 (by subst hR; exact ⟨rfl, (hM.mono (fun q _ z => hFa q z) (fN_E hFE hG0.2.2.1)), hcn⟩)
    · rw [if_pos c2] at hR
      have nc2 := is_ix (n := 8) (by decide) c2
      refine lv_aload_n hx hb dX4_ofPlayer_29 rfl (lv_at hl 0 rfl) ?_
      refine lv_iload_n hx hb dX4_ofPlayer_30 rfl (lv_at hl 1 rfl) ?_
      refine lv_eq nc1.1 ?_
      refine lv_iload_n hx hb dX4_ofPlayer_31 rfl (lv_at hl 2 rfl) ?_
      refine lv_eq nc2.1 ?_
      have hB := hS.1
      refine gcV (As := [.int (nI ((Int32.toNatClampNeg a))), .int (nI ((Int32.toNatClampNeg b)))]) (rest := []) hS0 (met_X4_ofPlayerNow l D E ((Int32.toNatClampNeg a)) ((Int32.toNatClampNeg b)) nc1.2 nc2.2) q1913 q1915 qs84 q110 q1916 hd_X4_ofPlayerNow ⟨Nat.le_of_ble_eq_true rfl, Nat.le_of_ble_eq_true rfl⟩ hG (rcv hG cl_X4 hM.ag) hM rfl hl.1 rfl (Nat.le_of_ble_eq_true rfl) dX4_ofPlayer_32 ⟨Nat.le_of_ble_eq_true rfl, Nat.le_of_ble_eq_true rfl⟩ hS (fun q h => h.elim) (fun q h => h.elim) (fun v H1 locs1 hP hz hk hS => ?_)
      obtain rfl := hP
      have hM := hM.kept (fun q h4 _ => hk q h4 id)
      have hG := gE.ofS hG0 hS hFE
      refine W.eq (g2 := F0 m 35 ls [.int ((fX4_ofPlayerNow σ ((Int32.toNatClampNeg a)) ((Int32.toNatClampNeg b))))]) rfl ?_
      refine lv_goto (tgt := 43) hx hb dX4_ofPlayer_35 (by decide) ?_
      exact g_iret hx hb hr hlocks hS ⟨Nat.le_of_ble_eq_true rfl, Nat.le_of_ble_eq_true rfl⟩ dX4_ofPlayer_43 (by subst hR; exact ⟨rfl, (hM.mono (fun q _ z => hFa q z) (fN_E hFE hG0.2.2.1)), hcn⟩)
  · rw [if_neg c1] at hR
    refine lv_aload_n hx hb dX4_ofPlayer_13 rfl (lv_at hl 0 rfl) ?_
    refine lv_iconst (v := 1) hx hb dX4_ofPlayer_14 (by decide) ?_
    have hB := hS.1
    refine gcV (As := [.int 1]) (rest := []) hS0 (met_X4_refuse l D E 1) q1591 q1593 qs55 q110 q1594 hd_X4_refuse ⟨Nat.le_of_ble_eq_true rfl, Nat.le_of_ble_eq_true rfl⟩ hG (rcv hG cl_X4 hM.ag) hM rfl hl.1 rfl (Nat.le_of_ble_eq_true rfl) dX4_ofPlayer_15 ⟨Nat.le_of_ble_eq_true rfl, Nat.le_of_ble_eq_true rfl⟩ hS (fun q h => hFa q h) (fun q h => hFa q h) (fun v H1 locs1 hP hz hk hS => ?_)
    obtain ⟨rfl, hZ, hc8⟩ := hP
    obtain ⟨Fd, hM, hFn⟩ := hZ.nar
    have hFa : ∀ q, Fd q → fN F s.heap.size q := fun q z => (hFn q z).1.elim (hFa q) (fun z9 => Or.inr (Nat.le_trans hB z9))
    have hFb : ∀ q, Fd q → q < H1.size := fun q z => (hFn q z).2
    clear hFn
    generalize Fd = Fc at hM hFa hFb
    have hG := gE.ofS hG0 hS hFE
    have hcn := hc8.tr hcn
    generalize hv_σ2 : (fX4_refuse σ 0 ca sm 1).2.1 = σ2 at hR hM hcn ⊢
    generalize hv_th2 : (fX4_refuse σ 0 ca sm 1).2.2.1 = th2 at hR hM hcn ⊢
    generalize hv_ca2 : (fX4_refuse σ 0 ca sm 1).2.2.2.1 = ca2 at hR hM hcn ⊢
    generalize hv_sm2 : (fX4_refuse σ 0 ca sm 1).2.2.2.2 = sm2 at hR hM hcn ⊢
    generalize hv_v2 : (fX4_refuse σ 0 ca sm 1).1 = v2 at hR hM hcn ⊢
    try dsimp only at hR
    refine W.eq (g2 := F0 m 18 ls [.int (v2)]) rfl ?_
    exact g_iret hx hb hr hlocks hS ⟨Nat.le_of_ble_eq_true rfl, Nat.le_of_ble_eq_true rfl⟩ dX4_ofPlayer_18 (by subst hR; exact ⟨rfl, (hM.mono (fun q _ z => hFa q z) (fN_E hFE hG0.2.2.1)), hcn⟩)

def fX4_bestSet_L26 (σ : St) (a : Int32) (i4 : Nat) (t_t2_13 : (Nat → Int32)) (t_t7_13 : (Nat → Int32)) (κ : Int32 → Option (Nat × (Nat → Int32))) : Nat → Nat → Int32 → Option (Nat × (Nat → Int32))
  | 0, i6, a5 => κ a5
  | n + 1, i6, a5 => (if ((t_t7_13) i6) = 0 then (if a5 = ((-1)) then fX4_bestSet_L26 σ a i4 t_t2_13 t_t7_13 κ n (i6 + 1) (nI i6) else (if 0 ≤ a5 ∧ a5 < nI 16 then (if (sEnergy σ ((Int32.toNatClampNeg a5))) < (sEnergy σ i6) then fX4_bestSet_L26 σ a i4 t_t2_13 t_t7_13 κ n (i6 + 1) (nI i6) else (if (sEnergy σ i6) = (sEnergy σ ((Int32.toNatClampNeg a5))) then (if (nI i6) ≤ (nI ((Int32.toNatClampNeg a5))) then fX4_bestSet_L26 σ a i4 t_t2_13 t_t7_13 κ n (i6 + 1) a5 else fX4_bestSet_L26 σ a i4 t_t2_13 t_t7_13 κ n (i6 + 1) (nI i6)) else fX4_bestSet_L26 σ a i4 t_t2_13 t_t7_13 κ n (i6 + 1) a5)) else none)) else fX4_bestSet_L26 σ a i4 t_t2_13 t_t7_13 κ n (i6 + 1) a5)
def fX4_bestSet_L121 (σ : St) (a : Int32) (i4 : Nat) (t_t2_13 : (Nat → Int32)) (a7 : Int32) (f3 : (Nat → Int32)) (κ : Int32 → Option (Nat × (Nat → Int32))) : Nat → Nat → Int32 → Option (Nat × (Nat → Int32))
  | 0, i7, a6 => κ a6
  | n + 1, i7, a6 => (if ((t_t2_13) i7) ≤ a6 then fX4_bestSet_L121 σ a i4 t_t2_13 a7 f3 κ n (i7 + 1) a6 else (if ((fX4_isBehind σ ((Int32.toNatClampNeg a7)) i7)) = true then fX4_bestSet_L121 σ a i4 t_t2_13 a7 f3 κ n (i7 + 1) ((t_t2_13) i7) else fX4_bestSet_L121 σ a i4 t_t2_13 a7 f3 κ n (i7 + 1) a6))
def fX4_bestSet_L13 (σ : St) (a : Int32)  (κ : (Nat → Int32) → (Nat → Int32) → Option (Nat × (Nat → Int32))) : Nat → Nat → (Nat → Int32) → (Nat → Int32) → Option (Nat × (Nat → Int32))
  | 0, i4, t_t2_13, t_t7_13 => κ t_t2_13 t_t7_13
  | n + 1, i4, t_t2_13, t_t7_13 => fX4_bestSet_L26 σ a i4 t_t2_13 t_t7_13 (fun (a7 : Int32) => (if 0 ≤ a7 ∧ a7 < nI 16 then (fun (f3 : Nat → Int32) => (if ((fX4_isKnown σ a ((Int32.toNatClampNeg a7)))) = true then fX4_bestSet_L121 σ a i4 t_t2_13 a7 f3 (fun (a12 : Int32) => (fun (f5 : Nat → Int32) => fX4_bestSet_L13 σ a κ n (i4 + 1) f5 f3) (upd t_t2_13 ((Int32.toNatClampNeg a7)) ((sMin σ ((Int32.toNatClampNeg a7))) + a12))) 16 0 0 else fX4_bestSet_L13 σ a κ n (i4 + 1) t_t2_13 f3)) (upd t_t7_13 ((Int32.toNatClampNeg a7)) 1) else none)) 16 0 ((-1))
def fX4_bestSet_L186 (σ : St) (a : Int32) (t_t2_13 : (Nat → Int32)) (t_t7_14 : (Nat → Int32)) (κ : Int32 → Option (Nat × (Nat → Int32))) : Nat → Nat → Int32 → Option (Nat × (Nat → Int32))
  | 0, i5, a4 => κ a4
  | n + 1, i5, a4 => fX4_bestSet_L186 σ a t_t2_13 t_t7_14 κ n (i5 + 1) (if a4 < ((t_t2_13) i5) then ((t_t2_13) i5) else a4)
def fX4_bestSet_L230 (σ : St) (a : Int32) (t_t2_13 : (Nat → Int32)) (t_t7_14 : (Nat → Int32)) (a4 : Int32) (a6 : Nat) (a7 : Int32) (t_t212_222 : (Nat → Int32)) (κ : Nat → Option (Nat × (Nat → Int32))) : Nat → Nat → Option (Nat × (Nat → Int32))
  | 0, a8 => none
  | n + 1, a8 => (if a8 < 16 then (if ((t_t2_13) a8) = a4 then (if a7 = ((-1)) then κ a8 else (if 0 ≤ a7 ∧ a7 < nI 16 then (if ((fX4_isBehind σ ((Int32.toNatClampNeg a7)) a8)) = true then κ a8 else fX4_bestSet_L230 σ a t_t2_13 t_t7_14 a4 a6 a7 t_t212_222 κ n (a8 + 1)) else none)) else fX4_bestSet_L230 σ a t_t2_13 t_t7_14 a4 a6 a7 t_t212_222 κ n (a8 + 1)) else none)
def fX4_bestSet_L222 (σ : St) (a : Int32) (t_t2_13 : (Nat → Int32)) (t_t7_14 : (Nat → Int32)) (κ : Nat → (Nat → Int32) → Option (Nat × (Nat → Int32))) : Nat → Int32 → Nat → Int32 → (Nat → Int32) → Option (Nat × (Nat → Int32))
  | 0, a4, a6, a7, t_t212_222 => none
  | n + 1, a4, a6, a7, t_t212_222 => (if a4 ≤ 0 then κ a6 t_t212_222 else fX4_bestSet_L230 σ a t_t2_13 t_t7_14 a4 a6 a7 t_t212_222 (fun (i22 : Nat) => (if a6 < 16 then (if i22 < 16 then (fun (f9 : Nat → Int32) => fX4_bestSet_L222 σ a t_t2_13 t_t7_14 κ n (a4 - (sMin σ i22)) (a6 + 1) (nI i22) f9) (upd t_t212_222 a6 (nI i22)) else none) else none)) 17 0)
def fX4_bestSet (σ : St) (a : Int32) : Option (Nat × (Nat → Int32)) :=
  fX4_bestSet_L13 σ a (fun (t_t2_13 : (Nat → Int32)) (t_t7_14 : (Nat → Int32)) => fX4_bestSet_L186 σ a t_t2_13 t_t7_14 (fun (a15 : Int32) => fX4_bestSet_L222 σ a t_t2_13 t_t7_14 (fun (i25 : Nat) (t_t212_26 : (Nat → Int32)) => (if i25 < 17 then (some (i25, va_cpy t_t212_26 (fun _ => 0) 0 0 i25)) else none)) 17 a15 0 ((-1)) (fun _ => 0)) 16 0 0) 16 0 (fun _ => 0) (fun _ => 0)
set_option maxHeartbeats 4000000 in
set_option maxRecDepth 100000 in
theorem met_X4_bestSet (l : Launch) (D : va_G) (E : Nat → Nat) {β : Nat → Nat → Nat} {F : Nat → Prop} {σ : St} {th ca : Int32} {sm : Int64} (a : Int32)  {r : Nat × (Nat → Int32)} (hR : fX4_bestSet σ a = some r) : GM l D E yX4_bestSet cX4_bestSet 9 (Option.some (Jvm.ClassFile.FieldType.array Jvm.ClassFile.FieldType.int)) 4 88 4 64 [.ref (β 0 0), .int (a)] (RM D E β F σ th ca sm) (fun _ => False) (fun _ => False) (fun sz v h => ∃ q, v = some (.ref q) ∧ sz ≤ q ∧ r.1 ≤ 16 ∧ va_at D vwCl (q, arI E r.1 r.2) h)  := by
  refine GM.start (by decide) (Nat.le_of_ble_eq_true rfl) ?_
  intro p e s m below meth c ls hx hb hr hml hown hlocks hnm hts hG hM hS hl
  have hown : s.vm.findClass RX4 = some m.cls := hown
  have hS0 : xS p m c cX4_bestSet 9 s _ RX4 := ⟨hx, hb, hml, hown, hts⟩
  have hl : lv_has ls 9 [(0, .ref (β 0 0)), (1, .int (a))] := hl
  have hG0 := hG
  have hM0 := hM
  have hb0P := hM0.nP10
  have hb0B := hM0.nB6
  have hb0W := hM0.nW14
  have hFE := hM.fE
  obtain ⟨Fc, hM, hFn⟩ := hM.nar
  have hFa : ∀ q, Fc q → fN F s.heap.size q := fun q z => Or.inl (hFn q z).1
  have hFb : ∀ q, Fc q → q < s.heap.size := fun q z => (hFn q z).2
  have hcn : cnt σ σ := cnt.rf
  have hL26 : ∀ (i4 : Nat) (t_t2_13 : (Nat → Int32)) (t_t7_13 : (Nat → Int32)) (q2 : Nat) (q7 : Nat) (hge_t2 : s.heap.size ≤ q2) (hne_t2_t7 : q2 ≠ q7) (hge_t7 : s.heap.size ≤ q7) (hf26_0 : i4 < 16) (κ : Int32 → Option (Nat × (Nat → Int32))) (hκ : ∀ (a5 : Int32) (H : Heap) (locs : List Loc) (Fc : Nat → Prop) (ls : Array Slot), κ a5 = some r → RM D E β Fc σ th ca sm H → (∀ q, Fc q → fN F s.heap.size q) → (∀ q, Fc q → q < H.size) → ¬ Fc q2 → ¬ Fc q7 → va_at D vwCl (q2, arI E 16 t_t2_13) H → va_at D vwCl (q7, arZ E 16 t_t7_13) H → xK (fun _ => False) (fun _ => False) s.heap H locs → lv_has ls 9 [(0, .ref (β 0 0)), (1, .int (a)), (2, .ref (q2)), (3, .ref (q7)), (4, .int (nI i4)), (5, .int (a5))] → W p l e { frames := 4, cells := 4, slots := 64, locals := 88 } s m [(.ref (β 0 0) : Value), .int (a)].toArray below meth c H locs 2 32 (MQ below (qG (fun _ => False) ((fun sz v h => ∃ q, v = some (.ref q) ∧ sz ≤ q ∧ r.1 ≤ 16 ∧ va_at D vwCl (q, arI E r.1 r.2) h) s.heap.size)) [(.ref (β 0 0) : Value), .int (a)].toArray s 4 64 (fN (fun _ => False) s.heap.size)) (F0 m 97 ls [])) (n : Nat) (i6 : Nat) (a5 : Int32) , i6 + n = 16 → fX4_bestSet_L26 σ a i4 t_t2_13 t_t7_13 κ n i6 a5 = some r → ∀ (H : Heap) (locs : List Loc) (Fc : Nat → Prop), RM D E β Fc σ th ca sm H → (∀ q, Fc q → fN F s.heap.size q) → (∀ q, Fc q → q < H.size) → ¬ Fc q2 → ¬ Fc q7 → va_at D vwCl (q2, arI E 16 t_t2_13) H → va_at D vwCl (q7, arZ E 16 t_t7_13) H → xK (fun _ => False) (fun _ => False) s.heap H locs → ∀ (ls : Array Slot), lv_has ls 9 [(0, .ref (β 0 0)), (1, .int (a)), (2, .ref (q2)), (3, .ref (q7)), (4, .int (nI i4)), (5, .int (a5)), (6, .int (nI i6))] → W p l e { frames := 4, cells := 4, slots := 64, locals := 88 } s m [(.ref (β 0 0) : Value), .int (a)].toArray below meth c H locs 2 32 (MQ below (qG (fun _ => False) ((fun sz v h => ∃ q, v = some (.ref q) ∧ sz ≤ q ∧ r.1 ≤ 16 ∧ va_at D vwCl (q, arI E r.1 r.2) h) s.heap.size)) [(.ref (β 0 0) : Value), .int (a)].toArray s 4 64 (fN (fun _ => False) s.heap.size)) (F0 m 26 ls []) := by
    intro i4 t_t2_13 t_t7_13 q2 q7 hge_t2 hne_t2_t7 hge_t7 hf26_0 κ hκ n
    induction n with
    | zero =>
      intro i6 a5 hn hR H locs Fc hM hFa hFb hd_t2 hd_t7 hT_t2 hT_t7 hS ls hl
      rw [fX4_bestSet_L26] at hR
      have hG := gE.ofS hG0 hS (fun _ h => h.elim)
      refine lv_iload hx hb dX4_bestSet_26 (lv_at hl 6 rfl) ?_
      refine lv_bipush (v := 16) hx hb dX4_bestSet_28 (by decide) ?_
      refine lk_ge_out (k := i6) (N := 16) hx hb hn (tgt := 97) dX4_bestSet_30 (by decide) ?_
      exact hκ a5 _ _ _ ls hR hM hFa (fun q z => by have := hFb q z; omega) hd_t2 hd_t7 hT_t2 hT_t7 hS (lv_sub hl [0, 1, 2, 3, 4, 5] rfl)
    | succ n ih =>
      intro i6 a5 hn hR H locs Fc hM hFa hFb hd_t2 hd_t7 hT_t2 hT_t7 hS ls hl
      rw [fX4_bestSet_L26] at hR
      have hG := gE.ofS hG0 hS (fun _ h => h.elim)
      refine lv_iload hx hb dX4_bestSet_26 (lv_at hl 6 rfl) ?_
      refine lv_bipush (v := 16) hx hb dX4_bestSet_28 (by decide) ?_
      have hki6 : i6 < 16 := lk_lt hn
      refine lk_ge_in (k := i6) (N := 16) hx hb hki6 (by decide) (tgt := 97) dX4_bestSet_30 (by decide) ?_
      refine lv_aload_n hx hb dX4_bestSet_33 rfl (lv_at hl 3 rfl) ?_
      refine lv_iload hx hb dX4_bestSet_34 (lv_at hl 6 rfl) ?_
      refine gaZ (N := 16) (k := i6) hx hb hG hT_t7 hki6 (by decide) dX4_bestSet_36 ?_
      refine lv_if_ne (tgt := 91) hx hb dX4_bestSet_37 (by decide) (fun c1 => ?_) (fun c1 => ?_)
      · rw [if_neg c1] at hR
        refine lv_iinc (v := nI (i6 + 1)) (lv' := [(6, .int (nI (i6 + 1))), (0, .ref (β 0 0)), (1, .int (a)), (2, .ref (q2)), (3, .ref (q7)), (4, .int (nI i4)), (5, .int (a5))]) hx hb dX4_bestSet_91 hl (k := 6) rfl (nI_1 i6) (Nat.le_of_ble_eq_true rfl) rfl (fun ls hl => ?_)
        refine lv_goto (tgt := 26) hx hb dX4_bestSet_94 (by decide) ?_
        exact ih (i6 + 1) a5 (lk_st hn) hR _ _ _ hM hFa (fun q z => by have := hFb q z; omega) hd_t2 hd_t7 hT_t2 hT_t7 hS ls (lv_sub hl [1, 2, 3, 4, 5, 6, 0] rfl)
      · rw [if_pos c1] at hR
        refine lv_iload hx hb dX4_bestSet_40 (lv_at hl 5 rfl) ?_
        refine lv_iconst (v := (-1)) hx hb dX4_bestSet_42 (by decide) ?_
        refine lv_icmp_eq (tgt := 87) hx hb dX4_bestSet_43 (by decide) (fun c2 => ?_) (fun c2 => ?_)
        · rw [if_pos c2] at hR
          refine lv_iload hx hb dX4_bestSet_87 (lv_at hl 6 rfl) ?_
          refine lv_istore (lv' := [(5, .int (nI i6)), (0, .ref (β 0 0)), (1, .int (a)), (2, .ref (q2)), (3, .ref (q7)), (4, .int (nI i4)), (6, .int (nI i6))]) hx hb dX4_bestSet_89 hl (Nat.le_of_ble_eq_true rfl) rfl (fun ls hl => ?_)
          refine lv_iinc (v := nI (i6 + 1)) (lv' := [(6, .int (nI (i6 + 1))), (5, .int (nI i6)), (0, .ref (β 0 0)), (1, .int (a)), (2, .ref (q2)), (3, .ref (q7)), (4, .int (nI i4))]) hx hb dX4_bestSet_91 hl (k := 6) rfl (nI_1 i6) (Nat.le_of_ble_eq_true rfl) rfl (fun ls hl => ?_)
          refine lv_goto (tgt := 26) hx hb dX4_bestSet_94 (by decide) ?_
          exact ih (i6 + 1) (nI i6) (lk_st hn) hR _ _ _ hM hFa (fun q z => by have := hFb q z; omega) hd_t2 hd_t7 hT_t2 hT_t7 hS ls (lv_sub hl [2, 3, 4, 5, 6, 1, 0] rfl)
        · rw [if_neg c2] at hR
          refine lv_aload_n hx hb dX4_bestSet_46 rfl (lv_at hl 0 rfl) ?_
          refine gf (v := .ref (β 8 1)) (C := RX4) (T := TX4) (N := 13) (k := 7) hx hb hts hown hG cl_X4 in_X4 hM.ag (by decide) q1547 rfl dX4_bestSet_47 ?_
          refine lv_iload hx hb dX4_bestSet_50 (lv_at hl 6 rfl) ?_
          refine gaI (N := 16) (k := i6) hx hb hG hM.ar1 hki6 (by decide) dX4_bestSet_52 ?_
          refine lv_aload_n hx hb dX4_bestSet_53 rfl (lv_at hl 0 rfl) ?_
          refine gf (v := .ref (β 8 1)) (C := RX4) (T := TX4) (N := 13) (k := 7) hx hb hts hown hG cl_X4 in_X4 hM.ag (by decide) q1547 rfl dX4_bestSet_54 ?_
          rcases (Decidable.em (0 ≤ a5 ∧ a5 < nI 16)).symm with g3 | g3
          · rw [if_neg g3] at hR
            cases hR
          rw [if_pos g3] at hR
          have ng3 := ck_ix g3 (by decide)
          refine lv_iload hx hb dX4_bestSet_57 (lv_at hl 5 rfl) ?_
          refine lv_eq ng3.1 ?_
          refine gaI (N := 16) (k := (Int32.toNatClampNeg a5)) hx hb hG hM.ar1 ng3.2 (by decide) dX4_bestSet_59 ?_
          refine lv_icmp_gt (tgt := 87) hx hb dX4_bestSet_60 (by decide) (fun c4 => ?_) (fun c4 => ?_)
          · rw [if_pos c4] at hR
            refine lv_iload hx hb dX4_bestSet_87 (lv_at hl 6 rfl) ?_
            refine lv_istore (lv' := [(5, .int (nI i6)), (0, .ref (β 0 0)), (1, .int (a)), (2, .ref (q2)), (3, .ref (q7)), (4, .int (nI i4)), (6, .int (nI i6))]) hx hb dX4_bestSet_89 hl (Nat.le_of_ble_eq_true rfl) rfl (fun ls hl => ?_)
            refine lv_iinc (v := nI (i6 + 1)) (lv' := [(6, .int (nI (i6 + 1))), (5, .int (nI i6)), (0, .ref (β 0 0)), (1, .int (a)), (2, .ref (q2)), (3, .ref (q7)), (4, .int (nI i4))]) hx hb dX4_bestSet_91 hl (k := 6) rfl (nI_1 i6) (Nat.le_of_ble_eq_true rfl) rfl (fun ls hl => ?_)
            refine lv_goto (tgt := 26) hx hb dX4_bestSet_94 (by decide) ?_
            exact ih (i6 + 1) (nI i6) (lk_st hn) hR _ _ _ hM hFa (fun q z => by have := hFb q z; omega) hd_t2 hd_t7 hT_t2 hT_t7 hS ls (lv_sub hl [2, 3, 4, 5, 6, 1, 0] rfl)
          · rw [if_neg c4] at hR
            refine lv_aload_n hx hb dX4_bestSet_63 rfl (lv_at hl 0 rfl) ?_
            refine gf (v := .ref (β 8 1)) (C := RX4) (T := TX4) (N := 13) (k := 7) hx hb hts hown hG cl_X4 in_X4 hM.ag (by decide) q1547 rfl dX4_bestSet_64 ?_
            refine lv_iload hx hb dX4_bestSet_67 (lv_at hl 6 rfl) ?_
            refine gaI (N := 16) (k := i6) hx hb hG hM.ar1 hki6 (by decide) dX4_bestSet_69 ?_
            refine lv_aload_n hx hb dX4_bestSet_70 rfl (lv_at hl 0 rfl) ?_
            refine gf (v := .ref (β 8 1)) (C := RX4) (T := TX4) (N := 13) (k := 7) hx hb hts hown hG cl_X4 in_X4 hM.ag (by decide) q1547 rfl dX4_bestSet_71 ?_
            refine lv_iload hx hb dX4_bestSet_74 (lv_at hl 5 rfl) ?_
            refine lv_eq ng3.1 ?_
            refine gaI (N := 16) (k := (Int32.toNatClampNeg a5)) hx hb hG hM.ar1 ng3.2 (by decide) dX4_bestSet_76 ?_
            refine lv_icmp_ne (tgt := 91) hx hb dX4_bestSet_77 (by decide) (fun c5 => ?_) (fun c5 => ?_)
            · rw [if_neg c5] at hR
              refine lv_iinc (v := nI (i6 + 1)) (lv' := [(6, .int (nI (i6 + 1))), (0, .ref (β 0 0)), (1, .int (a)), (2, .ref (q2)), (3, .ref (q7)), (4, .int (nI i4)), (5, .int (a5))]) hx hb dX4_bestSet_91 hl (k := 6) rfl (nI_1 i6) (Nat.le_of_ble_eq_true rfl) rfl (fun ls hl => ?_)
              refine lv_goto (tgt := 26) hx hb dX4_bestSet_94 (by decide) ?_
              exact ih (i6 + 1) a5 (lk_st hn) hR _ _ _ hM hFa (fun q z => by have := hFb q z; omega) hd_t2 hd_t7 hT_t2 hT_t7 hS ls (lv_sub hl [1, 2, 3, 4, 5, 6, 0] rfl)
            · rw [if_pos c5] at hR
              refine lv_iload hx hb dX4_bestSet_80 (lv_at hl 6 rfl) ?_
              refine lv_iload hx hb dX4_bestSet_82 (lv_at hl 5 rfl) ?_
              refine lv_eq ng3.1 ?_
              refine lv_icmp_le (tgt := 91) hx hb dX4_bestSet_84 (by decide) (fun c6 => ?_) (fun c6 => ?_)
              · rw [if_pos c6] at hR
                refine lv_iinc (v := nI (i6 + 1)) (lv' := [(6, .int (nI (i6 + 1))), (0, .ref (β 0 0)), (1, .int (a)), (2, .ref (q2)), (3, .ref (q7)), (4, .int (nI i4)), (5, .int (a5))]) hx hb dX4_bestSet_91 hl (k := 6) rfl (nI_1 i6) (Nat.le_of_ble_eq_true rfl) rfl (fun ls hl => ?_)
                refine lv_goto (tgt := 26) hx hb dX4_bestSet_94 (by decide) ?_
                exact ih (i6 + 1) a5 (lk_st hn) hR _ _ _ hM hFa (fun q z => by have := hFb q z; omega) hd_t2 hd_t7 hT_t2 hT_t7 hS ls (lv_sub hl [1, 2, 3, 4, 5, 6, 0] rfl)
              · rw [if_neg c6] at hR
                refine lv_iload hx hb dX4_bestSet_87 (lv_at hl 6 rfl) ?_
                refine lv_istore (lv' := [(5, .int (nI i6)), (0, .ref (β 0 0)), (1, .int (a)), (2, .ref (q2)), (3, .ref (q7)), (4, .int (nI i4)), (6, .int (nI i6))]) hx hb dX4_bestSet_89 hl (Nat.le_of_ble_eq_true rfl) rfl (fun ls hl => ?_)
                refine lv_iinc (v := nI (i6 + 1)) (lv' := [(6, .int (nI (i6 + 1))), (5, .int (nI i6)), (0, .ref (β 0 0)), (1, .int (a)), (2, .ref (q2)), (3, .ref (q7)), (4, .int (nI i4))]) hx hb dX4_bestSet_91 hl (k := 6) rfl (nI_1 i6) (Nat.le_of_ble_eq_true rfl) rfl (fun ls hl => ?_)
                refine lv_goto (tgt := 26) hx hb dX4_bestSet_94 (by decide) ?_
                exact ih (i6 + 1) (nI i6) (lk_st hn) hR _ _ _ hM hFa (fun q z => by have := hFb q z; omega) hd_t2 hd_t7 hT_t2 hT_t7 hS ls (lv_sub hl [2, 3, 4, 5, 6, 1, 0] rfl)
  have hL121 : ∀ (i4 : Nat) (t_t2_13 : (Nat → Int32)) (a7 : Int32) (f3 : (Nat → Int32)) (q2 : Nat) (q7 : Nat) (hge_t2 : s.heap.size ≤ q2) (hne_t2_t7 : q2 ≠ q7) (hge_t7 : s.heap.size ≤ q7) (hf121_0 : i4 < 16) (hf121_1 : (Int32.toNatClampNeg a7) < 16) (hg121_0 : a7 = nI ((Int32.toNatClampNeg a7))) (κ : Int32 → Option (Nat × (Nat → Int32))) (hκ : ∀ (a6 : Int32) (H : Heap) (locs : List Loc) (Fc : Nat → Prop) (ls : Array Slot), κ a6 = some r → RM D E β Fc σ th ca sm H → (∀ q, Fc q → fN F s.heap.size q) → (∀ q, Fc q → q < H.size) → ¬ Fc q2 → ¬ Fc q7 → va_at D vwCl (q2, arI E 16 t_t2_13) H → va_at D vwCl (q7, arZ E 16 f3) H → xK (fun _ => False) (fun _ => False) s.heap H locs → lv_has ls 9 [(0, .ref (β 0 0)), (1, .int (a)), (2, .ref (q2)), (3, .ref (q7)), (4, .int (nI i4)), (5, .int (a7)), (6, .int (a6))] → W p l e { frames := 4, cells := 4, slots := 64, locals := 88 } s m [(.ref (β 0 0) : Value), .int (a)].toArray below meth c H locs 2 32 (MQ below (qG (fun _ => False) ((fun sz v h => ∃ q, v = some (.ref q) ∧ sz ≤ q ∧ r.1 ≤ 16 ∧ va_at D vwCl (q, arI E r.1 r.2) h) s.heap.size)) [(.ref (β 0 0) : Value), .int (a)].toArray s 4 64 (fN (fun _ => False) s.heap.size)) (F0 m 160 ls [])) (n : Nat) (i7 : Nat) (a6 : Int32) , i7 + n = 16 → fX4_bestSet_L121 σ a i4 t_t2_13 a7 f3 κ n i7 a6 = some r → ∀ (H : Heap) (locs : List Loc) (Fc : Nat → Prop), RM D E β Fc σ th ca sm H → (∀ q, Fc q → fN F s.heap.size q) → (∀ q, Fc q → q < H.size) → ¬ Fc q2 → ¬ Fc q7 → va_at D vwCl (q2, arI E 16 t_t2_13) H → va_at D vwCl (q7, arZ E 16 f3) H → xK (fun _ => False) (fun _ => False) s.heap H locs → ∀ (ls : Array Slot), lv_has ls 9 [(0, .ref (β 0 0)), (1, .int (a)), (2, .ref (q2)), (3, .ref (q7)), (4, .int (nI i4)), (5, .int (a7)), (6, .int (a6)), (7, .int (nI i7))] → W p l e { frames := 4, cells := 4, slots := 64, locals := 88 } s m [(.ref (β 0 0) : Value), .int (a)].toArray below meth c H locs 2 32 (MQ below (qG (fun _ => False) ((fun sz v h => ∃ q, v = some (.ref q) ∧ sz ≤ q ∧ r.1 ≤ 16 ∧ va_at D vwCl (q, arI E r.1 r.2) h) s.heap.size)) [(.ref (β 0 0) : Value), .int (a)].toArray s 4 64 (fN (fun _ => False) s.heap.size)) (F0 m 121 ls []) := by
    intro i4 t_t2_13 a7 f3 q2 q7 hge_t2 hne_t2_t7 hge_t7 hf121_0 hf121_1 hg121_0 κ hκ n
    induction n with
    | zero =>
      intro i7 a6 hn hR H locs Fc hM hFa hFb hd_t2 hd_t7 hT_t2 hT_t7 hS ls hl
      rw [fX4_bestSet_L121] at hR
      have hG := gE.ofS hG0 hS (fun _ h => h.elim)
      refine lv_iload hx hb dX4_bestSet_121 (lv_at hl 7 rfl) ?_
      refine lv_bipush (v := 16) hx hb dX4_bestSet_123 (by decide) ?_
      refine lk_ge_out (k := i7) (N := 16) hx hb hn (tgt := 160) dX4_bestSet_125 (by decide) ?_
      exact hκ a6 _ _ _ ls hR hM hFa (fun q z => by have := hFb q z; omega) hd_t2 hd_t7 hT_t2 hT_t7 hS (lv_sub hl [0, 1, 2, 3, 4, 5, 6] rfl)
    | succ n ih =>
      intro i7 a6 hn hR H locs Fc hM hFa hFb hd_t2 hd_t7 hT_t2 hT_t7 hS ls hl
      rw [fX4_bestSet_L121] at hR
      have hG := gE.ofS hG0 hS (fun _ h => h.elim)
      refine lv_iload hx hb dX4_bestSet_121 (lv_at hl 7 rfl) ?_
      refine lv_bipush (v := 16) hx hb dX4_bestSet_123 (by decide) ?_
      have hki7 : i7 < 16 := lk_lt hn
      refine lk_ge_in (k := i7) (N := 16) hx hb hki7 (by decide) (tgt := 160) dX4_bestSet_125 (by decide) ?_
      refine lv_aload_n hx hb dX4_bestSet_128 rfl (lv_at hl 2 rfl) ?_
      refine lv_iload hx hb dX4_bestSet_129 (lv_at hl 7 rfl) ?_
      refine gaI (N := 16) (k := i7) hx hb hG hT_t2 hki7 (by decide) dX4_bestSet_131 ?_
      refine lv_iload hx hb dX4_bestSet_132 (lv_at hl 6 rfl) ?_
      refine lv_icmp_le (tgt := 154) hx hb dX4_bestSet_134 (by decide) (fun c10 => ?_) (fun c10 => ?_)
      · rw [if_pos c10] at hR
        refine lv_iinc (v := nI (i7 + 1)) (lv' := [(7, .int (nI (i7 + 1))), (0, .ref (β 0 0)), (1, .int (a)), (2, .ref (q2)), (3, .ref (q7)), (4, .int (nI i4)), (5, .int (a7)), (6, .int (a6))]) hx hb dX4_bestSet_154 hl (k := 7) rfl (nI_1 i7) (Nat.le_of_ble_eq_true rfl) rfl (fun ls hl => ?_)
        refine lv_goto (tgt := 121) hx hb dX4_bestSet_157 (by decide) ?_
        exact ih (i7 + 1) a6 (lk_st hn) hR _ _ _ hM hFa (fun q z => by have := hFb q z; omega) hd_t2 hd_t7 hT_t2 hT_t7 hS ls (lv_sub hl [1, 2, 3, 4, 5, 6, 7, 0] rfl)
      · rw [if_neg c10] at hR
        refine lv_aload_n hx hb dX4_bestSet_137 rfl (lv_at hl 0 rfl) ?_
        refine lv_iload hx hb dX4_bestSet_138 (lv_at hl 5 rfl) ?_
        refine lv_eq hg121_0 ?_
        refine lv_iload hx hb dX4_bestSet_140 (lv_at hl 7 rfl) ?_
        refine pcV (As := [.int (nI ((Int32.toNatClampNeg a7))), .int (nI i7)]) (rest := []) hS0 (met_X4_isBehind l D E ((Int32.toNatClampNeg a7)) i7 hf121_1 hki7) q1902 q1904 qs83 q110 q1905 hd_X4_isBehind ⟨Nat.le_of_ble_eq_true rfl, Nat.le_of_ble_eq_true rfl⟩ hG (rcv hG cl_X4 hM.ag) hM rfl hl.1 rfl (Nat.le_of_ble_eq_true rfl) dX4_bestSet_142 ⟨Nat.le_of_ble_eq_true rfl, Nat.le_of_ble_eq_true rfl⟩ ?_
        refine W.eq (g2 := F0 m 145 ls [.int (bI ((fX4_isBehind σ ((Int32.toNatClampNeg a7)) i7)))]) rfl ?_
        refine lb_if_eq (tgt := 154) hx hb dX4_bestSet_145 (by decide) (fun c11 => ?_) (fun c11 => ?_)
        · rw [if_neg c11] at hR
          refine lv_iinc (v := nI (i7 + 1)) (lv' := [(7, .int (nI (i7 + 1))), (0, .ref (β 0 0)), (1, .int (a)), (2, .ref (q2)), (3, .ref (q7)), (4, .int (nI i4)), (5, .int (a7)), (6, .int (a6))]) hx hb dX4_bestSet_154 hl (k := 7) rfl (nI_1 i7) (Nat.le_of_ble_eq_true rfl) rfl (fun ls hl => ?_)
          refine lv_goto (tgt := 121) hx hb dX4_bestSet_157 (by decide) ?_
          exact ih (i7 + 1) a6 (lk_st hn) hR _ _ _ hM hFa (fun q z => by have := hFb q z; omega) hd_t2 hd_t7 hT_t2 hT_t7 hS ls (lv_sub hl [1, 2, 3, 4, 5, 6, 7, 0] rfl)
        · rw [if_pos c11] at hR
          refine lv_aload_n hx hb dX4_bestSet_148 rfl (lv_at hl 2 rfl) ?_
          refine lv_iload hx hb dX4_bestSet_149 (lv_at hl 7 rfl) ?_
          refine gaI (N := 16) (k := i7) hx hb hG hT_t2 hki7 (by decide) dX4_bestSet_151 ?_
          refine lv_istore (lv' := [(6, .int ((t_t2_13) i7)), (0, .ref (β 0 0)), (1, .int (a)), (2, .ref (q2)), (3, .ref (q7)), (4, .int (nI i4)), (5, .int (a7)), (7, .int (nI i7))]) hx hb dX4_bestSet_152 hl (Nat.le_of_ble_eq_true rfl) rfl (fun ls hl => ?_)
          refine lv_iinc (v := nI (i7 + 1)) (lv' := [(7, .int (nI (i7 + 1))), (6, .int ((t_t2_13) i7)), (0, .ref (β 0 0)), (1, .int (a)), (2, .ref (q2)), (3, .ref (q7)), (4, .int (nI i4)), (5, .int (a7))]) hx hb dX4_bestSet_154 hl (k := 7) rfl (nI_1 i7) (Nat.le_of_ble_eq_true rfl) rfl (fun ls hl => ?_)
          refine lv_goto (tgt := 121) hx hb dX4_bestSet_157 (by decide) ?_
          exact ih (i7 + 1) ((t_t2_13) i7) (lk_st hn) hR _ _ _ hM hFa (fun q z => by have := hFb q z; omega) hd_t2 hd_t7 hT_t2 hT_t7 hS ls (lv_sub hl [2, 3, 4, 5, 6, 7, 1, 0] rfl)
  have hL13 : ∀ (q2 : Nat) (q7 : Nat) (hge_t2 : s.heap.size ≤ q2) (hne_t2_t7 : q2 ≠ q7) (hge_t7 : s.heap.size ≤ q7) (κ : (Nat → Int32) → (Nat → Int32) → Option (Nat × (Nat → Int32))) (hκ : ∀ (t_t2_13 : (Nat → Int32)) (t_t7_13 : (Nat → Int32)) (H : Heap) (locs : List Loc) (Fc : Nat → Prop) (ls : Array Slot), κ t_t2_13 t_t7_13 = some r → RM D E β Fc σ th ca sm H → (∀ q, Fc q → fN F s.heap.size q) → (∀ q, Fc q → q < H.size) → ¬ Fc q2 → ¬ Fc q7 → va_at D vwCl (q2, arI E 16 t_t2_13) H → va_at D vwCl (q7, arZ E 16 t_t7_13) H → xK (fun _ => False) (fun _ => False) s.heap H locs → lv_has ls 9 [(0, .ref (β 0 0)), (2, .ref (q2))] → W p l e { frames := 4, cells := 4, slots := 64, locals := 88 } s m [(.ref (β 0 0) : Value), .int (a)].toArray below meth c H locs 2 32 (MQ below (qG (fun _ => False) ((fun sz v h => ∃ q, v = some (.ref q) ∧ sz ≤ q ∧ r.1 ≤ 16 ∧ va_at D vwCl (q, arI E r.1 r.2) h) s.heap.size)) [(.ref (β 0 0) : Value), .int (a)].toArray s 4 64 (fN (fun _ => False) s.heap.size)) (F0 m 180 ls [])) (n : Nat) (i4 : Nat) (t_t2_13 : (Nat → Int32)) (t_t7_13 : (Nat → Int32)), i4 + n = 16 → fX4_bestSet_L13 σ a κ n i4 t_t2_13 t_t7_13 = some r → ∀ (H : Heap) (locs : List Loc) (Fc : Nat → Prop), RM D E β Fc σ th ca sm H → (∀ q, Fc q → fN F s.heap.size q) → (∀ q, Fc q → q < H.size) → ¬ Fc q2 → ¬ Fc q7 → va_at D vwCl (q2, arI E 16 t_t2_13) H → va_at D vwCl (q7, arZ E 16 t_t7_13) H → xK (fun _ => False) (fun _ => False) s.heap H locs → ∀ (ls : Array Slot), lv_has ls 9 [(0, .ref (β 0 0)), (1, .int (a)), (2, .ref (q2)), (3, .ref (q7)), (4, .int (nI i4))] → W p l e { frames := 4, cells := 4, slots := 64, locals := 88 } s m [(.ref (β 0 0) : Value), .int (a)].toArray below meth c H locs 2 32 (MQ below (qG (fun _ => False) ((fun sz v h => ∃ q, v = some (.ref q) ∧ sz ≤ q ∧ r.1 ≤ 16 ∧ va_at D vwCl (q, arI E r.1 r.2) h) s.heap.size)) [(.ref (β 0 0) : Value), .int (a)].toArray s 4 64 (fN (fun _ => False) s.heap.size)) (F0 m 13 ls []) := by
    intro q2 q7 hge_t2 hne_t2_t7 hge_t7 κ hκ n
    induction n with
    | zero =>
      intro i4 t_t2_13 t_t7_13 hn hR H locs Fc hM hFa hFb hd_t2 hd_t7 hT_t2 hT_t7 hS ls hl
      rw [fX4_bestSet_L13] at hR
      have hG := gE.ofS hG0 hS (fun _ h => h.elim)
      refine lv_iload hx hb dX4_bestSet_13 (lv_at hl 4 rfl) ?_
      refine lv_bipush (v := 16) hx hb dX4_bestSet_15 (by decide) ?_
      refine lk_ge_out (k := i4) (N := 16) hx hb hn (tgt := 180) dX4_bestSet_17 (by decide) ?_
      exact hκ t_t2_13 t_t7_13 _ _ _ ls hR hM hFa (fun q z => by have := hFb q z; omega) hd_t2 hd_t7 hT_t2 hT_t7 hS (lv_sub hl [0, 2] rfl)
    | succ n ih =>
      intro i4 t_t2_13 t_t7_13 hn hR H locs Fc hM hFa hFb hd_t2 hd_t7 hT_t2 hT_t7 hS ls hl
      rw [fX4_bestSet_L13] at hR
      have hG := gE.ofS hG0 hS (fun _ h => h.elim)
      refine lv_iload hx hb dX4_bestSet_13 (lv_at hl 4 rfl) ?_
      refine lv_bipush (v := 16) hx hb dX4_bestSet_15 (by decide) ?_
      have hki4 : i4 < 16 := lk_lt hn
      refine lk_ge_in (k := i4) (N := 16) hx hb hki4 (by decide) (tgt := 180) dX4_bestSet_17 (by decide) ?_
      refine lv_iconst (v := (-1)) hx hb dX4_bestSet_20 (by decide) ?_
      refine lv_istore (lv' := [(5, .int (-1)), (0, .ref (β 0 0)), (1, .int (a)), (2, .ref (q2)), (3, .ref (q7)), (4, .int (nI i4))]) hx hb dX4_bestSet_21 hl (Nat.le_of_ble_eq_true rfl) rfl (fun ls hl => ?_)
      refine lv_iconst (v := 0) hx hb dX4_bestSet_23 (by decide) ?_
      refine lv_istore (lv' := [(6, .int 0), (5, .int (-1)), (0, .ref (β 0 0)), (1, .int (a)), (2, .ref (q2)), (3, .ref (q7)), (4, .int (nI i4))]) hx hb dX4_bestSet_24 hl (Nat.le_of_ble_eq_true rfl) rfl (fun ls hl => ?_)
      refine hL26 i4 t_t2_13 t_t7_13 q2 q7 hge_t2 hne_t2_t7 hge_t7 hki4 _ (fun a7 H1 locs1 Fc ls hR hM hFa hFb hd_t2 hd_t7 hT_t2 hT_t7 hS hl => ?_) 16 0 ((-1))  (Nat.zero_add _) hR _ _ _ hM hFa (fun q z => by have := hFb q z; omega) hd_t2 hd_t7 hT_t2 hT_t7 hS ls (lv_sub hl [2, 3, 4, 5, 6, 1, 0] rfl)
      try dsimp only at hR
      have hG := gE.ofS hG0 hS (fun _ h => h.elim)
      rcases (Decidable.em (0 ≤ a7 ∧ a7 < nI 16)).symm with g8 | g8
      · rw [if_neg g8] at hR
        cases hR
      rw [if_pos g8] at hR
      have ng8 := ck_ix g8 (by decide)
      refine lv_aload_n hx hb dX4_bestSet_97 rfl (lv_at hl 3 rfl) ?_
      refine lv_iload hx hb dX4_bestSet_98 (lv_at hl 5 rfl) ?_
      refine lv_eq ng8.1 ?_
      refine lv_iconst (v := 1) hx hb dX4_bestSet_100 (by decide) ?_
      have hB := hS.1
      have hL_t2 : q2 < _ := hT_t2.lt
      have hL_t7 : q7 < _ := hT_t7.lt
      refine paZ (N := 16) (k := (Int32.toNatClampNeg a7)) (v := 1) rfl hx hb hG hS hT_t7 (Or.inr hge_t7) (Or.inr hge_t7) ng8.2 (by decide) dX4_bestSet_101 (fun H1 locs1 he hz hq hS => ?_)
      have hT_t2 : va_at D vwCl (q2, arI E 16 t_t2_13) H1 := hT_t2.kept (hq _ (fun e9 => absurd e9 hne_t2_t7))
      have hM := hM.kept (fun q h4 h5 => hq q (fun e9 => hd_t7 (e9 ▸ h5)))
      have hG := gE.ofS hG0 hS (fun _ h => h.elim)
      obtain ⟨f3, hf3⟩ : ∃ x, x = upd t_t7_13 ((Int32.toNatClampNeg a7)) 1 := ⟨_, rfl⟩
      rw [← hf3] at hR he
      try dsimp only at hR
      have hT_t7 : va_at D vwCl (q7, arZ E 16 f3) H1 := he
      refine lv_aload_n hx hb dX4_bestSet_102 rfl (lv_at hl 0 rfl) ?_
      refine lv_iload_n hx hb dX4_bestSet_103 rfl (lv_at hl 1 rfl) ?_
      refine lv_iload hx hb dX4_bestSet_104 (lv_at hl 5 rfl) ?_
      refine lv_eq ng8.1 ?_
      refine pcV (As := [.int (a), .int (nI ((Int32.toNatClampNeg a7)))]) (rest := []) hS0 (met_X4_isKnown l D E a ((Int32.toNatClampNeg a7))) q1779 q1781 qs70 q110 q1782 hd_X4_isKnown ⟨Nat.le_of_ble_eq_true rfl, Nat.le_of_ble_eq_true rfl⟩ hG (rcv hG cl_X4 hM.ag) hM rfl hl.1 rfl (Nat.le_of_ble_eq_true rfl) dX4_bestSet_106 ⟨Nat.le_of_ble_eq_true rfl, Nat.le_of_ble_eq_true rfl⟩ ?_
      refine W.eq (g2 := F0 m 109 ls [.int (bI ((fX4_isKnown σ a ((Int32.toNatClampNeg a7)))))]) rfl ?_
      refine lb_if_ne (tgt := 115) hx hb dX4_bestSet_109 (by decide) (fun c9 => ?_) (fun c9 => ?_)
      · rw [if_pos c9] at hR
        refine lv_iconst (v := 0) hx hb dX4_bestSet_115 (by decide) ?_
        refine lv_istore (lv' := [(6, .int 0), (0, .ref (β 0 0)), (1, .int (a)), (2, .ref (q2)), (3, .ref (q7)), (4, .int (nI i4)), (5, .int (a7))]) hx hb dX4_bestSet_116 hl (Nat.le_of_ble_eq_true rfl) rfl (fun ls hl => ?_)
        refine lv_iconst (v := 0) hx hb dX4_bestSet_118 (by decide) ?_
        refine lv_istore (lv' := [(7, .int 0), (6, .int 0), (0, .ref (β 0 0)), (1, .int (a)), (2, .ref (q2)), (3, .ref (q7)), (4, .int (nI i4)), (5, .int (a7))]) hx hb dX4_bestSet_119 hl (Nat.le_of_ble_eq_true rfl) rfl (fun ls hl => ?_)
        refine hL121 i4 t_t2_13 a7 f3 q2 q7 hge_t2 hne_t2_t7 hge_t7 hki4 ng8.2 ng8.1 _ (fun a12 H1 locs1 Fc ls hR hM hFa hFb hd_t2 hd_t7 hT_t2 hT_t7 hS hl => ?_) 16 0 0  (Nat.zero_add _) hR _ _ _ hM hFa (fun q z => by have := hFb q z; omega) hd_t2 hd_t7 hT_t2 hT_t7 hS ls (lv_sub hl [2, 3, 4, 5, 6, 7, 1, 0] rfl)
        try dsimp only at hR
        have hG := gE.ofS hG0 hS (fun _ h => h.elim)
        refine lv_aload_n hx hb dX4_bestSet_160 rfl (lv_at hl 2 rfl) ?_
        refine lv_iload hx hb dX4_bestSet_161 (lv_at hl 5 rfl) ?_
        refine lv_eq ng8.1 ?_
        refine lv_aload_n hx hb dX4_bestSet_163 rfl (lv_at hl 0 rfl) ?_
        refine gf (v := .ref (β 8 2)) (C := RX4) (T := TX4) (N := 13) (k := 8) hx hb hts hown hG cl_X4 in_X4 hM.ag (by decide) q1548 rfl dX4_bestSet_164 ?_
        refine lv_iload hx hb dX4_bestSet_167 (lv_at hl 5 rfl) ?_
        refine lv_eq ng8.1 ?_
        refine gaI (N := 16) (k := (Int32.toNatClampNeg a7)) hx hb hG hM.ar2 ng8.2 (by decide) dX4_bestSet_169 ?_
        refine lv_iload hx hb dX4_bestSet_170 (lv_at hl 6 rfl) ?_
        refine lv_iadd hx hb dX4_bestSet_172 ?_
        have hB := hS.1
        have hL_t2 : q2 < _ := hT_t2.lt
        have hL_t7 : q7 < _ := hT_t7.lt
        refine paI (N := 16) (k := (Int32.toNatClampNeg a7)) hx hb hG hS hT_t2 (Or.inr hge_t2) (Or.inr hge_t2) ng8.2 (by decide) dX4_bestSet_173 (fun H1 locs1 he hz hq hS => ?_)
        have hT_t7 : va_at D vwCl (q7, arZ E 16 f3) H1 := hT_t7.kept (hq _ (fun e9 => absurd e9 hne_t2_t7.symm))
        have hM := hM.kept (fun q h4 h5 => hq q (fun e9 => hd_t2 (e9 ▸ h5)))
        have hG := gE.ofS hG0 hS (fun _ h => h.elim)
        obtain ⟨f5, hf5⟩ : ∃ x, x = upd t_t2_13 ((Int32.toNatClampNeg a7)) ((sMin σ ((Int32.toNatClampNeg a7))) + a12) := ⟨_, rfl⟩
        rw [← hf5] at hR he
        try dsimp only at hR
        have hT_t2 : va_at D vwCl (q2, arI E 16 f5) H1 := he
        refine lv_iinc (v := nI (i4 + 1)) (lv' := [(4, .int (nI (i4 + 1))), (0, .ref (β 0 0)), (1, .int (a)), (2, .ref (q2)), (3, .ref (q7)), (5, .int (a7)), (6, .int (a12))]) hx hb dX4_bestSet_174 hl (k := 4) rfl (nI_1 i4) (Nat.le_of_ble_eq_true rfl) rfl (fun ls hl => ?_)
        refine lv_goto (tgt := 13) hx hb dX4_bestSet_177 (by decide) ?_
        exact ih (i4 + 1) f5 f3 (lk_st hn) hR _ _ _ hM hFa (fun q z => by have := hFb q z; omega) hd_t2 hd_t7 hT_t2 hT_t7 hS ls (lv_sub hl [1, 2, 3, 4, 0] rfl)
      · rw [if_neg c9] at hR
        refine lv_goto (tgt := 174) hx hb dX4_bestSet_112 (by decide) ?_
        refine lv_iinc (v := nI (i4 + 1)) (lv' := [(4, .int (nI (i4 + 1))), (0, .ref (β 0 0)), (1, .int (a)), (2, .ref (q2)), (3, .ref (q7)), (5, .int (a7))]) hx hb dX4_bestSet_174 hl (k := 4) rfl (nI_1 i4) (Nat.le_of_ble_eq_true rfl) rfl (fun ls hl => ?_)
        refine lv_goto (tgt := 13) hx hb dX4_bestSet_177 (by decide) ?_
        exact ih (i4 + 1) t_t2_13 f3 (lk_st hn) hR _ _ _ hM hFa (fun q z => by have := hFb q z; omega) hd_t2 hd_t7 hT_t2 hT_t7 hS ls (lv_sub hl [1, 2, 3, 4, 0] rfl)
  have hL186 : ∀ (t_t2_13 : (Nat → Int32)) (t_t7_14 : (Nat → Int32)) (q2 : Nat) (q7 : Nat) (hge_t2 : s.heap.size ≤ q2) (hne_t2_t7 : q2 ≠ q7) (hge_t7 : s.heap.size ≤ q7) (κ : Int32 → Option (Nat × (Nat → Int32))) (hκ : ∀ (a4 : Int32) (H : Heap) (locs : List Loc) (Fc : Nat → Prop) (ls : Array Slot), κ a4 = some r → RM D E β Fc σ th ca sm H → (∀ q, Fc q → fN F s.heap.size q) → (∀ q, Fc q → q < H.size) → ¬ Fc q2 → ¬ Fc q7 → va_at D vwCl (q2, arI E 16 t_t2_13) H → va_at D vwCl (q7, arZ E 16 t_t7_14) H → xK (fun _ => False) (fun _ => False) s.heap H locs → lv_has ls 9 [(0, .ref (β 0 0)), (2, .ref (q2)), (4, .int (a4))] → W p l e { frames := 4, cells := 4, slots := 64, locals := 88 } s m [(.ref (β 0 0) : Value), .int (a)].toArray below meth c H locs 2 32 (MQ below (qG (fun _ => False) ((fun sz v h => ∃ q, v = some (.ref q) ∧ sz ≤ q ∧ r.1 ≤ 16 ∧ va_at D vwCl (q, arI E r.1 r.2) h) s.heap.size)) [(.ref (β 0 0) : Value), .int (a)].toArray s 4 64 (fN (fun _ => False) s.heap.size)) (F0 m 210 ls [])) (n : Nat) (i5 : Nat) (a4 : Int32) , i5 + n = 16 → fX4_bestSet_L186 σ a t_t2_13 t_t7_14 κ n i5 a4 = some r → ∀ (H : Heap) (locs : List Loc) (Fc : Nat → Prop), RM D E β Fc σ th ca sm H → (∀ q, Fc q → fN F s.heap.size q) → (∀ q, Fc q → q < H.size) → ¬ Fc q2 → ¬ Fc q7 → va_at D vwCl (q2, arI E 16 t_t2_13) H → va_at D vwCl (q7, arZ E 16 t_t7_14) H → xK (fun _ => False) (fun _ => False) s.heap H locs → ∀ (ls : Array Slot), lv_has ls 9 [(0, .ref (β 0 0)), (2, .ref (q2)), (4, .int (a4)), (5, .int (nI i5))] → W p l e { frames := 4, cells := 4, slots := 64, locals := 88 } s m [(.ref (β 0 0) : Value), .int (a)].toArray below meth c H locs 2 32 (MQ below (qG (fun _ => False) ((fun sz v h => ∃ q, v = some (.ref q) ∧ sz ≤ q ∧ r.1 ≤ 16 ∧ va_at D vwCl (q, arI E r.1 r.2) h) s.heap.size)) [(.ref (β 0 0) : Value), .int (a)].toArray s 4 64 (fN (fun _ => False) s.heap.size)) (F0 m 186 ls []) := by
    intro t_t2_13 t_t7_14 q2 q7 hge_t2 hne_t2_t7 hge_t7 κ hκ n
    induction n with
    | zero =>
      intro i5 a4 hn hR H locs Fc hM hFa hFb hd_t2 hd_t7 hT_t2 hT_t7 hS ls hl
      rw [fX4_bestSet_L186] at hR
      have hG := gE.ofS hG0 hS (fun _ h => h.elim)
      refine lv_iload hx hb dX4_bestSet_186 (lv_at hl 3 rfl) ?_
      refine lv_bipush (v := 16) hx hb dX4_bestSet_188 (by decide) ?_
      refine lk_ge_out (k := i5) (N := 16) hx hb hn (tgt := 210) dX4_bestSet_190 (by decide) ?_
      exact hκ a4 _ _ _ ls hR hM hFa (fun q z => by have := hFb q z; omega) hd_t2 hd_t7 hT_t2 hT_t7 hS (lv_sub hl [0, 1, 2] rfl)
    | succ n ih =>
      intro i5 a4 hn hR H locs Fc hM hFa hFb hd_t2 hd_t7 hT_t2 hT_t7 hS ls hl
      rw [fX4_bestSet_L186] at hR
      have hG := gE.ofS hG0 hS (fun _ h => h.elim)
      refine lv_iload hx hb dX4_bestSet_186 (lv_at hl 3 rfl) ?_
      refine lv_bipush (v := 16) hx hb dX4_bestSet_188 (by decide) ?_
      have hki5 : i5 < 16 := lk_lt hn
      refine lk_ge_in (k := i5) (N := 16) hx hb hki5 (by decide) (tgt := 210) dX4_bestSet_190 (by decide) ?_
      refine lv_iload hx hb dX4_bestSet_193 (lv_at hl 2 rfl) ?_
      refine lv_aload_n hx hb dX4_bestSet_195 rfl (lv_at hl 1 rfl) ?_
      refine lv_iload hx hb dX4_bestSet_196 (lv_at hl 3 rfl) ?_
      refine gaI (N := 16) (k := i5) hx hb hG hT_t2 hki5 (by decide) dX4_bestSet_198 ?_
      refine va_mmax hx hb (hml.trans hl.1.symm) hown (hts _ q1860) (hts _ q249) (hts _ q107) (hts _ q250) (Nat.le_of_ble_eq_true rfl) (Nat.le_of_ble_eq_true rfl) (Nat.le_of_ble_eq_true rfl) (Nat.le_of_ble_eq_true rfl) dX4_bestSet_199 ?_
      refine W.eq (g2 := F0 m 202 ls [.int (if a4 < ((t_t2_13) i5) then ((t_t2_13) i5) else a4)]) rfl ?_
      refine lv_istore (lv' := [(4, .int (if a4 < ((t_t2_13) i5) then ((t_t2_13) i5) else a4)), (0, .ref (β 0 0)), (2, .ref (q2)), (5, .int (nI i5))]) hx hb dX4_bestSet_202 hl (Nat.le_of_ble_eq_true rfl) rfl (fun ls hl => ?_)
      refine lv_iinc (v := nI (i5 + 1)) (lv' := [(5, .int (nI (i5 + 1))), (4, .int (if a4 < ((t_t2_13) i5) then ((t_t2_13) i5) else a4)), (0, .ref (β 0 0)), (2, .ref (q2))]) hx hb dX4_bestSet_204 hl (k := 3) rfl (nI_1 i5) (Nat.le_of_ble_eq_true rfl) rfl (fun ls hl => ?_)
      refine lv_goto (tgt := 186) hx hb dX4_bestSet_207 (by decide) ?_
      exact ih (i5 + 1) (if a4 < ((t_t2_13) i5) then ((t_t2_13) i5) else a4) (lk_st hn) hR _ _ _ hM hFa (fun q z => by have := hFb q z; omega) hd_t2 hd_t7 hT_t2 hT_t7 hS ls (lv_sub hl [2, 3, 1, 0] rfl)
  have hL230 : ∀ (t_t2_13 : (Nat → Int32)) (t_t7_14 : (Nat → Int32)) (a4 : Int32) (a6 : Nat) (a7 : Int32) (t_t212_222 : (Nat → Int32)) (q2 : Nat) (q7 : Nat) (q212 : Nat) (hge_t2 : s.heap.size ≤ q2) (hne_t2_t7 : q2 ≠ q7) (hne_t2_t212 : q2 ≠ q212) (hge_t7 : s.heap.size ≤ q7) (hne_t7_t212 : q7 ≠ q212) (hge_t212 : s.heap.size ≤ q212) (κ : Nat → Option (Nat × (Nat → Int32))) (hκ : ∀ (a8 : Nat) (H : Heap) (locs : List Loc) (Fc : Nat → Prop) (ls : Array Slot), κ a8 = some r → RM D E β Fc σ th ca sm H → (∀ q, Fc q → fN F s.heap.size q) → (∀ q, Fc q → q < H.size) → ¬ Fc q2 → ¬ Fc q7 → ¬ Fc q212 → va_at D vwCl (q2, arI E 16 t_t2_13) H → va_at D vwCl (q7, arZ E 16 t_t7_14) H → va_at D vwCl (q212, arI E 16 t_t212_222) H → xK (fun _ => False) (fun _ => False) s.heap H locs → lv_has ls 9 [(0, .ref (β 0 0)), (2, .ref (q2)), (4, .int (a4)), (5, .ref (q212)), (6, .int (nI a6)), (8, .int (nI a8))] → W p l e { frames := 4, cells := 4, slots := 64, locals := 88 } s m [(.ref (β 0 0) : Value), .int (a)].toArray below meth c H locs 3 48 (MQ below (qG (fun _ => False) ((fun sz v h => ∃ q, v = some (.ref q) ∧ sz ≤ q ∧ r.1 ≤ 16 ∧ va_at D vwCl (q, arI E r.1 r.2) h) s.heap.size)) [(.ref (β 0 0) : Value), .int (a)].toArray s 4 64 (fN (fun _ => False) s.heap.size)) (F0 m 262 ls [])) (n : Nat) (a8 : Nat) , fX4_bestSet_L230 σ a t_t2_13 t_t7_14 a4 a6 a7 t_t212_222 κ n a8 = some r → ∀ (H : Heap) (locs : List Loc) (Fc : Nat → Prop), RM D E β Fc σ th ca sm H → (∀ q, Fc q → fN F s.heap.size q) → (∀ q, Fc q → q < H.size) → ¬ Fc q2 → ¬ Fc q7 → ¬ Fc q212 → va_at D vwCl (q2, arI E 16 t_t2_13) H → va_at D vwCl (q7, arZ E 16 t_t7_14) H → va_at D vwCl (q212, arI E 16 t_t212_222) H → xK (fun _ => False) (fun _ => False) s.heap H locs → ∀ (ls : Array Slot), lv_has ls 9 [(0, .ref (β 0 0)), (2, .ref (q2)), (4, .int (a4)), (5, .ref (q212)), (6, .int (nI a6)), (7, .int (a7)), (8, .int (nI a8))] → W p l e { frames := 4, cells := 4, slots := 64, locals := 88 } s m [(.ref (β 0 0) : Value), .int (a)].toArray below meth c H locs 3 48 (MQ below (qG (fun _ => False) ((fun sz v h => ∃ q, v = some (.ref q) ∧ sz ≤ q ∧ r.1 ≤ 16 ∧ va_at D vwCl (q, arI E r.1 r.2) h) s.heap.size)) [(.ref (β 0 0) : Value), .int (a)].toArray s 4 64 (fN (fun _ => False) s.heap.size)) (F0 m 230 ls []) := by
    intro t_t2_13 t_t7_14 a4 a6 a7 t_t212_222 q2 q7 q212 hge_t2 hne_t2_t7 hne_t2_t212 hge_t7 hne_t7_t212 hge_t212 κ hκ n
    induction n with
    | zero =>
      intro a8 hR H locs Fc hM hFa hFb hd_t2 hd_t7 hd_t212 hT_t2 hT_t7 hT_t212 hS ls hl
      rw [fX4_bestSet_L230] at hR
      have hG := gE.ofS hG0 hS (fun _ h => h.elim)
      cases hR
    | succ n ih =>
      intro a8 hR H locs Fc hM hFa hFb hd_t2 hd_t7 hd_t212 hT_t2 hT_t7 hT_t212 hS ls hl
      rw [fX4_bestSet_L230] at hR
      have hG := gE.ofS hG0 hS (fun _ h => h.elim)
      refine lv_aload_n hx hb dX4_bestSet_230 rfl (lv_at hl 1 rfl) ?_
      rcases (Decidable.em (a8 < 16)).symm with g17 | g17
      · rw [if_neg g17] at hR
        cases hR
      rw [if_pos g17] at hR
      refine lv_iload hx hb dX4_bestSet_231 (lv_at hl 6 rfl) ?_
      refine gaI (N := 16) (k := a8) hx hb hG hT_t2 g17 (by decide) dX4_bestSet_233 ?_
      refine lv_iload hx hb dX4_bestSet_234 (lv_at hl 2 rfl) ?_
      refine lv_icmp_ne (tgt := 256) hx hb dX4_bestSet_236 (by decide) (fun c18 => ?_) (fun c18 => ?_)
      · rw [if_neg c18] at hR
        refine lv_iinc (v := nI (a8 + 1)) (lv' := [(8, .int (nI (a8 + 1))), (0, .ref (β 0 0)), (2, .ref (q2)), (4, .int (a4)), (5, .ref (q212)), (6, .int (nI a6)), (7, .int (a7))]) hx hb dX4_bestSet_256 hl (k := 6) rfl (nI_1 a8) (Nat.le_of_ble_eq_true rfl) rfl (fun ls hl => ?_)
        refine lv_goto (tgt := 230) hx hb dX4_bestSet_259 (by decide) ?_
        exact ih (a8 + 1)  hR _ _ _ hM hFa (fun q z => by have := hFb q z; omega) hd_t2 hd_t7 hd_t212 hT_t2 hT_t7 hT_t212 hS ls (lv_sub hl [1, 2, 3, 4, 5, 6, 0] rfl)
      · rw [if_pos c18] at hR
        refine lv_iload hx hb dX4_bestSet_239 (lv_at hl 5 rfl) ?_
        refine lv_iconst (v := (-1)) hx hb dX4_bestSet_241 (by decide) ?_
        refine lv_icmp_eq (tgt := 262) hx hb dX4_bestSet_242 (by decide) (fun c19 => ?_) (fun c19 => ?_)
        · rw [if_pos c19] at hR
          exact hκ a8 _ _ _ ls hR hM hFa (fun q z => by have := hFb q z; omega) hd_t2 hd_t7 hd_t212 hT_t2 hT_t7 hT_t212 hS (lv_sub hl [0, 1, 2, 3, 4, 6] rfl)
        · rw [if_neg c19] at hR
          rcases (Decidable.em (0 ≤ a7 ∧ a7 < nI 16)).symm with g20 | g20
          · rw [if_neg g20] at hR
            cases hR
          rw [if_pos g20] at hR
          have ng20 := ck_ix g20 (by decide)
          refine lv_aload_n hx hb dX4_bestSet_245 rfl (lv_at hl 0 rfl) ?_
          refine lv_iload hx hb dX4_bestSet_246 (lv_at hl 5 rfl) ?_
          refine lv_eq ng20.1 ?_
          refine lv_iload hx hb dX4_bestSet_248 (lv_at hl 6 rfl) ?_
          refine pcV (As := [.int (nI ((Int32.toNatClampNeg a7))), .int (nI a8)]) (rest := []) hS0 (met_X4_isBehind l D E ((Int32.toNatClampNeg a7)) a8 ng20.2 g17) q1902 q1904 qs83 q110 q1905 hd_X4_isBehind ⟨Nat.le_of_ble_eq_true rfl, Nat.le_of_ble_eq_true rfl⟩ hG (rcv hG cl_X4 hM.ag) hM rfl hl.1 rfl (Nat.le_of_ble_eq_true rfl) dX4_bestSet_250 ⟨Nat.le_of_ble_eq_true rfl, Nat.le_of_ble_eq_true rfl⟩ ?_
          refine W.eq (g2 := F0 m 253 ls [.int (bI ((fX4_isBehind σ ((Int32.toNatClampNeg a7)) a8)))]) rfl ?_
          refine lb_if_ne (tgt := 262) hx hb dX4_bestSet_253 (by decide) (fun c21 => ?_) (fun c21 => ?_)
          · rw [if_pos c21] at hR
            exact hκ a8 _ _ _ ls hR hM hFa (fun q z => by have := hFb q z; omega) hd_t2 hd_t7 hd_t212 hT_t2 hT_t7 hT_t212 hS (lv_sub hl [0, 1, 2, 3, 4, 6] rfl)
          · rw [if_neg c21] at hR
            refine lv_iinc (v := nI (a8 + 1)) (lv' := [(8, .int (nI (a8 + 1))), (0, .ref (β 0 0)), (2, .ref (q2)), (4, .int (a4)), (5, .ref (q212)), (6, .int (nI a6)), (7, .int (a7))]) hx hb dX4_bestSet_256 hl (k := 6) rfl (nI_1 a8) (Nat.le_of_ble_eq_true rfl) rfl (fun ls hl => ?_)
            refine lv_goto (tgt := 230) hx hb dX4_bestSet_259 (by decide) ?_
            exact ih (a8 + 1)  hR _ _ _ hM hFa (fun q z => by have := hFb q z; omega) hd_t2 hd_t7 hd_t212 hT_t2 hT_t7 hT_t212 hS ls (lv_sub hl [1, 2, 3, 4, 5, 6, 0] rfl)
  have hL222 : ∀ (t_t2_13 : (Nat → Int32)) (t_t7_14 : (Nat → Int32)) (q2 : Nat) (q7 : Nat) (q212 : Nat) (hge_t2 : s.heap.size ≤ q2) (hne_t2_t7 : q2 ≠ q7) (hne_t2_t212 : q2 ≠ q212) (hge_t7 : s.heap.size ≤ q7) (hne_t7_t212 : q7 ≠ q212) (hge_t212 : s.heap.size ≤ q212) (κ : Nat → (Nat → Int32) → Option (Nat × (Nat → Int32))) (hκ : ∀ (a6 : Nat) (t_t212_222 : (Nat → Int32)) (H : Heap) (locs : List Loc) (Fc : Nat → Prop) (ls : Array Slot), κ a6 t_t212_222 = some r → RM D E β Fc σ th ca sm H → (∀ q, Fc q → fN F s.heap.size q) → (∀ q, Fc q → q < H.size) → ¬ Fc q2 → ¬ Fc q7 → ¬ Fc q212 → va_at D vwCl (q2, arI E 16 t_t2_13) H → va_at D vwCl (q7, arZ E 16 t_t7_14) H → va_at D vwCl (q212, arI E 16 t_t212_222) H → xK (fun _ => False) (fun _ => False) s.heap H locs → lv_has ls 9 [(5, .ref (q212)), (6, .int (nI a6))] → W p l e { frames := 4, cells := 4, slots := 64, locals := 88 } s m [(.ref (β 0 0) : Value), .int (a)].toArray below meth c H locs 3 48 (MQ below (qG (fun _ => False) ((fun sz v h => ∃ q, v = some (.ref q) ∧ sz ≤ q ∧ r.1 ≤ 16 ∧ va_at D vwCl (q, arI E r.1 r.2) h) s.heap.size)) [(.ref (β 0 0) : Value), .int (a)].toArray s 4 64 (fN (fun _ => False) s.heap.size)) (F0 m 291 ls [])) (n : Nat) (a4 : Int32) (a6 : Nat) (a7 : Int32) (t_t212_222 : (Nat → Int32)), fX4_bestSet_L222 σ a t_t2_13 t_t7_14 κ n a4 a6 a7 t_t212_222 = some r → ∀ (H : Heap) (locs : List Loc) (Fc : Nat → Prop), RM D E β Fc σ th ca sm H → (∀ q, Fc q → fN F s.heap.size q) → (∀ q, Fc q → q < H.size) → ¬ Fc q2 → ¬ Fc q7 → ¬ Fc q212 → va_at D vwCl (q2, arI E 16 t_t2_13) H → va_at D vwCl (q7, arZ E 16 t_t7_14) H → va_at D vwCl (q212, arI E 16 t_t212_222) H → xK (fun _ => False) (fun _ => False) s.heap H locs → ∀ (ls : Array Slot), lv_has ls 9 [(0, .ref (β 0 0)), (2, .ref (q2)), (4, .int (a4)), (5, .ref (q212)), (6, .int (nI a6)), (7, .int (a7))] → W p l e { frames := 4, cells := 4, slots := 64, locals := 88 } s m [(.ref (β 0 0) : Value), .int (a)].toArray below meth c H locs 3 48 (MQ below (qG (fun _ => False) ((fun sz v h => ∃ q, v = some (.ref q) ∧ sz ≤ q ∧ r.1 ≤ 16 ∧ va_at D vwCl (q, arI E r.1 r.2) h) s.heap.size)) [(.ref (β 0 0) : Value), .int (a)].toArray s 4 64 (fN (fun _ => False) s.heap.size)) (F0 m 222 ls []) := by
    intro t_t2_13 t_t7_14 q2 q7 q212 hge_t2 hne_t2_t7 hne_t2_t212 hge_t7 hne_t7_t212 hge_t212 κ hκ n
    induction n with
    | zero =>
      intro a4 a6 a7 t_t212_222 hR H locs Fc hM hFa hFb hd_t2 hd_t7 hd_t212 hT_t2 hT_t7 hT_t212 hS ls hl
      rw [fX4_bestSet_L222] at hR
      have hG := gE.ofS hG0 hS (fun _ h => h.elim)
      cases hR
    | succ n ih =>
      intro a4 a6 a7 t_t212_222 hR H locs Fc hM hFa hFb hd_t2 hd_t7 hd_t212 hT_t2 hT_t7 hT_t212 hS ls hl
      rw [fX4_bestSet_L222] at hR
      have hG := gE.ofS hG0 hS (fun _ h => h.elim)
      refine lv_iload hx hb dX4_bestSet_222 (lv_at hl 2 rfl) ?_
      refine lv_if_le (tgt := 291) hx hb dX4_bestSet_224 (by decide) (fun c16 => ?_) (fun c16 => ?_)
      · rw [if_pos c16] at hR
        exact hκ a6 t_t212_222 _ _ _ ls hR hM hFa (fun q z => by have := hFb q z; omega) hd_t2 hd_t7 hd_t212 hT_t2 hT_t7 hT_t212 hS (lv_sub hl [3, 4] rfl)
      · rw [if_neg c16] at hR
        refine lv_iconst (v := 0) hx hb dX4_bestSet_227 (by decide) ?_
        refine lv_istore (lv' := [(8, .int 0), (0, .ref (β 0 0)), (2, .ref (q2)), (4, .int (a4)), (5, .ref (q212)), (6, .int (nI a6)), (7, .int (a7))]) hx hb dX4_bestSet_228 hl (Nat.le_of_ble_eq_true rfl) rfl (fun ls hl => ?_)
        refine hL230 t_t2_13 t_t7_14 a4 a6 a7 t_t212_222 q2 q7 q212 hge_t2 hne_t2_t7 hne_t2_t212 hge_t7 hne_t7_t212 hge_t212 _ (fun i22 H1 locs1 Fc ls hR hM hFa hFb hd_t2 hd_t7 hd_t212 hT_t2 hT_t7 hT_t212 hS hl => ?_) 17 0   hR _ _ _ hM hFa (fun q z => by have := hFb q z; omega) hd_t2 hd_t7 hd_t212 hT_t2 hT_t7 hT_t212 hS ls (lv_sub hl [1, 2, 3, 4, 5, 6, 0] rfl)
        try dsimp only at hR
        have hG := gE.ofS hG0 hS (fun _ h => h.elim)
        refine lv_aload hx hb dX4_bestSet_262 (lv_at hl 3 rfl) ?_
        rcases (Decidable.em (a6 < 16)).symm with g23 | g23
        · rw [if_neg g23] at hR
          cases hR
        rw [if_pos g23] at hR
        refine lv_iload hx hb dX4_bestSet_264 (lv_at hl 4 rfl) ?_
        rcases (Decidable.em (i22 < 16)).symm with g24 | g24
        · rw [if_neg g24] at hR
          cases hR
        rw [if_pos g24] at hR
        refine lv_iload hx hb dX4_bestSet_266 (lv_at hl 5 rfl) ?_
        have hB := hS.1
        have hL_t2 : q2 < _ := hT_t2.lt
        have hL_t7 : q7 < _ := hT_t7.lt
        have hL_t212 : q212 < _ := hT_t212.lt
        refine paI (N := 16) (k := a6) hx hb hG hS hT_t212 (Or.inr hge_t212) (Or.inr hge_t212) g23 (by decide) dX4_bestSet_268 (fun H1 locs1 he hz hq hS => ?_)
        have hT_t2 : va_at D vwCl (q2, arI E 16 t_t2_13) H1 := hT_t2.kept (hq _ (fun e9 => absurd e9 hne_t2_t212))
        have hT_t7 : va_at D vwCl (q7, arZ E 16 t_t7_14) H1 := hT_t7.kept (hq _ (fun e9 => absurd e9 hne_t7_t212))
        have hM := hM.kept (fun q h4 h5 => hq q (fun e9 => hd_t212 (e9 ▸ h5)))
        have hG := gE.ofS hG0 hS (fun _ h => h.elim)
        obtain ⟨f9, hf9⟩ : ∃ x, x = upd t_t212_222 a6 (nI i22) := ⟨_, rfl⟩
        rw [← hf9] at hR he
        try dsimp only at hR
        have hT_t212 : va_at D vwCl (q212, arI E 16 f9) H1 := he
        refine lv_iinc (v := nI (a6 + 1)) (lv' := [(6, .int (nI (a6 + 1))), (0, .ref (β 0 0)), (2, .ref (q2)), (4, .int (a4)), (5, .ref (q212)), (8, .int (nI i22))]) hx hb dX4_bestSet_269 hl (k := 4) rfl (nI_1 a6) (Nat.le_of_ble_eq_true rfl) rfl (fun ls hl => ?_)
        refine lv_iload hx hb dX4_bestSet_272 (lv_at hl 3 rfl) ?_
        refine lv_aload_n hx hb dX4_bestSet_274 rfl (lv_at hl 1 rfl) ?_
        refine gf (v := .ref (β 8 2)) (C := RX4) (T := TX4) (N := 13) (k := 8) hx hb hts hown hG cl_X4 in_X4 hM.ag (by decide) q1548 rfl dX4_bestSet_275 ?_
        refine lv_iload hx hb dX4_bestSet_278 (lv_at hl 5 rfl) ?_
        refine gaI (N := 16) (k := i22) hx hb hG hM.ar2 g24 (by decide) dX4_bestSet_280 ?_
        refine lv_isub hx hb dX4_bestSet_281 ?_
        refine lv_istore (lv' := [(4, .int (a4 - (sMin σ i22))), (6, .int (nI (a6 + 1))), (0, .ref (β 0 0)), (2, .ref (q2)), (5, .ref (q212)), (8, .int (nI i22))]) hx hb dX4_bestSet_282 hl (Nat.le_of_ble_eq_true rfl) rfl (fun ls hl => ?_)
        refine lv_iload hx hb dX4_bestSet_284 (lv_at hl 5 rfl) ?_
        refine lv_istore (lv' := [(7, .int (nI i22)), (4, .int (a4 - (sMin σ i22))), (6, .int (nI (a6 + 1))), (0, .ref (β 0 0)), (2, .ref (q2)), (5, .ref (q212)), (8, .int (nI i22))]) hx hb dX4_bestSet_286 hl (Nat.le_of_ble_eq_true rfl) rfl (fun ls hl => ?_)
        refine lv_goto (tgt := 222) hx hb dX4_bestSet_288 (by decide) ?_
        exact ih (a4 - (sMin σ i22)) (a6 + 1) (nI i22) f9  hR _ _ _ hM hFa (fun q z => by have := hFb q z; omega) hd_t2 hd_t7 hd_t212 hT_t2 hT_t7 hT_t212 hS ls (lv_sub hl [3, 4, 1, 5, 2, 0] rfl)
  unfold fX4_bestSet at hR
  refine lv_bipush (v := 16) hx hb dX4_bestSet_0 (by decide) ?_
  have hB := hS.1
  refine nwZ (atype := .int) (ty := .int) (t := 0) (cA := E 1) (N := 16) (z := (16, .inl (fun _ => 0))) hx hb hts hG hS q199 rfl rfl trivial (fun _ => rfl) (by decide) (by decide) ⟨Nat.le_of_ble_eq_true rfl, Nat.le_of_ble_eq_true rfl⟩ dX4_bestSet_2 (fun q2 H1 hq9 hT_t2 hz ho hS => ?_)
  have hM := hM.kept (fun q h4 _ => ho q h4)
  have hG := gE.ofS hG0 hS (fun _ h => h.elim)
  have hge_t2 : s.heap.size ≤ q2 := by have := hB; omega
  have hd_t2 : ¬ Fc q2 := fun z => by have := hFb _ z; omega
  refine lv_astore_n (lv' := [(2, .ref (q2)), (0, .ref (β 0 0)), (1, .int (a))]) hx hb dX4_bestSet_4 rfl hl (Nat.le_of_ble_eq_true rfl) rfl (fun ls hl => ?_)
  refine lv_bipush (v := 16) hx hb dX4_bestSet_5 (by decide) ?_
  have hB := hS.1
  have hL_t2 : q2 < _ := hT_t2.lt
  refine nwZ (atype := .boolean) (ty := .boolean) (t := 1) (cA := E 2) (N := 16) (z := (16, .inl (fun _ => 0))) hx hb hts hG hS q936 rfl rfl trivial (fun _ => rfl) (by decide) (by decide) ⟨Nat.le_of_ble_eq_true rfl, Nat.le_of_ble_eq_true rfl⟩ dX4_bestSet_7 (fun q7 H1 hq9 hT_t7 hz ho hS => ?_)
  have hT_t2 : va_at D vwCl (q2, arI E 16 (fun _ => 0)) H1 := hT_t2.kept (ho _ hT_t2.lt)
  have hM := hM.kept (fun q h4 _ => ho q h4)
  have hG := gE.ofS hG0 hS (fun _ h => h.elim)
  have hne_t2_t7 : q2 ≠ q7 := by have h9 := hL_t2; omega
  have hge_t7 : s.heap.size ≤ q7 := by have := hB; omega
  have hd_t7 : ¬ Fc q7 := fun z => by have := hFb _ z; omega
  refine lv_astore_n (lv' := [(3, .ref (q7)), (2, .ref (q2)), (0, .ref (β 0 0)), (1, .int (a))]) hx hb dX4_bestSet_9 rfl hl (Nat.le_of_ble_eq_true rfl) rfl (fun ls hl => ?_)
  refine lv_iconst (v := 0) hx hb dX4_bestSet_10 (by decide) ?_
  refine lv_istore (lv' := [(4, .int 0), (3, .ref (q7)), (2, .ref (q2)), (0, .ref (β 0 0)), (1, .int (a))]) hx hb dX4_bestSet_11 hl (Nat.le_of_ble_eq_true rfl) rfl (fun ls hl => ?_)
  refine hL13 q2 q7 hge_t2 hne_t2_t7 hge_t7 _ (fun t_t2_13 t_t7_14 H1 locs1 Fc ls hR hM hFa hFb hd_t2 hd_t7 hT_t2 hT_t7 hS hl => ?_) 16 0 (fun _ => 0) (fun _ => 0) (Nat.zero_add _) hR _ _ _ hM hFa (fun q z => by have := hFb q z; omega) hd_t2 hd_t7 hT_t2 hT_t7 hS ls (lv_sub hl [3, 4, 2, 1, 0] rfl)
  try dsimp only at hR
  have hG := gE.ofS hG0 hS (fun _ h => h.elim)
  refine lv_iconst (v := 0) hx hb dX4_bestSet_180 (by decide) ?_
  refine lv_istore (lv' := [(4, .int 0), (0, .ref (β 0 0)), (2, .ref (q2))]) hx hb dX4_bestSet_181 hl (Nat.le_of_ble_eq_true rfl) rfl (fun ls hl => ?_)
  refine lv_iconst (v := 0) hx hb dX4_bestSet_183 (by decide) ?_
  refine lv_istore (lv' := [(5, .int 0), (4, .int 0), (0, .ref (β 0 0)), (2, .ref (q2))]) hx hb dX4_bestSet_184 hl (Nat.le_of_ble_eq_true rfl) rfl (fun ls hl => ?_)
  refine hL186 t_t2_13 t_t7_14 q2 q7 hge_t2 hne_t2_t7 hge_t7 _ (fun a15 H1 locs1 Fc ls hR hM hFa hFb hd_t2 hd_t7 hT_t2 hT_t7 hS hl => ?_) 16 0 0  (Nat.zero_add _) hR _ _ _ hM hFa (fun q z => by have := hFb q z; omega) hd_t2 hd_t7 hT_t2 hT_t7 hS ls (lv_sub hl [2, 3, 1, 0] rfl)
  try dsimp only at hR
  have hG := gE.ofS hG0 hS (fun _ h => h.elim)
  refine lv_bipush (v := 16) hx hb dX4_bestSet_210 (by decide) ?_
  have hB := hS.1
  have hL_t2 : q2 < _ := hT_t2.lt
  have hL_t7 : q7 < _ := hT_t7.lt
  refine nwZ (atype := .int) (ty := .int) (t := 0) (cA := E 1) (N := 16) (z := (16, .inl (fun _ => 0))) hx hb hts hG hS q199 rfl rfl trivial (fun _ => rfl) (by decide) (by decide) ⟨Nat.le_of_ble_eq_true rfl, Nat.le_of_ble_eq_true rfl⟩ dX4_bestSet_212 (fun q212 H1 hq9 hT_t212 hz ho hS => ?_)
  have hT_t2 : va_at D vwCl (q2, arI E 16 t_t2_13) H1 := hT_t2.kept (ho _ hT_t2.lt)
  have hT_t7 : va_at D vwCl (q7, arZ E 16 t_t7_14) H1 := hT_t7.kept (ho _ hT_t7.lt)
  have hM := hM.kept (fun q h4 _ => ho q h4)
  have hG := gE.ofS hG0 hS (fun _ h => h.elim)
  have hne_t2_t212 : q2 ≠ q212 := by have h9 := hL_t2; omega
  have hne_t7_t212 : q7 ≠ q212 := by have h9 := hL_t7; omega
  have hge_t212 : s.heap.size ≤ q212 := by have := hB; omega
  have hd_t212 : ¬ Fc q212 := fun z => by have := hFb _ z; omega
  refine lv_astore (lv' := [(5, .ref (q212)), (0, .ref (β 0 0)), (2, .ref (q2)), (4, .int (a15))]) hx hb dX4_bestSet_214 hl (Nat.le_of_ble_eq_true rfl) rfl (fun ls hl => ?_)
  refine lv_iconst (v := 0) hx hb dX4_bestSet_216 (by decide) ?_
  refine lv_istore (lv' := [(6, .int 0), (5, .ref (q212)), (0, .ref (β 0 0)), (2, .ref (q2)), (4, .int (a15))]) hx hb dX4_bestSet_217 hl (Nat.le_of_ble_eq_true rfl) rfl (fun ls hl => ?_)
  refine lv_iconst (v := (-1)) hx hb dX4_bestSet_219 (by decide) ?_
  refine lv_istore (lv' := [(7, .int (-1)), (6, .int 0), (5, .ref (q212)), (0, .ref (β 0 0)), (2, .ref (q2)), (4, .int (a15))]) hx hb dX4_bestSet_220 hl (Nat.le_of_ble_eq_true rfl) rfl (fun ls hl => ?_)
  refine hL222 t_t2_13 t_t7_14 q2 q7 q212 hge_t2 hne_t2_t7 hne_t2_t212 hge_t7 hne_t7_t212 hge_t212 _ (fun i25 t_t212_26 H1 locs1 Fc ls hR hM hFa hFb hd_t2 hd_t7 hd_t212 hT_t2 hT_t7 hT_t212 hS hl => ?_) 17 a15 0 ((-1)) (fun _ => 0)  hR _ _ _ hM hFa (fun q z => by have := hFb q z; omega) hd_t2 hd_t7 hd_t212 hT_t2 hT_t7 hT_t212 hS ls (lv_sub hl [3, 4, 5, 2, 1, 0] rfl)
  try dsimp only at hR
  have hG := gE.ofS hG0 hS (fun _ h => h.elim)
  rcases (Decidable.em (i25 < 17)).symm with g27 | g27
  · rw [if_neg g27] at hR
    cases hR
  rw [if_pos g27] at hR
  refine lv_iload hx hb dX4_bestSet_291 (lv_at hl 1 rfl) ?_
  have hB := hS.1
  have hL_t2 : q2 < _ := hT_t2.lt
  have hL_t7 : q7 < _ := hT_t7.lt
  have hL_t212 : q212 < _ := hT_t212.lt
  obtain hN9 : i25 ≤ 16 := (by omega)
  refine nwZ (atype := .int) (ty := .int) (t := 0) (cA := E 1) (N := i25) (z := (i25, .inl (fun _ => 0))) hx hb hts hG hS q199 rfl rfl trivial (fun _ => rfl) (by omega) (by show i25 * 4 ≤ _; omega) ⟨by show _ ≤ 4; omega, by show _ ≤ 64; omega⟩ dX4_bestSet_293 (fun q293 H1 hq9 hT_t293 hz ho hS => ?_)
  refine W.widen (k := 4) (n := 64) (by omega) (by omega) ?_
  have hT_t2 : va_at D vwCl (q2, arI E 16 t_t2_13) H1 := hT_t2.kept (ho _ hT_t2.lt)
  have hT_t7 : va_at D vwCl (q7, arZ E 16 t_t7_14) H1 := hT_t7.kept (ho _ hT_t7.lt)
  have hT_t212 : va_at D vwCl (q212, arI E 16 t_t212_26) H1 := hT_t212.kept (ho _ hT_t212.lt)
  have hM := hM.kept (fun q h4 _ => ho q h4)
  have hG := gE.ofS hG0 hS (fun _ h => h.elim)
  have hne_t2_t293 : q2 ≠ q293 := by have h9 := hL_t2; omega
  have hne_t7_t293 : q7 ≠ q293 := by have h9 := hL_t7; omega
  have hne_t212_t293 : q212 ≠ q293 := by have h9 := hL_t212; omega
  have hge_t293 : s.heap.size ≤ q293 := by have := hB; omega
  have hd_t293 : ¬ Fc q293 := fun z => by have := hFb _ z; omega
  refine lv_astore (lv' := [(8, .ref (q293)), (5, .ref (q212)), (6, .int (nI i25))]) hx hb dX4_bestSet_295 hl (Nat.le_of_ble_eq_true rfl) rfl (fun ls hl => ?_)
  refine lv_aload hx hb dX4_bestSet_297 (lv_at hl 1 rfl) ?_
  refine lv_iconst (v := 0) hx hb dX4_bestSet_299 (by decide) ?_
  refine lv_aload hx hb dX4_bestSet_300 (lv_at hl 0 rfl) ?_
  refine lv_iconst (v := 0) hx hb dX4_bestSet_302 (by decide) ?_
  refine lv_iload hx hb dX4_bestSet_303 (lv_at hl 2 rfl) ?_
  refine cpI (k := i25) hx hb (hml.trans hl.1.symm) hown (hts _ q1908) (hts _ q297) (hts _ q296) (hts _ q109) hG hS hT_t212 hT_t293 hne_t212_t293 (Or.inr hge_t212) (Or.inr hge_t293) (by omega) (Nat.le_refl _) (by omega) (by decide) (Nat.le_of_ble_eq_true rfl) dX4_bestSet_305 (fun H1 locs1 hT_t212 hT_t293 hS => ?_)
  have hG := gE.ofS hG0 hS (fun _ h => h.elim)
  refine lv_aload hx hb dX4_bestSet_308 (lv_at hl 0 rfl) ?_
  exact g_aret hx hb hr (Or.inr ⟨_, rfl⟩) hlocks hS ⟨Nat.le_of_ble_eq_true rfl, Nat.le_of_ble_eq_true rfl⟩ dX4_bestSet_310 (by cases hR; exact ⟨_, rfl, hge_t293, (by show _ ≤ 16; omega), hT_t293⟩)

def fX4_minutesOf_L15 (σ : St) (a : Int32) (r1 : Nat × (Nat → Int32)) (κ : Int32 → Option (Int32)) : Nat → Nat → Int32 → Option (Int32)
  | 0, i5, a2 => κ a2
  | n + 1, i5, a2 => (if 0 ≤ ((r1.2) i5) ∧ ((r1.2) i5) < nI 16 then fX4_minutesOf_L15 σ a r1 κ n (i5 + 1) (a2 + (sMin σ ((Int32.toNatClampNeg ((r1.2) i5))))) else none)
def fX4_minutesOf (σ : St) (a : Int32) : Option (Int32) :=
  (Option.bind (fX4_bestSet σ a) (fun (r1 : Nat × (Nat → Int32)) => fX4_minutesOf_L15 σ a r1 (fun (a3 : Int32) => (some a3)) r1.1 0 0))
set_option maxHeartbeats 4000000 in
set_option maxRecDepth 100000 in
theorem met_X4_minutesOf (l : Launch) (D : va_G) (E : Nat → Nat) {β : Nat → Nat → Nat} {F : Nat → Prop} {σ : St} {th ca : Int32} {sm : Int64} (a : Int32)  {r : Int32} (hR : fX4_minutesOf σ a = some r) : GM l D E yX4_minutesOf cX4_minutesOf 7 (Option.some Jvm.ClassFile.FieldType.int) 5 116 4 64 [.ref (β 0 0), .int (a)] (RM D E β F σ th ca sm) (fun _ => False) (fun _ => False) (fun sz v h => v = some (.int r))  := by
  refine GM.start (by decide) (Nat.le_of_ble_eq_true rfl) ?_
  intro p e s m below meth c ls hx hb hr hml hown hlocks hnm hts hG hM hS hl
  have hown : s.vm.findClass RX4 = some m.cls := hown
  have hS0 : xS p m c cX4_minutesOf 7 s _ RX4 := ⟨hx, hb, hml, hown, hts⟩
  have hl : lv_has ls 7 [(0, .ref (β 0 0)), (1, .int (a))] := hl
  have hG0 := hG
  have hM0 := hM
  have hb0P := hM0.nP10
  have hb0B := hM0.nB6
  have hb0W := hM0.nW14
  have hFE := hM.fE
  obtain ⟨Fc, hM, hFn⟩ := hM.nar
  have hFa : ∀ q, Fc q → fN F s.heap.size q := fun q z => Or.inl (hFn q z).1
  have hFb : ∀ q, Fc q → q < s.heap.size := fun q z => (hFn q z).2
  have hcn : cnt σ σ := cnt.rf
  have hL15 : ∀ (r1 : Nat × (Nat → Int32)) (q4 : Nat) (hge_t4 : s.heap.size ≤ q4) (hf15_0 : r1.1 < 17) (κ : Int32 → Option (Int32)) (hκ : ∀ (a2 : Int32) (H : Heap) (locs : List Loc) (Fc : Nat → Prop) (ls : Array Slot), κ a2 = some r → RM D E β Fc σ th ca sm H → (∀ q, Fc q → fN F s.heap.size q) → (∀ q, Fc q → q < H.size) → ¬ Fc q4 → va_at D vwCl (q4, arI E r1.1 r1.2) H → xK (fun _ => False) (fun _ => False) s.heap H locs → lv_has ls 7 [(2, .int (a2))] → W p l e { frames := 5, cells := 4, slots := 64, locals := 116 } s m [(.ref (β 0 0) : Value), .int (a)].toArray below meth c H locs 4 64 (MQ below (qG (fun _ => False) ((fun sz v h => v = some (.int r)) s.heap.size)) [(.ref (β 0 0) : Value), .int (a)].toArray s 4 64 (fN (fun _ => False) s.heap.size)) (F0 m 44 ls [])) (n : Nat) (i5 : Nat) (a2 : Int32) , i5 + n = r1.1 → fX4_minutesOf_L15 σ a r1 κ n i5 a2 = some r → ∀ (H : Heap) (locs : List Loc) (Fc : Nat → Prop), RM D E β Fc σ th ca sm H → (∀ q, Fc q → fN F s.heap.size q) → (∀ q, Fc q → q < H.size) → ¬ Fc q4 → va_at D vwCl (q4, arI E r1.1 r1.2) H → xK (fun _ => False) (fun _ => False) s.heap H locs → ∀ (ls : Array Slot), lv_has ls 7 [(0, .ref (β 0 0)), (2, .int (a2)), (3, .ref (q4)), (4, .int (nI r1.1)), (5, .int (nI i5))] → W p l e { frames := 5, cells := 4, slots := 64, locals := 116 } s m [(.ref (β 0 0) : Value), .int (a)].toArray below meth c H locs 4 64 (MQ below (qG (fun _ => False) ((fun sz v h => v = some (.int r)) s.heap.size)) [(.ref (β 0 0) : Value), .int (a)].toArray s 4 64 (fN (fun _ => False) s.heap.size)) (F0 m 15 ls []) := by
    intro r1 q4 hge_t4 hf15_0 κ hκ n
    induction n with
    | zero =>
      intro i5 a2 hn hR H locs Fc hM hFa hFb hd_t4 hT_t4 hS ls hl
      rw [fX4_minutesOf_L15] at hR
      have hG := gE.ofS hG0 hS (fun _ h => h.elim)
      refine lv_iload hx hb dX4_minutesOf_15 (lv_at hl 4 rfl) ?_
      refine lv_iload hx hb dX4_minutesOf_17 (lv_at hl 3 rfl) ?_
      refine lk_ge_out (k := i5) (N := r1.1) hx hb hn (tgt := 44) dX4_minutesOf_19 (by decide) ?_
      exact hκ a2 _ _ _ ls hR hM hFa (fun q z => by have := hFb q z; omega) hd_t4 hT_t4 hS (lv_sub hl [1] rfl)
    | succ n ih =>
      intro i5 a2 hn hR H locs Fc hM hFa hFb hd_t4 hT_t4 hS ls hl
      rw [fX4_minutesOf_L15] at hR
      have hG := gE.ofS hG0 hS (fun _ h => h.elim)
      refine lv_iload hx hb dX4_minutesOf_15 (lv_at hl 4 rfl) ?_
      refine lv_iload hx hb dX4_minutesOf_17 (lv_at hl 3 rfl) ?_
      have hki5 : i5 < r1.1 := lk_lt hn
      refine lk_ge_in (k := i5) (N := r1.1) hx hb hki5 (by omega) (tgt := 44) dX4_minutesOf_19 (by decide) ?_
      refine lv_aload_n hx hb dX4_minutesOf_22 rfl (lv_at hl 2 rfl) ?_
      refine lv_iload hx hb dX4_minutesOf_23 (lv_at hl 4 rfl) ?_
      refine gaI (N := r1.1) (k := i5) hx hb hG hT_t4 hki5 (Nat.lt_of_lt_of_le hf15_0 (by decide)) dX4_minutesOf_25 ?_
      refine lv_istore (lv' := [(6, .int ((r1.2) i5)), (0, .ref (β 0 0)), (2, .int (a2)), (3, .ref (q4)), (4, .int (nI r1.1)), (5, .int (nI i5))]) hx hb dX4_minutesOf_26 hl (Nat.le_of_ble_eq_true rfl) rfl (fun ls hl => ?_)
      rcases (Decidable.em (0 ≤ ((r1.2) i5) ∧ ((r1.2) i5) < nI 16)).symm with g2 | g2
      · rw [if_neg g2] at hR
        cases hR
      rw [if_pos g2] at hR
      have ng2 := ck_ix g2 (by decide)
      refine lv_iload_n hx hb dX4_minutesOf_28 rfl (lv_at hl 2 rfl) ?_
      refine lv_aload_n hx hb dX4_minutesOf_29 rfl (lv_at hl 1 rfl) ?_
      refine gf (v := .ref (β 8 2)) (C := RX4) (T := TX4) (N := 13) (k := 8) hx hb hts hown hG cl_X4 in_X4 hM.ag (by decide) q1548 rfl dX4_minutesOf_30 ?_
      refine lv_iload hx hb dX4_minutesOf_33 (lv_at hl 0 rfl) ?_
      refine lv_eq ng2.1 ?_
      refine gaI (N := 16) (k := (Int32.toNatClampNeg ((r1.2) i5))) hx hb hG hM.ar2 ng2.2 (by decide) dX4_minutesOf_35 ?_
      refine lv_iadd hx hb dX4_minutesOf_36 ?_
      refine lv_istore_n (lv' := [(2, .int (a2 + (sMin σ ((Int32.toNatClampNeg ((r1.2) i5)))))), (6, .int ((r1.2) i5)), (0, .ref (β 0 0)), (3, .ref (q4)), (4, .int (nI r1.1)), (5, .int (nI i5))]) hx hb dX4_minutesOf_37 rfl hl (Nat.le_of_ble_eq_true rfl) rfl (fun ls hl => ?_)
      refine lv_iinc (v := nI (i5 + 1)) (lv' := [(5, .int (nI (i5 + 1))), (2, .int (a2 + (sMin σ ((Int32.toNatClampNeg ((r1.2) i5)))))), (6, .int ((r1.2) i5)), (0, .ref (β 0 0)), (3, .ref (q4)), (4, .int (nI r1.1))]) hx hb dX4_minutesOf_38 hl (k := 5) rfl (nI_1 i5) (Nat.le_of_ble_eq_true rfl) rfl (fun ls hl => ?_)
      refine lv_goto (tgt := 15) hx hb dX4_minutesOf_41 (by decide) ?_
      exact ih (i5 + 1) (a2 + (sMin σ ((Int32.toNatClampNeg ((r1.2) i5))))) (lk_st hn) hR _ _ _ hM hFa (fun q z => by have := hFb q z; omega) hd_t4 hT_t4 hS ls (lv_sub hl [3, 1, 4, 5, 0] rfl)
  unfold fX4_minutesOf at hR
  refine lv_iconst (v := 0) hx hb dX4_minutesOf_0 (by decide) ?_
  refine lv_istore_n (lv' := [(2, .int 0), (0, .ref (β 0 0)), (1, .int (a))]) hx hb dX4_minutesOf_1 rfl hl (Nat.le_of_ble_eq_true rfl) rfl (fun ls hl => ?_)
  refine lv_aload_n hx hb dX4_minutesOf_2 rfl (lv_at hl 1 rfl) ?_
  refine lv_iload_n hx hb dX4_minutesOf_3 rfl (lv_at hl 2 rfl) ?_
  rcases hc_r1 : (fX4_bestSet σ a) with _ | r1
  · rw [hc_r1] at hR
    cases hR
  rw [hc_r1] at hR
  try dsimp only [Option.bind] at hR
  have hB := hS.1
  refine gcV (As := [.int (a)]) (rest := []) hS0 (met_X4_bestSet l D E a hc_r1) q1898 q1900 qs82 q110 q1901 hd_X4_bestSet ⟨Nat.le_of_ble_eq_true rfl, Nat.le_of_ble_eq_true rfl⟩ hG (rcv hG cl_X4 hM.ag) hM rfl hl.1 rfl (Nat.le_of_ble_eq_true rfl) dX4_minutesOf_4 ⟨Nat.le_of_ble_eq_true rfl, Nat.le_of_ble_eq_true rfl⟩ hS (fun q h => h.elim) (fun q h => h.elim) (fun v H1 locs1 hP hz hk hS => ?_)
  obtain ⟨q4, rfl, hq9, hmx_t4, hT_t4⟩ := hP
  have hM := hM.kept (fun q h4 _ => hk q h4 id)
  have hG := gE.ofS hG0 hS (fun _ h => h.elim)
  have hge_t4 : s.heap.size ≤ q4 := by have := hB; omega
  have hd_t4 : ¬ Fc q4 := fun z => by have := hFb _ z; omega
  refine W.eq (g2 := F0 m 7 ls [.ref (q4)]) rfl ?_
  refine lv_astore_n (lv' := [(3, .ref (q4)), (2, .int 0), (0, .ref (β 0 0)), (1, .int (a))]) hx hb dX4_minutesOf_7 rfl hl (Nat.le_of_ble_eq_true rfl) rfl (fun ls hl => ?_)
  refine lv_aload_n hx hb dX4_minutesOf_8 rfl (lv_at hl 0 rfl) ?_
  refine gl (N := r1.1) hx hb hG hT_t4 (t := 0) rfl rfl dX4_minutesOf_9 ?_
  refine lv_istore (lv' := [(4, .int (nI r1.1)), (3, .ref (q4)), (2, .int 0), (0, .ref (β 0 0)), (1, .int (a))]) hx hb dX4_minutesOf_10 hl (Nat.le_of_ble_eq_true rfl) rfl (fun ls hl => ?_)
  refine lv_iconst (v := 0) hx hb dX4_minutesOf_12 (by decide) ?_
  refine lv_istore (lv' := [(5, .int 0), (4, .int (nI r1.1)), (3, .ref (q4)), (2, .int 0), (0, .ref (β 0 0)), (1, .int (a))]) hx hb dX4_minutesOf_13 hl (Nat.le_of_ble_eq_true rfl) rfl (fun ls hl => ?_)
  refine hL15 r1 q4 hge_t4 (Nat.lt_succ_of_le hmx_t4) _ (fun a3 H1 locs1 Fc ls hR hM hFa hFb hd_t4 hT_t4 hS hl => ?_) r1.1 0 0  (Nat.zero_add _) hR _ _ _ hM hFa (fun q z => by have := hFb q z; omega) hd_t4 hT_t4 hS ls (lv_sub hl [4, 3, 2, 1, 0] rfl)
  try dsimp only at hR
  have hG := gE.ofS hG0 hS (fun _ h => h.elim)
  refine lv_iload_n hx hb dX4_minutesOf_44 rfl (lv_at hl 0 rfl) ?_
  exact g_iret hx hb hr hlocks hS ⟨Nat.le_of_ble_eq_true rfl, Nat.le_of_ble_eq_true rfl⟩ dX4_minutesOf_45 (by cases hR; exact rfl)

def fX4_set (σ : St) (th : Int32) (ca : Int32) (sm : Int64) (a : Int32) (z : Bool) : Option (Int32 × MSt) :=
  (if a < 0 then (fun (σ1 : St) => (fun (th1 : Int32) => (fun (ca1 : Int32) => (fun (sm1 : Int64) => (fun (v1 : Int32) => (some (v1, ((σ1, th1, ca1, sm1) : MSt)))) ((fX4_refuse σ 0 ca sm 1).1)) ((fX4_refuse σ 0 ca sm 1).2.2.2.2)) ((fX4_refuse σ 0 ca sm 1).2.2.2.1)) ((fX4_refuse σ 0 ca sm 1).2.2.1)) ((fX4_refuse σ 0 ca sm 1).2.1) else (if a < (1 <<< ((nI (nP σ)) &&& 31)) then (if z = true then (Option.bind (fX4_minutesOf σ a) (fun (r5 : Int32) => (some (r5, ((σ, 0, ca, sm) : MSt))))) else (Option.bind (fX4_bestSet σ a) (fun (r4 : Nat × (Nat → Int32)) => (some (nI r4.1, ((σ, 0, ca, sm) : MSt)))))) else (fun (σ2 : St) => (fun (th2 : Int32) => (fun (ca2 : Int32) => (fun (sm2 : Int64) => (fun (v2 : Int32) => (some (v2, ((σ2, th2, ca2, sm2) : MSt)))) ((fX4_refuse σ 0 ca sm 1).1)) ((fX4_refuse σ 0 ca sm 1).2.2.2.2)) ((fX4_refuse σ 0 ca sm 1).2.2.2.1)) ((fX4_refuse σ 0 ca sm 1).2.2.1)) ((fX4_refuse σ 0 ca sm 1).2.1)))
set_option maxHeartbeats 4000000 in
set_option maxRecDepth 100000 in
theorem met_X4_set (l : Launch) (D : va_G) (E : Nat → Nat) {β : Nat → Nat → Nat} {F : Nat → Prop} {σ : St} {th ca : Int32} {sm : Int64} (a : Int32) (z : Bool)  {r : Int32 × MSt} (hR : fX4_set σ th ca sm a z = some r) : GM l D E yX4_set cX4_set 3 (Option.some Jvm.ClassFile.FieldType.int) 6 142 4 64 [.ref (β 0 0), .int (a), .int (bI z)] (RM D E β F σ th ca sm) F F (fun sz v h => v = some (.int r.1) ∧ RM D E β (fN F sz) r.2.1 r.2.2.1 r.2.2.2.1 r.2.2.2.2 h ∧ cnt r.2.1 σ)  := by
  refine GM.start (by decide) (Nat.le_of_ble_eq_true rfl) ?_
  intro p e s m below meth c ls hx hb hr hml hown hlocks hnm hts hG hM hS hl
  have hown : s.vm.findClass RX4 = some m.cls := hown
  have hS0 : xS p m c cX4_set 3 s _ RX4 := ⟨hx, hb, hml, hown, hts⟩
  have hl : lv_has ls 3 [(0, .ref (β 0 0)), (1, .int (a)), (2, .int (bI z))] := hl
  have hG0 := hG
  have hM0 := hM
  have hb0P := hM0.nP10
  have hb0B := hM0.nB6
  have hb0W := hM0.nW14
  have hFE := hM.fE
  obtain ⟨Fc, hM, hFn⟩ := hM.nar
  have hFa : ∀ q, Fc q → fN F s.heap.size q := fun q z => Or.inl (hFn q z).1
  have hFb : ∀ q, Fc q → q < s.heap.size := fun q z => (hFn q z).2
  have hcn : cnt σ σ := cnt.rf
  unfold fX4_set at hR
  refine lv_aload_n hx hb dX4_set_0 rfl (lv_at hl 0 rfl) ?_
  refine lv_iconst (v := 0) hx hb dX4_set_1 (by decide) ?_
  refine pf (ty0 := tyX4) (ty := tyX4 0) (v := .int 0) (C := RX4) (T := TX4) (N := 13) (k := 0) hx hb hts hown hG hS cl_X4 in_X4 tyX4_ok nmX4 hM.ag (hFa _ hM.agF) (hFa _ hM.agF) (by decide) q1540 rfl (tyX4_ok 0 (by decide)) rfl rfl (Nat.le_of_ble_eq_true rfl) dX4_set_2 (fun H1 locs1 he hz hq hS => ?_)
  have hM := hM.Pth  he hq
  have hG := gE.ofS hG0 hS hFE
  refine lv_iload_n hx hb dX4_set_5 rfl (lv_at hl 1 rfl) ?_
  refine lv_if_lt (tgt := 22) hx hb dX4_set_6 (by decide) (fun c1 => ?_) (fun c1 => ?_)
  · rw [if_pos c1] at hR
    refine lv_aload_n hx hb dX4_set_22 rfl (lv_at hl 0 rfl) ?_
    refine lv_iconst (v := 1) hx hb dX4_set_23 (by decide) ?_
    have hB := hS.1
    refine gcV (As := [.int 1]) (rest := []) hS0 (met_X4_refuse l D E 1) q1591 q1593 qs55 q110 q1594 hd_X4_refuse ⟨Nat.le_of_ble_eq_true rfl, Nat.le_of_ble_eq_true rfl⟩ hG (rcv hG cl_X4 hM.ag) hM rfl hl.1 rfl (Nat.le_of_ble_eq_true rfl) dX4_set_24 ⟨Nat.le_of_ble_eq_true rfl, Nat.le_of_ble_eq_true rfl⟩ hS (fun q h => hFa q h) (fun q h => hFa q h) (fun v H1 locs1 hP hz hk hS => ?_)
    obtain ⟨rfl, hZ, hc8⟩ := hP
    obtain ⟨Fd, hM, hFn⟩ := hZ.nar
    have hFa : ∀ q, Fd q → fN F s.heap.size q := fun q z => (hFn q z).1.elim (hFa q) (fun z9 => Or.inr (Nat.le_trans hB z9))
    have hFb : ∀ q, Fd q → q < H1.size := fun q z => (hFn q z).2
    clear hFn
    generalize Fd = Fc at hM hFa hFb
    have hG := gE.ofS hG0 hS hFE
    have hcn := hc8.tr hcn
    generalize hv_σ1 : (fX4_refuse σ 0 ca sm 1).2.1 = σ1 at hR hM hcn ⊢
    generalize hv_th1 : (fX4_refuse σ 0 ca sm 1).2.2.1 = th1 at hR hM hcn ⊢
    generalize hv_ca1 : (fX4_refuse σ 0 ca sm 1).2.2.2.1 = ca1 at hR hM hcn ⊢
    generalize hv_sm1 : (fX4_refuse σ 0 ca sm 1).2.2.2.2 = sm1 at hR hM hcn ⊢
    generalize hv_v1 : (fX4_refuse σ 0 ca sm 1).1 = v1 at hR hM hcn ⊢
    try dsimp only at hR
    refine W.eq (g2 := F0 m 27 ls [.int (v1)]) rfl ?_
    exact g_iret hx hb hr hlocks hS ⟨Nat.le_of_ble_eq_true rfl, Nat.le_of_ble_eq_true rfl⟩ dX4_set_27 (by cases hR; exact ⟨rfl, (hM.mono (fun q _ z => hFa q z) (fN_E hFE hG0.2.2.1)), hcn⟩)
  · rw [if_neg c1] at hR
    refine lv_iload_n hx hb dX4_set_9 rfl (lv_at hl 1 rfl) ?_
    refine lv_iconst (v := 1) hx hb dX4_set_10 (by decide) ?_
    refine lv_aload_n hx hb dX4_set_11 rfl (lv_at hl 0 rfl) ?_
    refine gf (v := .ref (β 1 0)) (C := RX4) (T := TX4) (N := 13) (k := 3) hx hb hts hown hG cl_X4 in_X4 hM.ag (by decide) q1543 rfl dX4_set_12 ?_
    refine pcV (As := []) (rest := [.int 1, .int (a)]) hS0 (met_ml_size l D E (j := 0) (by decide)) q1600 q336 q2080 q103 q338 hd_J2_size ⟨Nat.le_of_ble_eq_true rfl, Nat.le_of_ble_eq_true rfl⟩ hG (hM.lsR hG (j := 0) (by decide)) hM rfl hl.1 rfl (Nat.le_of_ble_eq_true rfl) dX4_set_15 ⟨Nat.le_of_ble_eq_true rfl, Nat.le_of_ble_eq_true rfl⟩ ?_
    refine W.eq (g2 := F0 m 18 ls [.int (nI (nP σ)), .int 1, .int (a)]) rfl ?_
    refine lv_ishl hx hb dX4_set_18 ?_
    refine lv_icmp_lt (tgt := 28) hx hb dX4_set_19 (by decide) (fun c2 => ?_) (fun c2 => ?_)
    · rw [if_pos c2] at hR
      refine lv_iload_n hx hb dX4_set_28 rfl (lv_at hl 2 rfl) ?_
      refine lb_if_eq (tgt := 40) hx hb dX4_set_29 (by decide) (fun c3 => ?_) (fun c3 => ?_)
      · rw [if_neg c3] at hR
        refine lv_aload_n hx hb dX4_set_40 rfl (lv_at hl 0 rfl) ?_
        refine lv_iload_n hx hb dX4_set_41 rfl (lv_at hl 1 rfl) ?_
        rcases hc_r4 : (fX4_bestSet σ a) with _ | r4
        · rw [hc_r4] at hR
          cases hR
        rw [hc_r4] at hR
        try dsimp only [Option.bind] at hR
        have hB := hS.1
        refine gcV (As := [.int (a)]) (rest := []) hS0 (met_X4_bestSet l D E a hc_r4) q1898 q1900 qs82 q110 q1901 hd_X4_bestSet ⟨Nat.le_of_ble_eq_true rfl, Nat.le_of_ble_eq_true rfl⟩ hG (rcv hG cl_X4 hM.ag) hM rfl hl.1 rfl (Nat.le_of_ble_eq_true rfl) dX4_set_42 ⟨Nat.le_of_ble_eq_true rfl, Nat.le_of_ble_eq_true rfl⟩ hS (fun q h => h.elim) (fun q h => h.elim) (fun v H1 locs1 hP hz hk hS => ?_)
        obtain ⟨q42, rfl, hq9, hmx_t42, hT_t42⟩ := hP
        have hM := hM.kept (fun q h4 _ => hk q h4 id)
        have hG := gE.ofS hG0 hS hFE
        have hge_t42 : s.heap.size ≤ q42 := by have := hB; omega
        have hd_t42 : ¬ Fc q42 := fun z => by have := hFb _ z; omega
        refine W.eq (g2 := F0 m 45 ls [.ref (q42)]) rfl ?_
        refine gl (N := r4.1) hx hb hG hT_t42 (t := 0) rfl rfl dX4_set_45 ?_
        exact g_iret hx hb hr hlocks hS ⟨Nat.le_of_ble_eq_true rfl, Nat.le_of_ble_eq_true rfl⟩ dX4_set_46 (by cases hR; exact ⟨rfl, (hM.mono (fun q _ z => hFa q z) (fN_E hFE hG0.2.2.1)), hcn⟩)
      · rw [if_pos c3] at hR
        refine lv_aload_n hx hb dX4_set_32 rfl (lv_at hl 0 rfl) ?_
        refine lv_iload_n hx hb dX4_set_33 rfl (lv_at hl 1 rfl) ?_
        rcases hc_r5 : (fX4_minutesOf σ a) with _ | r5
        · rw [hc_r5] at hR
          cases hR
        rw [hc_r5] at hR
        try dsimp only [Option.bind] at hR
        have hB := hS.1
        refine gcV (As := [.int (a)]) (rest := []) hS0 (met_X4_minutesOf l D E a hc_r5) q1977 q1979 qs93 q110 q1980 hd_X4_minutesOf ⟨Nat.le_of_ble_eq_true rfl, Nat.le_of_ble_eq_true rfl⟩ hG (rcv hG cl_X4 hM.ag) hM rfl hl.1 rfl (Nat.le_of_ble_eq_true rfl) dX4_set_34 ⟨Nat.le_of_ble_eq_true rfl, Nat.le_of_ble_eq_true rfl⟩ hS (fun q h => h.elim) (fun q h => h.elim) (fun v H1 locs1 hP hz hk hS => ?_)
        obtain rfl := hP
        have hM := hM.kept (fun q h4 _ => hk q h4 id)
        have hG := gE.ofS hG0 hS hFE
        refine W.eq (g2 := F0 m 37 ls [.int (r5)]) rfl ?_
        refine lv_goto (tgt := 46) hx hb dX4_set_37 (by decide) ?_
        exact g_iret hx hb hr hlocks hS ⟨Nat.le_of_ble_eq_true rfl, Nat.le_of_ble_eq_true rfl⟩ dX4_set_46 (by cases hR; exact ⟨rfl, (hM.mono (fun q _ z => hFa q z) (fN_E hFE hG0.2.2.1)), hcn⟩)
    · rw [if_neg c2] at hR
      refine lv_aload_n hx hb dX4_set_22 rfl (lv_at hl 0 rfl) ?_
      refine lv_iconst (v := 1) hx hb dX4_set_23 (by decide) ?_
      have hB := hS.1
      refine gcV (As := [.int 1]) (rest := []) hS0 (met_X4_refuse l D E 1) q1591 q1593 qs55 q110 q1594 hd_X4_refuse ⟨Nat.le_of_ble_eq_true rfl, Nat.le_of_ble_eq_true rfl⟩ hG (rcv hG cl_X4 hM.ag) hM rfl hl.1 rfl (Nat.le_of_ble_eq_true rfl) dX4_set_24 ⟨Nat.le_of_ble_eq_true rfl, Nat.le_of_ble_eq_true rfl⟩ hS (fun q h => hFa q h) (fun q h => hFa q h) (fun v H1 locs1 hP hz hk hS => ?_)
      obtain ⟨rfl, hZ, hc8⟩ := hP
      obtain ⟨Fd, hM, hFn⟩ := hZ.nar
      have hFa : ∀ q, Fd q → fN F s.heap.size q := fun q z => (hFn q z).1.elim (hFa q) (fun z9 => Or.inr (Nat.le_trans hB z9))
      have hFb : ∀ q, Fd q → q < H1.size := fun q z => (hFn q z).2
      clear hFn
      generalize Fd = Fc at hM hFa hFb
      have hG := gE.ofS hG0 hS hFE
      have hcn := hc8.tr hcn
      generalize hv_σ2 : (fX4_refuse σ 0 ca sm 1).2.1 = σ2 at hR hM hcn ⊢
      generalize hv_th2 : (fX4_refuse σ 0 ca sm 1).2.2.1 = th2 at hR hM hcn ⊢
      generalize hv_ca2 : (fX4_refuse σ 0 ca sm 1).2.2.2.1 = ca2 at hR hM hcn ⊢
      generalize hv_sm2 : (fX4_refuse σ 0 ca sm 1).2.2.2.2 = sm2 at hR hM hcn ⊢
      generalize hv_v2 : (fX4_refuse σ 0 ca sm 1).1 = v2 at hR hM hcn ⊢
      try dsimp only at hR
      refine W.eq (g2 := F0 m 27 ls [.int (v2)]) rfl ?_
      exact g_iret hx hb hr hlocks hS ⟨Nat.le_of_ble_eq_true rfl, Nat.le_of_ble_eq_true rfl⟩ dX4_set_27 (by cases hR; exact ⟨rfl, (hM.mono (fun q _ z => hFa q z) (fN_E hFE hG0.2.2.1)), hcn⟩)

def fX4_playNow_L40 (σ : St) (th : Int32) (ca : Int32) (sm : Int64) (wi : Nat)  (κ : St → Int32 → Int32 → Int64 → Option (MSt)) : Nat → Nat → St → Int32 → Int32 → Int64 → Option (MSt)
  | 0, i2, σ2, th2, ca2, sm2 => κ σ2 th2 ca2 sm2
  | n + 1, i2, σ2, th2, ca2, sm2 => (if ((fX4_isIn (wSet σ2 wi) (nI i2))) = true then (fun (σ3 : St) => fX4_playNow_L40 σ th ca sm wi κ n (i2 + 1) σ3 th2 ca2 sm2) (sW σ2 14 i2 ((pEarned σ2 i2) + ((fX4_earnedAt σ2 i2 wi)))) else fX4_playNow_L40 σ th ca sm wi κ n (i2 + 1) σ2 th2 ca2 sm2)
def fX4_playNow_L108 (σ : St) (th : Int32) (ca : Int32) (sm : Int64) (wi : Nat) (r2 : Nat × (Nat → Int32)) (κ : St → Int32 → Int32 → Int64 → Option (MSt)) : Nat → Nat → St → Int32 → Int32 → Int64 → Option (MSt)
  | 0, i4, σ5, th5, ca5, sm5 => κ σ5 th5 ca5 sm5
  | n + 1, i4, σ5, th5, ca5, sm5 => (if 0 ≤ ((r2.2) i4) ∧ ((r2.2) i4) < nI 16 then (fun (σ6 : St) => fX4_playNow_L108 σ th ca sm wi r2 κ n (i4 + 1) σ6 th5 ca5 sm5) (sW σ5 33 ((Int32.toNatClampNeg ((r2.2) i4))) ((sPlayed σ5 ((Int32.toNatClampNeg ((r2.2) i4)))) + 1)) else none)
def fX4_playNow (σ : St) (th : Int32) (ca : Int32) (sm : Int64) (wi : Nat) : Option (MSt) :=
  (fun (σ1 : St) => fX4_playNow_L40 σ th ca sm wi (fun (σ4 : St) (th4 : Int32) (ca4 : Int32) (sm4 : Int64) => (Option.bind (fX4_bestSet σ4 (wSet σ4 wi)) (fun (r2 : Nat × (Nat → Int32)) => fX4_playNow_L108 σ th ca sm wi r2 (fun (σ7 : St) (th7 : Int32) (ca7 : Int32) (sm7 : Int64) => (fun (σ8 : St) => (some ((σ8, th7, ca7, sm7) : MSt))) (sN σ7 5 wi 2)) r2.1 0 σ4 th4 ca4 sm4))) (nP σ) 0 σ1 th ((ca + ((fX4_gain σ wi)))) sm) (sW σ 26 wi ((wPrice σ wi) + ((((fX11_quarters σ wi)) * ((fX4_fees σ (wSet σ wi)))) / 4)))
set_option maxHeartbeats 4000000 in
set_option maxRecDepth 100000 in
theorem met_X4_playNow (l : Launch) (D : va_G) (E : Nat → Nat) {β : Nat → Nat → Nat} {F : Nat → Prop} {σ : St} {th ca : Int32} {sm : Int64} (wi : Nat) (h_wi : wi < nW σ) {r : MSt} (hR : fX4_playNow σ th ca sm wi = some r) : GM l D E yX4_playNow cX4_playNow 6 (Option.none : Option Jvm.ClassFile.FieldType) 6 133 4 64 [.ref (β 0 0), .ref (β 5 wi)] (RM D E β F σ th ca sm) F F (fun sz v h => v = none ∧ RM D E β (fN F sz) r.1 r.2.1 r.2.2.1 r.2.2.2 h ∧ cnt r.1 σ)  := by
  refine GM.start (by decide) (Nat.le_of_ble_eq_true rfl) ?_
  intro p e s m below meth c ls hx hb hr hml hown hlocks hnm hts hG hM hS hl
  have hown : s.vm.findClass RX4 = some m.cls := hown
  have hS0 : xS p m c cX4_playNow 6 s _ RX4 := ⟨hx, hb, hml, hown, hts⟩
  have hl : lv_has ls 6 [(0, .ref (β 0 0)), (1, .ref (β 5 wi))] := hl
  have hG0 := hG
  have hM0 := hM
  have hb0P := hM0.nP10
  have hb0B := hM0.nB6
  have hb0W := hM0.nW14
  have hFE := hM.fE
  obtain ⟨Fc, hM, hFn⟩ := hM.nar
  have hFa : ∀ q, Fc q → fN F s.heap.size q := fun q z => Or.inl (hFn q z).1
  have hFb : ∀ q, Fc q → q < s.heap.size := fun q z => (hFn q z).2
  have hcn : cnt σ σ := cnt.rf
  have hL40 : ∀  (κ : St → Int32 → Int32 → Int64 → Option (MSt)) (hκ : ∀ (σ2 : St) (th2 : Int32) (ca2 : Int32) (sm2 : Int64) (H : Heap) (locs : List Loc) (Fc : Nat → Prop) (ls : Array Slot), κ σ2 th2 ca2 sm2 = some r → cnt σ2 σ → RM D E β Fc σ2 th2 ca2 sm2 H → (∀ q, Fc q → fN F s.heap.size q) → (∀ q, Fc q → q < H.size) → xK F F s.heap H locs → lv_has ls 6 [(0, .ref (β 0 0)), (1, .ref (β 5 wi))] → W p l e { frames := 6, cells := 4, slots := 64, locals := 133 } s m [(.ref (β 0 0) : Value), .ref (β 5 wi)].toArray below meth c H locs 0 0 (MQ below (qG F ((fun sz v h => v = none ∧ RM D E β (fN F sz) r.1 r.2.1 r.2.2.1 r.2.2.2 h ∧ cnt r.1 σ) s.heap.size)) [(.ref (β 0 0) : Value), .ref (β 5 wi)].toArray s 4 64 (fN F s.heap.size)) (F0 m 93 ls [])) (n : Nat) (i2 : Nat) (σ2 : St) (th2 : Int32) (ca2 : Int32) (sm2 : Int64), i2 + n = nP σ → fX4_playNow_L40 σ th ca sm wi κ n i2 σ2 th2 ca2 sm2 = some r → ∀ (H : Heap) (locs : List Loc) (Fc : Nat → Prop), cnt σ2 σ → RM D E β Fc σ2 th2 ca2 sm2 H → (∀ q, Fc q → fN F s.heap.size q) → (∀ q, Fc q → q < H.size) → xK F F s.heap H locs → ∀ (ls : Array Slot), lv_has ls 6 [(0, .ref (β 0 0)), (1, .ref (β 5 wi)), (2, .int (nI i2))] → W p l e { frames := 6, cells := 4, slots := 64, locals := 133 } s m [(.ref (β 0 0) : Value), .ref (β 5 wi)].toArray below meth c H locs 0 0 (MQ below (qG F ((fun sz v h => v = none ∧ RM D E β (fN F sz) r.1 r.2.1 r.2.2.1 r.2.2.2 h ∧ cnt r.1 σ) s.heap.size)) [(.ref (β 0 0) : Value), .ref (β 5 wi)].toArray s 4 64 (fN F s.heap.size)) (F0 m 40 ls []) := by
    intro  κ hκ n
    induction n with
    | zero =>
      intro i2 σ2 th2 ca2 sm2 hn hR H locs Fc hcn hM hFa hFb hS ls hl
      rw [fX4_playNow_L40] at hR
      have hG := gE.ofS hG0 hS hFE
      refine lv_iload_n hx hb dX4_playNow_40 rfl (lv_at hl 2 rfl) ?_
      refine lv_aload_n hx hb dX4_playNow_41 rfl (lv_at hl 0 rfl) ?_
      refine gf (v := .ref (β 1 0)) (C := RX4) (T := TX4) (N := 13) (k := 3) hx hb hts hown hG cl_X4 in_X4 hM.ag (by decide) q1543 rfl dX4_playNow_42 ?_
      refine pcV (As := []) (rest := [.int (nI i2)]) hS0 (met_ml_size l D E (j := 0) (by decide)) q1600 q336 q2080 q103 q338 hd_J2_size ⟨Nat.le_of_ble_eq_true rfl, Nat.le_of_ble_eq_true rfl⟩ hG (hM.lsR hG (j := 0) (by decide)) hM rfl hl.1 rfl (Nat.le_of_ble_eq_true rfl) dX4_playNow_45 ⟨Nat.le_of_ble_eq_true rfl, Nat.le_of_ble_eq_true rfl⟩ ?_
      refine W.eq (g2 := F0 m 48 ls [.int (nI (nP σ2)), .int (nI i2)]) rfl ?_
      refine lk_ge_out (k := i2) (N := nP σ2) hx hb (Eq.trans hn hcn.1.symm) (tgt := 93) dX4_playNow_48 (by decide) ?_
      exact hκ σ2 th2 ca2 sm2 _ _ _ ls hR hcn hM hFa (fun q z => by have := hFb q z; omega) hS (lv_sub hl [0, 1] rfl)
    | succ n ih =>
      intro i2 σ2 th2 ca2 sm2 hn hR H locs Fc hcn hM hFa hFb hS ls hl
      rw [fX4_playNow_L40] at hR
      have hG := gE.ofS hG0 hS hFE
      refine lv_iload_n hx hb dX4_playNow_40 rfl (lv_at hl 2 rfl) ?_
      refine lv_aload_n hx hb dX4_playNow_41 rfl (lv_at hl 0 rfl) ?_
      refine gf (v := .ref (β 1 0)) (C := RX4) (T := TX4) (N := 13) (k := 3) hx hb hts hown hG cl_X4 in_X4 hM.ag (by decide) q1543 rfl dX4_playNow_42 ?_
      refine pcV (As := []) (rest := [.int (nI i2)]) hS0 (met_ml_size l D E (j := 0) (by decide)) q1600 q336 q2080 q103 q338 hd_J2_size ⟨Nat.le_of_ble_eq_true rfl, Nat.le_of_ble_eq_true rfl⟩ hG (hM.lsR hG (j := 0) (by decide)) hM rfl hl.1 rfl (Nat.le_of_ble_eq_true rfl) dX4_playNow_45 ⟨Nat.le_of_ble_eq_true rfl, Nat.le_of_ble_eq_true rfl⟩ ?_
      refine W.eq (g2 := F0 m 48 ls [.int (nI (nP σ2)), .int (nI i2)]) rfl ?_
      have hki2 : i2 < nP σ := lk_lt hn
      refine lk_ge_in (k := i2) (N := nP σ2) hx hb (hcn.p hki2) (by have := hM.nP10; have := hM.nW14; have := hM.nB6; omega) (tgt := 93) dX4_playNow_48 (by decide) ?_
      refine lv_aload_n hx hb dX4_playNow_51 rfl (lv_at hl 1 rfl) ?_
      refine gfN (v := .int (wSet σ2 wi)) (C := RX11) (T := TX11) (N := 12) (k := 8) hx hb hts hown hG cl_X11 in_X11 (hM.wd (hcn.w h_wi)) (by decide) q1711 rfl dX4_playNow_52 ?_
      refine lv_iload_n hx hb dX4_playNow_55 rfl (lv_at hl 2 rfl) ?_
      refine pcS (As := [.int (wSet σ2 wi), .int (nI i2)]) (rest := []) hS0 (met_X4_isIn l D E (wSet σ2 wi) (nI i2)) q1654 q1655 q110 q1656 hd_X4_isIn ⟨Nat.le_of_ble_eq_true rfl, Nat.le_of_ble_eq_true rfl⟩ hG trivial rfl hl.1 rfl (Nat.le_of_ble_eq_true rfl) dX4_playNow_56 ⟨Nat.le_of_ble_eq_true rfl, Nat.le_of_ble_eq_true rfl⟩ ?_
      refine W.eq (g2 := F0 m 59 ls [.int (bI ((fX4_isIn (wSet σ2 wi) (nI i2))))]) rfl ?_
      refine lb_if_eq (tgt := 87) hx hb dX4_playNow_59 (by decide) (fun c1 => ?_) (fun c1 => ?_)
      · rw [if_neg c1] at hR
        refine lv_iinc (v := nI (i2 + 1)) (lv' := [(2, .int (nI (i2 + 1))), (0, .ref (β 0 0)), (1, .ref (β 5 wi))]) hx hb dX4_playNow_87 hl (k := 2) rfl (nI_1 i2) (Nat.le_of_ble_eq_true rfl) rfl (fun ls hl => ?_)
        refine lv_goto (tgt := 40) hx hb dX4_playNow_90 (by decide) ?_
        exact ih (i2 + 1) σ2 th2 ca2 sm2 (lk_st hn) hR _ _ _ hcn hM hFa (fun q z => by have := hFb q z; omega) hS ls (lv_sub hl [1, 2, 0] rfl)
      · rw [if_pos c1] at hR
        refine lv_aload_n hx hb dX4_playNow_62 rfl (lv_at hl 0 rfl) ?_
        refine gf (v := .ref (β 1 0)) (C := RX4) (T := TX4) (N := 13) (k := 3) hx hb hts hown hG cl_X4 in_X4 hM.ag (by decide) q1543 rfl dX4_playNow_63 ?_
        refine lv_iload_n hx hb dX4_playNow_66 rfl (lv_at hl 2 rfl) ?_
        refine pcV (As := [.int (nI i2)]) (rest := []) hS0 (met_ml_get l D E (j := 0) (by decide) i2 (hcn.p hki2)) q1639 q349 q2082 q103 q351 hd_J2_get ⟨Nat.le_of_ble_eq_true rfl, Nat.le_of_ble_eq_true rfl⟩ hG (hM.lsR hG (j := 0) (by decide)) hM rfl hl.1 rfl (Nat.le_of_ble_eq_true rfl) dX4_playNow_67 ⟨Nat.le_of_ble_eq_true rfl, Nat.le_of_ble_eq_true rfl⟩ ?_
        refine W.eq (g2 := F0 m 70 ls [.ref (β 3 i2)]) rfl ?_
        refine gc (ci := 6) hx hb hown hG cl_X7 (rcv hG cl_X7 (hM.pl (hcn.p hki2))) (hts _ q1601) dX4_playNow_70 ?_
        refine lv_dup hx hb dX4_playNow_73 rfl ?_
        refine gfN (v := .int (pEarned σ2 i2)) (C := RX7) (T := TX7) (N := 7) (k := 5) hx hb hts hown hG cl_X7 in_X7 (hM.pl (hcn.p hki2)) (by decide) q1612 rfl dX4_playNow_74 ?_
        refine lv_aload_n hx hb dX4_playNow_77 rfl (lv_at hl 0 rfl) ?_
        refine lv_iload_n hx hb dX4_playNow_78 rfl (lv_at hl 2 rfl) ?_
        refine lv_aload_n hx hb dX4_playNow_79 rfl (lv_at hl 1 rfl) ?_
        refine pcV (As := [.int (nI i2), .ref (β 5 wi)]) (rest := [.int (pEarned σ2 i2), .ref (β 3 i2)]) hS0 (met_X4_earnedAt l D E i2 wi (hcn.p hki2) (hcn.w h_wi)) q1894 q1896 qs81 q110 q1897 hd_X4_earnedAt ⟨Nat.le_of_ble_eq_true rfl, Nat.le_of_ble_eq_true rfl⟩ hG (rcv hG cl_X4 hM.ag) hM rfl hl.1 rfl (Nat.le_of_ble_eq_true rfl) dX4_playNow_80 ⟨Nat.le_of_ble_eq_true rfl, Nat.le_of_ble_eq_true rfl⟩ ?_
        refine W.eq (g2 := F0 m 83 ls [.int ((fX4_earnedAt σ2 i2 wi)), .int (pEarned σ2 i2), .ref (β 3 i2)]) rfl ?_
        refine lv_iadd hx hb dX4_playNow_83 ?_
        refine pfN (ty0 := tyX7) (ty := tyX7 5) (v := .int ((pEarned σ2 i2) + ((fX4_earnedAt σ2 i2 wi)))) (C := RX7) (T := TX7) (N := 7) (k := 5) hx hb hts hown hG hS cl_X7 in_X7 tyX7_ok nmX7 (hM.pl (hcn.p hki2)) (hFa _ (hM.plF (hcn.p hki2))) (hFa _ (hM.plF (hcn.p hki2))) (by decide) q1612 rfl (tyX7_ok 5 (by decide)) rfl rfl (Nat.le_of_ble_eq_true rfl) dX4_playNow_84 (fun H1 locs1 he hz hq hS => ?_)
        have hM := hM.Pp14 (hcn.p hki2) he hq
        have hG := gE.ofS hG0 hS hFE
        obtain ⟨σ3, hσ3⟩ : ∃ x, x = sW σ2 14 i2 ((pEarned σ2 i2) + ((fX4_earnedAt σ2 i2 wi))) := ⟨_, rfl⟩
        rw [← hσ3] at hR hM
        have hcn : cnt σ3 σ := by rw [hσ3]; exact hcn.sW
        try dsimp only at hR
        refine lv_iinc (v := nI (i2 + 1)) (lv' := [(2, .int (nI (i2 + 1))), (0, .ref (β 0 0)), (1, .ref (β 5 wi))]) hx hb dX4_playNow_87 hl (k := 2) rfl (nI_1 i2) (Nat.le_of_ble_eq_true rfl) rfl (fun ls hl => ?_)
        refine lv_goto (tgt := 40) hx hb dX4_playNow_90 (by decide) ?_
        exact ih (i2 + 1) σ3 th2 ca2 sm2 (lk_st hn) hR _ _ _ hcn hM hFa (fun q z => by have := hFb q z; omega) hS ls (lv_sub hl [1, 2, 0] rfl)
  have hL108 : ∀ (r2 : Nat × (Nat → Int32)) (q98 : Nat) (hge_t98 : s.heap.size ≤ q98) (hf108_0 : r2.1 < 17) (κ : St → Int32 → Int32 → Int64 → Option (MSt)) (hκ : ∀ (σ5 : St) (th5 : Int32) (ca5 : Int32) (sm5 : Int64) (H : Heap) (locs : List Loc) (Fc : Nat → Prop) (ls : Array Slot), κ σ5 th5 ca5 sm5 = some r → cnt σ5 σ → RM D E β Fc σ5 th5 ca5 sm5 H → (∀ q, Fc q → fN F s.heap.size q) → (∀ q, Fc q → q < H.size) → ¬ Fc q98 → va_at D vwCl (q98, arI E r2.1 r2.2) H → xK F F s.heap H locs → lv_has ls 6 [(1, .ref (β 5 wi))] → W p l e { frames := 6, cells := 4, slots := 64, locals := 133 } s m [(.ref (β 0 0) : Value), .ref (β 5 wi)].toArray below meth c H locs 4 64 (MQ below (qG F ((fun sz v h => v = none ∧ RM D E β (fN F sz) r.1 r.2.1 r.2.2.1 r.2.2.2 h ∧ cnt r.1 σ) s.heap.size)) [(.ref (β 0 0) : Value), .ref (β 5 wi)].toArray s 4 64 (fN F s.heap.size)) (F0 m 137 ls [])) (n : Nat) (i4 : Nat) (σ5 : St) (th5 : Int32) (ca5 : Int32) (sm5 : Int64), i4 + n = r2.1 → fX4_playNow_L108 σ th ca sm wi r2 κ n i4 σ5 th5 ca5 sm5 = some r → ∀ (H : Heap) (locs : List Loc) (Fc : Nat → Prop), cnt σ5 σ → RM D E β Fc σ5 th5 ca5 sm5 H → (∀ q, Fc q → fN F s.heap.size q) → (∀ q, Fc q → q < H.size) → ¬ Fc q98 → va_at D vwCl (q98, arI E r2.1 r2.2) H → xK F F s.heap H locs → ∀ (ls : Array Slot), lv_has ls 6 [(0, .ref (β 0 0)), (1, .ref (β 5 wi)), (2, .ref (q98)), (3, .int (nI r2.1)), (4, .int (nI i4))] → W p l e { frames := 6, cells := 4, slots := 64, locals := 133 } s m [(.ref (β 0 0) : Value), .ref (β 5 wi)].toArray below meth c H locs 4 64 (MQ below (qG F ((fun sz v h => v = none ∧ RM D E β (fN F sz) r.1 r.2.1 r.2.2.1 r.2.2.2 h ∧ cnt r.1 σ) s.heap.size)) [(.ref (β 0 0) : Value), .ref (β 5 wi)].toArray s 4 64 (fN F s.heap.size)) (F0 m 108 ls []) := by
    intro r2 q98 hge_t98 hf108_0 κ hκ n
    induction n with
    | zero =>
      intro i4 σ5 th5 ca5 sm5 hn hR H locs Fc hcn hM hFa hFb hd_t98 hT_t98 hS ls hl
      rw [fX4_playNow_L108] at hR
      have hG := gE.ofS hG0 hS hFE
      refine lv_iload hx hb dX4_playNow_108 (lv_at hl 4 rfl) ?_
      refine lv_iload_n hx hb dX4_playNow_110 rfl (lv_at hl 3 rfl) ?_
      refine lk_ge_out (k := i4) (N := r2.1) hx hb hn (tgt := 137) dX4_playNow_111 (by decide) ?_
      exact hκ σ5 th5 ca5 sm5 _ _ _ ls hR hcn hM hFa (fun q z => by have := hFb q z; omega) hd_t98 hT_t98 hS (lv_sub hl [1] rfl)
    | succ n ih =>
      intro i4 σ5 th5 ca5 sm5 hn hR H locs Fc hcn hM hFa hFb hd_t98 hT_t98 hS ls hl
      rw [fX4_playNow_L108] at hR
      have hG := gE.ofS hG0 hS hFE
      refine lv_iload hx hb dX4_playNow_108 (lv_at hl 4 rfl) ?_
      refine lv_iload_n hx hb dX4_playNow_110 rfl (lv_at hl 3 rfl) ?_
      have hki4 : i4 < r2.1 := lk_lt hn
      refine lk_ge_in (k := i4) (N := r2.1) hx hb hki4 (by have := hM.nP10; have := hM.nW14; have := hM.nB6; omega) (tgt := 137) dX4_playNow_111 (by decide) ?_
      refine lv_aload_n hx hb dX4_playNow_114 rfl (lv_at hl 2 rfl) ?_
      refine lv_iload hx hb dX4_playNow_115 (lv_at hl 4 rfl) ?_
      refine gaI (N := r2.1) (k := i4) hx hb hG hT_t98 hki4 (Nat.lt_of_lt_of_le hf108_0 (by decide)) dX4_playNow_117 ?_
      refine lv_istore (lv' := [(5, .int ((r2.2) i4)), (0, .ref (β 0 0)), (1, .ref (β 5 wi)), (2, .ref (q98)), (3, .int (nI r2.1)), (4, .int (nI i4))]) hx hb dX4_playNow_118 hl (Nat.le_of_ble_eq_true rfl) rfl (fun ls hl => ?_)
      refine lv_aload_n hx hb dX4_playNow_120 rfl (lv_at hl 1 rfl) ?_
      refine gf (v := .ref (β 8 3)) (C := RX4) (T := TX4) (N := 13) (k := 9) hx hb hts hown hG cl_X4 in_X4 hM.ag (by decide) q1549 rfl dX4_playNow_121 ?_
      rcases (Decidable.em (0 ≤ ((r2.2) i4) ∧ ((r2.2) i4) < nI 16)).symm with g3 | g3
      · rw [if_neg g3] at hR
        cases hR
      rw [if_pos g3] at hR
      have ng3 := ck_ix g3 (by decide)
      refine lv_iload hx hb dX4_playNow_124 (lv_at hl 0 rfl) ?_
      refine lv_eq ng3.1 ?_
      refine lv_dup2_11 hx hb dX4_playNow_126 rfl rfl ?_
      refine gaI (N := 16) (k := (Int32.toNatClampNeg ((r2.2) i4))) hx hb hG hM.ar3 ng3.2 (by decide) dX4_playNow_127 ?_
      refine lv_iconst (v := 1) hx hb dX4_playNow_128 (by decide) ?_
      refine lv_iadd hx hb dX4_playNow_129 ?_
      refine paI (N := 16) (k := (Int32.toNatClampNeg ((r2.2) i4))) hx hb hG hS hM.ar3 (hFa _ hM.ar3F) (hFa _ hM.ar3F) ng3.2 (by decide) dX4_playNow_130 (fun H1 locs1 he hz hq hS => ?_)
      have hT_t98 : va_at D vwCl (q98, arI E r2.1 r2.2) H1 := hT_t98.kept (hq _ (fun e9 => hd_t98 (by have e9 : q98 = _ := e9; rw [e9]; exact hM.ar3F)))
      have hM := hM.Pa33  he hq
      have hG := gE.ofS hG0 hS hFE
      obtain ⟨σ6, hσ6⟩ : ∃ x, x = sW σ5 33 ((Int32.toNatClampNeg ((r2.2) i4))) ((sPlayed σ5 ((Int32.toNatClampNeg ((r2.2) i4)))) + 1) := ⟨_, rfl⟩
      rw [← hσ6] at hR hM
      have hcn : cnt σ6 σ := by rw [hσ6]; exact hcn.sW
      try dsimp only at hR
      refine lv_iinc (v := nI (i4 + 1)) (lv' := [(4, .int (nI (i4 + 1))), (5, .int ((r2.2) i4)), (0, .ref (β 0 0)), (1, .ref (β 5 wi)), (2, .ref (q98)), (3, .int (nI r2.1))]) hx hb dX4_playNow_131 hl (k := 5) rfl (nI_1 i4) (Nat.le_of_ble_eq_true rfl) rfl (fun ls hl => ?_)
      refine lv_goto (tgt := 108) hx hb dX4_playNow_134 (by decide) ?_
      exact ih (i4 + 1) σ6 th5 ca5 sm5 (lk_st hn) hR _ _ _ hcn hM hFa (fun q z => by have := hFb q z; omega) hd_t98 hT_t98 hS ls (lv_sub hl [2, 3, 4, 5, 0] rfl)
  unfold fX4_playNow at hR
  refine lv_aload_n hx hb dX4_playNow_0 rfl (lv_at hl 0 rfl) ?_
  refine lv_dup hx hb dX4_playNow_1 rfl ?_
  refine gf (v := .int (ca)) (C := RX4) (T := TX4) (N := 13) (k := 2) hx hb hts hown hG cl_X4 in_X4 hM.ag (by decide) q1542 rfl dX4_playNow_2 ?_
  refine lv_aload_n hx hb dX4_playNow_5 rfl (lv_at hl 0 rfl) ?_
  refine lv_aload_n hx hb dX4_playNow_6 rfl (lv_at hl 1 rfl) ?_
  refine pcV (As := [.ref (β 5 wi)]) (rest := [.int (ca), .ref (β 0 0)]) hS0 (met_X4_gain l D E wi h_wi) q1886 q1888 qs79 q110 q1889 hd_X4_gain ⟨Nat.le_of_ble_eq_true rfl, Nat.le_of_ble_eq_true rfl⟩ hG (rcv hG cl_X4 hM.ag) hM rfl hl.1 rfl (Nat.le_of_ble_eq_true rfl) dX4_playNow_7 ⟨Nat.le_of_ble_eq_true rfl, Nat.le_of_ble_eq_true rfl⟩ ?_
  refine W.eq (g2 := F0 m 10 ls [.int ((fX4_gain σ wi)), .int (ca), .ref (β 0 0)]) rfl ?_
  refine lv_iadd hx hb dX4_playNow_10 ?_
  refine pf (ty0 := tyX4) (ty := tyX4 2) (v := .int (ca + ((fX4_gain σ wi)))) (C := RX4) (T := TX4) (N := 13) (k := 2) hx hb hts hown hG hS cl_X4 in_X4 tyX4_ok nmX4 hM.ag (hFa _ hM.agF) (hFa _ hM.agF) (by decide) q1542 rfl (tyX4_ok 2 (by decide)) rfl rfl (Nat.le_of_ble_eq_true rfl) dX4_playNow_11 (fun H1 locs1 he hz hq hS => ?_)
  have hM := hM.Pca  he hq
  have hG := gE.ofS hG0 hS hFE
  refine lv_aload_n hx hb dX4_playNow_14 rfl (lv_at hl 1 rfl) ?_
  refine lv_aload_n hx hb dX4_playNow_15 rfl (lv_at hl 1 rfl) ?_
  refine gfN (v := .int (wPrice σ wi)) (C := RX11) (T := TX11) (N := 12) (k := 9) hx hb hts hown hG cl_X11 in_X11 (hM.wd h_wi) (by decide) q1712 rfl dX4_playNow_16 ?_
  refine lv_aload_n hx hb dX4_playNow_19 rfl (lv_at hl 1 rfl) ?_
  refine pcV (As := []) (rest := [.int (wPrice σ wi), .ref (β 5 wi)]) hS0 (met_X11_quarters l D E wi h_wi) q1873 q1874 q1875 q131 q1876 hd_X11_quarters ⟨Nat.le_of_ble_eq_true rfl, Nat.le_of_ble_eq_true rfl⟩ hG (rcv hG cl_X11 (hM.wd h_wi)) hM rfl hl.1 rfl (Nat.le_of_ble_eq_true rfl) dX4_playNow_20 ⟨Nat.le_of_ble_eq_true rfl, Nat.le_of_ble_eq_true rfl⟩ ?_
  refine W.eq (g2 := F0 m 23 ls [.int ((fX11_quarters σ wi)), .int (wPrice σ wi), .ref (β 5 wi)]) rfl ?_
  refine lv_aload_n hx hb dX4_playNow_23 rfl (lv_at hl 0 rfl) ?_
  refine lv_aload_n hx hb dX4_playNow_24 rfl (lv_at hl 1 rfl) ?_
  refine gfN (v := .int (wSet σ wi)) (C := RX11) (T := TX11) (N := 12) (k := 8) hx hb hts hown hG cl_X11 in_X11 (hM.wd h_wi) (by decide) q1711 rfl dX4_playNow_25 ?_
  refine pcV (As := [.int (wSet σ wi)]) (rest := [.int ((fX11_quarters σ wi)), .int (wPrice σ wi), .ref (β 5 wi)]) hS0 (met_X4_fees l D E (wSet σ wi)) q1890 q1892 qs80 q110 q1893 hd_X4_fees ⟨Nat.le_of_ble_eq_true rfl, Nat.le_of_ble_eq_true rfl⟩ hG (rcv hG cl_X4 hM.ag) hM rfl hl.1 rfl (Nat.le_of_ble_eq_true rfl) dX4_playNow_28 ⟨Nat.le_of_ble_eq_true rfl, Nat.le_of_ble_eq_true rfl⟩ ?_
  refine W.eq (g2 := F0 m 31 ls [.int ((fX4_fees σ (wSet σ wi))), .int ((fX11_quarters σ wi)), .int (wPrice σ wi), .ref (β 5 wi)]) rfl ?_
  refine lv_imul hx hb dX4_playNow_31 ?_
  refine lv_iconst (v := 4) hx hb dX4_playNow_32 (by decide) ?_
  refine lv_idiv hx hb dX4_playNow_33 (by decide) ?_
  refine lv_iadd hx hb dX4_playNow_34 ?_
  refine pfN (ty0 := tyX11) (ty := tyX11 11) (v := .int ((wPrice σ wi) + ((((fX11_quarters σ wi)) * ((fX4_fees σ (wSet σ wi)))) / 4))) (C := RX11) (T := TX11) (N := 12) (k := 11) hx hb hts hown hG hS cl_X11 in_X11 tyX11_ok nmX11 (hM.wd h_wi) (hFa _ (hM.wdF h_wi)) (hFa _ (hM.wdF h_wi)) (by decide) q1715 rfl (tyX11_ok 11 (by decide)) rfl rfl (Nat.le_of_ble_eq_true rfl) dX4_playNow_35 (fun H1 locs1 he hz hq hS => ?_)
  have hM := hM.Pw26 h_wi he hq
  have hG := gE.ofS hG0 hS hFE
  obtain ⟨σ1, hσ1⟩ : ∃ x, x = sW σ 26 wi ((wPrice σ wi) + ((((fX11_quarters σ wi)) * ((fX4_fees σ (wSet σ wi)))) / 4)) := ⟨_, rfl⟩
  rw [← hσ1] at hR hM
  have hcn : cnt σ1 σ := by rw [hσ1]; exact hcn.sW
  try dsimp only at hR
  refine lv_iconst (v := 0) hx hb dX4_playNow_38 (by decide) ?_
  refine lv_istore_n (lv' := [(2, .int 0), (0, .ref (β 0 0)), (1, .ref (β 5 wi))]) hx hb dX4_playNow_39 rfl hl (Nat.le_of_ble_eq_true rfl) rfl (fun ls hl => ?_)
  refine hL40  _ (fun σ4 th4 ca4 sm4 H1 locs1 Fc ls hR hcn hM hFa hFb hS hl => ?_) (nP σ) 0 σ1 th ((ca + ((fX4_gain σ wi)))) sm (Nat.zero_add _) hR _ _ _ hcn hM hFa (fun q z => by have := hFb q z; omega) hS ls (lv_sub hl [1, 2, 0] rfl)
  try dsimp only at hR
  have hG := gE.ofS hG0 hS hFE
  refine lv_aload_n hx hb dX4_playNow_93 rfl (lv_at hl 0 rfl) ?_
  refine lv_aload_n hx hb dX4_playNow_94 rfl (lv_at hl 1 rfl) ?_
  refine gfN (v := .int (wSet σ4 wi)) (C := RX11) (T := TX11) (N := 12) (k := 8) hx hb hts hown hG cl_X11 in_X11 (hM.wd (hcn.w h_wi)) (by decide) q1711 rfl dX4_playNow_95 ?_
  rcases hc_r2 : (fX4_bestSet σ4 (wSet σ4 wi)) with _ | r2
  · rw [hc_r2] at hR
    cases hR
  rw [hc_r2] at hR
  try dsimp only [Option.bind] at hR
  have hB := hS.1
  refine gcV (As := [.int (wSet σ4 wi)]) (rest := []) hS0 (met_X4_bestSet l D E (wSet σ4 wi) hc_r2) q1898 q1900 qs82 q110 q1901 hd_X4_bestSet ⟨Nat.le_of_ble_eq_true rfl, Nat.le_of_ble_eq_true rfl⟩ hG (rcv hG cl_X4 hM.ag) hM rfl hl.1 rfl (Nat.le_of_ble_eq_true rfl) dX4_playNow_98 ⟨Nat.le_of_ble_eq_true rfl, Nat.le_of_ble_eq_true rfl⟩ hS (fun q h => h.elim) (fun q h => h.elim) (fun v H1 locs1 hP hz hk hS => ?_)
  obtain ⟨q98, rfl, hq9, hmx_t98, hT_t98⟩ := hP
  have hM := hM.kept (fun q h4 _ => hk q h4 id)
  have hG := gE.ofS hG0 hS hFE
  have hge_t98 : s.heap.size ≤ q98 := by have := hB; omega
  have hd_t98 : ¬ Fc q98 := fun z => by have := hFb _ z; omega
  refine W.eq (g2 := F0 m 101 ls [.ref (q98)]) rfl ?_
  refine lv_astore_n (lv' := [(2, .ref (q98)), (0, .ref (β 0 0)), (1, .ref (β 5 wi))]) hx hb dX4_playNow_101 rfl hl (Nat.le_of_ble_eq_true rfl) rfl (fun ls hl => ?_)
  refine lv_aload_n hx hb dX4_playNow_102 rfl (lv_at hl 0 rfl) ?_
  refine gl (N := r2.1) hx hb hG hT_t98 (t := 0) rfl rfl dX4_playNow_103 ?_
  refine lv_istore_n (lv' := [(3, .int (nI r2.1)), (2, .ref (q98)), (0, .ref (β 0 0)), (1, .ref (β 5 wi))]) hx hb dX4_playNow_104 rfl hl (Nat.le_of_ble_eq_true rfl) rfl (fun ls hl => ?_)
  refine lv_iconst (v := 0) hx hb dX4_playNow_105 (by decide) ?_
  refine lv_istore (lv' := [(4, .int 0), (3, .int (nI r2.1)), (2, .ref (q98)), (0, .ref (β 0 0)), (1, .ref (β 5 wi))]) hx hb dX4_playNow_106 hl (Nat.le_of_ble_eq_true rfl) rfl (fun ls hl => ?_)
  refine hL108 r2 q98 hge_t98 (Nat.lt_succ_of_le hmx_t98) _ (fun σ7 th7 ca7 sm7 H1 locs1 Fc ls hR hcn hM hFa hFb hd_t98 hT_t98 hS hl => ?_) r2.1 0 σ4 th4 ca4 sm4 (Nat.zero_add _) hR _ _ _ hcn hM hFa (fun q z => by have := hFb q z; omega) hd_t98 hT_t98 hS ls (lv_sub hl [3, 4, 2, 1, 0] rfl)
  try dsimp only at hR
  have hG := gE.ofS hG0 hS hFE
  refine lv_aload_n hx hb dX4_playNow_137 rfl (lv_at hl 0 rfl) ?_
  refine lv_iconst (v := 2) hx hb dX4_playNow_138 (by decide) ?_
  refine pfN (ty0 := tyX11) (ty := tyX11 7) (v := .int 2) (C := RX11) (T := TX11) (N := 12) (k := 7) hx hb hts hown hG hS cl_X11 in_X11 tyX11_ok nmX11 (hM.wd (hcn.w h_wi)) (hFa _ (hM.wdF (hcn.w h_wi))) (hFa _ (hM.wdF (hcn.w h_wi))) (by decide) q1710 rfl (tyX11_ok 7 (by decide)) rfl rfl (Nat.le_of_ble_eq_true rfl) dX4_playNow_139 (fun H1 locs1 he hz hq hS => ?_)
  have hT_t98 : va_at D vwCl (q98, arI E r2.1 r2.2) H1 := hT_t98.kept (hq _ (fun e9 => hd_t98 (by have e9 : q98 = _ := e9; rw [e9]; exact (hM.wdF (hcn.w h_wi)))))
  have hM := hM.Pwst (hcn.w h_wi) (v := 2) (by decide) he hq
  have hG := gE.ofS hG0 hS hFE
  obtain ⟨σ8, hσ8⟩ : ∃ x, x = sN σ7 5 wi 2 := ⟨_, rfl⟩
  rw [← hσ8] at hR hM
  have hcn : cnt σ8 σ := by rw [hσ8]; exact hcn.sN (by decide)
  try dsimp only at hR
  exact g_vret hx hb hr hlocks hS ⟨Nat.le_of_ble_eq_true rfl, Nat.le_of_ble_eq_true rfl⟩ dX4_playNow_142 (by cases hR; exact ⟨rfl, (hM.mono (fun q _ z => hFa q z) (fN_E hFE hG0.2.2.1)), hcn⟩)

def fX4_wouldLose_L68 (σ : St) (th : Int32) (ca : Int32) (sm : Int64) (a : Int32) (b : Int32)  (κ : St → Int32 → Int32 → Int64 → (Nat → Int32) → (Nat → Int32) → (Nat → Int32) → Option (Int32 × MSt)) : Nat → Nat → St → Int32 → Int32 → Int64 → (Nat → Int32) → (Nat → Int32) → (Nat → Int32) → Option (Int32 × MSt)
  | 0, i6, σ1, th1, ca1, sm1, t_t40_68, t_t50_68, t_t61_68 => κ σ1 th1 ca1 sm1 t_t40_68 t_t50_68 t_t61_68
  | n + 1, i6, σ1, th1, ca1, sm1, t_t40_68, t_t50_68, t_t61_68 => (fun (f2 : Nat → Int32) => (fun (f3 : Nat → Int32) => (fun (f4 : Nat → Int32) => fX4_wouldLose_L68 σ th ca sm a b κ n (i6 + 1) σ1 th1 ca1 sm1 f2 f3 f4) (upd t_t61_68 i6 (wPaid σ1 i6))) (upd t_t50_68 i6 (nI (wState σ1 i6)))) (upd t_t40_68 i6 (wSet σ1 i6))
def fX4_wouldLose_L199 (σ : St) (th : Int32) (ca : Int32) (sm : Int64) (a : Int32) (b : Int32) (t_t40_3 : (Nat → Int32)) (t_t50_4 : (Nat → Int32)) (t_t61_5 : (Nat → Int32)) (v6 : Int32) (κ : St → Int32 → Int32 → Int64 → Option (Int32 × MSt)) : Nat → Nat → St → Int32 → Int32 → Int64 → Option (Int32 × MSt)
  | 0, i9, σ8, th8, ca8, sm8 => κ σ8 th8 ca8 sm8
  | n + 1, i9, σ8, th8, ca8, sm8 => (fun (σ9 : St) => (if 0 ≤ ((t_t50_4) i9) ∧ ((t_t50_4) i9) < nI 4 then (fun (σ10 : St) => (fun (σ11 : St) => fX4_wouldLose_L199 σ th ca sm a b t_t40_3 t_t50_4 t_t61_5 v6 κ n (i9 + 1) σ11 th8 ca8 sm8) (sW σ10 26 i9 ((t_t61_5) i9))) (sN σ9 5 i9 ((Int32.toNatClampNeg ((t_t50_4) i9)))) else none)) (sW σ8 24 i9 ((t_t40_3) i9))
def fX4_wouldLose (σ : St) (th : Int32) (ca : Int32) (sm : Int64) (a : Int32) (b : Int32) : Option (Int32 × MSt) :=
  (if ((fX4_isPlayer σ a)) = true then (if ((fX4_isDay σ b)) = true then fX4_wouldLose_L68 σ th ca sm a b (fun (σ5 : St) (th5 : Int32) (ca5 : Int32) (sm5 : Int64) (t_t40_3 : (Nat → Int32)) (t_t50_4 : (Nat → Int32)) (t_t61_5 : (Nat → Int32)) => (fun (σ6 : St) => (fun (th6 : Int32) => (fun (ca6 : Int32) => (fun (sm6 : Int64) => (fun (v6 : Int32) => (if (pOff σ5 ((Int32.toNatClampNeg a)) ((Int32.toNatClampNeg b))) &&& 1 = (pOff σ5 ((Int32.toNatClampNeg a)) ((Int32.toNatClampNeg b))) then (fun (σ7 : St) => fX4_wouldLose_L199 σ th ca sm a b t_t40_3 t_t50_4 t_t61_5 v6 (fun (σ12 : St) (th12 : Int32) (ca12 : Int32) (sm12 : Int64) => (some (v6, ((σ12, th12, ca12, sm12) : MSt)))) (nW σ) 0 σ7 th6 ca5 sm6) (sO σ6 ((Int32.toNatClampNeg a)) ((Int32.toNatClampNeg b)) (pOff σ5 ((Int32.toNatClampNeg a)) ((Int32.toNatClampNeg b)))) else none)) ((fX4_illNow σ5 th5 ca5 sm5 ((Int32.toNatClampNeg a)) ((Int32.toNatClampNeg b))).1)) ((fX4_illNow σ5 th5 ca5 sm5 ((Int32.toNatClampNeg a)) ((Int32.toNatClampNeg b))).2.2.2.2)) ((fX4_illNow σ5 th5 ca5 sm5 ((Int32.toNatClampNeg a)) ((Int32.toNatClampNeg b))).2.2.2.1)) ((fX4_illNow σ5 th5 ca5 sm5 ((Int32.toNatClampNeg a)) ((Int32.toNatClampNeg b))).2.2.1)) ((fX4_illNow σ5 th5 ca5 sm5 ((Int32.toNatClampNeg a)) ((Int32.toNatClampNeg b))).2.1)) (nW σ) 0 σ 0 ca sm (fun _ => 0) (fun _ => 0) (fun _ => 0) else (fun (σ13 : St) => (fun (th13 : Int32) => (fun (ca13 : Int32) => (fun (sm13 : Int64) => (fun (v13 : Int32) => (some (v13, ((σ13, th13, ca13, sm13) : MSt)))) ((fX4_refuse σ 0 ca sm 2).1)) ((fX4_refuse σ 0 ca sm 2).2.2.2.2)) ((fX4_refuse σ 0 ca sm 2).2.2.2.1)) ((fX4_refuse σ 0 ca sm 2).2.2.1)) ((fX4_refuse σ 0 ca sm 2).2.1)) else (fun (σ14 : St) => (fun (th14 : Int32) => (fun (ca14 : Int32) => (fun (sm14 : Int64) => (fun (v14 : Int32) => (some (v14, ((σ14, th14, ca14, sm14) : MSt)))) ((fX4_refuse σ 0 ca sm 1).1)) ((fX4_refuse σ 0 ca sm 1).2.2.2.2)) ((fX4_refuse σ 0 ca sm 1).2.2.2.1)) ((fX4_refuse σ 0 ca sm 1).2.2.1)) ((fX4_refuse σ 0 ca sm 1).2.1))
set_option maxHeartbeats 4000000 in
set_option maxRecDepth 100000 in
theorem met_X4_wouldLose (l : Launch) (D : va_G) (E : Nat → Nat) {β : Nat → Nat → Nat} {F : Nat → Prop} {σ : St} {th ca : Int32} {sm : Int64} (a : Int32) (b : Int32) (h0 : 0 ≤ tod σ) {r : Int32 × MSt} (hR : fX4_wouldLose σ th ca sm a b = some r) : GM l D E yX4_wouldLose cX4_wouldLose 10 (Option.some Jvm.ClassFile.FieldType.int) 22 489 3 42 [.ref (β 0 0), .int (a), .int (b)] (RM D E β F σ th ca sm) F F (fun sz v h => v = some (.int r.1) ∧ RM D E β (fN F sz) r.2.1 r.2.2.1 r.2.2.2.1 r.2.2.2.2 h ∧ cnt r.2.1 σ)  := by
  refine GM.start (by decide) (Nat.le_of_ble_eq_true rfl) ?_
  intro p e s m below meth c ls hx hb hr hml hown hlocks hnm hts hG hM hS hl
  have hown : s.vm.findClass RX4 = some m.cls := hown
  have hS0 : xS p m c cX4_wouldLose 10 s _ RX4 := ⟨hx, hb, hml, hown, hts⟩
  have hl : lv_has ls 10 [(0, .ref (β 0 0)), (1, .int (a)), (2, .int (b))] := hl
  have hG0 := hG
  have hM0 := hM
  have hb0P := hM0.nP10
  have hb0B := hM0.nB6
  have hb0W := hM0.nW14
  have hFE := hM.fE
  obtain ⟨Fc, hM, hFn⟩ := hM.nar
  have hFa : ∀ q, Fc q → fN F s.heap.size q := fun q z => Or.inl (hFn q z).1
  have hFb : ∀ q, Fc q → q < s.heap.size := fun q z => (hFn q z).2
  have hcn : cnt σ σ := cnt.rf
  have hL68 : ∀ (q40 : Nat) (q50 : Nat) (q61 : Nat) (hge_t40 : s.heap.size ≤ q40) (hne_t40_t50 : q40 ≠ q50) (hne_t40_t61 : q40 ≠ q61) (hge_t50 : s.heap.size ≤ q50) (hne_t50_t61 : q50 ≠ q61) (hge_t61 : s.heap.size ≤ q61) (hf68_0 : (Int32.toNatClampNeg a) < nP σ) (hf68_1 : (Int32.toNatClampNeg b) < 366) (hg68_0 : a = nI ((Int32.toNatClampNeg a))) (hg68_1 : b = nI ((Int32.toNatClampNeg b))) (κ : St → Int32 → Int32 → Int64 → (Nat → Int32) → (Nat → Int32) → (Nat → Int32) → Option (Int32 × MSt)) (hκ : ∀ (σ1 : St) (th1 : Int32) (ca1 : Int32) (sm1 : Int64) (t_t40_68 : (Nat → Int32)) (t_t50_68 : (Nat → Int32)) (t_t61_68 : (Nat → Int32)) (H : Heap) (locs : List Loc) (Fc : Nat → Prop) (ls : Array Slot), κ σ1 th1 ca1 sm1 t_t40_68 t_t50_68 t_t61_68 = some r → cnt σ1 σ → RM D E β Fc σ1 th1 ca1 sm1 H → (∀ q, Fc q → fN F s.heap.size q) → (∀ q, Fc q → q < H.size) → ¬ Fc q40 → ¬ Fc q50 → ¬ Fc q61 → va_at D vwCl (q40, arI E (nW σ) t_t40_68) H → va_at D vwCl (q50, arI E (nW σ) t_t50_68) H → va_at D vwCl (q61, arI E (nW σ) t_t61_68) H → xK F F s.heap H locs → lv_has ls 10 [(0, .ref (β 0 0)), (1, .int (a)), (2, .int (b)), (3, .ref (q40)), (4, .ref (q50)), (5, .ref (q61))] → W p l e { frames := 22, cells := 3, slots := 42, locals := 489 } s m [(.ref (β 0 0) : Value), .int (a), .int (b)].toArray below meth c H locs 3 42 (MQ below (qG F ((fun sz v h => v = some (.int r.1) ∧ RM D E β (fN F sz) r.2.1 r.2.2.1 r.2.2.2.1 r.2.2.2.2 h ∧ cnt r.2.1 σ) s.heap.size)) [(.ref (β 0 0) : Value), .int (a), .int (b)].toArray s 3 42 (fN F s.heap.size)) (F0 m 140 ls [])) (n : Nat) (i6 : Nat) (σ1 : St) (th1 : Int32) (ca1 : Int32) (sm1 : Int64) (t_t40_68 : (Nat → Int32)) (t_t50_68 : (Nat → Int32)) (t_t61_68 : (Nat → Int32)), i6 + n = nW σ → fX4_wouldLose_L68 σ th ca sm a b κ n i6 σ1 th1 ca1 sm1 t_t40_68 t_t50_68 t_t61_68 = some r → ∀ (H : Heap) (locs : List Loc) (Fc : Nat → Prop), cnt σ1 σ → RM D E β Fc σ1 th1 ca1 sm1 H → (∀ q, Fc q → fN F s.heap.size q) → (∀ q, Fc q → q < H.size) → ¬ Fc q40 → ¬ Fc q50 → ¬ Fc q61 → va_at D vwCl (q40, arI E (nW σ) t_t40_68) H → va_at D vwCl (q50, arI E (nW σ) t_t50_68) H → va_at D vwCl (q61, arI E (nW σ) t_t61_68) H → xK F F s.heap H locs → ∀ (ls : Array Slot), lv_has ls 10 [(0, .ref (β 0 0)), (1, .int (a)), (2, .int (b)), (3, .ref (q40)), (4, .ref (q50)), (5, .ref (q61)), (6, .int (nI i6))] → W p l e { frames := 22, cells := 3, slots := 42, locals := 489 } s m [(.ref (β 0 0) : Value), .int (a), .int (b)].toArray below meth c H locs 3 42 (MQ below (qG F ((fun sz v h => v = some (.int r.1) ∧ RM D E β (fN F sz) r.2.1 r.2.2.1 r.2.2.2.1 r.2.2.2.2 h ∧ cnt r.2.1 σ) s.heap.size)) [(.ref (β 0 0) : Value), .int (a), .int (b)].toArray s 3 42 (fN F s.heap.size)) (F0 m 68 ls []) := by
    intro q40 q50 q61 hge_t40 hne_t40_t50 hne_t40_t61 hge_t50 hne_t50_t61 hge_t61 hf68_0 hf68_1 hg68_0 hg68_1 κ hκ n
    induction n with
    | zero =>
      intro i6 σ1 th1 ca1 sm1 t_t40_68 t_t50_68 t_t61_68 hn hR H locs Fc hcn hM hFa hFb hd_t40 hd_t50 hd_t61 hT_t40 hT_t50 hT_t61 hS ls hl
      rw [fX4_wouldLose_L68] at hR
      have hG := gE.ofS hG0 hS hFE
      refine lv_iload hx hb dX4_wouldLose_68 (lv_at hl 6 rfl) ?_
      refine lv_aload_n hx hb dX4_wouldLose_70 rfl (lv_at hl 3 rfl) ?_
      refine gl (N := nW σ) hx hb hG hT_t40 (t := 0) rfl rfl dX4_wouldLose_71 ?_
      refine lk_ge_out (k := i6) (N := nW σ) hx hb hn (tgt := 140) dX4_wouldLose_72 (by decide) ?_
      exact hκ σ1 th1 ca1 sm1 t_t40_68 t_t50_68 t_t61_68 _ _ _ ls hR hcn hM hFa (fun q z => by have := hFb q z; omega) hd_t40 hd_t50 hd_t61 hT_t40 hT_t50 hT_t61 hS (lv_sub hl [0, 1, 2, 3, 4, 5] rfl)
    | succ n ih =>
      intro i6 σ1 th1 ca1 sm1 t_t40_68 t_t50_68 t_t61_68 hn hR H locs Fc hcn hM hFa hFb hd_t40 hd_t50 hd_t61 hT_t40 hT_t50 hT_t61 hS ls hl
      rw [fX4_wouldLose_L68] at hR
      have hG := gE.ofS hG0 hS hFE
      refine lv_iload hx hb dX4_wouldLose_68 (lv_at hl 6 rfl) ?_
      refine lv_aload_n hx hb dX4_wouldLose_70 rfl (lv_at hl 3 rfl) ?_
      refine gl (N := nW σ) hx hb hG hT_t40 (t := 0) rfl rfl dX4_wouldLose_71 ?_
      have hki6 : i6 < nW σ := lk_lt hn
      refine lk_ge_in (k := i6) (N := nW σ) hx hb hki6 (by have := hM.nP10; have := hM.nW14; have := hM.nB6; omega) (tgt := 140) dX4_wouldLose_72 (by decide) ?_
      refine lv_aload_n hx hb dX4_wouldLose_75 rfl (lv_at hl 3 rfl) ?_
      refine lv_iload hx hb dX4_wouldLose_76 (lv_at hl 6 rfl) ?_
      refine lv_aload_n hx hb dX4_wouldLose_78 rfl (lv_at hl 0 rfl) ?_
      refine gf (v := .ref (β 1 2)) (C := RX4) (T := TX4) (N := 13) (k := 5) hx hb hts hown hG cl_X4 in_X4 hM.ag (by decide) q1545 rfl dX4_wouldLose_79 ?_
      refine lv_iload hx hb dX4_wouldLose_82 (lv_at hl 6 rfl) ?_
      refine pcV (As := [.int (nI i6)]) (rest := [.int (nI i6), .ref (q40)]) hS0 (met_ml_get l D E (j := 2) (by decide) i6 (hcn.w hki6)) q1639 q349 q2082 q103 q351 hd_J2_get ⟨Nat.le_of_ble_eq_true rfl, Nat.le_of_ble_eq_true rfl⟩ hG (hM.lsR hG (j := 2) (by decide)) hM rfl hl.1 rfl (Nat.le_of_ble_eq_true rfl) dX4_wouldLose_84 ⟨Nat.le_of_ble_eq_true rfl, Nat.le_of_ble_eq_true rfl⟩ ?_
      refine W.eq (g2 := F0 m 87 ls [.ref (β 5 i6), .int (nI i6), .ref (q40)]) rfl ?_
      refine gc (ci := 9) hx hb hown hG cl_X11 (rcv hG cl_X11 (hM.wd (hcn.w hki6))) (hts _ q1695) dX4_wouldLose_87 ?_
      refine gfN (v := .int (wSet σ1 i6)) (C := RX11) (T := TX11) (N := 12) (k := 8) hx hb hts hown hG cl_X11 in_X11 (hM.wd (hcn.w hki6)) (by decide) q1711 rfl dX4_wouldLose_90 ?_
      have hB := hS.1
      have hL_t40 : q40 < _ := hT_t40.lt
      have hL_t50 : q50 < _ := hT_t50.lt
      have hL_t61 : q61 < _ := hT_t61.lt
      refine paI (N := (nW σ)) (k := i6) hx hb hG hS hT_t40 (Or.inr hge_t40) (Or.inr hge_t40) hki6 (by omega) dX4_wouldLose_93 (fun H1 locs1 he hz hq hS => ?_)
      have hT_t50 : va_at D vwCl (q50, arI E (nW σ) t_t50_68) H1 := hT_t50.kept (hq _ (fun e9 => absurd e9 hne_t40_t50.symm))
      have hT_t61 : va_at D vwCl (q61, arI E (nW σ) t_t61_68) H1 := hT_t61.kept (hq _ (fun e9 => absurd e9 hne_t40_t61.symm))
      have hM := hM.kept (fun q h4 h5 => hq q (fun e9 => hd_t40 (e9 ▸ h5)))
      have hG := gE.ofS hG0 hS hFE
      obtain ⟨f2, hf2⟩ : ∃ x, x = upd t_t40_68 i6 (wSet σ1 i6) := ⟨_, rfl⟩
      rw [← hf2] at hR he
      try dsimp only at hR
      have hT_t40 : va_at D vwCl (q40, arI E (nW σ) f2) H1 := he
      refine lv_aload hx hb dX4_wouldLose_94 (lv_at hl 4 rfl) ?_
      refine lv_iload hx hb dX4_wouldLose_96 (lv_at hl 6 rfl) ?_
      refine lv_aload_n hx hb dX4_wouldLose_98 rfl (lv_at hl 0 rfl) ?_
      refine gf (v := .ref (β 1 2)) (C := RX4) (T := TX4) (N := 13) (k := 5) hx hb hts hown hG cl_X4 in_X4 hM.ag (by decide) q1545 rfl dX4_wouldLose_99 ?_
      refine lv_iload hx hb dX4_wouldLose_102 (lv_at hl 6 rfl) ?_
      refine pcV (As := [.int (nI i6)]) (rest := [.int (nI i6), .ref (q50)]) hS0 (met_ml_get l D E (j := 2) (by decide) i6 (hcn.w hki6)) q1639 q349 q2082 q103 q351 hd_J2_get ⟨Nat.le_of_ble_eq_true rfl, Nat.le_of_ble_eq_true rfl⟩ hG (hM.lsR hG (j := 2) (by decide)) hM rfl hl.1 rfl (Nat.le_of_ble_eq_true rfl) dX4_wouldLose_104 ⟨Nat.le_of_ble_eq_true rfl, Nat.le_of_ble_eq_true rfl⟩ ?_
      refine W.eq (g2 := F0 m 107 ls [.ref (β 5 i6), .int (nI i6), .ref (q50)]) rfl ?_
      refine gc (ci := 9) hx hb hown hG cl_X11 (rcv hG cl_X11 (hM.wd (hcn.w hki6))) (hts _ q1695) dX4_wouldLose_107 ?_
      refine gfN (v := .int (nI (wState σ1 i6))) (C := RX11) (T := TX11) (N := 12) (k := 7) hx hb hts hown hG cl_X11 in_X11 (hM.wd (hcn.w hki6)) (by decide) q1710 rfl dX4_wouldLose_110 ?_
      have hB := hS.1
      have hL_t40 : q40 < _ := hT_t40.lt
      have hL_t50 : q50 < _ := hT_t50.lt
      have hL_t61 : q61 < _ := hT_t61.lt
      refine paI (N := (nW σ)) (k := i6) hx hb hG hS hT_t50 (Or.inr hge_t50) (Or.inr hge_t50) hki6 (by omega) dX4_wouldLose_113 (fun H1 locs1 he hz hq hS => ?_)
      have hT_t40 : va_at D vwCl (q40, arI E (nW σ) f2) H1 := hT_t40.kept (hq _ (fun e9 => absurd e9 hne_t40_t50))
      have hT_t61 : va_at D vwCl (q61, arI E (nW σ) t_t61_68) H1 := hT_t61.kept (hq _ (fun e9 => absurd e9 hne_t50_t61.symm))
      have hM := hM.kept (fun q h4 h5 => hq q (fun e9 => hd_t50 (e9 ▸ h5)))
      have hG := gE.ofS hG0 hS hFE
      obtain ⟨f3, hf3⟩ : ∃ x, x = upd t_t50_68 i6 (nI (wState σ1 i6)) := ⟨_, rfl⟩
      rw [← hf3] at hR he
      try dsimp only at hR
      have hT_t50 : va_at D vwCl (q50, arI E (nW σ) f3) H1 := he
      refine lv_aload hx hb dX4_wouldLose_114 (lv_at hl 5 rfl) ?_
      refine lv_iload hx hb dX4_wouldLose_116 (lv_at hl 6 rfl) ?_
      refine lv_aload_n hx hb dX4_wouldLose_118 rfl (lv_at hl 0 rfl) ?_
      refine gf (v := .ref (β 1 2)) (C := RX4) (T := TX4) (N := 13) (k := 5) hx hb hts hown hG cl_X4 in_X4 hM.ag (by decide) q1545 rfl dX4_wouldLose_119 ?_
      refine lv_iload hx hb dX4_wouldLose_122 (lv_at hl 6 rfl) ?_
      refine pcV (As := [.int (nI i6)]) (rest := [.int (nI i6), .ref (q61)]) hS0 (met_ml_get l D E (j := 2) (by decide) i6 (hcn.w hki6)) q1639 q349 q2082 q103 q351 hd_J2_get ⟨Nat.le_of_ble_eq_true rfl, Nat.le_of_ble_eq_true rfl⟩ hG (hM.lsR hG (j := 2) (by decide)) hM rfl hl.1 rfl (Nat.le_of_ble_eq_true rfl) dX4_wouldLose_124 ⟨Nat.le_of_ble_eq_true rfl, Nat.le_of_ble_eq_true rfl⟩ ?_
      refine W.eq (g2 := F0 m 127 ls [.ref (β 5 i6), .int (nI i6), .ref (q61)]) rfl ?_
      refine gc (ci := 9) hx hb hown hG cl_X11 (rcv hG cl_X11 (hM.wd (hcn.w hki6))) (hts _ q1695) dX4_wouldLose_127 ?_
      refine gfN (v := .int (wPaid σ1 i6)) (C := RX11) (T := TX11) (N := 12) (k := 11) hx hb hts hown hG cl_X11 in_X11 (hM.wd (hcn.w hki6)) (by decide) q1715 rfl dX4_wouldLose_130 ?_
      have hB := hS.1
      have hL_t40 : q40 < _ := hT_t40.lt
      have hL_t50 : q50 < _ := hT_t50.lt
      have hL_t61 : q61 < _ := hT_t61.lt
      refine paI (N := (nW σ)) (k := i6) hx hb hG hS hT_t61 (Or.inr hge_t61) (Or.inr hge_t61) hki6 (by omega) dX4_wouldLose_133 (fun H1 locs1 he hz hq hS => ?_)
      have hT_t40 : va_at D vwCl (q40, arI E (nW σ) f2) H1 := hT_t40.kept (hq _ (fun e9 => absurd e9 hne_t40_t61))
      have hT_t50 : va_at D vwCl (q50, arI E (nW σ) f3) H1 := hT_t50.kept (hq _ (fun e9 => absurd e9 hne_t50_t61))
      have hM := hM.kept (fun q h4 h5 => hq q (fun e9 => hd_t61 (e9 ▸ h5)))
      have hG := gE.ofS hG0 hS hFE
      obtain ⟨f4, hf4⟩ : ∃ x, x = upd t_t61_68 i6 (wPaid σ1 i6) := ⟨_, rfl⟩
      rw [← hf4] at hR he
      try dsimp only at hR
      have hT_t61 : va_at D vwCl (q61, arI E (nW σ) f4) H1 := he
      refine lv_iinc (v := nI (i6 + 1)) (lv' := [(6, .int (nI (i6 + 1))), (0, .ref (β 0 0)), (1, .int (a)), (2, .int (b)), (3, .ref (q40)), (4, .ref (q50)), (5, .ref (q61))]) hx hb dX4_wouldLose_134 hl (k := 6) rfl (nI_1 i6) (Nat.le_of_ble_eq_true rfl) rfl (fun ls hl => ?_)
      refine lv_goto (tgt := 68) hx hb dX4_wouldLose_137 (by decide) ?_
      exact ih (i6 + 1) σ1 th1 ca1 sm1 f2 f3 f4 (lk_st hn) hR _ _ _ hcn hM hFa (fun q z => by have := hFb q z; omega) hd_t40 hd_t50 hd_t61 hT_t40 hT_t50 hT_t61 hS ls (lv_sub hl [1, 2, 3, 4, 5, 6, 0] rfl)
  have hL199 : ∀ (t_t40_3 : (Nat → Int32)) (t_t50_4 : (Nat → Int32)) (t_t61_5 : (Nat → Int32)) (v6 : Int32) (q40 : Nat) (q50 : Nat) (q61 : Nat) (hge_t40 : s.heap.size ≤ q40) (hne_t40_t50 : q40 ≠ q50) (hne_t40_t61 : q40 ≠ q61) (hge_t50 : s.heap.size ≤ q50) (hne_t50_t61 : q50 ≠ q61) (hge_t61 : s.heap.size ≤ q61) (κ : St → Int32 → Int32 → Int64 → Option (Int32 × MSt)) (hκ : ∀ (σ8 : St) (th8 : Int32) (ca8 : Int32) (sm8 : Int64) (H : Heap) (locs : List Loc) (Fc : Nat → Prop) (ls : Array Slot), κ σ8 th8 ca8 sm8 = some r → cnt σ8 σ → RM D E β Fc σ8 th8 ca8 sm8 H → (∀ q, Fc q → fN F s.heap.size q) → (∀ q, Fc q → q < H.size) → ¬ Fc q40 → ¬ Fc q50 → ¬ Fc q61 → va_at D vwCl (q40, arI E (nW σ) t_t40_3) H → va_at D vwCl (q50, arI E (nW σ) t_t50_4) H → va_at D vwCl (q61, arI E (nW σ) t_t61_5) H → xK F F s.heap H locs → lv_has ls 10 [(8, .int (v6))] → W p l e { frames := 22, cells := 3, slots := 42, locals := 489 } s m [(.ref (β 0 0) : Value), .int (a), .int (b)].toArray below meth c H locs 3 42 (MQ below (qG F ((fun sz v h => v = some (.int r.1) ∧ RM D E β (fN F sz) r.2.1 r.2.2.1 r.2.2.2.1 r.2.2.2.2 h ∧ cnt r.2.1 σ) s.heap.size)) [(.ref (β 0 0) : Value), .int (a), .int (b)].toArray s 3 42 (fN F s.heap.size)) (F0 m 271 ls [])) (n : Nat) (i9 : Nat) (σ8 : St) (th8 : Int32) (ca8 : Int32) (sm8 : Int64), i9 + n = nW σ → fX4_wouldLose_L199 σ th ca sm a b t_t40_3 t_t50_4 t_t61_5 v6 κ n i9 σ8 th8 ca8 sm8 = some r → ∀ (H : Heap) (locs : List Loc) (Fc : Nat → Prop), cnt σ8 σ → RM D E β Fc σ8 th8 ca8 sm8 H → (∀ q, Fc q → fN F s.heap.size q) → (∀ q, Fc q → q < H.size) → ¬ Fc q40 → ¬ Fc q50 → ¬ Fc q61 → va_at D vwCl (q40, arI E (nW σ) t_t40_3) H → va_at D vwCl (q50, arI E (nW σ) t_t50_4) H → va_at D vwCl (q61, arI E (nW σ) t_t61_5) H → xK F F s.heap H locs → ∀ (ls : Array Slot), lv_has ls 10 [(0, .ref (β 0 0)), (3, .ref (q40)), (4, .ref (q50)), (5, .ref (q61)), (8, .int (v6)), (9, .int (nI i9))] → W p l e { frames := 22, cells := 3, slots := 42, locals := 489 } s m [(.ref (β 0 0) : Value), .int (a), .int (b)].toArray below meth c H locs 3 42 (MQ below (qG F ((fun sz v h => v = some (.int r.1) ∧ RM D E β (fN F sz) r.2.1 r.2.2.1 r.2.2.2.1 r.2.2.2.2 h ∧ cnt r.2.1 σ) s.heap.size)) [(.ref (β 0 0) : Value), .int (a), .int (b)].toArray s 3 42 (fN F s.heap.size)) (F0 m 199 ls []) := by
    intro t_t40_3 t_t50_4 t_t61_5 v6 q40 q50 q61 hge_t40 hne_t40_t50 hne_t40_t61 hge_t50 hne_t50_t61 hge_t61 κ hκ n
    induction n with
    | zero =>
      intro i9 σ8 th8 ca8 sm8 hn hR H locs Fc hcn hM hFa hFb hd_t40 hd_t50 hd_t61 hT_t40 hT_t50 hT_t61 hS ls hl
      rw [fX4_wouldLose_L199] at hR
      have hG := gE.ofS hG0 hS hFE
      refine lv_iload hx hb dX4_wouldLose_199 (lv_at hl 5 rfl) ?_
      refine lv_aload_n hx hb dX4_wouldLose_201 rfl (lv_at hl 1 rfl) ?_
      refine gl (N := nW σ) hx hb hG hT_t40 (t := 0) rfl rfl dX4_wouldLose_202 ?_
      refine lk_ge_out (k := i9) (N := nW σ) hx hb hn (tgt := 271) dX4_wouldLose_203 (by decide) ?_
      exact hκ σ8 th8 ca8 sm8 _ _ _ ls hR hcn hM hFa (fun q z => by have := hFb q z; omega) hd_t40 hd_t50 hd_t61 hT_t40 hT_t50 hT_t61 hS (lv_sub hl [4] rfl)
    | succ n ih =>
      intro i9 σ8 th8 ca8 sm8 hn hR H locs Fc hcn hM hFa hFb hd_t40 hd_t50 hd_t61 hT_t40 hT_t50 hT_t61 hS ls hl
      rw [fX4_wouldLose_L199] at hR
      have hG := gE.ofS hG0 hS hFE
      refine lv_iload hx hb dX4_wouldLose_199 (lv_at hl 5 rfl) ?_
      refine lv_aload_n hx hb dX4_wouldLose_201 rfl (lv_at hl 1 rfl) ?_
      refine gl (N := nW σ) hx hb hG hT_t40 (t := 0) rfl rfl dX4_wouldLose_202 ?_
      have hki9 : i9 < nW σ := lk_lt hn
      refine lk_ge_in (k := i9) (N := nW σ) hx hb hki9 (by have := hM.nP10; have := hM.nW14; have := hM.nB6; omega) (tgt := 271) dX4_wouldLose_203 (by decide) ?_
      refine lv_aload_n hx hb dX4_wouldLose_206 rfl (lv_at hl 0 rfl) ?_
      refine gf (v := .ref (β 1 2)) (C := RX4) (T := TX4) (N := 13) (k := 5) hx hb hts hown hG cl_X4 in_X4 hM.ag (by decide) q1545 rfl dX4_wouldLose_207 ?_
      refine lv_iload hx hb dX4_wouldLose_210 (lv_at hl 5 rfl) ?_
      refine pcV (As := [.int (nI i9)]) (rest := []) hS0 (met_ml_get l D E (j := 2) (by decide) i9 (hcn.w hki9)) q1639 q349 q2082 q103 q351 hd_J2_get ⟨Nat.le_of_ble_eq_true rfl, Nat.le_of_ble_eq_true rfl⟩ hG (hM.lsR hG (j := 2) (by decide)) hM rfl hl.1 rfl (Nat.le_of_ble_eq_true rfl) dX4_wouldLose_212 ⟨Nat.le_of_ble_eq_true rfl, Nat.le_of_ble_eq_true rfl⟩ ?_
      refine W.eq (g2 := F0 m 215 ls [.ref (β 5 i9)]) rfl ?_
      refine gc (ci := 9) hx hb hown hG cl_X11 (rcv hG cl_X11 (hM.wd (hcn.w hki9))) (hts _ q1695) dX4_wouldLose_215 ?_
      refine lv_aload_n hx hb dX4_wouldLose_218 rfl (lv_at hl 1 rfl) ?_
      refine lv_iload hx hb dX4_wouldLose_219 (lv_at hl 5 rfl) ?_
      refine gaI (N := nW σ) (k := i9) hx hb hG hT_t40 hki9 (by omega) dX4_wouldLose_221 ?_
      refine pfN (ty0 := tyX11) (ty := tyX11 8) (v := .int ((t_t40_3) i9)) (C := RX11) (T := TX11) (N := 12) (k := 8) hx hb hts hown hG hS cl_X11 in_X11 tyX11_ok nmX11 (hM.wd (hcn.w hki9)) (hFa _ (hM.wdF (hcn.w hki9))) (hFa _ (hM.wdF (hcn.w hki9))) (by decide) q1711 rfl (tyX11_ok 8 (by decide)) rfl rfl (Nat.le_of_ble_eq_true rfl) dX4_wouldLose_222 (fun H1 locs1 he hz hq hS => ?_)
      have hT_t40 : va_at D vwCl (q40, arI E (nW σ) t_t40_3) H1 := hT_t40.kept (hq _ (fun e9 => hd_t40 (by have e9 : q40 = _ := e9; rw [e9]; exact (hM.wdF (hcn.w hki9)))))
      have hT_t50 : va_at D vwCl (q50, arI E (nW σ) t_t50_4) H1 := hT_t50.kept (hq _ (fun e9 => hd_t50 (by have e9 : q50 = _ := e9; rw [e9]; exact (hM.wdF (hcn.w hki9)))))
      have hT_t61 : va_at D vwCl (q61, arI E (nW σ) t_t61_5) H1 := hT_t61.kept (hq _ (fun e9 => hd_t61 (by have e9 : q61 = _ := e9; rw [e9]; exact (hM.wdF (hcn.w hki9)))))
      have hM := hM.Pw24 (hcn.w hki9) he hq
      have hG := gE.ofS hG0 hS hFE
      obtain ⟨σ9, hσ9⟩ : ∃ x, x = sW σ8 24 i9 ((t_t40_3) i9) := ⟨_, rfl⟩
      rw [← hσ9] at hR hM
      have hcn : cnt σ9 σ := by rw [hσ9]; exact hcn.sW
      try dsimp only at hR
      refine lv_aload_n hx hb dX4_wouldLose_225 rfl (lv_at hl 0 rfl) ?_
      refine gf (v := .ref (β 1 2)) (C := RX4) (T := TX4) (N := 13) (k := 5) hx hb hts hown hG cl_X4 in_X4 hM.ag (by decide) q1545 rfl dX4_wouldLose_226 ?_
      refine lv_iload hx hb dX4_wouldLose_229 (lv_at hl 5 rfl) ?_
      refine pcV (As := [.int (nI i9)]) (rest := []) hS0 (met_ml_get l D E (j := 2) (by decide) i9 (hcn.w hki9)) q1639 q349 q2082 q103 q351 hd_J2_get ⟨Nat.le_of_ble_eq_true rfl, Nat.le_of_ble_eq_true rfl⟩ hG (hM.lsR hG (j := 2) (by decide)) hM rfl hl.1 rfl (Nat.le_of_ble_eq_true rfl) dX4_wouldLose_231 ⟨Nat.le_of_ble_eq_true rfl, Nat.le_of_ble_eq_true rfl⟩ ?_
      refine W.eq (g2 := F0 m 234 ls [.ref (β 5 i9)]) rfl ?_
      refine gc (ci := 9) hx hb hown hG cl_X11 (rcv hG cl_X11 (hM.wd (hcn.w hki9))) (hts _ q1695) dX4_wouldLose_234 ?_
      refine lv_aload hx hb dX4_wouldLose_237 (lv_at hl 2 rfl) ?_
      refine lv_iload hx hb dX4_wouldLose_239 (lv_at hl 5 rfl) ?_
      refine gaI (N := nW σ) (k := i9) hx hb hG hT_t50 hki9 (by omega) dX4_wouldLose_241 ?_
      rcases (Decidable.em (0 ≤ ((t_t50_4) i9) ∧ ((t_t50_4) i9) < nI 4)).symm with g7 | g7
      · rw [if_neg g7] at hR
        cases hR
      rw [if_pos g7] at hR
      have ng7 := ck_ix g7 (by decide)
      refine lv_eq ng7.1 ?_
      refine pfN (ty0 := tyX11) (ty := tyX11 7) (v := .int (nI ((Int32.toNatClampNeg ((t_t50_4) i9))))) (C := RX11) (T := TX11) (N := 12) (k := 7) hx hb hts hown hG hS cl_X11 in_X11 tyX11_ok nmX11 (hM.wd (hcn.w hki9)) (hFa _ (hM.wdF (hcn.w hki9))) (hFa _ (hM.wdF (hcn.w hki9))) (by decide) q1710 rfl (tyX11_ok 7 (by decide)) rfl rfl (Nat.le_of_ble_eq_true rfl) dX4_wouldLose_242 (fun H1 locs1 he hz hq hS => ?_)
      have hT_t40 : va_at D vwCl (q40, arI E (nW σ) t_t40_3) H1 := hT_t40.kept (hq _ (fun e9 => hd_t40 (by have e9 : q40 = _ := e9; rw [e9]; exact (hM.wdF (hcn.w hki9)))))
      have hT_t50 : va_at D vwCl (q50, arI E (nW σ) t_t50_4) H1 := hT_t50.kept (hq _ (fun e9 => hd_t50 (by have e9 : q50 = _ := e9; rw [e9]; exact (hM.wdF (hcn.w hki9)))))
      have hT_t61 : va_at D vwCl (q61, arI E (nW σ) t_t61_5) H1 := hT_t61.kept (hq _ (fun e9 => hd_t61 (by have e9 : q61 = _ := e9; rw [e9]; exact (hM.wdF (hcn.w hki9)))))
      have hM := hM.Pwst (hcn.w hki9) (v := (Int32.toNatClampNeg ((t_t50_4) i9))) ng7.2 he hq
      have hG := gE.ofS hG0 hS hFE
      obtain ⟨σ10, hσ10⟩ : ∃ x, x = sN σ9 5 i9 ((Int32.toNatClampNeg ((t_t50_4) i9))) := ⟨_, rfl⟩
      rw [← hσ10] at hR hM
      have hcn : cnt σ10 σ := by rw [hσ10]; exact hcn.sN (by decide)
      try dsimp only at hR
      refine lv_aload_n hx hb dX4_wouldLose_245 rfl (lv_at hl 0 rfl) ?_
      refine gf (v := .ref (β 1 2)) (C := RX4) (T := TX4) (N := 13) (k := 5) hx hb hts hown hG cl_X4 in_X4 hM.ag (by decide) q1545 rfl dX4_wouldLose_246 ?_
      refine lv_iload hx hb dX4_wouldLose_249 (lv_at hl 5 rfl) ?_
      refine pcV (As := [.int (nI i9)]) (rest := []) hS0 (met_ml_get l D E (j := 2) (by decide) i9 (hcn.w hki9)) q1639 q349 q2082 q103 q351 hd_J2_get ⟨Nat.le_of_ble_eq_true rfl, Nat.le_of_ble_eq_true rfl⟩ hG (hM.lsR hG (j := 2) (by decide)) hM rfl hl.1 rfl (Nat.le_of_ble_eq_true rfl) dX4_wouldLose_251 ⟨Nat.le_of_ble_eq_true rfl, Nat.le_of_ble_eq_true rfl⟩ ?_
      refine W.eq (g2 := F0 m 254 ls [.ref (β 5 i9)]) rfl ?_
      refine gc (ci := 9) hx hb hown hG cl_X11 (rcv hG cl_X11 (hM.wd (hcn.w hki9))) (hts _ q1695) dX4_wouldLose_254 ?_
      refine lv_aload hx hb dX4_wouldLose_257 (lv_at hl 3 rfl) ?_
      refine lv_iload hx hb dX4_wouldLose_259 (lv_at hl 5 rfl) ?_
      refine gaI (N := nW σ) (k := i9) hx hb hG hT_t61 hki9 (by omega) dX4_wouldLose_261 ?_
      refine pfN (ty0 := tyX11) (ty := tyX11 11) (v := .int ((t_t61_5) i9)) (C := RX11) (T := TX11) (N := 12) (k := 11) hx hb hts hown hG hS cl_X11 in_X11 tyX11_ok nmX11 (hM.wd (hcn.w hki9)) (hFa _ (hM.wdF (hcn.w hki9))) (hFa _ (hM.wdF (hcn.w hki9))) (by decide) q1715 rfl (tyX11_ok 11 (by decide)) rfl rfl (Nat.le_of_ble_eq_true rfl) dX4_wouldLose_262 (fun H1 locs1 he hz hq hS => ?_)
      have hT_t40 : va_at D vwCl (q40, arI E (nW σ) t_t40_3) H1 := hT_t40.kept (hq _ (fun e9 => hd_t40 (by have e9 : q40 = _ := e9; rw [e9]; exact (hM.wdF (hcn.w hki9)))))
      have hT_t50 : va_at D vwCl (q50, arI E (nW σ) t_t50_4) H1 := hT_t50.kept (hq _ (fun e9 => hd_t50 (by have e9 : q50 = _ := e9; rw [e9]; exact (hM.wdF (hcn.w hki9)))))
      have hT_t61 : va_at D vwCl (q61, arI E (nW σ) t_t61_5) H1 := hT_t61.kept (hq _ (fun e9 => hd_t61 (by have e9 : q61 = _ := e9; rw [e9]; exact (hM.wdF (hcn.w hki9)))))
      have hM := hM.Pw26 (hcn.w hki9) he hq
      have hG := gE.ofS hG0 hS hFE
      obtain ⟨σ11, hσ11⟩ : ∃ x, x = sW σ10 26 i9 ((t_t61_5) i9) := ⟨_, rfl⟩
      rw [← hσ11] at hR hM
      have hcn : cnt σ11 σ := by rw [hσ11]; exact hcn.sW
      try dsimp only at hR
      refine lv_iinc (v := nI (i9 + 1)) (lv' := [(9, .int (nI (i9 + 1))), (0, .ref (β 0 0)), (3, .ref (q40)), (4, .ref (q50)), (5, .ref (q61)), (8, .int (v6))]) hx hb dX4_wouldLose_265 hl (k := 5) rfl (nI_1 i9) (Nat.le_of_ble_eq_true rfl) rfl (fun ls hl => ?_)
      refine lv_goto (tgt := 199) hx hb dX4_wouldLose_268 (by decide) ?_
      exact ih (i9 + 1) σ11 th8 ca8 sm8 (lk_st hn) hR _ _ _ hcn hM hFa (fun q z => by have := hFb q z; omega) hd_t40 hd_t50 hd_t61 hT_t40 hT_t50 hT_t61 hS ls (lv_sub hl [1, 2, 3, 4, 5, 0] rfl)
  unfold fX4_wouldLose at hR
  refine lv_aload_n hx hb dX4_wouldLose_0 rfl (lv_at hl 0 rfl) ?_
  refine lv_iconst (v := 0) hx hb dX4_wouldLose_1 (by decide) ?_
  refine pf (ty0 := tyX4) (ty := tyX4 0) (v := .int 0) (C := RX4) (T := TX4) (N := 13) (k := 0) hx hb hts hown hG hS cl_X4 in_X4 tyX4_ok nmX4 hM.ag (hFa _ hM.agF) (hFa _ hM.agF) (by decide) q1540 rfl (tyX4_ok 0 (by decide)) rfl rfl (Nat.le_of_ble_eq_true rfl) dX4_wouldLose_2 (fun H1 locs1 he hz hq hS => ?_)
  have hM := hM.Pth  he hq
  have hG := gE.ofS hG0 hS hFE
  refine lv_aload_n hx hb dX4_wouldLose_5 rfl (lv_at hl 0 rfl) ?_
  refine lv_iload_n hx hb dX4_wouldLose_6 rfl (lv_at hl 1 rfl) ?_
  refine pcV (As := [.int (a)]) (rest := []) hS0 (met_X4_isPlayer l D E a) q1635 q1637 qs57 q110 q1638 hd_X4_isPlayer ⟨Nat.le_of_ble_eq_true rfl, Nat.le_of_ble_eq_true rfl⟩ hG (rcv hG cl_X4 hM.ag) hM rfl hl.1 rfl (Nat.le_of_ble_eq_true rfl) dX4_wouldLose_7 ⟨Nat.le_of_ble_eq_true rfl, Nat.le_of_ble_eq_true rfl⟩ ?_
  refine W.eq (g2 := F0 m 10 ls [.int (bI ((fX4_isPlayer σ a)))]) rfl ?_
  refine lb_if_ne (tgt := 19) hx hb dX4_wouldLose_10 (by decide) (fun c1 => ?_) (fun c1 => ?_)
  · rw [if_pos c1] at hR
    have nc1 := isPlayer_ix hM c1
    refine lv_aload_n hx hb dX4_wouldLose_19 rfl (lv_at hl 0 rfl) ?_
    refine lv_iload_n hx hb dX4_wouldLose_20 rfl (lv_at hl 2 rfl) ?_
    refine pcV (As := [.int (b)]) (rest := []) hS0 (met_X4_isDay l D E b) q1687 q1689 qs60 q110 q1690 hd_X4_isDay ⟨Nat.le_of_ble_eq_true rfl, Nat.le_of_ble_eq_true rfl⟩ hG (rcv hG cl_X4 hM.ag) hM rfl hl.1 rfl (Nat.le_of_ble_eq_true rfl) dX4_wouldLose_21 ⟨Nat.le_of_ble_eq_true rfl, Nat.le_of_ble_eq_true rfl⟩ ?_
    refine W.eq (g2 := F0 m 24 ls [.int (bI ((fX4_isDay σ b)))]) rfl ?_
    refine lb_if_ne (tgt := 33) hx hb dX4_wouldLose_24 (by decide) (fun c2 => ?_) (fun c2 => ?_)
    · rw [if_pos c2] at hR
      have nc2 := isDay_ix h0 c2
      refine lv_aload_n hx hb dX4_wouldLose_33 rfl (lv_at hl 0 rfl) ?_
      refine gf (v := .ref (β 1 2)) (C := RX4) (T := TX4) (N := 13) (k := 5) hx hb hts hown hG cl_X4 in_X4 hM.ag (by decide) q1545 rfl dX4_wouldLose_34 ?_
      refine pcV (As := []) (rest := []) hS0 (met_ml_size l D E (j := 2) (by decide)) q1600 q336 q2080 q103 q338 hd_J2_size ⟨Nat.le_of_ble_eq_true rfl, Nat.le_of_ble_eq_true rfl⟩ hG (hM.lsR hG (j := 2) (by decide)) hM rfl hl.1 rfl (Nat.le_of_ble_eq_true rfl) dX4_wouldLose_37 ⟨Nat.le_of_ble_eq_true rfl, Nat.le_of_ble_eq_true rfl⟩ ?_
      refine W.eq (g2 := F0 m 40 ls [.int (nI (nW σ))]) rfl ?_
      have hB := hS.1
      obtain hN9 : nW σ ≤ 14 := hM.nW14
      refine nwZ (atype := .int) (ty := .int) (t := 0) (cA := E 1) (N := (nW σ)) (z := (nW σ, .inl (fun _ => 0))) hx hb hts hG hS q199 rfl rfl trivial (fun _ => rfl) (by omega) (by show (nW σ) * 4 ≤ _; omega) ⟨by show _ ≤ 3; omega, by show _ ≤ 42; omega⟩ dX4_wouldLose_40 (fun q40 H1 hq9 hT_t40 hz ho hS => ?_)
      refine W.widen (k := 1) (n := 14) (by omega) (by omega) ?_
      have hM := hM.kept (fun q h4 _ => ho q h4)
      have hG := gE.ofS hG0 hS hFE
      have hge_t40 : s.heap.size ≤ q40 := by have := hB; omega
      have hd_t40 : ¬ Fc q40 := fun z => by have := hFb _ z; omega
      refine lv_astore_n (lv' := [(3, .ref (q40)), (0, .ref (β 0 0)), (1, .int (a)), (2, .int (b))]) hx hb dX4_wouldLose_42 rfl hl (Nat.le_of_ble_eq_true rfl) rfl (fun ls hl => ?_)
      refine lv_aload_n hx hb dX4_wouldLose_43 rfl (lv_at hl 1 rfl) ?_
      refine gf (v := .ref (β 1 2)) (C := RX4) (T := TX4) (N := 13) (k := 5) hx hb hts hown hG cl_X4 in_X4 hM.ag (by decide) q1545 rfl dX4_wouldLose_44 ?_
      refine pcV (As := []) (rest := []) hS0 (met_ml_size l D E (j := 2) (by decide)) q1600 q336 q2080 q103 q338 hd_J2_size ⟨Nat.le_of_ble_eq_true rfl, Nat.le_of_ble_eq_true rfl⟩ hG (hM.lsR hG (j := 2) (by decide)) hM rfl hl.1 rfl (Nat.le_of_ble_eq_true rfl) dX4_wouldLose_47 ⟨Nat.le_of_ble_eq_true rfl, Nat.le_of_ble_eq_true rfl⟩ ?_
      refine W.eq (g2 := F0 m 50 ls [.int (nI (nW σ))]) rfl ?_
      have hB := hS.1
      have hL_t40 : q40 < _ := hT_t40.lt
      obtain hN9 : nW σ ≤ 14 := hM.nW14
      refine nwZ (atype := .int) (ty := .int) (t := 0) (cA := E 1) (N := (nW σ)) (z := (nW σ, .inl (fun _ => 0))) hx hb hts hG hS q199 rfl rfl trivial (fun _ => rfl) (by omega) (by show (nW σ) * 4 ≤ _; omega) ⟨by show _ ≤ 3; omega, by show _ ≤ 42; omega⟩ dX4_wouldLose_50 (fun q50 H1 hq9 hT_t50 hz ho hS => ?_)
      refine W.widen (k := 2) (n := 28) (by omega) (by omega) ?_
      have hT_t40 : va_at D vwCl (q40, arI E (nW σ) (fun _ => 0)) H1 := hT_t40.kept (ho _ hT_t40.lt)
      have hM := hM.kept (fun q h4 _ => ho q h4)
      have hG := gE.ofS hG0 hS hFE
      have hne_t40_t50 : q40 ≠ q50 := by have h9 := hL_t40; omega
      have hge_t50 : s.heap.size ≤ q50 := by have := hB; omega
      have hd_t50 : ¬ Fc q50 := fun z => by have := hFb _ z; omega
      refine lv_astore (lv' := [(4, .ref (q50)), (3, .ref (q40)), (0, .ref (β 0 0)), (1, .int (a)), (2, .int (b))]) hx hb dX4_wouldLose_52 hl (Nat.le_of_ble_eq_true rfl) rfl (fun ls hl => ?_)
      refine lv_aload_n hx hb dX4_wouldLose_54 rfl (lv_at hl 2 rfl) ?_
      refine gf (v := .ref (β 1 2)) (C := RX4) (T := TX4) (N := 13) (k := 5) hx hb hts hown hG cl_X4 in_X4 hM.ag (by decide) q1545 rfl dX4_wouldLose_55 ?_
      refine pcV (As := []) (rest := []) hS0 (met_ml_size l D E (j := 2) (by decide)) q1600 q336 q2080 q103 q338 hd_J2_size ⟨Nat.le_of_ble_eq_true rfl, Nat.le_of_ble_eq_true rfl⟩ hG (hM.lsR hG (j := 2) (by decide)) hM rfl hl.1 rfl (Nat.le_of_ble_eq_true rfl) dX4_wouldLose_58 ⟨Nat.le_of_ble_eq_true rfl, Nat.le_of_ble_eq_true rfl⟩ ?_
      refine W.eq (g2 := F0 m 61 ls [.int (nI (nW σ))]) rfl ?_
      have hB := hS.1
      have hL_t40 : q40 < _ := hT_t40.lt
      have hL_t50 : q50 < _ := hT_t50.lt
      obtain hN9 : nW σ ≤ 14 := hM.nW14
      refine nwZ (atype := .int) (ty := .int) (t := 0) (cA := E 1) (N := (nW σ)) (z := (nW σ, .inl (fun _ => 0))) hx hb hts hG hS q199 rfl rfl trivial (fun _ => rfl) (by omega) (by show (nW σ) * 4 ≤ _; omega) ⟨by show _ ≤ 3; omega, by show _ ≤ 42; omega⟩ dX4_wouldLose_61 (fun q61 H1 hq9 hT_t61 hz ho hS => ?_)
      refine W.widen (k := 3) (n := 42) (by omega) (by omega) ?_
      have hT_t40 : va_at D vwCl (q40, arI E (nW σ) (fun _ => 0)) H1 := hT_t40.kept (ho _ hT_t40.lt)
      have hT_t50 : va_at D vwCl (q50, arI E (nW σ) (fun _ => 0)) H1 := hT_t50.kept (ho _ hT_t50.lt)
      have hM := hM.kept (fun q h4 _ => ho q h4)
      have hG := gE.ofS hG0 hS hFE
      have hne_t40_t61 : q40 ≠ q61 := by have h9 := hL_t40; omega
      have hne_t50_t61 : q50 ≠ q61 := by have h9 := hL_t50; omega
      have hge_t61 : s.heap.size ≤ q61 := by have := hB; omega
      have hd_t61 : ¬ Fc q61 := fun z => by have := hFb _ z; omega
      refine lv_astore (lv' := [(5, .ref (q61)), (4, .ref (q50)), (3, .ref (q40)), (0, .ref (β 0 0)), (1, .int (a)), (2, .int (b))]) hx hb dX4_wouldLose_63 hl (Nat.le_of_ble_eq_true rfl) rfl (fun ls hl => ?_)
      refine lv_iconst (v := 0) hx hb dX4_wouldLose_65 (by decide) ?_
      refine lv_istore (lv' := [(6, .int 0), (5, .ref (q61)), (4, .ref (q50)), (3, .ref (q40)), (0, .ref (β 0 0)), (1, .int (a)), (2, .int (b))]) hx hb dX4_wouldLose_66 hl (Nat.le_of_ble_eq_true rfl) rfl (fun ls hl => ?_)
      refine hL68 q40 q50 q61 hge_t40 hne_t40_t50 hne_t40_t61 hge_t50 hne_t50_t61 hge_t61 nc1.2 nc2.2 nc1.1 nc2.1 _ (fun σ5 th5 ca5 sm5 t_t40_3 t_t50_4 t_t61_5 H1 locs1 Fc ls hR hcn hM hFa hFb hd_t40 hd_t50 hd_t61 hT_t40 hT_t50 hT_t61 hS hl => ?_) (nW σ) 0 σ 0 ca sm (fun _ => 0) (fun _ => 0) (fun _ => 0) (Nat.zero_add _) hR _ _ _ hcn hM hFa (fun q z => by have := hFb q z; omega) hd_t40 hd_t50 hd_t61 hT_t40 hT_t50 hT_t61 hS ls (lv_sub hl [4, 5, 6, 3, 2, 1, 0] rfl)
      try dsimp only at hR
      have hG := gE.ofS hG0 hS hFE
      refine lv_aload_n hx hb dX4_wouldLose_140 rfl (lv_at hl 0 rfl) ?_
      refine gf (v := .ref (β 1 0)) (C := RX4) (T := TX4) (N := 13) (k := 3) hx hb hts hown hG cl_X4 in_X4 hM.ag (by decide) q1543 rfl dX4_wouldLose_141 ?_
      refine lv_iload_n hx hb dX4_wouldLose_144 rfl (lv_at hl 1 rfl) ?_
      refine lv_eq nc1.1 ?_
      refine pcV (As := [.int (nI ((Int32.toNatClampNeg a)))]) (rest := []) hS0 (met_ml_get l D E (j := 0) (by decide) ((Int32.toNatClampNeg a)) (hcn.p nc1.2)) q1639 q349 q2082 q103 q351 hd_J2_get ⟨Nat.le_of_ble_eq_true rfl, Nat.le_of_ble_eq_true rfl⟩ hG (hM.lsR hG (j := 0) (by decide)) hM rfl hl.1 rfl (Nat.le_of_ble_eq_true rfl) dX4_wouldLose_145 ⟨Nat.le_of_ble_eq_true rfl, Nat.le_of_ble_eq_true rfl⟩ ?_
      refine W.eq (g2 := F0 m 148 ls [.ref (β 3 ((Int32.toNatClampNeg a)))]) rfl ?_
      refine gc (ci := 6) hx hb hown hG cl_X7 (rcv hG cl_X7 (hM.pl (hcn.p nc1.2))) (hts _ q1601) dX4_wouldLose_148 ?_
      refine gfN (v := .ref (β 4 ((Int32.toNatClampNeg a)))) (C := RX7) (T := TX7) (N := 7) (k := 6) hx hb hts hown hG cl_X7 in_X7 (hM.pl (hcn.p nc1.2)) (by decide) q1614 rfl dX4_wouldLose_151 ?_
      refine lv_iload_n hx hb dX4_wouldLose_154 rfl (lv_at hl 2 rfl) ?_
      refine lv_eq nc2.1 ?_
      refine gaZ (N := 366) (k := (Int32.toNatClampNeg b)) hx hb hG (hM.off (hcn.p nc1.2)) nc2.2 (by decide) dX4_wouldLose_155 ?_
      refine lv_istore (lv' := [(6, .int (pOff σ5 ((Int32.toNatClampNeg a)) ((Int32.toNatClampNeg b)))), (0, .ref (β 0 0)), (1, .int (a)), (2, .int (b)), (3, .ref (q40)), (4, .ref (q50)), (5, .ref (q61))]) hx hb dX4_wouldLose_156 hl (Nat.le_of_ble_eq_true rfl) rfl (fun ls hl => ?_)
      refine lv_aload_n hx hb dX4_wouldLose_158 rfl (lv_at hl 1 rfl) ?_
      refine gf (v := .int (ca5)) (C := RX4) (T := TX4) (N := 13) (k := 2) hx hb hts hown hG cl_X4 in_X4 hM.ag (by decide) q1542 rfl dX4_wouldLose_159 ?_
      refine lv_istore (lv' := [(7, .int (ca5)), (6, .int (pOff σ5 ((Int32.toNatClampNeg a)) ((Int32.toNatClampNeg b)))), (0, .ref (β 0 0)), (1, .int (a)), (2, .int (b)), (3, .ref (q40)), (4, .ref (q50)), (5, .ref (q61))]) hx hb dX4_wouldLose_162 hl (Nat.le_of_ble_eq_true rfl) rfl (fun ls hl => ?_)
      refine lv_aload_n hx hb dX4_wouldLose_164 rfl (lv_at hl 2 rfl) ?_
      refine lv_iload_n hx hb dX4_wouldLose_165 rfl (lv_at hl 3 rfl) ?_
      refine lv_eq nc1.1 ?_
      refine lv_iload_n hx hb dX4_wouldLose_166 rfl (lv_at hl 4 rfl) ?_
      refine lv_eq nc2.1 ?_
      have hB := hS.1
      have hL_t40 : q40 < _ := hT_t40.lt
      have hL_t50 : q50 < _ := hT_t50.lt
      have hL_t61 : q61 < _ := hT_t61.lt
      refine gcV (As := [.int (nI ((Int32.toNatClampNeg a))), .int (nI ((Int32.toNatClampNeg b)))]) (rest := []) hS0 (met_X4_illNow l D E ((Int32.toNatClampNeg a)) ((Int32.toNatClampNeg b)) (hcn.p nc1.2) nc2.2) q1865 q1867 qs77 q110 q1868 hd_X4_illNow ⟨Nat.le_of_ble_eq_true rfl, Nat.le_of_ble_eq_true rfl⟩ hG (rcv hG cl_X4 hM.ag) hM rfl hl.1 rfl (Nat.le_of_ble_eq_true rfl) dX4_wouldLose_167 ⟨Nat.le_of_ble_eq_true rfl, Nat.le_of_ble_eq_true rfl⟩ hS (fun q h => hFa q h) (fun q h => hFa q h) (fun v H1 locs1 hP hz hk hS => ?_)
      obtain ⟨rfl, hZ, hc8⟩ := hP
      have hT_t40 : va_at D vwCl (q40, arI E (nW σ) t_t40_3) H1 := hT_t40.kept (hk _ hT_t40.lt hd_t40)
      have hT_t50 : va_at D vwCl (q50, arI E (nW σ) t_t50_4) H1 := hT_t50.kept (hk _ hT_t50.lt hd_t50)
      have hT_t61 : va_at D vwCl (q61, arI E (nW σ) t_t61_5) H1 := hT_t61.kept (hk _ hT_t61.lt hd_t61)
      obtain ⟨Fd, hM, hFn⟩ := hZ.nar
      have hd_t40 : ¬ Fd q40 := fun z => (hFn _ z).1.elim hd_t40 (fun z9 => absurd z9 (Nat.not_le.mpr hL_t40))
      have hd_t50 : ¬ Fd q50 := fun z => (hFn _ z).1.elim hd_t50 (fun z9 => absurd z9 (Nat.not_le.mpr hL_t50))
      have hd_t61 : ¬ Fd q61 := fun z => (hFn _ z).1.elim hd_t61 (fun z9 => absurd z9 (Nat.not_le.mpr hL_t61))
      have hFa : ∀ q, Fd q → fN F s.heap.size q := fun q z => (hFn q z).1.elim (hFa q) (fun z9 => Or.inr (Nat.le_trans hB z9))
      have hFb : ∀ q, Fd q → q < H1.size := fun q z => (hFn q z).2
      clear hFn
      generalize Fd = Fc at hM hFa hFb hd_t40 hd_t50 hd_t61
      have hG := gE.ofS hG0 hS hFE
      have hcn := hc8.tr hcn
      generalize hv_σ6 : (fX4_illNow σ5 th5 ca5 sm5 ((Int32.toNatClampNeg a)) ((Int32.toNatClampNeg b))).2.1 = σ6 at hR hM hcn ⊢
      generalize hv_th6 : (fX4_illNow σ5 th5 ca5 sm5 ((Int32.toNatClampNeg a)) ((Int32.toNatClampNeg b))).2.2.1 = th6 at hR hM hcn ⊢
      generalize hv_ca6 : (fX4_illNow σ5 th5 ca5 sm5 ((Int32.toNatClampNeg a)) ((Int32.toNatClampNeg b))).2.2.2.1 = ca6 at hR hM hcn ⊢
      generalize hv_sm6 : (fX4_illNow σ5 th5 ca5 sm5 ((Int32.toNatClampNeg a)) ((Int32.toNatClampNeg b))).2.2.2.2 = sm6 at hR hM hcn ⊢
      generalize hv_v6 : (fX4_illNow σ5 th5 ca5 sm5 ((Int32.toNatClampNeg a)) ((Int32.toNatClampNeg b))).1 = v6 at hR hM hcn ⊢
      try dsimp only at hR
      refine W.eq (g2 := F0 m 170 ls [.int (v6)]) rfl ?_
      refine lv_istore (lv' := [(8, .int (v6)), (7, .int (ca5)), (6, .int (pOff σ5 ((Int32.toNatClampNeg a)) ((Int32.toNatClampNeg b)))), (0, .ref (β 0 0)), (1, .int (a)), (2, .int (b)), (3, .ref (q40)), (4, .ref (q50)), (5, .ref (q61))]) hx hb dX4_wouldLose_170 hl (Nat.le_of_ble_eq_true rfl) rfl (fun ls hl => ?_)
      refine lv_aload_n hx hb dX4_wouldLose_172 rfl (lv_at hl 3 rfl) ?_
      refine gf (v := .ref (β 1 0)) (C := RX4) (T := TX4) (N := 13) (k := 3) hx hb hts hown hG cl_X4 in_X4 hM.ag (by decide) q1543 rfl dX4_wouldLose_173 ?_
      refine lv_iload_n hx hb dX4_wouldLose_176 rfl (lv_at hl 4 rfl) ?_
      refine lv_eq nc1.1 ?_
      refine pcV (As := [.int (nI ((Int32.toNatClampNeg a)))]) (rest := []) hS0 (met_ml_get l D E (j := 0) (by decide) ((Int32.toNatClampNeg a)) (hcn.p nc1.2)) q1639 q349 q2082 q103 q351 hd_J2_get ⟨Nat.le_of_ble_eq_true rfl, Nat.le_of_ble_eq_true rfl⟩ hG (hM.lsR hG (j := 0) (by decide)) hM rfl hl.1 rfl (Nat.le_of_ble_eq_true rfl) dX4_wouldLose_177 ⟨Nat.le_of_ble_eq_true rfl, Nat.le_of_ble_eq_true rfl⟩ ?_
      refine W.eq (g2 := F0 m 180 ls [.ref (β 3 ((Int32.toNatClampNeg a)))]) rfl ?_
      refine gc (ci := 6) hx hb hown hG cl_X7 (rcv hG cl_X7 (hM.pl (hcn.p nc1.2))) (hts _ q1601) dX4_wouldLose_180 ?_
      refine gfN (v := .ref (β 4 ((Int32.toNatClampNeg a)))) (C := RX7) (T := TX7) (N := 7) (k := 6) hx hb hts hown hG cl_X7 in_X7 (hM.pl (hcn.p nc1.2)) (by decide) q1614 rfl dX4_wouldLose_183 ?_
      refine lv_iload_n hx hb dX4_wouldLose_186 rfl (lv_at hl 5 rfl) ?_
      refine lv_eq nc2.1 ?_
      refine lv_iload hx hb dX4_wouldLose_187 (lv_at hl 2 rfl) ?_
      rcases (Decidable.em ((pOff σ5 ((Int32.toNatClampNeg a)) ((Int32.toNatClampNeg b))) &&& 1 = (pOff σ5 ((Int32.toNatClampNeg a)) ((Int32.toNatClampNeg b))))).symm with g6 | g6
      · rw [if_neg g6] at hR
        cases hR
      rw [if_pos g6] at hR
      refine paZ (N := 366) (k := (Int32.toNatClampNeg b)) (v := pOff σ5 ((Int32.toNatClampNeg a)) ((Int32.toNatClampNeg b))) (nar_of g6) hx hb hG hS (hM.off (hcn.p nc1.2)) (hFa _ (hM.ofF (hcn.p nc1.2))) (hFa _ (hM.ofF (hcn.p nc1.2))) nc2.2 (by decide) dX4_wouldLose_189 (fun H1 locs1 he hz hq hS => ?_)
      have hT_t40 : va_at D vwCl (q40, arI E (nW σ) t_t40_3) H1 := hT_t40.kept (hq _ (fun e9 => hd_t40 (by have e9 : q40 = _ := e9; rw [e9]; exact (hM.ofF (hcn.p nc1.2)))))
      have hT_t50 : va_at D vwCl (q50, arI E (nW σ) t_t50_4) H1 := hT_t50.kept (hq _ (fun e9 => hd_t50 (by have e9 : q50 = _ := e9; rw [e9]; exact (hM.ofF (hcn.p nc1.2)))))
      have hT_t61 : va_at D vwCl (q61, arI E (nW σ) t_t61_5) H1 := hT_t61.kept (hq _ (fun e9 => hd_t61 (by have e9 : q61 = _ := e9; rw [e9]; exact (hM.ofF (hcn.p nc1.2)))))
      have hM := hM.Pof (hcn.p nc1.2) he hq
      have hG := gE.ofS hG0 hS hFE
      obtain ⟨σ7, hσ7⟩ : ∃ x, x = sO σ6 ((Int32.toNatClampNeg a)) ((Int32.toNatClampNeg b)) (pOff σ5 ((Int32.toNatClampNeg a)) ((Int32.toNatClampNeg b))) := ⟨_, rfl⟩
      rw [← hσ7] at hR hM
      have hcn : cnt σ7 σ := by rw [hσ7]; exact hcn.sO
      try dsimp only at hR
      refine lv_aload_n hx hb dX4_wouldLose_190 rfl (lv_at hl 3 rfl) ?_
      refine lv_iload hx hb dX4_wouldLose_191 (lv_at hl 1 rfl) ?_
      refine pf (ty0 := tyX4) (ty := tyX4 2) (v := .int (ca5)) (C := RX4) (T := TX4) (N := 13) (k := 2) hx hb hts hown hG hS cl_X4 in_X4 tyX4_ok nmX4 hM.ag (hFa _ hM.agF) (hFa _ hM.agF) (by decide) q1542 rfl (tyX4_ok 2 (by decide)) rfl rfl (Nat.le_of_ble_eq_true rfl) dX4_wouldLose_193 (fun H1 locs1 he hz hq hS => ?_)
      have hT_t40 : va_at D vwCl (q40, arI E (nW σ) t_t40_3) H1 := hT_t40.kept (hq _ (fun e9 => hd_t40 (by have e9 : q40 = _ := e9; rw [e9]; exact hM.agF)))
      have hT_t50 : va_at D vwCl (q50, arI E (nW σ) t_t50_4) H1 := hT_t50.kept (hq _ (fun e9 => hd_t50 (by have e9 : q50 = _ := e9; rw [e9]; exact hM.agF)))
      have hT_t61 : va_at D vwCl (q61, arI E (nW σ) t_t61_5) H1 := hT_t61.kept (hq _ (fun e9 => hd_t61 (by have e9 : q61 = _ := e9; rw [e9]; exact hM.agF)))
      have hM := hM.Pca  he hq
      have hG := gE.ofS hG0 hS hFE
      refine lv_iconst (v := 0) hx hb dX4_wouldLose_196 (by decide) ?_
      refine lv_istore (lv' := [(9, .int 0), (8, .int (v6)), (7, .int (ca5)), (6, .int (pOff σ5 ((Int32.toNatClampNeg a)) ((Int32.toNatClampNeg b)))), (0, .ref (β 0 0)), (1, .int (a)), (2, .int (b)), (3, .ref (q40)), (4, .ref (q50)), (5, .ref (q61))]) hx hb dX4_wouldLose_197 hl (Nat.le_of_ble_eq_true rfl) rfl (fun ls hl => ?_)
      refine hL199 t_t40_3 t_t50_4 t_t61_5 v6 q40 q50 q61 hge_t40 hne_t40_t50 hne_t40_t61 hge_t50 hne_t50_t61 hge_t61 _ (fun σ12 th12 ca12 sm12 H1 locs1 Fc ls hR hcn hM hFa hFb hd_t40 hd_t50 hd_t61 hT_t40 hT_t50 hT_t61 hS hl => ?_) (nW σ) 0 σ7 th6 ca5 sm6 (Nat.zero_add _) hR _ _ _ hcn hM hFa (fun q z => by have := hFb q z; omega) hd_t40 hd_t50 hd_t61 hT_t40 hT_t50 hT_t61 hS ls (lv_sub hl [4, 7, 8, 9, 1, 0] rfl)
      try dsimp only at hR
      have hG := gE.ofS hG0 hS hFE
      refine lv_iload hx hb dX4_wouldLose_271 (lv_at hl 0 rfl) ?_
      exact g_iret hx hb hr hlocks hS ⟨Nat.le_of_ble_eq_true rfl, Nat.le_of_ble_eq_true rfl⟩ dX4_wouldLose_273 (by cases hR; exact ⟨rfl, (hM.mono (fun q _ z => hFa q z) (fN_E hFE hG0.2.2.1)), hcn⟩)
    · rw [if_neg c2] at hR
      refine lv_aload_n hx hb dX4_wouldLose_27 rfl (lv_at hl 0 rfl) ?_
      refine lv_iconst (v := 2) hx hb dX4_wouldLose_28 (by decide) ?_
      have hB := hS.1
      refine gcV (As := [.int 2]) (rest := []) hS0 (met_X4_refuse l D E 2) q1591 q1593 qs55 q110 q1594 hd_X4_refuse ⟨Nat.le_of_ble_eq_true rfl, Nat.le_of_ble_eq_true rfl⟩ hG (rcv hG cl_X4 hM.ag) hM rfl hl.1 rfl (Nat.le_of_ble_eq_true rfl) dX4_wouldLose_29 ⟨Nat.le_of_ble_eq_true rfl, Nat.le_of_ble_eq_true rfl⟩ hS (fun q h => hFa q h) (fun q h => hFa q h) (fun v H1 locs1 hP hz hk hS => ?_)
      obtain ⟨rfl, hZ, hc8⟩ := hP
      obtain ⟨Fd, hM, hFn⟩ := hZ.nar
      have hFa : ∀ q, Fd q → fN F s.heap.size q := fun q z => (hFn q z).1.elim (hFa q) (fun z9 => Or.inr (Nat.le_trans hB z9))
      have hFb : ∀ q, Fd q → q < H1.size := fun q z => (hFn q z).2
      clear hFn
      generalize Fd = Fc at hM hFa hFb
      have hG := gE.ofS hG0 hS hFE
      have hcn := hc8.tr hcn
      generalize hv_σ13 : (fX4_refuse σ 0 ca sm 2).2.1 = σ13 at hR hM hcn ⊢
      generalize hv_th13 : (fX4_refuse σ 0 ca sm 2).2.2.1 = th13 at hR hM hcn ⊢
      generalize hv_ca13 : (fX4_refuse σ 0 ca sm 2).2.2.2.1 = ca13 at hR hM hcn ⊢
      generalize hv_sm13 : (fX4_refuse σ 0 ca sm 2).2.2.2.2 = sm13 at hR hM hcn ⊢
      generalize hv_v13 : (fX4_refuse σ 0 ca sm 2).1 = v13 at hR hM hcn ⊢
      try dsimp only at hR
      refine W.eq (g2 := F0 m 32 ls [.int (v13)]) rfl ?_
      exact g_iret hx hb hr hlocks hS ⟨Nat.le_of_ble_eq_true rfl, Nat.le_of_ble_eq_true rfl⟩ dX4_wouldLose_32 (by cases hR; exact ⟨rfl, (hM.mono (fun q _ z => hFa q z) (fN_E hFE hG0.2.2.1)), hcn⟩)
  · rw [if_neg c1] at hR
    refine lv_aload_n hx hb dX4_wouldLose_13 rfl (lv_at hl 0 rfl) ?_
    refine lv_iconst (v := 1) hx hb dX4_wouldLose_14 (by decide) ?_
    have hB := hS.1
    refine gcV (As := [.int 1]) (rest := []) hS0 (met_X4_refuse l D E 1) q1591 q1593 qs55 q110 q1594 hd_X4_refuse ⟨Nat.le_of_ble_eq_true rfl, Nat.le_of_ble_eq_true rfl⟩ hG (rcv hG cl_X4 hM.ag) hM rfl hl.1 rfl (Nat.le_of_ble_eq_true rfl) dX4_wouldLose_15 ⟨Nat.le_of_ble_eq_true rfl, Nat.le_of_ble_eq_true rfl⟩ hS (fun q h => hFa q h) (fun q h => hFa q h) (fun v H1 locs1 hP hz hk hS => ?_)
    obtain ⟨rfl, hZ, hc8⟩ := hP
    obtain ⟨Fd, hM, hFn⟩ := hZ.nar
    have hFa : ∀ q, Fd q → fN F s.heap.size q := fun q z => (hFn q z).1.elim (hFa q) (fun z9 => Or.inr (Nat.le_trans hB z9))
    have hFb : ∀ q, Fd q → q < H1.size := fun q z => (hFn q z).2
    clear hFn
    generalize Fd = Fc at hM hFa hFb
    have hG := gE.ofS hG0 hS hFE
    have hcn := hc8.tr hcn
    generalize hv_σ14 : (fX4_refuse σ 0 ca sm 1).2.1 = σ14 at hR hM hcn ⊢
    generalize hv_th14 : (fX4_refuse σ 0 ca sm 1).2.2.1 = th14 at hR hM hcn ⊢
    generalize hv_ca14 : (fX4_refuse σ 0 ca sm 1).2.2.2.1 = ca14 at hR hM hcn ⊢
    generalize hv_sm14 : (fX4_refuse σ 0 ca sm 1).2.2.2.2 = sm14 at hR hM hcn ⊢
    generalize hv_v14 : (fX4_refuse σ 0 ca sm 1).1 = v14 at hR hM hcn ⊢
    try dsimp only at hR
    refine W.eq (g2 := F0 m 18 ls [.int (v14)]) rfl ?_
    exact g_iret hx hb hr hlocks hS ⟨Nat.le_of_ble_eq_true rfl, Nat.le_of_ble_eq_true rfl⟩ dX4_wouldLose_18 (by cases hR; exact ⟨rfl, (hM.mono (fun q _ z => hFa q z) (fN_E hFE hG0.2.2.1)), hcn⟩)

