/-! the agency: prices, plan, wouldLose -/
set_option maxRecDepth 100000
theorem LVI.le {D : va_G} {E : Nat → Nat} {lo hi q0 : Nat} {K : List Nat} {H : Heap} (h : LVI D E lo hi q0 K H) {k : Nat} (hk : k < K.length) : K.getD k 0 ≤ 127 := by
  rw [lv_gd hk]
  exact h.2.1 _ (List.getElem_mem hk)
theorem gE.boxR {D : va_G} {E : Nat → Nat} {s : State} {H : Heap} (hG : gE D E s H) {k : Nat} (hk : k ≤ 127) : ∃ cellB : Cell, H[E (300 + (k + 128))]? = some cellB ∧ cellB.vm.isStatics = false ∧ s.vm.findClass RJ17 = some cellB.cls := by
  obtain ⟨c, h1, h2, h3, -⟩ := hG.2.2.2.2.1.1 (k + 128) (by omega)
  exact ⟨c, h1, h2, h3⟩
theorem met_intValue_c (l : Launch) (D : va_G) (E : Nat → Nat) (k : Nat) (hk : k ≤ 127) : PM l D E yJ17_intValue cJ17_intValue 1 (Option.some Jvm.ClassFile.FieldType.int) 0 0 [.ref (E (300 + (k + 128)))] (fun _ => True) (some (.int (nI k))) := by
  refine PM.start (by decide) (Nat.le_of_ble_eq_true rfl) ?_
  intro p e s m below meth c ls hx hb hr hml hown hlocks hts hG hT hl
  have hown : s.vm.findClass RJ17 = some m.cls := hown
  have hl : lv_has ls 1 [(0, .ref (E (300 + (k + 128))))] := hl
  refine lv_aload_n hx hb dJ17_intValue_0 rfl (lv_at hl 0 rfl) ?_
  have hO : va_OF "java/lang/Integer" "value" "I" (.int (vb_c (k + 128))) (E (300 + (k + 128))) (gA E) s s.heap := hG.2.2.2.2.1.2 (k + 128) (by omega)
  have e : vb_c (k + 128) = nI k := by
    show nI (k + 128) - nI 128 = nI k
    rw [pk_sub (by omega), Nat.add_sub_cancel]
  rw [e] at hO
  refine vk_getf hx hb hO va_S.rf hown (hts _ q646) (fun _ h => h) dJ17_intValue_1 ?_
  exact p_iret hx hb hr hlocks dJ17_intValue_4 rfl
def fX1_prices_L5 (σ : St) (a : Int32) (K : List Nat)  (κ : Int32 → St → Option (Int32 × St)) : Nat → Nat → Int32 → St → Option (Int32 × St)
  | 0, i4, a3, σ1 => κ a3 σ1
  | n + 1, i4, a3, σ1 => (if ((fX1_has a (nI i4))) = true then (if (K).getD i4 0 < nW σ then (Option.bind (fX1_fillings σ1 ((K).getD i4 0)) (fun (r3 : (Nat → Int32) × Bool × Int32 × Int32) => (if r3.2.2.2 = ((-1)) then (some ((-1), σ1)) else (Option.bind (fX1_take σ1 ((K).getD i4 0) r3.2.2.2 (nP σ1) r3.1) (fun (r5 : St) => (fun (σ2 : St) => fX1_prices_L5 σ a K κ n (i4 + 1) (a3 + (wPrice σ2 ((K).getD i4 0))) σ2) (r5)))))) else none) else fX1_prices_L5 σ a K κ n (i4 + 1) a3 σ1)
def fX1_prices (σ : St) (a : Int32) (K : List Nat) : Option (Int32 × St) :=
  fX1_prices_L5 σ a K (fun (a6 : Int32) (σ3 : St) => (some (a6, σ3))) K.length 0 0 σ
set_option maxHeartbeats 4000000 in
set_option maxRecDepth 100000 in
theorem met_X1_prices (l : Launch) (D : va_G) (E : Nat → Nat) {α : Nat → Nat → Nat} {F : Nat → Prop} {σ : St} (q0 : Nat) (a : Int32) (lo : Nat) (hi : Nat) (K : List Nat) (hdF_fs : ∀ q, F q → q < lo ∨ hi ≤ q) {r : Int32 × St} (hR : fX1_prices σ a K = some r) : GM l D E yX1_prices cX1_prices 6 (Option.some Jvm.ClassFile.FieldType.int) 435 9348 34 323 [.ref (α 0 0), .ref (q0), .int (a)] (fun h => RX D E α F σ h ∧ LVI D E lo hi q0 K h) F F (fun sz v h => v = some (.int r.1) ∧ RX D E α (fN F sz) r.2 h ∧ cnt r.2 σ)  := by
  refine GM.start (by decide) (Nat.le_of_ble_eq_true rfl) ?_
  intro p e s m below meth c ls hx hb hr hml hown hlocks hnm hts hG ⟨hX, hT_fs⟩ hS hl
  have hown : s.vm.findClass RX1 = some m.cls := hown
  have hS0 : xS p m c cX1_prices 6 s _ RX1 := ⟨hx, hb, hml, hown, hts⟩
  have hl : lv_has ls 6 [(0, .ref (α 0 0)), (1, .ref (q0)), (2, .int (a))] := hl
  have hG0 := hG
  have hX0 := hX
  have hb0P := hX0.nP10
  have hb0B := hX0.nB6
  have hb0W := hX0.nW14
  have hFE := hX.fE
  obtain ⟨Fc, hX, hFn⟩ := hX.nar
  have hFa : ∀ q, Fc q → fN F s.heap.size q := fun q z => Or.inl (hFn q z).1
  have hFb : ∀ q, Fc q → q < s.heap.size := fun q z => (hFn q z).2
  have hcn : cnt σ σ := cnt.rf
  have hd_fs : ∀ q, Fc q → q < lo ∨ hi ≤ q := fun q z => hdF_fs q (hFn q z).1
  have hK16 := hT_fs.len
  have hL5 : ∀  (κ : Int32 → St → Option (Int32 × St)) (hκ : ∀ (a3 : Int32) (σ1 : St) (H : Heap) (locs : List Loc) (Fc : Nat → Prop) (ls : Array Slot), κ a3 σ1 = some r → cnt σ1 σ → RX D E α Fc σ1 H → (∀ q, Fc q → fN F s.heap.size q) → (∀ q, Fc q → q < H.size) → (∀ q, Fc q → q < lo ∨ hi ≤ q) → LVI D E lo hi q0 K H → xK F F s.heap H locs → lv_has ls 6 [(3, .int (a3))] → W p l e { frames := 435, cells := 34, slots := 323, locals := 9348 } s m [(.ref (α 0 0) : Value), .ref (q0), .int (a)].toArray below meth c H locs (0 + 32) (0 + 304) (MQ below (qG F ((fun sz v h => v = some (.int r.1) ∧ RX D E α (fN F sz) r.2 h ∧ cnt r.2 σ) s.heap.size)) [(.ref (α 0 0) : Value), .ref (q0), .int (a)].toArray s 34 323 (fN F s.heap.size)) (F0 m 114 ls [])) (n : Nat) (i4 : Nat) (a3 : Int32) (σ1 : St), i4 + n = K.length → fX1_prices_L5 σ a K κ n i4 a3 σ1 = some r → ∀ (H : Heap) (locs : List Loc) (Fc : Nat → Prop), cnt σ1 σ → RX D E α Fc σ1 H → (∀ q, Fc q → fN F s.heap.size q) → (∀ q, Fc q → q < H.size) → (∀ q, Fc q → q < lo ∨ hi ≤ q) → LVI D E lo hi q0 K H → xK F F s.heap H locs → ∀ (ls : Array Slot), lv_has ls 6 [(0, .ref (α 0 0)), (1, .ref (q0)), (2, .int (a)), (3, .int (a3)), (4, .int (nI i4))] → W p l e { frames := 435, cells := 34, slots := 323, locals := 9348 } s m [(.ref (α 0 0) : Value), .ref (q0), .int (a)].toArray below meth c H locs (0 + i4 * 2) (0 + i4 * 19) (MQ below (qG F ((fun sz v h => v = some (.int r.1) ∧ RX D E α (fN F sz) r.2 h ∧ cnt r.2 σ) s.heap.size)) [(.ref (α 0 0) : Value), .ref (q0), .int (a)].toArray s 34 323 (fN F s.heap.size)) (F0 m 5 ls []) := by
    intro  κ hκ n
    induction n with
    | zero =>
      intro i4 a3 σ1 hn hR H locs Fc hcn hX hFa hFb hd_fs hT_fs hS ls hl
      rw [fX1_prices_L5] at hR
      have hG := gE.ofS hG0 hS hFE
      have hb_i4 : i4 ≤ 16 := by have := hX0.nP10; have := hX0.nB6; have := hX0.nW14; omega
      refine lv_iload hx hb dX1_prices_5 (lv_at hl 4 rfl) ?_
      refine lv_aload_n hx hb dX1_prices_7 rfl (lv_at hl 1 rfl) ?_
      refine pcF (x := xL_size) (ci := 13) (As := []) (rest := [.int (nI i4)]) hG.fw_size hS0 (met_lvi_size l D E) q331 q334 q336 q103 q338 hd_xL_size ⟨Nat.le_of_ble_eq_true rfl, Nat.le_of_ble_eq_true rfl⟩ hG cl_J2 (LV.recv hG hT_fs.1) hT_fs rfl hl.1 rfl (Nat.le_of_ble_eq_true rfl) dX1_prices_8 ⟨by show _ ≤ 34; omega, by show _ ≤ 323; omega⟩ ?_
      refine W.eq (g2 := F0 m 13 ls [.int (nI K.length), .int (nI i4)]) rfl ?_
      refine lk_ge_out (k := i4) (N := K.length) hx hb hn (tgt := 114) dX1_prices_13 (by decide) ?_
      exact W.widen (by show _ ≤ _; omega) (by show _ ≤ _; omega) (hκ a3 σ1 _ _ _ ls hR hcn hX hFa (fun q z => by have := hFb q z; omega) hd_fs hT_fs hS (lv_sub hl [3] rfl))
    | succ n ih =>
      intro i4 a3 σ1 hn hR H locs Fc hcn hX hFa hFb hd_fs hT_fs hS ls hl
      rw [fX1_prices_L5] at hR
      have hG := gE.ofS hG0 hS hFE
      have hb_i4 : i4 ≤ 16 := by have := hX0.nP10; have := hX0.nB6; have := hX0.nW14; omega
      refine lv_iload hx hb dX1_prices_5 (lv_at hl 4 rfl) ?_
      refine lv_aload_n hx hb dX1_prices_7 rfl (lv_at hl 1 rfl) ?_
      refine pcF (x := xL_size) (ci := 13) (As := []) (rest := [.int (nI i4)]) hG.fw_size hS0 (met_lvi_size l D E) q331 q334 q336 q103 q338 hd_xL_size ⟨Nat.le_of_ble_eq_true rfl, Nat.le_of_ble_eq_true rfl⟩ hG cl_J2 (LV.recv hG hT_fs.1) hT_fs rfl hl.1 rfl (Nat.le_of_ble_eq_true rfl) dX1_prices_8 ⟨by show _ ≤ 34; omega, by show _ ≤ 323; omega⟩ ?_
      refine W.eq (g2 := F0 m 13 ls [.int (nI K.length), .int (nI i4)]) rfl ?_
      have hki4 : i4 < K.length := lk_lt hn
      refine lk_ge_in (k := i4) (N := K.length) hx hb hki4 (by have := hT_fs.len; omega) (tgt := 114) dX1_prices_13 (by decide) ?_
      refine lv_iload_n hx hb dX1_prices_16 rfl (lv_at hl 2 rfl) ?_
      refine lv_iload hx hb dX1_prices_17 (lv_at hl 4 rfl) ?_
      refine pcS (As := [.int (a), .int (nI i4)]) (rest := []) hS0 (met_X1_has l D E a (nI i4)) q374 q375 q100 q376 hd_X1_has ⟨Nat.le_of_ble_eq_true rfl, Nat.le_of_ble_eq_true rfl⟩ hG trivial rfl hl.1 rfl (Nat.le_of_ble_eq_true rfl) dX1_prices_19 ⟨by show _ ≤ 34; omega, by show _ ≤ 323; omega⟩ ?_
      refine W.eq (g2 := F0 m 22 ls [.int (bI ((fX1_has a (nI i4))))]) rfl ?_
      refine lb_if_eq (tgt := 108) hx hb dX1_prices_22 (by decide) (fun c1 => ?_) (fun c1 => ?_)
      · rw [if_neg c1] at hR
        refine lv_iinc (v := nI (i4 + 1)) (lv' := [(4, .int (nI (i4 + 1))), (0, .ref (α 0 0)), (1, .ref (q0)), (2, .int (a)), (3, .int (a3))]) hx hb dX1_prices_108 hl (k := 4) rfl (nI_1 i4) (Nat.le_of_ble_eq_true rfl) rfl (fun ls hl => ?_)
        refine lv_goto (tgt := 5) hx hb dX1_prices_111 (by decide) ?_
        exact W.widen (by show _ ≤ _; omega) (by show _ ≤ _; omega) (ih (i4 + 1) a3 σ1 (lk_st hn) hR _ _ _ hcn hX hFa (fun q z => by have := hFb q z; omega) hd_fs hT_fs hS ls (lv_sub hl [1, 2, 3, 4, 0] rfl))
      · rw [if_pos c1] at hR
        refine lv_aload_n hx hb dX1_prices_25 rfl (lv_at hl 0 rfl) ?_
        refine lv_aload_n hx hb dX1_prices_26 rfl (lv_at hl 1 rfl) ?_
        refine lv_iload hx hb dX1_prices_27 (lv_at hl 4 rfl) ?_
        refine pcF (x := xL_get) (ci := 13) (As := [.int (nI i4)]) (rest := [.ref (α 0 0)]) hG.fw_get hS0 (met_lvi_get l D E i4 hki4) q344 q347 q349 q103 q351 hd_xL_get ⟨Nat.le_of_ble_eq_true rfl, Nat.le_of_ble_eq_true rfl⟩ hG cl_J2 (LV.recv hG hT_fs.1) hT_fs rfl hl.1 rfl (Nat.le_of_ble_eq_true rfl) dX1_prices_29 ⟨by show _ ≤ 34; omega, by show _ ≤ 323; omega⟩ ?_
        refine W.eq (g2 := F0 m 34 ls [.ref (E (300 + ((K).getD i4 0 + 128))), .ref (α 0 0)]) rfl ?_
        refine gc (ci := 14) hx hb hown hG cl_J17 (hG.boxR (hT_fs.le hki4)) (hts _ q655) dX1_prices_34 ?_
        refine pcV (As := []) (rest := [.ref (α 0 0)]) hS0 (met_intValue_c l D E ((K).getD i4 0) (hT_fs.le hki4)) q656 q657 q658 q125 q659 hd_J17_intValue ⟨Nat.le_of_ble_eq_true rfl, Nat.le_of_ble_eq_true rfl⟩ hG (hG.boxR (hT_fs.le hki4)) trivial rfl hl.1 rfl (Nat.le_of_ble_eq_true rfl) dX1_prices_37 ⟨by show _ ≤ 34; omega, by show _ ≤ 323; omega⟩ ?_
        refine W.eq (g2 := F0 m 40 ls [.int (nI ((K).getD i4 0)), .ref (α 0 0)]) rfl ?_
        rcases (Decidable.em ((K).getD i4 0 < nW σ)).symm with g2 | g2
        · rw [if_neg g2] at hR
          cases hR
        rw [if_pos g2] at hR
        rcases hc_r3 : (fX1_fillings σ1 ((K).getD i4 0)) with _ | r3
        · rw [hc_r3] at hR
          cases hR
        rw [hc_r3] at hR
        try dsimp only [Option.bind] at hR
        have hB := hS.1
        have hL_fs : hi ≤ _ := hT_fs.lt
        refine gcV (As := [.int (nI ((K).getD i4 0))]) (rest := []) hS0 (met_X1_fillings l D E ((K).getD i4 0) (hcn.w g2) hc_r3) q499 q501 qs22 q100 q502 hd_X1_fillings ⟨Nat.le_of_ble_eq_true rfl, Nat.le_of_ble_eq_true rfl⟩ hG (rcv hG cl_X1 hX.ag) hX rfl hl.1 rfl (Nat.le_of_ble_eq_true rfl) dX1_prices_40 ⟨by show _ ≤ 34; omega, by show _ ≤ 323; omega⟩ hS (fun q h => hFa q h) (fun q h => hFa q h) (fun v H1 locs1 hP hz hk hS => ?_)
        obtain ⟨q40, qc40, rfl, hq9, hq8, hne_fo40_cs40, hZ, hT_fo40, hT_cs40⟩ := hP
        have hT_fs : LVI D E lo hi q0 K H1 := hT_fs.kept (fun q h8 h9 => hk q (Nat.lt_of_lt_of_le h9 hT_fs.lt) (fun h7 => by have e8 := hd_fs _ h7; omega)) (by omega)
        have hX := hZ
        have hG := gE.ofS hG0 hS hFE
        have hne_fs_fo40 : q40 < lo ∨ hi ≤ q40 := by have h9 := hL_fs; omega
        have hge_fo40 : s.heap.size ≤ q40 := by have := hB; omega
        have hd_fo40 : ¬ Fc q40 := fun z => by have := hFb _ z; omega
        have hne_fs_cs40 : qc40 < lo ∨ hi ≤ qc40 := by have h9 := hL_fs; omega
        have hge_cs40 : s.heap.size ≤ qc40 := by have := hB; omega
        have hd_cs40 : ¬ Fc qc40 := fun z => by have := hFb _ z; omega
        refine W.eq (g2 := F0 m 43 ls [.ref (q40)]) rfl ?_
        refine lv_astore (lv' := [(5, .ref (q40)), (0, .ref (α 0 0)), (1, .ref (q0)), (2, .int (a)), (3, .int (a3)), (4, .int (nI i4))]) hx hb dX1_prices_43 hl (Nat.le_of_ble_eq_true rfl) rfl (fun ls hl => ?_)
        refine lv_aload hx hb dX1_prices_45 (lv_at hl 0 rfl) ?_
        refine gfN (v := .int (r3.2.2.2)) (C := RX12) (T := TX12) (N := 9) (k := 7) hx hb hts hown hG cl_X12 in_X12 hT_fo40 (by decide) q584 rfl dX1_prices_47 ?_
        refine lv_iconst (v := (-1)) hx hb dX1_prices_50 (by decide) ?_
        refine lv_icmp_ne (tgt := 56) hx hb dX1_prices_51 (by decide) (fun c4 => ?_) (fun c4 => ?_)
        · rw [if_neg c4] at hR
          refine lv_aload_n hx hb dX1_prices_56 rfl (lv_at hl 1 rfl) ?_
          refine lv_aload_n hx hb dX1_prices_57 rfl (lv_at hl 2 rfl) ?_
          refine lv_iload hx hb dX1_prices_58 (lv_at hl 5 rfl) ?_
          refine pcF (x := xL_get) (ci := 13) (As := [.int (nI i4)]) (rest := [.ref (α 0 0)]) hG.fw_get hS0 (met_lvi_get l D E i4 hki4) q344 q347 q349 q103 q351 hd_xL_get ⟨Nat.le_of_ble_eq_true rfl, Nat.le_of_ble_eq_true rfl⟩ hG cl_J2 (LV.recv hG hT_fs.1) hT_fs rfl hl.1 rfl (Nat.le_of_ble_eq_true rfl) dX1_prices_60 ⟨by show _ ≤ 34; omega, by show _ ≤ 323; omega⟩ ?_
          refine W.eq (g2 := F0 m 65 ls [.ref (E (300 + ((K).getD i4 0 + 128))), .ref (α 0 0)]) rfl ?_
          refine gc (ci := 14) hx hb hown hG cl_J17 (hG.boxR (hT_fs.le hki4)) (hts _ q655) dX1_prices_65 ?_
          refine pcV (As := []) (rest := [.ref (α 0 0)]) hS0 (met_intValue_c l D E ((K).getD i4 0) (hT_fs.le hki4)) q656 q657 q658 q125 q659 hd_J17_intValue ⟨Nat.le_of_ble_eq_true rfl, Nat.le_of_ble_eq_true rfl⟩ hG (hG.boxR (hT_fs.le hki4)) trivial rfl hl.1 rfl (Nat.le_of_ble_eq_true rfl) dX1_prices_68 ⟨by show _ ≤ 34; omega, by show _ ≤ 323; omega⟩ ?_
          refine W.eq (g2 := F0 m 71 ls [.int (nI ((K).getD i4 0)), .ref (α 0 0)]) rfl ?_
          refine lv_aload hx hb dX1_prices_71 (lv_at hl 0 rfl) ?_
          rcases hc_r5 : (fX1_take σ1 ((K).getD i4 0) r3.2.2.2 (nP σ1) r3.1) with _ | r5
          · rw [hc_r5] at hR
            cases hR
          rw [hc_r5] at hR
          try dsimp only [Option.bind] at hR
          have hB := hS.1
          have hL_fs : hi ≤ _ := hT_fs.lt
          have hL_fo40 : q40 < _ := hT_fo40.lt
          have hL_cs40 : qc40 < _ := hT_cs40.lt
          refine gcV (As := [.int (nI ((K).getD i4 0)), .ref (q40)]) (rest := []) hS0 (met_X1_take l D E ((K).getD i4 0) q40 true 0 qc40 r3.2.1 r3.2.2.1 r3.2.2.2 (nP σ1) r3.1 (hcn.w g2) hd_fo40 hd_cs40 hne_fo40_cs40 (hX.nP10) hc_r5) q1070 q1072 qs43 q100 q1073 hd_X1_take ⟨Nat.le_of_ble_eq_true rfl, Nat.le_of_ble_eq_true rfl⟩ hG (rcv hG cl_X1 hX.ag) ⟨hX, hT_fo40, hT_cs40⟩ rfl hl.1 rfl (Nat.le_of_ble_eq_true rfl) dX1_prices_73 ⟨by show _ ≤ 34; omega, by show _ ≤ 323; omega⟩ hS (fun q h => hFa q h) (fun q h => hFa q h) (fun v H1 locs1 hP hz hk hS => ?_)
          obtain ⟨rfl, hZ, hc8⟩ := hP
          have hT_fs : LVI D E lo hi q0 K H1 := hT_fs.kept (fun q h8 h9 => hk q (Nat.lt_of_lt_of_le h9 hT_fs.lt) (fun h7 => by have e8 := hd_fs _ h7; omega)) (by omega)
          have hT_fo40 : va_at D vwCl (q40, .inr (10, [.ref (α 5 ((K).getD i4 0)), .ref (α 9 (wBand σ1 ((K).getD i4 0))), .int (bI true), .int (0), .ref (qc40), .int (bI r3.2.1), .int (r3.2.2.1), .int (r3.2.2.2), .ref (α 0 0)])) H1 := hT_fo40.kept (hk _ hT_fo40.lt hd_fo40)
          have hT_cs40 : va_at D vwCl (qc40, arI E (nP σ1) r3.1) H1 := hT_cs40.kept (hk _ hT_cs40.lt hd_cs40)
          obtain ⟨Fd, hX, hFn⟩ := hZ.nar
          have hd_fs : ∀ q, Fd q → q < lo ∨ hi ≤ q := fun q z => (hFn _ z).1.elim (hd_fs q) (fun z9 => Or.inr (Nat.le_trans hL_fs z9))
          have hd_fo40 : ¬ Fd q40 := fun z => (hFn _ z).1.elim hd_fo40 (fun z9 => absurd z9 (Nat.not_le.mpr hL_fo40))
          have hd_cs40 : ¬ Fd qc40 := fun z => (hFn _ z).1.elim hd_cs40 (fun z9 => absurd z9 (Nat.not_le.mpr hL_cs40))
          have hFa : ∀ q, Fd q → fN F s.heap.size q := fun q z => (hFn q z).1.elim (hFa q) (fun z9 => Or.inr (Nat.le_trans hB z9))
          have hFb : ∀ q, Fd q → q < H1.size := fun q z => (hFn q z).2
          clear hFn
          generalize Fd = Fc at hX hFa hFb hd_fs hd_fo40 hd_cs40
          have hG := gE.ofS hG0 hS hFE
          have hcn := hc8.tr hcn
          generalize hv_σ2 : r5 = σ2 at hR hX hcn ⊢
          try dsimp only at hR
          refine W.eq (g2 := F0 m 76 ls []) rfl ?_
          refine lv_iload_n hx hb dX1_prices_76 rfl (lv_at hl 4 rfl) ?_
          refine lv_aload_n hx hb dX1_prices_77 rfl (lv_at hl 1 rfl) ?_
          refine gf (v := .ref (α 1 3)) (C := RX1) (T := TX1) (N := 6) (k := 4) hx hb hts hown hG cl_X1 in_X1 hX.ag (by decide) q307 rfl dX1_prices_78 ?_
          refine lv_aload_n hx hb dX1_prices_81 rfl (lv_at hl 2 rfl) ?_
          refine lv_iload hx hb dX1_prices_82 (lv_at hl 5 rfl) ?_
          refine pcF (x := xL_get) (ci := 13) (As := [.int (nI i4)]) (rest := [.ref (α 1 3), .int (a3)]) hG.fw_get hS0 (met_lvi_get l D E i4 hki4) q344 q347 q349 q103 q351 hd_xL_get ⟨Nat.le_of_ble_eq_true rfl, Nat.le_of_ble_eq_true rfl⟩ hG cl_J2 (LV.recv hG hT_fs.1) hT_fs rfl hl.1 rfl (Nat.le_of_ble_eq_true rfl) dX1_prices_84 ⟨by show _ ≤ 34; omega, by show _ ≤ 323; omega⟩ ?_
          refine W.eq (g2 := F0 m 89 ls [.ref (E (300 + ((K).getD i4 0 + 128))), .ref (α 1 3), .int (a3)]) rfl ?_
          refine gc (ci := 14) hx hb hown hG cl_J17 (hG.boxR (hT_fs.le hki4)) (hts _ q655) dX1_prices_89 ?_
          refine pcV (As := []) (rest := [.ref (α 1 3), .int (a3)]) hS0 (met_intValue_c l D E ((K).getD i4 0) (hT_fs.le hki4)) q656 q657 q658 q125 q659 hd_J17_intValue ⟨Nat.le_of_ble_eq_true rfl, Nat.le_of_ble_eq_true rfl⟩ hG (hG.boxR (hT_fs.le hki4)) trivial rfl hl.1 rfl (Nat.le_of_ble_eq_true rfl) dX1_prices_92 ⟨by show _ ≤ 34; omega, by show _ ≤ 323; omega⟩ ?_
          refine W.eq (g2 := F0 m 95 ls [.int (nI ((K).getD i4 0)), .ref (α 1 3), .int (a3)]) rfl ?_
          refine pcF (x := xL_get) (ci := 13) (As := [.int (nI ((K).getD i4 0))]) (rest := [.int (a3)]) hG.fw_get hS0 (met_xl_get l D E (j := 3) (by decide) ((K).getD i4 0) (hcn.w g2)) q344 q347 q349 q103 q351 hd_xL_get ⟨Nat.le_of_ble_eq_true rfl, Nat.le_of_ble_eq_true rfl⟩ hG cl_J2 (hX.lsR hG (j := 3) (by decide)) hX rfl hl.1 rfl (Nat.le_of_ble_eq_true rfl) dX1_prices_95 ⟨by show _ ≤ 34; omega, by show _ ≤ 323; omega⟩ ?_
          refine W.eq (g2 := F0 m 100 ls [.ref (α 5 ((K).getD i4 0)), .int (a3)]) rfl ?_
          refine gc (ci := 8) hx hb hown hG cl_X10 (rcv hG cl_X10 (hX.wd (hcn.w g2))) (hts _ q369) dX1_prices_100 ?_
          refine gfN (v := .int (wPrice σ2 ((K).getD i4 0))) (C := RX10) (T := TX10) (N := 12) (k := 9) hx hb hts hown hG cl_X10 in_X10 (hX.wd (hcn.w g2)) (by decide) q1029 rfl dX1_prices_103 ?_
          refine lv_iadd hx hb dX1_prices_106 ?_
          refine lv_istore_n (lv' := [(3, .int (a3 + (wPrice σ2 ((K).getD i4 0)))), (5, .ref (q40)), (0, .ref (α 0 0)), (1, .ref (q0)), (2, .int (a)), (4, .int (nI i4))]) hx hb dX1_prices_107 rfl hl (Nat.le_of_ble_eq_true rfl) rfl (fun ls hl => ?_)
          refine lv_iinc (v := nI (i4 + 1)) (lv' := [(4, .int (nI (i4 + 1))), (3, .int (a3 + (wPrice σ2 ((K).getD i4 0)))), (5, .ref (q40)), (0, .ref (α 0 0)), (1, .ref (q0)), (2, .int (a))]) hx hb dX1_prices_108 hl (k := 5) rfl (nI_1 i4) (Nat.le_of_ble_eq_true rfl) rfl (fun ls hl => ?_)
          refine lv_goto (tgt := 5) hx hb dX1_prices_111 (by decide) ?_
          exact W.widen (by show _ ≤ _; omega) (by show _ ≤ _; omega) (ih (i4 + 1) (a3 + (wPrice σ2 ((K).getD i4 0))) σ2 (lk_st hn) hR _ _ _ hcn hX hFa (fun q z => by have := hFb q z; omega) hd_fs hT_fs hS ls (lv_sub hl [3, 4, 5, 1, 0] rfl))
        · rw [if_pos c4] at hR
          refine lv_iconst (v := (-1)) hx hb dX1_prices_54 (by decide) ?_
          exact g_iret hx hb hr hlocks hS ⟨by show _ ≤ 34; omega, by show _ ≤ 323; omega⟩ dX1_prices_55 (by cases hR; exact ⟨rfl, (hX.mono (fun q _ z => hFa q z) (fN_E hFE hG0.2.2.1)), hcn⟩)
  unfold fX1_prices at hR
  refine lv_iconst (v := 0) hx hb dX1_prices_0 (by decide) ?_
  refine lv_istore_n (lv' := [(3, .int 0), (0, .ref (α 0 0)), (1, .ref (q0)), (2, .int (a))]) hx hb dX1_prices_1 rfl hl (Nat.le_of_ble_eq_true rfl) rfl (fun ls hl => ?_)
  refine lv_iconst (v := 0) hx hb dX1_prices_2 (by decide) ?_
  refine lv_istore (lv' := [(4, .int 0), (3, .int 0), (0, .ref (α 0 0)), (1, .ref (q0)), (2, .int (a))]) hx hb dX1_prices_3 hl (Nat.le_of_ble_eq_true rfl) rfl (fun ls hl => ?_)
  refine W.widen (k := 0 + 0 * 2) (n := 0 + 0 * 19) (by show _ ≤ _; omega) (by show _ ≤ _; omega) ?_
  refine hL5  _ (fun a6 σ3 H1 locs1 Fc ls hR hcn hX hFa hFb hd_fs hT_fs hS hl => ?_) K.length 0 0 σ (Nat.zero_add _) hR _ _ _ hcn hX hFa (fun q z => by have := hFb q z; omega) hd_fs hT_fs hS ls (lv_sub hl [2, 3, 4, 1, 0] rfl)
  try dsimp only at hR
  have hG := gE.ofS hG0 hS hFE
  refine lv_iload_n hx hb dX1_prices_114 rfl (lv_at hl 0 rfl) ?_
  exact g_iret hx hb hr hlocks hS ⟨by show _ ≤ 34; omega, by show _ ≤ 323; omega⟩ dX1_prices_115 (by cases hR; exact ⟨rfl, (hX.mono (fun q _ z => hFa q z) (fN_E hFE hG0.2.2.1)), hcn⟩)

def fX1_wouldLose (σ : St) (a : Int32) (b : Int32) : Option (Nat × Int32 × St) :=
  (if 0 ≤ a ∧ a < nI (nP σ) then (if (tod σ) ≤ b ∧ b ≤ 365 then (Option.bind (fX1_fall σ ((Int32.toNatClampNeg a)) ((Int32.toNatClampNeg b))) (fun (r3 : Int32 × St) => (fun (σ1 : St) => (fun (v1 : Int32) => (if (pOff σ ((Int32.toNatClampNeg a)) ((Int32.toNatClampNeg b))) &&& 1 = (pOff σ ((Int32.toNatClampNeg a)) ((Int32.toNatClampNeg b))) then (fun (σ2 : St) => (fun (σ3 : St) => (some (0, v1, σ3))) (fX1_restore σ2 σ)) (sO σ1 ((Int32.toNatClampNeg a)) ((Int32.toNatClampNeg b)) (pOff σ ((Int32.toNatClampNeg a)) ((Int32.toNatClampNeg b)))) else none)) (r3.1)) (r3.2))) else (some (2, 0, σ))) else (some (1, 0, σ)))
set_option maxHeartbeats 4000000 in
set_option maxRecDepth 100000 in
theorem met_X1_wouldLose (l : Launch) (D : va_G) (E : Nat → Nat) (hlf : l.stackTraces = false) {α : Nat → Nat → Nat} {F : Nat → Prop} {σ : St} (a : Int32) (b : Int32) (h0 : 0 ≤ tod σ) {r : Nat × Int32 × St} (hR : fX1_wouldLose σ a b = some r) : XM l D E yX1_wouldLose cX1_wouldLose 7 (Option.some Jvm.ClassFile.FieldType.int) 435 9353 63 1980 [.ref (α 0 0), .int (a), .int (b)] (RX D E α F σ) F F (fun sz v h => r.1 = 0 ∧ v = some (.int r.2.1) ∧ ∃ α1 : Nat → Nat → Nat, α1 0 0 = α 0 0 ∧ RX D E α1 (fN F sz) r.2.2 h) (fun sz X h => X = exN r.1 ∧ r.1 ≠ 0 ∧ RX D E α (fN F sz) σ h) := by
  refine XM.start (by decide) (Nat.le_of_ble_eq_true rfl) ?_
  intro p e s m below meth c ls hx hb hr hml hown hlocks hex hts hG hX hS hl
  have hown : s.vm.findClass RX1 = some m.cls := hown
  have hS0 : xS p m c cX1_wouldLose 7 s _ RX1 := ⟨hx, hb, hml, hown, hts⟩
  have hl : lv_has ls 7 [(0, .ref (α 0 0)), (1, .int (a)), (2, .int (b))] := hl
  have hG0 := hG
  have hX0 := hX
  have hb0P := hX0.nP10
  have hb0B := hX0.nB6
  have hb0W := hX0.nW14
  have hFE := hX.fE
  obtain ⟨Fc, hX, hFn⟩ := hX.nar
  have hFa : ∀ q, Fc q → fN F s.heap.size q := fun q z => Or.inl (hFn q z).1
  have hFb : ∀ q, Fc q → q < s.heap.size := fun q z => (hFn q z).2
  have hcn : cnt σ σ := cnt.rf
  unfold fX1_wouldLose at hR
  refine lv_aload_n hx hb dX1_wouldLose_0 rfl (lv_at hl 0 rfl) ?_
  refine lv_iload_n hx hb dX1_wouldLose_1 rfl (lv_at hl 1 rfl) ?_
  have hB := hS.1
  refine xcV (As := [.int (a)]) (rest := []) hS0 (met_X1_playerAt l D E hlf a _) q944 q946 qs40 q100 q947 hd_X1_playerAt ⟨Nat.le_of_ble_eq_true rfl, Nat.le_of_ble_eq_true rfl⟩ hG (rcv hG cl_X1 hX.ag) ⟨rfl, hX⟩ rfl hl.1 rfl (Nat.le_of_ble_eq_true rfl) dX1_wouldLose_2 ⟨Nat.le_of_ble_eq_true rfl, Nat.le_of_ble_eq_true rfl⟩ hS (fun q h => h.elim) (fun q h => h.elim) (fun X ce q9 H1 locs1 hP hz hk hS9 h1 h2 h3 => ?_) (fun v H1 locs1 hP hz hk hS9 => ?_)
  · obtain ⟨rfl, hc9⟩ := hP
    have hS := hS9
    clear hS9
    rw [if_neg hc9] at hR
    exact x_out hex hlocks h1 h2 h3 hS ⟨Nat.le_of_ble_eq_true rfl, Nat.le_of_ble_eq_true rfl⟩ (by cases hR; exact ⟨rfl, Nat.succ_ne_zero _, ((hX.kept (fun q h4 _ => hk q h4 id)).mono (fun q _ z => hFa q z) (fN_E hFE hG0.2.2.1))⟩)
  · obtain ⟨rfl, hc9, rfl⟩ := hP
    have hS := hS9
    clear hS9
    rw [if_pos hc9] at hR
    have k1 := hc9
    have nk1 := ck_ix k1 (by have := hX.nP10; have := hX.nW14; have := hX.nB6; omega)
    refine W.eq (g2 := F0 m 5 ls [.ref (α 3 (Int32.toNatClampNeg a))]) rfl ?_
    refine lv_astore_n (lv' := [(3, .ref (α 3 (Int32.toNatClampNeg a))), (0, .ref (α 0 0)), (1, .int (a)), (2, .int (b))]) hx hb dX1_wouldLose_5 rfl hl (Nat.le_of_ble_eq_true rfl) rfl (fun ls hl => ?_)
    refine lv_iload_n hx hb dX1_wouldLose_6 rfl (lv_at hl 3 rfl) ?_
    refine lv_aload_n hx hb dX1_wouldLose_7 rfl (lv_at hl 1 rfl) ?_
    refine gf (v := .int (tod σ)) (C := RX1) (T := TX1) (N := 6) (k := 5) hx hb hts hown hG cl_X1 in_X1 hX.ag (by decide) q308 rfl dX1_wouldLose_8 ?_
    refine lv_sipush (v := 365) hx hb dX1_wouldLose_11 (by decide) ?_
    have hB := hS.1
    refine xcS (As := [.int (b), .int (tod σ), .int 365]) (rest := []) hS0 (met_X1_mustBeIn l D E hlf b (tod σ) 365 _) q860 q861 q100 q862 hd_X1_mustBeIn ⟨Nat.le_of_ble_eq_true rfl, Nat.le_of_ble_eq_true rfl⟩ hG rfl rfl hl.1 rfl (Nat.le_of_ble_eq_true rfl) dX1_wouldLose_14 ⟨Nat.le_of_ble_eq_true rfl, Nat.le_of_ble_eq_true rfl⟩ hS (fun q h => h.elim) (fun q h => h.elim) (fun X ce q9 H1 locs1 hP hz hk hS9 h1 h2 h3 => ?_) (fun v H1 locs1 hP hz hk hS9 => ?_)
    · obtain ⟨rfl, hc9⟩ := hP
      have hS := hS9
      clear hS9
      rw [if_neg hc9] at hR
      exact x_out hex hlocks h1 h2 h3 hS ⟨Nat.le_of_ble_eq_true rfl, Nat.le_of_ble_eq_true rfl⟩ (by cases hR; exact ⟨rfl, Nat.succ_ne_zero _, ((hX.kept (fun q h4 _ => hk q h4 id)).mono (fun q _ z => hFa q z) (fN_E hFE hG0.2.2.1))⟩)
    · obtain ⟨rfl, hc9, rfl⟩ := hP
      have hS := hS9
      clear hS9
      rw [if_pos hc9] at hR
      have k2 := hc9
      have nk2 := mb_ix (n := 365) (by decide) ⟨Int32.le_trans h0 k2.1, k2.2⟩
      refine W.eq (g2 := F0 m 17 ls []) rfl ?_
      refine lv_aload_n hx hb dX1_wouldLose_17 rfl (lv_at hl 1 rfl) ?_
      have hB := hS.1
      refine gcV (As := []) (rest := []) hS0 (met_X1_copies l D E ) q1485 q1487 qs50 q100 q1488 hd_X1_copies ⟨Nat.le_of_ble_eq_true rfl, Nat.le_of_ble_eq_true rfl⟩ hG (rcv hG cl_X1 hX.ag) hX rfl hl.1 rfl (Nat.le_of_ble_eq_true rfl) dX1_wouldLose_18 ⟨Nat.le_of_ble_eq_true rfl, Nat.le_of_ble_eq_true rfl⟩ hS (fun q h => h.elim) (fun q h => h.elim) (fun v H1 locs1 hP hz hk hS => ?_)
      obtain ⟨q18, rfl, hT9⟩ := hP
      have hX := hX.kept (fun q h4 _ => hk q h4 id)
      have hG := gE.ofS hG0 hS hFE
      obtain ⟨lo_rg18, hi_rg18, hge_rg18, hT_rg18, hd_rg18⟩ : ∃ lo hi : Nat, s.heap.size ≤ lo ∧ LVW D E lo hi q18 ((σ, nW σ)) H1 ∧ (∀ q, Fc q → q < lo ∨ hi ≤ q) := ⟨_, _, hB, hT9, (fun q z => Or.inl (by have := hFb q z; omega))⟩
      refine W.eq (g2 := F0 m 21 ls [.ref (q18)]) rfl ?_
      refine lv_astore (lv' := [(4, .ref (q18)), (3, .ref (α 3 (Int32.toNatClampNeg a))), (0, .ref (α 0 0)), (1, .int (a)), (2, .int (b))]) hx hb dX1_wouldLose_21 hl (Nat.le_of_ble_eq_true rfl) rfl (fun ls hl => ?_)
      refine lv_aload_n hx hb dX1_wouldLose_23 rfl (lv_at hl 1 rfl) ?_
      refine gfN (v := .ref (α 4 ((Int32.toNatClampNeg a)))) (C := RX6) (T := TX6) (N := 7) (k := 6) hx hb hts hown hG cl_X6 in_X6 (hX.pl nk1.2) (by decide) q920 rfl dX1_wouldLose_24 ?_
      refine lv_iload_n hx hb dX1_wouldLose_27 rfl (lv_at hl 4 rfl) ?_
      refine lv_eq nk2.1 ?_
      refine gaZ (N := 366) (k := (Int32.toNatClampNeg b)) hx hb hG (hX.off nk1.2) nk2.2 (by decide) dX1_wouldLose_28 ?_
      refine lv_istore (lv' := [(5, .int (pOff σ ((Int32.toNatClampNeg a)) ((Int32.toNatClampNeg b)))), (4, .ref (q18)), (3, .ref (α 3 (Int32.toNatClampNeg a))), (0, .ref (α 0 0)), (1, .int (a)), (2, .int (b))]) hx hb dX1_wouldLose_29 hl (Nat.le_of_ble_eq_true rfl) rfl (fun ls hl => ?_)
      refine lv_aload_n hx hb dX1_wouldLose_31 rfl (lv_at hl 3 rfl) ?_
      refine lv_iload_n hx hb dX1_wouldLose_32 rfl (lv_at hl 4 rfl) ?_
      refine lv_eq nk1.1 ?_
      refine lv_iload_n hx hb dX1_wouldLose_33 rfl (lv_at hl 5 rfl) ?_
      refine lv_eq nk2.1 ?_
      rcases hc_r3 : (fX1_fall σ ((Int32.toNatClampNeg a)) ((Int32.toNatClampNeg b))) with _ | r3
      · rw [hc_r3] at hR
        cases hR
      rw [hc_r3] at hR
      try dsimp only [Option.bind] at hR
      have hB := hS.1
      have hL_rg18 : hi_rg18 ≤ _ := hT_rg18.lt
      refine gcV (As := [.int (nI ((Int32.toNatClampNeg a))), .int (nI ((Int32.toNatClampNeg b)))]) (rest := []) hS0 (met_X1_fall l D E ((Int32.toNatClampNeg a)) ((Int32.toNatClampNeg b)) nk1.2 nk2.2 hc_r3) q1092 q1094 qs45 q100 q1095 hd_X1_fall ⟨Nat.le_of_ble_eq_true rfl, Nat.le_of_ble_eq_true rfl⟩ hG (rcv hG cl_X1 hX.ag) hX rfl hl.1 rfl (Nat.le_of_ble_eq_true rfl) dX1_wouldLose_34 ⟨Nat.le_of_ble_eq_true rfl, Nat.le_of_ble_eq_true rfl⟩ hS (fun q h => hFa q h) (fun q h => hFa q h) (fun v H1 locs1 hP hz hk hS => ?_)
      obtain ⟨rfl, hZ, hc8⟩ := hP
      have hT_rg18 : LVW D E lo_rg18 hi_rg18 q18 ((σ, nW σ)) H1 := hT_rg18.kept (fun q h8 h9 => hk q (Nat.lt_of_lt_of_le h9 hT_rg18.lt) (fun h7 => by have e8 := hd_rg18 _ h7; omega)) (by omega)
      obtain ⟨Fd, hX, hFn⟩ := hZ.nar
      have hd_rg18 : ∀ q, Fd q → q < lo_rg18 ∨ hi_rg18 ≤ q := fun q z => (hFn _ z).1.elim (hd_rg18 q) (fun z9 => Or.inr (Nat.le_trans hL_rg18 z9))
      have hFa : ∀ q, Fd q → fN F s.heap.size q := fun q z => (hFn q z).1.elim (hFa q) (fun z9 => Or.inr (Nat.le_trans hB z9))
      have hFb : ∀ q, Fd q → q < H1.size := fun q z => (hFn q z).2
      clear hFn
      generalize Fd = Fc at hX hFa hFb hd_rg18
      have hG := gE.ofS hG0 hS hFE
      have hcn := hc8.tr hcn
      generalize hv_σ1 : r3.2 = σ1 at hR hX hcn ⊢
      generalize hv_v1 : r3.1 = v1 at hR hX hcn ⊢
      try dsimp only at hR
      refine W.eq (g2 := F0 m 37 ls [.int (v1)]) rfl ?_
      refine lv_istore (lv' := [(6, .int (v1)), (5, .int (pOff σ ((Int32.toNatClampNeg a)) ((Int32.toNatClampNeg b)))), (4, .ref (q18)), (3, .ref (α 3 (Int32.toNatClampNeg a))), (0, .ref (α 0 0)), (1, .int (a)), (2, .int (b))]) hx hb dX1_wouldLose_37 hl (Nat.le_of_ble_eq_true rfl) rfl (fun ls hl => ?_)
      refine lv_aload_n hx hb dX1_wouldLose_39 rfl (lv_at hl 3 rfl) ?_
      refine gfN (v := .ref (α 4 ((Int32.toNatClampNeg a)))) (C := RX6) (T := TX6) (N := 7) (k := 6) hx hb hts hown hG cl_X6 in_X6 (hX.pl (hcn.p nk1.2)) (by decide) q920 rfl dX1_wouldLose_40 ?_
      refine lv_iload_n hx hb dX1_wouldLose_43 rfl (lv_at hl 6 rfl) ?_
      refine lv_eq nk2.1 ?_
      refine lv_iload hx hb dX1_wouldLose_44 (lv_at hl 1 rfl) ?_
      rcases (Decidable.em ((pOff σ ((Int32.toNatClampNeg a)) ((Int32.toNatClampNeg b))) &&& 1 = (pOff σ ((Int32.toNatClampNeg a)) ((Int32.toNatClampNeg b))))).symm with g4 | g4
      · rw [if_neg g4] at hR
        cases hR
      rw [if_pos g4] at hR
      refine paZ (N := 366) (k := (Int32.toNatClampNeg b)) (v := pOff σ ((Int32.toNatClampNeg a)) ((Int32.toNatClampNeg b))) (nar_of g4) hx hb hG hS (hX.off (hcn.p nk1.2)) (hFa _ (hX.ofF (hcn.p nk1.2))) (hFa _ (hX.ofF (hcn.p nk1.2))) nk2.2 (by decide) dX1_wouldLose_46 (fun H1 locs1 he hz hq hS => ?_)
      have hT_rg18 : LVW D E lo_rg18 hi_rg18 q18 ((σ, nW σ)) H1 := hT_rg18.kept (fun q h8 h9 => hq q (fun e9 => by have e8 := hd_rg18 _ (hX.ofF (hcn.p nk1.2)); omega)) (by omega)
      have hX := hX.Pof (hcn.p nk1.2) he hq
      have hG := gE.ofS hG0 hS hFE
      obtain ⟨σ2, hσ2⟩ : ∃ x, x = sO σ1 ((Int32.toNatClampNeg a)) ((Int32.toNatClampNeg b)) (pOff σ ((Int32.toNatClampNeg a)) ((Int32.toNatClampNeg b))) := ⟨_, rfl⟩
      rw [← hσ2] at hR hX
      have hcn : cnt σ2 σ := by rw [hσ2]; exact hcn.sO
      try dsimp only at hR
      refine lv_aload_n hx hb dX1_wouldLose_47 rfl (lv_at hl 4 rfl) ?_
      refine lv_aload hx hb dX1_wouldLose_48 (lv_at hl 2 rfl) ?_
      have hB := hS.1
      have hL_rg18 : hi_rg18 ≤ _ := hT_rg18.lt
      refine gcV (As := [.ref (q18)]) (rest := []) hS0 (met_restoreW l D E lo_rg18 hi_rg18 q18 (nW σ) σ hcn.2.2.symm hX0.ri hcn.sy (Nat.le_trans hG0.2.2.1 hge_rg18) hd_rg18) q1495 q1497 qs51 q100 q1498 hd_X1_restore ⟨Nat.le_of_ble_eq_true rfl, Nat.le_of_ble_eq_true rfl⟩ hG (rcv hG cl_X1 hX.ag) ⟨hX, hT_rg18⟩ rfl hl.1 rfl (Nat.le_of_ble_eq_true rfl) dX1_wouldLose_50 ⟨Nat.le_of_ble_eq_true rfl, Nat.le_of_ble_eq_true rfl⟩ hS (fun q h => by first | exact hFa q h | exact h.elim (hFa q) (fun h => Or.inr (by have h9 := hge_rg18; omega))) (fun q h => by first | exact hFa q h | exact h.elim (hFa q) (fun h => Or.inr (by have h9 := hge_rg18; omega))) (fun v H1 locs1 hP hz hk hS => ?_)
      obtain ⟨rfl, α9, hα9, hZ, hc9⟩ := hP
      have hl : lv_has ls 7 [(6, .int (v1)), (5, .int (pOff σ ((Int32.toNatClampNeg a)) ((Int32.toNatClampNeg b)))), (4, .ref (q18)), (3, .ref (α9 3 (Int32.toNatClampNeg a))), (0, .ref (α9 0 0)), (1, .int (a)), (2, .int (b))] := by
        rw [hα9 0 0 (by decide), hα9 3 (Int32.toNatClampNeg a) (by decide)]
        exact lv_sub hl [0, 1, 2, 3, 4, 5, 6] rfl
      obtain ⟨α0, hα0e⟩ : ∃ x, x = α := ⟨_, rfl⟩
      rw [← hα0e] at hα9
      have hcn : cnt (fX1_restore σ2 σ) σ := hc9.tr hcn
      obtain ⟨α, hα1, hX, hl⟩ : ∃ α, KA 5 α0 α ∧ RX D E α _ (fX1_restore σ2 σ) H1 ∧ lv_has ls 7 [(6, .int (v1)), (5, .int (pOff σ ((Int32.toNatClampNeg a)) ((Int32.toNatClampNeg b)))), (4, .ref (q18)), (3, .ref (α 3 (Int32.toNatClampNeg a))), (0, .ref (α 0 0)), (1, .int (a)), (2, .int (b))] := ⟨α9, hα9, hZ, hl⟩
      have hα1 := (hα1 0 0 (by decide)).trans (congrFun (congrFun hα0e 0) 0)
      obtain ⟨σ3, hσ3⟩ : ∃ x, x = fX1_restore σ2 σ := ⟨_, rfl⟩
      rw [← hσ3] at hR hX hcn
      try dsimp only at hR
      obtain ⟨Fd, hX, hFn⟩ := hX.nar
      have hFa : ∀ q, Fd q → fN F s.heap.size q := fun q h7 => by
        rcases (hFn q h7).1 with (h8 | h8) | h8
        · exact hFa q h8
        · exact Or.inr (by have := hge_rg18; omega)
        · exact Or.inr (by have := hB; omega)
      have hFb : ∀ q, Fd q → q < H1.size := fun q z => (hFn q z).2
      clear hFn
      generalize Fd = Fc at hX hFa hFb
      have hG := gE.ofS hG0 hS hFE
      refine W.eq (g2 := F0 m 53 ls []) rfl ?_
      refine lv_iload hx hb dX1_wouldLose_53 (lv_at hl 0 rfl) ?_
      exact vx_ret (g_iret hx hb hr hlocks hS ⟨Nat.le_of_ble_eq_true rfl, Nat.le_of_ble_eq_true rfl⟩ dX1_wouldLose_55 (by cases hR; exact ⟨rfl, rfl, α, hα1, hX.mono (fun q _ z => hFa q z) (fN_E hFE hG0.2.2.1)⟩))

def fX1_plan_L23 (σ : St) (a : Int32) (z : Bool) (r2 : List Nat) (κ : Int32 → Int32 → St → Option (Nat × Int32 × St)) : Nat → Int32 → Int32 → Nat → St → Option (Nat × Int32 × St)
  | 0, a4, a5, a6, σ1 => none
  | n + 1, a4, a5, a6, σ1 => (if a6 ≤ 8 then (if (1 <<< ((nI r2.length) &&& 31)) ≤ (nI a6) then κ a4 a5 σ1 else (Option.bind (fX1_prices σ1 (nI a6) r2) (fun (r4 : Int32 × St) => (fun (σ2 : St) => (fun (v2 : Int32) => (fun (σ3 : St) => (if v2 ≤ a4 then fX1_plan_L23 σ a z r2 κ n (if a4 < v2 then v2 else a4) a5 (a6 + 1) σ3 else fX1_plan_L23 σ a z r2 κ n (if a4 < v2 then v2 else a4) (nI a6) (a6 + 1) σ3)) (fX1_restore σ2 σ1)) (r4.1)) (r4.2)))) else none)
def fX1_plan_L94 (σ : St) (a : Int32) (z : Bool) (r2 : List Nat) (a6 : Int32) (a7 : Int32) (κ : Int32 → St → Option (Nat × Int32 × St)) : Nat → Nat → Int32 → St → Option (Nat × Int32 × St)
  | 0, i7, a6_94, σ5 => κ a6_94 σ5
  | n + 1, i7, a6_94, σ5 => (if ((fX1_has a7 (nI i7))) = true then fX1_plan_L94 σ a z r2 a6 a7 κ n (i7 + 1) (a6_94 ||| (1 <<< ((nI ((r2).getD i7 0)) &&& 31))) σ5 else fX1_plan_L94 σ a z r2 a6 a7 κ n (i7 + 1) (a6_94 ||| 0) σ5)
def fX1_plan (σ : St) (a : Int32) (z : Bool) : Option (Nat × Int32 × St) :=
  (if 0 ≤ a ∧ a ≤ 365 then (Option.bind (fX1_firsts σ a) (fun (r2 : List Nat) => fX1_plan_L23 σ a z r2 (fun (a6 : Int32) (a7 : Int32) (σ4 : St) => fX1_plan_L94 σ a z r2 a6 a7 (fun (a9 : Int32) (σ6 : St) => (if z = true then (some (0, a9, σ6)) else (some (0, a6, σ6)))) r2.length 0 0 σ4) 9 0 0 1 σ)) else (some (2, 0, σ)))
set_option maxHeartbeats 4000000 in
set_option maxRecDepth 100000 in
theorem met_X1_plan (l : Launch) (D : va_G) (E : Nat → Nat) (hlf : l.stackTraces = false) {α0 : Nat → Nat → Nat} {F : Nat → Prop} {σ : St} (a : Int32) (z : Bool)  {r : Nat × Int32 × St} (hR : fX1_plan σ a z = some r) : XM l D E yX1_plan cX1_plan 9 (Option.some Jvm.ClassFile.FieldType.int) 436 9373 602 19563 [.ref (α0 0 0), .int (a), .int (bI z)] (RX D E α0 F σ) F F (fun sz v h => r.1 = 0 ∧ v = some (.int r.2.1) ∧ ∃ α01 : Nat → Nat → Nat, α01 0 0 = α0 0 0 ∧ RX D E α01 (fN F sz) r.2.2 h) (fun sz X h => X = exN r.1 ∧ r.1 ≠ 0 ∧ RX D E α0 (fN F sz) σ h) := by
  refine XM.start (by decide) (Nat.le_of_ble_eq_true rfl) ?_
  intro p e s m below meth c ls hx hb hr hml hown hlocks hex hts hG hX hS hl
  have hown : s.vm.findClass RX1 = some m.cls := hown
  have hS0 : xS p m c cX1_plan 9 s _ RX1 := ⟨hx, hb, hml, hown, hts⟩
  obtain ⟨α, hαe⟩ : ∃ α, α = α0 := ⟨_, rfl⟩
  have hα : KA 5 α0 α := by rw [hαe]; exact KA.rf
  rw [← hαe] at hX hl
  have hl : lv_has ls 9 [(0, .ref (α 0 0)), (1, .int (a)), (2, .int (bI z))] := hl
  have hG0 := hG
  have hX0 := hX
  have hb0P := hX0.nP10
  have hb0B := hX0.nB6
  have hb0W := hX0.nW14
  have hFE := hX.fE
  obtain ⟨Fc, hX, hFn⟩ := hX.nar
  have hFa : ∀ q, Fc q → fN F s.heap.size q := fun q z => Or.inl (hFn q z).1
  have hFb : ∀ q, Fc q → q < s.heap.size := fun q z => (hFn q z).2
  have hcn : cnt σ σ := cnt.rf
  have hL23 : ∀ (r2 : List Nat) (lo_rg10 : Nat) (hi_rg10 : Nat) (q10 : Nat) (hge_rg10 : s.heap.size ≤ lo_rg10) (κ : Int32 → Int32 → St → Option (Nat × Int32 × St)) (hκ : ∀ (a4 : Int32) (a5 : Int32) (σ1 : St) (H : Heap) (locs : List Loc) (Fc : Nat → Prop) (α : Nat → Nat → Nat) (ls : Array Slot), κ a4 a5 σ1 = some r → KA 5 α0 α → cnt σ1 σ → RX D E α Fc σ1 H → (∀ q, Fc q → fN F s.heap.size q) → (∀ q, Fc q → q < H.size) → (∀ q, Fc q → q < lo_rg10 ∨ hi_rg10 ≤ q) → LVI D E lo_rg10 hi_rg10 q10 r2 H → xK F F s.heap H locs → lv_has ls 9 [(2, .int (bI z)), (3, .ref (q10)), (4, .int (a4)), (5, .int (a5))] → W p l e { frames := 436, cells := 602, slots := 19563, locals := 9373 } s m [(.ref (α0 0 0) : Value), .int (a), .int (bI z)].toArray below meth c H locs (17 + 520) (1509 + 16048) (vx_MQ below (qG F ((fun sz v h => r.1 = 0 ∧ v = some (.int r.2.1) ∧ ∃ α01 : Nat → Nat → Nat, α01 0 0 = α0 0 0 ∧ RX D E α01 (fN F sz) r.2.2 h) s.heap.size)) (qX F ((fun sz X h => X = exN r.1 ∧ r.1 ≠ 0 ∧ RX D E α0 (fN F sz) σ h) s.heap.size)) [(.ref (α0 0 0) : Value), .int (a), .int (bI z)].toArray s 602 19563 (fN F s.heap.size)) (F0 m 88 ls [])) (n : Nat) (a4 : Int32) (a5 : Int32) (a6 : Nat) (σ1 : St), fX1_plan_L23 σ a z r2 κ n a4 a5 a6 σ1 = some r → ∀ (H : Heap) (locs : List Loc) (Fc : Nat → Prop) (α : Nat → Nat → Nat), KA 5 α0 α → cnt σ1 σ → RX D E α Fc σ1 H → (∀ q, Fc q → fN F s.heap.size q) → (∀ q, Fc q → q < H.size) → (∀ q, Fc q → q < lo_rg10 ∨ hi_rg10 ≤ q) → LVI D E lo_rg10 hi_rg10 q10 r2 H → xK F F s.heap H locs → ∀ (ls : Array Slot), lv_has ls 9 [(0, .ref (α 0 0)), (2, .int (bI z)), (3, .ref (q10)), (4, .int (a4)), (5, .int (a5)), (6, .int (nI a6))] → W p l e { frames := 436, cells := 602, slots := 19563, locals := 9373 } s m [(.ref (α0 0 0) : Value), .int (a), .int (bI z)].toArray below meth c H locs (17 + a6 * 65) (1509 + a6 * 2006) (vx_MQ below (qG F ((fun sz v h => r.1 = 0 ∧ v = some (.int r.2.1) ∧ ∃ α01 : Nat → Nat → Nat, α01 0 0 = α0 0 0 ∧ RX D E α01 (fN F sz) r.2.2 h) s.heap.size)) (qX F ((fun sz X h => X = exN r.1 ∧ r.1 ≠ 0 ∧ RX D E α0 (fN F sz) σ h) s.heap.size)) [(.ref (α0 0 0) : Value), .int (a), .int (bI z)].toArray s 602 19563 (fN F s.heap.size)) (F0 m 23 ls []) := by
    intro r2 lo_rg10 hi_rg10 q10 hge_rg10 κ hκ n
    induction n with
    | zero =>
      intro a4 a5 a6 σ1 hR H locs Fc α hα hcn hX hFa hFb hd_rg10 hT_rg10 hS ls hl
      rw [fX1_plan_L23] at hR
      have hG := gE.ofS hG0 hS hFE
      cases hR
    | succ n ih =>
      intro a4 a5 a6 σ1 hR H locs Fc α hα hcn hX hFa hFb hd_rg10 hT_rg10 hS ls hl
      rw [fX1_plan_L23] at hR
      have hG := gE.ofS hG0 hS hFE
      refine lv_iload hx hb dX1_plan_23 (lv_at hl 5 rfl) ?_
      rcases (Decidable.em (a6 ≤ 8)).symm with hb_a6 | hb_a6
      · rw [if_neg hb_a6] at hR
        cases hR
      rw [if_pos hb_a6] at hR
      refine lv_iconst (v := 1) hx hb dX1_plan_25 (by decide) ?_
      refine lv_aload_n hx hb dX1_plan_26 rfl (lv_at hl 2 rfl) ?_
      refine pcF (x := xL_size) (ci := 13) (As := []) (rest := [.int 1, .int (nI a6)]) hG.fw_size hS0 (met_lvi_size l D E) q331 q334 q336 q103 q338 hd_xL_size ⟨Nat.le_of_ble_eq_true rfl, Nat.le_of_ble_eq_true rfl⟩ hG cl_J2 (LV.recv hG hT_rg10.1) hT_rg10 rfl hl.1 rfl (Nat.le_of_ble_eq_true rfl) dX1_plan_27 ⟨by show _ ≤ 602; omega, by show _ ≤ 19563; omega⟩ ?_
      refine W.eq (g2 := F0 m 32 ls [.int (nI r2.length), .int 1, .int (nI a6)]) rfl ?_
      refine lv_ishl hx hb dX1_plan_32 ?_
      refine lv_icmp_ge (tgt := 88) hx hb dX1_plan_33 (by decide) (fun c3 => ?_) (fun c3 => ?_)
      · rw [if_pos c3] at hR
        exact W.widen (by show _ ≤ _; omega) (by show _ ≤ _; omega) (hκ a4 a5 σ1 _ _ _ _ ls hR hα hcn hX hFa (fun q z => by have := hFb q z; omega) hd_rg10 hT_rg10 hS (lv_sub hl [1, 2, 3, 4] rfl))
      · rw [if_neg c3] at hR
        refine lv_aload_n hx hb dX1_plan_36 rfl (lv_at hl 0 rfl) ?_
        have hB := hS.1
        have hL_rg10 : hi_rg10 ≤ _ := hT_rg10.lt
        refine gcV (As := []) (rest := []) hS0 (met_X1_copies l D E ) q1485 q1487 qs50 q100 q1488 hd_X1_copies ⟨Nat.le_of_ble_eq_true rfl, Nat.le_of_ble_eq_true rfl⟩ hG (rcv hG cl_X1 hX.ag) hX rfl hl.1 rfl (Nat.le_of_ble_eq_true rfl) dX1_plan_37 ⟨by show _ ≤ 602; omega, by show _ ≤ 19563; omega⟩ hS (fun q h => h.elim) (fun q h => h.elim) (fun v H1 locs1 hP hz hk hS => ?_)
        obtain ⟨q37, rfl, hT9⟩ := hP
        have hT_rg10 : LVI D E lo_rg10 hi_rg10 q10 r2 H1 := hT_rg10.kept (fun q h8 h9 => hk q (Nat.lt_of_lt_of_le h9 hT_rg10.lt) id) (by omega)
        have hX := hX.kept (fun q h4 _ => hk q h4 id)
        have hG := gE.ofS hG0 hS hFE
        obtain ⟨lo_rg37, hi_rg37, hge_rg37, hT_rg37, hd_rg37, hne_rg10_rg37⟩ : ∃ lo hi : Nat, s.heap.size ≤ lo ∧ LVW D E lo hi q37 ((σ1, nW σ1)) H1 ∧ (∀ q, Fc q → q < lo ∨ hi ≤ q) ∧ (hi_rg10 ≤ lo ∨ hi ≤ lo_rg10) := ⟨_, _, hB, hT9, (fun q z => Or.inl (by have := hFb q z; omega)), Or.inl hL_rg10⟩
        refine W.eq (g2 := F0 m 40 ls [.ref (q37)]) rfl ?_
        have hri_rg37 := hX.ri
        have hcn0_rg37 := hcn
        refine lv_astore (lv' := [(7, .ref (q37)), (0, .ref (α 0 0)), (2, .int (bI z)), (3, .ref (q10)), (4, .int (a4)), (5, .int (a5)), (6, .int (nI a6))]) hx hb dX1_plan_40 hl (Nat.le_of_ble_eq_true rfl) rfl (fun ls hl => ?_)
        refine lv_aload_n hx hb dX1_plan_42 rfl (lv_at hl 1 rfl) ?_
        refine lv_aload_n hx hb dX1_plan_43 rfl (lv_at hl 3 rfl) ?_
        refine lv_iload hx hb dX1_plan_44 (lv_at hl 6 rfl) ?_
        rcases hc_r4 : (fX1_prices σ1 (nI a6) r2) with _ | r4
        · rw [hc_r4] at hR
          cases hR
        rw [hc_r4] at hR
        try dsimp only [Option.bind] at hR
        have hB := hS.1
        have hL_rg10 : hi_rg10 ≤ _ := hT_rg10.lt
        have hL_rg37 : hi_rg37 ≤ _ := hT_rg37.lt
        refine gcV (As := [.ref (q10), .int (nI a6)]) (rest := []) hS0 (met_X1_prices l D E q10 (nI a6) lo_rg10 hi_rg10 r2 hd_rg10 hc_r4) q1510 q1512 qs53 q100 q1513 hd_X1_prices ⟨Nat.le_of_ble_eq_true rfl, Nat.le_of_ble_eq_true rfl⟩ hG (rcv hG cl_X1 hX.ag) ⟨hX, hT_rg10⟩ rfl hl.1 rfl (Nat.le_of_ble_eq_true rfl) dX1_plan_46 ⟨by show _ ≤ 602; omega, by show _ ≤ 19563; omega⟩ hS (fun q h => hFa q h) (fun q h => hFa q h) (fun v H1 locs1 hP hz hk hS => ?_)
        obtain ⟨rfl, hZ, hc8⟩ := hP
        have hT_rg10 : LVI D E lo_rg10 hi_rg10 q10 r2 H1 := hT_rg10.kept (fun q h8 h9 => hk q (Nat.lt_of_lt_of_le h9 hT_rg10.lt) (fun h7 => by have e8 := hd_rg10 _ h7; omega)) (by omega)
        have hT_rg37 : LVW D E lo_rg37 hi_rg37 q37 ((σ1, nW σ1)) H1 := hT_rg37.kept (fun q h8 h9 => hk q (Nat.lt_of_lt_of_le h9 hT_rg37.lt) (fun h7 => by have e8 := hd_rg37 _ h7; omega)) (by omega)
        obtain ⟨Fd, hX, hFn⟩ := hZ.nar
        have hd_rg10 : ∀ q, Fd q → q < lo_rg10 ∨ hi_rg10 ≤ q := fun q z => (hFn _ z).1.elim (hd_rg10 q) (fun z9 => Or.inr (Nat.le_trans hL_rg10 z9))
        have hd_rg37 : ∀ q, Fd q → q < lo_rg37 ∨ hi_rg37 ≤ q := fun q z => (hFn _ z).1.elim (hd_rg37 q) (fun z9 => Or.inr (Nat.le_trans hL_rg37 z9))
        have hFa : ∀ q, Fd q → fN F s.heap.size q := fun q z => (hFn q z).1.elim (hFa q) (fun z9 => Or.inr (Nat.le_trans hB z9))
        have hFb : ∀ q, Fd q → q < H1.size := fun q z => (hFn q z).2
        clear hFn
        generalize Fd = Fc at hX hFa hFb hd_rg10 hd_rg37
        have hG := gE.ofS hG0 hS hFE
        have hcn := hc8.tr hcn
        generalize hv_σ2 : r4.2 = σ2 at hR hX hcn ⊢
        generalize hv_v2 : r4.1 = v2 at hR hX hcn ⊢
        try dsimp only at hR
        refine W.eq (g2 := F0 m 49 ls [.int (v2)]) rfl ?_
        refine lv_istore (lv' := [(8, .int (v2)), (7, .ref (q37)), (0, .ref (α 0 0)), (2, .int (bI z)), (3, .ref (q10)), (4, .int (a4)), (5, .int (a5)), (6, .int (nI a6))]) hx hb dX1_plan_49 hl (Nat.le_of_ble_eq_true rfl) rfl (fun ls hl => ?_)
        refine lv_aload_n hx hb dX1_plan_51 rfl (lv_at hl 2 rfl) ?_
        refine lv_aload hx hb dX1_plan_52 (lv_at hl 1 rfl) ?_
        have hB := hS.1
        have hL_rg10 : hi_rg10 ≤ _ := hT_rg10.lt
        have hL_rg37 : hi_rg37 ≤ _ := hT_rg37.lt
        refine gcV (As := [.ref (q37)]) (rest := []) hS0 (met_restoreW l D E lo_rg37 hi_rg37 q37 (nW σ1) σ1 (hcn.2.2.trans hcn0_rg37.2.2.symm).symm hri_rg37 (hcn0_rg37.tr hcn.sy) (Nat.le_trans hG0.2.2.1 hge_rg37) hd_rg37) q1495 q1497 qs51 q100 q1498 hd_X1_restore ⟨Nat.le_of_ble_eq_true rfl, Nat.le_of_ble_eq_true rfl⟩ hG (rcv hG cl_X1 hX.ag) ⟨hX, hT_rg37⟩ rfl hl.1 rfl (Nat.le_of_ble_eq_true rfl) dX1_plan_54 ⟨by show _ ≤ 602; omega, by show _ ≤ 19563; omega⟩ hS (fun q h => by first | exact hFa q h | exact h.elim (hFa q) (fun h => Or.inr (by have h9 := hge_rg37; omega))) (fun q h => by first | exact hFa q h | exact h.elim (hFa q) (fun h => Or.inr (by have h9 := hge_rg37; omega))) (fun v H1 locs1 hP hz hk hS => ?_)
        have hT_rg10 : LVI D E lo_rg10 hi_rg10 q10 r2 H1 := hT_rg10.kept (fun q h8 h9 => hk q (Nat.lt_of_lt_of_le h9 hT_rg10.lt) (fun h7 => by have e8 := hd_rg10 _ h7; omega)) (by omega)
        obtain ⟨rfl, α9, hα9, hZ, hc9⟩ := hP
        have hl : lv_has ls 9 [(8, .int (v2)), (7, .ref (q37)), (0, .ref (α9 0 0)), (2, .int (bI z)), (3, .ref (q10)), (4, .int (a4)), (5, .int (a5)), (6, .int (nI a6))] := by
          rw [hα9 0 0 (by decide)]
          exact lv_sub hl [0, 1, 2, 3, 4, 5, 6, 7] rfl
        have hα9 := hα.tr hα9
        have hcn : cnt (fX1_restore σ2 σ1) σ := hc9.tr hcn
        obtain ⟨α, hα1, hX, hl⟩ : ∃ α, KA 5 α0 α ∧ RX D E α _ (fX1_restore σ2 σ1) H1 ∧ lv_has ls 9 [(8, .int (v2)), (7, .ref (q37)), (0, .ref (α 0 0)), (2, .int (bI z)), (3, .ref (q10)), (4, .int (a4)), (5, .int (a5)), (6, .int (nI a6))] := ⟨α9, hα9, hZ, hl⟩
        have hα := hα1
        obtain ⟨σ3, hσ3⟩ : ∃ x, x = fX1_restore σ2 σ1 := ⟨_, rfl⟩
        rw [← hσ3] at hR hX hcn
        try dsimp only at hR
        obtain ⟨Fd, hX, hFn⟩ := hX.nar
        have hFa : ∀ q, Fd q → fN F s.heap.size q := fun q h7 => by
          rcases (hFn q h7).1 with (h8 | h8) | h8
          · exact hFa q h8
          · exact Or.inr (by have := hge_rg37; omega)
          · exact Or.inr (by have := hB; omega)
        have hFb : ∀ q, Fd q → q < H1.size := fun q z => (hFn q z).2
        have hd_rg10 : ∀ q, Fd q → q < lo_rg10 ∨ hi_rg10 ≤ q := fun q h7 => by
          rcases (hFn q h7).1 with (h8 | h8) | h8
          · exact hd_rg10 q h8
          · have h9 := hne_rg10_rg37; omega
          · have h9 := hL_rg10; omega
        clear hFn
        generalize Fd = Fc at hX hFa hFb hd_rg10
        have hG := gE.ofS hG0 hS hFE
        refine W.eq (g2 := F0 m 57 ls []) rfl ?_
        refine lv_iload hx hb dX1_plan_57 (lv_at hl 0 rfl) ?_
        refine lv_iload hx hb dX1_plan_59 (lv_at hl 5 rfl) ?_
        refine lv_icmp_le (tgt := 69) hx hb dX1_plan_61 (by decide) (fun c5 => ?_) (fun c5 => ?_)
        · rw [if_pos c5] at hR
          refine lv_iload hx hb dX1_plan_69 (lv_at hl 6 rfl) ?_
          refine lv_istore (lv' := [(5, .int (a5)), (8, .int (v2)), (7, .ref (q37)), (0, .ref (α 0 0)), (2, .int (bI z)), (3, .ref (q10)), (4, .int (a4)), (6, .int (nI a6))]) hx hb dX1_plan_71 hl (Nat.le_of_ble_eq_true rfl) rfl (fun ls hl => ?_)
          refine lv_iload hx hb dX1_plan_73 (lv_at hl 6 rfl) ?_
          refine lv_iload hx hb dX1_plan_75 (lv_at hl 1 rfl) ?_
          refine va_mmax hx hb (hml.trans hl.1.symm) hown (hts _ q423) (hts _ q249) (hts _ q107) (hts _ q250) (Nat.le_of_ble_eq_true rfl) (Nat.le_of_ble_eq_true rfl) (by show _ ≤ 602; omega) (by show _ ≤ 19563; omega) dX1_plan_77 ?_
          refine W.eq (g2 := F0 m 80 ls [.int (if a4 < v2 then v2 else a4)]) rfl ?_
          refine lv_istore (lv' := [(4, .int (if a4 < v2 then v2 else a4)), (5, .int (a5)), (8, .int (v2)), (7, .ref (q37)), (0, .ref (α 0 0)), (2, .int (bI z)), (3, .ref (q10)), (6, .int (nI a6))]) hx hb dX1_plan_80 hl (Nat.le_of_ble_eq_true rfl) rfl (fun ls hl => ?_)
          refine lv_iinc (v := nI (a6 + 1)) (lv' := [(6, .int (nI (a6 + 1))), (4, .int (if a4 < v2 then v2 else a4)), (5, .int (a5)), (8, .int (v2)), (7, .ref (q37)), (0, .ref (α 0 0)), (2, .int (bI z)), (3, .ref (q10))]) hx hb dX1_plan_82 hl (k := 7) rfl (nI_1 a6) (Nat.le_of_ble_eq_true rfl) rfl (fun ls hl => ?_)
          refine lv_goto (tgt := 23) hx hb dX1_plan_85 (by decide) ?_
          exact W.widen (by show _ ≤ _; omega) (by show _ ≤ _; omega) (ih (if a4 < v2 then v2 else a4) a5 (a6 + 1) σ3  hR _ _ _ _ hα hcn hX hFa (fun q z => by have := hFb q z; omega) hd_rg10 hT_rg10 hS ls (lv_sub hl [5, 6, 7, 1, 2, 0] rfl))
        · rw [if_neg c5] at hR
          refine lv_iload hx hb dX1_plan_64 (lv_at hl 7 rfl) ?_
          refine lv_goto (tgt := 71) hx hb dX1_plan_66 (by decide) ?_
          refine lv_istore (lv' := [(5, .int (nI a6)), (8, .int (v2)), (7, .ref (q37)), (0, .ref (α 0 0)), (2, .int (bI z)), (3, .ref (q10)), (4, .int (a4)), (6, .int (nI a6))]) hx hb dX1_plan_71 hl (Nat.le_of_ble_eq_true rfl) rfl (fun ls hl => ?_)
          refine lv_iload hx hb dX1_plan_73 (lv_at hl 6 rfl) ?_
          refine lv_iload hx hb dX1_plan_75 (lv_at hl 1 rfl) ?_
          refine va_mmax hx hb (hml.trans hl.1.symm) hown (hts _ q423) (hts _ q249) (hts _ q107) (hts _ q250) (Nat.le_of_ble_eq_true rfl) (Nat.le_of_ble_eq_true rfl) (by show _ ≤ 602; omega) (by show _ ≤ 19563; omega) dX1_plan_77 ?_
          refine W.eq (g2 := F0 m 80 ls [.int (if a4 < v2 then v2 else a4)]) rfl ?_
          refine lv_istore (lv' := [(4, .int (if a4 < v2 then v2 else a4)), (5, .int (nI a6)), (8, .int (v2)), (7, .ref (q37)), (0, .ref (α 0 0)), (2, .int (bI z)), (3, .ref (q10)), (6, .int (nI a6))]) hx hb dX1_plan_80 hl (Nat.le_of_ble_eq_true rfl) rfl (fun ls hl => ?_)
          refine lv_iinc (v := nI (a6 + 1)) (lv' := [(6, .int (nI (a6 + 1))), (4, .int (if a4 < v2 then v2 else a4)), (5, .int (nI a6)), (8, .int (v2)), (7, .ref (q37)), (0, .ref (α 0 0)), (2, .int (bI z)), (3, .ref (q10))]) hx hb dX1_plan_82 hl (k := 7) rfl (nI_1 a6) (Nat.le_of_ble_eq_true rfl) rfl (fun ls hl => ?_)
          refine lv_goto (tgt := 23) hx hb dX1_plan_85 (by decide) ?_
          exact W.widen (by show _ ≤ _; omega) (by show _ ≤ _; omega) (ih (if a4 < v2 then v2 else a4) (nI a6) (a6 + 1) σ3  hR _ _ _ _ hα hcn hX hFa (fun q z => by have := hFb q z; omega) hd_rg10 hT_rg10 hS ls (lv_sub hl [5, 6, 7, 1, 2, 0] rfl))
  have hL94 : ∀ (r2 : List Nat) (a6 : Int32) (a7 : Int32) (lo_rg10 : Nat) (hi_rg10 : Nat) (q10 : Nat) (hge_rg10 : s.heap.size ≤ lo_rg10) (κ : Int32 → St → Option (Nat × Int32 × St)) (hκ : ∀ (a6_94 : Int32) (σ5 : St) (H : Heap) (locs : List Loc) (Fc : Nat → Prop) (α : Nat → Nat → Nat) (ls : Array Slot), κ a6_94 σ5 = some r → KA 5 α0 α → cnt σ5 σ → RX D E α Fc σ5 H → (∀ q, Fc q → fN F s.heap.size q) → (∀ q, Fc q → q < H.size) → (∀ q, Fc q → q < lo_rg10 ∨ hi_rg10 ≤ q) → LVI D E lo_rg10 hi_rg10 q10 r2 H → xK F F s.heap H locs → lv_has ls 9 [(2, .int (bI z)), (4, .int (a6)), (6, .int (a6_94))] → W p l e { frames := 436, cells := 602, slots := 19563, locals := 9373 } s m [(.ref (α0 0 0) : Value), .int (a), .int (bI z)].toArray below meth c H locs (17 + 520) (1509 + 16048) (vx_MQ below (qG F ((fun sz v h => r.1 = 0 ∧ v = some (.int r.2.1) ∧ ∃ α01 : Nat → Nat → Nat, α01 0 0 = α0 0 0 ∧ RX D E α01 (fN F sz) r.2.2 h) s.heap.size)) (qX F ((fun sz X h => X = exN r.1 ∧ r.1 ≠ 0 ∧ RX D E α0 (fN F sz) σ h) s.heap.size)) [(.ref (α0 0 0) : Value), .int (a), .int (bI z)].toArray s 602 19563 (fN F s.heap.size)) (F0 m 146 ls [])) (n : Nat) (i7 : Nat) (a6_94 : Int32) (σ5 : St), i7 + n = r2.length → fX1_plan_L94 σ a z r2 a6 a7 κ n i7 a6_94 σ5 = some r → ∀ (H : Heap) (locs : List Loc) (Fc : Nat → Prop) (α : Nat → Nat → Nat), KA 5 α0 α → cnt σ5 σ → RX D E α Fc σ5 H → (∀ q, Fc q → fN F s.heap.size q) → (∀ q, Fc q → q < H.size) → (∀ q, Fc q → q < lo_rg10 ∨ hi_rg10 ≤ q) → LVI D E lo_rg10 hi_rg10 q10 r2 H → xK F F s.heap H locs → ∀ (ls : Array Slot), lv_has ls 9 [(2, .int (bI z)), (3, .ref (q10)), (4, .int (a6)), (5, .int (a7)), (6, .int (a6_94)), (7, .int (nI i7))] → W p l e { frames := 436, cells := 602, slots := 19563, locals := 9373 } s m [(.ref (α0 0 0) : Value), .int (a), .int (bI z)].toArray below meth c H locs (17 + 520) (1509 + 16048) (vx_MQ below (qG F ((fun sz v h => r.1 = 0 ∧ v = some (.int r.2.1) ∧ ∃ α01 : Nat → Nat → Nat, α01 0 0 = α0 0 0 ∧ RX D E α01 (fN F sz) r.2.2 h) s.heap.size)) (qX F ((fun sz X h => X = exN r.1 ∧ r.1 ≠ 0 ∧ RX D E α0 (fN F sz) σ h) s.heap.size)) [(.ref (α0 0 0) : Value), .int (a), .int (bI z)].toArray s 602 19563 (fN F s.heap.size)) (F0 m 94 ls []) := by
    intro r2 a6 a7 lo_rg10 hi_rg10 q10 hge_rg10 κ hκ n
    induction n with
    | zero =>
      intro i7 a6_94 σ5 hn hR H locs Fc α hα hcn hX hFa hFb hd_rg10 hT_rg10 hS ls hl
      rw [fX1_plan_L94] at hR
      have hG := gE.ofS hG0 hS hFE
      refine lv_iload hx hb dX1_plan_94 (lv_at hl 5 rfl) ?_
      refine lv_aload_n hx hb dX1_plan_96 rfl (lv_at hl 1 rfl) ?_
      refine pcF (x := xL_size) (ci := 13) (As := []) (rest := [.int (nI i7)]) hG.fw_size hS0 (met_lvi_size l D E) q331 q334 q336 q103 q338 hd_xL_size ⟨Nat.le_of_ble_eq_true rfl, Nat.le_of_ble_eq_true rfl⟩ hG cl_J2 (LV.recv hG hT_rg10.1) hT_rg10 rfl hl.1 rfl (Nat.le_of_ble_eq_true rfl) dX1_plan_97 ⟨by show _ ≤ 602; omega, by show _ ≤ 19563; omega⟩ ?_
      refine W.eq (g2 := F0 m 102 ls [.int (nI r2.length), .int (nI i7)]) rfl ?_
      refine lk_ge_out (k := i7) (N := r2.length) hx hb hn (tgt := 146) dX1_plan_102 (by decide) ?_
      exact hκ a6_94 σ5 _ _ _ _ ls hR hα hcn hX hFa (fun q z => by have := hFb q z; omega) hd_rg10 hT_rg10 hS (lv_sub hl [0, 2, 4] rfl)
    | succ n ih =>
      intro i7 a6_94 σ5 hn hR H locs Fc α hα hcn hX hFa hFb hd_rg10 hT_rg10 hS ls hl
      rw [fX1_plan_L94] at hR
      have hG := gE.ofS hG0 hS hFE
      refine lv_iload hx hb dX1_plan_94 (lv_at hl 5 rfl) ?_
      refine lv_aload_n hx hb dX1_plan_96 rfl (lv_at hl 1 rfl) ?_
      refine pcF (x := xL_size) (ci := 13) (As := []) (rest := [.int (nI i7)]) hG.fw_size hS0 (met_lvi_size l D E) q331 q334 q336 q103 q338 hd_xL_size ⟨Nat.le_of_ble_eq_true rfl, Nat.le_of_ble_eq_true rfl⟩ hG cl_J2 (LV.recv hG hT_rg10.1) hT_rg10 rfl hl.1 rfl (Nat.le_of_ble_eq_true rfl) dX1_plan_97 ⟨by show _ ≤ 602; omega, by show _ ≤ 19563; omega⟩ ?_
      refine W.eq (g2 := F0 m 102 ls [.int (nI r2.length), .int (nI i7)]) rfl ?_
      have hki7 : i7 < r2.length := lk_lt hn
      refine lk_ge_in (k := i7) (N := r2.length) hx hb hki7 (by have := hT_rg10.len; omega) (tgt := 146) dX1_plan_102 (by decide) ?_
      refine lv_iload hx hb dX1_plan_105 (lv_at hl 4 rfl) ?_
      refine lv_iload hx hb dX1_plan_107 (lv_at hl 3 rfl) ?_
      refine lv_iload hx hb dX1_plan_109 (lv_at hl 5 rfl) ?_
      refine pcS (As := [.int (a7), .int (nI i7)]) (rest := [.int (a6_94)]) hS0 (met_X1_has l D E a7 (nI i7)) q374 q375 q100 q376 hd_X1_has ⟨Nat.le_of_ble_eq_true rfl, Nat.le_of_ble_eq_true rfl⟩ hG trivial rfl hl.1 rfl (Nat.le_of_ble_eq_true rfl) dX1_plan_111 ⟨by show _ ≤ 602; omega, by show _ ≤ 19563; omega⟩ ?_
      refine W.eq (g2 := F0 m 114 ls [.int (bI ((fX1_has a7 (nI i7)))), .int (a6_94)]) rfl ?_
      refine lb_if_eq (tgt := 136) hx hb dX1_plan_114 (by decide) (fun c8 => ?_) (fun c8 => ?_)
      · rw [if_neg c8] at hR
        refine lv_iconst (v := 0) hx hb dX1_plan_136 (by decide) ?_
        refine lv_ior hx hb dX1_plan_137 ?_
        refine lv_istore (lv' := [(6, .int (a6_94 ||| 0)), (2, .int (bI z)), (3, .ref (q10)), (4, .int (a6)), (5, .int (a7)), (7, .int (nI i7))]) hx hb dX1_plan_138 hl (Nat.le_of_ble_eq_true rfl) rfl (fun ls hl => ?_)
        refine lv_iinc (v := nI (i7 + 1)) (lv' := [(7, .int (nI (i7 + 1))), (6, .int (a6_94 ||| 0)), (2, .int (bI z)), (3, .ref (q10)), (4, .int (a6)), (5, .int (a7))]) hx hb dX1_plan_140 hl (k := 5) rfl (nI_1 i7) (Nat.le_of_ble_eq_true rfl) rfl (fun ls hl => ?_)
        refine lv_goto (tgt := 94) hx hb dX1_plan_143 (by decide) ?_
        exact ih (i7 + 1) (a6_94 ||| 0) σ5 (lk_st hn) hR _ _ _ _ hα hcn hX hFa (fun q z => by have := hFb q z; omega) hd_rg10 hT_rg10 hS ls (lv_sub hl [2, 3, 4, 5, 1, 0] rfl)
      · rw [if_pos c8] at hR
        refine lv_iconst (v := 1) hx hb dX1_plan_117 (by decide) ?_
        refine lv_aload_n hx hb dX1_plan_118 rfl (lv_at hl 1 rfl) ?_
        refine lv_iload hx hb dX1_plan_119 (lv_at hl 5 rfl) ?_
        refine pcF (x := xL_get) (ci := 13) (As := [.int (nI i7)]) (rest := [.int 1, .int (a6_94)]) hG.fw_get hS0 (met_lvi_get l D E i7 hki7) q344 q347 q349 q103 q351 hd_xL_get ⟨Nat.le_of_ble_eq_true rfl, Nat.le_of_ble_eq_true rfl⟩ hG cl_J2 (LV.recv hG hT_rg10.1) hT_rg10 rfl hl.1 rfl (Nat.le_of_ble_eq_true rfl) dX1_plan_121 ⟨by show _ ≤ 602; omega, by show _ ≤ 19563; omega⟩ ?_
        refine W.eq (g2 := F0 m 126 ls [.ref (E (300 + ((r2).getD i7 0 + 128))), .int 1, .int (a6_94)]) rfl ?_
        refine gc (ci := 14) hx hb hown hG cl_J17 (hG.boxR (hT_rg10.le hki7)) (hts _ q655) dX1_plan_126 ?_
        refine pcV (As := []) (rest := [.int 1, .int (a6_94)]) hS0 (met_intValue_c l D E ((r2).getD i7 0) (hT_rg10.le hki7)) q656 q657 q658 q125 q659 hd_J17_intValue ⟨Nat.le_of_ble_eq_true rfl, Nat.le_of_ble_eq_true rfl⟩ hG (hG.boxR (hT_rg10.le hki7)) trivial rfl hl.1 rfl (Nat.le_of_ble_eq_true rfl) dX1_plan_129 ⟨by show _ ≤ 602; omega, by show _ ≤ 19563; omega⟩ ?_
        refine W.eq (g2 := F0 m 132 ls [.int (nI ((r2).getD i7 0)), .int 1, .int (a6_94)]) rfl ?_
        refine lv_ishl hx hb dX1_plan_132 ?_
        refine lv_goto (tgt := 137) hx hb dX1_plan_133 (by decide) ?_
        refine lv_ior hx hb dX1_plan_137 ?_
        refine lv_istore (lv' := [(6, .int (a6_94 ||| (1 <<< ((nI ((r2).getD i7 0)) &&& 31)))), (2, .int (bI z)), (3, .ref (q10)), (4, .int (a6)), (5, .int (a7)), (7, .int (nI i7))]) hx hb dX1_plan_138 hl (Nat.le_of_ble_eq_true rfl) rfl (fun ls hl => ?_)
        refine lv_iinc (v := nI (i7 + 1)) (lv' := [(7, .int (nI (i7 + 1))), (6, .int (a6_94 ||| (1 <<< ((nI ((r2).getD i7 0)) &&& 31)))), (2, .int (bI z)), (3, .ref (q10)), (4, .int (a6)), (5, .int (a7))]) hx hb dX1_plan_140 hl (k := 5) rfl (nI_1 i7) (Nat.le_of_ble_eq_true rfl) rfl (fun ls hl => ?_)
        refine lv_goto (tgt := 94) hx hb dX1_plan_143 (by decide) ?_
        exact ih (i7 + 1) (a6_94 ||| (1 <<< ((nI ((r2).getD i7 0)) &&& 31))) σ5 (lk_st hn) hR _ _ _ _ hα hcn hX hFa (fun q z => by have := hFb q z; omega) hd_rg10 hT_rg10 hS ls (lv_sub hl [2, 3, 4, 5, 1, 0] rfl)
  unfold fX1_plan at hR
  refine lv_iload_n hx hb dX1_plan_0 rfl (lv_at hl 1 rfl) ?_
  refine lv_iconst (v := 0) hx hb dX1_plan_1 (by decide) ?_
  refine lv_sipush (v := 365) hx hb dX1_plan_2 (by decide) ?_
  have hB := hS.1
  refine xcS (As := [.int (a), .int 0, .int 365]) (rest := []) hS0 (met_X1_mustBeIn l D E hlf a 0 365 _) q860 q861 q100 q862 hd_X1_mustBeIn ⟨Nat.le_of_ble_eq_true rfl, Nat.le_of_ble_eq_true rfl⟩ hG rfl rfl hl.1 rfl (Nat.le_of_ble_eq_true rfl) dX1_plan_5 ⟨Nat.le_of_ble_eq_true rfl, Nat.le_of_ble_eq_true rfl⟩ hS (fun q h => h.elim) (fun q h => h.elim) (fun X ce q9 H1 locs1 hP hz hk hS9 h1 h2 h3 => ?_) (fun v H1 locs1 hP hz hk hS9 => ?_)
  · obtain ⟨rfl, hc9⟩ := hP
    have hS := hS9
    clear hS9
    rw [if_neg hc9] at hR
    exact x_out hex hlocks h1 h2 h3 hS ⟨Nat.le_of_ble_eq_true rfl, Nat.le_of_ble_eq_true rfl⟩ (by cases hR; exact ⟨rfl, Nat.succ_ne_zero _, (by rw [← hαe]; exact ((hX.kept (fun q h4 _ => hk q h4 id)).mono (fun q _ z => hFa q z) (fN_E hFE hG0.2.2.1)))⟩)
  · obtain ⟨rfl, hc9, rfl⟩ := hP
    have hS := hS9
    clear hS9
    rw [if_pos hc9] at hR
    have k1 := hc9
    refine W.eq (g2 := F0 m 8 ls []) rfl ?_
    refine lv_aload_n hx hb dX1_plan_8 rfl (lv_at hl 0 rfl) ?_
    refine lv_iload_n hx hb dX1_plan_9 rfl (lv_at hl 1 rfl) ?_
    rcases hc_r2 : (fX1_firsts σ a) with _ | r2
    · rw [hc_r2] at hR
      cases hR
    rw [hc_r2] at hR
    try dsimp only [Option.bind] at hR
    have hB := hS.1
    refine gcV (As := [.int (a)]) (rest := []) hS0 (met_X1_firsts l D E a hc_r2) q1506 q1508 qs52 q100 q1509 hd_X1_firsts ⟨Nat.le_of_ble_eq_true rfl, Nat.le_of_ble_eq_true rfl⟩ hG (rcv hG cl_X1 hX.ag) hX rfl hl.1 rfl (Nat.le_of_ble_eq_true rfl) dX1_plan_10 ⟨Nat.le_of_ble_eq_true rfl, Nat.le_of_ble_eq_true rfl⟩ hS (fun q h => h.elim) (fun q h => h.elim) (fun v H1 locs1 hP hz hk hS => ?_)
    obtain ⟨q10, rfl, hT9⟩ := hP
    have hX := hX.kept (fun q h4 _ => hk q h4 id)
    have hG := gE.ofS hG0 hS hFE
    obtain ⟨lo_rg10, hi_rg10, hge_rg10, hT_rg10, hd_rg10⟩ : ∃ lo hi : Nat, s.heap.size ≤ lo ∧ LVI D E lo hi q10 r2 H1 ∧ (∀ q, Fc q → q < lo ∨ hi ≤ q) := ⟨_, _, hB, hT9, (fun q z => Or.inl (by have := hFb q z; omega))⟩
    refine W.eq (g2 := F0 m 13 ls [.ref (q10)]) rfl ?_
    refine lv_astore_n (lv' := [(3, .ref (q10)), (0, .ref (α 0 0)), (1, .int (a)), (2, .int (bI z))]) hx hb dX1_plan_13 rfl hl (Nat.le_of_ble_eq_true rfl) rfl (fun ls hl => ?_)
    refine lv_iconst (v := 0) hx hb dX1_plan_14 (by decide) ?_
    refine lv_istore (lv' := [(4, .int 0), (3, .ref (q10)), (0, .ref (α 0 0)), (1, .int (a)), (2, .int (bI z))]) hx hb dX1_plan_15 hl (Nat.le_of_ble_eq_true rfl) rfl (fun ls hl => ?_)
    refine lv_iconst (v := 0) hx hb dX1_plan_17 (by decide) ?_
    refine lv_istore (lv' := [(5, .int 0), (4, .int 0), (3, .ref (q10)), (0, .ref (α 0 0)), (1, .int (a)), (2, .int (bI z))]) hx hb dX1_plan_18 hl (Nat.le_of_ble_eq_true rfl) rfl (fun ls hl => ?_)
    refine lv_iconst (v := 1) hx hb dX1_plan_20 (by decide) ?_
    refine lv_istore (lv' := [(6, .int 1), (5, .int 0), (4, .int 0), (3, .ref (q10)), (0, .ref (α 0 0)), (1, .int (a)), (2, .int (bI z))]) hx hb dX1_plan_21 hl (Nat.le_of_ble_eq_true rfl) rfl (fun ls hl => ?_)
    refine W.widen (k := 17 + 1 * 65) (n := 1509 + 1 * 2006) (by show _ ≤ _; omega) (by show _ ≤ _; omega) ?_
    refine hL23 r2 lo_rg10 hi_rg10 q10 hge_rg10 _ (fun a6 a7 σ4 H1 locs1 Fc α ls hR hα hcn hX hFa hFb hd_rg10 hT_rg10 hS hl => ?_) 9 0 0 1 σ  hR _ _ _ _ hα hcn hX hFa (fun q z => by have := hFb q z; omega) hd_rg10 hT_rg10 hS ls (lv_sub hl [4, 6, 3, 2, 1, 0] rfl)
    try dsimp only at hR
    have hG := gE.ofS hG0 hS hFE
    refine lv_iconst (v := 0) hx hb dX1_plan_88 (by decide) ?_
    refine lv_istore (lv' := [(6, .int 0), (2, .int (bI z)), (3, .ref (q10)), (4, .int (a6)), (5, .int (a7))]) hx hb dX1_plan_89 hl (Nat.le_of_ble_eq_true rfl) rfl (fun ls hl => ?_)
    refine lv_iconst (v := 0) hx hb dX1_plan_91 (by decide) ?_
    refine lv_istore (lv' := [(7, .int 0), (6, .int 0), (2, .int (bI z)), (3, .ref (q10)), (4, .int (a6)), (5, .int (a7))]) hx hb dX1_plan_92 hl (Nat.le_of_ble_eq_true rfl) rfl (fun ls hl => ?_)
    refine hL94 r2 a6 a7 lo_rg10 hi_rg10 q10 hge_rg10 _ (fun a9 σ6 H1 locs1 Fc α ls hR hα hcn hX hFa hFb hd_rg10 hT_rg10 hS hl => ?_) r2.length 0 0 σ4 (Nat.zero_add _) hR _ _ _ _ hα hcn hX hFa (fun q z => by have := hFb q z; omega) hd_rg10 hT_rg10 hS ls (lv_sub hl [2, 3, 4, 5, 1, 0] rfl)
    try dsimp only at hR
    have hG := gE.ofS hG0 hS hFE
    refine lv_iload_n hx hb dX1_plan_146 rfl (lv_at hl 0 rfl) ?_
    refine lb_if_eq (tgt := 155) hx hb dX1_plan_147 (by decide) (fun c10 => ?_) (fun c10 => ?_)
    · rw [if_neg c10] at hR
      refine lv_iload hx hb dX1_plan_155 (lv_at hl 1 rfl) ?_
      exact vx_ret (g_iret hx hb hr hlocks hS ⟨by show _ ≤ 602; omega, by show _ ≤ 19563; omega⟩ dX1_plan_157 (by cases hR; exact ⟨rfl, rfl, α, hα 0 0 (by decide), hX.mono (fun q _ z => hFa q z) (fN_E hFE hG0.2.2.1)⟩))
    · rw [if_pos c10] at hR
      refine lv_iload hx hb dX1_plan_150 (lv_at hl 2 rfl) ?_
      refine lv_goto (tgt := 157) hx hb dX1_plan_152 (by decide) ?_
      exact vx_ret (g_iret hx hb hr hlocks hS ⟨by show _ ≤ 602; omega, by show _ ≤ 19563; omega⟩ dX1_plan_157 (by cases hR; exact ⟨rfl, rfl, α, hα 0 0 (by decide), hX.mono (fun q _ z => hFa q z) (fN_E hFE hG0.2.2.1)⟩))

