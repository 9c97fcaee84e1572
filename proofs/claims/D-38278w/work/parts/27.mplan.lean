/-! the model: plans, the checksum -/
set_option maxRecDepth 100000
theorem fin_M {D : va_G} {E : Nat → Nat} {β : Nat → Nat → Nat} {F' : Nat → Prop} {σ σ1 : St} {th1 ca1 : Int32} {sm1 : Int64} {H : Heap} {A : Type} {x : A} {r : A × MSt} (hR : some (x, ((σ1, th1, ca1, sm1) : MSt)) = some r) (hM : RM D E β F' σ1 th1 ca1 sm1 H) (hc : cnt σ1 σ) : r.1 = x ∧ RM D E β F' r.2.1 r.2.2.1 r.2.2.2.1 r.2.2.2.2 H ∧ cnt r.2.1 σ := by
  cases hR
  exact ⟨rfl, hM, hc⟩
def fX4_tried_L15 (σ : St) (th : Int32) (ca : Int32) (sm : Int64) (z : Int32) (mn : Nat) (f0 : Nat → Int32)  (κ : Int32 → Int32 → St → Int32 → Int32 → Int64 → Option (Int32 × MSt)) : Nat → Nat → Int32 → Int32 → St → Int32 → Int32 → Int64 → Option (Int32 × MSt)
  | 0, i7, a4, a5, σ1, th1, ca1, sm1 => κ a4 a5 σ1 th1 ca1 sm1
  | n + 1, i7, a4, a5, σ1, th1, ca1, sm1 => (if ((fX4_isIn z (nI i7))) = true then (if 0 ≤ ((f0) i7) ∧ ((f0) i7) < nI (nW σ1) then (if ((gX4_best σ1 ((Int32.toNatClampNeg ((f0) i7))) 0 0)) = ((-1)) then (if ((gX4_best σ1 ((Int32.toNatClampNeg ((f0) i7))) 0 0)) = ((-1)) then fX4_tried_L15 σ th ca sm z mn f0 κ n (i7 + 1) ((-999999)) a5 σ1 th1 ca1 sm1 else (fun (σ3 : St) => (fun (th3 : Int32) => (fun (ca3 : Int32) => (fun (sm3 : Int64) => fX4_tried_L15 σ th ca sm z mn f0 κ n (i7 + 1) (((-999999)) + (wPrice σ3 ((Int32.toNatClampNeg ((f0) i7))))) (a5 ||| (1 <<< ((nI i7) &&& 31))) σ3 th3 ca3 sm3) ((fX4_fixNow σ1 th1 ca1 sm1 ((Int32.toNatClampNeg ((f0) i7))) ((gX4_best σ1 ((Int32.toNatClampNeg ((f0) i7))) 0 0))).2.2.2)) ((fX4_fixNow σ1 th1 ca1 sm1 ((Int32.toNatClampNeg ((f0) i7))) ((gX4_best σ1 ((Int32.toNatClampNeg ((f0) i7))) 0 0))).2.2.1)) ((fX4_fixNow σ1 th1 ca1 sm1 ((Int32.toNatClampNeg ((f0) i7))) ((gX4_best σ1 ((Int32.toNatClampNeg ((f0) i7))) 0 0))).2.1)) ((fX4_fixNow σ1 th1 ca1 sm1 ((Int32.toNatClampNeg ((f0) i7))) ((gX4_best σ1 ((Int32.toNatClampNeg ((f0) i7))) 0 0))).1)) else (if ((gX4_best σ1 ((Int32.toNatClampNeg ((f0) i7))) 0 0)) = ((-1)) then fX4_tried_L15 σ th ca sm z mn f0 κ n (i7 + 1) a4 a5 σ1 th1 ca1 sm1 else (fun (σ2 : St) => (fun (th2 : Int32) => (fun (ca2 : Int32) => (fun (sm2 : Int64) => fX4_tried_L15 σ th ca sm z mn f0 κ n (i7 + 1) (a4 + (wPrice σ2 ((Int32.toNatClampNeg ((f0) i7))))) (a5 ||| (1 <<< ((nI i7) &&& 31))) σ2 th2 ca2 sm2) ((fX4_fixNow σ1 th1 ca1 sm1 ((Int32.toNatClampNeg ((f0) i7))) ((gX4_best σ1 ((Int32.toNatClampNeg ((f0) i7))) 0 0))).2.2.2)) ((fX4_fixNow σ1 th1 ca1 sm1 ((Int32.toNatClampNeg ((f0) i7))) ((gX4_best σ1 ((Int32.toNatClampNeg ((f0) i7))) 0 0))).2.2.1)) ((fX4_fixNow σ1 th1 ca1 sm1 ((Int32.toNatClampNeg ((f0) i7))) ((gX4_best σ1 ((Int32.toNatClampNeg ((f0) i7))) 0 0))).2.1)) ((fX4_fixNow σ1 th1 ca1 sm1 ((Int32.toNatClampNeg ((f0) i7))) ((gX4_best σ1 ((Int32.toNatClampNeg ((f0) i7))) 0 0))).1))) else none) else fX4_tried_L15 σ th ca sm z mn f0 κ n (i7 + 1) a4 a5 σ1 th1 ca1 sm1)
def fX4_tried_L115 (σ : St) (th : Int32) (ca : Int32) (sm : Int64) (z : Int32) (mn : Nat) (f0 : Nat → Int32) (a6 : Int32) (a7 : Int32) (κ : St → Int32 → Int32 → Int64 → Option (Int32 × MSt)) : Nat → Nat → St → Int32 → Int32 → Int64 → Option (Int32 × MSt)
  | 0, i7, σ5, th5, ca5, sm5 => κ σ5 th5 ca5 sm5
  | n + 1, i7, σ5, th5, ca5, sm5 => (if ((fX4_isIn a7 (nI i7))) = true then (if 0 ≤ ((f0) i7) ∧ ((f0) i7) < nI (nW σ5) then (fun (σ6 : St) => (fun (σ7 : St) => (fun (σ8 : St) => (fun (σ9 : St) => fX4_tried_L115 σ th ca sm z mn f0 a6 a7 κ n (i7 + 1) σ9 th5 ca5 sm5) (sW σ8 26 ((Int32.toNatClampNeg ((f0) i7))) 0)) (sW σ7 25 ((Int32.toNatClampNeg ((f0) i7))) 0)) (sW σ6 24 ((Int32.toNatClampNeg ((f0) i7))) 0)) (sN σ5 5 ((Int32.toNatClampNeg ((f0) i7))) 0) else none) else fX4_tried_L115 σ th ca sm z mn f0 a6 a7 κ n (i7 + 1) σ5 th5 ca5 sm5)
def fX4_tried (σ : St) (th : Int32) (ca : Int32) (sm : Int64) (z : Int32) (mn : Nat) (f0 : Nat → Int32) : Option (Int32 × MSt) :=
  fX4_tried_L15 σ th ca sm z mn f0 (fun (a6 : Int32) (a7 : Int32) (σ4 : St) (th4 : Int32) (ca4 : Int32) (sm4 : Int64) => fX4_tried_L115 σ th ca sm z mn f0 a6 a7 (fun (σ10 : St) (th10 : Int32) (ca10 : Int32) (sm10 : Int64) => (some (a6, ((σ10, th10, ca, sm10) : MSt)))) mn 0 σ4 th4 ca4 sm4) mn 0 0 0 σ th ca sm
set_option maxHeartbeats 4000000 in
set_option maxRecDepth 100000 in
theorem met_X4_tried (l : Launch) (D : va_G) (E : Nat → Nat) {β : Nat → Nat → Nat} {F : Nat → Prop} {σ : St} {th ca : Int32} {sm : Int64} (a0 : Nat) (z : Int32) (mn : Nat) (f0 : Nat → Int32) (h_mn : mn < 4) (hdF_as : ¬ F a0) {r : Int32 × MSt} (hR : fX4_tried σ th ca sm z mn f0 = some r) : GM l D E yX4_tried cX4_tried 9 (Option.some Jvm.ClassFile.FieldType.int) 21 463 0 0 [.ref (β 0 0), .ref (a0), .int (z), .int (nI mn)] (fun h => RM D E β F σ th ca sm h ∧ va_at D vwCl (a0, arI E 3 f0) h) F F (fun sz v h => v = some (.int r.1) ∧ RM D E β (fN F sz) r.2.1 r.2.2.1 r.2.2.2.1 r.2.2.2.2 h ∧ cnt r.2.1 σ)  := by
  refine GM.start (by decide) (Nat.le_of_ble_eq_true rfl) ?_
  intro p e s m below meth c ls hx hb hr hml hown hlocks hnm hts hG ⟨hM, hT_as⟩ hS hl
  have hown : s.vm.findClass RX4 = some m.cls := hown
  have hS0 : xS p m c cX4_tried 9 s _ RX4 := ⟨hx, hb, hml, hown, hts⟩
  have hl : lv_has ls 9 [(0, .ref (β 0 0)), (1, .ref (a0)), (2, .int (z)), (3, .int (nI mn))] := hl
  have hG0 := hG
  have hM0 := hM
  have hb0P := hM0.nP10
  have hb0B := hM0.nB6
  have hb0W := hM0.nW14
  have hFE := hM.fE
  obtain ⟨Fc, hM, hFn⟩ := hM.nar
  have hFa : ∀ q, Fc q → fN F s.heap.size q := fun q z => Or.inl (hFn q z).1
  have hFb : ∀ q, Fc q → q < s.heap.size := fun q z => (hFn q z).2
  have hcn : cnt σ σ := cnt.rf
  have hd_as : ¬ Fc a0 := fun z => hdF_as (hFn _ z).1
  have hL15 : ∀  (κ : Int32 → Int32 → St → Int32 → Int32 → Int64 → Option (Int32 × MSt)) (hκ : ∀ (a4 : Int32) (a5 : Int32) (σ1 : St) (th1 : Int32) (ca1 : Int32) (sm1 : Int64) (H : Heap) (locs : List Loc) (Fc : Nat → Prop) (ls : Array Slot), κ a4 a5 σ1 th1 ca1 sm1 = some r → cnt σ1 σ → RM D E β Fc σ1 th1 ca1 sm1 H → (∀ q, Fc q → fN F s.heap.size q) → (∀ q, Fc q → q < H.size) → ¬ Fc a0 → va_at D vwCl (a0, arI E 3 f0) H → xK F F s.heap H locs → lv_has ls 9 [(0, .ref (β 0 0)), (1, .ref (a0)), (3, .int (nI mn)), (4, .int (a4)), (5, .int (a5)), (6, .int (ca))] → W p l e { frames := 21, cells := 0, slots := 0, locals := 463 } s m [(.ref (β 0 0) : Value), .ref (a0), .int (z), .int (nI mn)].toArray below meth c H locs 0 0 (MQ below (qG F ((fun sz v h => v = some (.int r.1) ∧ RM D E β (fN F sz) r.2.1 r.2.2.1 r.2.2.2.1 r.2.2.2.2 h ∧ cnt r.2.1 σ) s.heap.size)) [(.ref (β 0 0) : Value), .ref (a0), .int (z), .int (nI mn)].toArray s 0 0 (fN F s.heap.size)) (F0 m 112 ls [])) (n : Nat) (i7 : Nat) (a4 : Int32) (a5 : Int32) (σ1 : St) (th1 : Int32) (ca1 : Int32) (sm1 : Int64), i7 + n = mn → fX4_tried_L15 σ th ca sm z mn f0 κ n i7 a4 a5 σ1 th1 ca1 sm1 = some r → ∀ (H : Heap) (locs : List Loc) (Fc : Nat → Prop), cnt σ1 σ → RM D E β Fc σ1 th1 ca1 sm1 H → (∀ q, Fc q → fN F s.heap.size q) → (∀ q, Fc q → q < H.size) → ¬ Fc a0 → va_at D vwCl (a0, arI E 3 f0) H → xK F F s.heap H locs → ∀ (ls : Array Slot), lv_has ls 9 [(0, .ref (β 0 0)), (1, .ref (a0)), (2, .int (z)), (3, .int (nI mn)), (4, .int (a4)), (5, .int (a5)), (6, .int (ca)), (7, .int (nI i7))] → W p l e { frames := 21, cells := 0, slots := 0, locals := 463 } s m [(.ref (β 0 0) : Value), .ref (a0), .int (z), .int (nI mn)].toArray below meth c H locs 0 0 (MQ below (qG F ((fun sz v h => v = some (.int r.1) ∧ RM D E β (fN F sz) r.2.1 r.2.2.1 r.2.2.2.1 r.2.2.2.2 h ∧ cnt r.2.1 σ) s.heap.size)) [(.ref (β 0 0) : Value), .ref (a0), .int (z), .int (nI mn)].toArray s 0 0 (fN F s.heap.size)) (F0 m 15 ls []) := by
    intro  κ hκ n
    induction n with
    | zero =>
      intro i7 a4 a5 σ1 th1 ca1 sm1 hn hR H locs Fc hcn hM hFa hFb hd_as hT_as hS ls hl
      rw [fX4_tried_L15] at hR
      have hG := gE.ofS hG0 hS hFE
      refine lv_iload hx hb dX4_tried_15 (lv_at hl 7 rfl) ?_
      refine lv_iload_n hx hb dX4_tried_17 rfl (lv_at hl 3 rfl) ?_
      refine lk_ge_out (k := i7) (N := mn) hx hb hn (tgt := 112) dX4_tried_18 (by decide) ?_
      exact hκ a4 a5 σ1 th1 ca1 sm1 _ _ _ ls hR hcn hM hFa (fun q z => by have := hFb q z; omega) hd_as hT_as hS (lv_sub hl [0, 1, 3, 4, 5, 6] rfl)
    | succ n ih =>
      intro i7 a4 a5 σ1 th1 ca1 sm1 hn hR H locs Fc hcn hM hFa hFb hd_as hT_as hS ls hl
      rw [fX4_tried_L15] at hR
      have hG := gE.ofS hG0 hS hFE
      refine lv_iload hx hb dX4_tried_15 (lv_at hl 7 rfl) ?_
      refine lv_iload_n hx hb dX4_tried_17 rfl (lv_at hl 3 rfl) ?_
      have hki7 : i7 < mn := lk_lt hn
      refine lk_ge_in (k := i7) (N := mn) hx hb hki7 (by have := hM.nP10; have := hM.nW14; have := hM.nB6; omega) (tgt := 112) dX4_tried_18 (by decide) ?_
      refine lv_iload_n hx hb dX4_tried_21 rfl (lv_at hl 2 rfl) ?_
      refine lv_iload hx hb dX4_tried_22 (lv_at hl 7 rfl) ?_
      refine pcS (As := [.int (z), .int (nI i7)]) (rest := []) hS0 (met_X4_isIn l D E z (nI i7)) q1654 q1655 q110 q1656 hd_X4_isIn ⟨Nat.le_of_ble_eq_true rfl, Nat.le_of_ble_eq_true rfl⟩ hG trivial rfl hl.1 rfl (Nat.le_of_ble_eq_true rfl) dX4_tried_24 ⟨Nat.le_of_ble_eq_true rfl, Nat.le_of_ble_eq_true rfl⟩ ?_
      refine W.eq (g2 := F0 m 27 ls [.int (bI ((fX4_isIn z (nI i7))))]) rfl ?_
      refine lb_if_ne (tgt := 33) hx hb dX4_tried_27 (by decide) (fun c1 => ?_) (fun c1 => ?_)
      · rw [if_pos c1] at hR
        refine lv_aload_n hx hb dX4_tried_33 rfl (lv_at hl 0 rfl) ?_
        refine lv_aload_n hx hb dX4_tried_34 rfl (lv_at hl 1 rfl) ?_
        refine lv_iload hx hb dX4_tried_35 (lv_at hl 7 rfl) ?_
        refine gaI (N := 3) (k := i7) hx hb hG hT_as (show i7 < 3 from by have := hki7; omega) (by decide) dX4_tried_37 ?_
        rcases (Decidable.em (0 ≤ ((f0) i7) ∧ ((f0) i7) < nI (nW σ1))).symm with g2 | g2
        · rw [if_neg g2] at hR
          cases hR
        rw [if_pos g2] at hR
        have ng2 := ck_ix g2 (by have := hM.nW14; omega)
        have bg2 := hcn.w2 ng2.2
        refine lv_eq ng2.1 ?_
        refine lv_iconst (v := 0) hx hb dX4_tried_38 (by decide) ?_
        refine lv_iconst (v := 0) hx hb dX4_tried_39 (by decide) ?_
        refine pcV (As := [.int (nI ((Int32.toNatClampNeg ((f0) i7)))), .int 0, .int 0]) (rest := []) hS0 (met_gX4_best l D E ((Int32.toNatClampNeg ((f0) i7))) 0 0 (hcn.w bg2)) q1753 q1755 qs64 q110 q1756 hd_X4_best ⟨Nat.le_of_ble_eq_true rfl, Nat.le_of_ble_eq_true rfl⟩ hG (rcv hG cl_X4 hM.ag) hM rfl hl.1 rfl (Nat.le_of_ble_eq_true rfl) dX4_tried_40 ⟨Nat.le_of_ble_eq_true rfl, Nat.le_of_ble_eq_true rfl⟩ ?_
        refine W.eq (g2 := F0 m 43 ls [.int ((gX4_best σ1 ((Int32.toNatClampNeg ((f0) i7))) 0 0))]) rfl ?_
        refine lv_istore (lv' := [(8, .int ((gX4_best σ1 ((Int32.toNatClampNeg ((f0) i7))) 0 0))), (0, .ref (β 0 0)), (1, .ref (a0)), (2, .int (z)), (3, .int (nI mn)), (4, .int (a4)), (5, .int (a5)), (6, .int (ca)), (7, .int (nI i7))]) hx hb dX4_tried_43 hl (Nat.le_of_ble_eq_true rfl) rfl (fun ls hl => ?_)
        refine lv_iload hx hb dX4_tried_45 (lv_at hl 0 rfl) ?_
        refine lv_iconst (v := (-1)) hx hb dX4_tried_47 (by decide) ?_
        refine lv_icmp_ne (tgt := 56) hx hb dX4_tried_48 (by decide) (fun c3 => ?_) (fun c3 => ?_)
        · rw [if_neg c3] at hR
          refine lv_iload hx hb dX4_tried_56 (lv_at hl 0 rfl) ?_
          refine lv_iconst (v := (-1)) hx hb dX4_tried_58 (by decide) ?_
          refine lv_icmp_ne (tgt := 65) hx hb dX4_tried_59 (by decide) (fun c4 => ?_) (fun c4 => ?_)
          · rw [if_neg c4] at hR
            refine lv_aload_n hx hb dX4_tried_65 rfl (lv_at hl 1 rfl) ?_
            refine lv_aload_n hx hb dX4_tried_66 rfl (lv_at hl 2 rfl) ?_
            refine lv_iload hx hb dX4_tried_67 (lv_at hl 8 rfl) ?_
            refine gaI (N := 3) (k := i7) hx hb hG hT_as (show i7 < 3 from by have := hki7; omega) (by decide) dX4_tried_69 ?_
            refine lv_eq ng2.1 ?_
            refine lv_iload hx hb dX4_tried_70 (lv_at hl 0 rfl) ?_
            have hB := hS.1
            have hL_as : a0 < _ := hT_as.lt
            refine gcV (As := [.int (nI ((Int32.toNatClampNeg ((f0) i7)))), .int ((gX4_best σ1 ((Int32.toNatClampNeg ((f0) i7))) 0 0))]) (rest := []) hS0 (met_X4_fixNow l D E ((Int32.toNatClampNeg ((f0) i7))) ((gX4_best σ1 ((Int32.toNatClampNeg ((f0) i7))) 0 0)) (hcn.w bg2)) q1799 q1801 qs75 q110 q1802 hd_X4_fixNow ⟨Nat.le_of_ble_eq_true rfl, Nat.le_of_ble_eq_true rfl⟩ hG (rcv hG cl_X4 hM.ag) hM rfl hl.1 rfl (Nat.le_of_ble_eq_true rfl) dX4_tried_72 ⟨Nat.le_of_ble_eq_true rfl, Nat.le_of_ble_eq_true rfl⟩ hS (fun q h => hFa q h) (fun q h => hFa q h) (fun v H1 locs1 hP hz hk hS => ?_)
            obtain ⟨rfl, hZ, hc8⟩ := hP
            have hT_as : va_at D vwCl (a0, arI E 3 f0) H1 := hT_as.kept (hk _ hT_as.lt hd_as)
            obtain ⟨Fd, hM, hFn⟩ := hZ.nar
            have hd_as : ¬ Fd a0 := fun z => (hFn _ z).1.elim hd_as (fun z9 => absurd z9 (Nat.not_le.mpr hL_as))
            have hFa : ∀ q, Fd q → fN F s.heap.size q := fun q z => (hFn q z).1.elim (hFa q) (fun z9 => Or.inr (Nat.le_trans hB z9))
            have hFb : ∀ q, Fd q → q < H1.size := fun q z => (hFn q z).2
            clear hFn
            generalize Fd = Fc at hM hFa hFb hd_as
            have hG := gE.ofS hG0 hS hFE
            have hcn := hc8.tr hcn
            generalize hv_σ2 : (fX4_fixNow σ1 th1 ca1 sm1 ((Int32.toNatClampNeg ((f0) i7))) ((gX4_best σ1 ((Int32.toNatClampNeg ((f0) i7))) 0 0))).1 = σ2 at hR hM hcn ⊢
            generalize hv_th2 : (fX4_fixNow σ1 th1 ca1 sm1 ((Int32.toNatClampNeg ((f0) i7))) ((gX4_best σ1 ((Int32.toNatClampNeg ((f0) i7))) 0 0))).2.1 = th2 at hR hM hcn ⊢
            generalize hv_ca2 : (fX4_fixNow σ1 th1 ca1 sm1 ((Int32.toNatClampNeg ((f0) i7))) ((gX4_best σ1 ((Int32.toNatClampNeg ((f0) i7))) 0 0))).2.2.1 = ca2 at hR hM hcn ⊢
            generalize hv_sm2 : (fX4_fixNow σ1 th1 ca1 sm1 ((Int32.toNatClampNeg ((f0) i7))) ((gX4_best σ1 ((Int32.toNatClampNeg ((f0) i7))) 0 0))).2.2.2 = sm2 at hR hM hcn ⊢
            try dsimp only at hR
            refine W.eq (g2 := F0 m 75 ls []) rfl ?_
            refine lv_iload hx hb dX4_tried_75 (lv_at hl 6 rfl) ?_
            refine lv_iconst (v := 1) hx hb dX4_tried_77 (by decide) ?_
            refine lv_iload hx hb dX4_tried_78 (lv_at hl 8 rfl) ?_
            refine lv_ishl hx hb dX4_tried_80 ?_
            refine lv_ior hx hb dX4_tried_81 ?_
            refine lv_istore (lv' := [(5, .int (a5 ||| (1 <<< ((nI i7) &&& 31)))), (8, .int ((gX4_best σ1 ((Int32.toNatClampNeg ((f0) i7))) 0 0))), (0, .ref (β 0 0)), (1, .ref (a0)), (2, .int (z)), (3, .int (nI mn)), (4, .int (a4)), (6, .int (ca)), (7, .int (nI i7))]) hx hb dX4_tried_82 hl (Nat.le_of_ble_eq_true rfl) rfl (fun ls hl => ?_)
            refine lv_iload hx hb dX4_tried_84 (lv_at hl 6 rfl) ?_
            refine lv_aload_n hx hb dX4_tried_86 rfl (lv_at hl 2 rfl) ?_
            refine gf (v := .ref (β 1 2)) (C := RX4) (T := TX4) (N := 13) (k := 5) hx hb hts hown hG cl_X4 in_X4 hM.ag (by decide) q1545 rfl dX4_tried_87 ?_
            refine lv_aload_n hx hb dX4_tried_90 rfl (lv_at hl 3 rfl) ?_
            refine lv_iload hx hb dX4_tried_91 (lv_at hl 8 rfl) ?_
            refine gaI (N := 3) (k := i7) hx hb hG hT_as (show i7 < 3 from by have := hki7; omega) (by decide) dX4_tried_93 ?_
            refine lv_eq ng2.1 ?_
            refine pcV (As := [.int (nI ((Int32.toNatClampNeg ((f0) i7))))]) (rest := [.int (a4)]) hS0 (met_ml_get l D E (j := 2) (by decide) ((Int32.toNatClampNeg ((f0) i7))) (hcn.w bg2)) q1639 q349 q2082 q103 q351 hd_J2_get ⟨Nat.le_of_ble_eq_true rfl, Nat.le_of_ble_eq_true rfl⟩ hG (hM.lsR hG (j := 2) (by decide)) hM rfl hl.1 rfl (Nat.le_of_ble_eq_true rfl) dX4_tried_94 ⟨Nat.le_of_ble_eq_true rfl, Nat.le_of_ble_eq_true rfl⟩ ?_
            refine W.eq (g2 := F0 m 97 ls [.ref (β 5 ((Int32.toNatClampNeg ((f0) i7)))), .int (a4)]) rfl ?_
            refine gc (ci := 9) hx hb hown hG cl_X11 (rcv hG cl_X11 (hM.wd (hcn.w bg2))) (hts _ q1695) dX4_tried_97 ?_
            refine gfN (v := .int (wPrice σ2 ((Int32.toNatClampNeg ((f0) i7))))) (C := RX11) (T := TX11) (N := 12) (k := 9) hx hb hts hown hG cl_X11 in_X11 (hM.wd (hcn.w bg2)) (by decide) q1712 rfl dX4_tried_100 ?_
            refine lv_iadd hx hb dX4_tried_103 ?_
            refine lv_istore (lv' := [(4, .int (a4 + (wPrice σ2 ((Int32.toNatClampNeg ((f0) i7)))))), (5, .int (a5 ||| (1 <<< ((nI i7) &&& 31)))), (8, .int ((gX4_best σ1 ((Int32.toNatClampNeg ((f0) i7))) 0 0))), (0, .ref (β 0 0)), (1, .ref (a0)), (2, .int (z)), (3, .int (nI mn)), (6, .int (ca)), (7, .int (nI i7))]) hx hb dX4_tried_104 hl (Nat.le_of_ble_eq_true rfl) rfl (fun ls hl => ?_)
            refine lv_iinc (v := nI (i7 + 1)) (lv' := [(7, .int (nI (i7 + 1))), (4, .int (a4 + (wPrice σ2 ((Int32.toNatClampNeg ((f0) i7)))))), (5, .int (a5 ||| (1 <<< ((nI i7) &&& 31)))), (8, .int ((gX4_best σ1 ((Int32.toNatClampNeg ((f0) i7))) 0 0))), (0, .ref (β 0 0)), (1, .ref (a0)), (2, .int (z)), (3, .int (nI mn)), (6, .int (ca))]) hx hb dX4_tried_106 hl (k := 8) rfl (nI_1 i7) (Nat.le_of_ble_eq_true rfl) rfl (fun ls hl => ?_)
            refine lv_goto (tgt := 15) hx hb dX4_tried_109 (by decide) ?_
            exact ih (i7 + 1) (a4 + (wPrice σ2 ((Int32.toNatClampNeg ((f0) i7))))) (a5 ||| (1 <<< ((nI i7) &&& 31))) σ2 th2 ca2 sm2 (lk_st hn) hR _ _ _ hcn hM hFa (fun q z => by have := hFb q z; omega) hd_as hT_as hS ls (lv_sub hl [4, 5, 6, 7, 1, 2, 8, 0] rfl)
          · rw [if_pos c4] at hR
            refine lv_goto (tgt := 106) hx hb dX4_tried_62 (by decide) ?_
            refine lv_iinc (v := nI (i7 + 1)) (lv' := [(7, .int (nI (i7 + 1))), (8, .int ((gX4_best σ1 ((Int32.toNatClampNeg ((f0) i7))) 0 0))), (0, .ref (β 0 0)), (1, .ref (a0)), (2, .int (z)), (3, .int (nI mn)), (4, .int (a4)), (5, .int (a5)), (6, .int (ca))]) hx hb dX4_tried_106 hl (k := 8) rfl (nI_1 i7) (Nat.le_of_ble_eq_true rfl) rfl (fun ls hl => ?_)
            refine lv_goto (tgt := 15) hx hb dX4_tried_109 (by decide) ?_
            exact ih (i7 + 1) a4 a5 σ1 th1 ca1 sm1 (lk_st hn) hR _ _ _ hcn hM hFa (fun q z => by have := hFb q z; omega) hd_as hT_as hS ls (lv_sub hl [2, 3, 4, 5, 6, 7, 8, 0] rfl)
        · rw [if_pos c3] at hR
          refine lv_ldcw (v := (-999999)) hx hb hown (hts _ q2035) dX4_tried_51 ?_
          refine lv_istore (lv' := [(4, .int (-999999)), (8, .int ((gX4_best σ1 ((Int32.toNatClampNeg ((f0) i7))) 0 0))), (0, .ref (β 0 0)), (1, .ref (a0)), (2, .int (z)), (3, .int (nI mn)), (5, .int (a5)), (6, .int (ca)), (7, .int (nI i7))]) hx hb dX4_tried_54 hl (Nat.le_of_ble_eq_true rfl) rfl (fun ls hl => ?_)
          refine lv_iload hx hb dX4_tried_56 (lv_at hl 1 rfl) ?_
          refine lv_iconst (v := (-1)) hx hb dX4_tried_58 (by decide) ?_
          refine lv_icmp_ne (tgt := 65) hx hb dX4_tried_59 (by decide) (fun c5 => ?_) (fun c5 => ?_)
          · rw [if_neg c5] at hR
            refine lv_aload_n hx hb dX4_tried_65 rfl (lv_at hl 2 rfl) ?_
            refine lv_aload_n hx hb dX4_tried_66 rfl (lv_at hl 3 rfl) ?_
            refine lv_iload hx hb dX4_tried_67 (lv_at hl 8 rfl) ?_
            refine gaI (N := 3) (k := i7) hx hb hG hT_as (show i7 < 3 from by have := hki7; omega) (by decide) dX4_tried_69 ?_
            refine lv_eq ng2.1 ?_
            refine lv_iload hx hb dX4_tried_70 (lv_at hl 1 rfl) ?_
            have hB := hS.1
            have hL_as : a0 < _ := hT_as.lt
            refine gcV (As := [.int (nI ((Int32.toNatClampNeg ((f0) i7)))), .int ((gX4_best σ1 ((Int32.toNatClampNeg ((f0) i7))) 0 0))]) (rest := []) hS0 (met_X4_fixNow l D E ((Int32.toNatClampNeg ((f0) i7))) ((gX4_best σ1 ((Int32.toNatClampNeg ((f0) i7))) 0 0)) (hcn.w bg2)) q1799 q1801 qs75 q110 q1802 hd_X4_fixNow ⟨Nat.le_of_ble_eq_true rfl, Nat.le_of_ble_eq_true rfl⟩ hG (rcv hG cl_X4 hM.ag) hM rfl hl.1 rfl (Nat.le_of_ble_eq_true rfl) dX4_tried_72 ⟨Nat.le_of_ble_eq_true rfl, Nat.le_of_ble_eq_true rfl⟩ hS (fun q h => hFa q h) (fun q h => hFa q h) (fun v H1 locs1 hP hz hk hS => ?_)
            obtain ⟨rfl, hZ, hc8⟩ := hP
            have hT_as : va_at D vwCl (a0, arI E 3 f0) H1 := hT_as.kept (hk _ hT_as.lt hd_as)
            obtain ⟨Fd, hM, hFn⟩ := hZ.nar
            have hd_as : ¬ Fd a0 := fun z => (hFn _ z).1.elim hd_as (fun z9 => absurd z9 (Nat.not_le.mpr hL_as))
            have hFa : ∀ q, Fd q → fN F s.heap.size q := fun q z => (hFn q z).1.elim (hFa q) (fun z9 => Or.inr (Nat.le_trans hB z9))
            have hFb : ∀ q, Fd q → q < H1.size := fun q z => (hFn q z).2
            clear hFn
            generalize Fd = Fc at hM hFa hFb hd_as
            have hG := gE.ofS hG0 hS hFE
            have hcn := hc8.tr hcn
            generalize hv_σ3 : (fX4_fixNow σ1 th1 ca1 sm1 ((Int32.toNatClampNeg ((f0) i7))) ((gX4_best σ1 ((Int32.toNatClampNeg ((f0) i7))) 0 0))).1 = σ3 at hR hM hcn ⊢
            generalize hv_th3 : (fX4_fixNow σ1 th1 ca1 sm1 ((Int32.toNatClampNeg ((f0) i7))) ((gX4_best σ1 ((Int32.toNatClampNeg ((f0) i7))) 0 0))).2.1 = th3 at hR hM hcn ⊢
            generalize hv_ca3 : (fX4_fixNow σ1 th1 ca1 sm1 ((Int32.toNatClampNeg ((f0) i7))) ((gX4_best σ1 ((Int32.toNatClampNeg ((f0) i7))) 0 0))).2.2.1 = ca3 at hR hM hcn ⊢
            generalize hv_sm3 : (fX4_fixNow σ1 th1 ca1 sm1 ((Int32.toNatClampNeg ((f0) i7))) ((gX4_best σ1 ((Int32.toNatClampNeg ((f0) i7))) 0 0))).2.2.2 = sm3 at hR hM hcn ⊢
            try dsimp only at hR
            refine W.eq (g2 := F0 m 75 ls []) rfl ?_
            refine lv_iload hx hb dX4_tried_75 (lv_at hl 6 rfl) ?_
            refine lv_iconst (v := 1) hx hb dX4_tried_77 (by decide) ?_
            refine lv_iload hx hb dX4_tried_78 (lv_at hl 8 rfl) ?_
            refine lv_ishl hx hb dX4_tried_80 ?_
            refine lv_ior hx hb dX4_tried_81 ?_
            refine lv_istore (lv' := [(5, .int (a5 ||| (1 <<< ((nI i7) &&& 31)))), (4, .int (-999999)), (8, .int ((gX4_best σ1 ((Int32.toNatClampNeg ((f0) i7))) 0 0))), (0, .ref (β 0 0)), (1, .ref (a0)), (2, .int (z)), (3, .int (nI mn)), (6, .int (ca)), (7, .int (nI i7))]) hx hb dX4_tried_82 hl (Nat.le_of_ble_eq_true rfl) rfl (fun ls hl => ?_)
            refine lv_iload hx hb dX4_tried_84 (lv_at hl 1 rfl) ?_
            refine lv_aload_n hx hb dX4_tried_86 rfl (lv_at hl 3 rfl) ?_
            refine gf (v := .ref (β 1 2)) (C := RX4) (T := TX4) (N := 13) (k := 5) hx hb hts hown hG cl_X4 in_X4 hM.ag (by decide) q1545 rfl dX4_tried_87 ?_
            refine lv_aload_n hx hb dX4_tried_90 rfl (lv_at hl 4 rfl) ?_
            refine lv_iload hx hb dX4_tried_91 (lv_at hl 8 rfl) ?_
            refine gaI (N := 3) (k := i7) hx hb hG hT_as (show i7 < 3 from by have := hki7; omega) (by decide) dX4_tried_93 ?_
            refine lv_eq ng2.1 ?_
            refine pcV (As := [.int (nI ((Int32.toNatClampNeg ((f0) i7))))]) (rest := [.int (-999999)]) hS0 (met_ml_get l D E (j := 2) (by decide) ((Int32.toNatClampNeg ((f0) i7))) (hcn.w bg2)) q1639 q349 q2082 q103 q351 hd_J2_get ⟨Nat.le_of_ble_eq_true rfl, Nat.le_of_ble_eq_true rfl⟩ hG (hM.lsR hG (j := 2) (by decide)) hM rfl hl.1 rfl (Nat.le_of_ble_eq_true rfl) dX4_tried_94 ⟨Nat.le_of_ble_eq_true rfl, Nat.le_of_ble_eq_true rfl⟩ ?_
            refine W.eq (g2 := F0 m 97 ls [.ref (β 5 ((Int32.toNatClampNeg ((f0) i7)))), .int (-999999)]) rfl ?_
            refine gc (ci := 9) hx hb hown hG cl_X11 (rcv hG cl_X11 (hM.wd (hcn.w bg2))) (hts _ q1695) dX4_tried_97 ?_
            refine gfN (v := .int (wPrice σ3 ((Int32.toNatClampNeg ((f0) i7))))) (C := RX11) (T := TX11) (N := 12) (k := 9) hx hb hts hown hG cl_X11 in_X11 (hM.wd (hcn.w bg2)) (by decide) q1712 rfl dX4_tried_100 ?_
            refine lv_iadd hx hb dX4_tried_103 ?_
            refine lv_istore (lv' := [(4, .int (((-999999)) + (wPrice σ3 ((Int32.toNatClampNeg ((f0) i7)))))), (5, .int (a5 ||| (1 <<< ((nI i7) &&& 31)))), (8, .int ((gX4_best σ1 ((Int32.toNatClampNeg ((f0) i7))) 0 0))), (0, .ref (β 0 0)), (1, .ref (a0)), (2, .int (z)), (3, .int (nI mn)), (6, .int (ca)), (7, .int (nI i7))]) hx hb dX4_tried_104 hl (Nat.le_of_ble_eq_true rfl) rfl (fun ls hl => ?_)
            refine lv_iinc (v := nI (i7 + 1)) (lv' := [(7, .int (nI (i7 + 1))), (4, .int (((-999999)) + (wPrice σ3 ((Int32.toNatClampNeg ((f0) i7)))))), (5, .int (a5 ||| (1 <<< ((nI i7) &&& 31)))), (8, .int ((gX4_best σ1 ((Int32.toNatClampNeg ((f0) i7))) 0 0))), (0, .ref (β 0 0)), (1, .ref (a0)), (2, .int (z)), (3, .int (nI mn)), (6, .int (ca))]) hx hb dX4_tried_106 hl (k := 8) rfl (nI_1 i7) (Nat.le_of_ble_eq_true rfl) rfl (fun ls hl => ?_)
            refine lv_goto (tgt := 15) hx hb dX4_tried_109 (by decide) ?_
            exact ih (i7 + 1) (((-999999)) + (wPrice σ3 ((Int32.toNatClampNeg ((f0) i7))))) (a5 ||| (1 <<< ((nI i7) &&& 31))) σ3 th3 ca3 sm3 (lk_st hn) hR _ _ _ hcn hM hFa (fun q z => by have := hFb q z; omega) hd_as hT_as hS ls (lv_sub hl [4, 5, 6, 7, 1, 2, 8, 0] rfl)
          · rw [if_pos c5] at hR
            refine lv_goto (tgt := 106) hx hb dX4_tried_62 (by decide) ?_
            refine lv_iinc (v := nI (i7 + 1)) (lv' := [(7, .int (nI (i7 + 1))), (4, .int (-999999)), (8, .int ((gX4_best σ1 ((Int32.toNatClampNeg ((f0) i7))) 0 0))), (0, .ref (β 0 0)), (1, .ref (a0)), (2, .int (z)), (3, .int (nI mn)), (5, .int (a5)), (6, .int (ca))]) hx hb dX4_tried_106 hl (k := 8) rfl (nI_1 i7) (Nat.le_of_ble_eq_true rfl) rfl (fun ls hl => ?_)
            refine lv_goto (tgt := 15) hx hb dX4_tried_109 (by decide) ?_
            exact ih (i7 + 1) ((-999999)) a5 σ1 th1 ca1 sm1 (lk_st hn) hR _ _ _ hcn hM hFa (fun q z => by have := hFb q z; omega) hd_as hT_as hS ls (lv_sub hl [3, 4, 5, 6, 1, 7, 8, 0] rfl)
      · rw [if_neg c1] at hR
        refine lv_goto (tgt := 106) hx hb dX4_tried_30 (by decide) ?_
        refine lv_iinc (v := nI (i7 + 1)) (lv' := [(7, .int (nI (i7 + 1))), (0, .ref (β 0 0)), (1, .ref (a0)), (2, .int (z)), (3, .int (nI mn)), (4, .int (a4)), (5, .int (a5)), (6, .int (ca))]) hx hb dX4_tried_106 hl (k := 7) rfl (nI_1 i7) (Nat.le_of_ble_eq_true rfl) rfl (fun ls hl => ?_)
        refine lv_goto (tgt := 15) hx hb dX4_tried_109 (by decide) ?_
        exact ih (i7 + 1) a4 a5 σ1 th1 ca1 sm1 (lk_st hn) hR _ _ _ hcn hM hFa (fun q z => by have := hFb q z; omega) hd_as hT_as hS ls (lv_sub hl [1, 2, 3, 4, 5, 6, 7, 0] rfl)
  have hL115 : ∀ (a6 : Int32) (a7 : Int32) (κ : St → Int32 → Int32 → Int64 → Option (Int32 × MSt)) (hκ : ∀ (σ5 : St) (th5 : Int32) (ca5 : Int32) (sm5 : Int64) (H : Heap) (locs : List Loc) (Fc : Nat → Prop) (ls : Array Slot), κ σ5 th5 ca5 sm5 = some r → cnt σ5 σ → RM D E β Fc σ5 th5 ca5 sm5 H → (∀ q, Fc q → fN F s.heap.size q) → (∀ q, Fc q → q < H.size) → ¬ Fc a0 → va_at D vwCl (a0, arI E 3 f0) H → xK F F s.heap H locs → lv_has ls 9 [(0, .ref (β 0 0)), (4, .int (a6)), (6, .int (ca))] → W p l e { frames := 21, cells := 0, slots := 0, locals := 463 } s m [(.ref (β 0 0) : Value), .ref (a0), .int (z), .int (nI mn)].toArray below meth c H locs 0 0 (MQ below (qG F ((fun sz v h => v = some (.int r.1) ∧ RM D E β (fN F sz) r.2.1 r.2.2.1 r.2.2.2.1 r.2.2.2.2 h ∧ cnt r.2.1 σ) s.heap.size)) [(.ref (β 0 0) : Value), .ref (a0), .int (z), .int (nI mn)].toArray s 0 0 (fN F s.heap.size)) (F0 m 180 ls [])) (n : Nat) (i7 : Nat) (σ5 : St) (th5 : Int32) (ca5 : Int32) (sm5 : Int64), i7 + n = mn → fX4_tried_L115 σ th ca sm z mn f0 a6 a7 κ n i7 σ5 th5 ca5 sm5 = some r → ∀ (H : Heap) (locs : List Loc) (Fc : Nat → Prop), cnt σ5 σ → RM D E β Fc σ5 th5 ca5 sm5 H → (∀ q, Fc q → fN F s.heap.size q) → (∀ q, Fc q → q < H.size) → ¬ Fc a0 → va_at D vwCl (a0, arI E 3 f0) H → xK F F s.heap H locs → ∀ (ls : Array Slot), lv_has ls 9 [(0, .ref (β 0 0)), (1, .ref (a0)), (3, .int (nI mn)), (4, .int (a6)), (5, .int (a7)), (6, .int (ca)), (7, .int (nI i7))] → W p l e { frames := 21, cells := 0, slots := 0, locals := 463 } s m [(.ref (β 0 0) : Value), .ref (a0), .int (z), .int (nI mn)].toArray below meth c H locs 0 0 (MQ below (qG F ((fun sz v h => v = some (.int r.1) ∧ RM D E β (fN F sz) r.2.1 r.2.2.1 r.2.2.2.1 r.2.2.2.2 h ∧ cnt r.2.1 σ) s.heap.size)) [(.ref (β 0 0) : Value), .ref (a0), .int (z), .int (nI mn)].toArray s 0 0 (fN F s.heap.size)) (F0 m 115 ls []) := by
    intro a6 a7 κ hκ n
    induction n with
    | zero =>
      intro i7 σ5 th5 ca5 sm5 hn hR H locs Fc hcn hM hFa hFb hd_as hT_as hS ls hl
      rw [fX4_tried_L115] at hR
      have hG := gE.ofS hG0 hS hFE
      refine lv_iload hx hb dX4_tried_115 (lv_at hl 6 rfl) ?_
      refine lv_iload_n hx hb dX4_tried_117 rfl (lv_at hl 2 rfl) ?_
      refine lk_ge_out (k := i7) (N := mn) hx hb hn (tgt := 180) dX4_tried_118 (by decide) ?_
      exact hκ σ5 th5 ca5 sm5 _ _ _ ls hR hcn hM hFa (fun q z => by have := hFb q z; omega) hd_as hT_as hS (lv_sub hl [0, 3, 5] rfl)
    | succ n ih =>
      intro i7 σ5 th5 ca5 sm5 hn hR H locs Fc hcn hM hFa hFb hd_as hT_as hS ls hl
      rw [fX4_tried_L115] at hR
      have hG := gE.ofS hG0 hS hFE
      refine lv_iload hx hb dX4_tried_115 (lv_at hl 6 rfl) ?_
      refine lv_iload_n hx hb dX4_tried_117 rfl (lv_at hl 2 rfl) ?_
      have hki7 : i7 < mn := lk_lt hn
      refine lk_ge_in (k := i7) (N := mn) hx hb hki7 (by have := hM.nP10; have := hM.nW14; have := hM.nB6; omega) (tgt := 180) dX4_tried_118 (by decide) ?_
      refine lv_iload hx hb dX4_tried_121 (lv_at hl 4 rfl) ?_
      refine lv_iload hx hb dX4_tried_123 (lv_at hl 6 rfl) ?_
      refine pcS (As := [.int (a7), .int (nI i7)]) (rest := []) hS0 (met_X4_isIn l D E a7 (nI i7)) q1654 q1655 q110 q1656 hd_X4_isIn ⟨Nat.le_of_ble_eq_true rfl, Nat.le_of_ble_eq_true rfl⟩ hG trivial rfl hl.1 rfl (Nat.le_of_ble_eq_true rfl) dX4_tried_125 ⟨Nat.le_of_ble_eq_true rfl, Nat.le_of_ble_eq_true rfl⟩ ?_
      refine W.eq (g2 := F0 m 128 ls [.int (bI ((fX4_isIn a7 (nI i7))))]) rfl ?_
      refine lb_if_ne (tgt := 134) hx hb dX4_tried_128 (by decide) (fun c8 => ?_) (fun c8 => ?_)
      · rw [if_pos c8] at hR
        refine lv_aload_n hx hb dX4_tried_134 rfl (lv_at hl 0 rfl) ?_
        refine gf (v := .ref (β 1 2)) (C := RX4) (T := TX4) (N := 13) (k := 5) hx hb hts hown hG cl_X4 in_X4 hM.ag (by decide) q1545 rfl dX4_tried_135 ?_
        refine lv_aload_n hx hb dX4_tried_138 rfl (lv_at hl 1 rfl) ?_
        refine lv_iload hx hb dX4_tried_139 (lv_at hl 6 rfl) ?_
        refine gaI (N := 3) (k := i7) hx hb hG hT_as (show i7 < 3 from by have := hki7; omega) (by decide) dX4_tried_141 ?_
        rcases (Decidable.em (0 ≤ ((f0) i7) ∧ ((f0) i7) < nI (nW σ5))).symm with g9 | g9
        · rw [if_neg g9] at hR
          cases hR
        rw [if_pos g9] at hR
        have ng9 := ck_ix g9 (by have := hM.nW14; omega)
        have bg9 := hcn.w2 ng9.2
        refine lv_eq ng9.1 ?_
        refine pcV (As := [.int (nI ((Int32.toNatClampNeg ((f0) i7))))]) (rest := []) hS0 (met_ml_get l D E (j := 2) (by decide) ((Int32.toNatClampNeg ((f0) i7))) (hcn.w bg9)) q1639 q349 q2082 q103 q351 hd_J2_get ⟨Nat.le_of_ble_eq_true rfl, Nat.le_of_ble_eq_true rfl⟩ hG (hM.lsR hG (j := 2) (by decide)) hM rfl hl.1 rfl (Nat.le_of_ble_eq_true rfl) dX4_tried_142 ⟨Nat.le_of_ble_eq_true rfl, Nat.le_of_ble_eq_true rfl⟩ ?_
        refine W.eq (g2 := F0 m 145 ls [.ref (β 5 ((Int32.toNatClampNeg ((f0) i7))))]) rfl ?_
        refine gc (ci := 9) hx hb hown hG cl_X11 (rcv hG cl_X11 (hM.wd (hcn.w bg9))) (hts _ q1695) dX4_tried_145 ?_
        refine lv_astore (lv' := [(8, .ref (β 5 ((Int32.toNatClampNeg ((f0) i7))))), (0, .ref (β 0 0)), (1, .ref (a0)), (3, .int (nI mn)), (4, .int (a6)), (5, .int (a7)), (6, .int (ca)), (7, .int (nI i7))]) hx hb dX4_tried_148 hl (Nat.le_of_ble_eq_true rfl) rfl (fun ls hl => ?_)
        refine lv_aload hx hb dX4_tried_150 (lv_at hl 0 rfl) ?_
        refine lv_iconst (v := 0) hx hb dX4_tried_152 (by decide) ?_
        refine pfN (ty0 := tyX11) (ty := tyX11 7) (v := .int 0) (C := RX11) (T := TX11) (N := 12) (k := 7) hx hb hts hown hG hS cl_X11 in_X11 tyX11_ok nmX11 (hM.wd (hcn.w bg9)) (hFa _ (hM.wdF (hcn.w bg9))) (hFa _ (hM.wdF (hcn.w bg9))) (by decide) q1710 rfl (tyX11_ok 7 (by decide)) rfl rfl (Nat.le_of_ble_eq_true rfl) dX4_tried_153 (fun H1 locs1 he hz hq hS => ?_)
        have hT_as : va_at D vwCl (a0, arI E 3 f0) H1 := hT_as.kept (hq _ (fun e9 => hd_as (by have e9 : a0 = _ := e9; rw [e9]; exact (hM.wdF (hcn.w bg9)))))
        have hM := hM.Pwst (hcn.w bg9) (v := 0) (by decide) he hq
        have hG := gE.ofS hG0 hS hFE
        obtain ⟨σ6, hσ6⟩ : ∃ x, x = sN σ5 5 ((Int32.toNatClampNeg ((f0) i7))) 0 := ⟨_, rfl⟩
        rw [← hσ6] at hR hM
        have hcn : cnt σ6 σ := by rw [hσ6]; exact hcn.sN (by decide)
        try dsimp only at hR
        refine lv_aload hx hb dX4_tried_156 (lv_at hl 0 rfl) ?_
        refine lv_iconst (v := 0) hx hb dX4_tried_158 (by decide) ?_
        refine pfN (ty0 := tyX11) (ty := tyX11 8) (v := .int 0) (C := RX11) (T := TX11) (N := 12) (k := 8) hx hb hts hown hG hS cl_X11 in_X11 tyX11_ok nmX11 (hM.wd (hcn.w bg9)) (hFa _ (hM.wdF (hcn.w bg9))) (hFa _ (hM.wdF (hcn.w bg9))) (by decide) q1711 rfl (tyX11_ok 8 (by decide)) rfl rfl (Nat.le_of_ble_eq_true rfl) dX4_tried_159 (fun H1 locs1 he hz hq hS => ?_)
        have hT_as : va_at D vwCl (a0, arI E 3 f0) H1 := hT_as.kept (hq _ (fun e9 => hd_as (by have e9 : a0 = _ := e9; rw [e9]; exact (hM.wdF (hcn.w bg9)))))
        have hM := hM.Pw24 (hcn.w bg9) he hq
        have hG := gE.ofS hG0 hS hFE
        obtain ⟨σ7, hσ7⟩ : ∃ x, x = sW σ6 24 ((Int32.toNatClampNeg ((f0) i7))) 0 := ⟨_, rfl⟩
        rw [← hσ7] at hR hM
        have hcn : cnt σ7 σ := by rw [hσ7]; exact hcn.sW
        try dsimp only at hR
        refine lv_aload hx hb dX4_tried_162 (lv_at hl 0 rfl) ?_
        refine lv_iconst (v := 0) hx hb dX4_tried_164 (by decide) ?_
        refine pfN (ty0 := tyX11) (ty := tyX11 9) (v := .int 0) (C := RX11) (T := TX11) (N := 12) (k := 9) hx hb hts hown hG hS cl_X11 in_X11 tyX11_ok nmX11 (hM.wd (hcn.w bg9)) (hFa _ (hM.wdF (hcn.w bg9))) (hFa _ (hM.wdF (hcn.w bg9))) (by decide) q1712 rfl (tyX11_ok 9 (by decide)) rfl rfl (Nat.le_of_ble_eq_true rfl) dX4_tried_165 (fun H1 locs1 he hz hq hS => ?_)
        have hT_as : va_at D vwCl (a0, arI E 3 f0) H1 := hT_as.kept (hq _ (fun e9 => hd_as (by have e9 : a0 = _ := e9; rw [e9]; exact (hM.wdF (hcn.w bg9)))))
        have hM := hM.Pw25 (hcn.w bg9) he hq
        have hG := gE.ofS hG0 hS hFE
        obtain ⟨σ8, hσ8⟩ : ∃ x, x = sW σ7 25 ((Int32.toNatClampNeg ((f0) i7))) 0 := ⟨_, rfl⟩
        rw [← hσ8] at hR hM
        have hcn : cnt σ8 σ := by rw [hσ8]; exact hcn.sW
        try dsimp only at hR
        refine lv_aload hx hb dX4_tried_168 (lv_at hl 0 rfl) ?_
        refine lv_iconst (v := 0) hx hb dX4_tried_170 (by decide) ?_
        refine pfN (ty0 := tyX11) (ty := tyX11 11) (v := .int 0) (C := RX11) (T := TX11) (N := 12) (k := 11) hx hb hts hown hG hS cl_X11 in_X11 tyX11_ok nmX11 (hM.wd (hcn.w bg9)) (hFa _ (hM.wdF (hcn.w bg9))) (hFa _ (hM.wdF (hcn.w bg9))) (by decide) q1715 rfl (tyX11_ok 11 (by decide)) rfl rfl (Nat.le_of_ble_eq_true rfl) dX4_tried_171 (fun H1 locs1 he hz hq hS => ?_)
        have hT_as : va_at D vwCl (a0, arI E 3 f0) H1 := hT_as.kept (hq _ (fun e9 => hd_as (by have e9 : a0 = _ := e9; rw [e9]; exact (hM.wdF (hcn.w bg9)))))
        have hM := hM.Pw26 (hcn.w bg9) he hq
        have hG := gE.ofS hG0 hS hFE
        obtain ⟨σ9, hσ9⟩ : ∃ x, x = sW σ8 26 ((Int32.toNatClampNeg ((f0) i7))) 0 := ⟨_, rfl⟩
        rw [← hσ9] at hR hM
        have hcn : cnt σ9 σ := by rw [hσ9]; exact hcn.sW
        try dsimp only at hR
        refine lv_iinc (v := nI (i7 + 1)) (lv' := [(7, .int (nI (i7 + 1))), (8, .ref (β 5 ((Int32.toNatClampNeg ((f0) i7))))), (0, .ref (β 0 0)), (1, .ref (a0)), (3, .int (nI mn)), (4, .int (a6)), (5, .int (a7)), (6, .int (ca))]) hx hb dX4_tried_174 hl (k := 7) rfl (nI_1 i7) (Nat.le_of_ble_eq_true rfl) rfl (fun ls hl => ?_)
        refine lv_goto (tgt := 115) hx hb dX4_tried_177 (by decide) ?_
        exact ih (i7 + 1) σ9 th5 ca5 sm5 (lk_st hn) hR _ _ _ hcn hM hFa (fun q z => by have := hFb q z; omega) hd_as hT_as hS ls (lv_sub hl [2, 3, 4, 5, 6, 7, 0] rfl)
      · rw [if_neg c8] at hR
        refine lv_goto (tgt := 174) hx hb dX4_tried_131 (by decide) ?_
        refine lv_iinc (v := nI (i7 + 1)) (lv' := [(7, .int (nI (i7 + 1))), (0, .ref (β 0 0)), (1, .ref (a0)), (3, .int (nI mn)), (4, .int (a6)), (5, .int (a7)), (6, .int (ca))]) hx hb dX4_tried_174 hl (k := 6) rfl (nI_1 i7) (Nat.le_of_ble_eq_true rfl) rfl (fun ls hl => ?_)
        refine lv_goto (tgt := 115) hx hb dX4_tried_177 (by decide) ?_
        exact ih (i7 + 1) σ5 th5 ca5 sm5 (lk_st hn) hR _ _ _ hcn hM hFa (fun q z => by have := hFb q z; omega) hd_as hT_as hS ls (lv_sub hl [1, 2, 3, 4, 5, 6, 0] rfl)
  unfold fX4_tried at hR
  refine lv_iconst (v := 0) hx hb dX4_tried_0 (by decide) ?_
  refine lv_istore (lv' := [(4, .int 0), (0, .ref (β 0 0)), (1, .ref (a0)), (2, .int (z)), (3, .int (nI mn))]) hx hb dX4_tried_1 hl (Nat.le_of_ble_eq_true rfl) rfl (fun ls hl => ?_)
  refine lv_iconst (v := 0) hx hb dX4_tried_3 (by decide) ?_
  refine lv_istore (lv' := [(5, .int 0), (4, .int 0), (0, .ref (β 0 0)), (1, .ref (a0)), (2, .int (z)), (3, .int (nI mn))]) hx hb dX4_tried_4 hl (Nat.le_of_ble_eq_true rfl) rfl (fun ls hl => ?_)
  refine lv_aload_n hx hb dX4_tried_6 rfl (lv_at hl 2 rfl) ?_
  refine gf (v := .int (ca)) (C := RX4) (T := TX4) (N := 13) (k := 2) hx hb hts hown hG cl_X4 in_X4 hM.ag (by decide) q1542 rfl dX4_tried_7 ?_
  refine lv_istore (lv' := [(6, .int (ca)), (5, .int 0), (4, .int 0), (0, .ref (β 0 0)), (1, .ref (a0)), (2, .int (z)), (3, .int (nI mn))]) hx hb dX4_tried_10 hl (Nat.le_of_ble_eq_true rfl) rfl (fun ls hl => ?_)
  refine lv_iconst (v := 0) hx hb dX4_tried_12 (by decide) ?_
  refine lv_istore (lv' := [(7, .int 0), (6, .int (ca)), (5, .int 0), (4, .int 0), (0, .ref (β 0 0)), (1, .ref (a0)), (2, .int (z)), (3, .int (nI mn))]) hx hb dX4_tried_13 hl (Nat.le_of_ble_eq_true rfl) rfl (fun ls hl => ?_)
  refine hL15  _ (fun a6 a7 σ4 th4 ca4 sm4 H1 locs1 Fc ls hR hcn hM hFa hFb hd_as hT_as hS hl => ?_) mn 0 0 0 σ th ca sm (Nat.zero_add _) hR _ _ _ hcn hM hFa (fun q z => by have := hFb q z; omega) hd_as hT_as hS ls (lv_sub hl [4, 5, 6, 7, 3, 2, 1, 0] rfl)
  try dsimp only at hR
  have hG := gE.ofS hG0 hS hFE
  refine lv_iconst (v := 0) hx hb dX4_tried_112 (by decide) ?_
  refine lv_istore (lv' := [(7, .int 0), (0, .ref (β 0 0)), (1, .ref (a0)), (3, .int (nI mn)), (4, .int (a6)), (5, .int (a7)), (6, .int (ca))]) hx hb dX4_tried_113 hl (Nat.le_of_ble_eq_true rfl) rfl (fun ls hl => ?_)
  refine hL115 a6 a7 _ (fun σ10 th10 ca10 sm10 H1 locs1 Fc ls hR hcn hM hFa hFb hd_as hT_as hS hl => ?_) mn 0 σ4 th4 ca4 sm4 (Nat.zero_add _) hR _ _ _ hcn hM hFa (fun q z => by have := hFb q z; omega) hd_as hT_as hS ls (lv_sub hl [1, 2, 3, 4, 5, 6, 0] rfl)
  try dsimp only at hR
  have hG := gE.ofS hG0 hS hFE
  refine lv_aload_n hx hb dX4_tried_180 rfl (lv_at hl 0 rfl) ?_
  refine lv_iload hx hb dX4_tried_181 (lv_at hl 2 rfl) ?_
  refine pf (ty0 := tyX4) (ty := tyX4 2) (v := .int (ca)) (C := RX4) (T := TX4) (N := 13) (k := 2) hx hb hts hown hG hS cl_X4 in_X4 tyX4_ok nmX4 hM.ag (hFa _ hM.agF) (hFa _ hM.agF) (by decide) q1542 rfl (tyX4_ok 2 (by decide)) rfl rfl (Nat.le_of_ble_eq_true rfl) dX4_tried_183 (fun H1 locs1 he hz hq hS => ?_)
  have hT_as : va_at D vwCl (a0, arI E 3 f0) H1 := hT_as.kept (hq _ (fun e9 => hd_as (by have e9 : a0 = _ := e9; rw [e9]; exact hM.agF)))
  have hM := hM.Pca  he hq
  have hG := gE.ofS hG0 hS hFE
  refine lv_iload hx hb dX4_tried_186 (lv_at hl 1 rfl) ?_
  exact g_iret hx hb hr hlocks hS ⟨Nat.le_of_ble_eq_true rfl, Nat.le_of_ble_eq_true rfl⟩ dX4_tried_188 (by cases hR; exact ⟨rfl, (hM.mono (fun q _ z => hFa q z) (fN_E hFE hG0.2.2.1)), hcn⟩)

def fX4_plan_L32 (σ : St) (th : Int32) (ca : Int32) (sm : Int64) (a : Int32) (z : Bool)  (κ : Nat → St → Int32 → Int32 → Int64 → (Nat → Int32) → Option (Int32 × MSt)) : Nat → Nat → Nat → St → Int32 → Int32 → Int64 → (Nat → Int32) → Option (Int32 × MSt)
  | 0, i5, a4, σ1, th1, ca1, sm1, t_t23_32 => κ a4 σ1 th1 ca1 sm1 t_t23_32
  | n + 1, i5, a4, σ1, th1, ca1, sm1, t_t23_32 => (if 3 ≤ (nI a4) then κ a4 σ1 th1 ca1 sm1 t_t23_32 else (if (nI (wDay σ1 i5)) = a then (if ((fX4_place σ1 i5)) = 0 then (if a4 < 3 then (fun (f2 : Nat → Int32) => fX4_plan_L32 σ th ca sm a z κ n (i5 + 1) (a4 + 1) σ1 th1 ca1 sm1 f2) (upd t_t23_32 a4 (nI i5)) else none) else fX4_plan_L32 σ th ca sm a z κ n (i5 + 1) a4 σ1 th1 ca1 sm1 t_t23_32) else fX4_plan_L32 σ th ca sm a z κ n (i5 + 1) a4 σ1 th1 ca1 sm1 t_t23_32))
def fX4_plan_L105 (σ : St) (th : Int32) (ca : Int32) (sm : Int64) (a : Int32) (z : Bool) (i6 : Nat) (t_t23_7 : (Nat → Int32)) (κ : Int32 → Int32 → St → Int32 → Int32 → Int64 → Option (Int32 × MSt)) : Nat → Int32 → Int32 → Int32 → St → Int32 → Int32 → Int64 → Option (Int32 × MSt)
  | 0, a5, a6, a7, σ4, th4, ca4, sm4 => none
  | n + 1, a5, a6, a7, σ4, th4, ca4, sm4 => (if (1 <<< ((nI i6) &&& 31)) ≤ a7 then κ a5 a6 σ4 th4 ca4 sm4 else (if i6 < 4 then (Option.bind (fX4_tried σ4 th4 ca4 sm4 a7 i6 t_t23_7) (fun (r10 : Int32 × MSt) => (fun (σ5 : St) => (fun (th5 : Int32) => (fun (ca5 : Int32) => (fun (sm5 : Int64) => (fun (v5 : Int32) => (if a6 < v5 then fX4_plan_L105 σ th ca sm a z i6 t_t23_7 κ n a7 v5 (a7 + 1) σ5 th5 ca5 sm5 else fX4_plan_L105 σ th ca sm a z i6 t_t23_7 κ n a5 a6 (a7 + 1) σ5 th5 ca5 sm5)) (r10.1)) (r10.2.2.2.2)) (r10.2.2.2.1)) (r10.2.2.1)) (r10.2.1))) else none))
def fX4_plan_L155 (σ : St) (th : Int32) (ca : Int32) (sm : Int64) (a : Int32) (z : Bool) (i6 : Nat) (t_t23_7 : (Nat → Int32)) (a12 : Int32) (a13 : Int32) (κ : Int32 → St → Int32 → Int32 → Int64 → Option (Int32 × MSt)) : Nat → Nat → Int32 → St → Int32 → Int32 → Int64 → Option (Int32 × MSt)
  | 0, i8, a7, σ7, th7, ca7, sm7 => κ a7 σ7 th7 ca7 sm7
  | n + 1, i8, a7, σ7, th7, ca7, sm7 => (if ((fX4_isIn a12 (nI i8))) = true then fX4_plan_L155 σ th ca sm a z i6 t_t23_7 a12 a13 κ n (i8 + 1) (a7 ||| (1 <<< (((t_t23_7) i8) &&& 31))) σ7 th7 ca7 sm7 else fX4_plan_L155 σ th ca sm a z i6 t_t23_7 a12 a13 κ n (i8 + 1) (a7 ||| 0) σ7 th7 ca7 sm7)
def fX4_plan (σ : St) (th : Int32) (ca : Int32) (sm : Int64) (a : Int32) (z : Bool) : Option (Int32 × MSt) :=
  (if ((fX4_is a 0 365)) = true then fX4_plan_L32 σ th ca sm a z (fun (i6 : Nat) (σ3 : St) (th3 : Int32) (ca3 : Int32) (sm3 : Int64) (t_t23_7 : (Nat → Int32)) => fX4_plan_L105 σ th ca sm a z i6 t_t23_7 (fun (a12 : Int32) (a13 : Int32) (σ6 : St) (th6 : Int32) (ca6 : Int32) (sm6 : Int64) => (if i6 < 4 then fX4_plan_L155 σ th ca sm a z i6 t_t23_7 a12 a13 (fun (a16 : Int32) (σ8 : St) (th8 : Int32) (ca8 : Int32) (sm8 : Int64) => (if z = true then (some (a16, ((σ8, th8, ca8, sm8) : MSt))) else (some (a13, ((σ8, th8, ca8, sm8) : MSt))))) i6 0 0 σ6 th6 ca6 sm6 else none)) 9 0 0 1 σ3 th3 ca3 sm3) (nW σ) 0 0 σ 0 ca sm (fun _ => 0) else (fun (σ9 : St) => (fun (th9 : Int32) => (fun (ca9 : Int32) => (fun (sm9 : Int64) => (fun (v9 : Int32) => (some (v9, ((σ9, th9, ca9, sm9) : MSt)))) ((fX4_refuse σ 0 ca sm 1).1)) ((fX4_refuse σ 0 ca sm 1).2.2.2.2)) ((fX4_refuse σ 0 ca sm 1).2.2.2.1)) ((fX4_refuse σ 0 ca sm 1).2.2.1)) ((fX4_refuse σ 0 ca sm 1).2.1))
set_option maxHeartbeats 4000000 in
set_option maxRecDepth 100000 in
theorem met_X4_plan (l : Launch) (D : va_G) (E : Nat → Nat) {β : Nat → Nat → Nat} {F : Nat → Prop} {σ : St} {th ca : Int32} {sm : Int64} (a : Int32) (z : Bool)  {r : Int32 × MSt} (hR : fX4_plan σ th ca sm a z = some r) : GM l D E yX4_plan cX4_plan 9 (Option.some Jvm.ClassFile.FieldType.int) 22 491 1 3 [.ref (β 0 0), .int (a), .int (bI z)] (RM D E β F σ th ca sm) F F (fun sz v h => v = some (.int r.1) ∧ RM D E β (fN F sz) r.2.1 r.2.2.1 r.2.2.2.1 r.2.2.2.2 h ∧ cnt r.2.1 σ)  := by
  refine GM.start (by decide) (Nat.le_of_ble_eq_true rfl) ?_
  intro p e s m below meth c ls hx hb hr hml hown hlocks hnm hts hG hM hS hl
  have hown : s.vm.findClass RX4 = some m.cls := hown
  have hS0 : xS p m c cX4_plan 9 s _ RX4 := ⟨hx, hb, hml, hown, hts⟩
  have hl : lv_has ls 9 [(0, .ref (β 0 0)), (1, .int (a)), (2, .int (bI z))] := hl
  have hG0 := hG
  have hM0 := hM
  have hb0P := hM0.nP10
  have hb0B := hM0.nB6
  have hb0W := hM0.nW14
  have hFE := hM.fE
  obtain ⟨Fc, hM, hFn⟩ := hM.nar
  have hFa : ∀ q, Fc q → fN F s.heap.size q := fun q z => Or.inl (hFn q z).1
  have hFb : ∀ q, Fc q → q < s.heap.size := fun q z => (hFn q z).2
  have hcn : cnt σ σ := cnt.rf
  have hL32 : ∀ (q23 : Nat) (hge_t23 : s.heap.size ≤ q23) (κ : Nat → St → Int32 → Int32 → Int64 → (Nat → Int32) → Option (Int32 × MSt)) (hκ : ∀ (a4 : Nat) (σ1 : St) (th1 : Int32) (ca1 : Int32) (sm1 : Int64) (t_t23_32 : (Nat → Int32)) (H : Heap) (locs : List Loc) (Fc : Nat → Prop) (ls : Array Slot), κ a4 σ1 th1 ca1 sm1 t_t23_32 = some r → cnt σ1 σ → RM D E β Fc σ1 th1 ca1 sm1 H → (∀ q, Fc q → fN F s.heap.size q) → (∀ q, Fc q → q < H.size) → ¬ Fc q23 → va_at D vwCl (q23, arI E 3 t_t23_32) H → xK F F s.heap H locs → lv_has ls 9 [(0, .ref (β 0 0)), (2, .int (bI z)), (3, .ref (q23)), (4, .int (nI a4))] → W p l e { frames := 22, cells := 1, slots := 3, locals := 491 } s m [(.ref (β 0 0) : Value), .int (a), .int (bI z)].toArray below meth c H locs 1 3 (MQ below (qG F ((fun sz v h => v = some (.int r.1) ∧ RM D E β (fN F sz) r.2.1 r.2.2.1 r.2.2.2.1 r.2.2.2.2 h ∧ cnt r.2.1 σ) s.heap.size)) [(.ref (β 0 0) : Value), .int (a), .int (bI z)].toArray s 1 3 (fN F s.heap.size)) (F0 m 96 ls [])) (n : Nat) (i5 : Nat) (a4 : Nat) (σ1 : St) (th1 : Int32) (ca1 : Int32) (sm1 : Int64) (t_t23_32 : (Nat → Int32)), i5 + n = nW σ → fX4_plan_L32 σ th ca sm a z κ n i5 a4 σ1 th1 ca1 sm1 t_t23_32 = some r → ∀ (H : Heap) (locs : List Loc) (Fc : Nat → Prop), cnt σ1 σ → RM D E β Fc σ1 th1 ca1 sm1 H → (∀ q, Fc q → fN F s.heap.size q) → (∀ q, Fc q → q < H.size) → ¬ Fc q23 → va_at D vwCl (q23, arI E 3 t_t23_32) H → xK F F s.heap H locs → ∀ (ls : Array Slot), lv_has ls 9 [(0, .ref (β 0 0)), (1, .int (a)), (2, .int (bI z)), (3, .ref (q23)), (4, .int (nI a4)), (5, .int (nI i5))] → W p l e { frames := 22, cells := 1, slots := 3, locals := 491 } s m [(.ref (β 0 0) : Value), .int (a), .int (bI z)].toArray below meth c H locs 1 3 (MQ below (qG F ((fun sz v h => v = some (.int r.1) ∧ RM D E β (fN F sz) r.2.1 r.2.2.1 r.2.2.2.1 r.2.2.2.2 h ∧ cnt r.2.1 σ) s.heap.size)) [(.ref (β 0 0) : Value), .int (a), .int (bI z)].toArray s 1 3 (fN F s.heap.size)) (F0 m 32 ls []) := by
    intro q23 hge_t23 κ hκ n
    induction n with
    | zero =>
      intro i5 a4 σ1 th1 ca1 sm1 t_t23_32 hn hR H locs Fc hcn hM hFa hFb hd_t23 hT_t23 hS ls hl
      rw [fX4_plan_L32] at hR
      have hG := gE.ofS hG0 hS hFE
      refine lv_iload hx hb dX4_plan_32 (lv_at hl 5 rfl) ?_
      refine lv_aload_n hx hb dX4_plan_34 rfl (lv_at hl 0 rfl) ?_
      refine gf (v := .ref (β 1 2)) (C := RX4) (T := TX4) (N := 13) (k := 5) hx hb hts hown hG cl_X4 in_X4 hM.ag (by decide) q1545 rfl dX4_plan_35 ?_
      refine pcV (As := []) (rest := [.int (nI i5)]) hS0 (met_ml_size l D E (j := 2) (by decide)) q1600 q336 q2080 q103 q338 hd_J2_size ⟨Nat.le_of_ble_eq_true rfl, Nat.le_of_ble_eq_true rfl⟩ hG (hM.lsR hG (j := 2) (by decide)) hM rfl hl.1 rfl (Nat.le_of_ble_eq_true rfl) dX4_plan_38 ⟨Nat.le_of_ble_eq_true rfl, Nat.le_of_ble_eq_true rfl⟩ ?_
      refine W.eq (g2 := F0 m 41 ls [.int (nI (nW σ1)), .int (nI i5)]) rfl ?_
      refine lk_ge_out (k := i5) (N := nW σ1) hx hb (Eq.trans hn hcn.2.2.symm) (tgt := 96) dX4_plan_41 (by decide) ?_
      exact hκ a4 σ1 th1 ca1 sm1 t_t23_32 _ _ _ ls hR hcn hM hFa (fun q z => by have := hFb q z; omega) hd_t23 hT_t23 hS (lv_sub hl [0, 2, 3, 4] rfl)
    | succ n ih =>
      intro i5 a4 σ1 th1 ca1 sm1 t_t23_32 hn hR H locs Fc hcn hM hFa hFb hd_t23 hT_t23 hS ls hl
      rw [fX4_plan_L32] at hR
      have hG := gE.ofS hG0 hS hFE
      refine lv_iload hx hb dX4_plan_32 (lv_at hl 5 rfl) ?_
      refine lv_aload_n hx hb dX4_plan_34 rfl (lv_at hl 0 rfl) ?_
      refine gf (v := .ref (β 1 2)) (C := RX4) (T := TX4) (N := 13) (k := 5) hx hb hts hown hG cl_X4 in_X4 hM.ag (by decide) q1545 rfl dX4_plan_35 ?_
      refine pcV (As := []) (rest := [.int (nI i5)]) hS0 (met_ml_size l D E (j := 2) (by decide)) q1600 q336 q2080 q103 q338 hd_J2_size ⟨Nat.le_of_ble_eq_true rfl, Nat.le_of_ble_eq_true rfl⟩ hG (hM.lsR hG (j := 2) (by decide)) hM rfl hl.1 rfl (Nat.le_of_ble_eq_true rfl) dX4_plan_38 ⟨Nat.le_of_ble_eq_true rfl, Nat.le_of_ble_eq_true rfl⟩ ?_
      refine W.eq (g2 := F0 m 41 ls [.int (nI (nW σ1)), .int (nI i5)]) rfl ?_
      have hki5 : i5 < nW σ := lk_lt hn
      refine lk_ge_in (k := i5) (N := nW σ1) hx hb (hcn.w hki5) (by have := hM.nP10; have := hM.nW14; have := hM.nB6; omega) (tgt := 96) dX4_plan_41 (by decide) ?_
      refine lv_iload hx hb dX4_plan_44 (lv_at hl 4 rfl) ?_
      refine lv_iconst (v := 3) hx hb dX4_plan_46 (by decide) ?_
      refine lv_icmp_ge (tgt := 96) hx hb dX4_plan_47 (by decide) (fun c2 => ?_) (fun c2 => ?_)
      · rw [if_pos c2] at hR
        exact hκ a4 σ1 th1 ca1 sm1 t_t23_32 _ _ _ ls hR hcn hM hFa (fun q z => by have := hFb q z; omega) hd_t23 hT_t23 hS (lv_sub hl [0, 2, 3, 4] rfl)
      · rw [if_neg c2] at hR
        refine lv_aload_n hx hb dX4_plan_50 rfl (lv_at hl 0 rfl) ?_
        refine gf (v := .ref (β 1 2)) (C := RX4) (T := TX4) (N := 13) (k := 5) hx hb hts hown hG cl_X4 in_X4 hM.ag (by decide) q1545 rfl dX4_plan_51 ?_
        refine lv_iload hx hb dX4_plan_54 (lv_at hl 5 rfl) ?_
        refine pcV (As := [.int (nI i5)]) (rest := []) hS0 (met_ml_get l D E (j := 2) (by decide) i5 (hcn.w hki5)) q1639 q349 q2082 q103 q351 hd_J2_get ⟨Nat.le_of_ble_eq_true rfl, Nat.le_of_ble_eq_true rfl⟩ hG (hM.lsR hG (j := 2) (by decide)) hM rfl hl.1 rfl (Nat.le_of_ble_eq_true rfl) dX4_plan_56 ⟨Nat.le_of_ble_eq_true rfl, Nat.le_of_ble_eq_true rfl⟩ ?_
        refine W.eq (g2 := F0 m 59 ls [.ref (β 5 i5)]) rfl ?_
        refine gc (ci := 9) hx hb hown hG cl_X11 (rcv hG cl_X11 (hM.wd (hcn.w hki5))) (hts _ q1695) dX4_plan_59 ?_
        refine gfN (v := .int (nI (wDay σ1 i5))) (C := RX11) (T := TX11) (N := 12) (k := 1) hx hb hts hown hG cl_X11 in_X11 (hM.wd (hcn.w hki5)) (by decide) q1702 rfl dX4_plan_62 ?_
        refine lv_iload_n hx hb dX4_plan_65 rfl (lv_at hl 1 rfl) ?_
        refine lv_icmp_ne (tgt := 90) hx hb dX4_plan_66 (by decide) (fun c3 => ?_) (fun c3 => ?_)
        · rw [if_neg c3] at hR
          refine lv_iinc (v := nI (i5 + 1)) (lv' := [(5, .int (nI (i5 + 1))), (0, .ref (β 0 0)), (1, .int (a)), (2, .int (bI z)), (3, .ref (q23)), (4, .int (nI a4))]) hx hb dX4_plan_90 hl (k := 5) rfl (nI_1 i5) (Nat.le_of_ble_eq_true rfl) rfl (fun ls hl => ?_)
          refine lv_goto (tgt := 32) hx hb dX4_plan_93 (by decide) ?_
          exact ih (i5 + 1) a4 σ1 th1 ca1 sm1 t_t23_32 (lk_st hn) hR _ _ _ hcn hM hFa (fun q z => by have := hFb q z; omega) hd_t23 hT_t23 hS ls (lv_sub hl [1, 2, 3, 4, 5, 0] rfl)
        · rw [if_pos c3] at hR
          refine lv_aload_n hx hb dX4_plan_69 rfl (lv_at hl 0 rfl) ?_
          refine lv_iload hx hb dX4_plan_70 (lv_at hl 5 rfl) ?_
          refine pcV (As := [.int (nI i5)]) (rest := []) hS0 (met_X4_place l D E i5 (hcn.w hki5)) q1749 q1751 qs63 q110 q1752 hd_X4_place ⟨Nat.le_of_ble_eq_true rfl, Nat.le_of_ble_eq_true rfl⟩ hG (rcv hG cl_X4 hM.ag) hM rfl hl.1 rfl (Nat.le_of_ble_eq_true rfl) dX4_plan_72 ⟨Nat.le_of_ble_eq_true rfl, Nat.le_of_ble_eq_true rfl⟩ ?_
          refine W.eq (g2 := F0 m 75 ls [.int ((fX4_place σ1 i5))]) rfl ?_
          refine lv_if_eq (tgt := 81) hx hb dX4_plan_75 (by decide) (fun c4 => ?_) (fun c4 => ?_)
          · rw [if_pos c4] at hR
            refine lv_aload_n hx hb dX4_plan_81 rfl (lv_at hl 3 rfl) ?_
            rcases (Decidable.em (a4 < 3)).symm with g5 | g5
            · rw [if_neg g5] at hR
              cases hR
            rw [if_pos g5] at hR
            refine lv_iload hx hb dX4_plan_82 (lv_at hl 4 rfl) ?_
            refine lv_iload hx hb dX4_plan_84 (lv_at hl 5 rfl) ?_
            have hB := hS.1
            have hL_t23 : q23 < _ := hT_t23.lt
            refine paI (N := 3) (k := a4) hx hb hG hS hT_t23 (Or.inr hge_t23) (Or.inr hge_t23) g5 (by decide) dX4_plan_86 (fun H1 locs1 he hz hq hS => ?_)
            have hM := hM.kept (fun q h4 h5 => hq q (fun e9 => hd_t23 (e9 ▸ h5)))
            have hG := gE.ofS hG0 hS hFE
            obtain ⟨f2, hf2⟩ : ∃ x, x = upd t_t23_32 a4 (nI i5) := ⟨_, rfl⟩
            rw [← hf2] at hR he
            try dsimp only at hR
            have hT_t23 : va_at D vwCl (q23, arI E 3 f2) H1 := he
            refine lv_iinc (v := nI (a4 + 1)) (lv' := [(4, .int (nI (a4 + 1))), (0, .ref (β 0 0)), (1, .int (a)), (2, .int (bI z)), (3, .ref (q23)), (5, .int (nI i5))]) hx hb dX4_plan_87 hl (k := 4) rfl (nI_1 a4) (Nat.le_of_ble_eq_true rfl) rfl (fun ls hl => ?_)
            refine lv_iinc (v := nI (i5 + 1)) (lv' := [(5, .int (nI (i5 + 1))), (4, .int (nI (a4 + 1))), (0, .ref (β 0 0)), (1, .int (a)), (2, .int (bI z)), (3, .ref (q23))]) hx hb dX4_plan_90 hl (k := 5) rfl (nI_1 i5) (Nat.le_of_ble_eq_true rfl) rfl (fun ls hl => ?_)
            refine lv_goto (tgt := 32) hx hb dX4_plan_93 (by decide) ?_
            exact ih (i5 + 1) (a4 + 1) σ1 th1 ca1 sm1 f2 (lk_st hn) hR _ _ _ hcn hM hFa (fun q z => by have := hFb q z; omega) hd_t23 hT_t23 hS ls (lv_sub hl [2, 3, 4, 5, 1, 0] rfl)
          · rw [if_neg c4] at hR
            refine lv_goto (tgt := 90) hx hb dX4_plan_78 (by decide) ?_
            refine lv_iinc (v := nI (i5 + 1)) (lv' := [(5, .int (nI (i5 + 1))), (0, .ref (β 0 0)), (1, .int (a)), (2, .int (bI z)), (3, .ref (q23)), (4, .int (nI a4))]) hx hb dX4_plan_90 hl (k := 5) rfl (nI_1 i5) (Nat.le_of_ble_eq_true rfl) rfl (fun ls hl => ?_)
            refine lv_goto (tgt := 32) hx hb dX4_plan_93 (by decide) ?_
            exact ih (i5 + 1) a4 σ1 th1 ca1 sm1 t_t23_32 (lk_st hn) hR _ _ _ hcn hM hFa (fun q z => by have := hFb q z; omega) hd_t23 hT_t23 hS ls (lv_sub hl [1, 2, 3, 4, 5, 0] rfl)
  have hL105 : ∀ (i6 : Nat) (t_t23_7 : (Nat → Int32)) (q23 : Nat) (hge_t23 : s.heap.size ≤ q23) (κ : Int32 → Int32 → St → Int32 → Int32 → Int64 → Option (Int32 × MSt)) (hκ : ∀ (a5 : Int32) (a6 : Int32) (σ4 : St) (th4 : Int32) (ca4 : Int32) (sm4 : Int64) (H : Heap) (locs : List Loc) (Fc : Nat → Prop) (ls : Array Slot), κ a5 a6 σ4 th4 ca4 sm4 = some r → cnt σ4 σ → RM D E β Fc σ4 th4 ca4 sm4 H → (∀ q, Fc q → fN F s.heap.size q) → (∀ q, Fc q → q < H.size) → ¬ Fc q23 → va_at D vwCl (q23, arI E 3 t_t23_7) H → xK F F s.heap H locs → lv_has ls 9 [(2, .int (bI z)), (3, .ref (q23)), (4, .int (nI i6)), (5, .int (a5)), (6, .int (a6))] → W p l e { frames := 22, cells := 1, slots := 3, locals := 491 } s m [(.ref (β 0 0) : Value), .int (a), .int (bI z)].toArray below meth c H locs 1 3 (MQ below (qG F ((fun sz v h => v = some (.int r.1) ∧ RM D E β (fN F sz) r.2.1 r.2.2.1 r.2.2.2.1 r.2.2.2.2 h ∧ cnt r.2.1 σ) s.heap.size)) [(.ref (β 0 0) : Value), .int (a), .int (bI z)].toArray s 1 3 (fN F s.heap.size)) (F0 m 149 ls [])) (n : Nat) (a5 : Int32) (a6 : Int32) (a7 : Int32) (σ4 : St) (th4 : Int32) (ca4 : Int32) (sm4 : Int64), fX4_plan_L105 σ th ca sm a z i6 t_t23_7 κ n a5 a6 a7 σ4 th4 ca4 sm4 = some r → ∀ (H : Heap) (locs : List Loc) (Fc : Nat → Prop), cnt σ4 σ → RM D E β Fc σ4 th4 ca4 sm4 H → (∀ q, Fc q → fN F s.heap.size q) → (∀ q, Fc q → q < H.size) → ¬ Fc q23 → va_at D vwCl (q23, arI E 3 t_t23_7) H → xK F F s.heap H locs → ∀ (ls : Array Slot), lv_has ls 9 [(0, .ref (β 0 0)), (2, .int (bI z)), (3, .ref (q23)), (4, .int (nI i6)), (5, .int (a5)), (6, .int (a6)), (7, .int (a7))] → W p l e { frames := 22, cells := 1, slots := 3, locals := 491 } s m [(.ref (β 0 0) : Value), .int (a), .int (bI z)].toArray below meth c H locs 1 3 (MQ below (qG F ((fun sz v h => v = some (.int r.1) ∧ RM D E β (fN F sz) r.2.1 r.2.2.1 r.2.2.2.1 r.2.2.2.2 h ∧ cnt r.2.1 σ) s.heap.size)) [(.ref (β 0 0) : Value), .int (a), .int (bI z)].toArray s 1 3 (fN F s.heap.size)) (F0 m 105 ls []) := by
    intro i6 t_t23_7 q23 hge_t23 κ hκ n
    induction n with
    | zero =>
      intro a5 a6 a7 σ4 th4 ca4 sm4 hR H locs Fc hcn hM hFa hFb hd_t23 hT_t23 hS ls hl
      rw [fX4_plan_L105] at hR
      have hG := gE.ofS hG0 hS hFE
      cases hR
    | succ n ih =>
      intro a5 a6 a7 σ4 th4 ca4 sm4 hR H locs Fc hcn hM hFa hFb hd_t23 hT_t23 hS ls hl
      rw [fX4_plan_L105] at hR
      have hG := gE.ofS hG0 hS hFE
      refine lv_iload hx hb dX4_plan_105 (lv_at hl 6 rfl) ?_
      refine lv_iconst (v := 1) hx hb dX4_plan_107 (by decide) ?_
      refine lv_iload hx hb dX4_plan_108 (lv_at hl 3 rfl) ?_
      refine lv_ishl hx hb dX4_plan_110 ?_
      refine lv_icmp_ge (tgt := 149) hx hb dX4_plan_111 (by decide) (fun c8 => ?_) (fun c8 => ?_)
      · rw [if_pos c8] at hR
        exact hκ a5 a6 σ4 th4 ca4 sm4 _ _ _ ls hR hcn hM hFa (fun q z => by have := hFb q z; omega) hd_t23 hT_t23 hS (lv_sub hl [1, 2, 3, 4, 5] rfl)
      · rw [if_neg c8] at hR
        refine lv_aload_n hx hb dX4_plan_114 rfl (lv_at hl 0 rfl) ?_
        refine lv_aload_n hx hb dX4_plan_115 rfl (lv_at hl 2 rfl) ?_
        refine lv_iload hx hb dX4_plan_116 (lv_at hl 6 rfl) ?_
        rcases (Decidable.em (i6 < 4)).symm with g9 | g9
        · rw [if_neg g9] at hR
          cases hR
        rw [if_pos g9] at hR
        refine lv_iload hx hb dX4_plan_118 (lv_at hl 3 rfl) ?_
        rcases hc_r10 : (fX4_tried σ4 th4 ca4 sm4 a7 i6 t_t23_7) with _ | r10
        · rw [hc_r10] at hR
          cases hR
        rw [hc_r10] at hR
        try dsimp only [Option.bind] at hR
        have hB := hS.1
        have hL_t23 : q23 < _ := hT_t23.lt
        refine gcV (As := [.ref (q23), .int (a7), .int (nI i6)]) (rest := []) hS0 (met_X4_tried l D E q23 a7 i6 t_t23_7 g9 hd_t23 hc_r10) q2031 q2033 qs96 q110 q2034 hd_X4_tried ⟨Nat.le_of_ble_eq_true rfl, Nat.le_of_ble_eq_true rfl⟩ hG (rcv hG cl_X4 hM.ag) ⟨hM, hT_t23⟩ rfl hl.1 rfl (Nat.le_of_ble_eq_true rfl) dX4_plan_120 ⟨Nat.le_of_ble_eq_true rfl, Nat.le_of_ble_eq_true rfl⟩ hS (fun q h => hFa q h) (fun q h => hFa q h) (fun v H1 locs1 hP hz hk hS => ?_)
        obtain ⟨rfl, hZ, hc8⟩ := hP
        have hT_t23 : va_at D vwCl (q23, arI E 3 t_t23_7) H1 := hT_t23.kept (hk _ hT_t23.lt hd_t23)
        obtain ⟨Fd, hM, hFn⟩ := hZ.nar
        have hd_t23 : ¬ Fd q23 := fun z => (hFn _ z).1.elim hd_t23 (fun z9 => absurd z9 (Nat.not_le.mpr hL_t23))
        have hFa : ∀ q, Fd q → fN F s.heap.size q := fun q z => (hFn q z).1.elim (hFa q) (fun z9 => Or.inr (Nat.le_trans hB z9))
        have hFb : ∀ q, Fd q → q < H1.size := fun q z => (hFn q z).2
        clear hFn
        generalize Fd = Fc at hM hFa hFb hd_t23
        have hG := gE.ofS hG0 hS hFE
        have hcn := hc8.tr hcn
        generalize hv_σ5 : r10.2.1 = σ5 at hR hM hcn ⊢
        generalize hv_th5 : r10.2.2.1 = th5 at hR hM hcn ⊢
        generalize hv_ca5 : r10.2.2.2.1 = ca5 at hR hM hcn ⊢
        generalize hv_sm5 : r10.2.2.2.2 = sm5 at hR hM hcn ⊢
        generalize hv_v5 : r10.1 = v5 at hR hM hcn ⊢
        try dsimp only at hR
        refine W.eq (g2 := F0 m 123 ls [.int (v5)]) rfl ?_
        refine lv_istore (lv' := [(8, .int (v5)), (0, .ref (β 0 0)), (2, .int (bI z)), (3, .ref (q23)), (4, .int (nI i6)), (5, .int (a5)), (6, .int (a6)), (7, .int (a7))]) hx hb dX4_plan_123 hl (Nat.le_of_ble_eq_true rfl) rfl (fun ls hl => ?_)
        refine lv_iload hx hb dX4_plan_125 (lv_at hl 0 rfl) ?_
        refine lv_iload hx hb dX4_plan_127 (lv_at hl 6 rfl) ?_
        refine lv_icmp_gt (tgt := 135) hx hb dX4_plan_129 (by decide) (fun c11 => ?_) (fun c11 => ?_)
        · rw [if_pos c11] at hR
          refine lv_iload hx hb dX4_plan_135 (lv_at hl 0 rfl) ?_
          refine lv_istore (lv' := [(6, .int (v5)), (8, .int (v5)), (0, .ref (β 0 0)), (2, .int (bI z)), (3, .ref (q23)), (4, .int (nI i6)), (5, .int (a5)), (7, .int (a7))]) hx hb dX4_plan_137 hl (Nat.le_of_ble_eq_true rfl) rfl (fun ls hl => ?_)
          refine lv_iload hx hb dX4_plan_139 (lv_at hl 7 rfl) ?_
          refine lv_istore (lv' := [(5, .int (a7)), (6, .int (v5)), (8, .int (v5)), (0, .ref (β 0 0)), (2, .int (bI z)), (3, .ref (q23)), (4, .int (nI i6)), (7, .int (a7))]) hx hb dX4_plan_141 hl (Nat.le_of_ble_eq_true rfl) rfl (fun ls hl => ?_)
          refine lv_iinc (v := a7 + 1) (lv' := [(7, .int (a7 + 1)), (5, .int (a7)), (6, .int (v5)), (8, .int (v5)), (0, .ref (β 0 0)), (2, .int (bI z)), (3, .ref (q23)), (4, .int (nI i6))]) hx hb dX4_plan_143 hl (k := 7) rfl rfl (Nat.le_of_ble_eq_true rfl) rfl (fun ls hl => ?_)
          refine lv_goto (tgt := 105) hx hb dX4_plan_146 (by decide) ?_
          exact ih a7 v5 (a7 + 1) σ5 th5 ca5 sm5  hR _ _ _ hcn hM hFa (fun q z => by have := hFb q z; omega) hd_t23 hT_t23 hS ls (lv_sub hl [4, 5, 6, 7, 1, 2, 0] rfl)
        · rw [if_neg c11] at hR
          refine lv_goto (tgt := 143) hx hb dX4_plan_132 (by decide) ?_
          refine lv_iinc (v := a7 + 1) (lv' := [(7, .int (a7 + 1)), (8, .int (v5)), (0, .ref (β 0 0)), (2, .int (bI z)), (3, .ref (q23)), (4, .int (nI i6)), (5, .int (a5)), (6, .int (a6))]) hx hb dX4_plan_143 hl (k := 7) rfl rfl (Nat.le_of_ble_eq_true rfl) rfl (fun ls hl => ?_)
          refine lv_goto (tgt := 105) hx hb dX4_plan_146 (by decide) ?_
          exact ih a5 a6 (a7 + 1) σ5 th5 ca5 sm5  hR _ _ _ hcn hM hFa (fun q z => by have := hFb q z; omega) hd_t23 hT_t23 hS ls (lv_sub hl [2, 3, 4, 5, 6, 7, 0] rfl)
  have hL155 : ∀ (i6 : Nat) (t_t23_7 : (Nat → Int32)) (a12 : Int32) (a13 : Int32) (q23 : Nat) (hge_t23 : s.heap.size ≤ q23) (hf155_0 : i6 < 4) (κ : Int32 → St → Int32 → Int32 → Int64 → Option (Int32 × MSt)) (hκ : ∀ (a7 : Int32) (σ7 : St) (th7 : Int32) (ca7 : Int32) (sm7 : Int64) (H : Heap) (locs : List Loc) (Fc : Nat → Prop) (ls : Array Slot), κ a7 σ7 th7 ca7 sm7 = some r → cnt σ7 σ → RM D E β Fc σ7 th7 ca7 sm7 H → (∀ q, Fc q → fN F s.heap.size q) → (∀ q, Fc q → q < H.size) → ¬ Fc q23 → va_at D vwCl (q23, arI E 3 t_t23_7) H → xK F F s.heap H locs → lv_has ls 9 [(2, .int (bI z)), (6, .int (a13)), (7, .int (a7))] → W p l e { frames := 22, cells := 1, slots := 3, locals := 491 } s m [(.ref (β 0 0) : Value), .int (a), .int (bI z)].toArray below meth c H locs 1 3 (MQ below (qG F ((fun sz v h => v = some (.int r.1) ∧ RM D E β (fN F sz) r.2.1 r.2.2.1 r.2.2.2.1 r.2.2.2.2 h ∧ cnt r.2.1 σ) s.heap.size)) [(.ref (β 0 0) : Value), .int (a), .int (bI z)].toArray s 1 3 (fN F s.heap.size)) (F0 m 193 ls [])) (n : Nat) (i8 : Nat) (a7 : Int32) (σ7 : St) (th7 : Int32) (ca7 : Int32) (sm7 : Int64), i8 + n = i6 → fX4_plan_L155 σ th ca sm a z i6 t_t23_7 a12 a13 κ n i8 a7 σ7 th7 ca7 sm7 = some r → ∀ (H : Heap) (locs : List Loc) (Fc : Nat → Prop), cnt σ7 σ → RM D E β Fc σ7 th7 ca7 sm7 H → (∀ q, Fc q → fN F s.heap.size q) → (∀ q, Fc q → q < H.size) → ¬ Fc q23 → va_at D vwCl (q23, arI E 3 t_t23_7) H → xK F F s.heap H locs → ∀ (ls : Array Slot), lv_has ls 9 [(2, .int (bI z)), (3, .ref (q23)), (4, .int (nI i6)), (5, .int (a12)), (6, .int (a13)), (7, .int (a7)), (8, .int (nI i8))] → W p l e { frames := 22, cells := 1, slots := 3, locals := 491 } s m [(.ref (β 0 0) : Value), .int (a), .int (bI z)].toArray below meth c H locs 1 3 (MQ below (qG F ((fun sz v h => v = some (.int r.1) ∧ RM D E β (fN F sz) r.2.1 r.2.2.1 r.2.2.2.1 r.2.2.2.2 h ∧ cnt r.2.1 σ) s.heap.size)) [(.ref (β 0 0) : Value), .int (a), .int (bI z)].toArray s 1 3 (fN F s.heap.size)) (F0 m 155 ls []) := by
    intro i6 t_t23_7 a12 a13 q23 hge_t23 hf155_0 κ hκ n
    induction n with
    | zero =>
      intro i8 a7 σ7 th7 ca7 sm7 hn hR H locs Fc hcn hM hFa hFb hd_t23 hT_t23 hS ls hl
      rw [fX4_plan_L155] at hR
      have hG := gE.ofS hG0 hS hFE
      refine lv_iload hx hb dX4_plan_155 (lv_at hl 6 rfl) ?_
      refine lv_iload hx hb dX4_plan_157 (lv_at hl 2 rfl) ?_
      refine lk_ge_out (k := i8) (N := i6) hx hb hn (tgt := 193) dX4_plan_159 (by decide) ?_
      exact hκ a7 σ7 th7 ca7 sm7 _ _ _ ls hR hcn hM hFa (fun q z => by have := hFb q z; omega) hd_t23 hT_t23 hS (lv_sub hl [0, 4, 5] rfl)
    | succ n ih =>
      intro i8 a7 σ7 th7 ca7 sm7 hn hR H locs Fc hcn hM hFa hFb hd_t23 hT_t23 hS ls hl
      rw [fX4_plan_L155] at hR
      have hG := gE.ofS hG0 hS hFE
      refine lv_iload hx hb dX4_plan_155 (lv_at hl 6 rfl) ?_
      refine lv_iload hx hb dX4_plan_157 (lv_at hl 2 rfl) ?_
      have hki8 : i8 < i6 := lk_lt hn
      refine lk_ge_in (k := i8) (N := i6) hx hb hki8 (by have := hM.nP10; have := hM.nW14; have := hM.nB6; omega) (tgt := 193) dX4_plan_159 (by decide) ?_
      refine lv_iload hx hb dX4_plan_162 (lv_at hl 5 rfl) ?_
      refine lv_iload hx hb dX4_plan_164 (lv_at hl 3 rfl) ?_
      refine lv_iload hx hb dX4_plan_166 (lv_at hl 6 rfl) ?_
      refine pcS (As := [.int (a12), .int (nI i8)]) (rest := [.int (a7)]) hS0 (met_X4_isIn l D E a12 (nI i8)) q1654 q1655 q110 q1656 hd_X4_isIn ⟨Nat.le_of_ble_eq_true rfl, Nat.le_of_ble_eq_true rfl⟩ hG trivial rfl hl.1 rfl (Nat.le_of_ble_eq_true rfl) dX4_plan_168 ⟨Nat.le_of_ble_eq_true rfl, Nat.le_of_ble_eq_true rfl⟩ ?_
      refine W.eq (g2 := F0 m 171 ls [.int (bI ((fX4_isIn a12 (nI i8)))), .int (a7)]) rfl ?_
      refine lb_if_eq (tgt := 183) hx hb dX4_plan_171 (by decide) (fun c15 => ?_) (fun c15 => ?_)
      · rw [if_neg c15] at hR
        refine lv_iconst (v := 0) hx hb dX4_plan_183 (by decide) ?_
        refine lv_ior hx hb dX4_plan_184 ?_
        refine lv_istore (lv' := [(7, .int (a7 ||| 0)), (2, .int (bI z)), (3, .ref (q23)), (4, .int (nI i6)), (5, .int (a12)), (6, .int (a13)), (8, .int (nI i8))]) hx hb dX4_plan_185 hl (Nat.le_of_ble_eq_true rfl) rfl (fun ls hl => ?_)
        refine lv_iinc (v := nI (i8 + 1)) (lv' := [(8, .int (nI (i8 + 1))), (7, .int (a7 ||| 0)), (2, .int (bI z)), (3, .ref (q23)), (4, .int (nI i6)), (5, .int (a12)), (6, .int (a13))]) hx hb dX4_plan_187 hl (k := 6) rfl (nI_1 i8) (Nat.le_of_ble_eq_true rfl) rfl (fun ls hl => ?_)
        refine lv_goto (tgt := 155) hx hb dX4_plan_190 (by decide) ?_
        exact ih (i8 + 1) (a7 ||| 0) σ7 th7 ca7 sm7 (lk_st hn) hR _ _ _ hcn hM hFa (fun q z => by have := hFb q z; omega) hd_t23 hT_t23 hS ls (lv_sub hl [2, 3, 4, 5, 6, 1, 0] rfl)
      · rw [if_pos c15] at hR
        refine lv_iconst (v := 1) hx hb dX4_plan_174 (by decide) ?_
        refine lv_aload_n hx hb dX4_plan_175 rfl (lv_at hl 1 rfl) ?_
        refine lv_iload hx hb dX4_plan_176 (lv_at hl 6 rfl) ?_
        refine gaI (N := 3) (k := i8) hx hb hG hT_t23 (show i8 < 3 from by have := hki8; omega) (by decide) dX4_plan_178 ?_
        refine lv_ishl hx hb dX4_plan_179 ?_
        refine lv_goto (tgt := 184) hx hb dX4_plan_180 (by decide) ?_
        refine lv_ior hx hb dX4_plan_184 ?_
        refine lv_istore (lv' := [(7, .int (a7 ||| (1 <<< (((t_t23_7) i8) &&& 31)))), (2, .int (bI z)), (3, .ref (q23)), (4, .int (nI i6)), (5, .int (a12)), (6, .int (a13)), (8, .int (nI i8))]) hx hb dX4_plan_185 hl (Nat.le_of_ble_eq_true rfl) rfl (fun ls hl => ?_)
        refine lv_iinc (v := nI (i8 + 1)) (lv' := [(8, .int (nI (i8 + 1))), (7, .int (a7 ||| (1 <<< (((t_t23_7) i8) &&& 31)))), (2, .int (bI z)), (3, .ref (q23)), (4, .int (nI i6)), (5, .int (a12)), (6, .int (a13))]) hx hb dX4_plan_187 hl (k := 6) rfl (nI_1 i8) (Nat.le_of_ble_eq_true rfl) rfl (fun ls hl => ?_)
        refine lv_goto (tgt := 155) hx hb dX4_plan_190 (by decide) ?_
        exact ih (i8 + 1) (a7 ||| (1 <<< (((t_t23_7) i8) &&& 31))) σ7 th7 ca7 sm7 (lk_st hn) hR _ _ _ hcn hM hFa (fun q z => by have := hFb q z; omega) hd_t23 hT_t23 hS ls (lv_sub hl [2, 3, 4, 5, 6, 1, 0] rfl)
  unfold fX4_plan at hR
  refine lv_aload_n hx hb dX4_plan_0 rfl (lv_at hl 0 rfl) ?_
  refine lv_iconst (v := 0) hx hb dX4_plan_1 (by decide) ?_
  refine pf (ty0 := tyX4) (ty := tyX4 0) (v := .int 0) (C := RX4) (T := TX4) (N := 13) (k := 0) hx hb hts hown hG hS cl_X4 in_X4 tyX4_ok nmX4 hM.ag (hFa _ hM.agF) (hFa _ hM.agF) (by decide) q1540 rfl (tyX4_ok 0 (by decide)) rfl rfl (Nat.le_of_ble_eq_true rfl) dX4_plan_2 (fun H1 locs1 he hz hq hS => ?_)
  have hM := hM.Pth  he hq
  have hG := gE.ofS hG0 hS hFE
  refine lv_iload_n hx hb dX4_plan_5 rfl (lv_at hl 1 rfl) ?_
  refine lv_iconst (v := 0) hx hb dX4_plan_6 (by decide) ?_
  refine lv_sipush (v := 365) hx hb dX4_plan_7 (by decide) ?_
  refine pcS (As := [.int (a), .int 0, .int 365]) (rest := []) hS0 (met_X4_is l D E a 0 365) q1588 q1589 q110 q1590 hd_X4_is ⟨Nat.le_of_ble_eq_true rfl, Nat.le_of_ble_eq_true rfl⟩ hG trivial rfl hl.1 rfl (Nat.le_of_ble_eq_true rfl) dX4_plan_10 ⟨Nat.le_of_ble_eq_true rfl, Nat.le_of_ble_eq_true rfl⟩ ?_
  refine W.eq (g2 := F0 m 13 ls [.int (bI ((fX4_is a 0 365)))]) rfl ?_
  refine lb_if_ne (tgt := 22) hx hb dX4_plan_13 (by decide) (fun c1 => ?_) (fun c1 => ?_)
  · rw [if_pos c1] at hR
    refine lv_iconst (v := 3) hx hb dX4_plan_22 (by decide) ?_
    have hB := hS.1
    refine nwZ (atype := .int) (ty := .int) (t := 0) (cA := E 1) (N := 3) (z := (3, .inl (fun _ => 0))) hx hb hts hG hS q199 rfl rfl trivial (fun _ => rfl) (by decide) (by decide) ⟨Nat.le_of_ble_eq_true rfl, Nat.le_of_ble_eq_true rfl⟩ dX4_plan_23 (fun q23 H1 hq9 hT_t23 hz ho hS => ?_)
    have hM := hM.kept (fun q h4 _ => ho q h4)
    have hG := gE.ofS hG0 hS hFE
    have hge_t23 : s.heap.size ≤ q23 := by have := hB; omega
    have hd_t23 : ¬ Fc q23 := fun z => by have := hFb _ z; omega
    refine lv_astore_n (lv' := [(3, .ref (q23)), (0, .ref (β 0 0)), (1, .int (a)), (2, .int (bI z))]) hx hb dX4_plan_25 rfl hl (Nat.le_of_ble_eq_true rfl) rfl (fun ls hl => ?_)
    refine lv_iconst (v := 0) hx hb dX4_plan_26 (by decide) ?_
    refine lv_istore (lv' := [(4, .int 0), (3, .ref (q23)), (0, .ref (β 0 0)), (1, .int (a)), (2, .int (bI z))]) hx hb dX4_plan_27 hl (Nat.le_of_ble_eq_true rfl) rfl (fun ls hl => ?_)
    refine lv_iconst (v := 0) hx hb dX4_plan_29 (by decide) ?_
    refine lv_istore (lv' := [(5, .int 0), (4, .int 0), (3, .ref (q23)), (0, .ref (β 0 0)), (1, .int (a)), (2, .int (bI z))]) hx hb dX4_plan_30 hl (Nat.le_of_ble_eq_true rfl) rfl (fun ls hl => ?_)
    refine hL32 q23 hge_t23 _ (fun i6 σ3 th3 ca3 sm3 t_t23_7 H1 locs1 Fc ls hR hcn hM hFa hFb hd_t23 hT_t23 hS hl => ?_) (nW σ) 0 0 σ 0 ca sm (fun _ => 0) (Nat.zero_add _) hR _ _ _ hcn hM hFa (fun q z => by have := hFb q z; omega) hd_t23 hT_t23 hS ls (lv_sub hl [3, 4, 5, 2, 1, 0] rfl)
    try dsimp only at hR
    have hG := gE.ofS hG0 hS hFE
    refine lv_iconst (v := 0) hx hb dX4_plan_96 (by decide) ?_
    refine lv_istore (lv' := [(5, .int 0), (0, .ref (β 0 0)), (2, .int (bI z)), (3, .ref (q23)), (4, .int (nI i6))]) hx hb dX4_plan_97 hl (Nat.le_of_ble_eq_true rfl) rfl (fun ls hl => ?_)
    refine lv_iconst (v := 0) hx hb dX4_plan_99 (by decide) ?_
    refine lv_istore (lv' := [(6, .int 0), (5, .int 0), (0, .ref (β 0 0)), (2, .int (bI z)), (3, .ref (q23)), (4, .int (nI i6))]) hx hb dX4_plan_100 hl (Nat.le_of_ble_eq_true rfl) rfl (fun ls hl => ?_)
    refine lv_iconst (v := 1) hx hb dX4_plan_102 (by decide) ?_
    refine lv_istore (lv' := [(7, .int 1), (6, .int 0), (5, .int 0), (0, .ref (β 0 0)), (2, .int (bI z)), (3, .ref (q23)), (4, .int (nI i6))]) hx hb dX4_plan_103 hl (Nat.le_of_ble_eq_true rfl) rfl (fun ls hl => ?_)
    refine hL105 i6 t_t23_7 q23 hge_t23 _ (fun a12 a13 σ6 th6 ca6 sm6 H1 locs1 Fc ls hR hcn hM hFa hFb hd_t23 hT_t23 hS hl => ?_) 9 0 0 1 σ3 th3 ca3 sm3  hR _ _ _ hcn hM hFa (fun q z => by have := hFb q z; omega) hd_t23 hT_t23 hS ls (lv_sub hl [3, 4, 5, 6, 2, 1, 0] rfl)
    try dsimp only at hR
    have hG := gE.ofS hG0 hS hFE
    rcases (Decidable.em (i6 < 4)).symm with g14 | g14
    · rw [if_neg g14] at hR
      cases hR
    rw [if_pos g14] at hR
    refine lv_iconst (v := 0) hx hb dX4_plan_149 (by decide) ?_
    refine lv_istore (lv' := [(7, .int 0), (2, .int (bI z)), (3, .ref (q23)), (4, .int (nI i6)), (5, .int (a12)), (6, .int (a13))]) hx hb dX4_plan_150 hl (Nat.le_of_ble_eq_true rfl) rfl (fun ls hl => ?_)
    refine lv_iconst (v := 0) hx hb dX4_plan_152 (by decide) ?_
    refine lv_istore (lv' := [(8, .int 0), (7, .int 0), (2, .int (bI z)), (3, .ref (q23)), (4, .int (nI i6)), (5, .int (a12)), (6, .int (a13))]) hx hb dX4_plan_153 hl (Nat.le_of_ble_eq_true rfl) rfl (fun ls hl => ?_)
    refine hL155 i6 t_t23_7 a12 a13 q23 hge_t23 g14 _ (fun a16 σ8 th8 ca8 sm8 H1 locs1 Fc ls hR hcn hM hFa hFb hd_t23 hT_t23 hS hl => ?_) i6 0 0 σ6 th6 ca6 sm6 (Nat.zero_add _) hR _ _ _ hcn hM hFa (fun q z => by have := hFb q z; omega) hd_t23 hT_t23 hS ls (lv_sub hl [2, 3, 4, 5, 6, 1, 0] rfl)
    try dsimp only at hR
    have hG := gE.ofS hG0 hS hFE
    refine lv_iload_n hx hb dX4_plan_193 rfl (lv_at hl 0 rfl) ?_
    refine lb_if_eq (tgt := 202) hx hb dX4_plan_194 (by decide) (fun c17 => ?_) (fun c17 => ?_)
    · rw [if_neg c17] at hR
      refine lv_iload hx hb dX4_plan_202 (lv_at hl 1 rfl) ?_
      exact g_iret hx hb hr hlocks hS ⟨Nat.le_of_ble_eq_true rfl, Nat.le_of_ble_eq_true rfl⟩ dX4_plan_204 (by cases hR; exact ⟨rfl, (hM.mono (fun q _ z => hFa q z) (fN_E hFE hG0.2.2.1)), hcn⟩)
    · rw [if_pos c17] at hR
      refine lv_iload hx hb dX4_plan_197 (lv_at hl 2 rfl) ?_
      refine lv_goto (tgt := 204) hx hb dX4_plan_199 (by decide) ?_
      exact g_iret hx hb hr hlocks hS ⟨Nat.le_of_ble_eq_true rfl, Nat.le_of_ble_eq_true rfl⟩ dX4_plan_204 (by cases hR; exact ⟨rfl, (hM.mono (fun q _ z => hFa q z) (fN_E hFE hG0.2.2.1)), hcn⟩)
  · rw [if_neg c1] at hR
    refine lv_aload_n hx hb dX4_plan_16 rfl (lv_at hl 0 rfl) ?_
    refine lv_iconst (v := 1) hx hb dX4_plan_17 (by decide) ?_
    have hB := hS.1
    refine gcV (As := [.int 1]) (rest := []) hS0 (met_X4_refuse l D E 1) q1591 q1593 qs55 q110 q1594 hd_X4_refuse ⟨Nat.le_of_ble_eq_true rfl, Nat.le_of_ble_eq_true rfl⟩ hG (rcv hG cl_X4 hM.ag) hM rfl hl.1 rfl (Nat.le_of_ble_eq_true rfl) dX4_plan_18 ⟨Nat.le_of_ble_eq_true rfl, Nat.le_of_ble_eq_true rfl⟩ hS (fun q h => hFa q h) (fun q h => hFa q h) (fun v H1 locs1 hP hz hk hS => ?_)
    obtain ⟨rfl, hZ, hc8⟩ := hP
    obtain ⟨Fd, hM, hFn⟩ := hZ.nar
    have hFa : ∀ q, Fd q → fN F s.heap.size q := fun q z => (hFn q z).1.elim (hFa q) (fun z9 => Or.inr (Nat.le_trans hB z9))
    have hFb : ∀ q, Fd q → q < H1.size := fun q z => (hFn q z).2
    clear hFn
    generalize Fd = Fc at hM hFa hFb
    have hG := gE.ofS hG0 hS hFE
    have hcn := hc8.tr hcn
    generalize hv_σ9 : (fX4_refuse σ 0 ca sm 1).2.1 = σ9 at hR hM hcn ⊢
    generalize hv_th9 : (fX4_refuse σ 0 ca sm 1).2.2.1 = th9 at hR hM hcn ⊢
    generalize hv_ca9 : (fX4_refuse σ 0 ca sm 1).2.2.2.1 = ca9 at hR hM hcn ⊢
    generalize hv_sm9 : (fX4_refuse σ 0 ca sm 1).2.2.2.2 = sm9 at hR hM hcn ⊢
    generalize hv_v9 : (fX4_refuse σ 0 ca sm 1).1 = v9 at hR hM hcn ⊢
    try dsimp only at hR
    refine W.eq (g2 := F0 m 21 ls [.int (v9)]) rfl ?_
    exact g_iret hx hb hr hlocks hS ⟨Nat.le_of_ble_eq_true rfl, Nat.le_of_ble_eq_true rfl⟩ dX4_plan_21 (by cases hR; exact ⟨rfl, (hM.mono (fun q _ z => hFa q z) (fN_E hFE hG0.2.2.1)), hcn⟩)

def fX4_digest_L14 (σ : St) (th : Int32) (ca : Int32) (sm : Int64)  (κ : St → Int32 → Int32 → Int64 → Option (Int64 × MSt)) : Nat → Nat → St → Int32 → Int32 → Int64 → Option (Int64 × MSt)
  | 0, i1, σ1, th1, ca1, sm1 => κ σ1 th1 ca1 sm1
  | n + 1, i1, σ1, th1, ca1, sm1 => (fun (σ2 : St) => (fun (th2 : Int32) => (fun (ca2 : Int32) => (fun (sm2 : Int64) => fX4_digest_L14 σ th ca sm κ n (i1 + 1) σ2 th2 ca2 sm2) ((fX4_add σ1 th1 ca1 sm1 (Int32.toInt64 ((fX4_deskNow σ1 ca1 (nI i1))))).2.2.2)) ((fX4_add σ1 th1 ca1 sm1 (Int32.toInt64 ((fX4_deskNow σ1 ca1 (nI i1))))).2.2.1)) ((fX4_add σ1 th1 ca1 sm1 (Int32.toInt64 ((fX4_deskNow σ1 ca1 (nI i1))))).2.1)) ((fX4_add σ1 th1 ca1 sm1 (Int32.toInt64 ((fX4_deskNow σ1 ca1 (nI i1))))).1)
def fX4_digest_L51 (σ : St) (th : Int32) (ca : Int32) (sm : Int64) (i1 : Nat) (κ : St → Int32 → Int32 → Int64 → Option (Int64 × MSt)) : Nat → Nat → St → Int32 → Int32 → Int64 → Option (Int64 × MSt)
  | 0, i2, σ5, th5, ca5, sm5 => κ σ5 th5 ca5 sm5
  | n + 1, i2, σ5, th5, ca5, sm5 => (fun (σ6 : St) => (fun (th6 : Int32) => (fun (ca6 : Int32) => (fun (sm6 : Int64) => fX4_digest_L51 σ th ca sm i1 κ n (i2 + 1) σ6 th6 ca6 sm6) ((fX4_add σ5 th5 ca5 sm5 (Int32.toInt64 ((fX4_ofPlayerNow σ5 i1 i2)))).2.2.2)) ((fX4_add σ5 th5 ca5 sm5 (Int32.toInt64 ((fX4_ofPlayerNow σ5 i1 i2)))).2.2.1)) ((fX4_add σ5 th5 ca5 sm5 (Int32.toInt64 ((fX4_ofPlayerNow σ5 i1 i2)))).2.1)) ((fX4_add σ5 th5 ca5 sm5 (Int32.toInt64 ((fX4_ofPlayerNow σ5 i1 i2)))).1)
def fX4_digest_L38 (σ : St) (th : Int32) (ca : Int32) (sm : Int64)  (κ : St → Int32 → Int32 → Int64 → Option (Int64 × MSt)) : Nat → Nat → St → Int32 → Int32 → Int64 → Option (Int64 × MSt)
  | 0, i1, σ4, th4, ca4, sm4 => κ σ4 th4 ca4 sm4
  | n + 1, i1, σ4, th4, ca4, sm4 => fX4_digest_L51 σ th ca sm i1 (fun (σ7 : St) (th7 : Int32) (ca7 : Int32) (sm7 : Int64) => fX4_digest_L38 σ th ca sm κ n (i1 + 1) σ7 th7 ca7 sm7) 9 0 σ4 th4 ca4 sm4
def fX4_digest_L90 (σ : St) (th : Int32) (ca : Int32) (sm : Int64) (i1 : Nat) (κ : St → Int32 → Int32 → Int64 → Option (Int64 × MSt)) : Nat → Nat → St → Int32 → Int32 → Int64 → Option (Int64 × MSt)
  | 0, i2, σ11, th11, ca11, sm11 => κ σ11 th11 ca11 sm11
  | n + 1, i2, σ11, th11, ca11, sm11 => (fun (σ12 : St) => (fun (th12 : Int32) => (fun (ca12 : Int32) => (fun (sm12 : Int64) => fX4_digest_L90 σ th ca sm i1 κ n (i2 + 1) σ12 th12 ca12 sm12) ((fX4_add σ11 th11 ca11 sm11 (Int32.toInt64 ((fX4_ofSongNow σ11 i1 (nI i2))))).2.2.2)) ((fX4_add σ11 th11 ca11 sm11 (Int32.toInt64 ((fX4_ofSongNow σ11 i1 (nI i2))))).2.2.1)) ((fX4_add σ11 th11 ca11 sm11 (Int32.toInt64 ((fX4_ofSongNow σ11 i1 (nI i2))))).2.1)) ((fX4_add σ11 th11 ca11 sm11 (Int32.toInt64 ((fX4_ofSongNow σ11 i1 (nI i2))))).1)
def fX4_digest_L82 (σ : St) (th : Int32) (ca : Int32) (sm : Int64)  (κ : St → Int32 → Int32 → Int64 → Option (Int64 × MSt)) : Nat → Nat → St → Int32 → Int32 → Int64 → Option (Int64 × MSt)
  | 0, i1, σ10, th10, ca10, sm10 => κ σ10 th10 ca10 sm10
  | n + 1, i1, σ10, th10, ca10, sm10 => fX4_digest_L90 σ th ca sm i1 (fun (σ13 : St) (th13 : Int32) (ca13 : Int32) (sm13 : Int64) => fX4_digest_L82 σ th ca sm κ n (i1 + 1) σ13 th13 ca13 sm13) 6 0 σ10 th10 ca10 sm10
def fX4_digest_L134 (σ : St) (th : Int32) (ca : Int32) (sm : Int64) (i1 : Nat) (κ : St → Int32 → Int32 → Int64 → Option (Int64 × MSt)) : Nat → Nat → St → Int32 → Int32 → Int64 → Option (Int64 × MSt)
  | 0, i2, σ17, th17, ca17, sm17 => κ σ17 th17 ca17 sm17
  | n + 1, i2, σ17, th17, ca17, sm17 => (fun (σ18 : St) => (fun (th18 : Int32) => (fun (ca18 : Int32) => (fun (sm18 : Int64) => fX4_digest_L134 σ th ca sm i1 κ n (i2 + 1) σ18 th18 ca18 sm18) ((fX4_add σ17 th17 ca17 sm17 (Int32.toInt64 ((fX4_ofBandNow σ17 i1 i2)))).2.2.2)) ((fX4_add σ17 th17 ca17 sm17 (Int32.toInt64 ((fX4_ofBandNow σ17 i1 i2)))).2.2.1)) ((fX4_add σ17 th17 ca17 sm17 (Int32.toInt64 ((fX4_ofBandNow σ17 i1 i2)))).2.1)) ((fX4_add σ17 th17 ca17 sm17 (Int32.toInt64 ((fX4_ofBandNow σ17 i1 i2)))).1)
def fX4_digest_L121 (σ : St) (th : Int32) (ca : Int32) (sm : Int64)  (κ : St → Int32 → Int32 → Int64 → Option (Int64 × MSt)) : Nat → Nat → St → Int32 → Int32 → Int64 → Option (Int64 × MSt)
  | 0, i1, σ16, th16, ca16, sm16 => κ σ16 th16 ca16 sm16
  | n + 1, i1, σ16, th16, ca16, sm16 => fX4_digest_L134 σ th ca sm i1 (fun (σ19 : St) (th19 : Int32) (ca19 : Int32) (sm19 : Int64) => fX4_digest_L121 σ th ca sm κ n (i1 + 1) σ19 th19 ca19 sm19) 9 0 σ16 th16 ca16 sm16
def fX4_digest_L178 (σ : St) (th : Int32) (ca : Int32) (sm : Int64) (i1 : Nat) (κ : St → Int32 → Int32 → Int64 → Option (Int64 × MSt)) : Nat → Nat → St → Int32 → Int32 → Int64 → Option (Int64 × MSt)
  | 0, i2, σ23, th23, ca23, sm23 => κ σ23 th23 ca23 sm23
  | n + 1, i2, σ23, th23, ca23, sm23 => (fun (σ24 : St) => (fun (th24 : Int32) => (fun (ca24 : Int32) => (fun (sm24 : Int64) => (fun (v24 : Int32) => (fun (σ25 : St) => (fun (th25 : Int32) => (fun (ca25 : Int32) => (fun (sm25 : Int64) => fX4_digest_L178 σ th ca sm i1 κ n (i2 + 1) σ25 th25 ca25 sm25) ((fX4_add σ24 th24 ca24 sm24 (Int32.toInt64 v24)).2.2.2)) ((fX4_add σ24 th24 ca24 sm24 (Int32.toInt64 v24)).2.2.1)) ((fX4_add σ24 th24 ca24 sm24 (Int32.toInt64 v24)).2.1)) ((fX4_add σ24 th24 ca24 sm24 (Int32.toInt64 v24)).1)) ((fX4_ofWeddingNow σ23 th23 ca23 sm23 i1 (nI i2)).1)) ((fX4_ofWeddingNow σ23 th23 ca23 sm23 i1 (nI i2)).2.2.2.2)) ((fX4_ofWeddingNow σ23 th23 ca23 sm23 i1 (nI i2)).2.2.2.1)) ((fX4_ofWeddingNow σ23 th23 ca23 sm23 i1 (nI i2)).2.2.1)) ((fX4_ofWeddingNow σ23 th23 ca23 sm23 i1 (nI i2)).2.1)
def fX4_digest_L203 (σ : St) (th : Int32) (ca : Int32) (sm : Int64) (i1 : Nat) (κ : St → Int32 → Int32 → Int64 → Option (Int64 × MSt)) : Nat → Nat → St → Int32 → Int32 → Int64 → Option (Int64 × MSt)
  | 0, i2, σ27, th27, ca27, sm27 => κ σ27 th27 ca27 sm27
  | n + 1, i2, σ27, th27, ca27, sm27 => (if (nI (wState σ27 i1)) = 0 then (fun (σ28 : St) => (fun (th28 : Int32) => (fun (ca28 : Int32) => (fun (sm28 : Int64) => fX4_digest_L203 σ th ca sm i1 κ n (i2 + 1) σ28 th28 ca28 sm28) ((fX4_add σ27 th27 ca27 sm27 (Int32.toInt64 ((fX4_fillingNow σ27 i1 (nI i2))))).2.2.2)) ((fX4_add σ27 th27 ca27 sm27 (Int32.toInt64 ((fX4_fillingNow σ27 i1 (nI i2))))).2.2.1)) ((fX4_add σ27 th27 ca27 sm27 (Int32.toInt64 ((fX4_fillingNow σ27 i1 (nI i2))))).2.1)) ((fX4_add σ27 th27 ca27 sm27 (Int32.toInt64 ((fX4_fillingNow σ27 i1 (nI i2))))).1) else κ σ27 th27 ca27 sm27)
def fX4_digest_L165 (σ : St) (th : Int32) (ca : Int32) (sm : Int64)  (κ : St → Int32 → Int32 → Int64 → Option (Int64 × MSt)) : Nat → Nat → St → Int32 → Int32 → Int64 → Option (Int64 × MSt)
  | 0, i1, σ22, th22, ca22, sm22 => κ σ22 th22 ca22 sm22
  | n + 1, i1, σ22, th22, ca22, sm22 => fX4_digest_L178 σ th ca sm i1 (fun (σ26 : St) (th26 : Int32) (ca26 : Int32) (sm26 : Int64) => fX4_digest_L203 σ th ca sm i1 (fun (σ29 : St) (th29 : Int32) (ca29 : Int32) (sm29 : Int64) => (Option.bind (fX4_bestSet σ29 (wSet σ29 i1)) (fun (r2 : Nat × (Nat → Int32)) => (fun (σ30 : St) => (fun (th30 : Int32) => (fun (ca30 : Int32) => (fun (sm30 : Int64) => fX4_digest_L165 σ th ca sm κ n (i1 + 1) σ30 th30 ca30 sm30) ((fX4_add σ29 th29 ca29 sm29 (Int32.toInt64 (nI r2.1))).2.2.2)) ((fX4_add σ29 th29 ca29 sm29 (Int32.toInt64 (nI r2.1))).2.2.1)) ((fX4_add σ29 th29 ca29 sm29 (Int32.toInt64 (nI r2.1))).2.1)) ((fX4_add σ29 th29 ca29 sm29 (Int32.toInt64 (nI r2.1))).1)))) 4 0 σ26 th26 ca26 sm26) 13 0 σ22 th22 ca22 sm22
def fX4_digest_C272 (σ : St) (th : Int32) (ca : Int32) (sm : Int64)  (σ32 : St) (th32 : Int32) (ca32 : Int32) (sm32 : Int64) : Option (Int64 × MSt) := (Option.bind (fX4_minutesOf σ32 ((1 <<< ((nI (nP σ32)) &&& 31)) - 1)) (fun (r3 : Int32) => (fun (σ33 : St) => (fun (th33 : Int32) => (fun (ca33 : Int32) => (fun (sm33 : Int64) => (fun (σ34 : St) => (fun (th34 : Int32) => (fun (ca34 : Int32) => (fun (sm34 : Int64) => (if ((fX4_isSoundNow σ34 ca34)) = true then (fun (σ36 : St) => (fun (th36 : Int32) => (fun (ca36 : Int32) => (fun (sm36 : Int64) => (some (sm36, ((σ36, th36, ca36, sm36) : MSt)))) ((fX4_add σ34 th34 ca34 sm34 ((1 : Int64))).2.2.2)) ((fX4_add σ34 th34 ca34 sm34 ((1 : Int64))).2.2.1)) ((fX4_add σ34 th34 ca34 sm34 ((1 : Int64))).2.1)) ((fX4_add σ34 th34 ca34 sm34 ((1 : Int64))).1) else (fun (σ35 : St) => (fun (th35 : Int32) => (fun (ca35 : Int32) => (fun (sm35 : Int64) => (some (sm35, ((σ35, th35, ca35, sm35) : MSt)))) ((fX4_add σ34 th34 ca34 sm34 ((0 : Int64))).2.2.2)) ((fX4_add σ34 th34 ca34 sm34 ((0 : Int64))).2.2.1)) ((fX4_add σ34 th34 ca34 sm34 ((0 : Int64))).2.1)) ((fX4_add σ34 th34 ca34 sm34 ((0 : Int64))).1))) ((fX4_add σ33 th33 ca33 sm33 (Int32.toInt64 ((fX4_driveOf σ33 0 5)))).2.2.2)) ((fX4_add σ33 th33 ca33 sm33 (Int32.toInt64 ((fX4_driveOf σ33 0 5)))).2.2.1)) ((fX4_add σ33 th33 ca33 sm33 (Int32.toInt64 ((fX4_driveOf σ33 0 5)))).2.1)) ((fX4_add σ33 th33 ca33 sm33 (Int32.toInt64 ((fX4_driveOf σ33 0 5)))).1)) ((fX4_add σ32 th32 ca32 sm32 (Int32.toInt64 r3)).2.2.2)) ((fX4_add σ32 th32 ca32 sm32 (Int32.toInt64 r3)).2.2.1)) ((fX4_add σ32 th32 ca32 sm32 (Int32.toInt64 r3)).2.1)) ((fX4_add σ32 th32 ca32 sm32 (Int32.toInt64 r3)).1)))
def fX4_digest_C163 (σ : St) (th : Int32) (ca : Int32) (sm : Int64)  (σ21 : St) (th21 : Int32) (ca21 : Int32) (sm21 : Int64) : Option (Int64 × MSt) := fX4_digest_L165 σ th ca sm (fun (σ31 : St) (th31 : Int32) (ca31 : Int32) (sm31 : Int64) => fX4_digest_C272 σ th ca sm σ31 th31 ca31 sm31) (nW σ) 0 σ21 th21 ca21 sm21
def fX4_digest_C119 (σ : St) (th : Int32) (ca : Int32) (sm : Int64)  (σ15 : St) (th15 : Int32) (ca15 : Int32) (sm15 : Int64) : Option (Int64 × MSt) := fX4_digest_L121 σ th ca sm (fun (σ20 : St) (th20 : Int32) (ca20 : Int32) (sm20 : Int64) => fX4_digest_C163 σ th ca sm σ20 th20 ca20 sm20) (nB σ) 0 σ15 th15 ca15 sm15
def fX4_digest_C80 (σ : St) (th : Int32) (ca : Int32) (sm : Int64)  (σ9 : St) (th9 : Int32) (ca9 : Int32) (sm9 : Int64) : Option (Int64 × MSt) := fX4_digest_L82 σ th ca sm (fun (σ14 : St) (th14 : Int32) (ca14 : Int32) (sm14 : Int64) => fX4_digest_C119 σ th ca sm σ14 th14 ca14 sm14) 16 0 σ9 th9 ca9 sm9
def fX4_digest (σ : St) (th : Int32) (ca : Int32) (sm : Int64) : Option (Int64 × MSt) :=
  fX4_digest_L14 σ th ca sm (fun (σ3 : St) (th3 : Int32) (ca3 : Int32) (sm3 : Int64) => fX4_digest_L38 σ th ca sm (fun (σ8 : St) (th8 : Int32) (ca8 : Int32) (sm8 : Int64) => fX4_digest_C80 σ th ca sm σ8 th8 ca8 sm8) (nP σ) 0 σ3 th3 ca3 sm3) 13 0 σ 0 ca (((58278 : Int64)))
set_option maxHeartbeats 4000000 in
set_option maxRecDepth 100000 in
theorem met_X4_digest (l : Launch) (D : va_G) (E : Nat → Nat) {β : Nat → Nat → Nat} {F : Nat → Prop} {σ : St} {th ca : Int32} {sm : Int64}   {r : Int64 × MSt} (hR : fX4_digest σ th ca sm = some r) : GM l D E yX4_digest cX4_digest 3 (Option.some Jvm.ClassFile.FieldType.long) 23 512 293 1659 [.ref (β 0 0)] (RM D E β F σ th ca sm) F F (fun sz v h => v = some (.long r.1) ∧ RM D E β (fN F sz) r.2.1 r.2.2.1 r.2.2.2.1 r.2.2.2.2 h ∧ cnt r.2.1 σ)  := by
  refine GM.start (by decide) (Nat.le_of_ble_eq_true rfl) ?_
  intro p e s m below meth c ls hx hb hr hml hown hlocks hnm hts hG hM hS hl
  have hown : s.vm.findClass RX4 = some m.cls := hown
  have hS0 : xS p m c cX4_digest 3 s _ RX4 := ⟨hx, hb, hml, hown, hts⟩
  have hl : lv_has ls 3 [(0, .ref (β 0 0))] := hl
  have hG0 := hG
  have hM0 := hM
  have hb0P := hM0.nP10
  have hb0B := hM0.nB6
  have hb0W := hM0.nW14
  have hFE := hM.fE
  obtain ⟨Fc, hM, hFn⟩ := hM.nar
  have hFa : ∀ q, Fc q → fN F s.heap.size q := fun q z => Or.inl (hFn q z).1
  have hFb : ∀ q, Fc q → q < s.heap.size := fun q z => (hFn q z).2
  have hcn : cnt σ σ := cnt.rf
  have hL14 : ∀  (κ : St → Int32 → Int32 → Int64 → Option (Int64 × MSt)) (hκ : ∀ (σ1 : St) (th1 : Int32) (ca1 : Int32) (sm1 : Int64) (H : Heap) (locs : List Loc) (Fc : Nat → Prop) (ls : Array Slot), κ σ1 th1 ca1 sm1 = some r → cnt σ1 σ → RM D E β Fc σ1 th1 ca1 sm1 H → (∀ q, Fc q → fN F s.heap.size q) → (∀ q, Fc q → q < H.size) → xK F F s.heap H locs → lv_has ls 3 [(0, .ref (β 0 0))] → W p l e { frames := 23, cells := 293, slots := 1659, locals := 512 } s m [(.ref (β 0 0) : Value)].toArray below meth c H locs (0 + 143) (0 + 429) (MQ below (qG F ((fun sz v h => v = some (.long r.1) ∧ RM D E β (fN F sz) r.2.1 r.2.2.1 r.2.2.2.1 r.2.2.2.2 h ∧ cnt r.2.1 σ) s.heap.size)) [(.ref (β 0 0) : Value)].toArray s 293 1659 (fN F s.heap.size)) (F0 m 36 ls [])) (n : Nat) (i1 : Nat) (σ1 : St) (th1 : Int32) (ca1 : Int32) (sm1 : Int64), i1 + n = 13 → fX4_digest_L14 σ th ca sm κ n i1 σ1 th1 ca1 sm1 = some r → ∀ (H : Heap) (locs : List Loc) (Fc : Nat → Prop), cnt σ1 σ → RM D E β Fc σ1 th1 ca1 sm1 H → (∀ q, Fc q → fN F s.heap.size q) → (∀ q, Fc q → q < H.size) → xK F F s.heap H locs → ∀ (ls : Array Slot), lv_has ls 3 [(0, .ref (β 0 0)), (1, .int (nI i1))] → W p l e { frames := 23, cells := 293, slots := 1659, locals := 512 } s m [(.ref (β 0 0) : Value)].toArray below meth c H locs (0 + i1 * 11) (0 + i1 * 33) (MQ below (qG F ((fun sz v h => v = some (.long r.1) ∧ RM D E β (fN F sz) r.2.1 r.2.2.1 r.2.2.2.1 r.2.2.2.2 h ∧ cnt r.2.1 σ) s.heap.size)) [(.ref (β 0 0) : Value)].toArray s 293 1659 (fN F s.heap.size)) (F0 m 14 ls []) := by
    intro  κ hκ n
    induction n with
    | zero =>
      intro i1 σ1 th1 ca1 sm1 hn hR H locs Fc hcn hM hFa hFb hS ls hl
      rw [fX4_digest_L14] at hR
      have hG := gE.ofS hG0 hS hFE
      have hb_i1 : i1 ≤ 13 := by omega
      refine lv_iload_n hx hb dX4_digest_14 rfl (lv_at hl 1 rfl) ?_
      refine lv_bipush (v := 13) hx hb dX4_digest_15 (by decide) ?_
      refine lk_ge_out (k := i1) (N := 13) hx hb hn (tgt := 36) dX4_digest_17 (by decide) ?_
      exact W.widen (by show _ ≤ _; omega) (by show _ ≤ _; omega) (hκ σ1 th1 ca1 sm1 _ _ _ ls hR hcn hM hFa (fun q z => by have := hFb q z; omega) hS (lv_sub hl [0] rfl))
    | succ n ih =>
      intro i1 σ1 th1 ca1 sm1 hn hR H locs Fc hcn hM hFa hFb hS ls hl
      rw [fX4_digest_L14] at hR
      have hG := gE.ofS hG0 hS hFE
      have hb_i1 : i1 ≤ 13 := by omega
      refine lv_iload_n hx hb dX4_digest_14 rfl (lv_at hl 1 rfl) ?_
      refine lv_bipush (v := 13) hx hb dX4_digest_15 (by decide) ?_
      have hki1 : i1 < 13 := lk_lt hn
      refine lk_ge_in (k := i1) (N := 13) hx hb hki1 (by decide) (tgt := 36) dX4_digest_17 (by decide) ?_
      refine lv_aload_n hx hb dX4_digest_20 rfl (lv_at hl 0 rfl) ?_
      refine lv_aload_n hx hb dX4_digest_21 rfl (lv_at hl 0 rfl) ?_
      refine lv_iload_n hx hb dX4_digest_22 rfl (lv_at hl 1 rfl) ?_
      have hB := hS.1
      refine gcV (As := [.int (nI i1)]) (rest := [.ref (β 0 0)]) hS0 (met_X4_deskNow l D E (nI i1)) q1998 q2000 qs94 q110 q2001 hd_X4_deskNow ⟨Nat.le_of_ble_eq_true rfl, Nat.le_of_ble_eq_true rfl⟩ hG (rcv hG cl_X4 hM.ag) hM rfl hl.1 rfl (Nat.le_of_ble_eq_true rfl) dX4_digest_23 ⟨by show _ ≤ 293; omega, by show _ ≤ 1659; omega⟩ hS (fun q h => h.elim) (fun q h => h.elim) (fun v H1 locs1 hP hz hk hS => ?_)
      obtain rfl := hP
      have hM := hM.kept (fun q h4 _ => hk q h4 id)
      have hG := gE.ofS hG0 hS hFE
      refine W.eq (g2 := F0 m 26 ls [.int ((fX4_deskNow σ1 ca1 (nI i1))), .ref (β 0 0)]) rfl ?_
      refine lv_i2l (v := Int32.toInt64 ((fX4_deskNow σ1 ca1 (nI i1)))) hx hb dX4_digest_26 rfl ?_
      have hB := hS.1
      refine gcV (As := [.long (Int32.toInt64 ((fX4_deskNow σ1 ca1 (nI i1))))]) (rest := []) hS0 (met_X4_add l D E (Int32.toInt64 ((fX4_deskNow σ1 ca1 (nI i1))))) q2057 q2059 qs98 q110 q2060 hd_X4_add ⟨Nat.le_of_ble_eq_true rfl, Nat.le_of_ble_eq_true rfl⟩ hG (rcv hG cl_X4 hM.ag) hM rfl hl.1 rfl (Nat.le_of_ble_eq_true rfl) dX4_digest_27 ⟨by show _ ≤ 293; omega, by show _ ≤ 1659; omega⟩ hS (fun q h => hFa q h) (fun q h => hFa q h) (fun v H1 locs1 hP hz hk hS => ?_)
      obtain ⟨rfl, hZ, hc8⟩ := hP
      obtain ⟨Fd, hM, hFn⟩ := hZ.nar
      have hFa : ∀ q, Fd q → fN F s.heap.size q := fun q z => (hFn q z).1.elim (hFa q) (fun z9 => Or.inr (Nat.le_trans hB z9))
      have hFb : ∀ q, Fd q → q < H1.size := fun q z => (hFn q z).2
      clear hFn
      generalize Fd = Fc at hM hFa hFb
      have hG := gE.ofS hG0 hS hFE
      have hcn := hc8.tr hcn
      generalize hv_σ2 : (fX4_add σ1 th1 ca1 sm1 (Int32.toInt64 ((fX4_deskNow σ1 ca1 (nI i1))))).1 = σ2 at hR hM hcn ⊢
      generalize hv_th2 : (fX4_add σ1 th1 ca1 sm1 (Int32.toInt64 ((fX4_deskNow σ1 ca1 (nI i1))))).2.1 = th2 at hR hM hcn ⊢
      generalize hv_ca2 : (fX4_add σ1 th1 ca1 sm1 (Int32.toInt64 ((fX4_deskNow σ1 ca1 (nI i1))))).2.2.1 = ca2 at hR hM hcn ⊢
      generalize hv_sm2 : (fX4_add σ1 th1 ca1 sm1 (Int32.toInt64 ((fX4_deskNow σ1 ca1 (nI i1))))).2.2.2 = sm2 at hR hM hcn ⊢
      try dsimp only at hR
      refine W.eq (g2 := F0 m 30 ls []) rfl ?_
      refine lv_iinc (v := nI (i1 + 1)) (lv' := [(1, .int (nI (i1 + 1))), (0, .ref (β 0 0))]) hx hb dX4_digest_30 hl (k := 1) rfl (nI_1 i1) (Nat.le_of_ble_eq_true rfl) rfl (fun ls hl => ?_)
      refine lv_goto (tgt := 14) hx hb dX4_digest_33 (by decide) ?_
      exact W.widen (by show _ ≤ _; omega) (by show _ ≤ _; omega) (ih (i1 + 1) σ2 th2 ca2 sm2 (lk_st hn) hR _ _ _ hcn hM hFa (fun q z => by have := hFb q z; omega) hS ls (lv_sub hl [1, 0] rfl))
  have hL51 : ∀ (i1 : Nat) (hf51_0 : i1 < nP σ) (hb_i1 : i1 ≤ 10) (κ : St → Int32 → Int32 → Int64 → Option (Int64 × MSt)) (hκ : ∀ (σ5 : St) (th5 : Int32) (ca5 : Int32) (sm5 : Int64) (H : Heap) (locs : List Loc) (Fc : Nat → Prop) (ls : Array Slot), κ σ5 th5 ca5 sm5 = some r → cnt σ5 σ → RM D E β Fc σ5 th5 ca5 sm5 H → (∀ q, Fc q → fN F s.heap.size q) → (∀ q, Fc q → q < H.size) → xK F F s.heap H locs → lv_has ls 3 [(0, .ref (β 0 0)), (1, .int (nI i1))] → W p l e { frames := 23, cells := 293, slots := 1659, locals := 512 } s m [(.ref (β 0 0) : Value)].toArray below meth c H locs (((0 + 143) + i1 * 9) + 9) (((0 + 429) + i1 * 27) + 27) (MQ below (qG F ((fun sz v h => v = some (.long r.1) ∧ RM D E β (fN F sz) r.2.1 r.2.2.1 r.2.2.2.1 r.2.2.2.2 h ∧ cnt r.2.1 σ) s.heap.size)) [(.ref (β 0 0) : Value)].toArray s 293 1659 (fN F s.heap.size)) (F0 m 74 ls [])) (n : Nat) (i2 : Nat) (σ5 : St) (th5 : Int32) (ca5 : Int32) (sm5 : Int64), i2 + n = 9 → fX4_digest_L51 σ th ca sm i1 κ n i2 σ5 th5 ca5 sm5 = some r → ∀ (H : Heap) (locs : List Loc) (Fc : Nat → Prop), cnt σ5 σ → RM D E β Fc σ5 th5 ca5 sm5 H → (∀ q, Fc q → fN F s.heap.size q) → (∀ q, Fc q → q < H.size) → xK F F s.heap H locs → ∀ (ls : Array Slot), lv_has ls 3 [(0, .ref (β 0 0)), (1, .int (nI i1)), (2, .int (nI i2))] → W p l e { frames := 23, cells := 293, slots := 1659, locals := 512 } s m [(.ref (β 0 0) : Value)].toArray below meth c H locs (((0 + 143) + i1 * 9) + i2 * 1) (((0 + 429) + i1 * 27) + i2 * 3) (MQ below (qG F ((fun sz v h => v = some (.long r.1) ∧ RM D E β (fN F sz) r.2.1 r.2.2.1 r.2.2.2.1 r.2.2.2.2 h ∧ cnt r.2.1 σ) s.heap.size)) [(.ref (β 0 0) : Value)].toArray s 293 1659 (fN F s.heap.size)) (F0 m 51 ls []) := by
    intro i1 hf51_0 hb_i1 κ hκ n
    induction n with
    | zero =>
      intro i2 σ5 th5 ca5 sm5 hn hR H locs Fc hcn hM hFa hFb hS ls hl
      rw [fX4_digest_L51] at hR
      have hG := gE.ofS hG0 hS hFE
      have hb_i2 : i2 ≤ 9 := by omega
      refine lv_iload_n hx hb dX4_digest_51 rfl (lv_at hl 2 rfl) ?_
      refine lv_bipush (v := 9) hx hb dX4_digest_52 (by decide) ?_
      refine lk_ge_out (k := i2) (N := 9) hx hb hn (tgt := 74) dX4_digest_54 (by decide) ?_
      exact W.widen (by show _ ≤ _; omega) (by show _ ≤ _; omega) (hκ σ5 th5 ca5 sm5 _ _ _ ls hR hcn hM hFa (fun q z => by have := hFb q z; omega) hS (lv_sub hl [0, 1] rfl))
    | succ n ih =>
      intro i2 σ5 th5 ca5 sm5 hn hR H locs Fc hcn hM hFa hFb hS ls hl
      rw [fX4_digest_L51] at hR
      have hG := gE.ofS hG0 hS hFE
      have hb_i2 : i2 ≤ 9 := by omega
      refine lv_iload_n hx hb dX4_digest_51 rfl (lv_at hl 2 rfl) ?_
      refine lv_bipush (v := 9) hx hb dX4_digest_52 (by decide) ?_
      have hki2 : i2 < 9 := lk_lt hn
      refine lk_ge_in (k := i2) (N := 9) hx hb hki2 (by decide) (tgt := 74) dX4_digest_54 (by decide) ?_
      refine lv_aload_n hx hb dX4_digest_57 rfl (lv_at hl 0 rfl) ?_
      refine lv_aload_n hx hb dX4_digest_58 rfl (lv_at hl 0 rfl) ?_
      refine lv_iload_n hx hb dX4_digest_59 rfl (lv_at hl 1 rfl) ?_
      refine lv_iload_n hx hb dX4_digest_60 rfl (lv_at hl 2 rfl) ?_
      have hB := hS.1
      refine gcV (As := [.int (nI i1), .int (nI i2)]) (rest := [.ref (β 0 0)]) hS0 (met_X4_ofPlayerNow l D E i1 i2 (hcn.p hf51_0) hki2) q1913 q1915 qs84 q110 q1916 hd_X4_ofPlayerNow ⟨Nat.le_of_ble_eq_true rfl, Nat.le_of_ble_eq_true rfl⟩ hG (rcv hG cl_X4 hM.ag) hM rfl hl.1 rfl (Nat.le_of_ble_eq_true rfl) dX4_digest_61 ⟨by show _ ≤ 293; omega, by show _ ≤ 1659; omega⟩ hS (fun q h => h.elim) (fun q h => h.elim) (fun v H1 locs1 hP hz hk hS => ?_)
      obtain rfl := hP
      have hM := hM.kept (fun q h4 _ => hk q h4 id)
      have hG := gE.ofS hG0 hS hFE
      refine W.eq (g2 := F0 m 64 ls [.int ((fX4_ofPlayerNow σ5 i1 i2)), .ref (β 0 0)]) rfl ?_
      refine lv_i2l (v := Int32.toInt64 ((fX4_ofPlayerNow σ5 i1 i2))) hx hb dX4_digest_64 rfl ?_
      have hB := hS.1
      refine gcV (As := [.long (Int32.toInt64 ((fX4_ofPlayerNow σ5 i1 i2)))]) (rest := []) hS0 (met_X4_add l D E (Int32.toInt64 ((fX4_ofPlayerNow σ5 i1 i2)))) q2057 q2059 qs98 q110 q2060 hd_X4_add ⟨Nat.le_of_ble_eq_true rfl, Nat.le_of_ble_eq_true rfl⟩ hG (rcv hG cl_X4 hM.ag) hM rfl hl.1 rfl (Nat.le_of_ble_eq_true rfl) dX4_digest_65 ⟨by show _ ≤ 293; omega, by show _ ≤ 1659; omega⟩ hS (fun q h => hFa q h) (fun q h => hFa q h) (fun v H1 locs1 hP hz hk hS => ?_)
      obtain ⟨rfl, hZ, hc8⟩ := hP
      obtain ⟨Fd, hM, hFn⟩ := hZ.nar
      have hFa : ∀ q, Fd q → fN F s.heap.size q := fun q z => (hFn q z).1.elim (hFa q) (fun z9 => Or.inr (Nat.le_trans hB z9))
      have hFb : ∀ q, Fd q → q < H1.size := fun q z => (hFn q z).2
      clear hFn
      generalize Fd = Fc at hM hFa hFb
      have hG := gE.ofS hG0 hS hFE
      have hcn := hc8.tr hcn
      generalize hv_σ6 : (fX4_add σ5 th5 ca5 sm5 (Int32.toInt64 ((fX4_ofPlayerNow σ5 i1 i2)))).1 = σ6 at hR hM hcn ⊢
      generalize hv_th6 : (fX4_add σ5 th5 ca5 sm5 (Int32.toInt64 ((fX4_ofPlayerNow σ5 i1 i2)))).2.1 = th6 at hR hM hcn ⊢
      generalize hv_ca6 : (fX4_add σ5 th5 ca5 sm5 (Int32.toInt64 ((fX4_ofPlayerNow σ5 i1 i2)))).2.2.1 = ca6 at hR hM hcn ⊢
      generalize hv_sm6 : (fX4_add σ5 th5 ca5 sm5 (Int32.toInt64 ((fX4_ofPlayerNow σ5 i1 i2)))).2.2.2 = sm6 at hR hM hcn ⊢
      try dsimp only at hR
      refine W.eq (g2 := F0 m 68 ls []) rfl ?_
      refine lv_iinc (v := nI (i2 + 1)) (lv' := [(2, .int (nI (i2 + 1))), (0, .ref (β 0 0)), (1, .int (nI i1))]) hx hb dX4_digest_68 hl (k := 2) rfl (nI_1 i2) (Nat.le_of_ble_eq_true rfl) rfl (fun ls hl => ?_)
      refine lv_goto (tgt := 51) hx hb dX4_digest_71 (by decide) ?_
      exact W.widen (by show _ ≤ _; omega) (by show _ ≤ _; omega) (ih (i2 + 1) σ6 th6 ca6 sm6 (lk_st hn) hR _ _ _ hcn hM hFa (fun q z => by have := hFb q z; omega) hS ls (lv_sub hl [1, 2, 0] rfl))
  have hL38 : ∀  (κ : St → Int32 → Int32 → Int64 → Option (Int64 × MSt)) (hκ : ∀ (σ4 : St) (th4 : Int32) (ca4 : Int32) (sm4 : Int64) (H : Heap) (locs : List Loc) (Fc : Nat → Prop) (ls : Array Slot), κ σ4 th4 ca4 sm4 = some r → cnt σ4 σ → RM D E β Fc σ4 th4 ca4 sm4 H → (∀ q, Fc q → fN F s.heap.size q) → (∀ q, Fc q → q < H.size) → xK F F s.heap H locs → lv_has ls 3 [(0, .ref (β 0 0))] → W p l e { frames := 23, cells := 293, slots := 1659, locals := 512 } s m [(.ref (β 0 0) : Value)].toArray below meth c H locs ((0 + 143) + 90) ((0 + 429) + 270) (MQ below (qG F ((fun sz v h => v = some (.long r.1) ∧ RM D E β (fN F sz) r.2.1 r.2.2.1 r.2.2.2.1 r.2.2.2.2 h ∧ cnt r.2.1 σ) s.heap.size)) [(.ref (β 0 0) : Value)].toArray s 293 1659 (fN F s.heap.size)) (F0 m 80 ls [])) (n : Nat) (i1 : Nat) (σ4 : St) (th4 : Int32) (ca4 : Int32) (sm4 : Int64), i1 + n = nP σ → fX4_digest_L38 σ th ca sm κ n i1 σ4 th4 ca4 sm4 = some r → ∀ (H : Heap) (locs : List Loc) (Fc : Nat → Prop), cnt σ4 σ → RM D E β Fc σ4 th4 ca4 sm4 H → (∀ q, Fc q → fN F s.heap.size q) → (∀ q, Fc q → q < H.size) → xK F F s.heap H locs → ∀ (ls : Array Slot), lv_has ls 3 [(0, .ref (β 0 0)), (1, .int (nI i1))] → W p l e { frames := 23, cells := 293, slots := 1659, locals := 512 } s m [(.ref (β 0 0) : Value)].toArray below meth c H locs ((0 + 143) + i1 * 9) ((0 + 429) + i1 * 27) (MQ below (qG F ((fun sz v h => v = some (.long r.1) ∧ RM D E β (fN F sz) r.2.1 r.2.2.1 r.2.2.2.1 r.2.2.2.2 h ∧ cnt r.2.1 σ) s.heap.size)) [(.ref (β 0 0) : Value)].toArray s 293 1659 (fN F s.heap.size)) (F0 m 38 ls []) := by
    intro  κ hκ n
    induction n with
    | zero =>
      intro i1 σ4 th4 ca4 sm4 hn hR H locs Fc hcn hM hFa hFb hS ls hl
      rw [fX4_digest_L38] at hR
      have hG := gE.ofS hG0 hS hFE
      have hb_i1 : i1 ≤ 10 := by have := hM0.nP10; have := hM0.nB6; have := hM0.nW14; omega
      refine lv_iload_n hx hb dX4_digest_38 rfl (lv_at hl 1 rfl) ?_
      refine lv_aload_n hx hb dX4_digest_39 rfl (lv_at hl 0 rfl) ?_
      refine gf (v := .ref (β 1 0)) (C := RX4) (T := TX4) (N := 13) (k := 3) hx hb hts hown hG cl_X4 in_X4 hM.ag (by decide) q1543 rfl dX4_digest_40 ?_
      refine pcV (As := []) (rest := [.int (nI i1)]) hS0 (met_ml_size l D E (j := 0) (by decide)) q1600 q336 q2080 q103 q338 hd_J2_size ⟨Nat.le_of_ble_eq_true rfl, Nat.le_of_ble_eq_true rfl⟩ hG (hM.lsR hG (j := 0) (by decide)) hM rfl hl.1 rfl (Nat.le_of_ble_eq_true rfl) dX4_digest_43 ⟨by show _ ≤ 293; omega, by show _ ≤ 1659; omega⟩ ?_
      refine W.eq (g2 := F0 m 46 ls [.int (nI (nP σ4)), .int (nI i1)]) rfl ?_
      refine lk_ge_out (k := i1) (N := nP σ4) hx hb (Eq.trans hn hcn.1.symm) (tgt := 80) dX4_digest_46 (by decide) ?_
      exact W.widen (by show _ ≤ _; omega) (by show _ ≤ _; omega) (hκ σ4 th4 ca4 sm4 _ _ _ ls hR hcn hM hFa (fun q z => by have := hFb q z; omega) hS (lv_sub hl [0] rfl))
    | succ n ih =>
      intro i1 σ4 th4 ca4 sm4 hn hR H locs Fc hcn hM hFa hFb hS ls hl
      rw [fX4_digest_L38] at hR
      have hG := gE.ofS hG0 hS hFE
      have hb_i1 : i1 ≤ 10 := by have := hM0.nP10; have := hM0.nB6; have := hM0.nW14; omega
      refine lv_iload_n hx hb dX4_digest_38 rfl (lv_at hl 1 rfl) ?_
      refine lv_aload_n hx hb dX4_digest_39 rfl (lv_at hl 0 rfl) ?_
      refine gf (v := .ref (β 1 0)) (C := RX4) (T := TX4) (N := 13) (k := 3) hx hb hts hown hG cl_X4 in_X4 hM.ag (by decide) q1543 rfl dX4_digest_40 ?_
      refine pcV (As := []) (rest := [.int (nI i1)]) hS0 (met_ml_size l D E (j := 0) (by decide)) q1600 q336 q2080 q103 q338 hd_J2_size ⟨Nat.le_of_ble_eq_true rfl, Nat.le_of_ble_eq_true rfl⟩ hG (hM.lsR hG (j := 0) (by decide)) hM rfl hl.1 rfl (Nat.le_of_ble_eq_true rfl) dX4_digest_43 ⟨by show _ ≤ 293; omega, by show _ ≤ 1659; omega⟩ ?_
      refine W.eq (g2 := F0 m 46 ls [.int (nI (nP σ4)), .int (nI i1)]) rfl ?_
      have hki1 : i1 < nP σ := lk_lt hn
      refine lk_ge_in (k := i1) (N := nP σ4) hx hb (hcn.p hki1) (by have := hM.nP10; have := hM.nW14; have := hM.nB6; omega) (tgt := 80) dX4_digest_46 (by decide) ?_
      refine lv_iconst (v := 0) hx hb dX4_digest_49 (by decide) ?_
      refine lv_istore_n (lv' := [(2, .int 0), (0, .ref (β 0 0)), (1, .int (nI i1))]) hx hb dX4_digest_50 rfl hl (Nat.le_of_ble_eq_true rfl) rfl (fun ls hl => ?_)
      refine W.widen (k := ((0 + 143) + i1 * 9) + 0 * 1) (n := ((0 + 429) + i1 * 27) + 0 * 3) (by show _ ≤ _; omega) (by show _ ≤ _; omega) ?_
      refine hL51 i1 hki1 hb_i1 _ (fun σ7 th7 ca7 sm7 H1 locs1 Fc ls hR hcn hM hFa hFb hS hl => ?_) 9 0 σ4 th4 ca4 sm4 (Nat.zero_add _) hR _ _ _ hcn hM hFa (fun q z => by have := hFb q z; omega) hS ls (lv_sub hl [1, 2, 0] rfl)
      try dsimp only at hR
      have hG := gE.ofS hG0 hS hFE
      refine lv_iinc (v := nI (i1 + 1)) (lv' := [(1, .int (nI (i1 + 1))), (0, .ref (β 0 0))]) hx hb dX4_digest_74 hl (k := 1) rfl (nI_1 i1) (Nat.le_of_ble_eq_true rfl) rfl (fun ls hl => ?_)
      refine lv_goto (tgt := 38) hx hb dX4_digest_77 (by decide) ?_
      exact W.widen (by show _ ≤ _; omega) (by show _ ≤ _; omega) (ih (i1 + 1) σ7 th7 ca7 sm7 (lk_st hn) hR _ _ _ hcn hM hFa (fun q z => by have := hFb q z; omega) hS ls (lv_sub hl [1, 0] rfl))
  have hL90 : ∀ (i1 : Nat) (hf90_0 : i1 < 16) (κ : St → Int32 → Int32 → Int64 → Option (Int64 × MSt)) (hκ : ∀ (σ11 : St) (th11 : Int32) (ca11 : Int32) (sm11 : Int64) (H : Heap) (locs : List Loc) (Fc : Nat → Prop) (ls : Array Slot), κ σ11 th11 ca11 sm11 = some r → cnt σ11 σ → RM D E β Fc σ11 th11 ca11 sm11 H → (∀ q, Fc q → fN F s.heap.size q) → (∀ q, Fc q → q < H.size) → xK F F s.heap H locs → lv_has ls 3 [(0, .ref (β 0 0)), (1, .int (nI i1))] → W p l e { frames := 23, cells := 293, slots := 1659, locals := 512 } s m [(.ref (β 0 0) : Value)].toArray below meth c H locs ((0 + 143) + 90) ((0 + 429) + 270) (MQ below (qG F ((fun sz v h => v = some (.long r.1) ∧ RM D E β (fN F sz) r.2.1 r.2.2.1 r.2.2.2.1 r.2.2.2.2 h ∧ cnt r.2.1 σ) s.heap.size)) [(.ref (β 0 0) : Value)].toArray s 293 1659 (fN F s.heap.size)) (F0 m 113 ls [])) (n : Nat) (i2 : Nat) (σ11 : St) (th11 : Int32) (ca11 : Int32) (sm11 : Int64), i2 + n = 6 → fX4_digest_L90 σ th ca sm i1 κ n i2 σ11 th11 ca11 sm11 = some r → ∀ (H : Heap) (locs : List Loc) (Fc : Nat → Prop), cnt σ11 σ → RM D E β Fc σ11 th11 ca11 sm11 H → (∀ q, Fc q → fN F s.heap.size q) → (∀ q, Fc q → q < H.size) → xK F F s.heap H locs → ∀ (ls : Array Slot), lv_has ls 3 [(0, .ref (β 0 0)), (1, .int (nI i1)), (2, .int (nI i2))] → W p l e { frames := 23, cells := 293, slots := 1659, locals := 512 } s m [(.ref (β 0 0) : Value)].toArray below meth c H locs ((0 + 143) + 90) ((0 + 429) + 270) (MQ below (qG F ((fun sz v h => v = some (.long r.1) ∧ RM D E β (fN F sz) r.2.1 r.2.2.1 r.2.2.2.1 r.2.2.2.2 h ∧ cnt r.2.1 σ) s.heap.size)) [(.ref (β 0 0) : Value)].toArray s 293 1659 (fN F s.heap.size)) (F0 m 90 ls []) := by
    intro i1 hf90_0 κ hκ n
    induction n with
    | zero =>
      intro i2 σ11 th11 ca11 sm11 hn hR H locs Fc hcn hM hFa hFb hS ls hl
      rw [fX4_digest_L90] at hR
      have hG := gE.ofS hG0 hS hFE
      refine lv_iload_n hx hb dX4_digest_90 rfl (lv_at hl 2 rfl) ?_
      refine lv_bipush (v := 6) hx hb dX4_digest_91 (by decide) ?_
      refine lk_ge_out (k := i2) (N := 6) hx hb hn (tgt := 113) dX4_digest_93 (by decide) ?_
      exact hκ σ11 th11 ca11 sm11 _ _ _ ls hR hcn hM hFa (fun q z => by have := hFb q z; omega) hS (lv_sub hl [0, 1] rfl)
    | succ n ih =>
      intro i2 σ11 th11 ca11 sm11 hn hR H locs Fc hcn hM hFa hFb hS ls hl
      rw [fX4_digest_L90] at hR
      have hG := gE.ofS hG0 hS hFE
      refine lv_iload_n hx hb dX4_digest_90 rfl (lv_at hl 2 rfl) ?_
      refine lv_bipush (v := 6) hx hb dX4_digest_91 (by decide) ?_
      have hki2 : i2 < 6 := lk_lt hn
      refine lk_ge_in (k := i2) (N := 6) hx hb hki2 (by decide) (tgt := 113) dX4_digest_93 (by decide) ?_
      refine lv_aload_n hx hb dX4_digest_96 rfl (lv_at hl 0 rfl) ?_
      refine lv_aload_n hx hb dX4_digest_97 rfl (lv_at hl 0 rfl) ?_
      refine lv_iload_n hx hb dX4_digest_98 rfl (lv_at hl 1 rfl) ?_
      refine lv_iload_n hx hb dX4_digest_99 rfl (lv_at hl 2 rfl) ?_
      refine pcV (As := [.int (nI i1), .int (nI i2)]) (rest := [.ref (β 0 0)]) hS0 (met_X4_ofSongNow l D E i1 (nI i2) hf90_0) q1925 q1927 qs86 q110 q1928 hd_X4_ofSongNow ⟨Nat.le_of_ble_eq_true rfl, Nat.le_of_ble_eq_true rfl⟩ hG (rcv hG cl_X4 hM.ag) hM rfl hl.1 rfl (Nat.le_of_ble_eq_true rfl) dX4_digest_100 ⟨by show _ ≤ 293; omega, by show _ ≤ 1659; omega⟩ ?_
      refine W.eq (g2 := F0 m 103 ls [.int ((fX4_ofSongNow σ11 i1 (nI i2))), .ref (β 0 0)]) rfl ?_
      refine lv_i2l (v := Int32.toInt64 ((fX4_ofSongNow σ11 i1 (nI i2)))) hx hb dX4_digest_103 rfl ?_
      have hB := hS.1
      refine gcV (As := [.long (Int32.toInt64 ((fX4_ofSongNow σ11 i1 (nI i2))))]) (rest := []) hS0 (met_X4_add l D E (Int32.toInt64 ((fX4_ofSongNow σ11 i1 (nI i2))))) q2057 q2059 qs98 q110 q2060 hd_X4_add ⟨Nat.le_of_ble_eq_true rfl, Nat.le_of_ble_eq_true rfl⟩ hG (rcv hG cl_X4 hM.ag) hM rfl hl.1 rfl (Nat.le_of_ble_eq_true rfl) dX4_digest_104 ⟨by show _ ≤ 293; omega, by show _ ≤ 1659; omega⟩ hS (fun q h => hFa q h) (fun q h => hFa q h) (fun v H1 locs1 hP hz hk hS => ?_)
      obtain ⟨rfl, hZ, hc8⟩ := hP
      obtain ⟨Fd, hM, hFn⟩ := hZ.nar
      have hFa : ∀ q, Fd q → fN F s.heap.size q := fun q z => (hFn q z).1.elim (hFa q) (fun z9 => Or.inr (Nat.le_trans hB z9))
      have hFb : ∀ q, Fd q → q < H1.size := fun q z => (hFn q z).2
      clear hFn
      generalize Fd = Fc at hM hFa hFb
      have hG := gE.ofS hG0 hS hFE
      have hcn := hc8.tr hcn
      generalize hv_σ12 : (fX4_add σ11 th11 ca11 sm11 (Int32.toInt64 ((fX4_ofSongNow σ11 i1 (nI i2))))).1 = σ12 at hR hM hcn ⊢
      generalize hv_th12 : (fX4_add σ11 th11 ca11 sm11 (Int32.toInt64 ((fX4_ofSongNow σ11 i1 (nI i2))))).2.1 = th12 at hR hM hcn ⊢
      generalize hv_ca12 : (fX4_add σ11 th11 ca11 sm11 (Int32.toInt64 ((fX4_ofSongNow σ11 i1 (nI i2))))).2.2.1 = ca12 at hR hM hcn ⊢
      generalize hv_sm12 : (fX4_add σ11 th11 ca11 sm11 (Int32.toInt64 ((fX4_ofSongNow σ11 i1 (nI i2))))).2.2.2 = sm12 at hR hM hcn ⊢
      try dsimp only at hR
      refine W.eq (g2 := F0 m 107 ls []) rfl ?_
      refine lv_iinc (v := nI (i2 + 1)) (lv' := [(2, .int (nI (i2 + 1))), (0, .ref (β 0 0)), (1, .int (nI i1))]) hx hb dX4_digest_107 hl (k := 2) rfl (nI_1 i2) (Nat.le_of_ble_eq_true rfl) rfl (fun ls hl => ?_)
      refine lv_goto (tgt := 90) hx hb dX4_digest_110 (by decide) ?_
      exact ih (i2 + 1) σ12 th12 ca12 sm12 (lk_st hn) hR _ _ _ hcn hM hFa (fun q z => by have := hFb q z; omega) hS ls (lv_sub hl [1, 2, 0] rfl)
  have hL82 : ∀  (κ : St → Int32 → Int32 → Int64 → Option (Int64 × MSt)) (hκ : ∀ (σ10 : St) (th10 : Int32) (ca10 : Int32) (sm10 : Int64) (H : Heap) (locs : List Loc) (Fc : Nat → Prop) (ls : Array Slot), κ σ10 th10 ca10 sm10 = some r → cnt σ10 σ → RM D E β Fc σ10 th10 ca10 sm10 H → (∀ q, Fc q → fN F s.heap.size q) → (∀ q, Fc q → q < H.size) → xK F F s.heap H locs → lv_has ls 3 [(0, .ref (β 0 0))] → W p l e { frames := 23, cells := 293, slots := 1659, locals := 512 } s m [(.ref (β 0 0) : Value)].toArray below meth c H locs ((0 + 143) + 90) ((0 + 429) + 270) (MQ below (qG F ((fun sz v h => v = some (.long r.1) ∧ RM D E β (fN F sz) r.2.1 r.2.2.1 r.2.2.2.1 r.2.2.2.2 h ∧ cnt r.2.1 σ) s.heap.size)) [(.ref (β 0 0) : Value)].toArray s 293 1659 (fN F s.heap.size)) (F0 m 119 ls [])) (n : Nat) (i1 : Nat) (σ10 : St) (th10 : Int32) (ca10 : Int32) (sm10 : Int64), i1 + n = 16 → fX4_digest_L82 σ th ca sm κ n i1 σ10 th10 ca10 sm10 = some r → ∀ (H : Heap) (locs : List Loc) (Fc : Nat → Prop), cnt σ10 σ → RM D E β Fc σ10 th10 ca10 sm10 H → (∀ q, Fc q → fN F s.heap.size q) → (∀ q, Fc q → q < H.size) → xK F F s.heap H locs → ∀ (ls : Array Slot), lv_has ls 3 [(0, .ref (β 0 0)), (1, .int (nI i1))] → W p l e { frames := 23, cells := 293, slots := 1659, locals := 512 } s m [(.ref (β 0 0) : Value)].toArray below meth c H locs ((0 + 143) + 90) ((0 + 429) + 270) (MQ below (qG F ((fun sz v h => v = some (.long r.1) ∧ RM D E β (fN F sz) r.2.1 r.2.2.1 r.2.2.2.1 r.2.2.2.2 h ∧ cnt r.2.1 σ) s.heap.size)) [(.ref (β 0 0) : Value)].toArray s 293 1659 (fN F s.heap.size)) (F0 m 82 ls []) := by
    intro  κ hκ n
    induction n with
    | zero =>
      intro i1 σ10 th10 ca10 sm10 hn hR H locs Fc hcn hM hFa hFb hS ls hl
      rw [fX4_digest_L82] at hR
      have hG := gE.ofS hG0 hS hFE
      refine lv_iload_n hx hb dX4_digest_82 rfl (lv_at hl 1 rfl) ?_
      refine lv_bipush (v := 16) hx hb dX4_digest_83 (by decide) ?_
      refine lk_ge_out (k := i1) (N := 16) hx hb hn (tgt := 119) dX4_digest_85 (by decide) ?_
      exact hκ σ10 th10 ca10 sm10 _ _ _ ls hR hcn hM hFa (fun q z => by have := hFb q z; omega) hS (lv_sub hl [0] rfl)
    | succ n ih =>
      intro i1 σ10 th10 ca10 sm10 hn hR H locs Fc hcn hM hFa hFb hS ls hl
      rw [fX4_digest_L82] at hR
      have hG := gE.ofS hG0 hS hFE
      refine lv_iload_n hx hb dX4_digest_82 rfl (lv_at hl 1 rfl) ?_
      refine lv_bipush (v := 16) hx hb dX4_digest_83 (by decide) ?_
      have hki1 : i1 < 16 := lk_lt hn
      refine lk_ge_in (k := i1) (N := 16) hx hb hki1 (by decide) (tgt := 119) dX4_digest_85 (by decide) ?_
      refine lv_iconst (v := 0) hx hb dX4_digest_88 (by decide) ?_
      refine lv_istore_n (lv' := [(2, .int 0), (0, .ref (β 0 0)), (1, .int (nI i1))]) hx hb dX4_digest_89 rfl hl (Nat.le_of_ble_eq_true rfl) rfl (fun ls hl => ?_)
      refine hL90 i1 hki1 _ (fun σ13 th13 ca13 sm13 H1 locs1 Fc ls hR hcn hM hFa hFb hS hl => ?_) 6 0 σ10 th10 ca10 sm10 (Nat.zero_add _) hR _ _ _ hcn hM hFa (fun q z => by have := hFb q z; omega) hS ls (lv_sub hl [1, 2, 0] rfl)
      try dsimp only at hR
      have hG := gE.ofS hG0 hS hFE
      refine lv_iinc (v := nI (i1 + 1)) (lv' := [(1, .int (nI (i1 + 1))), (0, .ref (β 0 0))]) hx hb dX4_digest_113 hl (k := 1) rfl (nI_1 i1) (Nat.le_of_ble_eq_true rfl) rfl (fun ls hl => ?_)
      refine lv_goto (tgt := 82) hx hb dX4_digest_116 (by decide) ?_
      exact ih (i1 + 1) σ13 th13 ca13 sm13 (lk_st hn) hR _ _ _ hcn hM hFa (fun q z => by have := hFb q z; omega) hS ls (lv_sub hl [1, 0] rfl)
  have hL134 : ∀ (i1 : Nat) (hf134_0 : i1 < nB σ) (κ : St → Int32 → Int32 → Int64 → Option (Int64 × MSt)) (hκ : ∀ (σ17 : St) (th17 : Int32) (ca17 : Int32) (sm17 : Int64) (H : Heap) (locs : List Loc) (Fc : Nat → Prop) (ls : Array Slot), κ σ17 th17 ca17 sm17 = some r → cnt σ17 σ → RM D E β Fc σ17 th17 ca17 sm17 H → (∀ q, Fc q → fN F s.heap.size q) → (∀ q, Fc q → q < H.size) → xK F F s.heap H locs → lv_has ls 3 [(0, .ref (β 0 0)), (1, .int (nI i1))] → W p l e { frames := 23, cells := 293, slots := 1659, locals := 512 } s m [(.ref (β 0 0) : Value)].toArray below meth c H locs ((0 + 143) + 90) ((0 + 429) + 270) (MQ below (qG F ((fun sz v h => v = some (.long r.1) ∧ RM D E β (fN F sz) r.2.1 r.2.2.1 r.2.2.2.1 r.2.2.2.2 h ∧ cnt r.2.1 σ) s.heap.size)) [(.ref (β 0 0) : Value)].toArray s 293 1659 (fN F s.heap.size)) (F0 m 157 ls [])) (n : Nat) (i2 : Nat) (σ17 : St) (th17 : Int32) (ca17 : Int32) (sm17 : Int64), i2 + n = 9 → fX4_digest_L134 σ th ca sm i1 κ n i2 σ17 th17 ca17 sm17 = some r → ∀ (H : Heap) (locs : List Loc) (Fc : Nat → Prop), cnt σ17 σ → RM D E β Fc σ17 th17 ca17 sm17 H → (∀ q, Fc q → fN F s.heap.size q) → (∀ q, Fc q → q < H.size) → xK F F s.heap H locs → ∀ (ls : Array Slot), lv_has ls 3 [(0, .ref (β 0 0)), (1, .int (nI i1)), (2, .int (nI i2))] → W p l e { frames := 23, cells := 293, slots := 1659, locals := 512 } s m [(.ref (β 0 0) : Value)].toArray below meth c H locs ((0 + 143) + 90) ((0 + 429) + 270) (MQ below (qG F ((fun sz v h => v = some (.long r.1) ∧ RM D E β (fN F sz) r.2.1 r.2.2.1 r.2.2.2.1 r.2.2.2.2 h ∧ cnt r.2.1 σ) s.heap.size)) [(.ref (β 0 0) : Value)].toArray s 293 1659 (fN F s.heap.size)) (F0 m 134 ls []) := by
    intro i1 hf134_0 κ hκ n
    induction n with
    | zero =>
      intro i2 σ17 th17 ca17 sm17 hn hR H locs Fc hcn hM hFa hFb hS ls hl
      rw [fX4_digest_L134] at hR
      have hG := gE.ofS hG0 hS hFE
      refine lv_iload_n hx hb dX4_digest_134 rfl (lv_at hl 2 rfl) ?_
      refine lv_bipush (v := 9) hx hb dX4_digest_135 (by decide) ?_
      refine lk_ge_out (k := i2) (N := 9) hx hb hn (tgt := 157) dX4_digest_137 (by decide) ?_
      exact hκ σ17 th17 ca17 sm17 _ _ _ ls hR hcn hM hFa (fun q z => by have := hFb q z; omega) hS (lv_sub hl [0, 1] rfl)
    | succ n ih =>
      intro i2 σ17 th17 ca17 sm17 hn hR H locs Fc hcn hM hFa hFb hS ls hl
      rw [fX4_digest_L134] at hR
      have hG := gE.ofS hG0 hS hFE
      refine lv_iload_n hx hb dX4_digest_134 rfl (lv_at hl 2 rfl) ?_
      refine lv_bipush (v := 9) hx hb dX4_digest_135 (by decide) ?_
      have hki2 : i2 < 9 := lk_lt hn
      refine lk_ge_in (k := i2) (N := 9) hx hb hki2 (by decide) (tgt := 157) dX4_digest_137 (by decide) ?_
      refine lv_aload_n hx hb dX4_digest_140 rfl (lv_at hl 0 rfl) ?_
      refine lv_aload_n hx hb dX4_digest_141 rfl (lv_at hl 0 rfl) ?_
      refine lv_iload_n hx hb dX4_digest_142 rfl (lv_at hl 1 rfl) ?_
      refine lv_iload_n hx hb dX4_digest_143 rfl (lv_at hl 2 rfl) ?_
      refine pcV (As := [.int (nI i1), .int (nI i2)]) (rest := [.ref (β 0 0)]) hS0 (met_X4_ofBandNow l D E i1 i2 (hcn.b hf134_0) hki2) q1937 q1939 qs88 q110 q1940 hd_X4_ofBandNow ⟨Nat.le_of_ble_eq_true rfl, Nat.le_of_ble_eq_true rfl⟩ hG (rcv hG cl_X4 hM.ag) hM rfl hl.1 rfl (Nat.le_of_ble_eq_true rfl) dX4_digest_144 ⟨by show _ ≤ 293; omega, by show _ ≤ 1659; omega⟩ ?_
      refine W.eq (g2 := F0 m 147 ls [.int ((fX4_ofBandNow σ17 i1 i2)), .ref (β 0 0)]) rfl ?_
      refine lv_i2l (v := Int32.toInt64 ((fX4_ofBandNow σ17 i1 i2))) hx hb dX4_digest_147 rfl ?_
      have hB := hS.1
      refine gcV (As := [.long (Int32.toInt64 ((fX4_ofBandNow σ17 i1 i2)))]) (rest := []) hS0 (met_X4_add l D E (Int32.toInt64 ((fX4_ofBandNow σ17 i1 i2)))) q2057 q2059 qs98 q110 q2060 hd_X4_add ⟨Nat.le_of_ble_eq_true rfl, Nat.le_of_ble_eq_true rfl⟩ hG (rcv hG cl_X4 hM.ag) hM rfl hl.1 rfl (Nat.le_of_ble_eq_true rfl) dX4_digest_148 ⟨by show _ ≤ 293; omega, by show _ ≤ 1659; omega⟩ hS (fun q h => hFa q h) (fun q h => hFa q h) (fun v H1 locs1 hP hz hk hS => ?_)
      obtain ⟨rfl, hZ, hc8⟩ := hP
      obtain ⟨Fd, hM, hFn⟩ := hZ.nar
      have hFa : ∀ q, Fd q → fN F s.heap.size q := fun q z => (hFn q z).1.elim (hFa q) (fun z9 => Or.inr (Nat.le_trans hB z9))
      have hFb : ∀ q, Fd q → q < H1.size := fun q z => (hFn q z).2
      clear hFn
      generalize Fd = Fc at hM hFa hFb
      have hG := gE.ofS hG0 hS hFE
      have hcn := hc8.tr hcn
      generalize hv_σ18 : (fX4_add σ17 th17 ca17 sm17 (Int32.toInt64 ((fX4_ofBandNow σ17 i1 i2)))).1 = σ18 at hR hM hcn ⊢
      generalize hv_th18 : (fX4_add σ17 th17 ca17 sm17 (Int32.toInt64 ((fX4_ofBandNow σ17 i1 i2)))).2.1 = th18 at hR hM hcn ⊢
      generalize hv_ca18 : (fX4_add σ17 th17 ca17 sm17 (Int32.toInt64 ((fX4_ofBandNow σ17 i1 i2)))).2.2.1 = ca18 at hR hM hcn ⊢
      generalize hv_sm18 : (fX4_add σ17 th17 ca17 sm17 (Int32.toInt64 ((fX4_ofBandNow σ17 i1 i2)))).2.2.2 = sm18 at hR hM hcn ⊢
      try dsimp only at hR
      refine W.eq (g2 := F0 m 151 ls []) rfl ?_
      refine lv_iinc (v := nI (i2 + 1)) (lv' := [(2, .int (nI (i2 + 1))), (0, .ref (β 0 0)), (1, .int (nI i1))]) hx hb dX4_digest_151 hl (k := 2) rfl (nI_1 i2) (Nat.le_of_ble_eq_true rfl) rfl (fun ls hl => ?_)
      refine lv_goto (tgt := 134) hx hb dX4_digest_154 (by decide) ?_
      exact ih (i2 + 1) σ18 th18 ca18 sm18 (lk_st hn) hR _ _ _ hcn hM hFa (fun q z => by have := hFb q z; omega) hS ls (lv_sub hl [1, 2, 0] rfl)
  have hL121 : ∀  (κ : St → Int32 → Int32 → Int64 → Option (Int64 × MSt)) (hκ : ∀ (σ16 : St) (th16 : Int32) (ca16 : Int32) (sm16 : Int64) (H : Heap) (locs : List Loc) (Fc : Nat → Prop) (ls : Array Slot), κ σ16 th16 ca16 sm16 = some r → cnt σ16 σ → RM D E β Fc σ16 th16 ca16 sm16 H → (∀ q, Fc q → fN F s.heap.size q) → (∀ q, Fc q → q < H.size) → xK F F s.heap H locs → lv_has ls 3 [(0, .ref (β 0 0))] → W p l e { frames := 23, cells := 293, slots := 1659, locals := 512 } s m [(.ref (β 0 0) : Value)].toArray below meth c H locs ((0 + 143) + 90) ((0 + 429) + 270) (MQ below (qG F ((fun sz v h => v = some (.long r.1) ∧ RM D E β (fN F sz) r.2.1 r.2.2.1 r.2.2.2.1 r.2.2.2.2 h ∧ cnt r.2.1 σ) s.heap.size)) [(.ref (β 0 0) : Value)].toArray s 293 1659 (fN F s.heap.size)) (F0 m 163 ls [])) (n : Nat) (i1 : Nat) (σ16 : St) (th16 : Int32) (ca16 : Int32) (sm16 : Int64), i1 + n = nB σ → fX4_digest_L121 σ th ca sm κ n i1 σ16 th16 ca16 sm16 = some r → ∀ (H : Heap) (locs : List Loc) (Fc : Nat → Prop), cnt σ16 σ → RM D E β Fc σ16 th16 ca16 sm16 H → (∀ q, Fc q → fN F s.heap.size q) → (∀ q, Fc q → q < H.size) → xK F F s.heap H locs → ∀ (ls : Array Slot), lv_has ls 3 [(0, .ref (β 0 0)), (1, .int (nI i1))] → W p l e { frames := 23, cells := 293, slots := 1659, locals := 512 } s m [(.ref (β 0 0) : Value)].toArray below meth c H locs ((0 + 143) + 90) ((0 + 429) + 270) (MQ below (qG F ((fun sz v h => v = some (.long r.1) ∧ RM D E β (fN F sz) r.2.1 r.2.2.1 r.2.2.2.1 r.2.2.2.2 h ∧ cnt r.2.1 σ) s.heap.size)) [(.ref (β 0 0) : Value)].toArray s 293 1659 (fN F s.heap.size)) (F0 m 121 ls []) := by
    intro  κ hκ n
    induction n with
    | zero =>
      intro i1 σ16 th16 ca16 sm16 hn hR H locs Fc hcn hM hFa hFb hS ls hl
      rw [fX4_digest_L121] at hR
      have hG := gE.ofS hG0 hS hFE
      refine lv_iload_n hx hb dX4_digest_121 rfl (lv_at hl 1 rfl) ?_
      refine lv_aload_n hx hb dX4_digest_122 rfl (lv_at hl 0 rfl) ?_
      refine gf (v := .ref (β 1 1)) (C := RX4) (T := TX4) (N := 13) (k := 4) hx hb hts hown hG cl_X4 in_X4 hM.ag (by decide) q1544 rfl dX4_digest_123 ?_
      refine pcV (As := []) (rest := [.int (nI i1)]) hS0 (met_ml_size l D E (j := 1) (by decide)) q1600 q336 q2080 q103 q338 hd_J2_size ⟨Nat.le_of_ble_eq_true rfl, Nat.le_of_ble_eq_true rfl⟩ hG (hM.lsR hG (j := 1) (by decide)) hM rfl hl.1 rfl (Nat.le_of_ble_eq_true rfl) dX4_digest_126 ⟨by show _ ≤ 293; omega, by show _ ≤ 1659; omega⟩ ?_
      refine W.eq (g2 := F0 m 129 ls [.int (nI (nB σ16)), .int (nI i1)]) rfl ?_
      refine lk_ge_out (k := i1) (N := nB σ16) hx hb (Eq.trans hn hcn.2.1.symm) (tgt := 163) dX4_digest_129 (by decide) ?_
      exact hκ σ16 th16 ca16 sm16 _ _ _ ls hR hcn hM hFa (fun q z => by have := hFb q z; omega) hS (lv_sub hl [0] rfl)
    | succ n ih =>
      intro i1 σ16 th16 ca16 sm16 hn hR H locs Fc hcn hM hFa hFb hS ls hl
      rw [fX4_digest_L121] at hR
      have hG := gE.ofS hG0 hS hFE
      refine lv_iload_n hx hb dX4_digest_121 rfl (lv_at hl 1 rfl) ?_
      refine lv_aload_n hx hb dX4_digest_122 rfl (lv_at hl 0 rfl) ?_
      refine gf (v := .ref (β 1 1)) (C := RX4) (T := TX4) (N := 13) (k := 4) hx hb hts hown hG cl_X4 in_X4 hM.ag (by decide) q1544 rfl dX4_digest_123 ?_
      refine pcV (As := []) (rest := [.int (nI i1)]) hS0 (met_ml_size l D E (j := 1) (by decide)) q1600 q336 q2080 q103 q338 hd_J2_size ⟨Nat.le_of_ble_eq_true rfl, Nat.le_of_ble_eq_true rfl⟩ hG (hM.lsR hG (j := 1) (by decide)) hM rfl hl.1 rfl (Nat.le_of_ble_eq_true rfl) dX4_digest_126 ⟨by show _ ≤ 293; omega, by show _ ≤ 1659; omega⟩ ?_
      refine W.eq (g2 := F0 m 129 ls [.int (nI (nB σ16)), .int (nI i1)]) rfl ?_
      have hki1 : i1 < nB σ := lk_lt hn
      refine lk_ge_in (k := i1) (N := nB σ16) hx hb (hcn.b hki1) (by have := hM.nP10; have := hM.nW14; have := hM.nB6; omega) (tgt := 163) dX4_digest_129 (by decide) ?_
      refine lv_iconst (v := 0) hx hb dX4_digest_132 (by decide) ?_
      refine lv_istore_n (lv' := [(2, .int 0), (0, .ref (β 0 0)), (1, .int (nI i1))]) hx hb dX4_digest_133 rfl hl (Nat.le_of_ble_eq_true rfl) rfl (fun ls hl => ?_)
      refine hL134 i1 hki1 _ (fun σ19 th19 ca19 sm19 H1 locs1 Fc ls hR hcn hM hFa hFb hS hl => ?_) 9 0 σ16 th16 ca16 sm16 (Nat.zero_add _) hR _ _ _ hcn hM hFa (fun q z => by have := hFb q z; omega) hS ls (lv_sub hl [1, 2, 0] rfl)
      try dsimp only at hR
      have hG := gE.ofS hG0 hS hFE
      refine lv_iinc (v := nI (i1 + 1)) (lv' := [(1, .int (nI (i1 + 1))), (0, .ref (β 0 0))]) hx hb dX4_digest_157 hl (k := 1) rfl (nI_1 i1) (Nat.le_of_ble_eq_true rfl) rfl (fun ls hl => ?_)
      refine lv_goto (tgt := 121) hx hb dX4_digest_160 (by decide) ?_
      exact ih (i1 + 1) σ19 th19 ca19 sm19 (lk_st hn) hR _ _ _ hcn hM hFa (fun q z => by have := hFb q z; omega) hS ls (lv_sub hl [1, 0] rfl)
  have hL178 : ∀ (i1 : Nat) (hf178_0 : i1 < nW σ) (hb_i1 : i1 ≤ 14) (κ : St → Int32 → Int32 → Int64 → Option (Int64 × MSt)) (hκ : ∀ (σ23 : St) (th23 : Int32) (ca23 : Int32) (sm23 : Int64) (H : Heap) (locs : List Loc) (Fc : Nat → Prop) (ls : Array Slot), κ σ23 th23 ca23 sm23 = some r → cnt σ23 σ → RM D E β Fc σ23 th23 ca23 sm23 H → (∀ q, Fc q → fN F s.heap.size q) → (∀ q, Fc q → q < H.size) → xK F F s.heap H locs → lv_has ls 3 [(0, .ref (β 0 0)), (1, .int (nI i1))] → W p l e { frames := 23, cells := 293, slots := 1659, locals := 512 } s m [(.ref (β 0 0) : Value)].toArray below meth c H locs (((0 + 143) + 90) + i1 * 4) (((0 + 429) + 270) + i1 * 64) (MQ below (qG F ((fun sz v h => v = some (.long r.1) ∧ RM D E β (fN F sz) r.2.1 r.2.2.1 r.2.2.2.1 r.2.2.2.2 h ∧ cnt r.2.1 σ) s.heap.size)) [(.ref (β 0 0) : Value)].toArray s 293 1659 (fN F s.heap.size)) (F0 m 201 ls [])) (n : Nat) (i2 : Nat) (σ23 : St) (th23 : Int32) (ca23 : Int32) (sm23 : Int64), i2 + n = 13 → fX4_digest_L178 σ th ca sm i1 κ n i2 σ23 th23 ca23 sm23 = some r → ∀ (H : Heap) (locs : List Loc) (Fc : Nat → Prop), cnt σ23 σ → RM D E β Fc σ23 th23 ca23 sm23 H → (∀ q, Fc q → fN F s.heap.size q) → (∀ q, Fc q → q < H.size) → xK F F s.heap H locs → ∀ (ls : Array Slot), lv_has ls 3 [(0, .ref (β 0 0)), (1, .int (nI i1)), (2, .int (nI i2))] → W p l e { frames := 23, cells := 293, slots := 1659, locals := 512 } s m [(.ref (β 0 0) : Value)].toArray below meth c H locs (((0 + 143) + 90) + i1 * 4) (((0 + 429) + 270) + i1 * 64) (MQ below (qG F ((fun sz v h => v = some (.long r.1) ∧ RM D E β (fN F sz) r.2.1 r.2.2.1 r.2.2.2.1 r.2.2.2.2 h ∧ cnt r.2.1 σ) s.heap.size)) [(.ref (β 0 0) : Value)].toArray s 293 1659 (fN F s.heap.size)) (F0 m 178 ls []) := by
    intro i1 hf178_0 hb_i1 κ hκ n
    induction n with
    | zero =>
      intro i2 σ23 th23 ca23 sm23 hn hR H locs Fc hcn hM hFa hFb hS ls hl
      rw [fX4_digest_L178] at hR
      have hG := gE.ofS hG0 hS hFE
      refine lv_iload_n hx hb dX4_digest_178 rfl (lv_at hl 2 rfl) ?_
      refine lv_bipush (v := 13) hx hb dX4_digest_179 (by decide) ?_
      refine lk_ge_out (k := i2) (N := 13) hx hb hn (tgt := 201) dX4_digest_181 (by decide) ?_
      exact hκ σ23 th23 ca23 sm23 _ _ _ ls hR hcn hM hFa (fun q z => by have := hFb q z; omega) hS (lv_sub hl [0, 1] rfl)
    | succ n ih =>
      intro i2 σ23 th23 ca23 sm23 hn hR H locs Fc hcn hM hFa hFb hS ls hl
      rw [fX4_digest_L178] at hR
      have hG := gE.ofS hG0 hS hFE
      refine lv_iload_n hx hb dX4_digest_178 rfl (lv_at hl 2 rfl) ?_
      refine lv_bipush (v := 13) hx hb dX4_digest_179 (by decide) ?_
      have hki2 : i2 < 13 := lk_lt hn
      refine lk_ge_in (k := i2) (N := 13) hx hb hki2 (by decide) (tgt := 201) dX4_digest_181 (by decide) ?_
      refine lv_aload_n hx hb dX4_digest_184 rfl (lv_at hl 0 rfl) ?_
      refine lv_aload_n hx hb dX4_digest_185 rfl (lv_at hl 0 rfl) ?_
      refine lv_iload_n hx hb dX4_digest_186 rfl (lv_at hl 1 rfl) ?_
      refine lv_iload_n hx hb dX4_digest_187 rfl (lv_at hl 2 rfl) ?_
      have hB := hS.1
      refine gcV (As := [.int (nI i1), .int (nI i2)]) (rest := [.ref (β 0 0)]) hS0 (met_X4_ofWeddingNow l D E i1 (nI i2) (hcn.w hf178_0)) q1945 q1947 qs89 q110 q1948 hd_X4_ofWeddingNow ⟨Nat.le_of_ble_eq_true rfl, Nat.le_of_ble_eq_true rfl⟩ hG (rcv hG cl_X4 hM.ag) hM rfl hl.1 rfl (Nat.le_of_ble_eq_true rfl) dX4_digest_188 ⟨by show _ ≤ 293; omega, by show _ ≤ 1659; omega⟩ hS (fun q h => hFa q h) (fun q h => hFa q h) (fun v H1 locs1 hP hz hk hS => ?_)
      obtain ⟨rfl, hZ, hc8⟩ := hP
      obtain ⟨Fd, hM, hFn⟩ := hZ.nar
      have hFa : ∀ q, Fd q → fN F s.heap.size q := fun q z => (hFn q z).1.elim (hFa q) (fun z9 => Or.inr (Nat.le_trans hB z9))
      have hFb : ∀ q, Fd q → q < H1.size := fun q z => (hFn q z).2
      clear hFn
      generalize Fd = Fc at hM hFa hFb
      have hG := gE.ofS hG0 hS hFE
      have hcn := hc8.tr hcn
      generalize hv_σ24 : (fX4_ofWeddingNow σ23 th23 ca23 sm23 i1 (nI i2)).2.1 = σ24 at hR hM hcn ⊢
      generalize hv_th24 : (fX4_ofWeddingNow σ23 th23 ca23 sm23 i1 (nI i2)).2.2.1 = th24 at hR hM hcn ⊢
      generalize hv_ca24 : (fX4_ofWeddingNow σ23 th23 ca23 sm23 i1 (nI i2)).2.2.2.1 = ca24 at hR hM hcn ⊢
      generalize hv_sm24 : (fX4_ofWeddingNow σ23 th23 ca23 sm23 i1 (nI i2)).2.2.2.2 = sm24 at hR hM hcn ⊢
      generalize hv_v24 : (fX4_ofWeddingNow σ23 th23 ca23 sm23 i1 (nI i2)).1 = v24 at hR hM hcn ⊢
      try dsimp only at hR
      refine W.eq (g2 := F0 m 191 ls [.int (v24), .ref (β 0 0)]) rfl ?_
      refine lv_i2l (v := Int32.toInt64 v24) hx hb dX4_digest_191 rfl ?_
      have hB := hS.1
      refine gcV (As := [.long (Int32.toInt64 v24)]) (rest := []) hS0 (met_X4_add l D E (Int32.toInt64 v24)) q2057 q2059 qs98 q110 q2060 hd_X4_add ⟨Nat.le_of_ble_eq_true rfl, Nat.le_of_ble_eq_true rfl⟩ hG (rcv hG cl_X4 hM.ag) hM rfl hl.1 rfl (Nat.le_of_ble_eq_true rfl) dX4_digest_192 ⟨by show _ ≤ 293; omega, by show _ ≤ 1659; omega⟩ hS (fun q h => hFa q h) (fun q h => hFa q h) (fun v H1 locs1 hP hz hk hS => ?_)
      obtain ⟨rfl, hZ, hc8⟩ := hP
      obtain ⟨Fd, hM, hFn⟩ := hZ.nar
      have hFa : ∀ q, Fd q → fN F s.heap.size q := fun q z => (hFn q z).1.elim (hFa q) (fun z9 => Or.inr (Nat.le_trans hB z9))
      have hFb : ∀ q, Fd q → q < H1.size := fun q z => (hFn q z).2
      clear hFn
      generalize Fd = Fc at hM hFa hFb
      have hG := gE.ofS hG0 hS hFE
      have hcn := hc8.tr hcn
      generalize hv_σ25 : (fX4_add σ24 th24 ca24 sm24 (Int32.toInt64 v24)).1 = σ25 at hR hM hcn ⊢
      generalize hv_th25 : (fX4_add σ24 th24 ca24 sm24 (Int32.toInt64 v24)).2.1 = th25 at hR hM hcn ⊢
      generalize hv_ca25 : (fX4_add σ24 th24 ca24 sm24 (Int32.toInt64 v24)).2.2.1 = ca25 at hR hM hcn ⊢
      generalize hv_sm25 : (fX4_add σ24 th24 ca24 sm24 (Int32.toInt64 v24)).2.2.2 = sm25 at hR hM hcn ⊢
      try dsimp only at hR
      refine W.eq (g2 := F0 m 195 ls []) rfl ?_
      refine lv_iinc (v := nI (i2 + 1)) (lv' := [(2, .int (nI (i2 + 1))), (0, .ref (β 0 0)), (1, .int (nI i1))]) hx hb dX4_digest_195 hl (k := 2) rfl (nI_1 i2) (Nat.le_of_ble_eq_true rfl) rfl (fun ls hl => ?_)
      refine lv_goto (tgt := 178) hx hb dX4_digest_198 (by decide) ?_
      exact ih (i2 + 1) σ25 th25 ca25 sm25 (lk_st hn) hR _ _ _ hcn hM hFa (fun q z => by have := hFb q z; omega) hS ls (lv_sub hl [1, 2, 0] rfl)
  have hL203 : ∀ (i1 : Nat) (hf203_0 : i1 < nW σ) (hb_i1 : i1 ≤ 14) (κ : St → Int32 → Int32 → Int64 → Option (Int64 × MSt)) (hκ : ∀ (σ27 : St) (th27 : Int32) (ca27 : Int32) (sm27 : Int64) (H : Heap) (locs : List Loc) (Fc : Nat → Prop) (ls : Array Slot), κ σ27 th27 ca27 sm27 = some r → cnt σ27 σ → RM D E β Fc σ27 th27 ca27 sm27 H → (∀ q, Fc q → fN F s.heap.size q) → (∀ q, Fc q → q < H.size) → xK F F s.heap H locs → lv_has ls 3 [(0, .ref (β 0 0)), (1, .int (nI i1))] → W p l e { frames := 23, cells := 293, slots := 1659, locals := 512 } s m [(.ref (β 0 0) : Value)].toArray below meth c H locs (((0 + 143) + 90) + i1 * 4) (((0 + 429) + 270) + i1 * 64) (MQ below (qG F ((fun sz v h => v = some (.long r.1) ∧ RM D E β (fN F sz) r.2.1 r.2.2.1 r.2.2.2.1 r.2.2.2.2 h ∧ cnt r.2.1 σ) s.heap.size)) [(.ref (β 0 0) : Value)].toArray s 293 1659 (fN F s.heap.size)) (F0 m 242 ls [])) (n : Nat) (i2 : Nat) (σ27 : St) (th27 : Int32) (ca27 : Int32) (sm27 : Int64), i2 + n = 4 → fX4_digest_L203 σ th ca sm i1 κ n i2 σ27 th27 ca27 sm27 = some r → ∀ (H : Heap) (locs : List Loc) (Fc : Nat → Prop), cnt σ27 σ → RM D E β Fc σ27 th27 ca27 sm27 H → (∀ q, Fc q → fN F s.heap.size q) → (∀ q, Fc q → q < H.size) → xK F F s.heap H locs → ∀ (ls : Array Slot), lv_has ls 3 [(0, .ref (β 0 0)), (1, .int (nI i1)), (2, .int (nI i2))] → W p l e { frames := 23, cells := 293, slots := 1659, locals := 512 } s m [(.ref (β 0 0) : Value)].toArray below meth c H locs (((0 + 143) + 90) + i1 * 4) (((0 + 429) + 270) + i1 * 64) (MQ below (qG F ((fun sz v h => v = some (.long r.1) ∧ RM D E β (fN F sz) r.2.1 r.2.2.1 r.2.2.2.1 r.2.2.2.2 h ∧ cnt r.2.1 σ) s.heap.size)) [(.ref (β 0 0) : Value)].toArray s 293 1659 (fN F s.heap.size)) (F0 m 203 ls []) := by
    intro i1 hf203_0 hb_i1 κ hκ n
    induction n with
    | zero =>
      intro i2 σ27 th27 ca27 sm27 hn hR H locs Fc hcn hM hFa hFb hS ls hl
      rw [fX4_digest_L203] at hR
      have hG := gE.ofS hG0 hS hFE
      refine lv_iload_n hx hb dX4_digest_203 rfl (lv_at hl 2 rfl) ?_
      refine lv_iconst (v := 4) hx hb dX4_digest_204 (by decide) ?_
      refine lk_ge_out (k := i2) (N := 4) hx hb hn (tgt := 242) dX4_digest_205 (by decide) ?_
      exact hκ σ27 th27 ca27 sm27 _ _ _ ls hR hcn hM hFa (fun q z => by have := hFb q z; omega) hS (lv_sub hl [0, 1] rfl)
    | succ n ih =>
      intro i2 σ27 th27 ca27 sm27 hn hR H locs Fc hcn hM hFa hFb hS ls hl
      rw [fX4_digest_L203] at hR
      have hG := gE.ofS hG0 hS hFE
      refine lv_iload_n hx hb dX4_digest_203 rfl (lv_at hl 2 rfl) ?_
      refine lv_iconst (v := 4) hx hb dX4_digest_204 (by decide) ?_
      have hki2 : i2 < 4 := lk_lt hn
      refine lk_ge_in (k := i2) (N := 4) hx hb hki2 (by decide) (tgt := 242) dX4_digest_205 (by decide) ?_
      refine lv_aload_n hx hb dX4_digest_208 rfl (lv_at hl 0 rfl) ?_
      refine gf (v := .ref (β 1 2)) (C := RX4) (T := TX4) (N := 13) (k := 5) hx hb hts hown hG cl_X4 in_X4 hM.ag (by decide) q1545 rfl dX4_digest_209 ?_
      refine lv_iload_n hx hb dX4_digest_212 rfl (lv_at hl 1 rfl) ?_
      refine pcV (As := [.int (nI i1)]) (rest := []) hS0 (met_ml_get l D E (j := 2) (by decide) i1 (hcn.w hf203_0)) q1639 q349 q2082 q103 q351 hd_J2_get ⟨Nat.le_of_ble_eq_true rfl, Nat.le_of_ble_eq_true rfl⟩ hG (hM.lsR hG (j := 2) (by decide)) hM rfl hl.1 rfl (Nat.le_of_ble_eq_true rfl) dX4_digest_213 ⟨by show _ ≤ 293; omega, by show _ ≤ 1659; omega⟩ ?_
      refine W.eq (g2 := F0 m 216 ls [.ref (β 5 i1)]) rfl ?_
      refine gc (ci := 9) hx hb hown hG cl_X11 (rcv hG cl_X11 (hM.wd (hcn.w hf203_0))) (hts _ q1695) dX4_digest_216 ?_
      refine gfN (v := .int (nI (wState σ27 i1))) (C := RX11) (T := TX11) (N := 12) (k := 7) hx hb hts hown hG cl_X11 in_X11 (hM.wd (hcn.w hf203_0)) (by decide) q1710 rfl dX4_digest_219 ?_
      refine lv_if_ne (tgt := 242) hx hb dX4_digest_222 (by decide) (fun c1 => ?_) (fun c1 => ?_)
      · rw [if_neg c1] at hR
        exact hκ σ27 th27 ca27 sm27 _ _ _ ls hR hcn hM hFa (fun q z => by have := hFb q z; omega) hS (lv_sub hl [0, 1] rfl)
      · rw [if_pos c1] at hR
        refine lv_aload_n hx hb dX4_digest_225 rfl (lv_at hl 0 rfl) ?_
        refine lv_aload_n hx hb dX4_digest_226 rfl (lv_at hl 0 rfl) ?_
        refine lv_iload_n hx hb dX4_digest_227 rfl (lv_at hl 1 rfl) ?_
        refine lv_iload_n hx hb dX4_digest_228 rfl (lv_at hl 2 rfl) ?_
        refine pcV (As := [.int (nI i1), .int (nI i2)]) (rest := [.ref (β 0 0)]) hS0 (met_X4_fillingNow l D E i1 (nI i2) (hcn.w hf203_0)) q1961 q1963 qs90 q110 q1964 hd_X4_fillingNow ⟨Nat.le_of_ble_eq_true rfl, Nat.le_of_ble_eq_true rfl⟩ hG (rcv hG cl_X4 hM.ag) hM rfl hl.1 rfl (Nat.le_of_ble_eq_true rfl) dX4_digest_229 ⟨by show _ ≤ 293; omega, by show _ ≤ 1659; omega⟩ ?_
        refine W.eq (g2 := F0 m 232 ls [.int ((fX4_fillingNow σ27 i1 (nI i2))), .ref (β 0 0)]) rfl ?_
        refine lv_i2l (v := Int32.toInt64 ((fX4_fillingNow σ27 i1 (nI i2)))) hx hb dX4_digest_232 rfl ?_
        have hB := hS.1
        refine gcV (As := [.long (Int32.toInt64 ((fX4_fillingNow σ27 i1 (nI i2))))]) (rest := []) hS0 (met_X4_add l D E (Int32.toInt64 ((fX4_fillingNow σ27 i1 (nI i2))))) q2057 q2059 qs98 q110 q2060 hd_X4_add ⟨Nat.le_of_ble_eq_true rfl, Nat.le_of_ble_eq_true rfl⟩ hG (rcv hG cl_X4 hM.ag) hM rfl hl.1 rfl (Nat.le_of_ble_eq_true rfl) dX4_digest_233 ⟨by show _ ≤ 293; omega, by show _ ≤ 1659; omega⟩ hS (fun q h => hFa q h) (fun q h => hFa q h) (fun v H1 locs1 hP hz hk hS => ?_)
        obtain ⟨rfl, hZ, hc8⟩ := hP
        obtain ⟨Fd, hM, hFn⟩ := hZ.nar
        have hFa : ∀ q, Fd q → fN F s.heap.size q := fun q z => (hFn q z).1.elim (hFa q) (fun z9 => Or.inr (Nat.le_trans hB z9))
        have hFb : ∀ q, Fd q → q < H1.size := fun q z => (hFn q z).2
        clear hFn
        generalize Fd = Fc at hM hFa hFb
        have hG := gE.ofS hG0 hS hFE
        have hcn := hc8.tr hcn
        generalize hv_σ28 : (fX4_add σ27 th27 ca27 sm27 (Int32.toInt64 ((fX4_fillingNow σ27 i1 (nI i2))))).1 = σ28 at hR hM hcn ⊢
        generalize hv_th28 : (fX4_add σ27 th27 ca27 sm27 (Int32.toInt64 ((fX4_fillingNow σ27 i1 (nI i2))))).2.1 = th28 at hR hM hcn ⊢
        generalize hv_ca28 : (fX4_add σ27 th27 ca27 sm27 (Int32.toInt64 ((fX4_fillingNow σ27 i1 (nI i2))))).2.2.1 = ca28 at hR hM hcn ⊢
        generalize hv_sm28 : (fX4_add σ27 th27 ca27 sm27 (Int32.toInt64 ((fX4_fillingNow σ27 i1 (nI i2))))).2.2.2 = sm28 at hR hM hcn ⊢
        try dsimp only at hR
        refine W.eq (g2 := F0 m 236 ls []) rfl ?_
        refine lv_iinc (v := nI (i2 + 1)) (lv' := [(2, .int (nI (i2 + 1))), (0, .ref (β 0 0)), (1, .int (nI i1))]) hx hb dX4_digest_236 hl (k := 2) rfl (nI_1 i2) (Nat.le_of_ble_eq_true rfl) rfl (fun ls hl => ?_)
        refine lv_goto (tgt := 203) hx hb dX4_digest_239 (by decide) ?_
        exact ih (i2 + 1) σ28 th28 ca28 sm28 (lk_st hn) hR _ _ _ hcn hM hFa (fun q z => by have := hFb q z; omega) hS ls (lv_sub hl [1, 2, 0] rfl)
  have hL165 : ∀  (κ : St → Int32 → Int32 → Int64 → Option (Int64 × MSt)) (hκ : ∀ (σ22 : St) (th22 : Int32) (ca22 : Int32) (sm22 : Int64) (H : Heap) (locs : List Loc) (Fc : Nat → Prop) (ls : Array Slot), κ σ22 th22 ca22 sm22 = some r → cnt σ22 σ → RM D E β Fc σ22 th22 ca22 sm22 H → (∀ q, Fc q → fN F s.heap.size q) → (∀ q, Fc q → q < H.size) → xK F F s.heap H locs → lv_has ls 3 [(0, .ref (β 0 0))] → W p l e { frames := 23, cells := 293, slots := 1659, locals := 512 } s m [(.ref (β 0 0) : Value)].toArray below meth c H locs (((0 + 143) + 90) + 56) (((0 + 429) + 270) + 896) (MQ below (qG F ((fun sz v h => v = some (.long r.1) ∧ RM D E β (fN F sz) r.2.1 r.2.2.1 r.2.2.2.1 r.2.2.2.2 h ∧ cnt r.2.1 σ) s.heap.size)) [(.ref (β 0 0) : Value)].toArray s 293 1659 (fN F s.heap.size)) (F0 m 272 ls [])) (n : Nat) (i1 : Nat) (σ22 : St) (th22 : Int32) (ca22 : Int32) (sm22 : Int64), i1 + n = nW σ → fX4_digest_L165 σ th ca sm κ n i1 σ22 th22 ca22 sm22 = some r → ∀ (H : Heap) (locs : List Loc) (Fc : Nat → Prop), cnt σ22 σ → RM D E β Fc σ22 th22 ca22 sm22 H → (∀ q, Fc q → fN F s.heap.size q) → (∀ q, Fc q → q < H.size) → xK F F s.heap H locs → ∀ (ls : Array Slot), lv_has ls 3 [(0, .ref (β 0 0)), (1, .int (nI i1))] → W p l e { frames := 23, cells := 293, slots := 1659, locals := 512 } s m [(.ref (β 0 0) : Value)].toArray below meth c H locs (((0 + 143) + 90) + i1 * 4) (((0 + 429) + 270) + i1 * 64) (MQ below (qG F ((fun sz v h => v = some (.long r.1) ∧ RM D E β (fN F sz) r.2.1 r.2.2.1 r.2.2.2.1 r.2.2.2.2 h ∧ cnt r.2.1 σ) s.heap.size)) [(.ref (β 0 0) : Value)].toArray s 293 1659 (fN F s.heap.size)) (F0 m 165 ls []) := by
    intro  κ hκ n
    induction n with
    | zero =>
      intro i1 σ22 th22 ca22 sm22 hn hR H locs Fc hcn hM hFa hFb hS ls hl
      rw [fX4_digest_L165] at hR
      have hG := gE.ofS hG0 hS hFE
      have hb_i1 : i1 ≤ 14 := by have := hM0.nP10; have := hM0.nB6; have := hM0.nW14; omega
      refine lv_iload_n hx hb dX4_digest_165 rfl (lv_at hl 1 rfl) ?_
      refine lv_aload_n hx hb dX4_digest_166 rfl (lv_at hl 0 rfl) ?_
      refine gf (v := .ref (β 1 2)) (C := RX4) (T := TX4) (N := 13) (k := 5) hx hb hts hown hG cl_X4 in_X4 hM.ag (by decide) q1545 rfl dX4_digest_167 ?_
      refine pcV (As := []) (rest := [.int (nI i1)]) hS0 (met_ml_size l D E (j := 2) (by decide)) q1600 q336 q2080 q103 q338 hd_J2_size ⟨Nat.le_of_ble_eq_true rfl, Nat.le_of_ble_eq_true rfl⟩ hG (hM.lsR hG (j := 2) (by decide)) hM rfl hl.1 rfl (Nat.le_of_ble_eq_true rfl) dX4_digest_170 ⟨by show _ ≤ 293; omega, by show _ ≤ 1659; omega⟩ ?_
      refine W.eq (g2 := F0 m 173 ls [.int (nI (nW σ22)), .int (nI i1)]) rfl ?_
      refine lk_ge_out (k := i1) (N := nW σ22) hx hb (Eq.trans hn hcn.2.2.symm) (tgt := 272) dX4_digest_173 (by decide) ?_
      exact W.widen (by show _ ≤ _; omega) (by show _ ≤ _; omega) (hκ σ22 th22 ca22 sm22 _ _ _ ls hR hcn hM hFa (fun q z => by have := hFb q z; omega) hS (lv_sub hl [0] rfl))
    | succ n ih =>
      intro i1 σ22 th22 ca22 sm22 hn hR H locs Fc hcn hM hFa hFb hS ls hl
      rw [fX4_digest_L165] at hR
      have hG := gE.ofS hG0 hS hFE
      have hb_i1 : i1 ≤ 14 := by have := hM0.nP10; have := hM0.nB6; have := hM0.nW14; omega
      refine lv_iload_n hx hb dX4_digest_165 rfl (lv_at hl 1 rfl) ?_
      refine lv_aload_n hx hb dX4_digest_166 rfl (lv_at hl 0 rfl) ?_
      refine gf (v := .ref (β 1 2)) (C := RX4) (T := TX4) (N := 13) (k := 5) hx hb hts hown hG cl_X4 in_X4 hM.ag (by decide) q1545 rfl dX4_digest_167 ?_
      refine pcV (As := []) (rest := [.int (nI i1)]) hS0 (met_ml_size l D E (j := 2) (by decide)) q1600 q336 q2080 q103 q338 hd_J2_size ⟨Nat.le_of_ble_eq_true rfl, Nat.le_of_ble_eq_true rfl⟩ hG (hM.lsR hG (j := 2) (by decide)) hM rfl hl.1 rfl (Nat.le_of_ble_eq_true rfl) dX4_digest_170 ⟨by show _ ≤ 293; omega, by show _ ≤ 1659; omega⟩ ?_
      refine W.eq (g2 := F0 m 173 ls [.int (nI (nW σ22)), .int (nI i1)]) rfl ?_
      have hki1 : i1 < nW σ := lk_lt hn
      refine lk_ge_in (k := i1) (N := nW σ22) hx hb (hcn.w hki1) (by have := hM.nP10; have := hM.nW14; have := hM.nB6; omega) (tgt := 272) dX4_digest_173 (by decide) ?_
      refine lv_iconst (v := 0) hx hb dX4_digest_176 (by decide) ?_
      refine lv_istore_n (lv' := [(2, .int 0), (0, .ref (β 0 0)), (1, .int (nI i1))]) hx hb dX4_digest_177 rfl hl (Nat.le_of_ble_eq_true rfl) rfl (fun ls hl => ?_)
      refine hL178 i1 hki1 hb_i1 _ (fun σ26 th26 ca26 sm26 H1 locs1 Fc ls hR hcn hM hFa hFb hS hl => ?_) 13 0 σ22 th22 ca22 sm22 (Nat.zero_add _) hR _ _ _ hcn hM hFa (fun q z => by have := hFb q z; omega) hS ls (lv_sub hl [1, 2, 0] rfl)
      try dsimp only at hR
      have hG := gE.ofS hG0 hS hFE
      refine lv_iconst (v := 0) hx hb dX4_digest_201 (by decide) ?_
      refine lv_istore_n (lv' := [(2, .int 0), (0, .ref (β 0 0)), (1, .int (nI i1))]) hx hb dX4_digest_202 rfl hl (Nat.le_of_ble_eq_true rfl) rfl (fun ls hl => ?_)
      refine hL203 i1 hki1 hb_i1 _ (fun σ29 th29 ca29 sm29 H1 locs1 Fc ls hR hcn hM hFa hFb hS hl => ?_) 4 0 σ26 th26 ca26 sm26 (Nat.zero_add _) hR _ _ _ hcn hM hFa (fun q z => by have := hFb q z; omega) hS ls (lv_sub hl [1, 2, 0] rfl)
      try dsimp only at hR
      have hG := gE.ofS hG0 hS hFE
      refine lv_aload_n hx hb dX4_digest_242 rfl (lv_at hl 0 rfl) ?_
      refine lv_aload_n hx hb dX4_digest_243 rfl (lv_at hl 0 rfl) ?_
      refine lv_aload_n hx hb dX4_digest_244 rfl (lv_at hl 0 rfl) ?_
      refine gf (v := .ref (β 1 2)) (C := RX4) (T := TX4) (N := 13) (k := 5) hx hb hts hown hG cl_X4 in_X4 hM.ag (by decide) q1545 rfl dX4_digest_245 ?_
      refine lv_iload_n hx hb dX4_digest_248 rfl (lv_at hl 1 rfl) ?_
      refine pcV (As := [.int (nI i1)]) (rest := [.ref (β 0 0), .ref (β 0 0)]) hS0 (met_ml_get l D E (j := 2) (by decide) i1 (hcn.w hki1)) q1639 q349 q2082 q103 q351 hd_J2_get ⟨Nat.le_of_ble_eq_true rfl, Nat.le_of_ble_eq_true rfl⟩ hG (hM.lsR hG (j := 2) (by decide)) hM rfl hl.1 rfl (Nat.le_of_ble_eq_true rfl) dX4_digest_249 ⟨by show _ ≤ 293; omega, by show _ ≤ 1659; omega⟩ ?_
      refine W.eq (g2 := F0 m 252 ls [.ref (β 5 i1), .ref (β 0 0), .ref (β 0 0)]) rfl ?_
      refine gc (ci := 9) hx hb hown hG cl_X11 (rcv hG cl_X11 (hM.wd (hcn.w hki1))) (hts _ q1695) dX4_digest_252 ?_
      refine gfN (v := .int (wSet σ29 i1)) (C := RX11) (T := TX11) (N := 12) (k := 8) hx hb hts hown hG cl_X11 in_X11 (hM.wd (hcn.w hki1)) (by decide) q1711 rfl dX4_digest_255 ?_
      rcases hc_r2 : (fX4_bestSet σ29 (wSet σ29 i1)) with _ | r2
      · rw [hc_r2] at hR
        cases hR
      rw [hc_r2] at hR
      try dsimp only [Option.bind] at hR
      have hB := hS.1
      refine gcV (As := [.int (wSet σ29 i1)]) (rest := [.ref (β 0 0)]) hS0 (met_X4_bestSet l D E (wSet σ29 i1) hc_r2) q1898 q1900 qs82 q110 q1901 hd_X4_bestSet ⟨Nat.le_of_ble_eq_true rfl, Nat.le_of_ble_eq_true rfl⟩ hG (rcv hG cl_X4 hM.ag) hM rfl hl.1 rfl (Nat.le_of_ble_eq_true rfl) dX4_digest_258 ⟨by show _ ≤ 293; omega, by show _ ≤ 1659; omega⟩ hS (fun q h => h.elim) (fun q h => h.elim) (fun v H1 locs1 hP hz hk hS => ?_)
      obtain ⟨q258, rfl, hq9, hmx_t258, hT_t258⟩ := hP
      have hM := hM.kept (fun q h4 _ => hk q h4 id)
      have hG := gE.ofS hG0 hS hFE
      have hge_t258 : s.heap.size ≤ q258 := by have := hB; omega
      have hd_t258 : ¬ Fc q258 := fun z => by have := hFb _ z; omega
      refine W.eq (g2 := F0 m 261 ls [.ref (q258), .ref (β 0 0)]) rfl ?_
      refine gl (N := r2.1) hx hb hG hT_t258 (t := 0) rfl rfl dX4_digest_261 ?_
      refine lv_i2l (v := Int32.toInt64 (nI r2.1)) hx hb dX4_digest_262 rfl ?_
      have hB := hS.1
      have hL_t258 : q258 < _ := hT_t258.lt
      refine gcV (As := [.long (Int32.toInt64 (nI r2.1))]) (rest := []) hS0 (met_X4_add l D E (Int32.toInt64 (nI r2.1))) q2057 q2059 qs98 q110 q2060 hd_X4_add ⟨Nat.le_of_ble_eq_true rfl, Nat.le_of_ble_eq_true rfl⟩ hG (rcv hG cl_X4 hM.ag) hM rfl hl.1 rfl (Nat.le_of_ble_eq_true rfl) dX4_digest_263 ⟨by show _ ≤ 293; omega, by show _ ≤ 1659; omega⟩ hS (fun q h => hFa q h) (fun q h => hFa q h) (fun v H1 locs1 hP hz hk hS => ?_)
      obtain ⟨rfl, hZ, hc8⟩ := hP
      have hT_t258 : va_at D vwCl (q258, arI E r2.1 r2.2) H1 := hT_t258.kept (hk _ hT_t258.lt hd_t258)
      obtain ⟨Fd, hM, hFn⟩ := hZ.nar
      have hd_t258 : ¬ Fd q258 := fun z => (hFn _ z).1.elim hd_t258 (fun z9 => absurd z9 (Nat.not_le.mpr hL_t258))
      have hFa : ∀ q, Fd q → fN F s.heap.size q := fun q z => (hFn q z).1.elim (hFa q) (fun z9 => Or.inr (Nat.le_trans hB z9))
      have hFb : ∀ q, Fd q → q < H1.size := fun q z => (hFn q z).2
      clear hFn
      generalize Fd = Fc at hM hFa hFb hd_t258
      have hG := gE.ofS hG0 hS hFE
      have hcn := hc8.tr hcn
      generalize hv_σ30 : (fX4_add σ29 th29 ca29 sm29 (Int32.toInt64 (nI r2.1))).1 = σ30 at hR hM hcn ⊢
      generalize hv_th30 : (fX4_add σ29 th29 ca29 sm29 (Int32.toInt64 (nI r2.1))).2.1 = th30 at hR hM hcn ⊢
      generalize hv_ca30 : (fX4_add σ29 th29 ca29 sm29 (Int32.toInt64 (nI r2.1))).2.2.1 = ca30 at hR hM hcn ⊢
      generalize hv_sm30 : (fX4_add σ29 th29 ca29 sm29 (Int32.toInt64 (nI r2.1))).2.2.2 = sm30 at hR hM hcn ⊢
      try dsimp only at hR
      refine W.eq (g2 := F0 m 266 ls []) rfl ?_
      refine lv_iinc (v := nI (i1 + 1)) (lv' := [(1, .int (nI (i1 + 1))), (0, .ref (β 0 0))]) hx hb dX4_digest_266 hl (k := 1) rfl (nI_1 i1) (Nat.le_of_ble_eq_true rfl) rfl (fun ls hl => ?_)
      refine lv_goto (tgt := 165) hx hb dX4_digest_269 (by decide) ?_
      exact W.widen (by show _ ≤ _; omega) (by show _ ≤ _; omega) (ih (i1 + 1) σ30 th30 ca30 sm30 (lk_st hn) hR _ _ _ hcn hM hFa (fun q z => by have := hFb q z; omega) hS ls (lv_sub hl [1, 0] rfl))
  have hC272 : ∀ (σ32 : St) (th32 : Int32) (ca32 : Int32) (sm32 : Int64), fX4_digest_C272 σ th ca sm σ32 th32 ca32 sm32 = some r → ∀ (H : Heap) (locs : List Loc) (Fc : Nat → Prop), cnt σ32 σ → RM D E β Fc σ32 th32 ca32 sm32 H → (∀ q, Fc q → fN F s.heap.size q) → (∀ q, Fc q → q < H.size) → xK F F s.heap H locs → ∀ (ls : Array Slot), lv_has ls 3 [(0, .ref (β 0 0))] → W p l e { frames := 23, cells := 293, slots := 1659, locals := 512 } s m [(.ref (β 0 0) : Value)].toArray below meth c H locs (((0 + 143) + 90) + 56) (((0 + 429) + 270) + 896) (MQ below (qG F ((fun sz v h => v = some (.long r.1) ∧ RM D E β (fN F sz) r.2.1 r.2.2.1 r.2.2.2.1 r.2.2.2.2 h ∧ cnt r.2.1 σ) s.heap.size)) [(.ref (β 0 0) : Value)].toArray s 293 1659 (fN F s.heap.size)) (F0 m 272 ls []) := by
    intro σ32 th32 ca32 sm32 hR H locs Fc hcn hM hFa hFb hS ls hl
    unfold fX4_digest_C272 at hR
    have hG := gE.ofS hG0 hS hFE
    refine lv_aload_n hx hb dX4_digest_272 rfl (lv_at hl 0 rfl) ?_
    refine lv_aload_n hx hb dX4_digest_273 rfl (lv_at hl 0 rfl) ?_
    refine lv_iconst (v := 1) hx hb dX4_digest_274 (by decide) ?_
    refine lv_aload_n hx hb dX4_digest_275 rfl (lv_at hl 0 rfl) ?_
    refine gf (v := .ref (β 1 0)) (C := RX4) (T := TX4) (N := 13) (k := 3) hx hb hts hown hG cl_X4 in_X4 hM.ag (by decide) q1543 rfl dX4_digest_276 ?_
    refine pcV (As := []) (rest := [.int 1, .ref (β 0 0), .ref (β 0 0)]) hS0 (met_ml_size l D E (j := 0) (by decide)) q1600 q336 q2080 q103 q338 hd_J2_size ⟨Nat.le_of_ble_eq_true rfl, Nat.le_of_ble_eq_true rfl⟩ hG (hM.lsR hG (j := 0) (by decide)) hM rfl hl.1 rfl (Nat.le_of_ble_eq_true rfl) dX4_digest_279 ⟨by show _ ≤ 293; omega, by show _ ≤ 1659; omega⟩ ?_
    refine W.eq (g2 := F0 m 282 ls [.int (nI (nP σ32)), .int 1, .ref (β 0 0), .ref (β 0 0)]) rfl ?_
    refine lv_ishl hx hb dX4_digest_282 ?_
    refine lv_iconst (v := 1) hx hb dX4_digest_283 (by decide) ?_
    refine lv_isub hx hb dX4_digest_284 ?_
    rcases hc_r3 : (fX4_minutesOf σ32 ((1 <<< ((nI (nP σ32)) &&& 31)) - 1)) with _ | r3
    · rw [hc_r3] at hR
      cases hR
    rw [hc_r3] at hR
    try dsimp only [Option.bind] at hR
    have hB := hS.1
    refine gcV (As := [.int ((1 <<< ((nI (nP σ32)) &&& 31)) - 1)]) (rest := [.ref (β 0 0)]) hS0 (met_X4_minutesOf l D E ((1 <<< ((nI (nP σ32)) &&& 31)) - 1) hc_r3) q1977 q1979 qs93 q110 q1980 hd_X4_minutesOf ⟨Nat.le_of_ble_eq_true rfl, Nat.le_of_ble_eq_true rfl⟩ hG (rcv hG cl_X4 hM.ag) hM rfl hl.1 rfl (Nat.le_of_ble_eq_true rfl) dX4_digest_285 ⟨by show _ ≤ 293; omega, by show _ ≤ 1659; omega⟩ hS (fun q h => h.elim) (fun q h => h.elim) (fun v H1 locs1 hP hz hk hS => ?_)
    obtain rfl := hP
    have hM := hM.kept (fun q h4 _ => hk q h4 id)
    have hG := gE.ofS hG0 hS hFE
    refine W.eq (g2 := F0 m 288 ls [.int (r3), .ref (β 0 0)]) rfl ?_
    refine lv_i2l (v := Int32.toInt64 r3) hx hb dX4_digest_288 rfl ?_
    have hB := hS.1
    refine gcV (As := [.long (Int32.toInt64 r3)]) (rest := []) hS0 (met_X4_add l D E (Int32.toInt64 r3)) q2057 q2059 qs98 q110 q2060 hd_X4_add ⟨Nat.le_of_ble_eq_true rfl, Nat.le_of_ble_eq_true rfl⟩ hG (rcv hG cl_X4 hM.ag) hM rfl hl.1 rfl (Nat.le_of_ble_eq_true rfl) dX4_digest_289 ⟨by show _ ≤ 293; omega, by show _ ≤ 1659; omega⟩ hS (fun q h => hFa q h) (fun q h => hFa q h) (fun v H1 locs1 hP hz hk hS => ?_)
    obtain ⟨rfl, hZ, hc8⟩ := hP
    obtain ⟨Fd, hM, hFn⟩ := hZ.nar
    have hFa : ∀ q, Fd q → fN F s.heap.size q := fun q z => (hFn q z).1.elim (hFa q) (fun z9 => Or.inr (Nat.le_trans hB z9))
    have hFb : ∀ q, Fd q → q < H1.size := fun q z => (hFn q z).2
    clear hFn
    generalize Fd = Fc at hM hFa hFb
    have hG := gE.ofS hG0 hS hFE
    have hcn := hc8.tr hcn
    generalize hv_σ33 : (fX4_add σ32 th32 ca32 sm32 (Int32.toInt64 r3)).1 = σ33 at hR hM hcn ⊢
    generalize hv_th33 : (fX4_add σ32 th32 ca32 sm32 (Int32.toInt64 r3)).2.1 = th33 at hR hM hcn ⊢
    generalize hv_ca33 : (fX4_add σ32 th32 ca32 sm32 (Int32.toInt64 r3)).2.2.1 = ca33 at hR hM hcn ⊢
    generalize hv_sm33 : (fX4_add σ32 th32 ca32 sm32 (Int32.toInt64 r3)).2.2.2 = sm33 at hR hM hcn ⊢
    try dsimp only at hR
    refine W.eq (g2 := F0 m 292 ls []) rfl ?_
    refine lv_aload_n hx hb dX4_digest_292 rfl (lv_at hl 0 rfl) ?_
    refine lv_aload_n hx hb dX4_digest_293 rfl (lv_at hl 0 rfl) ?_
    refine lv_iconst (v := 0) hx hb dX4_digest_294 (by decide) ?_
    refine lv_eq (show (0 : Int32) = nI 0 by decide) ?_
    refine lv_iconst (v := 5) hx hb dX4_digest_295 (by decide) ?_
    refine lv_eq (show (5 : Int32) = nI 5 by decide) ?_
    refine pcV (As := [.int (nI 0), .int (nI 5)]) (rest := [.ref (β 0 0)]) hS0 (met_X4_driveOf l D E 0 5 (by decide) (by decide)) q1664 q1666 qs58 q110 q1667 hd_X4_driveOf ⟨Nat.le_of_ble_eq_true rfl, Nat.le_of_ble_eq_true rfl⟩ hG (rcv hG cl_X4 hM.ag) hM rfl hl.1 rfl (Nat.le_of_ble_eq_true rfl) dX4_digest_296 ⟨by show _ ≤ 293; omega, by show _ ≤ 1659; omega⟩ ?_
    refine W.eq (g2 := F0 m 299 ls [.int ((fX4_driveOf σ33 0 5)), .ref (β 0 0)]) rfl ?_
    refine lv_i2l (v := Int32.toInt64 ((fX4_driveOf σ33 0 5))) hx hb dX4_digest_299 rfl ?_
    have hB := hS.1
    refine gcV (As := [.long (Int32.toInt64 ((fX4_driveOf σ33 0 5)))]) (rest := []) hS0 (met_X4_add l D E (Int32.toInt64 ((fX4_driveOf σ33 0 5)))) q2057 q2059 qs98 q110 q2060 hd_X4_add ⟨Nat.le_of_ble_eq_true rfl, Nat.le_of_ble_eq_true rfl⟩ hG (rcv hG cl_X4 hM.ag) hM rfl hl.1 rfl (Nat.le_of_ble_eq_true rfl) dX4_digest_300 ⟨by show _ ≤ 293; omega, by show _ ≤ 1659; omega⟩ hS (fun q h => hFa q h) (fun q h => hFa q h) (fun v H1 locs1 hP hz hk hS => ?_)
    obtain ⟨rfl, hZ, hc8⟩ := hP
    obtain ⟨Fd, hM, hFn⟩ := hZ.nar
    have hFa : ∀ q, Fd q → fN F s.heap.size q := fun q z => (hFn q z).1.elim (hFa q) (fun z9 => Or.inr (Nat.le_trans hB z9))
    have hFb : ∀ q, Fd q → q < H1.size := fun q z => (hFn q z).2
    clear hFn
    generalize Fd = Fc at hM hFa hFb
    have hG := gE.ofS hG0 hS hFE
    have hcn := hc8.tr hcn
    generalize hv_σ34 : (fX4_add σ33 th33 ca33 sm33 (Int32.toInt64 ((fX4_driveOf σ33 0 5)))).1 = σ34 at hR hM hcn ⊢
    generalize hv_th34 : (fX4_add σ33 th33 ca33 sm33 (Int32.toInt64 ((fX4_driveOf σ33 0 5)))).2.1 = th34 at hR hM hcn ⊢
    generalize hv_ca34 : (fX4_add σ33 th33 ca33 sm33 (Int32.toInt64 ((fX4_driveOf σ33 0 5)))).2.2.1 = ca34 at hR hM hcn ⊢
    generalize hv_sm34 : (fX4_add σ33 th33 ca33 sm33 (Int32.toInt64 ((fX4_driveOf σ33 0 5)))).2.2.2 = sm34 at hR hM hcn ⊢
    try dsimp only at hR
    refine W.eq (g2 := F0 m 303 ls []) rfl ?_
    refine lv_aload_n hx hb dX4_digest_303 rfl (lv_at hl 0 rfl) ?_
    refine lv_aload_n hx hb dX4_digest_304 rfl (lv_at hl 0 rfl) ?_
    refine pcV (As := []) (rest := [.ref (β 0 0)]) hS0 (met_X4_isSoundNow l D E ) q2048 q2050 qs97 q110 q2051 hd_X4_isSoundNow ⟨Nat.le_of_ble_eq_true rfl, Nat.le_of_ble_eq_true rfl⟩ hG (rcv hG cl_X4 hM.ag) hM rfl hl.1 rfl (Nat.le_of_ble_eq_true rfl) dX4_digest_305 ⟨by show _ ≤ 293; omega, by show _ ≤ 1659; omega⟩ ?_
    refine W.eq (g2 := F0 m 308 ls [.int (bI ((fX4_isSoundNow σ34 ca34))), .ref (β 0 0)]) rfl ?_
    refine lb_if_eq (tgt := 315) hx hb dX4_digest_308 (by decide) (fun c4 => ?_) (fun c4 => ?_)
    · rw [if_neg c4] at hR
      refine lv_lconst (v := 0) hx hb dX4_digest_315 (by decide) ?_
      have hB := hS.1
      refine gcV (As := [.long ((0 : Int64))]) (rest := []) hS0 (met_X4_add l D E ((0 : Int64))) q2057 q2059 qs98 q110 q2060 hd_X4_add ⟨Nat.le_of_ble_eq_true rfl, Nat.le_of_ble_eq_true rfl⟩ hG (rcv hG cl_X4 hM.ag) hM rfl hl.1 rfl (Nat.le_of_ble_eq_true rfl) dX4_digest_316 ⟨by show _ ≤ 293; omega, by show _ ≤ 1659; omega⟩ hS (fun q h => hFa q h) (fun q h => hFa q h) (fun v H1 locs1 hP hz hk hS => ?_)
      obtain ⟨rfl, hZ, hc8⟩ := hP
      obtain ⟨Fd, hM, hFn⟩ := hZ.nar
      have hFa : ∀ q, Fd q → fN F s.heap.size q := fun q z => (hFn q z).1.elim (hFa q) (fun z9 => Or.inr (Nat.le_trans hB z9))
      have hFb : ∀ q, Fd q → q < H1.size := fun q z => (hFn q z).2
      clear hFn
      generalize Fd = Fc at hM hFa hFb
      have hG := gE.ofS hG0 hS hFE
      have hcn := hc8.tr hcn
      generalize hv_σ35 : (fX4_add σ34 th34 ca34 sm34 ((0 : Int64))).1 = σ35 at hR hM hcn ⊢
      generalize hv_th35 : (fX4_add σ34 th34 ca34 sm34 ((0 : Int64))).2.1 = th35 at hR hM hcn ⊢
      generalize hv_ca35 : (fX4_add σ34 th34 ca34 sm34 ((0 : Int64))).2.2.1 = ca35 at hR hM hcn ⊢
      generalize hv_sm35 : (fX4_add σ34 th34 ca34 sm34 ((0 : Int64))).2.2.2 = sm35 at hR hM hcn ⊢
      try dsimp only at hR
      refine W.eq (g2 := F0 m 319 ls []) rfl ?_
      refine lv_aload_n hx hb dX4_digest_319 rfl (lv_at hl 0 rfl) ?_
      refine gf (v := .long (sm35)) (C := RX4) (T := TX4) (N := 13) (k := 12) hx hb hts hown hG cl_X4 in_X4 hM.ag (by decide) q1552 rfl dX4_digest_320 ?_
      exact g_lret hx hb hr hlocks hS ⟨by show _ ≤ 293; omega, by show _ ≤ 1659; omega⟩ dX4_digest_323 (by obtain ⟨e1, e2, e3⟩ := fin_M hR (hM.mono (fun q _ z => hFa q z) (fN_E hFE hG0.2.2.1)) hcn; exact ⟨by rw [e1], e2, e3⟩)
    · rw [if_pos c4] at hR
      refine lv_lconst (v := 1) hx hb dX4_digest_311 (by decide) ?_
      refine lv_goto (tgt := 316) hx hb dX4_digest_312 (by decide) ?_
      have hB := hS.1
      refine gcV (As := [.long ((1 : Int64))]) (rest := []) hS0 (met_X4_add l D E ((1 : Int64))) q2057 q2059 qs98 q110 q2060 hd_X4_add ⟨Nat.le_of_ble_eq_true rfl, Nat.le_of_ble_eq_true rfl⟩ hG (rcv hG cl_X4 hM.ag) hM rfl hl.1 rfl (Nat.le_of_ble_eq_true rfl) dX4_digest_316 ⟨by show _ ≤ 293; omega, by show _ ≤ 1659; omega⟩ hS (fun q h => hFa q h) (fun q h => hFa q h) (fun v H1 locs1 hP hz hk hS => ?_)
      obtain ⟨rfl, hZ, hc8⟩ := hP
      obtain ⟨Fd, hM, hFn⟩ := hZ.nar
      have hFa : ∀ q, Fd q → fN F s.heap.size q := fun q z => (hFn q z).1.elim (hFa q) (fun z9 => Or.inr (Nat.le_trans hB z9))
      have hFb : ∀ q, Fd q → q < H1.size := fun q z => (hFn q z).2
      clear hFn
      generalize Fd = Fc at hM hFa hFb
      have hG := gE.ofS hG0 hS hFE
      have hcn := hc8.tr hcn
      generalize hv_σ36 : (fX4_add σ34 th34 ca34 sm34 ((1 : Int64))).1 = σ36 at hR hM hcn ⊢
      generalize hv_th36 : (fX4_add σ34 th34 ca34 sm34 ((1 : Int64))).2.1 = th36 at hR hM hcn ⊢
      generalize hv_ca36 : (fX4_add σ34 th34 ca34 sm34 ((1 : Int64))).2.2.1 = ca36 at hR hM hcn ⊢
      generalize hv_sm36 : (fX4_add σ34 th34 ca34 sm34 ((1 : Int64))).2.2.2 = sm36 at hR hM hcn ⊢
      try dsimp only at hR
      refine W.eq (g2 := F0 m 319 ls []) rfl ?_
      refine lv_aload_n hx hb dX4_digest_319 rfl (lv_at hl 0 rfl) ?_
      refine gf (v := .long (sm36)) (C := RX4) (T := TX4) (N := 13) (k := 12) hx hb hts hown hG cl_X4 in_X4 hM.ag (by decide) q1552 rfl dX4_digest_320 ?_
      exact g_lret hx hb hr hlocks hS ⟨by show _ ≤ 293; omega, by show _ ≤ 1659; omega⟩ dX4_digest_323 (by obtain ⟨e1, e2, e3⟩ := fin_M hR (hM.mono (fun q _ z => hFa q z) (fN_E hFE hG0.2.2.1)) hcn; exact ⟨by rw [e1], e2, e3⟩)
  have hC163 : ∀ (σ21 : St) (th21 : Int32) (ca21 : Int32) (sm21 : Int64), fX4_digest_C163 σ th ca sm σ21 th21 ca21 sm21 = some r → ∀ (H : Heap) (locs : List Loc) (Fc : Nat → Prop), cnt σ21 σ → RM D E β Fc σ21 th21 ca21 sm21 H → (∀ q, Fc q → fN F s.heap.size q) → (∀ q, Fc q → q < H.size) → xK F F s.heap H locs → ∀ (ls : Array Slot), lv_has ls 3 [(0, .ref (β 0 0))] → W p l e { frames := 23, cells := 293, slots := 1659, locals := 512 } s m [(.ref (β 0 0) : Value)].toArray below meth c H locs ((0 + 143) + 90) ((0 + 429) + 270) (MQ below (qG F ((fun sz v h => v = some (.long r.1) ∧ RM D E β (fN F sz) r.2.1 r.2.2.1 r.2.2.2.1 r.2.2.2.2 h ∧ cnt r.2.1 σ) s.heap.size)) [(.ref (β 0 0) : Value)].toArray s 293 1659 (fN F s.heap.size)) (F0 m 163 ls []) := by
    intro σ21 th21 ca21 sm21 hR H locs Fc hcn hM hFa hFb hS ls hl
    unfold fX4_digest_C163 at hR
    have hG := gE.ofS hG0 hS hFE
    refine lv_iconst (v := 0) hx hb dX4_digest_163 (by decide) ?_
    refine lv_istore_n (lv' := [(1, .int 0), (0, .ref (β 0 0))]) hx hb dX4_digest_164 rfl hl (Nat.le_of_ble_eq_true rfl) rfl (fun ls hl => ?_)
    refine W.widen (k := ((0 + 143) + 90) + 0 * 4) (n := ((0 + 429) + 270) + 0 * 64) (by show _ ≤ _; omega) (by show _ ≤ _; omega) ?_
    refine hL165  _ (fun σ31 th31 ca31 sm31 H1 locs1 Fc ls hR hcn hM hFa hFb hS hl => ?_) (nW σ) 0 σ21 th21 ca21 sm21 (Nat.zero_add _) hR _ _ _ hcn hM hFa (fun q z => by have := hFb q z; omega) hS ls (lv_sub hl [1, 0] rfl)
    try dsimp only at hR
    have hG := gE.ofS hG0 hS hFE
    exact hC272 σ31 th31 ca31 sm31 hR _ _ _ hcn hM hFa (fun q z => by have := hFb q z; omega) hS ls (lv_sub hl [0] rfl)
  have hC119 : ∀ (σ15 : St) (th15 : Int32) (ca15 : Int32) (sm15 : Int64), fX4_digest_C119 σ th ca sm σ15 th15 ca15 sm15 = some r → ∀ (H : Heap) (locs : List Loc) (Fc : Nat → Prop), cnt σ15 σ → RM D E β Fc σ15 th15 ca15 sm15 H → (∀ q, Fc q → fN F s.heap.size q) → (∀ q, Fc q → q < H.size) → xK F F s.heap H locs → ∀ (ls : Array Slot), lv_has ls 3 [(0, .ref (β 0 0))] → W p l e { frames := 23, cells := 293, slots := 1659, locals := 512 } s m [(.ref (β 0 0) : Value)].toArray below meth c H locs ((0 + 143) + 90) ((0 + 429) + 270) (MQ below (qG F ((fun sz v h => v = some (.long r.1) ∧ RM D E β (fN F sz) r.2.1 r.2.2.1 r.2.2.2.1 r.2.2.2.2 h ∧ cnt r.2.1 σ) s.heap.size)) [(.ref (β 0 0) : Value)].toArray s 293 1659 (fN F s.heap.size)) (F0 m 119 ls []) := by
    intro σ15 th15 ca15 sm15 hR H locs Fc hcn hM hFa hFb hS ls hl
    unfold fX4_digest_C119 at hR
    have hG := gE.ofS hG0 hS hFE
    refine lv_iconst (v := 0) hx hb dX4_digest_119 (by decide) ?_
    refine lv_istore_n (lv' := [(1, .int 0), (0, .ref (β 0 0))]) hx hb dX4_digest_120 rfl hl (Nat.le_of_ble_eq_true rfl) rfl (fun ls hl => ?_)
    refine hL121  _ (fun σ20 th20 ca20 sm20 H1 locs1 Fc ls hR hcn hM hFa hFb hS hl => ?_) (nB σ) 0 σ15 th15 ca15 sm15 (Nat.zero_add _) hR _ _ _ hcn hM hFa (fun q z => by have := hFb q z; omega) hS ls (lv_sub hl [1, 0] rfl)
    try dsimp only at hR
    have hG := gE.ofS hG0 hS hFE
    exact hC163 σ20 th20 ca20 sm20 hR _ _ _ hcn hM hFa (fun q z => by have := hFb q z; omega) hS ls (lv_sub hl [0] rfl)
  have hC80 : ∀ (σ9 : St) (th9 : Int32) (ca9 : Int32) (sm9 : Int64), fX4_digest_C80 σ th ca sm σ9 th9 ca9 sm9 = some r → ∀ (H : Heap) (locs : List Loc) (Fc : Nat → Prop), cnt σ9 σ → RM D E β Fc σ9 th9 ca9 sm9 H → (∀ q, Fc q → fN F s.heap.size q) → (∀ q, Fc q → q < H.size) → xK F F s.heap H locs → ∀ (ls : Array Slot), lv_has ls 3 [(0, .ref (β 0 0))] → W p l e { frames := 23, cells := 293, slots := 1659, locals := 512 } s m [(.ref (β 0 0) : Value)].toArray below meth c H locs ((0 + 143) + 90) ((0 + 429) + 270) (MQ below (qG F ((fun sz v h => v = some (.long r.1) ∧ RM D E β (fN F sz) r.2.1 r.2.2.1 r.2.2.2.1 r.2.2.2.2 h ∧ cnt r.2.1 σ) s.heap.size)) [(.ref (β 0 0) : Value)].toArray s 293 1659 (fN F s.heap.size)) (F0 m 80 ls []) := by
    intro σ9 th9 ca9 sm9 hR H locs Fc hcn hM hFa hFb hS ls hl
    unfold fX4_digest_C80 at hR
    have hG := gE.ofS hG0 hS hFE
    refine lv_iconst (v := 0) hx hb dX4_digest_80 (by decide) ?_
    refine lv_istore_n (lv' := [(1, .int 0), (0, .ref (β 0 0))]) hx hb dX4_digest_81 rfl hl (Nat.le_of_ble_eq_true rfl) rfl (fun ls hl => ?_)
    refine hL82  _ (fun σ14 th14 ca14 sm14 H1 locs1 Fc ls hR hcn hM hFa hFb hS hl => ?_) 16 0 σ9 th9 ca9 sm9 (Nat.zero_add _) hR _ _ _ hcn hM hFa (fun q z => by have := hFb q z; omega) hS ls (lv_sub hl [1, 0] rfl)
    try dsimp only at hR
    have hG := gE.ofS hG0 hS hFE
    exact hC119 σ14 th14 ca14 sm14 hR _ _ _ hcn hM hFa (fun q z => by have := hFb q z; omega) hS ls (lv_sub hl [0] rfl)
  unfold fX4_digest at hR
  refine lv_aload_n hx hb dX4_digest_0 rfl (lv_at hl 0 rfl) ?_
  refine lv_iconst (v := 0) hx hb dX4_digest_1 (by decide) ?_
  refine pf (ty0 := tyX4) (ty := tyX4 0) (v := .int 0) (C := RX4) (T := TX4) (N := 13) (k := 0) hx hb hts hown hG hS cl_X4 in_X4 tyX4_ok nmX4 hM.ag (hFa _ hM.agF) (hFa _ hM.agF) (by decide) q1540 rfl (tyX4_ok 0 (by decide)) rfl rfl (Nat.le_of_ble_eq_true rfl) dX4_digest_2 (fun H1 locs1 he hz hq hS => ?_)
  have hM := hM.Pth  he hq
  have hG := gE.ofS hG0 hS hFE
  refine lv_aload_n hx hb dX4_digest_5 rfl (lv_at hl 0 rfl) ?_
  refine lv_ldc2 (v := 58278) hx hb hown (hts _ q2056) dX4_digest_6 ?_
  refine pf (ty0 := tyX4) (ty := tyX4 12) (v := .long ((58278 : Int64))) (C := RX4) (T := TX4) (N := 13) (k := 12) hx hb hts hown hG hS cl_X4 in_X4 tyX4_ok nmX4 hM.ag (hFa _ hM.agF) (hFa _ hM.agF) (by decide) q1552 rfl (tyX4_ok 12 (by decide)) rfl rfl (Nat.le_of_ble_eq_true rfl) dX4_digest_9 (fun H1 locs1 he hz hq hS => ?_)
  have hM := hM.Psm  he hq
  have hG := gE.ofS hG0 hS hFE
  refine lv_iconst (v := 0) hx hb dX4_digest_12 (by decide) ?_
  refine lv_istore_n (lv' := [(1, .int 0), (0, .ref (β 0 0))]) hx hb dX4_digest_13 rfl hl (Nat.le_of_ble_eq_true rfl) rfl (fun ls hl => ?_)
  refine W.widen (k := 0 + 0 * 11) (n := 0 + 0 * 33) (by show _ ≤ _; omega) (by show _ ≤ _; omega) ?_
  refine hL14  _ (fun σ3 th3 ca3 sm3 H1 locs1 Fc ls hR hcn hM hFa hFb hS hl => ?_) 13 0 σ 0 ca (((58278 : Int64))) (Nat.zero_add _) hR _ _ _ hcn hM hFa (fun q z => by have := hFb q z; omega) hS ls (lv_sub hl [1, 0] rfl)
  try dsimp only at hR
  have hG := gE.ofS hG0 hS hFE
  refine lv_iconst (v := 0) hx hb dX4_digest_36 (by decide) ?_
  refine lv_istore_n (lv' := [(1, .int 0), (0, .ref (β 0 0))]) hx hb dX4_digest_37 rfl hl (Nat.le_of_ble_eq_true rfl) rfl (fun ls hl => ?_)
  refine W.widen (k := (0 + 143) + 0 * 9) (n := (0 + 429) + 0 * 27) (by show _ ≤ _; omega) (by show _ ≤ _; omega) ?_
  refine hL38  _ (fun σ8 th8 ca8 sm8 H1 locs1 Fc ls hR hcn hM hFa hFb hS hl => ?_) (nP σ) 0 σ3 th3 ca3 sm3 (Nat.zero_add _) hR _ _ _ hcn hM hFa (fun q z => by have := hFb q z; omega) hS ls (lv_sub hl [1, 0] rfl)
  try dsimp only at hR
  have hG := gE.ofS hG0 hS hFE
  exact hC80 σ8 th8 ca8 sm8 hR _ _ _ hcn hM hFa (fun q z => by have := hFb q z; omega) hS ls (lv_sub hl [0] rfl)

