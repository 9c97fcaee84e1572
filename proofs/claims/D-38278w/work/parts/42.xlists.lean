/-! the agency: sorted, firsts, copies -/
set_option maxRecDepth 100000
def fX1_firsts_L10 (σ : St) (a : Int32)  (κ : List Nat → Option (List Nat)) : Nat → Nat → List Nat → Option (List Nat)
  | 0, i3, t_ls_10 => κ t_ls_10
  | n + 1, i3, t_ls_10 => (if 3 ≤ (nI t_ls_10.length) then κ t_ls_10 else (if (nI (wDay σ i3)) = a then (if ((fX1_place σ i3)) = 0 then (if (t_ls_10).length < 16 then fX1_firsts_L10 σ a κ n (i3 + 1) (t_ls_10 ++ [i3]) else none) else fX1_firsts_L10 σ a κ n (i3 + 1) t_ls_10) else fX1_firsts_L10 σ a κ n (i3 + 1) t_ls_10))
def fX1_firsts (σ : St) (a : Int32) : Option (List Nat) :=
  fX1_firsts_L10 σ a (fun (t_ls_4 : List Nat) => (some t_ls_4)) (nW σ) 0 (([] : List Nat))
set_option maxHeartbeats 4000000 in
set_option maxRecDepth 100000 in
theorem met_X1_firsts (l : Launch) (D : va_G) (E : Nat → Nat) {α : Nat → Nat → Nat} {F : Nat → Prop} {σ : St} (a : Int32)  {r : List Nat} (hR : fX1_firsts σ a = some r) : GM l D E yX1_firsts cX1_firsts 4 (Option.some (Jvm.ClassFile.FieldType.object "java/util/List")) 7 171 16 1503 [.ref (α 0 0), .int (a)] (RX D E α F σ) (fun _ => False) (fun _ => False) (fun sz v h => ∃ q, v = some (.ref q) ∧ LVI D E sz h.size q r h)  := by
  refine GM.start (by decide) (Nat.le_of_ble_eq_true rfl) ?_
  intro p e s m below meth c ls hx hb hr hml hown hlocks hnm hts hG hX hS hl
  have hown : s.vm.findClass RX1 = some m.cls := hown
  have hS0 : xS p m c cX1_firsts 4 s _ RX1 := ⟨hx, hb, hml, hown, hts⟩
  have hl : lv_has ls 4 [(0, .ref (α 0 0)), (1, .int (a))] := hl
  have hG0 := hG
  have hX0 := hX
  have hb0P := hX0.nP10
  have hb0B := hX0.nB6
  have hb0W := hX0.nW14
  have hFE := hX.fE
  obtain ⟨Fc, hX, hFn⟩ := hX.nar
  have hFa : ∀ q, Fc q → fN F s.heap.size q := fun q z => Or.inl (hFn q z).1
  have hFb : ∀ q, Fc q → q < s.heap.size := fun q z => (hFn q z).2
  have hcn : cnt σ σ := cnt.rf
  have hL10 : ∀ (q0 : Nat) (hge_ls : s.heap.size ≤ s.heap.size) (κ : List Nat → Option (List Nat)) (hκ : ∀ (t_ls_10 : List Nat) (H : Heap) (locs : List Loc) (Fc : Nat → Prop) (ls : Array Slot), κ t_ls_10 = some r → RX D E α Fc σ H → (∀ q, Fc q → fN F s.heap.size q) → (∀ q, Fc q → q < H.size) → (∀ q, Fc q → q < s.heap.size) → LVI D E s.heap.size H.size q0 t_ls_10 H → xK (fun _ => False) (fun _ => False) s.heap H locs → lv_has ls 4 [(2, .ref (q0))] → W p l e { frames := 7, cells := 16, slots := 1503, locals := 171 } s m [(.ref (α 0 0) : Value), .int (a)].toArray below meth c H locs (1 + 14) (3 + 1400) (MQ below (qG (fun _ => False) ((fun sz v h => ∃ q, v = some (.ref q) ∧ LVI D E sz h.size q r h) s.heap.size)) [(.ref (α 0 0) : Value), .int (a)].toArray s 16 1503 (fN (fun _ => False) s.heap.size)) (F0 m 78 ls [])) (n : Nat) (i3 : Nat) (t_ls_10 : List Nat), i3 + n = nW σ → fX1_firsts_L10 σ a κ n i3 t_ls_10 = some r → ∀ (H : Heap) (locs : List Loc) (Fc : Nat → Prop), RX D E α Fc σ H → (∀ q, Fc q → fN F s.heap.size q) → (∀ q, Fc q → q < H.size) → (∀ q, Fc q → q < s.heap.size) → LVI D E s.heap.size H.size q0 t_ls_10 H → xK (fun _ => False) (fun _ => False) s.heap H locs → ∀ (ls : Array Slot), lv_has ls 4 [(0, .ref (α 0 0)), (1, .int (a)), (2, .ref (q0)), (3, .int (nI i3))] → W p l e { frames := 7, cells := 16, slots := 1503, locals := 171 } s m [(.ref (α 0 0) : Value), .int (a)].toArray below meth c H locs (1 + i3 * 1) (3 + i3 * 100) (MQ below (qG (fun _ => False) ((fun sz v h => ∃ q, v = some (.ref q) ∧ LVI D E sz h.size q r h) s.heap.size)) [(.ref (α 0 0) : Value), .int (a)].toArray s 16 1503 (fN (fun _ => False) s.heap.size)) (F0 m 10 ls []) := by
    intro q0 hge_ls κ hκ n
    induction n with
    | zero =>
      intro i3 t_ls_10 hn hR H locs Fc hX hFa hFb hd_ls hT_ls hS ls hl
      rw [fX1_firsts_L10] at hR
      have hG := gE.ofS hG0 hS (fun _ h => h.elim)
      have hb_i3 : i3 ≤ 14 := by have := hX0.nP10; have := hX0.nB6; have := hX0.nW14; omega
      obtain ⟨hi_ls, hhi_ls⟩ : ∃ x, x = H.size := ⟨_, rfl⟩
      rw [← hhi_ls] at hT_ls
      refine lv_iload_n hx hb dX1_firsts_10 rfl (lv_at hl 3 rfl) ?_
      refine lv_aload_n hx hb dX1_firsts_11 rfl (lv_at hl 0 rfl) ?_
      refine gf (v := .ref (α 1 3)) (C := RX1) (T := TX1) (N := 6) (k := 4) hx hb hts hown hG cl_X1 in_X1 hX.ag (by decide) q307 rfl dX1_firsts_12 ?_
      refine pcF (x := xL_size) (ci := 13) (As := []) (rest := [.int (nI i3)]) hG.fw_size hS0 (met_xl_size l D E (j := 3) (by decide)) q331 q334 q336 q103 q338 hd_xL_size ⟨Nat.le_of_ble_eq_true rfl, Nat.le_of_ble_eq_true rfl⟩ hG cl_J2 (hX.lsR hG (j := 3) (by decide)) hX rfl hl.1 rfl (Nat.le_of_ble_eq_true rfl) dX1_firsts_15 ⟨by show _ ≤ 16; omega, by show _ ≤ 1503; omega⟩ ?_
      refine W.eq (g2 := F0 m 20 ls [.int (nI (nW σ)), .int (nI i3)]) rfl ?_
      refine lk_ge_out (k := i3) (N := nW σ) hx hb hn (tgt := 78) dX1_firsts_20 (by decide) ?_
      exact W.widen (by show _ ≤ _; omega) (by show _ ≤ _; omega) (hκ t_ls_10 _ _ _ ls hR hX hFa (fun q z => by have := hFb q z; omega) hd_ls hT_ls.full hS (lv_sub hl [2] rfl))
    | succ n ih =>
      intro i3 t_ls_10 hn hR H locs Fc hX hFa hFb hd_ls hT_ls hS ls hl
      rw [fX1_firsts_L10] at hR
      have hG := gE.ofS hG0 hS (fun _ h => h.elim)
      have hb_i3 : i3 ≤ 14 := by have := hX0.nP10; have := hX0.nB6; have := hX0.nW14; omega
      obtain ⟨hi_ls, hhi_ls⟩ : ∃ x, x = H.size := ⟨_, rfl⟩
      rw [← hhi_ls] at hT_ls
      refine lv_iload_n hx hb dX1_firsts_10 rfl (lv_at hl 3 rfl) ?_
      refine lv_aload_n hx hb dX1_firsts_11 rfl (lv_at hl 0 rfl) ?_
      refine gf (v := .ref (α 1 3)) (C := RX1) (T := TX1) (N := 6) (k := 4) hx hb hts hown hG cl_X1 in_X1 hX.ag (by decide) q307 rfl dX1_firsts_12 ?_
      refine pcF (x := xL_size) (ci := 13) (As := []) (rest := [.int (nI i3)]) hG.fw_size hS0 (met_xl_size l D E (j := 3) (by decide)) q331 q334 q336 q103 q338 hd_xL_size ⟨Nat.le_of_ble_eq_true rfl, Nat.le_of_ble_eq_true rfl⟩ hG cl_J2 (hX.lsR hG (j := 3) (by decide)) hX rfl hl.1 rfl (Nat.le_of_ble_eq_true rfl) dX1_firsts_15 ⟨by show _ ≤ 16; omega, by show _ ≤ 1503; omega⟩ ?_
      refine W.eq (g2 := F0 m 20 ls [.int (nI (nW σ)), .int (nI i3)]) rfl ?_
      have hki3 : i3 < nW σ := lk_lt hn
      refine lk_ge_in (k := i3) (N := nW σ) hx hb hki3 (by have := hX.nP10; have := hX.nW14; have := hX.nB6; omega) (tgt := 78) dX1_firsts_20 (by decide) ?_
      refine lv_aload_n hx hb dX1_firsts_23 rfl (lv_at hl 2 rfl) ?_
      refine pcF (x := xL_size) (ci := 13) (As := []) (rest := []) hG.fw_size hS0 (met_lvi_size l D E) q331 q334 q336 q103 q338 hd_xL_size ⟨Nat.le_of_ble_eq_true rfl, Nat.le_of_ble_eq_true rfl⟩ hG cl_J2 (LV.recv hG hT_ls.1) hT_ls rfl hl.1 rfl (Nat.le_of_ble_eq_true rfl) dX1_firsts_24 ⟨by show _ ≤ 16; omega, by show _ ≤ 1503; omega⟩ ?_
      refine W.eq (g2 := F0 m 29 ls [.int (nI t_ls_10.length)]) rfl ?_
      refine lv_iconst (v := 3) hx hb dX1_firsts_29 (by decide) ?_
      refine lv_icmp_ge (tgt := 78) hx hb dX1_firsts_30 (by decide) (fun c1 => ?_) (fun c1 => ?_)
      · rw [if_pos c1] at hR
        exact W.widen (by show _ ≤ _; omega) (by show _ ≤ _; omega) (hκ t_ls_10 _ _ _ ls hR hX hFa (fun q z => by have := hFb q z; omega) hd_ls hT_ls.full hS (lv_sub hl [2] rfl))
      · rw [if_neg c1] at hR
        refine lv_aload_n hx hb dX1_firsts_33 rfl (lv_at hl 0 rfl) ?_
        refine gf (v := .ref (α 1 3)) (C := RX1) (T := TX1) (N := 6) (k := 4) hx hb hts hown hG cl_X1 in_X1 hX.ag (by decide) q307 rfl dX1_firsts_34 ?_
        refine lv_iload_n hx hb dX1_firsts_37 rfl (lv_at hl 3 rfl) ?_
        refine pcF (x := xL_get) (ci := 13) (As := [.int (nI i3)]) (rest := []) hG.fw_get hS0 (met_xl_get l D E (j := 3) (by decide) i3 hki3) q344 q347 q349 q103 q351 hd_xL_get ⟨Nat.le_of_ble_eq_true rfl, Nat.le_of_ble_eq_true rfl⟩ hG cl_J2 (hX.lsR hG (j := 3) (by decide)) hX rfl hl.1 rfl (Nat.le_of_ble_eq_true rfl) dX1_firsts_38 ⟨by show _ ≤ 16; omega, by show _ ≤ 1503; omega⟩ ?_
        refine W.eq (g2 := F0 m 43 ls [.ref (α 5 i3)]) rfl ?_
        refine gc (ci := 8) hx hb hown hG cl_X10 (rcv hG cl_X10 (hX.wd hki3)) (hts _ q369) dX1_firsts_43 ?_
        refine gfN (v := .int (nI (wDay σ i3))) (C := RX10) (T := TX10) (N := 12) (k := 1) hx hb hts hown hG cl_X10 in_X10 (hX.wd hki3) (by decide) q1012 rfl dX1_firsts_46 ?_
        refine lv_iload_n hx hb dX1_firsts_49 rfl (lv_at hl 1 rfl) ?_
        refine lv_icmp_ne (tgt := 72) hx hb dX1_firsts_50 (by decide) (fun c2 => ?_) (fun c2 => ?_)
        · rw [if_neg c2] at hR
          refine lv_iinc (v := nI (i3 + 1)) (lv' := [(3, .int (nI (i3 + 1))), (0, .ref (α 0 0)), (1, .int (a)), (2, .ref (q0))]) hx hb dX1_firsts_72 hl (k := 3) rfl (nI_1 i3) (Nat.le_of_ble_eq_true rfl) rfl (fun ls hl => ?_)
          refine lv_goto (tgt := 10) hx hb dX1_firsts_75 (by decide) ?_
          exact W.widen (by show _ ≤ _; omega) (by show _ ≤ _; omega) (ih (i3 + 1) t_ls_10 (lk_st hn) hR _ _ _ hX hFa (fun q z => by have := hFb q z; omega) hd_ls hT_ls.full hS ls (lv_sub hl [1, 2, 3, 0] rfl))
        · rw [if_pos c2] at hR
          refine lv_aload_n hx hb dX1_firsts_53 rfl (lv_at hl 0 rfl) ?_
          refine lv_iload_n hx hb dX1_firsts_54 rfl (lv_at hl 3 rfl) ?_
          refine pcV (As := [.int (nI i3)]) (rest := []) hS0 (met_X1_place l D E i3 hki3) q480 q482 qs21 q100 q483 hd_X1_place ⟨Nat.le_of_ble_eq_true rfl, Nat.le_of_ble_eq_true rfl⟩ hG (rcv hG cl_X1 hX.ag) hX rfl hl.1 rfl (Nat.le_of_ble_eq_true rfl) dX1_firsts_55 ⟨by show _ ≤ 16; omega, by show _ ≤ 1503; omega⟩ ?_
          refine W.eq (g2 := F0 m 58 ls [.int ((fX1_place σ i3))]) rfl ?_
          refine lv_if_ne (tgt := 72) hx hb dX1_firsts_58 (by decide) (fun c3 => ?_) (fun c3 => ?_)
          · rw [if_neg c3] at hR
            refine lv_iinc (v := nI (i3 + 1)) (lv' := [(3, .int (nI (i3 + 1))), (0, .ref (α 0 0)), (1, .int (a)), (2, .ref (q0))]) hx hb dX1_firsts_72 hl (k := 3) rfl (nI_1 i3) (Nat.le_of_ble_eq_true rfl) rfl (fun ls hl => ?_)
            refine lv_goto (tgt := 10) hx hb dX1_firsts_75 (by decide) ?_
            exact W.widen (by show _ ≤ _; omega) (by show _ ≤ _; omega) (ih (i3 + 1) t_ls_10 (lk_st hn) hR _ _ _ hX hFa (fun q z => by have := hFb q z; omega) hd_ls hT_ls.full hS ls (lv_sub hl [1, 2, 3, 0] rfl))
          · rw [if_pos c3] at hR
            refine lv_aload_n hx hb dX1_firsts_61 rfl (lv_at hl 2 rfl) ?_
            rcases (Decidable.em ((t_ls_10).length < 16)).symm with hl16 | hl16
            · rw [if_neg hl16] at hR
              cases hR
            rw [if_pos hl16] at hR
            refine lv_iload_n hx hb dX1_firsts_62 rfl (lv_at hl 3 rfl) ?_
            refine pcS (As := [.int (nI i3)]) (rest := [.ref (q0)]) hS0 (met_J17_valueOf l D E i3 (by omega)) q630 q631 q125 q632 hd_J17_valueOf ⟨Nat.le_of_ble_eq_true rfl, Nat.le_of_ble_eq_true rfl⟩ hG trivial rfl hl.1 rfl (Nat.le_of_ble_eq_true rfl) dX1_firsts_63 ⟨by show _ ≤ 16; omega, by show _ ≤ 1503; omega⟩ ?_
            refine W.eq (g2 := F0 m 66 ls [.ref (E (300 + (i3 + 128))), .ref (q0)]) rfl ?_
            have hB := hS.1
            have hL_ls : hi_ls ≤ _ := hT_ls.lt
            refine gcF (x := xL_add) (ci := 13) (As := [.ref (E (300 + (i3 + 128)))]) (rest := []) hG.fw_add hS0 (met_lvi_add l D E s.heap.size hi_ls q0 t_ls_10 i3 (by omega) hl16) q224 q228 q230 q103 q232 hd_xL_add ⟨Nat.le_of_ble_eq_true rfl, Nat.le_of_ble_eq_true rfl⟩ hG cl_J2 (LV.recv hG hT_ls.1) ⟨hT_ls, hG0.2.2.1⟩ rfl hl.1 rfl (Nat.le_of_ble_eq_true rfl) dX1_firsts_66 ⟨by show _ ≤ 16; omega, by show _ ≤ 1503; omega⟩ hS (fun q h => Or.inr h.1) (fun q h => Or.inr h.1) (fun v H1 locs1 hP hz hk hS => ?_)
            obtain ⟨rfl, hT9⟩ := hP
            have hX := hX.kept (fun q h4 h5 => hk q h4 (fun e9 => by have e8 := hd_ls q h5; have e9 : s.heap.size ≤ q ∧ q < hi_ls := e9; omega))
            obtain ⟨hi_ls, hT_ls⟩ : ∃ hi, LVI D E s.heap.size hi q0 (t_ls_10 ++ [i3]) H1 := ⟨_, hT9⟩
            have hle9 : (t_ls_10 ++ [i3]).length = (t_ls_10).length + 1 := by simp
            have hG := gE.ofS hG0 hS (fun _ h => h.elim)
            refine W.eq (g2 := F0 m 71 ls [.int 1]) rfl ?_
            refine lv_pop hx hb dX1_firsts_71 rfl ?_
            refine lv_iinc (v := nI (i3 + 1)) (lv' := [(3, .int (nI (i3 + 1))), (0, .ref (α 0 0)), (1, .int (a)), (2, .ref (q0))]) hx hb dX1_firsts_72 hl (k := 3) rfl (nI_1 i3) (Nat.le_of_ble_eq_true rfl) rfl (fun ls hl => ?_)
            refine lv_goto (tgt := 10) hx hb dX1_firsts_75 (by decide) ?_
            exact W.widen (by show _ ≤ _; omega) (by show _ ≤ _; omega) (ih (i3 + 1) (t_ls_10 ++ [i3]) (lk_st hn) hR _ _ _ hX hFa (fun q z => by have := hFb q z; omega) hd_ls hT_ls.full hS ls (lv_sub hl [1, 2, 3, 0] rfl))
  unfold fX1_firsts at hR
  have hB := hS.1
  refine nw (ci := 13) (C := RJ2) (T := TJ2) (N := 3) (fs := [.int 0, .null, .int 0]) (ty := tyJ2) hx hb hts hown hG hS cl_J2 in_J2 tyJ2_ok q149 q150 q103 (df_J2) ⟨Nat.le_of_ble_eq_true rfl, Nat.le_of_ble_eq_true rfl⟩ dX1_firsts_0 (fun q0 H1 hq9 hT_t0 hz ho hS => ?_)
  have hX := hX.kept (fun q h4 _ => ho q h4)
  have hG := gE.ofS hG0 hS (fun _ h => h.elim)
  have hge_t0 : s.heap.size ≤ q0 := by have := hB; omega
  have hd_t0 : ¬ Fc q0 := fun z => by have := hFb _ z; omega
  refine lv_dup hx hb dX1_firsts_3 rfl ?_
  have hB := hS.1
  have hL_t0 : q0 < _ := hT_t0.lt
  refine gcI (As := []) (rest := [.ref (q0)]) hS0 (met_J2_init l D E q0) q151 q152 q103 q153 rfl hd_J2_init ⟨Nat.le_of_ble_eq_true rfl, Nat.le_of_ble_eq_true rfl⟩ hG ⟨hT_t0, (Nat.le_trans hG0.2.2.1 hge_t0)⟩ rfl hl.1 rfl (Nat.le_of_ble_eq_true rfl) dX1_firsts_4 ⟨Nat.le_of_ble_eq_true rfl, Nat.le_of_ble_eq_true rfl⟩ hS (fun q h => by have h : q = q0 := h; rw [h]; exact (Or.inr hge_t0)) (fun q h => by have h : q = q0 := h; rw [h]; exact (Or.inr hge_t0)) (fun v H1 locs1 hP hz hk hS => ?_)
  obtain ⟨rfl, hT9⟩ := hP
  have hX := hX.kept (fun q h4 h5 => hk q h4 (fun e9 => hd_t0 (e9 ▸ h5)))
  have hT_t0 : va_at D vwCl (q0, .inr (13, [.int 0, .ref (E 6), .int 0])) H1 := hT9
  have hG := gE.ofS hG0 hS (fun _ h => h.elim)
  refine W.eq (g2 := F0 m 7 ls [.ref (q0)]) rfl ?_
  obtain ⟨hi_ls, hT_ls⟩ : ∃ hi, LVI D E s.heap.size hi q0 ([] : List Nat) H1 := ⟨_, LVI.mk hT_t0 hge_t0 hT_t0.lt (Nat.le_refl _)⟩
  have hge_ls : s.heap.size ≤ s.heap.size := Nat.le_refl _
  have hd_ls : ∀ q, Fc q → q < s.heap.size := fun q z => hFb q z
  refine lv_astore_n (lv' := [(2, .ref (q0)), (0, .ref (α 0 0)), (1, .int (a))]) hx hb dX1_firsts_7 rfl hl (Nat.le_of_ble_eq_true rfl) rfl (fun ls hl => ?_)
  refine lv_iconst (v := 0) hx hb dX1_firsts_8 (by decide) ?_
  refine lv_istore_n (lv' := [(3, .int 0), (2, .ref (q0)), (0, .ref (α 0 0)), (1, .int (a))]) hx hb dX1_firsts_9 rfl hl (Nat.le_of_ble_eq_true rfl) rfl (fun ls hl => ?_)
  refine W.widen (k := 1 + 0 * 1) (n := 3 + 0 * 100) (by show _ ≤ _; omega) (by show _ ≤ _; omega) ?_
  refine hL10 q0 hge_ls _ (fun t_ls_4 H1 locs1 Fc ls hR hX hFa hFb hd_ls hT_ls hS hl => ?_) (nW σ) 0 (([] : List Nat)) (Nat.zero_add _) hR _ _ _ hX hFa (fun q z => by have := hFb q z; omega) hd_ls hT_ls.full hS ls (lv_sub hl [2, 3, 1, 0] rfl)
  try dsimp only at hR
  have hG := gE.ofS hG0 hS (fun _ h => h.elim)
  obtain ⟨hi_ls, hhi_ls⟩ : ∃ x, x = H1.size := ⟨_, rfl⟩
  rw [← hhi_ls] at hT_ls
  refine lv_aload_n hx hb dX1_firsts_78 rfl (lv_at hl 0 rfl) ?_
  exact g_aret hx hb hr (Or.inl ⟨_, rfl⟩) hlocks hS ⟨by show _ ≤ 16; omega, by show _ ≤ 1503; omega⟩ dX1_firsts_79 (by cases hR; exact ⟨_, rfl, hT_ls.full⟩)

def fX1_sorted_L19 (σ : St) (a : Int32) (a3 : Nat) (t_ls_10 : List Nat) (κ : List Nat → Option (List Nat)) : Nat → Nat → List Nat → Option (List Nat)
  | 0, i4, t_ls_19 => κ t_ls_19
  | n + 1, i4, t_ls_19 => (if ((fX1_has a (nI i4))) = true then (if (sEnergy σ i4) = (nI a3) then (if (t_ls_19).length < 16 then fX1_sorted_L19 σ a a3 t_ls_10 κ n (i4 + 1) (t_ls_19 ++ [i4]) else none) else fX1_sorted_L19 σ a a3 t_ls_10 κ n (i4 + 1) t_ls_19) else fX1_sorted_L19 σ a a3 t_ls_10 κ n (i4 + 1) t_ls_19)
def fX1_sorted_L10 (σ : St) (a : Int32)  (κ : List Nat → Option (List Nat)) : Nat → Nat → List Nat → Option (List Nat)
  | 0, a3, t_ls_10 => none
  | n + 1, a3, t_ls_10 => (if 9 < (nI a3) then κ t_ls_10 else fX1_sorted_L19 σ a a3 t_ls_10 (fun (t_ls_4 : List Nat) => fX1_sorted_L10 σ a κ n (a3 + 1) t_ls_4) 16 0 t_ls_10)
def fX1_sorted (σ : St) (a : Int32) : Option (List Nat) :=
  fX1_sorted_L10 σ a (fun (t_ls_5 : List Nat) => (some t_ls_5)) 11 0 (([] : List Nat))
set_option maxHeartbeats 4000000 in
set_option maxRecDepth 100000 in
theorem met_X1_sorted (l : Launch) (D : va_G) (E : Nat → Nat) {α : Nat → Nat → Nat} {F : Nat → Prop} {σ : St} (a : Int32)  {r : List Nat} (hR : fX1_sorted σ a = some r) : GM l D E yX1_sorted cX1_sorted 5 (Option.some (Jvm.ClassFile.FieldType.object "java/util/List")) 7 171 18 1703 [.ref (α 0 0), .int (a)] (RX D E α F σ) (fun _ => False) (fun _ => False) (fun sz v h => ∃ q, v = some (.ref q) ∧ LVI D E sz h.size q r h)  := by
  refine GM.start (by decide) (Nat.le_of_ble_eq_true rfl) ?_
  intro p e s m below meth c ls hx hb hr hml hown hlocks hnm hts hG hX hS hl
  have hown : s.vm.findClass RX1 = some m.cls := hown
  have hS0 : xS p m c cX1_sorted 5 s _ RX1 := ⟨hx, hb, hml, hown, hts⟩
  have hl : lv_has ls 5 [(0, .ref (α 0 0)), (1, .int (a))] := hl
  have hG0 := hG
  have hX0 := hX
  have hb0P := hX0.nP10
  have hb0B := hX0.nB6
  have hb0W := hX0.nW14
  have hFE := hX.fE
  obtain ⟨Fc, hX, hFn⟩ := hX.nar
  have hFa : ∀ q, Fc q → fN F s.heap.size q := fun q z => Or.inl (hFn q z).1
  have hFb : ∀ q, Fc q → q < s.heap.size := fun q z => (hFn q z).2
  have hcn : cnt σ σ := cnt.rf
  have hL19 : ∀ (a3 : Nat) (t_ls_10 : List Nat) (q0 : Nat) (hge_ls : s.heap.size ≤ s.heap.size) (κ : List Nat → Option (List Nat)) (hκ : ∀ (t_ls_19 : List Nat) (H : Heap) (locs : List Loc) (Fc : Nat → Prop) (ls : Array Slot), κ t_ls_19 = some r → RX D E α Fc σ H → (∀ q, Fc q → fN F s.heap.size q) → (∀ q, Fc q → q < H.size) → (∀ q, Fc q → q < s.heap.size) → LVI D E s.heap.size H.size q0 t_ls_19 H → xK (fun _ => False) (fun _ => False) s.heap H locs → lv_has ls 5 [(0, .ref (α 0 0)), (1, .int (a)), (2, .ref (q0)), (3, .int (nI a3))] → W p l e { frames := 7, cells := 18, slots := 1703, locals := 171 } s m [(.ref (α 0 0) : Value), .int (a)].toArray below meth c H locs (1 + (t_ls_19).length * 1) (3 + (t_ls_19).length * 100) (MQ below (qG (fun _ => False) ((fun sz v h => ∃ q, v = some (.ref q) ∧ LVI D E sz h.size q r h) s.heap.size)) [(.ref (α 0 0) : Value), .int (a)].toArray s 18 1703 (fN (fun _ => False) s.heap.size)) (F0 m 74 ls [])) (n : Nat) (i4 : Nat) (t_ls_19 : List Nat), i4 + n = 16 → fX1_sorted_L19 σ a a3 t_ls_10 κ n i4 t_ls_19 = some r → ∀ (H : Heap) (locs : List Loc) (Fc : Nat → Prop), RX D E α Fc σ H → (∀ q, Fc q → fN F s.heap.size q) → (∀ q, Fc q → q < H.size) → (∀ q, Fc q → q < s.heap.size) → LVI D E s.heap.size H.size q0 t_ls_19 H → xK (fun _ => False) (fun _ => False) s.heap H locs → ∀ (ls : Array Slot), lv_has ls 5 [(0, .ref (α 0 0)), (1, .int (a)), (2, .ref (q0)), (3, .int (nI a3)), (4, .int (nI i4))] → W p l e { frames := 7, cells := 18, slots := 1703, locals := 171 } s m [(.ref (α 0 0) : Value), .int (a)].toArray below meth c H locs (1 + (t_ls_19).length * 1) (3 + (t_ls_19).length * 100) (MQ below (qG (fun _ => False) ((fun sz v h => ∃ q, v = some (.ref q) ∧ LVI D E sz h.size q r h) s.heap.size)) [(.ref (α 0 0) : Value), .int (a)].toArray s 18 1703 (fN (fun _ => False) s.heap.size)) (F0 m 19 ls []) := by
    intro a3 t_ls_10 q0 hge_ls κ hκ n
    induction n with
    | zero =>
      intro i4 t_ls_19 hn hR H locs Fc hX hFa hFb hd_ls hT_ls hS ls hl
      rw [fX1_sorted_L19] at hR
      have hG := gE.ofS hG0 hS (fun _ h => h.elim)
      have hlen9 := hT_ls.len
      obtain ⟨hi_ls, hhi_ls⟩ : ∃ x, x = H.size := ⟨_, rfl⟩
      rw [← hhi_ls] at hT_ls
      refine lv_iload hx hb dX1_sorted_19 (lv_at hl 4 rfl) ?_
      refine lv_bipush (v := 16) hx hb dX1_sorted_21 (by decide) ?_
      refine lk_ge_out (k := i4) (N := 16) hx hb hn (tgt := 74) dX1_sorted_23 (by decide) ?_
      exact W.widen (by show _ ≤ _; omega) (by show _ ≤ _; omega) (hκ t_ls_19 _ _ _ ls hR hX hFa (fun q z => by have := hFb q z; omega) hd_ls hT_ls.full hS (lv_sub hl [0, 1, 2, 3] rfl))
    | succ n ih =>
      intro i4 t_ls_19 hn hR H locs Fc hX hFa hFb hd_ls hT_ls hS ls hl
      rw [fX1_sorted_L19] at hR
      have hG := gE.ofS hG0 hS (fun _ h => h.elim)
      have hlen9 := hT_ls.len
      obtain ⟨hi_ls, hhi_ls⟩ : ∃ x, x = H.size := ⟨_, rfl⟩
      rw [← hhi_ls] at hT_ls
      refine lv_iload hx hb dX1_sorted_19 (lv_at hl 4 rfl) ?_
      refine lv_bipush (v := 16) hx hb dX1_sorted_21 (by decide) ?_
      have hki4 : i4 < 16 := lk_lt hn
      refine lk_ge_in (k := i4) (N := 16) hx hb hki4 (by decide) (tgt := 74) dX1_sorted_23 (by decide) ?_
      refine lv_iload_n hx hb dX1_sorted_26 rfl (lv_at hl 1 rfl) ?_
      refine lv_iload hx hb dX1_sorted_27 (lv_at hl 4 rfl) ?_
      refine pcS (As := [.int (a), .int (nI i4)]) (rest := []) hS0 (met_X1_has l D E a (nI i4)) q374 q375 q100 q376 hd_X1_has ⟨Nat.le_of_ble_eq_true rfl, Nat.le_of_ble_eq_true rfl⟩ hG trivial rfl hl.1 rfl (Nat.le_of_ble_eq_true rfl) dX1_sorted_29 ⟨by show _ ≤ 18; omega, by show _ ≤ 1703; omega⟩ ?_
      refine W.eq (g2 := F0 m 32 ls [.int (bI ((fX1_has a (nI i4))))]) rfl ?_
      refine lb_if_eq (tgt := 68) hx hb dX1_sorted_32 (by decide) (fun c2 => ?_) (fun c2 => ?_)
      · rw [if_neg c2] at hR
        refine lv_iinc (v := nI (i4 + 1)) (lv' := [(4, .int (nI (i4 + 1))), (0, .ref (α 0 0)), (1, .int (a)), (2, .ref (q0)), (3, .int (nI a3))]) hx hb dX1_sorted_68 hl (k := 4) rfl (nI_1 i4) (Nat.le_of_ble_eq_true rfl) rfl (fun ls hl => ?_)
        refine lv_goto (tgt := 19) hx hb dX1_sorted_71 (by decide) ?_
        exact W.widen (by show _ ≤ _; omega) (by show _ ≤ _; omega) (ih (i4 + 1) t_ls_19 (lk_st hn) hR _ _ _ hX hFa (fun q z => by have := hFb q z; omega) hd_ls hT_ls.full hS ls (lv_sub hl [1, 2, 3, 4, 0] rfl))
      · rw [if_pos c2] at hR
        refine lv_aload_n hx hb dX1_sorted_35 rfl (lv_at hl 0 rfl) ?_
        refine gf (v := .ref (α 1 1)) (C := RX1) (T := TX1) (N := 6) (k := 1) hx hb hts hown hG cl_X1 in_X1 hX.ag (by decide) q302 rfl dX1_sorted_36 ?_
        refine lv_iload hx hb dX1_sorted_39 (lv_at hl 4 rfl) ?_
        refine pcF (x := xL_get) (ci := 13) (As := [.int (nI i4)]) (rest := []) hG.fw_get hS0 (met_xl_get l D E (j := 1) (by decide) i4 hki4) q344 q347 q349 q103 q351 hd_xL_get ⟨Nat.le_of_ble_eq_true rfl, Nat.le_of_ble_eq_true rfl⟩ hG cl_J2 (hX.lsR hG (j := 1) (by decide)) hX rfl hl.1 rfl (Nat.le_of_ble_eq_true rfl) dX1_sorted_41 ⟨by show _ ≤ 18; omega, by show _ ≤ 1703; omega⟩ ?_
        refine W.eq (g2 := F0 m 46 ls [.ref (α 6 i4)]) rfl ?_
        refine gc (ci := 2) hx hb hown hG cl_X3 (rcv hG cl_X3 (hX.sg hki4)) (hts _ q200) dX1_sorted_46 ?_
        refine gfN (v := .int (sEnergy σ i4)) (C := RX3) (T := TX3) (N := 4) (k := 1) hx hb hts hown hG cl_X3 in_X3 (hX.sg hki4) (by decide) q209 rfl dX1_sorted_49 ?_
        refine lv_iload_n hx hb dX1_sorted_52 rfl (lv_at hl 3 rfl) ?_
        refine lv_icmp_ne (tgt := 68) hx hb dX1_sorted_53 (by decide) (fun c3 => ?_) (fun c3 => ?_)
        · rw [if_neg c3] at hR
          refine lv_iinc (v := nI (i4 + 1)) (lv' := [(4, .int (nI (i4 + 1))), (0, .ref (α 0 0)), (1, .int (a)), (2, .ref (q0)), (3, .int (nI a3))]) hx hb dX1_sorted_68 hl (k := 4) rfl (nI_1 i4) (Nat.le_of_ble_eq_true rfl) rfl (fun ls hl => ?_)
          refine lv_goto (tgt := 19) hx hb dX1_sorted_71 (by decide) ?_
          exact W.widen (by show _ ≤ _; omega) (by show _ ≤ _; omega) (ih (i4 + 1) t_ls_19 (lk_st hn) hR _ _ _ hX hFa (fun q z => by have := hFb q z; omega) hd_ls hT_ls.full hS ls (lv_sub hl [1, 2, 3, 4, 0] rfl))
        · rw [if_pos c3] at hR
          refine lv_aload_n hx hb dX1_sorted_56 rfl (lv_at hl 2 rfl) ?_
          rcases (Decidable.em ((t_ls_19).length < 16)).symm with hl16 | hl16
          · rw [if_neg hl16] at hR
            cases hR
          rw [if_pos hl16] at hR
          refine lv_iload hx hb dX1_sorted_57 (lv_at hl 4 rfl) ?_
          refine pcS (As := [.int (nI i4)]) (rest := [.ref (q0)]) hS0 (met_J17_valueOf l D E i4 (by omega)) q630 q631 q125 q632 hd_J17_valueOf ⟨Nat.le_of_ble_eq_true rfl, Nat.le_of_ble_eq_true rfl⟩ hG trivial rfl hl.1 rfl (Nat.le_of_ble_eq_true rfl) dX1_sorted_59 ⟨by show _ ≤ 18; omega, by show _ ≤ 1703; omega⟩ ?_
          refine W.eq (g2 := F0 m 62 ls [.ref (E (300 + (i4 + 128))), .ref (q0)]) rfl ?_
          have hB := hS.1
          have hL_ls : hi_ls ≤ _ := hT_ls.lt
          refine gcF (x := xL_add) (ci := 13) (As := [.ref (E (300 + (i4 + 128)))]) (rest := []) hG.fw_add hS0 (met_lvi_add l D E s.heap.size hi_ls q0 t_ls_19 i4 (by omega) hl16) q224 q228 q230 q103 q232 hd_xL_add ⟨Nat.le_of_ble_eq_true rfl, Nat.le_of_ble_eq_true rfl⟩ hG cl_J2 (LV.recv hG hT_ls.1) ⟨hT_ls, hG0.2.2.1⟩ rfl hl.1 rfl (Nat.le_of_ble_eq_true rfl) dX1_sorted_62 ⟨by show _ ≤ 18; omega, by show _ ≤ 1703; omega⟩ hS (fun q h => Or.inr h.1) (fun q h => Or.inr h.1) (fun v H1 locs1 hP hz hk hS => ?_)
          obtain ⟨rfl, hT9⟩ := hP
          have hX := hX.kept (fun q h4 h5 => hk q h4 (fun e9 => by have e8 := hd_ls q h5; have e9 : s.heap.size ≤ q ∧ q < hi_ls := e9; omega))
          obtain ⟨hi_ls, hT_ls⟩ : ∃ hi, LVI D E s.heap.size hi q0 (t_ls_19 ++ [i4]) H1 := ⟨_, hT9⟩
          have hle9 : (t_ls_19 ++ [i4]).length = (t_ls_19).length + 1 := by simp
          have hG := gE.ofS hG0 hS (fun _ h => h.elim)
          refine W.eq (g2 := F0 m 67 ls [.int 1]) rfl ?_
          refine lv_pop hx hb dX1_sorted_67 rfl ?_
          refine lv_iinc (v := nI (i4 + 1)) (lv' := [(4, .int (nI (i4 + 1))), (0, .ref (α 0 0)), (1, .int (a)), (2, .ref (q0)), (3, .int (nI a3))]) hx hb dX1_sorted_68 hl (k := 4) rfl (nI_1 i4) (Nat.le_of_ble_eq_true rfl) rfl (fun ls hl => ?_)
          refine lv_goto (tgt := 19) hx hb dX1_sorted_71 (by decide) ?_
          exact W.widen (by show _ ≤ _; omega) (by show _ ≤ _; omega) (ih (i4 + 1) (t_ls_19 ++ [i4]) (lk_st hn) hR _ _ _ hX hFa (fun q z => by have := hFb q z; omega) hd_ls hT_ls.full hS ls (lv_sub hl [1, 2, 3, 4, 0] rfl))
  have hL10 : ∀ (q0 : Nat) (hge_ls : s.heap.size ≤ s.heap.size) (κ : List Nat → Option (List Nat)) (hκ : ∀ (t_ls_10 : List Nat) (H : Heap) (locs : List Loc) (Fc : Nat → Prop) (ls : Array Slot), κ t_ls_10 = some r → RX D E α Fc σ H → (∀ q, Fc q → fN F s.heap.size q) → (∀ q, Fc q → q < H.size) → (∀ q, Fc q → q < s.heap.size) → LVI D E s.heap.size H.size q0 t_ls_10 H → xK (fun _ => False) (fun _ => False) s.heap H locs → lv_has ls 5 [(2, .ref (q0))] → W p l e { frames := 7, cells := 18, slots := 1703, locals := 171 } s m [(.ref (α 0 0) : Value), .int (a)].toArray below meth c H locs (1 + (t_ls_10).length * 1) (3 + (t_ls_10).length * 100) (MQ below (qG (fun _ => False) ((fun sz v h => ∃ q, v = some (.ref q) ∧ LVI D E sz h.size q r h) s.heap.size)) [(.ref (α 0 0) : Value), .int (a)].toArray s 18 1703 (fN (fun _ => False) s.heap.size)) (F0 m 80 ls [])) (n : Nat) (a3 : Nat) (t_ls_10 : List Nat), fX1_sorted_L10 σ a κ n a3 t_ls_10 = some r → ∀ (H : Heap) (locs : List Loc) (Fc : Nat → Prop), RX D E α Fc σ H → (∀ q, Fc q → fN F s.heap.size q) → (∀ q, Fc q → q < H.size) → (∀ q, Fc q → q < s.heap.size) → LVI D E s.heap.size H.size q0 t_ls_10 H → xK (fun _ => False) (fun _ => False) s.heap H locs → ∀ (ls : Array Slot), lv_has ls 5 [(0, .ref (α 0 0)), (1, .int (a)), (2, .ref (q0)), (3, .int (nI a3))] → W p l e { frames := 7, cells := 18, slots := 1703, locals := 171 } s m [(.ref (α 0 0) : Value), .int (a)].toArray below meth c H locs (1 + (t_ls_10).length * 1) (3 + (t_ls_10).length * 100) (MQ below (qG (fun _ => False) ((fun sz v h => ∃ q, v = some (.ref q) ∧ LVI D E sz h.size q r h) s.heap.size)) [(.ref (α 0 0) : Value), .int (a)].toArray s 18 1703 (fN (fun _ => False) s.heap.size)) (F0 m 10 ls []) := by
    intro q0 hge_ls κ hκ n
    induction n with
    | zero =>
      intro a3 t_ls_10 hR H locs Fc hX hFa hFb hd_ls hT_ls hS ls hl
      rw [fX1_sorted_L10] at hR
      have hG := gE.ofS hG0 hS (fun _ h => h.elim)
      have hlen9 := hT_ls.len
      obtain ⟨hi_ls, hhi_ls⟩ : ∃ x, x = H.size := ⟨_, rfl⟩
      rw [← hhi_ls] at hT_ls
      cases hR
    | succ n ih =>
      intro a3 t_ls_10 hR H locs Fc hX hFa hFb hd_ls hT_ls hS ls hl
      rw [fX1_sorted_L10] at hR
      have hG := gE.ofS hG0 hS (fun _ h => h.elim)
      have hlen9 := hT_ls.len
      obtain ⟨hi_ls, hhi_ls⟩ : ∃ x, x = H.size := ⟨_, rfl⟩
      rw [← hhi_ls] at hT_ls
      refine lv_iload_n hx hb dX1_sorted_10 rfl (lv_at hl 3 rfl) ?_
      refine lv_bipush (v := 9) hx hb dX1_sorted_11 (by decide) ?_
      refine lv_icmp_gt (tgt := 80) hx hb dX1_sorted_13 (by decide) (fun c1 => ?_) (fun c1 => ?_)
      · rw [if_pos c1] at hR
        exact W.widen (by show _ ≤ _; omega) (by show _ ≤ _; omega) (hκ t_ls_10 _ _ _ ls hR hX hFa (fun q z => by have := hFb q z; omega) hd_ls hT_ls.full hS (lv_sub hl [2] rfl))
      · rw [if_neg c1] at hR
        refine lv_iconst (v := 0) hx hb dX1_sorted_16 (by decide) ?_
        refine lv_istore (lv' := [(4, .int 0), (0, .ref (α 0 0)), (1, .int (a)), (2, .ref (q0)), (3, .int (nI a3))]) hx hb dX1_sorted_17 hl (Nat.le_of_ble_eq_true rfl) rfl (fun ls hl => ?_)
        refine W.widen (k := 1 + (t_ls_10).length * 1) (n := 3 + (t_ls_10).length * 100) (by first | omega | (simp only [List.length_nil]; omega)) (by first | omega | (simp only [List.length_nil]; omega)) ?_
        refine hL19 a3 t_ls_10 q0 hge_ls _ (fun t_ls_4 H1 locs1 Fc ls hR hX hFa hFb hd_ls hT_ls hS hl => ?_) 16 0 t_ls_10 (Nat.zero_add _) hR _ _ _ hX hFa (fun q z => by have := hFb q z; omega) hd_ls hT_ls.full hS ls (lv_sub hl [1, 2, 3, 4, 0] rfl)
        try dsimp only at hR
        have hG := gE.ofS hG0 hS (fun _ h => h.elim)
        obtain ⟨hi_ls, hhi_ls⟩ : ∃ x, x = H1.size := ⟨_, rfl⟩
        rw [← hhi_ls] at hT_ls
        have hlen9 := hT_ls.len
        refine lv_iinc (v := nI (a3 + 1)) (lv' := [(3, .int (nI (a3 + 1))), (0, .ref (α 0 0)), (1, .int (a)), (2, .ref (q0))]) hx hb dX1_sorted_74 hl (k := 3) rfl (nI_1 a3) (Nat.le_of_ble_eq_true rfl) rfl (fun ls hl => ?_)
        refine lv_goto (tgt := 10) hx hb dX1_sorted_77 (by decide) ?_
        exact W.widen (by show _ ≤ _; omega) (by show _ ≤ _; omega) (ih (a3 + 1) t_ls_4  hR _ _ _ hX hFa (fun q z => by have := hFb q z; omega) hd_ls hT_ls.full hS ls (lv_sub hl [1, 2, 3, 0] rfl))
  unfold fX1_sorted at hR
  have hB := hS.1
  refine nw (ci := 13) (C := RJ2) (T := TJ2) (N := 3) (fs := [.int 0, .null, .int 0]) (ty := tyJ2) hx hb hts hown hG hS cl_J2 in_J2 tyJ2_ok q149 q150 q103 (df_J2) ⟨Nat.le_of_ble_eq_true rfl, Nat.le_of_ble_eq_true rfl⟩ dX1_sorted_0 (fun q0 H1 hq9 hT_t0 hz ho hS => ?_)
  have hX := hX.kept (fun q h4 _ => ho q h4)
  have hG := gE.ofS hG0 hS (fun _ h => h.elim)
  have hge_t0 : s.heap.size ≤ q0 := by have := hB; omega
  have hd_t0 : ¬ Fc q0 := fun z => by have := hFb _ z; omega
  refine lv_dup hx hb dX1_sorted_3 rfl ?_
  have hB := hS.1
  have hL_t0 : q0 < _ := hT_t0.lt
  refine gcI (As := []) (rest := [.ref (q0)]) hS0 (met_J2_init l D E q0) q151 q152 q103 q153 rfl hd_J2_init ⟨Nat.le_of_ble_eq_true rfl, Nat.le_of_ble_eq_true rfl⟩ hG ⟨hT_t0, (Nat.le_trans hG0.2.2.1 hge_t0)⟩ rfl hl.1 rfl (Nat.le_of_ble_eq_true rfl) dX1_sorted_4 ⟨Nat.le_of_ble_eq_true rfl, Nat.le_of_ble_eq_true rfl⟩ hS (fun q h => by have h : q = q0 := h; rw [h]; exact (Or.inr hge_t0)) (fun q h => by have h : q = q0 := h; rw [h]; exact (Or.inr hge_t0)) (fun v H1 locs1 hP hz hk hS => ?_)
  obtain ⟨rfl, hT9⟩ := hP
  have hX := hX.kept (fun q h4 h5 => hk q h4 (fun e9 => hd_t0 (e9 ▸ h5)))
  have hT_t0 : va_at D vwCl (q0, .inr (13, [.int 0, .ref (E 6), .int 0])) H1 := hT9
  have hG := gE.ofS hG0 hS (fun _ h => h.elim)
  refine W.eq (g2 := F0 m 7 ls [.ref (q0)]) rfl ?_
  obtain ⟨hi_ls, hT_ls⟩ : ∃ hi, LVI D E s.heap.size hi q0 ([] : List Nat) H1 := ⟨_, LVI.mk hT_t0 hge_t0 hT_t0.lt (Nat.le_refl _)⟩
  have hge_ls : s.heap.size ≤ s.heap.size := Nat.le_refl _
  have hd_ls : ∀ q, Fc q → q < s.heap.size := fun q z => hFb q z
  refine lv_astore_n (lv' := [(2, .ref (q0)), (0, .ref (α 0 0)), (1, .int (a))]) hx hb dX1_sorted_7 rfl hl (Nat.le_of_ble_eq_true rfl) rfl (fun ls hl => ?_)
  refine lv_iconst (v := 0) hx hb dX1_sorted_8 (by decide) ?_
  refine lv_istore_n (lv' := [(3, .int 0), (2, .ref (q0)), (0, .ref (α 0 0)), (1, .int (a))]) hx hb dX1_sorted_9 rfl hl (Nat.le_of_ble_eq_true rfl) rfl (fun ls hl => ?_)
  refine W.widen (k := 1 + (([] : List Nat)).length * 1) (n := 3 + (([] : List Nat)).length * 100) (by first | omega | (simp only [List.length_nil]; omega)) (by first | omega | (simp only [List.length_nil]; omega)) ?_
  refine hL10 q0 hge_ls _ (fun t_ls_5 H1 locs1 Fc ls hR hX hFa hFb hd_ls hT_ls hS hl => ?_) 11 0 (([] : List Nat))  hR _ _ _ hX hFa (fun q z => by have := hFb q z; omega) hd_ls hT_ls.full hS ls (lv_sub hl [2, 3, 1, 0] rfl)
  try dsimp only at hR
  have hG := gE.ofS hG0 hS (fun _ h => h.elim)
  obtain ⟨hi_ls, hhi_ls⟩ : ∃ x, x = H1.size := ⟨_, rfl⟩
  rw [← hhi_ls] at hT_ls
  have hlen9 := hT_ls.len
  refine lv_aload_n hx hb dX1_sorted_80 rfl (lv_at hl 0 rfl) ?_
  exact g_aret hx hb hr (Or.inl ⟨_, rfl⟩) hlocks hS ⟨by show _ ≤ 18; omega, by show _ ≤ 1703; omega⟩ dX1_sorted_81 (by cases hR; exact ⟨_, rfl, hT_ls.full⟩)

