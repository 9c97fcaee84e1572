/-! checks of arguments -/
set_option maxRecDepth 100000
theorem ck_ix {a : Int32} {N : Nat} (h : 0 ≤ a ∧ a < nI N) (hN : N < 2 ^ 31) : a = nI a.toNatClampNeg ∧ a.toNatClampNeg < N := by
  obtain ⟨j, hj, rfl⟩ := vp_in_of (x := a) (n := N) (by
    rw [vp_in_iff]
    obtain ⟨h1, h2⟩ := h
    simp only [Int32.lt_iff_toInt_lt, Int32.le_iff_toInt_le, nI_toInt hN] at h1 h2
    exact ⟨h1, h2⟩) hN
  rw [nI_clamp (by omega)]
  exact ⟨rfl, hj⟩
set_option maxHeartbeats 4000000 in
theorem met_X1_mustBeIn (l : Launch) (D : va_G) (E : Nat → Nat) (hlf : l.stackTraces = false) (a lo hi : Int32) (H0 : Heap) : XM l D E yX1_mustBeIn cX1_mustBeIn 3 (Option.none : Option Jvm.ClassFile.FieldType) 7 120 1 6 [.int a, .int lo, .int hi] (fun h => h = H0) (fun _ => False) (fun _ => False) (fun _ v h => v = none ∧ (lo ≤ a ∧ a ≤ hi) ∧ h = H0) (fun _ X h => X = "java/lang/IllegalArgumentException" ∧ ¬ (lo ≤ a ∧ a ≤ hi)) := by
  refine XM.start (by decide) (Nat.le_of_ble_eq_true rfl) ?_
  intro p e s m below meth c ls hx hb hr hml hown hlocks hex hts hG hP hS hl
  have hown : s.vm.findClass RX1 = some m.cls := hown
  have hS0 : xS p m c cX1_mustBeIn 3 s _ RX1 := ⟨hx, hb, hml, hown, hts⟩
  subst hP
  have hl : lv_has ls 3 [(0, .int a), (1, .int lo), (2, .int hi)] := hl
  refine lv_iload_n hx hb dX1_mustBeIn_0 rfl (lv_at hl 0 rfl) ?_
  refine lv_iload_n hx hb dX1_mustBeIn_1 rfl (lv_at hl 1 rfl) ?_
  refine lv_icmp_lt (tgt := 14) hx hb dX1_mustBeIn_2 (by decide) (fun c1 => ?_) (fun c1 => ?_)
  · refine lv_iconst (v := 0) hx hb dX1_mustBeIn_14 (by decide) ?_
    refine xcS (As := [.int 0]) (rest := []) hS0 (met_X1_must l D E hlf false s.heap) q863 q864 q100 q865 hd_X1_must ⟨Nat.le_of_ble_eq_true rfl, Nat.le_of_ble_eq_true rfl⟩ hG rfl rfl hl.1 rfl (Nat.le_of_ble_eq_true rfl) dX1_mustBeIn_15 ⟨Nat.le_of_ble_eq_true rfl, Nat.le_of_ble_eq_true rfl⟩ hS (fun q h => h.elim) (fun q h => h.elim) (fun X ce q9 H1 locs1 hP hz hk hS h1 h2 h3 => ?_) (fun v H1 locs1 hP hz hk hS => ?_)
    · obtain ⟨rfl, -⟩ := hP
      exact x_out hex hlocks h1 h2 h3 hS ⟨by decide, by decide⟩ ⟨rfl, fun z => i_nle c1 z.1⟩
    · exact absurd hP.2.1 (by decide)
  · refine lv_iload_n hx hb dX1_mustBeIn_5 rfl (lv_at hl 0 rfl) ?_
    refine lv_iload_n hx hb dX1_mustBeIn_6 rfl (lv_at hl 2 rfl) ?_
    refine lv_icmp_gt (tgt := 14) hx hb dX1_mustBeIn_7 (by decide) (fun c2 => ?_) (fun c2 => ?_)
    · refine lv_iconst (v := 0) hx hb dX1_mustBeIn_14 (by decide) ?_
      refine xcS (As := [.int 0]) (rest := []) hS0 (met_X1_must l D E hlf false s.heap) q863 q864 q100 q865 hd_X1_must ⟨Nat.le_of_ble_eq_true rfl, Nat.le_of_ble_eq_true rfl⟩ hG rfl rfl hl.1 rfl (Nat.le_of_ble_eq_true rfl) dX1_mustBeIn_15 ⟨Nat.le_of_ble_eq_true rfl, Nat.le_of_ble_eq_true rfl⟩ hS (fun q h => h.elim) (fun q h => h.elim) (fun X ce q9 H1 locs1 hP hz hk hS h1 h2 h3 => ?_) (fun v H1 locs1 hP hz hk hS => ?_)
      · obtain ⟨rfl, -⟩ := hP
        exact x_out hex hlocks h1 h2 h3 hS ⟨by decide, by decide⟩ ⟨rfl, fun z => i_nle c2 z.2⟩
      · exact absurd hP.2.1 (by decide)
    · refine lv_iconst (v := 1) hx hb dX1_mustBeIn_10 (by decide) ?_
      refine lv_goto (tgt := 15) hx hb dX1_mustBeIn_11 (by decide) ?_
      refine xcS (As := [.int 1]) (rest := []) hS0 (met_X1_must l D E hlf true s.heap) q863 q864 q100 q865 hd_X1_must ⟨Nat.le_of_ble_eq_true rfl, Nat.le_of_ble_eq_true rfl⟩ hG rfl rfl hl.1 rfl (Nat.le_of_ble_eq_true rfl) dX1_mustBeIn_15 ⟨Nat.le_of_ble_eq_true rfl, Nat.le_of_ble_eq_true rfl⟩ hS (fun q h => h.elim) (fun q h => h.elim) (fun X ce q9 H1 locs1 hP hz hk hS h1 h2 h3 => ?_) (fun v H1 locs1 hP hz hk hS => ?_)
      · exact absurd rfl hP.2
      · obtain ⟨rfl, -, rfl⟩ := hP
        exact vx_ret (g_vret hx hb hr hlocks hS ⟨by decide, by decide⟩ dX1_mustBeIn_18 ⟨rfl, ⟨i_nlt c1, i_nlt c2⟩, rfl⟩)

set_option maxHeartbeats 4000000 in
theorem met_X1_mustBeSongs (l : Launch) (D : va_G) (E : Nat → Nat) (hlf : l.stackTraces = false) (a : Int32) (H0 : Heap) : XM l D E yX1_mustBeSongs cX1_mustBeSongs 1 (Option.none : Option Jvm.ClassFile.FieldType) 8 150 1 6 [.int a] (fun h => h = H0) (fun _ => False) (fun _ => False) (fun _ v h => v = none ∧ (0 ≤ a ∧ a ≤ 65535) ∧ h = H0) (fun _ X h => X = "java/lang/IllegalArgumentException" ∧ ¬ (0 ≤ a ∧ a ≤ 65535)) := by
  refine XM.start (by decide) (Nat.le_of_ble_eq_true rfl) ?_
  intro p e s m below meth c ls hx hb hr hml hown hlocks hex hts hG hP hS hl
  have hown : s.vm.findClass RX1 = some m.cls := hown
  have hS0 : xS p m c cX1_mustBeSongs 1 s _ RX1 := ⟨hx, hb, hml, hown, hts⟩
  subst hP
  have hl : lv_has ls 1 [(0, .int a)] := hl
  refine lv_iload_n hx hb dX1_mustBeSongs_0 rfl (lv_at hl 0 rfl) ?_
  refine lv_iconst (v := 0) hx hb dX1_mustBeSongs_1 (by decide) ?_
  refine lv_ldc (v := 65535) hx hb hown (hts _ q884) dX1_mustBeSongs_2 ?_
  refine xcS (As := [.int a, .int 0, .int 65535]) (rest := []) hS0 (met_X1_mustBeIn l D E hlf a 0 65535 s.heap) q860 q861 q100 q862 hd_X1_mustBeIn ⟨Nat.le_of_ble_eq_true rfl, Nat.le_of_ble_eq_true rfl⟩ hG rfl rfl hl.1 rfl (Nat.le_of_ble_eq_true rfl) dX1_mustBeSongs_4 ⟨Nat.le_of_ble_eq_true rfl, Nat.le_of_ble_eq_true rfl⟩ hS (fun q h => h.elim) (fun q h => h.elim) (fun X ce q9 H1 locs1 hP hz hk hS h1 h2 h3 => ?_) (fun v H1 locs1 hP hz hk hS => ?_)
  · obtain ⟨rfl, hc⟩ := hP
    exact x_out hex hlocks h1 h2 h3 hS ⟨by decide, by decide⟩ ⟨rfl, hc⟩
  · obtain ⟨rfl, hc, rfl⟩ := hP
    exact vx_ret (g_vret hx hb hr hlocks hS ⟨by decide, by decide⟩ dX1_mustBeSongs_7 ⟨rfl, hc, rfl⟩)

set_option maxHeartbeats 4000000 in
theorem met_X1_playerAt (l : Launch) (D : va_G) (E : Nat → Nat) (hlf : l.stackTraces = false) {α : Nat → Nat → Nat} {F : Nat → Prop} {σ : St} (a : Int32) (H0 : Heap) : XM l D E yX1_playerAt cX1_playerAt 2 (Option.some (Jvm.ClassFile.FieldType.object "FirstdanceAgency$Player")) 7 120 1 6 [.ref (α 0 0), .int a] (fun h => h = H0 ∧ RX D E α F σ h) (fun _ => False) (fun _ => False) (fun _ v h => v = some (.ref (α 3 a.toNatClampNeg)) ∧ (0 ≤ a ∧ a < nI (nP σ)) ∧ h = H0) (fun _ X h => X = "java/lang/IndexOutOfBoundsException" ∧ ¬ (0 ≤ a ∧ a < nI (nP σ))) := by
  refine XM.start (by decide) (Nat.le_of_ble_eq_true rfl) ?_
  intro p e s m below meth c ls hx hb hr hml hown hlocks hex hts hG hP hS hl
  have hown : s.vm.findClass RX1 = some m.cls := hown
  have hS0 : xS p m c cX1_playerAt 2 s _ RX1 := ⟨hx, hb, hml, hown, hts⟩
  obtain ⟨rfl, hX⟩ := hP
  have hl : lv_has ls 2 [(0, .ref (α 0 0)), (1, .int a)] := hl
  refine lv_iload_n hx hb dX1_playerAt_0 rfl (lv_at hl 1 rfl) ?_
  refine lv_aload_n hx hb dX1_playerAt_1 rfl (lv_at hl 0 rfl) ?_
  refine gf (v := .ref (α 1 0)) (C := RX1) (T := TX1) (N := 6) (k := 0) hx hb hts hown hG cl_X1 in_X1 hX.ag (by decide) q301 rfl dX1_playerAt_2 ?_
  refine pcF (x := xL_size) (ci := 13) (As := []) (rest := [.int a]) hG.fw_size hS0 (met_xl_size l D E (j := 0) (by decide)) q331 q334 q336 q103 q338 hd_xL_size ⟨Nat.le_of_ble_eq_true rfl, Nat.le_of_ble_eq_true rfl⟩ hG cl_J2 (hX.lsR hG (j := 0) (by decide)) hX rfl hl.1 rfl (Nat.le_of_ble_eq_true rfl) dX1_playerAt_5 ⟨Nat.le_of_ble_eq_true rfl, Nat.le_of_ble_eq_true rfl⟩ ?_
  refine W.eq (g2 := F0 m 10 ls [.int (nI (nP σ)), .int a]) rfl ?_
  refine xcS (As := [.int a, .int (nI (nP σ))]) (rest := []) hS0 (met_X1_checkPlace l D E hlf a (nI (nP σ)) s.heap) q836 q837 q100 q838 hd_X1_checkPlace ⟨Nat.le_of_ble_eq_true rfl, Nat.le_of_ble_eq_true rfl⟩ hG rfl rfl hl.1 rfl (Nat.le_of_ble_eq_true rfl) dX1_playerAt_10 ⟨Nat.le_of_ble_eq_true rfl, Nat.le_of_ble_eq_true rfl⟩ hS (fun q h => h.elim) (fun q h => h.elim) (fun X ce q9 H1 locs1 hP hz hk hS h1 h2 h3 => ?_) (fun v H1 locs1 hP hz hk hS => ?_)
  · obtain ⟨rfl, hc⟩ := hP
    exact x_out hex hlocks h1 h2 h3 hS ⟨by decide, by decide⟩ ⟨rfl, hc⟩
  · obtain ⟨rfl, hc, rfl⟩ := hP
    have hn := ck_ix hc (by have := hX.nP10; have := hX.nW14; omega)
    refine W.eq (g2 := F0 m 13 ls []) rfl ?_
    refine lv_aload_n hx hb dX1_playerAt_13 rfl (lv_at hl 0 rfl) ?_
    refine gf (v := .ref (α 1 0)) (C := RX1) (T := TX1) (N := 6) (k := 0) hx hb hts hown hG cl_X1 in_X1 hX.ag (by decide) q301 rfl dX1_playerAt_14 ?_
    refine lv_iload_n hx hb dX1_playerAt_17 rfl (lv_at hl 1 rfl) ?_
    refine lv_eq hn.1 ?_
    refine pcF (x := xL_get) (ci := 13) (As := [.int (nI a.toNatClampNeg)]) (rest := []) hG.fw_get hS0 (met_xl_get l D E (j := 0) (by decide) a.toNatClampNeg hn.2) q344 q347 q349 q103 q351 hd_xL_get ⟨Nat.le_of_ble_eq_true rfl, Nat.le_of_ble_eq_true rfl⟩ hG cl_J2 (hX.lsR hG (j := 0) (by decide)) hX rfl hl.1 rfl (Nat.le_of_ble_eq_true rfl) dX1_playerAt_18 ⟨Nat.le_of_ble_eq_true rfl, Nat.le_of_ble_eq_true rfl⟩ ?_
    refine W.eq (g2 := F0 m 23 ls [.ref (α 3 a.toNatClampNeg)]) rfl ?_
    refine gc (ci := 5) hx hb hown hG cl_X6 (rcv hG cl_X6 (hX.pl hn.2)) (hts _ q362) dX1_playerAt_23 ?_
    exact vx_ret (g_aret hx hb hr (Or.inl ⟨_, rfl⟩) hlocks hS ⟨by decide, by decide⟩ dX1_playerAt_26 ⟨rfl, hc, rfl⟩)

set_option maxHeartbeats 4000000 in
theorem met_X1_weddingAt (l : Launch) (D : va_G) (E : Nat → Nat) (hlf : l.stackTraces = false) {α : Nat → Nat → Nat} {F : Nat → Prop} {σ : St} (a : Int32) (H0 : Heap) : XM l D E yX1_weddingAt cX1_weddingAt 2 (Option.some (Jvm.ClassFile.FieldType.object "FirstdanceAgency$Wedding")) 7 120 1 6 [.ref (α 0 0), .int a] (fun h => h = H0 ∧ RX D E α F σ h) (fun _ => False) (fun _ => False) (fun _ v h => v = some (.ref (α 5 a.toNatClampNeg)) ∧ (0 ≤ a ∧ a < nI (nW σ)) ∧ h = H0) (fun _ X h => X = "java/lang/IndexOutOfBoundsException" ∧ ¬ (0 ≤ a ∧ a < nI (nW σ))) := by
  refine XM.start (by decide) (Nat.le_of_ble_eq_true rfl) ?_
  intro p e s m below meth c ls hx hb hr hml hown hlocks hex hts hG hP hS hl
  have hown : s.vm.findClass RX1 = some m.cls := hown
  have hS0 : xS p m c cX1_weddingAt 2 s _ RX1 := ⟨hx, hb, hml, hown, hts⟩
  obtain ⟨rfl, hX⟩ := hP
  have hl : lv_has ls 2 [(0, .ref (α 0 0)), (1, .int a)] := hl
  refine lv_iload_n hx hb dX1_weddingAt_0 rfl (lv_at hl 1 rfl) ?_
  refine lv_aload_n hx hb dX1_weddingAt_1 rfl (lv_at hl 0 rfl) ?_
  refine gf (v := .ref (α 1 3)) (C := RX1) (T := TX1) (N := 6) (k := 4) hx hb hts hown hG cl_X1 in_X1 hX.ag (by decide) q307 rfl dX1_weddingAt_2 ?_
  refine pcF (x := xL_size) (ci := 13) (As := []) (rest := [.int a]) hG.fw_size hS0 (met_xl_size l D E (j := 3) (by decide)) q331 q334 q336 q103 q338 hd_xL_size ⟨Nat.le_of_ble_eq_true rfl, Nat.le_of_ble_eq_true rfl⟩ hG cl_J2 (hX.lsR hG (j := 3) (by decide)) hX rfl hl.1 rfl (Nat.le_of_ble_eq_true rfl) dX1_weddingAt_5 ⟨Nat.le_of_ble_eq_true rfl, Nat.le_of_ble_eq_true rfl⟩ ?_
  refine W.eq (g2 := F0 m 10 ls [.int (nI (nW σ)), .int a]) rfl ?_
  refine xcS (As := [.int a, .int (nI (nW σ))]) (rest := []) hS0 (met_X1_checkPlace l D E hlf a (nI (nW σ)) s.heap) q836 q837 q100 q838 hd_X1_checkPlace ⟨Nat.le_of_ble_eq_true rfl, Nat.le_of_ble_eq_true rfl⟩ hG rfl rfl hl.1 rfl (Nat.le_of_ble_eq_true rfl) dX1_weddingAt_10 ⟨Nat.le_of_ble_eq_true rfl, Nat.le_of_ble_eq_true rfl⟩ hS (fun q h => h.elim) (fun q h => h.elim) (fun X ce q9 H1 locs1 hP hz hk hS h1 h2 h3 => ?_) (fun v H1 locs1 hP hz hk hS => ?_)
  · obtain ⟨rfl, hc⟩ := hP
    exact x_out hex hlocks h1 h2 h3 hS ⟨by decide, by decide⟩ ⟨rfl, hc⟩
  · obtain ⟨rfl, hc, rfl⟩ := hP
    have hn := ck_ix hc (by have := hX.nP10; have := hX.nW14; omega)
    refine W.eq (g2 := F0 m 13 ls []) rfl ?_
    refine lv_aload_n hx hb dX1_weddingAt_13 rfl (lv_at hl 0 rfl) ?_
    refine gf (v := .ref (α 1 3)) (C := RX1) (T := TX1) (N := 6) (k := 4) hx hb hts hown hG cl_X1 in_X1 hX.ag (by decide) q307 rfl dX1_weddingAt_14 ?_
    refine lv_iload_n hx hb dX1_weddingAt_17 rfl (lv_at hl 1 rfl) ?_
    refine lv_eq hn.1 ?_
    refine pcF (x := xL_get) (ci := 13) (As := [.int (nI a.toNatClampNeg)]) (rest := []) hG.fw_get hS0 (met_xl_get l D E (j := 3) (by decide) a.toNatClampNeg hn.2) q344 q347 q349 q103 q351 hd_xL_get ⟨Nat.le_of_ble_eq_true rfl, Nat.le_of_ble_eq_true rfl⟩ hG cl_J2 (hX.lsR hG (j := 3) (by decide)) hX rfl hl.1 rfl (Nat.le_of_ble_eq_true rfl) dX1_weddingAt_18 ⟨Nat.le_of_ble_eq_true rfl, Nat.le_of_ble_eq_true rfl⟩ ?_
    refine W.eq (g2 := F0 m 23 ls [.ref (α 5 a.toNatClampNeg)]) rfl ?_
    refine gc (ci := 8) hx hb hown hG cl_X10 (rcv hG cl_X10 (hX.wd hn.2)) (hts _ q369) dX1_weddingAt_23 ?_
    exact vx_ret (g_aret hx hb hr (Or.inl ⟨_, rfl⟩) hlocks hS ⟨by decide, by decide⟩ dX1_weddingAt_26 ⟨rfl, hc, rfl⟩)

