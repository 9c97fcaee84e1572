/-! JDK: boxes of the cache -/
set_option maxRecDepth 100000
set_option maxHeartbeats 4000000 in
set_option maxRecDepth 100000 in
theorem met_J17_valueOf (l : Launch) (D : va_G) (E : Nat → Nat) (k : Nat) (hk : k ≤ 127) : PM l D E yJ17_valueOf cJ17_valueOf 1 (Option.some (Jvm.ClassFile.FieldType.object "java/lang/Integer")) 0 0 [.int (nI k)] (fun _ => True) (some (.ref (E (300 + (k + 128))))) := by
  refine PM.start (by decide) (Nat.le_of_ble_eq_true rfl) ?_
  intro p e s m below meth c ls hx hb hr hml hown hlocks hts hG hTriv hl
  have hown : s.vm.findClass RJ17 = some m.cls := hown
  have hS0 : xS p m c cJ17_valueOf 1 s _ RJ17 := ⟨hx, hb, hml, hown, hts⟩
  have hl : lv_has ls 1 [(0, .int (nI k))] := hl
  refine lv_iload_n hx hb dJ17_valueOf_0 rfl (lv_at hl 0 rfl) ?_
  refine lv_bipush (v := (-128)) hx hb dJ17_valueOf_1 (by decide) ?_
  refine lv_icmp_lt (tgt := 23) hx hb dJ17_valueOf_3 (by decide) (fun c9 => absurd c9 ((by have h9 : nI 0 ≤ nI k := nI_le (by omega) (by omega); exact fun z => i_nle z (Int32.le_trans (by decide) h9)))) (fun _ => ?_)
  refine lv_iload_n hx hb dJ17_valueOf_6 rfl (lv_at hl 0 rfl) ?_
  refine gs hx hb hG.hi hown (hts _ q633) (fun _ h => h) dJ17_valueOf_7 ?_
  refine lv_icmp_gt (tgt := 23) hx hb dJ17_valueOf_10 (by decide) (fun c9 => absurd c9 ((by have h9 : nI k ≤ nI 127 := nI_le hk (by decide); exact fun z => i_nle z h9))) (fun _ => ?_)
  refine gs hx hb hG.ic hown (hts _ q635) (fun _ h => h) dJ17_valueOf_13 ?_
  refine lv_iload_n hx hb dJ17_valueOf_16 rfl (lv_at hl 0 rfl) ?_
  refine lv_sipush (v := 128) hx hb dJ17_valueOf_17 (by decide) ?_
  refine lv_iadd hx hb dJ17_valueOf_20 ?_
  refine lv_eq (nI_add k 128) ?_
  refine vb_tq (i := nI (k + 128)) (v := .ref (E (300 + (k + 128)))) hx hb hG.2.2.2.2.2.2.2.1 ⟨Nat.le_refl _, fun _ _ _ => rfl, fun _ h => by cases h⟩ (vp_in_nI (by omega) (by decide)) (by rw [nI_clamp (by omega)]) dJ17_valueOf_21 ?_
  exact p_aret hx hb hr (Or.inl ⟨_, rfl⟩) hlocks dJ17_valueOf_22 rfl

set_option maxHeartbeats 4000000 in
set_option maxRecDepth 100000 in
theorem met_J14_requireNonNull (l : Launch) (D : va_G) (E : Nat → Nat) (a : Nat)  : PM l D E yJ14_requireNonNull cJ14_requireNonNull 1 (Option.some (Jvm.ClassFile.FieldType.object "java/lang/Object")) 0 0 [.ref (a)] (fun _ => True) (some (.ref a)) := by
  refine PM.start (by decide) (Nat.le_of_ble_eq_true rfl) ?_
  intro p e s m below meth c ls hx hb hr hml hown hlocks hts hG hTriv hl
  have hown : s.vm.findClass RJ14 = some m.cls := hown
  have hS0 : xS p m c cJ14_requireNonNull 1 s _ RJ14 := ⟨hx, hb, hml, hown, hts⟩
  have hl : lv_has ls 1 [(0, .ref (a))] := hl
  refine lv_aload_n hx hb dJ14_requireNonNull_0 rfl (lv_at hl 0 rfl) ?_
  refine lv_ifnonnull (tgt := 12) hx hb dJ14_requireNonNull_1 (by decide) ?_
  refine lv_aload_n hx hb dJ14_requireNonNull_12 rfl (lv_at hl 0 rfl) ?_
  exact p_aret hx hb hr (Or.inl ⟨_, rfl⟩) hlocks dJ14_requireNonNull_13 rfl

set_option maxHeartbeats 4000000 in
set_option maxRecDepth 100000 in
theorem met_J20_of (l : Launch) (D : va_G) (E : Nat → Nat) (a : Nat)  : GM l D E yJ20_of cJ20_of 1 (Option.some (Jvm.ClassFile.FieldType.object "java/util/Optional")) 2 33 1 1 [.ref (a)] (fun _ => True) (fun _ => False) (fun _ => False) (fun sz v h => ∃ q, v = some (.ref q) ∧ sz ≤ q ∧ va_at D vwCl (q, .inr (16, [.ref a])) h)  := by
  refine GM.start (by decide) (Nat.le_of_ble_eq_true rfl) ?_
  intro p e s m below meth c ls hx hb hr hml hown hlocks hnm hts hG hTriv hS hl
  have hown : s.vm.findClass RJ20 = some m.cls := hown
  have hS0 : xS p m c cJ20_of 1 s _ RJ20 := ⟨hx, hb, hml, hown, hts⟩
  have hl : lv_has ls 1 [(0, .ref (a))] := hl
  have hG0 := hG
  have hB := hS.1
  refine nw (ci := 16) (C := RJ20) (T := TJ20) (N := 1) (fs := [.null]) (ty := tyJ20) hx hb hts hown hG hS cl_J20 in_J20 tyJ20_ok q710 q711 q134 (df_J20) ⟨Nat.le_of_ble_eq_true rfl, Nat.le_of_ble_eq_true rfl⟩ dJ20_of_0 (fun q0 H1 hq9 hT_t0 hz ho hS => ?_)
  have hG := gE.ofS hG0 hS (fun _ h => h.elim)
  have hge_t0 : s.heap.size ≤ q0 := by have := hB; omega
  refine lv_dup hx hb dJ20_of_3 rfl ?_
  refine lv_aload_n hx hb dJ20_of_4 rfl (lv_at hl 0 rfl) ?_
  refine pcS (As := [.ref (a)]) (rest := [.ref (q0), .ref (q0)]) hS0 (met_J14_requireNonNull l D E a) q712 q713 q122 q714 hd_J14_requireNonNull ⟨Nat.le_of_ble_eq_true rfl, Nat.le_of_ble_eq_true rfl⟩ hG trivial rfl hl.1 rfl (Nat.le_of_ble_eq_true rfl) dJ20_of_5 ⟨Nat.le_of_ble_eq_true rfl, Nat.le_of_ble_eq_true rfl⟩ ?_
  refine W.eq (g2 := F0 m 8 ls [.ref (a), .ref (q0), .ref (q0)]) rfl ?_
  have hB := hS.1
  have hL_t0 : q0 < _ := hT_t0.lt
  refine gcI (As := [.ref (a)]) (rest := [.ref (q0)]) hS0 (met_J20_init l D E q0 a) q715 q716 q134 q717 rfl hd_J20_init ⟨Nat.le_of_ble_eq_true rfl, Nat.le_of_ble_eq_true rfl⟩ hG ⟨hT_t0, (Nat.le_trans hG0.2.2.1 hge_t0)⟩ rfl hl.1 rfl (Nat.le_of_ble_eq_true rfl) dJ20_of_8 ⟨Nat.le_of_ble_eq_true rfl, Nat.le_of_ble_eq_true rfl⟩ hS (fun q h => by have h : q = q0 := h; rw [h]; exact (Or.inr hge_t0)) (fun q h => by have h : q = q0 := h; rw [h]; exact (Or.inr hge_t0)) (fun v H1 locs1 hP hz hk hS => ?_)
  obtain ⟨rfl, hT9⟩ := hP
  have hT_t0 : va_at D vwCl (q0, .inr (16, [.ref (a)])) H1 := hT9
  have hG := gE.ofS hG0 hS (fun _ h => h.elim)
  refine W.eq (g2 := F0 m 11 ls [.ref (q0)]) rfl ?_
  exact g_aret hx hb hr (Or.inl ⟨_, rfl⟩) hlocks hS ⟨Nat.le_of_ble_eq_true rfl, Nat.le_of_ble_eq_true rfl⟩ dJ20_of_11 (by skip; exact ⟨_, rfl, hge_t0, hT_t0⟩)

set_option maxHeartbeats 4000000 in
set_option maxRecDepth 100000 in
theorem met_J20_empty (l : Launch) (D : va_G) (E : Nat → Nat)   : PM l D E yJ20_empty cJ20_empty 1 (Option.some (Jvm.ClassFile.FieldType.object "java/util/Optional")) 0 0 [] (fun _ => True) (some (.ref (E 7))) := by
  refine PM.start (by decide) (Nat.le_of_ble_eq_true rfl) ?_
  intro p e s m below meth c ls hx hb hr hml hown hlocks hts hG hTriv hl
  have hown : s.vm.findClass RJ20 = some m.cls := hown
  have hS0 : xS p m c cJ20_empty 1 s _ RJ20 := ⟨hx, hb, hml, hown, hts⟩
  have hl : lv_has ls 1 [] := hl
  refine gs hx hb hG.em hown (hts _ q653) (fun _ h => h) dJ20_empty_0 ?_
  refine lv_astore_n (lv' := [(0, .ref (E 7))]) hx hb dJ20_empty_3 rfl hl (Nat.le_of_ble_eq_true rfl) rfl (fun ls hl => ?_)
  refine lv_aload_n hx hb dJ20_empty_4 rfl (lv_at hl 0 rfl) ?_
  exact p_aret hx hb hr (Or.inl ⟨_, rfl⟩) hlocks dJ20_empty_5 rfl

set_option maxHeartbeats 4000000 in
set_option maxRecDepth 100000 in
theorem met_J17_valueOf_n (l : Launch) (D : va_G) (E : Nat → Nat) (k : Nat) (hk : 127 < k) (hk2 : k ≤ 1000) : GM l D E yJ17_valueOf cJ17_valueOf 1 (Option.some (Jvm.ClassFile.FieldType.object "java/lang/Integer")) 3 53 1 1 [.int (nI k)] (fun _ => True) (fun _ => False) (fun _ => False) (fun sz v h => ∃ q, v = some (.ref q) ∧ sz ≤ q ∧ va_at D vwCl (q, .inr (14, [.int (nI k)])) h)  := by
  refine GM.start (by decide) (Nat.le_of_ble_eq_true rfl) ?_
  intro p e s m below meth c ls hx hb hr hml hown hlocks hnm hts hG hTriv hS hl
  have hown : s.vm.findClass RJ17 = some m.cls := hown
  have hS0 : xS p m c cJ17_valueOf 1 s _ RJ17 := ⟨hx, hb, hml, hown, hts⟩
  have hl : lv_has ls 1 [(0, .int (nI k))] := hl
  have hG0 := hG
  refine lv_iload_n hx hb dJ17_valueOf_0 rfl (lv_at hl 0 rfl) ?_
  refine lv_bipush (v := (-128)) hx hb dJ17_valueOf_1 (by decide) ?_
  refine lv_icmp_lt (tgt := 23) hx hb dJ17_valueOf_3 (by decide) (fun c9 => absurd c9 ((by have h9 : nI 0 ≤ nI k := nI_le (by omega) (by omega); exact fun z => i_nle z (Int32.le_trans (by decide) h9)))) (fun _ => ?_)
  refine lv_iload_n hx hb dJ17_valueOf_6 rfl (lv_at hl 0 rfl) ?_
  refine gs hx hb hG.hi hown (hts _ q633) (fun _ h => h) dJ17_valueOf_7 ?_
  refine lv_icmp_gt (tgt := 23) hx hb dJ17_valueOf_10 (by decide) (fun _ => ?_) (fun c9 => absurd ((by have h9 : nI 127 < nI k := nI_lt hk (by omega); exact h9)) c9)
  have hB := hS.1
  refine nw (ci := 14) (C := RJ17) (T := TJ17) (N := 1) (fs := [.int 0]) (ty := tyJ17) hx hb hts hown hG hS cl_J17 in_J17 tyJ17_ok q637 q638 q125 (df_J17) ⟨Nat.le_of_ble_eq_true rfl, Nat.le_of_ble_eq_true rfl⟩ dJ17_valueOf_23 (fun q23 H1 hq9 hT_t23 hz ho hS => ?_)
  have hG := gE.ofS hG0 hS (fun _ h => h.elim)
  have hge_t23 : s.heap.size ≤ q23 := by have := hB; omega
  refine lv_dup hx hb dJ17_valueOf_26 rfl ?_
  refine lv_iload_n hx hb dJ17_valueOf_27 rfl (lv_at hl 0 rfl) ?_
  have hB := hS.1
  have hL_t23 : q23 < _ := hT_t23.lt
  refine gcI (As := [.int (nI k)]) (rest := [.ref (q23)]) hS0 (met_J17_init l D E q23 (nI k)) q639 q640 q125 q641 rfl hd_J17_init ⟨Nat.le_of_ble_eq_true rfl, Nat.le_of_ble_eq_true rfl⟩ hG ⟨hT_t23, (Nat.le_trans hG0.2.2.1 hge_t23)⟩ rfl hl.1 rfl (Nat.le_of_ble_eq_true rfl) dJ17_valueOf_28 ⟨Nat.le_of_ble_eq_true rfl, Nat.le_of_ble_eq_true rfl⟩ hS (fun q h => by have h : q = q23 := h; rw [h]; exact (Or.inr hge_t23)) (fun q h => by have h : q = q23 := h; rw [h]; exact (Or.inr hge_t23)) (fun v H1 locs1 hP hz hk hS => ?_)
  obtain ⟨rfl, hT9⟩ := hP
  have hT_t23 : va_at D vwCl (q23, .inr (14, [.int (nI k)])) H1 := hT9
  have hG := gE.ofS hG0 hS (fun _ h => h.elim)
  refine W.eq (g2 := F0 m 31 ls [.ref (q23)]) rfl ?_
  exact g_aret hx hb hr (Or.inl ⟨_, rfl⟩) hlocks hS ⟨Nat.le_of_ble_eq_true rfl, Nat.le_of_ble_eq_true rfl⟩ dJ17_valueOf_31 (by skip; exact ⟨_, rfl, hge_t23, hT_t23⟩)

