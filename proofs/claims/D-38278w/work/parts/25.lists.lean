/-! lists that grow -/
set_option maxRecDepth 100000
theorem min_nn {a b : Nat} (h : a ≤ b) (hb : b < 2 ^ 31) : (if nI b < nI a then nI b else nI a) = nI a := if_neg (fun z => i_nle z (nI_le h hb))
theorem max_nn {a b : Nat} (ha : a < 2 ^ 31) (hb : b < 2 ^ 31) : (if nI a < nI b then nI b else nI a) = nI (max a b) := by
  by_cases h : a < b
  · rw [if_pos (nI_lt h hb), Nat.max_eq_right (by omega)]
  · rw [if_neg (fun z => i_nle z (nI_le (by omega) ha)), Nat.max_eq_left (by omega)]
theorem shr1 {a : Nat} (h : a < 2 ^ 30) : nI a >>> ((1 : Int32) &&& 31) = nI (a / 2) := by
  exact pk_shrN (by omega) _ 1 (by decide)
theorem oK.mv {D : va_G} {E : Nat → Nat} {H H1 : Heap} {z : Nat} (h : oK D E z H) (ho : ∀ x : Nat, x < H.size → H1[x]? = H[x]?) : oK D E z H1 := by
  rcases h with ⟨ci, fs, h⟩ | h | h
  · exact Or.inl ⟨ci, fs, h.kept (ho _ h.lt)⟩
  · exact Or.inr (Or.inl h)
  · exact Or.inr (Or.inr h)
theorem oK.mv2 {D : va_G} {E : Nat → Nat} {H H1 : Heap} {z : Nat} {A1 : Nat → Prop} (h : oK D E z H) (hz : ¬ A1 z) (hk : ∀ q : Nat, q < H.size → ¬ A1 q → H1[q]? = H[q]?) : oK D E z H1 := by
  rcases h with ⟨ci, fs, h⟩ | h | h
  · exact Or.inl ⟨ci, fs, h.kept (hk _ h.lt hz)⟩
  · exact Or.inr (Or.inl h)
  · exact Or.inr (Or.inr h)
theorem g_sel {l : Launch} {s : State} {D : va_G} {E : Nat → Nat} {H : Heap} {a N : Nat} {f : Nat → Option Nat} (hG : gE D E s H) (h : va_at D vwCl (a, arQ E N f) H) : ∃ cell : Cell, H[a]? = some cell ∧ cell.vm.isStatics = false ∧ s.vm.findClass "[Ljava/lang/Object;" = some cell.cls := by
  obtain ⟨kA0, comp0, k1, k2, k3, k4⟩ := (hG.1.2 2 _ rfl).2
  exact ⟨_, h, rfl, k4⟩
set_option maxHeartbeats 4000000 in
set_option maxRecDepth 100000 in
theorem met_J5_copyOf_2 (l : Launch) (D : va_G) (E : Nat → Nat) (a0 : Nat) (nc : Nat) (N0 : Nat) (f0 : Nat → Option Nat) (hle : N0 ≤ nc) (hnc : nc ≤ 100) (h00 : 0 < N0) : GM l D E yJ5_copyOf_2 cJ5_copyOf_2 4 (Option.some (Jvm.ClassFile.FieldType.array (Jvm.ClassFile.FieldType.object "java/lang/Object"))) 1 40 1 100 [.ref (a0), .int (nI nc), .ref (E 90)] (fun h => va_at D vwCl (a0, arQ E N0 f0) h ∧ (∀ i y, i < N0 → f0 i = some y → oK D E y h) ∧ E 0 ≤ a0) (fun z => z = a0) (fun z => z = a0) (fun sz v h => ∃ q, v = some (.ref q) ∧ sz ≤ q ∧ va_at D vwCl (q, arQ E nc (va_cpy f0 (fun _ => none) 0 0 N0)) h ∧ va_at D vwCl (a0, arQ E N0 f0) h)  := by
  refine GM.start (by decide) (Nat.le_of_ble_eq_true rfl) ?_
  intro p e s m below meth c ls hx hb hr hml hown hlocks hnm hts hG ⟨hT_a, hel, hq0⟩ hS hl
  have hown : s.vm.findClass RJ5 = some m.cls := hown
  have hS0 : xS p m c cJ5_copyOf_2 4 s _ RJ5 := ⟨hx, hb, hml, hown, hts⟩
  have hl : lv_has ls 4 [(0, .ref (a0)), (1, .int (nI nc)), (2, .ref (E 90))] := hl
  have hG0 := hG
  refine lv_aload_n hx hb dJ5_copyOf_2_0 rfl (lv_at hl 2 rfl) ?_
  refine va_ldcM hx hb hown (hts _ q289) hG.2.1.2.2.2.2.2.2.2.2.1 dJ5_copyOf_2_1 ?_
  refine lv_acmp_ne (rx := some (E 90)) (ry := some (E 90)) (tgt := 13) hx hb dJ5_copyOf_2_3 (by decide) (fun h => absurd rfl h) (fun _ => ?_)
  refine lv_iload_n hx hb dJ5_copyOf_2_6 rfl (lv_at hl 1 rfl) ?_
  have hB := hS.1
  have hL_a : a0 < _ := hT_a.lt
  obtain hN9 : nc ≤ 100 := hnc
  refine nwQ (N := nc) hx hb hown (hts _ q291) hG hS (by omega) ⟨by show _ ≤ 1; omega, by show _ ≤ 100; omega⟩ dJ5_copyOf_2_7 (fun q7 H1 hq9 hT_t7 hz ho hS => ?_)
  refine W.widen (k := 1) (n := 100) (by omega) (by omega) ?_
  have hT_a : va_at D vwCl (a0, arQ E N0 f0) H1 := hT_a.kept (ho _ hT_a.lt)
  have hG := gE.ofS hG0 hS (fun q h => by have h : q = a0 := h; rw [h]; exact hq0)
  have hne_a_t7 : a0 ≠ q7 := by have h9 := hL_a; omega
  have hge_t7 : s.heap.size ≤ q7 := by have := hB; omega
  refine lv_goto (tgt := 24) hx hb dJ5_copyOf_2_10 (by decide) ?_
  refine lv_astore_n (lv' := [(3, .ref (q7)), (0, .ref (a0)), (1, .int (nI nc)), (2, .ref (E 90))]) hx hb dJ5_copyOf_2_24 rfl hl (Nat.le_of_ble_eq_true rfl) rfl (fun ls hl => ?_)
  refine lv_aload_n hx hb dJ5_copyOf_2_25 rfl (lv_at hl 1 rfl) ?_
  refine lv_iconst (v := 0) hx hb dJ5_copyOf_2_26 (by decide) ?_
  refine lv_aload_n hx hb dJ5_copyOf_2_27 rfl (lv_at hl 0 rfl) ?_
  refine lv_iconst (v := 0) hx hb dJ5_copyOf_2_28 (by decide) ?_
  refine lv_aload_n hx hb dJ5_copyOf_2_29 rfl (lv_at hl 1 rfl) ?_
  refine gl (N := N0) hx hb hG hT_a (t := 2) rfl rfl dJ5_copyOf_2_30 ?_
  refine lv_iload_n hx hb dJ5_copyOf_2_31 rfl (lv_at hl 2 rfl) ?_
  refine va_mmin hx hb (hml.trans hl.1.symm) hown (hts _ q292) (hts _ q293) (hts _ q107) (hts _ q294) (Nat.le_of_ble_eq_true rfl) (Nat.le_of_ble_eq_true rfl) (Nat.le_of_ble_eq_true rfl) (Nat.le_of_ble_eq_true rfl) dJ5_copyOf_2_32 ?_
  refine W.eq (g2 := F0 m 35 ls [.int (if (nI nc) < (nI N0) then (nI nc) else (nI N0)), .int 0, .ref (q7), .int 0, .ref (a0)]) rfl ?_
  refine lv_eq (min_nn hle (by omega)) ?_
  refine cpQ (k := N0) hx hb (hml.trans hl.1.symm) hown (hts _ q295) (hts _ q297) (hts _ q296) (hts _ q109) hG hS hT_a hT_t7 hne_a_t7 (Or.inl rfl) (Or.inr hge_t7) (Nat.le_refl _) (by omega) (by omega) (fun i hi y hy => oK.any hG ((hel i y hi hy).mv ho)) (by decide) (Nat.le_of_ble_eq_true rfl) dJ5_copyOf_2_35 (fun H1 locs1 hT_a hT_t7 hS => ?_)
  have hG := gE.ofS hG0 hS (fun q h => by have h : q = a0 := h; rw [h]; exact hq0)
  refine lv_aload_n hx hb dJ5_copyOf_2_38 rfl (lv_at hl 0 rfl) ?_
  exact g_aret hx hb hr (Or.inr ⟨_, rfl⟩) hlocks hS ⟨Nat.le_of_ble_eq_true rfl, Nat.le_of_ble_eq_true rfl⟩ dJ5_copyOf_2_39 (by skip; exact ⟨_, rfl, hge_t7, hT_t7, hT_a⟩)

set_option maxHeartbeats 4000000 in
set_option maxRecDepth 100000 in
theorem met_J5_copyOf (l : Launch) (D : va_G) (E : Nat → Nat) (a0 : Nat) (nc : Nat) (N0 : Nat) (f0 : Nat → Option Nat) (hle : N0 ≤ nc) (hnc : nc ≤ 100) (h00 : 0 < N0) : GM l D E yJ5_copyOf cJ5_copyOf 2 (Option.some (Jvm.ClassFile.FieldType.array (Jvm.ClassFile.FieldType.object "java/lang/Object"))) 2 63 1 100 [.ref (a0), .int (nI nc)] (fun h => va_at D vwCl (a0, arQ E N0 f0) h ∧ (∀ i y, i < N0 → f0 i = some y → oK D E y h) ∧ E 0 ≤ a0) (fun z => z = a0) (fun z => z = a0) (fun sz v h => ∃ q, v = some (.ref q) ∧ sz ≤ q ∧ va_at D vwCl (q, arQ E nc (va_cpy f0 (fun _ => none) 0 0 N0)) h ∧ va_at D vwCl (a0, arQ E N0 f0) h)  := by
  refine GM.start (by decide) (Nat.le_of_ble_eq_true rfl) ?_
  intro p e s m below meth c ls hx hb hr hml hown hlocks hnm hts hG ⟨hT_a, hel, hq0⟩ hS hl
  have hown : s.vm.findClass RJ5 = some m.cls := hown
  have hS0 : xS p m c cJ5_copyOf 2 s _ RJ5 := ⟨hx, hb, hml, hown, hts⟩
  have hl : lv_has ls 2 [(0, .ref (a0)), (1, .int (nI nc))] := hl
  have hG0 := hG
  refine lv_aload_n hx hb dJ5_copyOf_0 rfl (lv_at hl 0 rfl) ?_
  refine lv_iload_n hx hb dJ5_copyOf_1 rfl (lv_at hl 1 rfl) ?_
  refine lv_aload_n hx hb dJ5_copyOf_2 rfl (lv_at hl 0 rfl) ?_
  refine va_getC hx hb (hml.trans hl.1.symm) hown (hts _ q258) (va_Dc.use hG.2.1.2.2.2.2.2.2.2.2.2.1) (hts _ q2112) (hts _ q259) (hts _ q285) hG.2.1.2.2.2.2.2.2.2.2.1 (g_sel (l := l) hG hT_a) (Nat.le_of_ble_eq_true rfl) (Nat.le_of_ble_eq_true rfl) dJ5_copyOf_3 ?_
  have hB := hS.1
  have hL_a : a0 < _ := hT_a.lt
  refine gcS (As := [.ref (a0), .int (nI nc), .ref (E 90)]) (rest := []) hS0 (met_J5_copyOf_2 l D E a0 nc N0 f0 hle hnc h00) q286 q287 q108 q288 hd_J5_copyOf_2 ⟨Nat.le_of_ble_eq_true rfl, Nat.le_of_ble_eq_true rfl⟩ hG ⟨hT_a, hel, hq0⟩ rfl hl.1 rfl (Nat.le_of_ble_eq_true rfl) dJ5_copyOf_6 ⟨Nat.le_of_ble_eq_true rfl, Nat.le_of_ble_eq_true rfl⟩ hS (fun q h => by have h : q = a0 := h; rw [h]; exact (Or.inl rfl)) (fun q h => by have h : q = a0 := h; rw [h]; exact (Or.inl rfl)) (fun v H1 locs1 hP hz hk hS => ?_)
  obtain ⟨q6, rfl, hq9, hT_t6, hT9⟩ := hP
  have hT_a : va_at D vwCl (a0, arQ E N0 f0) H1 := hT9
  have hG := gE.ofS hG0 hS (fun q h => by have h : q = a0 := h; rw [h]; exact hq0)
  have hne_a_t6 : a0 ≠ q6 := by have h9 := hL_a; omega
  have hge_t6 : s.heap.size ≤ q6 := by have := hB; omega
  refine W.eq (g2 := F0 m 9 ls [.ref (q6)]) rfl ?_
  exact g_aret hx hb hr (Or.inr ⟨_, rfl⟩) hlocks hS ⟨Nat.le_of_ble_eq_true rfl, Nat.le_of_ble_eq_true rfl⟩ dJ5_copyOf_9 (by skip; exact ⟨_, rfl, hge_t6, hT_t6, hT_a⟩)

set_option maxHeartbeats 4000000 in
set_option maxRecDepth 100000 in
theorem met_J3_newLength (l : Launch) (D : va_G) (E : Nat → Nat) (c0 : Nat) (c2 : Nat) (hc0 : c0 ≤ 1000) (hc2 : c2 ≤ 1000) : PM l D E yJ3_newLength cJ3_newLength 4 (Option.some Jvm.ClassFile.FieldType.int) 1 24 [.int (nI c0), .int 1, .int (nI c2)] (fun _ => True) (some (.int (nI (c0 + max 1 c2)))) := by
  refine PM.start (by decide) (Nat.le_of_ble_eq_true rfl) ?_
  intro p e s m below meth c ls hx hb hr hml hown hlocks hts hG hTriv hl
  have hown : s.vm.findClass RJ3 = some m.cls := hown
  have hS0 : xS p m c cJ3_newLength 4 s _ RJ3 := ⟨hx, hb, hml, hown, hts⟩
  have hl : lv_has ls 4 [(0, .int (nI c0)), (1, .int 1), (2, .int (nI c2))] := hl
  refine lv_iload_n hx hb dJ3_newLength_0 rfl (lv_at hl 0 rfl) ?_
  refine lv_iload_n hx hb dJ3_newLength_1 rfl (lv_at hl 1 rfl) ?_
  refine lv_iload_n hx hb dJ3_newLength_2 rfl (lv_at hl 2 rfl) ?_
  refine va_mmax hx hb (hml.trans hl.1.symm) hown (hts _ q248) (hts _ q249) (hts _ q107) (hts _ q250) (Nat.le_of_ble_eq_true rfl) (Nat.le_of_ble_eq_true rfl) (Nat.le_refl _) (Nat.le_refl _) dJ3_newLength_3 ?_
  refine W.eq (g2 := F0 m 6 ls [.int (if 1 < (nI c2) then (nI c2) else 1), .int (nI c0)]) rfl ?_
  refine lv_eq (max_nn (a := 1) (b := c2) (by omega) (by omega)) ?_
  refine lv_iadd hx hb dJ3_newLength_6 ?_
  refine lv_eq (nI_add c0 (max 1 c2)) ?_
  refine lv_istore_n (lv' := [(3, .int (nI (c0 + (max 1 c2)))), (0, .int (nI c0)), (1, .int 1), (2, .int (nI c2))]) hx hb dJ3_newLength_7 rfl hl (Nat.le_of_ble_eq_true rfl) rfl (fun ls hl => ?_)
  refine lv_iconst (v := 0) hx hb dJ3_newLength_8 (by decide) ?_
  refine lv_iload_n hx hb dJ3_newLength_9 rfl (lv_at hl 0 rfl) ?_
  refine lv_icmp_ge (tgt := 21) hx hb dJ3_newLength_10 (by decide) (fun c9 => absurd c9 ((by have h9 : ¬ nI (c0 + max 1 c2) ≤ nI 0 := nI_ge (by omega) (by omega); exact h9))) (fun _ => ?_)
  refine lv_iload_n hx hb dJ3_newLength_13 rfl (lv_at hl 0 rfl) ?_
  refine lv_ldc (v := 2147483639) hx hb hown (hts _ q251) dJ3_newLength_14 ?_
  refine lv_icmp_gt (tgt := 21) hx hb dJ3_newLength_16 (by decide) (fun c9 => absurd c9 ((by have h9 : nI (c0 + max 1 c2) ≤ nI 2147483639 := nI_le (by omega) (by decide); exact fun z => i_nle z h9))) (fun _ => ?_)
  refine lv_iload_n hx hb dJ3_newLength_19 rfl (lv_at hl 0 rfl) ?_
  exact p_iret hx hb hr hlocks dJ3_newLength_20 rfl

set_option maxHeartbeats 4000000 in
set_option maxRecDepth 100000 in
theorem met_J2_grow_2 (l : Launch) (D : va_G) (E : Nat → Nat) (q0 : Nat) (a1 : Nat) (mo : Int32) (n : Nat) (cap : Nat) (g : Nat → Option Nat) (hne_this_arr : q0 ≠ a1) (hcap : cap ≤ 66) (h00 : 0 < cap) : GM l D E yJ2_grow_2 cJ2_grow_2 4 (Option.some (Jvm.ClassFile.FieldType.array (Jvm.ClassFile.FieldType.object "java/lang/Object"))) 3 84 1 100 [.ref (q0), .int (nI (cap + 1))] (fun h => va_at D vwCl (q0, .inr (13, [.int mo, .ref a1, .int (nI cap)])) h ∧ va_at D vwCl (a1, arQ E cap g) h ∧ (∀ i y, i < cap → g i = some y → oK D E y h) ∧ E 0 ≤ q0 ∧ E 0 ≤ a1) (fun z => z = q0 ∨ z = a1) (fun z => z = q0 ∨ z = a1) (fun sz v h => ∃ q, v = some (.ref q) ∧ sz ≤ q ∧ va_at D vwCl (q, arQ E (cap + max 1 (cap / 2)) (va_cpy g (fun _ => none) 0 0 cap)) h ∧ va_at D vwCl (q0, .inr (13, [.int mo, .ref q, .int (nI cap)])) h)  := by
  refine GM.start (by decide) (Nat.le_of_ble_eq_true rfl) ?_
  intro p e s m below meth c ls hx hb hr hml hown hlocks hnm hts hG ⟨hT_this, hT_arr, hel, hq0, hq1⟩ hS hl
  have hown : s.vm.findClass RJ2 = some m.cls := hown
  have hS0 : xS p m c cJ2_grow_2 4 s _ RJ2 := ⟨hx, hb, hml, hown, hts⟩
  have hl : lv_has ls 4 [(0, .ref (q0)), (1, .int (nI (cap + 1)))] := hl
  have hG0 := hG
  refine lv_aload_n hx hb dJ2_grow_2_0 rfl (lv_at hl 0 rfl) ?_
  refine gf (v := .ref (a1)) (C := RJ2) (T := TJ2) (N := 3) (k := 1) hx hb hts hown hG cl_J2 in_J2 hT_this (by decide) q163 rfl dJ2_grow_2_1 ?_
  refine gl (N := cap) hx hb hG hT_arr (t := 2) rfl rfl dJ2_grow_2_4 ?_
  refine lv_istore_n (lv' := [(2, .int (nI cap)), (0, .ref (q0)), (1, .int (nI (cap + 1)))]) hx hb dJ2_grow_2_5 rfl hl (Nat.le_of_ble_eq_true rfl) rfl (fun ls hl => ?_)
  refine lv_iload_n hx hb dJ2_grow_2_6 rfl (lv_at hl 0 rfl) ?_
  refine lv_if_gt (tgt := 20) hx hb dJ2_grow_2_7 (by decide) (fun _ => ?_) (fun c9 => absurd ((by have h9 : nI 0 < nI cap := nI_lt h00 (by omega); exact h9)) c9)
  refine lv_iload_n hx hb dJ2_grow_2_20 rfl (lv_at hl 0 rfl) ?_
  refine lv_iload_n hx hb dJ2_grow_2_21 rfl (lv_at hl 2 rfl) ?_
  refine lv_iload_n hx hb dJ2_grow_2_22 rfl (lv_at hl 0 rfl) ?_
  refine lv_isub hx hb dJ2_grow_2_23 ?_
  refine lv_eq (nI_sb (a := cap + 1) (b := cap) (by omega)) ?_
  refine lv_eq (show nI (cap + 1 - cap) = 1 by rw [Nat.add_sub_cancel_left]; rfl) ?_
  refine lv_iload_n hx hb dJ2_grow_2_24 rfl (lv_at hl 0 rfl) ?_
  refine lv_iconst (v := 1) hx hb dJ2_grow_2_25 (by decide) ?_
  refine lv_ishr hx hb dJ2_grow_2_26 ?_
  refine lv_eq (shr1 (a := cap) (by omega)) ?_
  refine pcS (As := [.int (nI cap), .int 1, .int (nI (cap / 2))]) (rest := []) hS0 (met_J3_newLength l D E cap (cap / 2) (by omega) (by omega)) q245 q246 q106 q247 hd_J3_newLength ⟨Nat.le_of_ble_eq_true rfl, Nat.le_of_ble_eq_true rfl⟩ hG trivial rfl hl.1 rfl (Nat.le_of_ble_eq_true rfl) dJ2_grow_2_27 ⟨Nat.le_of_ble_eq_true rfl, Nat.le_of_ble_eq_true rfl⟩ ?_
  refine W.eq (g2 := F0 m 30 ls [.int (nI (cap + max 1 (cap / 2)))]) rfl ?_
  refine lv_istore_n (lv' := [(3, .int (nI (cap + max 1 (cap / 2)))), (2, .int (nI cap)), (0, .ref (q0)), (1, .int (nI (cap + 1)))]) hx hb dJ2_grow_2_30 rfl hl (Nat.le_of_ble_eq_true rfl) rfl (fun ls hl => ?_)
  refine lv_aload_n hx hb dJ2_grow_2_31 rfl (lv_at hl 2 rfl) ?_
  refine lv_aload_n hx hb dJ2_grow_2_32 rfl (lv_at hl 2 rfl) ?_
  refine gf (v := .ref (a1)) (C := RJ2) (T := TJ2) (N := 3) (k := 1) hx hb hts hown hG cl_J2 in_J2 hT_this (by decide) q163 rfl dJ2_grow_2_33 ?_
  refine lv_iload_n hx hb dJ2_grow_2_36 rfl (lv_at hl 0 rfl) ?_
  have hB := hS.1
  have hL_this : q0 < _ := hT_this.lt
  have hL_arr : a1 < _ := hT_arr.lt
  refine gcS (As := [.ref (a1), .int (nI (cap + max 1 (cap / 2)))]) (rest := [.ref (q0)]) hS0 (met_J5_copyOf l D E a1 (cap + max 1 (cap / 2)) cap g (by omega) (by omega) (by omega)) q255 q256 q108 q257 hd_J5_copyOf ⟨Nat.le_of_ble_eq_true rfl, Nat.le_of_ble_eq_true rfl⟩ hG ⟨hT_arr, hel, hq1⟩ rfl hl.1 rfl (Nat.le_of_ble_eq_true rfl) dJ2_grow_2_37 ⟨Nat.le_of_ble_eq_true rfl, Nat.le_of_ble_eq_true rfl⟩ hS (fun q h => by have h : q = a1 := h; rw [h]; exact (Or.inl (Or.inr rfl))) (fun q h => by have h : q = a1 := h; rw [h]; exact (Or.inl (Or.inr rfl))) (fun v H1 locs1 hP hz hk hS => ?_)
  obtain ⟨q37, rfl, hq9, hT_t37, hT9⟩ := hP
  have hT_this : va_at D vwCl (q0, .inr (13, [.int (mo), .ref (a1), .int (nI cap)])) H1 := hT_this.kept (hk _ hT_this.lt (fun e9 => absurd e9 hne_this_arr))
  have hT_arr : va_at D vwCl (a1, arQ E cap g) H1 := hT9
  have hG := gE.ofS hG0 hS (fun q h => h.elim (fun h => by rw [h]; exact hq0) (fun h => by rw [h]; exact hq1))
  have hne_this_t37 : q0 ≠ q37 := by have h9 := hL_this; omega
  have hne_arr_t37 : a1 ≠ q37 := by have h9 := hL_arr; omega
  have hge_t37 : s.heap.size ≤ q37 := by have := hB; omega
  refine W.eq (g2 := F0 m 40 ls [.ref (q37), .ref (q0)]) rfl ?_
  refine lv_dup_x1 hx hb dJ2_grow_2_40 rfl rfl ?_
  have hB := hS.1
  have hL_this : q0 < _ := hT_this.lt
  have hL_arr : a1 < _ := hT_arr.lt
  have hL_t37 : q37 < _ := hT_t37.lt
  refine pf (ty0 := tyJ2) (ty := tyJ2 1) (v := .ref (q37)) (C := RJ2) (T := TJ2) (N := 3) (k := 1) hx hb hts hown hG hS cl_J2 in_J2 tyJ2_ok nmJ2 hT_this (Or.inl (Or.inl rfl)) (Or.inl (Or.inl rfl)) (by decide) q163 rfl (tyJ2_ok 1 (by decide)) rfl rfl (Nat.le_of_ble_eq_true rfl) dJ2_grow_2_41 (fun H1 locs1 he hz hq hS => ?_)
  have hT_arr : va_at D vwCl (a1, arQ E cap g) H1 := hT_arr.kept (hq _ (fun e9 => absurd e9 hne_this_arr.symm))
  have hT_t37 : va_at D vwCl (q37, arQ E (cap + max 1 (cap / 2)) (va_cpy g (fun _ => none) 0 0 cap)) H1 := hT_t37.kept (hq _ (fun e9 => absurd e9 hne_this_t37.symm))
  have hT_this : va_at D vwCl (q0, .inr (13, [.int (mo), .ref (q37), .int (nI cap)])) H1 := he
  have hG := gE.ofS hG0 hS (fun q h => h.elim (fun h => by rw [h]; exact hq0) (fun h => by rw [h]; exact hq1))
  exact g_aret hx hb hr (Or.inr ⟨_, rfl⟩) hlocks hS ⟨Nat.le_of_ble_eq_true rfl, Nat.le_of_ble_eq_true rfl⟩ dJ2_grow_2_44 (by skip; exact ⟨_, rfl, hge_t37, hT_t37, hT_this⟩)

set_option maxHeartbeats 4000000 in
set_option maxRecDepth 100000 in
theorem met_J2_grow (l : Launch) (D : va_G) (E : Nat → Nat) (q0 : Nat) (a1 : Nat) (mo : Int32) (n : Nat) (cap : Nat) (g : Nat → Option Nat) (hne_this_arr : q0 ≠ a1) (hcap : cap ≤ 66) (h00 : 0 < cap) : GM l D E yJ2_grow cJ2_grow 1 (Option.some (Jvm.ClassFile.FieldType.array (Jvm.ClassFile.FieldType.object "java/lang/Object"))) 4 107 1 100 [.ref (q0)] (fun h => va_at D vwCl (q0, .inr (13, [.int mo, .ref a1, .int (nI cap)])) h ∧ va_at D vwCl (a1, arQ E cap g) h ∧ (∀ i y, i < cap → g i = some y → oK D E y h) ∧ E 0 ≤ q0 ∧ E 0 ≤ a1) (fun z => z = q0 ∨ z = a1) (fun z => z = q0 ∨ z = a1) (fun sz v h => ∃ q, v = some (.ref q) ∧ sz ≤ q ∧ va_at D vwCl (q, arQ E (cap + max 1 (cap / 2)) (va_cpy g (fun _ => none) 0 0 cap)) h ∧ va_at D vwCl (q0, .inr (13, [.int mo, .ref q, .int (nI cap)])) h)  := by
  refine GM.start (by decide) (Nat.le_of_ble_eq_true rfl) ?_
  intro p e s m below meth c ls hx hb hr hml hown hlocks hnm hts hG ⟨hT_this, hT_arr, hel, hq0, hq1⟩ hS hl
  have hown : s.vm.findClass RJ2 = some m.cls := hown
  have hS0 : xS p m c cJ2_grow 1 s _ RJ2 := ⟨hx, hb, hml, hown, hts⟩
  have hl : lv_has ls 1 [(0, .ref (q0))] := hl
  have hG0 := hG
  refine lv_aload_n hx hb dJ2_grow_0 rfl (lv_at hl 0 rfl) ?_
  refine lv_aload_n hx hb dJ2_grow_1 rfl (lv_at hl 0 rfl) ?_
  refine gf (v := .int (nI cap)) (C := RJ2) (T := TJ2) (N := 3) (k := 2) hx hb hts hown hG cl_J2 in_J2 hT_this (by decide) q166 rfl dJ2_grow_2 ?_
  refine lv_iconst (v := 1) hx hb dJ2_grow_5 (by decide) ?_
  refine lv_iadd hx hb dJ2_grow_6 ?_
  refine lv_eq (nI_add cap 1) ?_
  have hB := hS.1
  have hL_this : q0 < _ := hT_this.lt
  have hL_arr : a1 < _ := hT_arr.lt
  refine gcV (As := [.int (nI (cap + 1))]) (rest := []) hS0 (met_J2_grow_2 l D E q0 a1 mo n cap g hne_this_arr hcap h00) q241 q243 qs3 q103 q244 hd_J2_grow_2 ⟨Nat.le_of_ble_eq_true rfl, Nat.le_of_ble_eq_true rfl⟩ hG (rcv hG cl_J2 hT_this) ⟨hT_this, hT_arr, hel, hq0, hq1⟩ rfl hl.1 rfl (Nat.le_of_ble_eq_true rfl) dJ2_grow_7 ⟨Nat.le_of_ble_eq_true rfl, Nat.le_of_ble_eq_true rfl⟩ hS (fun q h => h.elim (fun h => by rw [h]; exact (Or.inl (Or.inl rfl))) (fun h => by rw [h]; exact (Or.inl (Or.inr rfl)))) (fun q h => h.elim (fun h => by rw [h]; exact (Or.inl (Or.inl rfl))) (fun h => by rw [h]; exact (Or.inl (Or.inr rfl)))) (fun v H1 locs1 hP hz hk hS => ?_)
  obtain ⟨q7, rfl, hq9, hT_t7, hT9⟩ := hP
  have hT_this : va_at D vwCl (q0, .inr (13, [.int (mo), .ref (q7), .int (nI cap)])) H1 := hT9
  have hG := gE.ofS hG0 hS (fun q h => h.elim (fun h => by rw [h]; exact hq0) (fun h => by rw [h]; exact hq1))
  have hne_this_t7 : q0 ≠ q7 := by have h9 := hL_this; omega
  have hge_t7 : s.heap.size ≤ q7 := by have := hB; omega
  refine W.eq (g2 := F0 m 10 ls [.ref (q7)]) rfl ?_
  exact g_aret hx hb hr (Or.inr ⟨_, rfl⟩) hlocks hS ⟨Nat.le_of_ble_eq_true rfl, Nat.le_of_ble_eq_true rfl⟩ dJ2_grow_10 (by skip; exact ⟨_, rfl, hge_t7, hT_t7, hT_this⟩)

set_option maxHeartbeats 4000000 in
set_option maxRecDepth 100000 in
theorem met_J2_grow_2_e (l : Launch) (D : va_G) (E : Nat → Nat) (q0 : Nat) (mo : Int32)  : GM l D E yJ2_grow_2 cJ2_grow_2 4 (Option.some (Jvm.ClassFile.FieldType.array (Jvm.ClassFile.FieldType.object "java/lang/Object"))) 1 24 1 10 [.ref (q0), .int 1] (fun h => va_at D vwCl (q0, .inr (13, [.int mo, .ref (E 6), .int 0])) h ∧ E 0 ≤ q0) (fun z => z = q0) (fun z => z = q0) (fun sz v h => ∃ q, v = some (.ref q) ∧ sz ≤ q ∧ va_at D vwCl (q, arQ E 10 (fun _ => none)) h ∧ va_at D vwCl (q0, .inr (13, [.int mo, .ref q, .int 0])) h)  := by
  refine GM.start (by decide) (Nat.le_of_ble_eq_true rfl) ?_
  intro p e s m below meth c ls hx hb hr hml hown hlocks hnm hts hG ⟨hT_this, hq0⟩ hS hl
  have hown : s.vm.findClass RJ2 = some m.cls := hown
  have hS0 : xS p m c cJ2_grow_2 4 s _ RJ2 := ⟨hx, hb, hml, hown, hts⟩
  have hl : lv_has ls 4 [(0, .ref (q0)), (1, .int 1)] := hl
  have hG0 := hG
  refine lv_aload_n hx hb dJ2_grow_2_0 rfl (lv_at hl 0 rfl) ?_
  refine gf (v := .ref (E 6)) (C := RJ2) (T := TJ2) (N := 3) (k := 1) hx hb hts hown hG cl_J2 in_J2 hT_this (by decide) q163 rfl dJ2_grow_2_1 ?_
  refine glE6 hx hb hG0.2.2.2.2.2.2.2.2.2.1 hS (fun q h => by have h : q = q0 := h; rw [h]; exact hq0) (fun q h => by have h : q = q0 := h; rw [h]; exact hq0) hG0.2.2.1 dJ2_grow_2_4 ?_
  refine lv_istore_n (lv' := [(2, .int 0), (0, .ref (q0)), (1, .int 1)]) hx hb dJ2_grow_2_5 rfl hl (Nat.le_of_ble_eq_true rfl) rfl (fun ls hl => ?_)
  refine lv_iload_n hx hb dJ2_grow_2_6 rfl (lv_at hl 0 rfl) ?_
  refine lv_if_gt (tgt := 20) hx hb dJ2_grow_2_7 (by decide) (fun c9 => absurd c9 (by decide)) (fun _ => ?_)
  refine lv_aload_n hx hb dJ2_grow_2_10 rfl (lv_at hl 1 rfl) ?_
  refine gf (v := .ref (E 6)) (C := RJ2) (T := TJ2) (N := 3) (k := 1) hx hb hts hown hG cl_J2 in_J2 hT_this (by decide) q163 rfl dJ2_grow_2_11 ?_
  refine gs hx hb hG.de hown (hts _ q161) (fun _ h => h) dJ2_grow_2_14 ?_
  refine lv_acmp_eq (rx := some (E 6)) (ry := some (E 6)) (tgt := 45) hx hb dJ2_grow_2_17 (by decide) (fun _ => ?_) (fun h => absurd rfl h)
  refine lv_aload_n hx hb dJ2_grow_2_45 rfl (lv_at hl 1 rfl) ?_
  refine lv_bipush (v := 10) hx hb dJ2_grow_2_46 (by decide) ?_
  refine lv_iload_n hx hb dJ2_grow_2_48 rfl (lv_at hl 2 rfl) ?_
  refine va_mmax hx hb (hml.trans hl.1.symm) hown (hts _ q298) (hts _ q249) (hts _ q107) (hts _ q250) (Nat.le_of_ble_eq_true rfl) (Nat.le_of_ble_eq_true rfl) (Nat.le_of_ble_eq_true rfl) (Nat.le_of_ble_eq_true rfl) dJ2_grow_2_49 ?_
  refine W.eq (g2 := F0 m 52 ls [.int (if 10 < 1 then 1 else 10), .ref (q0)]) rfl ?_
  refine lv_eq (show (if (10 : Int32) < 1 then (1 : Int32) else 10) = nI 10 by decide) ?_
  have hB := hS.1
  have hL_this : q0 < _ := hT_this.lt
  refine nwQ (N := 10) hx hb hown (hts _ q299) hG hS (by omega) ⟨by show _ ≤ 1; omega, by show _ ≤ 10; omega⟩ dJ2_grow_2_52 (fun q52 H1 hq9 hT_t52 hz ho hS => ?_)
  have hT_this : va_at D vwCl (q0, .inr (13, [.int (mo), .ref (E 6), .int 0])) H1 := hT_this.kept (ho _ hT_this.lt)
  have hG := gE.ofS hG0 hS (fun q h => by have h : q = q0 := h; rw [h]; exact hq0)
  have hne_this_t52 : q0 ≠ q52 := by have h9 := hL_this; omega
  have hge_t52 : s.heap.size ≤ q52 := by have := hB; omega
  refine lv_dup_x1 hx hb dJ2_grow_2_55 rfl rfl ?_
  have hB := hS.1
  have hL_this : q0 < _ := hT_this.lt
  have hL_t52 : q52 < _ := hT_t52.lt
  refine pf (ty0 := tyJ2) (ty := tyJ2 1) (v := .ref (q52)) (C := RJ2) (T := TJ2) (N := 3) (k := 1) hx hb hts hown hG hS cl_J2 in_J2 tyJ2_ok nmJ2 hT_this (Or.inl rfl) (Or.inl rfl) (by decide) q163 rfl (tyJ2_ok 1 (by decide)) rfl rfl (Nat.le_of_ble_eq_true rfl) dJ2_grow_2_56 (fun H1 locs1 he hz hq hS => ?_)
  have hT_t52 : va_at D vwCl (q52, arQ E 10 (fun _ => none)) H1 := hT_t52.kept (hq _ (fun e9 => absurd e9 hne_this_t52.symm))
  have hT_this : va_at D vwCl (q0, .inr (13, [.int (mo), .ref (q52), .int 0])) H1 := he
  have hG := gE.ofS hG0 hS (fun q h => by have h : q = q0 := h; rw [h]; exact hq0)
  exact g_aret hx hb hr (Or.inr ⟨_, rfl⟩) hlocks hS ⟨Nat.le_of_ble_eq_true rfl, Nat.le_of_ble_eq_true rfl⟩ dJ2_grow_2_59 (by skip; exact ⟨_, rfl, hge_t52, hT_t52, hT_this⟩)

set_option maxHeartbeats 4000000 in
set_option maxRecDepth 100000 in
theorem met_J2_grow_e (l : Launch) (D : va_G) (E : Nat → Nat) (q0 : Nat) (mo : Int32)  : GM l D E yJ2_grow cJ2_grow 1 (Option.some (Jvm.ClassFile.FieldType.array (Jvm.ClassFile.FieldType.object "java/lang/Object"))) 2 47 1 10 [.ref (q0)] (fun h => va_at D vwCl (q0, .inr (13, [.int mo, .ref (E 6), .int 0])) h ∧ E 0 ≤ q0) (fun z => z = q0) (fun z => z = q0) (fun sz v h => ∃ q, v = some (.ref q) ∧ sz ≤ q ∧ va_at D vwCl (q, arQ E 10 (fun _ => none)) h ∧ va_at D vwCl (q0, .inr (13, [.int mo, .ref q, .int 0])) h)  := by
  refine GM.start (by decide) (Nat.le_of_ble_eq_true rfl) ?_
  intro p e s m below meth c ls hx hb hr hml hown hlocks hnm hts hG ⟨hT_this, hq0⟩ hS hl
  have hown : s.vm.findClass RJ2 = some m.cls := hown
  have hS0 : xS p m c cJ2_grow 1 s _ RJ2 := ⟨hx, hb, hml, hown, hts⟩
  have hl : lv_has ls 1 [(0, .ref (q0))] := hl
  have hG0 := hG
  refine lv_aload_n hx hb dJ2_grow_0 rfl (lv_at hl 0 rfl) ?_
  refine lv_aload_n hx hb dJ2_grow_1 rfl (lv_at hl 0 rfl) ?_
  refine gf (v := .int 0) (C := RJ2) (T := TJ2) (N := 3) (k := 2) hx hb hts hown hG cl_J2 in_J2 hT_this (by decide) q166 rfl dJ2_grow_2 ?_
  refine lv_iconst (v := 1) hx hb dJ2_grow_5 (by decide) ?_
  refine lv_iadd hx hb dJ2_grow_6 ?_
  refine lv_eq (show (0 : Int32) + 1 = 1 by decide) ?_
  have hB := hS.1
  have hL_this : q0 < _ := hT_this.lt
  refine gcV (As := [.int 1]) (rest := []) hS0 (met_J2_grow_2_e l D E q0 mo) q241 q243 qs3 q103 q244 hd_J2_grow_2 ⟨Nat.le_of_ble_eq_true rfl, Nat.le_of_ble_eq_true rfl⟩ hG (rcv hG cl_J2 hT_this) ⟨hT_this, hq0⟩ rfl hl.1 rfl (Nat.le_of_ble_eq_true rfl) dJ2_grow_7 ⟨Nat.le_of_ble_eq_true rfl, Nat.le_of_ble_eq_true rfl⟩ hS (fun q h => by have h : q = q0 := h; rw [h]; exact (Or.inl rfl)) (fun q h => by have h : q = q0 := h; rw [h]; exact (Or.inl rfl)) (fun v H1 locs1 hP hz hk hS => ?_)
  obtain ⟨q7, rfl, hq9, hT_t7, hT9⟩ := hP
  have hT_this : va_at D vwCl (q0, .inr (13, [.int (mo), .ref (q7), .int 0])) H1 := hT9
  have hG := gE.ofS hG0 hS (fun q h => by have h : q = q0 := h; rw [h]; exact hq0)
  have hne_this_t7 : q0 ≠ q7 := by have h9 := hL_this; omega
  have hge_t7 : s.heap.size ≤ q7 := by have := hB; omega
  refine W.eq (g2 := F0 m 10 ls [.ref (q7)]) rfl ?_
  exact g_aret hx hb hr (Or.inr ⟨_, rfl⟩) hlocks hS ⟨Nat.le_of_ble_eq_true rfl, Nat.le_of_ble_eq_true rfl⟩ dJ2_grow_10 (by skip; exact ⟨_, rfl, hge_t7, hT_t7, hT_this⟩)

set_option maxHeartbeats 4000000 in
set_option maxRecDepth 100000 in
theorem met_J2_add_2_f (l : Launch) (D : va_G) (E : Nat → Nat) (q0 : Nat) (a1 : Nat) (mo : Int32) (n : Nat) (cap : Nat) (g : Nat → Option Nat) (z : Nat) (hne_this_arr : q0 ≠ a1) (hcap : cap ≤ 66) (h00 : 0 < cap) (hz0 : z ≠ q0) (hz1 : z ≠ a1) : GM l D E yJ2_add_2 cJ2_add_2 4 (Option.none : Option Jvm.ClassFile.FieldType) 5 127 1 100 [.ref (q0), .ref (z), .ref (a1), .int (nI cap)] (fun h => va_at D vwCl (q0, .inr (13, [.int mo, .ref a1, .int (nI (cap))])) h ∧ va_at D vwCl (a1, arQ E cap g) h ∧ (∀ i y, i < cap → g i = some y → oK D E y h) ∧ oK D E z h ∧ E 0 ≤ q0 ∧ E 0 ≤ a1) (fun z => z = q0 ∨ (z = a1 ∧ cap ≠ 0)) (fun z => z = q0 ∨ (z = a1 ∧ cap ≠ 0)) (fun sz v h => ∃ q, v = none ∧ sz ≤ q ∧ va_at D vwCl (q, arQ E (cap + max 1 (cap / 2)) (va_up (va_cpy g (fun _ => none) 0 0 cap) cap (some z))) h ∧ va_at D vwCl (q0, .inr (13, [.int (mo), .ref q, .int (nI (cap + 1))])) h)  := by
  refine GM.start (by decide) (Nat.le_of_ble_eq_true rfl) ?_
  intro p e s m below meth c ls hx hb hr hml hown hlocks hnm hts hG ⟨hT_this, hT_arr, hel, hz9, hq0, hq1⟩ hS hl
  have hown : s.vm.findClass RJ2 = some m.cls := hown
  have hS0 : xS p m c cJ2_add_2 4 s _ RJ2 := ⟨hx, hb, hml, hown, hts⟩
  have hl : lv_has ls 4 [(0, .ref (q0)), (1, .ref (z)), (2, .ref (a1)), (3, .int (nI cap))] := hl
  have hG0 := hG
  refine lv_iload_n hx hb dJ2_add_2_0 rfl (lv_at hl 3 rfl) ?_
  refine lv_aload_n hx hb dJ2_add_2_1 rfl (lv_at hl 2 rfl) ?_
  refine gl (N := cap) hx hb hG hT_arr (t := 2) rfl rfl dJ2_add_2_2 ?_
  refine lv_icmp_ne (tgt := 11) hx hb dJ2_add_2_3 (by decide) (fun c9 => absurd (rfl) c9) (fun _ => ?_)
  refine lv_aload_n hx hb dJ2_add_2_6 rfl (lv_at hl 0 rfl) ?_
  have hB := hS.1
  have hL_this : q0 < _ := hT_this.lt
  have hL_arr : a1 < _ := hT_arr.lt
  refine gcV (As := []) (rest := []) hS0 (met_J2_grow l D E q0 a1 mo cap cap g hne_this_arr hcap h00) q237 q239 qs2 q103 q240 hd_J2_grow ⟨Nat.le_of_ble_eq_true rfl, Nat.le_of_ble_eq_true rfl⟩ hG (rcv hG cl_J2 hT_this) ⟨hT_this, hT_arr, hel, hq0, hq1⟩ rfl hl.1 rfl (Nat.le_of_ble_eq_true rfl) dJ2_add_2_7 ⟨Nat.le_of_ble_eq_true rfl, Nat.le_of_ble_eq_true rfl⟩ hS (fun q h => h.elim (fun h => by rw [h]; exact (Or.inl (Or.inl rfl))) (fun h => by rw [h]; exact (Or.inl (Or.inr ⟨rfl, by omega⟩)))) (fun q h => h.elim (fun h => by rw [h]; exact (Or.inl (Or.inl rfl))) (fun h => by rw [h]; exact (Or.inl (Or.inr ⟨rfl, by omega⟩)))) (fun v H1 locs1 hP hz hk hS => ?_)
  obtain ⟨q7, rfl, hq9, hT_t7, hT9⟩ := hP
  have hT_this : va_at D vwCl (q0, .inr (13, [.int (mo), .ref (q7), .int (nI cap)])) H1 := hT9
  have hG := gE.ofS hG0 hS (fun q h => h.elim (fun h => by rw [h]; exact hq0) (fun h => by rw [h.1]; exact hq1))
  have hne_this_t7 : q0 ≠ q7 := by have h9 := hL_this; omega
  have hge_t7 : s.heap.size ≤ q7 := by have := hB; omega
  refine W.eq (g2 := F0 m 10 ls [.ref (q7)]) rfl ?_
  refine lv_astore_n (lv' := [(2, .ref (q7)), (0, .ref (q0)), (1, .ref (z)), (3, .int (nI cap))]) hx hb dJ2_add_2_10 rfl hl (Nat.le_of_ble_eq_true rfl) rfl (fun ls hl => ?_)
  refine lv_aload_n hx hb dJ2_add_2_11 rfl (lv_at hl 0 rfl) ?_
  refine lv_iload_n hx hb dJ2_add_2_12 rfl (lv_at hl 3 rfl) ?_
  refine lv_aload_n hx hb dJ2_add_2_13 rfl (lv_at hl 2 rfl) ?_
  have hB := hS.1
  have hL_this : q0 < _ := hT_this.lt
  have hL_t7 : q7 < _ := hT_t7.lt
  refine paQ (N := (cap + max 1 (cap / 2))) (k := cap) hx hb hG hS hT_t7 (Or.inr hge_t7) (Or.inr hge_t7) (show cap < cap + max 1 (cap / 2) from by omega) (by omega) (oK.any hG (hz9.mv2 (fun h => h.elim hz0 hz1) hk)) dJ2_add_2_14 (fun H1 locs1 he hz hq hS => ?_)
  have hT_this : va_at D vwCl (q0, .inr (13, [.int (mo), .ref (q7), .int (nI cap)])) H1 := hT_this.kept (hq _ (fun e9 => absurd e9 hne_this_t7))
  have hG := gE.ofS hG0 hS (fun q h => h.elim (fun h => by rw [h]; exact hq0) (fun h => by rw [h.1]; exact hq1))
  have hT_t7 : va_at D vwCl (q7, arQ E (cap + max 1 (cap / 2)) (va_up (va_cpy g (fun _ => none) 0 0 cap) cap (some z))) H1 := he
  refine lv_aload_n hx hb dJ2_add_2_15 rfl (lv_at hl 1 rfl) ?_
  refine lv_iload_n hx hb dJ2_add_2_16 rfl (lv_at hl 3 rfl) ?_
  refine lv_iconst (v := 1) hx hb dJ2_add_2_17 (by decide) ?_
  refine lv_iadd hx hb dJ2_add_2_18 ?_
  refine lv_eq (nI_add cap 1) ?_
  have hB := hS.1
  have hL_this : q0 < _ := hT_this.lt
  have hL_t7 : q7 < _ := hT_t7.lt
  refine pf (ty0 := tyJ2) (ty := tyJ2 2) (v := .int (nI (cap + 1))) (C := RJ2) (T := TJ2) (N := 3) (k := 2) hx hb hts hown hG hS cl_J2 in_J2 tyJ2_ok nmJ2 hT_this (Or.inl (Or.inl rfl)) (Or.inl (Or.inl rfl)) (by decide) q166 rfl (tyJ2_ok 2 (by decide)) rfl rfl (Nat.le_of_ble_eq_true rfl) dJ2_add_2_19 (fun H1 locs1 he hz hq hS => ?_)
  have hT_t7 : va_at D vwCl (q7, arQ E (cap + max 1 (cap / 2)) (va_up (va_cpy g (fun _ => none) 0 0 cap) cap (some z))) H1 := hT_t7.kept (hq _ (fun e9 => absurd e9 hne_this_t7.symm))
  have hT_this : va_at D vwCl (q0, .inr (13, [.int (mo), .ref (q7), .int (nI (cap + 1))])) H1 := he
  have hG := gE.ofS hG0 hS (fun q h => h.elim (fun h => by rw [h]; exact hq0) (fun h => by rw [h.1]; exact hq1))
  exact g_vret hx hb hr hlocks hS ⟨Nat.le_of_ble_eq_true rfl, Nat.le_of_ble_eq_true rfl⟩ dJ2_add_2_22 (by skip; exact ⟨_, rfl, hge_t7, hT_t7, hT_this⟩)

set_option maxHeartbeats 4000000 in
set_option maxRecDepth 100000 in
theorem met_J2_add_2_r (l : Launch) (D : va_G) (E : Nat → Nat) (q0 : Nat) (a1 : Nat) (mo : Int32) (n : Nat) (cap : Nat) (g : Nat → Option Nat) (z : Nat) (hne_this_arr : q0 ≠ a1) (hcap : cap ≤ 66) (h00 : 0 < cap) (hz0 : z ≠ q0) (hz1 : z ≠ a1) (hn : n < cap) : GM l D E yJ2_add_2 cJ2_add_2 4 (Option.none : Option Jvm.ClassFile.FieldType) 0 0 0 0 [.ref (q0), .ref (z), .ref (a1), .int (nI n)] (fun h => va_at D vwCl (q0, .inr (13, [.int mo, .ref a1, .int (nI (n))])) h ∧ va_at D vwCl (a1, arQ E cap g) h ∧ oK D E z h ∧ E 0 ≤ q0 ∧ E 0 ≤ a1) (fun z => z = q0 ∨ (z = a1 ∧ cap ≠ 0)) (fun z => z = q0 ∨ (z = a1 ∧ cap ≠ 0)) (fun sz v h => v = none ∧ va_at D vwCl (a1, arQ E cap (va_up g n (some z))) h ∧ va_at D vwCl (q0, .inr (13, [.int (mo), .ref a1, .int (nI (n + 1))])) h)  := by
  refine GM.start (by decide) (Nat.le_of_ble_eq_true rfl) ?_
  intro p e s m below meth c ls hx hb hr hml hown hlocks hnm hts hG ⟨hT_this, hT_arr, hz9, hq0, hq1⟩ hS hl
  have hown : s.vm.findClass RJ2 = some m.cls := hown
  have hS0 : xS p m c cJ2_add_2 4 s _ RJ2 := ⟨hx, hb, hml, hown, hts⟩
  have hl : lv_has ls 4 [(0, .ref (q0)), (1, .ref (z)), (2, .ref (a1)), (3, .int (nI n))] := hl
  have hG0 := hG
  refine lv_iload_n hx hb dJ2_add_2_0 rfl (lv_at hl 3 rfl) ?_
  refine lv_aload_n hx hb dJ2_add_2_1 rfl (lv_at hl 2 rfl) ?_
  refine gl (N := cap) hx hb hG hT_arr (t := 2) rfl rfl dJ2_add_2_2 ?_
  refine lv_icmp_ne (tgt := 11) hx hb dJ2_add_2_3 (by decide) (fun _ => ?_) (fun c9 => absurd c9 ((fun h9 => absurd ((nI_eq (by omega) (by omega)).mp h9) (by omega))))
  refine lv_aload_n hx hb dJ2_add_2_11 rfl (lv_at hl 2 rfl) ?_
  refine lv_iload_n hx hb dJ2_add_2_12 rfl (lv_at hl 3 rfl) ?_
  refine lv_aload_n hx hb dJ2_add_2_13 rfl (lv_at hl 1 rfl) ?_
  have hB := hS.1
  have hL_this : q0 < _ := hT_this.lt
  have hL_arr : a1 < _ := hT_arr.lt
  refine paQ (N := cap) (k := n) hx hb hG hS hT_arr (Or.inl (Or.inr ⟨rfl, by omega⟩)) (Or.inl (Or.inr ⟨rfl, by omega⟩)) (show n < cap from by omega) (by omega) (oK.any hG hz9) dJ2_add_2_14 (fun H1 locs1 he hz hq hS => ?_)
  have hT_this : va_at D vwCl (q0, .inr (13, [.int (mo), .ref (a1), .int (nI n)])) H1 := hT_this.kept (hq _ (fun e9 => absurd e9 hne_this_arr))
  have hG := gE.ofS hG0 hS (fun q h => h.elim (fun h => by rw [h]; exact hq0) (fun h => by rw [h.1]; exact hq1))
  have hT_arr : va_at D vwCl (a1, arQ E cap (va_up g n (some z))) H1 := he
  refine lv_aload_n hx hb dJ2_add_2_15 rfl (lv_at hl 0 rfl) ?_
  refine lv_iload_n hx hb dJ2_add_2_16 rfl (lv_at hl 3 rfl) ?_
  refine lv_iconst (v := 1) hx hb dJ2_add_2_17 (by decide) ?_
  refine lv_iadd hx hb dJ2_add_2_18 ?_
  refine lv_eq (nI_add n 1) ?_
  have hB := hS.1
  have hL_this : q0 < _ := hT_this.lt
  have hL_arr : a1 < _ := hT_arr.lt
  refine pf (ty0 := tyJ2) (ty := tyJ2 2) (v := .int (nI (n + 1))) (C := RJ2) (T := TJ2) (N := 3) (k := 2) hx hb hts hown hG hS cl_J2 in_J2 tyJ2_ok nmJ2 hT_this (Or.inl (Or.inl rfl)) (Or.inl (Or.inl rfl)) (by decide) q166 rfl (tyJ2_ok 2 (by decide)) rfl rfl (Nat.le_of_ble_eq_true rfl) dJ2_add_2_19 (fun H1 locs1 he hz hq hS => ?_)
  have hT_arr : va_at D vwCl (a1, arQ E cap (va_up g n (some z))) H1 := hT_arr.kept (hq _ (fun e9 => absurd e9 hne_this_arr.symm))
  have hT_this : va_at D vwCl (q0, .inr (13, [.int (mo), .ref (a1), .int (nI (n + 1))])) H1 := he
  have hG := gE.ofS hG0 hS (fun q h => h.elim (fun h => by rw [h]; exact hq0) (fun h => by rw [h.1]; exact hq1))
  exact g_vret hx hb hr hlocks hS ⟨Nat.le_of_ble_eq_true rfl, Nat.le_of_ble_eq_true rfl⟩ dJ2_add_2_22 (by skip; exact ⟨rfl, hT_arr, hT_this⟩)

set_option maxHeartbeats 4000000 in
set_option maxRecDepth 100000 in
theorem met_J2_add_2_e (l : Launch) (D : va_G) (E : Nat → Nat) (q0 : Nat) (a1 : Nat) (mo : Int32) (z : Nat) (hz0 : z ≠ q0) : GM l D E yJ2_add_2 cJ2_add_2 4 (Option.none : Option Jvm.ClassFile.FieldType) 3 67 1 10 [.ref (q0), .ref (z), .ref (E 6), .int 0] (fun h => va_at D vwCl (q0, .inr (13, [.int mo, .ref (E 6), .int 0])) h ∧ oK D E z h ∧ E 0 ≤ q0) (fun z => z = q0 ∨ (z = a1 ∧ 0 ≠ 0)) (fun z => z = q0 ∨ (z = a1 ∧ 0 ≠ 0)) (fun sz v h => ∃ q, v = none ∧ sz ≤ q ∧ va_at D vwCl (q, arQ E 10 (va_up (fun _ => none) 0 (some z))) h ∧ va_at D vwCl (q0, .inr (13, [.int (mo), .ref q, .int (nI 1)])) h)  := by
  refine GM.start (by decide) (Nat.le_of_ble_eq_true rfl) ?_
  intro p e s m below meth c ls hx hb hr hml hown hlocks hnm hts hG ⟨hT_this, hz9, hq0⟩ hS hl
  have hown : s.vm.findClass RJ2 = some m.cls := hown
  have hS0 : xS p m c cJ2_add_2 4 s _ RJ2 := ⟨hx, hb, hml, hown, hts⟩
  have hl : lv_has ls 4 [(0, .ref (q0)), (1, .ref (z)), (2, .ref (E 6)), (3, .int 0)] := hl
  have hG0 := hG
  refine lv_iload_n hx hb dJ2_add_2_0 rfl (lv_at hl 3 rfl) ?_
  refine lv_aload_n hx hb dJ2_add_2_1 rfl (lv_at hl 2 rfl) ?_
  refine glE6 hx hb hG0.2.2.2.2.2.2.2.2.2.1 hS (fun q h => h.elim (fun h => by rw [h]; exact hq0) (fun h => absurd rfl h.2)) (fun q h => h.elim (fun h => by rw [h]; exact hq0) (fun h => absurd rfl h.2)) hG0.2.2.1 dJ2_add_2_2 ?_
  refine lv_icmp_ne (tgt := 11) hx hb dJ2_add_2_3 (by decide) (fun c9 => absurd (by decide) c9) (fun _ => ?_)
  refine lv_aload_n hx hb dJ2_add_2_6 rfl (lv_at hl 0 rfl) ?_
  have hB := hS.1
  have hL_this : q0 < _ := hT_this.lt
  refine gcV (As := []) (rest := []) hS0 (met_J2_grow_e l D E q0 mo) q237 q239 qs2 q103 q240 hd_J2_grow ⟨Nat.le_of_ble_eq_true rfl, Nat.le_of_ble_eq_true rfl⟩ hG (rcv hG cl_J2 hT_this) ⟨hT_this, hq0⟩ rfl hl.1 rfl (Nat.le_of_ble_eq_true rfl) dJ2_add_2_7 ⟨Nat.le_of_ble_eq_true rfl, Nat.le_of_ble_eq_true rfl⟩ hS (fun q h => by have h : q = q0 := h; rw [h]; exact (Or.inl (Or.inl rfl))) (fun q h => by have h : q = q0 := h; rw [h]; exact (Or.inl (Or.inl rfl))) (fun v H1 locs1 hP hz hk hS => ?_)
  obtain ⟨q7, rfl, hq9, hT_t7, hT9⟩ := hP
  have hT_this : va_at D vwCl (q0, .inr (13, [.int (mo), .ref (q7), .int 0])) H1 := hT9
  have hG := gE.ofS hG0 hS (fun q h => h.elim (fun h => by rw [h]; exact hq0) (fun h => absurd rfl h.2))
  have hne_this_t7 : q0 ≠ q7 := by have h9 := hL_this; omega
  have hge_t7 : s.heap.size ≤ q7 := by have := hB; omega
  refine W.eq (g2 := F0 m 10 ls [.ref (q7)]) rfl ?_
  refine lv_astore_n (lv' := [(2, .ref (q7)), (0, .ref (q0)), (1, .ref (z)), (3, .int 0)]) hx hb dJ2_add_2_10 rfl hl (Nat.le_of_ble_eq_true rfl) rfl (fun ls hl => ?_)
  refine lv_aload_n hx hb dJ2_add_2_11 rfl (lv_at hl 0 rfl) ?_
  refine lv_iload_n hx hb dJ2_add_2_12 rfl (lv_at hl 3 rfl) ?_
  refine lv_aload_n hx hb dJ2_add_2_13 rfl (lv_at hl 2 rfl) ?_
  have hB := hS.1
  have hL_this : q0 < _ := hT_this.lt
  have hL_t7 : q7 < _ := hT_t7.lt
  refine paQ (N := 10) (k := 0) hx hb hG hS hT_t7 (Or.inr hge_t7) (Or.inr hge_t7) (by decide) (by decide) (oK.any hG (hz9.mv2 (fun h => hz0 h) hk)) dJ2_add_2_14 (fun H1 locs1 he hz hq hS => ?_)
  have hT_this : va_at D vwCl (q0, .inr (13, [.int (mo), .ref (q7), .int 0])) H1 := hT_this.kept (hq _ (fun e9 => absurd e9 hne_this_t7))
  have hG := gE.ofS hG0 hS (fun q h => h.elim (fun h => by rw [h]; exact hq0) (fun h => absurd rfl h.2))
  have hT_t7 : va_at D vwCl (q7, arQ E 10 (va_up (fun _ => none) 0 (some z))) H1 := he
  refine lv_aload_n hx hb dJ2_add_2_15 rfl (lv_at hl 1 rfl) ?_
  refine lv_iload_n hx hb dJ2_add_2_16 rfl (lv_at hl 3 rfl) ?_
  refine lv_iconst (v := 1) hx hb dJ2_add_2_17 (by decide) ?_
  refine lv_iadd hx hb dJ2_add_2_18 ?_
  have hB := hS.1
  have hL_this : q0 < _ := hT_this.lt
  have hL_t7 : q7 < _ := hT_t7.lt
  refine pf (ty0 := tyJ2) (ty := tyJ2 2) (v := .int (0 + 1)) (C := RJ2) (T := TJ2) (N := 3) (k := 2) hx hb hts hown hG hS cl_J2 in_J2 tyJ2_ok nmJ2 hT_this (Or.inl (Or.inl rfl)) (Or.inl (Or.inl rfl)) (by decide) q166 rfl (tyJ2_ok 2 (by decide)) rfl rfl (Nat.le_of_ble_eq_true rfl) dJ2_add_2_19 (fun H1 locs1 he hz hq hS => ?_)
  have hT_t7 : va_at D vwCl (q7, arQ E 10 (va_up (fun _ => none) 0 (some z))) H1 := hT_t7.kept (hq _ (fun e9 => absurd e9 hne_this_t7.symm))
  have hT_this : va_at D vwCl (q0, .inr (13, [.int (mo), .ref (q7), .int (0 + 1)])) H1 := he
  have hG := gE.ofS hG0 hS (fun q h => h.elim (fun h => by rw [h]; exact hq0) (fun h => absurd rfl h.2))
  exact g_vret hx hb hr hlocks hS ⟨Nat.le_of_ble_eq_true rfl, Nat.le_of_ble_eq_true rfl⟩ dJ2_add_2_22 (by skip; exact ⟨_, rfl, hge_t7, hT_t7, hT_this⟩)

set_option maxHeartbeats 4000000 in
set_option maxRecDepth 100000 in
theorem met_J2_add_f (l : Launch) (D : va_G) (E : Nat → Nat) (q0 : Nat) (a1 : Nat) (mo : Int32) (n : Nat) (cap : Nat) (g : Nat → Option Nat) (z : Nat) (hne_this_arr : q0 ≠ a1) (hcap : cap ≤ 66) (h00 : 0 < cap) (hz0 : z ≠ q0) (hz1 : z ≠ a1) (hel9 : ∀ i y, i < cap → g i = some y → y ≠ q0) : GM l D E yJ2_add cJ2_add 2 (Option.some Jvm.ClassFile.FieldType.boolean) 6 150 1 100 [.ref (q0), .ref (z)] (fun h => va_at D vwCl (q0, .inr (13, [.int mo, .ref a1, .int (nI (cap))])) h ∧ va_at D vwCl (a1, arQ E cap g) h ∧ (∀ i y, i < cap → g i = some y → oK D E y h) ∧ oK D E z h ∧ E 0 ≤ q0 ∧ E 0 ≤ a1) (fun z => z = q0 ∨ (z = a1 ∧ cap ≠ 0)) (fun z => z = q0 ∨ (z = a1 ∧ cap ≠ 0)) (fun sz v h => v = some (.int 1) ∧ ∃ a2 cap2 g2, LR D E q0 a2 (cap + 1) cap2 (mo + 1) g2 h ∧ (cap2 ≤ 100 ∧ (cap2 ≤ 2 * cap + 10 ∨ cap2 = cap)) ∧ cap2 ≠ 0 ∧ (∀ i, i < cap → g2 i = g i) ∧ g2 cap = some z ∧ ((a2 = a1 ∧ cap ≠ 0) ∨ sz ≤ a2))  := by
  refine GM.start (by decide) (Nat.le_of_ble_eq_true rfl) ?_
  intro p e s m below meth c ls hx hb hr hml hown hlocks hnm hts hG ⟨hT_this, hT_arr, hel, hz9, hq0, hq1⟩ hS hl
  have hown : s.vm.findClass RJ2 = some m.cls := hown
  have hS0 : xS p m c cJ2_add 2 s _ RJ2 := ⟨hx, hb, hml, hown, hts⟩
  have hl : lv_has ls 2 [(0, .ref (q0)), (1, .ref (z))] := hl
  have hG0 := hG
  refine lv_aload_n hx hb dJ2_add_0 rfl (lv_at hl 0 rfl) ?_
  refine lv_dup hx hb dJ2_add_1 rfl ?_
  refine gfS (v := .int (mo)) (C := RJ2) (T := TJ2) (N := 3) (k := 0) hx hb hts hown hG cl_J2 in_J2 hT_this (by decide) q170 q169 rfl dJ2_add_2 ?_
  refine lv_iconst (v := 1) hx hb dJ2_add_5 (by decide) ?_
  refine lv_iadd hx hb dJ2_add_6 ?_
  have hB := hS.1
  have hL_this : q0 < _ := hT_this.lt
  have hL_arr : a1 < _ := hT_arr.lt
  refine pfS (ty0 := tyJ2) (ty := tyJ2 0) (v := .int (mo + 1)) (C := RJ2) (T := TJ2) (N := 3) (k := 0) hx hb hts hown hG hS cl_J2 in_J2 tyJ2_ok nmJ2 hT_this (Or.inl (Or.inl rfl)) (Or.inl (Or.inl rfl)) (by decide) q170 q169 rfl (tyJ2_ok 0 (by decide)) rfl rfl (Nat.le_of_ble_eq_true rfl) dJ2_add_7 (fun H1 locs1 he hz hq hS => ?_)
  have hT_arr : va_at D vwCl (a1, arQ E cap g) H1 := hT_arr.kept (hq _ (fun e9 => absurd e9 hne_this_arr.symm))
  have hT_this : va_at D vwCl (q0, .inr (13, [.int (mo + 1), .ref (a1), .int (nI cap)])) H1 := he
  have hG := gE.ofS hG0 hS (fun q h => h.elim (fun h => by rw [h]; exact hq0) (fun h => by rw [h.1]; exact hq1))
  refine lv_aload_n hx hb dJ2_add_10 rfl (lv_at hl 0 rfl) ?_
  refine lv_aload_n hx hb dJ2_add_11 rfl (lv_at hl 1 rfl) ?_
  refine lv_aload_n hx hb dJ2_add_12 rfl (lv_at hl 0 rfl) ?_
  refine gf (v := .ref (a1)) (C := RJ2) (T := TJ2) (N := 3) (k := 1) hx hb hts hown hG cl_J2 in_J2 hT_this (by decide) q163 rfl dJ2_add_13 ?_
  refine lv_aload_n hx hb dJ2_add_16 rfl (lv_at hl 0 rfl) ?_
  refine gf (v := .int (nI cap)) (C := RJ2) (T := TJ2) (N := 3) (k := 2) hx hb hts hown hG cl_J2 in_J2 hT_this (by decide) q166 rfl dJ2_add_17 ?_
  have hB := hS.1
  have hL_this : q0 < _ := hT_this.lt
  have hL_arr : a1 < _ := hT_arr.lt
  refine gcV (As := [.ref (z), .ref (a1), .int (nI cap)]) (rest := []) hS0 (met_J2_add_2_f l D E q0 a1 (mo + 1) n cap g z hne_this_arr (by omega) h00 hz0 hz1) q233 q235 qs1 q103 q236 hd_J2_add_2 ⟨Nat.le_of_ble_eq_true rfl, Nat.le_of_ble_eq_true rfl⟩ hG (rcv hG cl_J2 hT_this) ⟨hT_this, hT_arr, (fun i y h9 h8 => (hel i y h9 h8).mv2 (hel9 i y h9 h8) (fun q h7 h6 => hq q h6)), hz9.mv2 (fun h6 => hz0 h6) (fun q h7 h6 => hq q h6), hq0, hq1⟩ rfl hl.1 rfl (Nat.le_of_ble_eq_true rfl) dJ2_add_20 ⟨Nat.le_of_ble_eq_true rfl, Nat.le_of_ble_eq_true rfl⟩ hS (fun q h => h.elim (fun h => by rw [h]; exact (Or.inl (Or.inl rfl))) (fun h => by rw [h.1]; exact (Or.inl (Or.inr ⟨rfl, by omega⟩)))) (fun q h => h.elim (fun h => by rw [h]; exact (Or.inl (Or.inl rfl))) (fun h => by rw [h.1]; exact (Or.inl (Or.inr ⟨rfl, by omega⟩)))) (fun v H1 locs1 hP hz hk hS => ?_)
  obtain ⟨q20, rfl, hq9, hT_t20, hT9⟩ := hP
  have hT_this : va_at D vwCl (q0, .inr (13, [.int (mo + 1), .ref (q20), .int (nI (cap + 1))])) H1 := hT9
  have hG := gE.ofS hG0 hS (fun q h => h.elim (fun h => by rw [h]; exact hq0) (fun h => by rw [h.1]; exact hq1))
  have hne_this_t20 : q0 ≠ q20 := by have h9 := hL_this; omega
  have hge_t20 : s.heap.size ≤ q20 := by have := hB; omega
  refine W.eq (g2 := F0 m 23 ls []) rfl ?_
  refine lv_iconst (v := 1) hx hb dJ2_add_23 (by decide) ?_
  exact g_zret (b := true) hx hb hr hlocks hS ⟨Nat.le_of_ble_eq_true rfl, Nat.le_of_ble_eq_true rfl⟩ dJ2_add_24 rfl (by skip; exact ⟨rfl, _, _, _, ⟨hT_this, by omega, by omega, Or.inr ⟨by omega, hT_t20⟩⟩, by omega, by omega, fun i hi => by simp only [va_up, va_cpy]; rw [if_neg (by omega), if_pos (by omega)]; congr 1; omega, by simp [va_up], Or.inr (Nat.le_trans (by omega) hge_t20)⟩)

set_option maxHeartbeats 4000000 in
set_option maxRecDepth 100000 in
theorem met_J2_add_r (l : Launch) (D : va_G) (E : Nat → Nat) (q0 : Nat) (a1 : Nat) (mo : Int32) (n : Nat) (cap : Nat) (g : Nat → Option Nat) (z : Nat) (hne_this_arr : q0 ≠ a1) (hcap : cap ≤ 66) (h00 : 0 < cap) (hz0 : z ≠ q0) (hz1 : z ≠ a1) (hn : n < cap) : GM l D E yJ2_add cJ2_add 2 (Option.some Jvm.ClassFile.FieldType.boolean) 6 150 1 100 [.ref (q0), .ref (z)] (fun h => va_at D vwCl (q0, .inr (13, [.int mo, .ref a1, .int (nI (n))])) h ∧ va_at D vwCl (a1, arQ E cap g) h ∧ oK D E z h ∧ E 0 ≤ q0 ∧ E 0 ≤ a1) (fun z => z = q0 ∨ (z = a1 ∧ cap ≠ 0)) (fun z => z = q0 ∨ (z = a1 ∧ cap ≠ 0)) (fun sz v h => v = some (.int 1) ∧ ∃ a2 cap2 g2, LR D E q0 a2 (n + 1) cap2 (mo + 1) g2 h ∧ (cap2 ≤ 100 ∧ (cap2 ≤ 2 * n + 10 ∨ cap2 = cap)) ∧ cap2 ≠ 0 ∧ (∀ i, i < n → g2 i = g i) ∧ g2 n = some z ∧ ((a2 = a1 ∧ cap ≠ 0) ∨ sz ≤ a2))  := by
  refine GM.start (by decide) (Nat.le_of_ble_eq_true rfl) ?_
  intro p e s m below meth c ls hx hb hr hml hown hlocks hnm hts hG ⟨hT_this, hT_arr, hz9, hq0, hq1⟩ hS hl
  have hown : s.vm.findClass RJ2 = some m.cls := hown
  have hS0 : xS p m c cJ2_add 2 s _ RJ2 := ⟨hx, hb, hml, hown, hts⟩
  have hl : lv_has ls 2 [(0, .ref (q0)), (1, .ref (z))] := hl
  have hG0 := hG
  refine lv_aload_n hx hb dJ2_add_0 rfl (lv_at hl 0 rfl) ?_
  refine lv_dup hx hb dJ2_add_1 rfl ?_
  refine gfS (v := .int (mo)) (C := RJ2) (T := TJ2) (N := 3) (k := 0) hx hb hts hown hG cl_J2 in_J2 hT_this (by decide) q170 q169 rfl dJ2_add_2 ?_
  refine lv_iconst (v := 1) hx hb dJ2_add_5 (by decide) ?_
  refine lv_iadd hx hb dJ2_add_6 ?_
  have hB := hS.1
  have hL_this : q0 < _ := hT_this.lt
  have hL_arr : a1 < _ := hT_arr.lt
  refine pfS (ty0 := tyJ2) (ty := tyJ2 0) (v := .int (mo + 1)) (C := RJ2) (T := TJ2) (N := 3) (k := 0) hx hb hts hown hG hS cl_J2 in_J2 tyJ2_ok nmJ2 hT_this (Or.inl (Or.inl rfl)) (Or.inl (Or.inl rfl)) (by decide) q170 q169 rfl (tyJ2_ok 0 (by decide)) rfl rfl (Nat.le_of_ble_eq_true rfl) dJ2_add_7 (fun H1 locs1 he hz hq hS => ?_)
  have hT_arr : va_at D vwCl (a1, arQ E cap g) H1 := hT_arr.kept (hq _ (fun e9 => absurd e9 hne_this_arr.symm))
  have hT_this : va_at D vwCl (q0, .inr (13, [.int (mo + 1), .ref (a1), .int (nI n)])) H1 := he
  have hG := gE.ofS hG0 hS (fun q h => h.elim (fun h => by rw [h]; exact hq0) (fun h => by rw [h.1]; exact hq1))
  refine lv_aload_n hx hb dJ2_add_10 rfl (lv_at hl 0 rfl) ?_
  refine lv_aload_n hx hb dJ2_add_11 rfl (lv_at hl 1 rfl) ?_
  refine lv_aload_n hx hb dJ2_add_12 rfl (lv_at hl 0 rfl) ?_
  refine gf (v := .ref (a1)) (C := RJ2) (T := TJ2) (N := 3) (k := 1) hx hb hts hown hG cl_J2 in_J2 hT_this (by decide) q163 rfl dJ2_add_13 ?_
  refine lv_aload_n hx hb dJ2_add_16 rfl (lv_at hl 0 rfl) ?_
  refine gf (v := .int (nI n)) (C := RJ2) (T := TJ2) (N := 3) (k := 2) hx hb hts hown hG cl_J2 in_J2 hT_this (by decide) q166 rfl dJ2_add_17 ?_
  have hB := hS.1
  have hL_this : q0 < _ := hT_this.lt
  have hL_arr : a1 < _ := hT_arr.lt
  refine gcV (As := [.ref (z), .ref (a1), .int (nI n)]) (rest := []) hS0 (met_J2_add_2_r l D E q0 a1 (mo + 1) n cap g z hne_this_arr hcap h00 hz0 hz1 hn) q233 q235 qs1 q103 q236 hd_J2_add_2 ⟨Nat.le_of_ble_eq_true rfl, Nat.le_of_ble_eq_true rfl⟩ hG (rcv hG cl_J2 hT_this) ⟨hT_this, hT_arr, hz9.mv2 (fun h6 => hz0 h6) (fun q h7 h6 => hq q h6), hq0, hq1⟩ rfl hl.1 rfl (Nat.le_of_ble_eq_true rfl) dJ2_add_20 ⟨Nat.le_of_ble_eq_true rfl, Nat.le_of_ble_eq_true rfl⟩ hS (fun q h => h.elim (fun h => by rw [h]; exact (Or.inl (Or.inl rfl))) (fun h => by rw [h.1]; exact (Or.inl (Or.inr ⟨rfl, by omega⟩)))) (fun q h => h.elim (fun h => by rw [h]; exact (Or.inl (Or.inl rfl))) (fun h => by rw [h.1]; exact (Or.inl (Or.inr ⟨rfl, by omega⟩)))) (fun v H1 locs1 hP hz hk hS => ?_)
  obtain ⟨rfl, hT_arr, hT9⟩ := hP
  have hT_this : va_at D vwCl (q0, .inr (13, [.int (mo + 1), .ref (a1), .int (nI (n + 1))])) H1 := hT9
  have hG := gE.ofS hG0 hS (fun q h => h.elim (fun h => by rw [h]; exact hq0) (fun h => by rw [h.1]; exact hq1))
  refine W.eq (g2 := F0 m 23 ls []) rfl ?_
  refine lv_iconst (v := 1) hx hb dJ2_add_23 (by decide) ?_
  exact g_zret (b := true) hx hb hr hlocks hS ⟨Nat.le_of_ble_eq_true rfl, Nat.le_of_ble_eq_true rfl⟩ dJ2_add_24 rfl (by skip; exact ⟨rfl, _, _, _, ⟨hT_this, by omega, by omega, Or.inr ⟨by omega, hT_arr⟩⟩, ⟨by omega, Or.inr rfl⟩, by omega, fun i hi => by simp only [va_up]; rw [if_neg (by omega)], by simp [va_up], Or.inl ⟨rfl, by omega⟩⟩)

set_option maxHeartbeats 4000000 in
set_option maxRecDepth 100000 in
theorem met_J2_add_e (l : Launch) (D : va_G) (E : Nat → Nat) (q0 : Nat) (a1 : Nat) (mo : Int32) (g : Nat → Option Nat) (z : Nat) (hz0 : z ≠ q0) : GM l D E yJ2_add cJ2_add 2 (Option.some Jvm.ClassFile.FieldType.boolean) 6 150 1 100 [.ref (q0), .ref (z)] (fun h => va_at D vwCl (q0, .inr (13, [.int mo, .ref (E 6), .int 0])) h ∧ oK D E z h ∧ E 0 ≤ q0) (fun z => z = q0 ∨ (z = a1 ∧ 0 ≠ 0)) (fun z => z = q0 ∨ (z = a1 ∧ 0 ≠ 0)) (fun sz v h => v = some (.int 1) ∧ ∃ a2 cap2 g2, LR D E q0 a2 (0 + 1) cap2 (mo + 1) g2 h ∧ (cap2 ≤ 100 ∧ (cap2 ≤ 2 * 0 + 10 ∨ cap2 = 0)) ∧ cap2 ≠ 0 ∧ (∀ i, i < 0 → g2 i = g i) ∧ g2 0 = some z ∧ ((a2 = a1 ∧ 0 ≠ 0) ∨ sz ≤ a2))  := by
  refine GM.start (by decide) (Nat.le_of_ble_eq_true rfl) ?_
  intro p e s m below meth c ls hx hb hr hml hown hlocks hnm hts hG ⟨hT_this, hz9, hq0⟩ hS hl
  have hown : s.vm.findClass RJ2 = some m.cls := hown
  have hS0 : xS p m c cJ2_add 2 s _ RJ2 := ⟨hx, hb, hml, hown, hts⟩
  have hl : lv_has ls 2 [(0, .ref (q0)), (1, .ref (z))] := hl
  have hG0 := hG
  refine lv_aload_n hx hb dJ2_add_0 rfl (lv_at hl 0 rfl) ?_
  refine lv_dup hx hb dJ2_add_1 rfl ?_
  refine gfS (v := .int (mo)) (C := RJ2) (T := TJ2) (N := 3) (k := 0) hx hb hts hown hG cl_J2 in_J2 hT_this (by decide) q170 q169 rfl dJ2_add_2 ?_
  refine lv_iconst (v := 1) hx hb dJ2_add_5 (by decide) ?_
  refine lv_iadd hx hb dJ2_add_6 ?_
  have hB := hS.1
  have hL_this : q0 < _ := hT_this.lt
  refine pfS (ty0 := tyJ2) (ty := tyJ2 0) (v := .int (mo + 1)) (C := RJ2) (T := TJ2) (N := 3) (k := 0) hx hb hts hown hG hS cl_J2 in_J2 tyJ2_ok nmJ2 hT_this (Or.inl (Or.inl rfl)) (Or.inl (Or.inl rfl)) (by decide) q170 q169 rfl (tyJ2_ok 0 (by decide)) rfl rfl (Nat.le_of_ble_eq_true rfl) dJ2_add_7 (fun H1 locs1 he hz hq hS => ?_)
  have hT_this : va_at D vwCl (q0, .inr (13, [.int (mo + 1), .ref (E 6), .int 0])) H1 := he
  have hG := gE.ofS hG0 hS (fun q h => h.elim (fun h => by rw [h]; exact hq0) (fun h => absurd rfl h.2))
  refine lv_aload_n hx hb dJ2_add_10 rfl (lv_at hl 0 rfl) ?_
  refine lv_aload_n hx hb dJ2_add_11 rfl (lv_at hl 1 rfl) ?_
  refine lv_aload_n hx hb dJ2_add_12 rfl (lv_at hl 0 rfl) ?_
  refine gf (v := .ref (E 6)) (C := RJ2) (T := TJ2) (N := 3) (k := 1) hx hb hts hown hG cl_J2 in_J2 hT_this (by decide) q163 rfl dJ2_add_13 ?_
  refine lv_aload_n hx hb dJ2_add_16 rfl (lv_at hl 0 rfl) ?_
  refine gf (v := .int 0) (C := RJ2) (T := TJ2) (N := 3) (k := 2) hx hb hts hown hG cl_J2 in_J2 hT_this (by decide) q166 rfl dJ2_add_17 ?_
  have hB := hS.1
  have hL_this : q0 < _ := hT_this.lt
  refine gcV (As := [.ref (z), .ref (E 6), .int 0]) (rest := []) hS0 (met_J2_add_2_e l D E q0 a1 (mo + 1) z hz0) q233 q235 qs1 q103 q236 hd_J2_add_2 ⟨Nat.le_of_ble_eq_true rfl, Nat.le_of_ble_eq_true rfl⟩ hG (rcv hG cl_J2 hT_this) ⟨hT_this, hz9.mv2 (fun h6 => hz0 h6) (fun q h7 h6 => hq q h6), hq0⟩ rfl hl.1 rfl (Nat.le_of_ble_eq_true rfl) dJ2_add_20 ⟨Nat.le_of_ble_eq_true rfl, Nat.le_of_ble_eq_true rfl⟩ hS (fun q h => h.elim (fun h => by rw [h]; exact (Or.inl (Or.inl rfl))) (fun h => absurd rfl h.2)) (fun q h => h.elim (fun h => by rw [h]; exact (Or.inl (Or.inl rfl))) (fun h => absurd rfl h.2)) (fun v H1 locs1 hP hz hk hS => ?_)
  obtain ⟨q20, rfl, hq9, hT_t20, hT9⟩ := hP
  have hT_this : va_at D vwCl (q0, .inr (13, [.int (mo + 1), .ref (q20), .int (nI 1)])) H1 := hT9
  have hG := gE.ofS hG0 hS (fun q h => h.elim (fun h => by rw [h]; exact hq0) (fun h => absurd rfl h.2))
  have hne_this_t20 : q0 ≠ q20 := by have h9 := hL_this; omega
  have hge_t20 : s.heap.size ≤ q20 := by have := hB; omega
  refine W.eq (g2 := F0 m 23 ls []) rfl ?_
  refine lv_iconst (v := 1) hx hb dJ2_add_23 (by decide) ?_
  exact g_zret (b := true) hx hb hr hlocks hS ⟨Nat.le_of_ble_eq_true rfl, Nat.le_of_ble_eq_true rfl⟩ dJ2_add_24 rfl (by skip; exact ⟨rfl, _, _, _, ⟨hT_this, by omega, by omega, Or.inr ⟨by omega, hT_t20⟩⟩, by omega, by omega, fun i hi => absurd hi (by omega), by simp [va_up], Or.inr hge_t20⟩)

/-- a list grows by one element -/
theorem met_J2_add (l : Launch) (D : va_G) (E : Nat → Nat) (q0 a1 : Nat) (mo : Int32) (n cap : Nat) (g : Nat → Option Nat) (z : Nat) (hne : q0 ≠ a1) (hcap : cap ≤ 66) (hz0 : z ≠ q0) (hz1 : cap ≠ 0 → z ≠ a1) (hel9 : ∀ i y, i < n → g i = some y → y ≠ q0) : GM l D E yJ2_add cJ2_add 2 (Option.some Jvm.ClassFile.FieldType.boolean) 6 150 1 100 [.ref q0, .ref z] (fun h => LR D E q0 a1 n cap mo g h ∧ (∀ i y, i < n → g i = some y → oK D E y h) ∧ oK D E z h ∧ E 0 ≤ q0 ∧ (cap ≠ 0 → E 0 ≤ a1)) (fun z => z = q0 ∨ (z = a1 ∧ cap ≠ 0)) (fun z => z = q0 ∨ (z = a1 ∧ cap ≠ 0)) (fun sz v h => v = some (.int 1) ∧ ∃ a2 cap2 g2, LR D E q0 a2 (n + 1) cap2 (mo + 1) g2 h ∧ (cap2 ≤ 100 ∧ (cap2 ≤ 2 * n + 10 ∨ cap2 = cap)) ∧ cap2 ≠ 0 ∧ (∀ i, i < n → g2 i = g i) ∧ g2 n = some z ∧ ((a2 = a1 ∧ cap ≠ 0) ∨ sz ≤ a2)) := by
  intro sz p e h1 h2 h3 s m args below h4 h5 h6 h7
  obtain ⟨p1, p2, p3, ⟨hc, hle, hcb, hcase⟩, hel, hz, hq0, hq1⟩ := h6
  rcases hcase with ⟨rfl, rfl⟩ | ⟨hc0, harr⟩
  · have hn : n = 0 := by omega
    subst hn
    exact met_J2_add_e l D E q0 (E 6) mo g z hz0 sz p e h1 h2 h3 s m args below h4 h5 ⟨p1, p2, p3, hc, hz, hq0⟩ h7
  · by_cases hn : n < cap
    · exact met_J2_add_r l D E q0 a1 mo n cap g z hne (by omega) (by omega) hz0 (hz1 hc0) hn sz p e h1 h2 h3 s m args below h4 h5 ⟨p1, p2, p3, hc, harr, hz, hq0, hq1 hc0⟩ h7
    · have hn : n = cap := by omega
      subst hn
      exact met_J2_add_f l D E q0 a1 mo n n g z hne (by omega) (by omega) hz0 (hz1 hc0) hel9 sz p e h1 h2 h3 s m args below h4 h5 ⟨p1, p2, p3, hc, harr, hel, hz, hq0, hq1 hc0⟩ h7

