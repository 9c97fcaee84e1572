/-! the model: methods that change nothing -/
set_option maxRecDepth 100000
theorem RM.lsR {s : State} {H : Heap} {D : va_G} {E : Nat → Nat} {β : Nat → Nat → Nat} {F : Nat → Prop} {σ : St} {th ca : Int32} {sm : Int64} (h : RM D E β F σ th ca sm H) (hG : gE D E s H) {j : Nat} (hj : j < 3) : ∃ cellB : Cell, H[β 1 j]? = some cellB ∧ cellB.vm.isStatics = false ∧ s.vm.findClass RJ2 = some cellB.cls := by
  obtain ⟨cap, mc, g, h1, -⟩ := h.ls hj
  exact rcv hG cl_J2 h1.1
theorem RM.bxR {s : State} {H : Heap} {D : va_G} {E : Nat → Nat} {β : Nat → Nat → Nat} {F : Nat → Prop} {σ : St} {th ca : Int32} {sm : Int64} (h : RM D E β F σ th ca sm H) (hG : gE D E s H) {b : Nat} (hb : b < nB σ) : ∃ cellB : Cell, H[β 9 b]? = some cellB ∧ cellB.vm.isStatics = false ∧ s.vm.findClass RJ17 = some cellB.cls := by
  obtain ⟨h0, h1 | h1⟩ := h.bx hb
  · exact rcv hG cl_J17 h1.2
  · have hk := bx_ix h0 h1.1
    obtain ⟨cell, q1, q2, q3, -⟩ := hG.2.2.2.2.1.1 (bShape σ b + 128).toNatClampNeg hk.1
    exact ⟨cell, by rw [h1.2]; exact q1, q2, q3⟩
theorem met_ml_size (l : Launch) (D : va_G) (E : Nat → Nat) {β : Nat → Nat → Nat} {F : Nat → Prop} {σ : St} {th ca : Int32} {sm : Int64} {j : Nat} (hj : j < 3) : PM l D E yJ2_size cJ2_size 1 (Option.some Jvm.ClassFile.FieldType.int) 0 0 [.ref (β 1 j)] (RM D E β F σ th ca sm) (some (.int (nI (mCnt σ j)))) :=
  PM.ex (ι := Nat × Nat × Int32 × (Nat → Option Nat)) (P2 := fun x H => LR D E (β 1 j) x.1 (mCnt σ j) x.2.1 x.2.2.1 x.2.2.2 H) (fun x => met_J2_size l D E) (fun H h => by
    obtain ⟨cap, mc, g, h1, -⟩ := h.ls hj
    exact ⟨(β 2 j, cap, mc, g), h1⟩)
theorem met_ml_get (l : Launch) (D : va_G) (E : Nat → Nat) {β : Nat → Nat → Nat} {F : Nat → Prop} {σ : St} {th ca : Int32} {sm : Int64} {j : Nat} (hj : j < 3) (k : Nat) (hk : k < mCnt σ j) : PM l D E yJ2_get cJ2_get 2 (Option.some (Jvm.ClassFile.FieldType.object "java/lang/Object")) 2 43 [.ref (β 1 j), .int (nI k)] (RM D E β F σ th ca sm) (some (.ref (β (mEl j) k))) :=
  PM.ex (ι := { x : Nat × Nat × Int32 × (Nat → Option Nat) // x.2.2.2 k = some (β (mEl j) k) }) (P2 := fun x H => LR D E (β 1 j) x.1.1 (mCnt σ j) x.1.2.1 x.1.2.2.1 x.1.2.2.2 H) (fun x => met_J2_get l D E k _ hk x.2) (fun H h => by
    obtain ⟨cap, mc, g, h1, h2⟩ := h.ls hj
    exact ⟨⟨(β 2 j, cap, mc, g), h2 k hk⟩, h1⟩)

set_option maxHeartbeats 4000000 in
theorem met_J17_intValue (l : Launch) (D : va_G) (E : Nat → Nat) {β : Nat → Nat → Nat} {F : Nat → Prop} {σ : St} {th ca : Int32} {sm : Int64} (b : Nat) (h_b : b < nB σ) : PM l D E yJ17_intValue cJ17_intValue 1 (Option.some Jvm.ClassFile.FieldType.int) 0 0 [.ref (β 9 b)] (RM D E β F σ th ca sm) (some (.int (bShape σ b))) := by
  refine PM.start (by decide) (Nat.le_of_ble_eq_true rfl) ?_
  intro p e s m below meth c ls hx hb hr hml hown hlocks hts hG hM hl
  have hown : s.vm.findClass RJ17 = some m.cls := hown
  have hl : lv_has ls 1 [(0, .ref (β 9 b))] := hl
  refine lv_aload_n hx hb dJ17_intValue_0 rfl (lv_at hl 0 rfl) ?_
  obtain ⟨h0, h1 | h1⟩ := hM.bx h_b
  · refine gf (v := .int (bShape σ b)) (C := RJ17) (T := TJ17) (N := 1) (k := 0) hx hb hts hown hG cl_J17 in_J17 h1.2 (by decide) q646 rfl dJ17_intValue_1 ?_
    exact p_iret hx hb hr hlocks dJ17_intValue_4 rfl
  · have hk := bx_ix h0 h1.1
    have hO : va_OF "java/lang/Integer" "value" "I" (.int (vb_c (bShape σ b + 128).toNatClampNeg)) (E (300 + (bShape σ b + 128).toNatClampNeg)) (gA E) s s.heap := hG.2.2.2.2.1.2 (bShape σ b + 128).toNatClampNeg hk.1
    rw [hk.2] at hO
    rw [h1.2]
    refine vk_getf hx hb hO va_S.rf hown (hts _ q646) (fun _ h => h) dJ17_intValue_1 ?_
    exact p_iret hx hb hr hlocks dJ17_intValue_4 rfl

def fJ17_bitCount (a : Int32) : Int32 :=
  (((((((a - (((Int32.toUInt32 a >>> (Int32.toUInt32 1 &&& Int32.toUInt32 31)).toInt32) &&& 1431655765)) &&& 858993459) + (((Int32.toUInt32 (a - (((Int32.toUInt32 a >>> (Int32.toUInt32 1 &&& Int32.toUInt32 31)).toInt32) &&& 1431655765)) >>> (Int32.toUInt32 2 &&& Int32.toUInt32 31)).toInt32) &&& 858993459)) + ((Int32.toUInt32 (((a - (((Int32.toUInt32 a >>> (Int32.toUInt32 1 &&& Int32.toUInt32 31)).toInt32) &&& 1431655765)) &&& 858993459) + (((Int32.toUInt32 (a - (((Int32.toUInt32 a >>> (Int32.toUInt32 1 &&& Int32.toUInt32 31)).toInt32) &&& 1431655765)) >>> (Int32.toUInt32 2 &&& Int32.toUInt32 31)).toInt32) &&& 858993459)) >>> (Int32.toUInt32 4 &&& Int32.toUInt32 31)).toInt32)) &&& 252645135) + ((Int32.toUInt32 (((((a - (((Int32.toUInt32 a >>> (Int32.toUInt32 1 &&& Int32.toUInt32 31)).toInt32) &&& 1431655765)) &&& 858993459) + (((Int32.toUInt32 (a - (((Int32.toUInt32 a >>> (Int32.toUInt32 1 &&& Int32.toUInt32 31)).toInt32) &&& 1431655765)) >>> (Int32.toUInt32 2 &&& Int32.toUInt32 31)).toInt32) &&& 858993459)) + ((Int32.toUInt32 (((a - (((Int32.toUInt32 a >>> (Int32.toUInt32 1 &&& Int32.toUInt32 31)).toInt32) &&& 1431655765)) &&& 858993459) + (((Int32.toUInt32 (a - (((Int32.toUInt32 a >>> (Int32.toUInt32 1 &&& Int32.toUInt32 31)).toInt32) &&& 1431655765)) >>> (Int32.toUInt32 2 &&& Int32.toUInt32 31)).toInt32) &&& 858993459)) >>> (Int32.toUInt32 4 &&& Int32.toUInt32 31)).toInt32)) &&& 252645135) >>> (Int32.toUInt32 8 &&& Int32.toUInt32 31)).toInt32)) + ((Int32.toUInt32 ((((((a - (((Int32.toUInt32 a >>> (Int32.toUInt32 1 &&& Int32.toUInt32 31)).toInt32) &&& 1431655765)) &&& 858993459) + (((Int32.toUInt32 (a - (((Int32.toUInt32 a >>> (Int32.toUInt32 1 &&& Int32.toUInt32 31)).toInt32) &&& 1431655765)) >>> (Int32.toUInt32 2 &&& Int32.toUInt32 31)).toInt32) &&& 858993459)) + ((Int32.toUInt32 (((a - (((Int32.toUInt32 a >>> (Int32.toUInt32 1 &&& Int32.toUInt32 31)).toInt32) &&& 1431655765)) &&& 858993459) + (((Int32.toUInt32 (a - (((Int32.toUInt32 a >>> (Int32.toUInt32 1 &&& Int32.toUInt32 31)).toInt32) &&& 1431655765)) >>> (Int32.toUInt32 2 &&& Int32.toUInt32 31)).toInt32) &&& 858993459)) >>> (Int32.toUInt32 4 &&& Int32.toUInt32 31)).toInt32)) &&& 252645135) + ((Int32.toUInt32 (((((a - (((Int32.toUInt32 a >>> (Int32.toUInt32 1 &&& Int32.toUInt32 31)).toInt32) &&& 1431655765)) &&& 858993459) + (((Int32.toUInt32 (a - (((Int32.toUInt32 a >>> (Int32.toUInt32 1 &&& Int32.toUInt32 31)).toInt32) &&& 1431655765)) >>> (Int32.toUInt32 2 &&& Int32.toUInt32 31)).toInt32) &&& 858993459)) + ((Int32.toUInt32 (((a - (((Int32.toUInt32 a >>> (Int32.toUInt32 1 &&& Int32.toUInt32 31)).toInt32) &&& 1431655765)) &&& 858993459) + (((Int32.toUInt32 (a - (((Int32.toUInt32 a >>> (Int32.toUInt32 1 &&& Int32.toUInt32 31)).toInt32) &&& 1431655765)) >>> (Int32.toUInt32 2 &&& Int32.toUInt32 31)).toInt32) &&& 858993459)) >>> (Int32.toUInt32 4 &&& Int32.toUInt32 31)).toInt32)) &&& 252645135) >>> (Int32.toUInt32 8 &&& Int32.toUInt32 31)).toInt32)) >>> (Int32.toUInt32 16 &&& Int32.toUInt32 31)).toInt32)) &&& 63
set_option maxHeartbeats 4000000 in
set_option maxRecDepth 100000 in
theorem met_J17_bitCount (l : Launch) (D : va_G) (E : Nat → Nat) (a : Int32)  : PM l D E yJ17_bitCount cJ17_bitCount 1 (Option.some Jvm.ClassFile.FieldType.int) 0 0 [.int (a)] (fun _ => True) (some (.int (fJ17_bitCount a))) := by
  generalize hR : fJ17_bitCount a = r
  refine PM.start (by decide) (Nat.le_of_ble_eq_true rfl) ?_
  intro p e s m below meth c ls hx hb hr hml hown hlocks hts hG hTriv hl
  have hown : s.vm.findClass RJ17 = some m.cls := hown
  have hS0 : xS p m c cJ17_bitCount 1 s _ RJ17 := ⟨hx, hb, hml, hown, hts⟩
  have hl : lv_has ls 1 [(0, .int (a))] := hl
  unfold fJ17_bitCount at hR
  refine lv_iload_n hx hb dJ17_bitCount_0 rfl (lv_at hl 0 rfl) ?_
  refine lv_iload_n hx hb dJ17_bitCount_1 rfl (lv_at hl 0 rfl) ?_
  refine lv_iconst (v := 1) hx hb dJ17_bitCount_2 (by decide) ?_
  refine lv_iushr (v := (Int32.toUInt32 a >>> (Int32.toUInt32 1 &&& Int32.toUInt32 31)).toInt32) hx hb dJ17_bitCount_3 rfl ?_
  refine lv_ldcw (v := 1431655765) hx hb hown (hts _ q1643) dJ17_bitCount_4 ?_
  refine lv_iand hx hb dJ17_bitCount_7 ?_
  refine lv_isub hx hb dJ17_bitCount_8 ?_
  refine lv_istore_n (lv' := [(0, .int (a - (((Int32.toUInt32 a >>> (Int32.toUInt32 1 &&& Int32.toUInt32 31)).toInt32) &&& 1431655765)))]) hx hb dJ17_bitCount_9 rfl hl (Nat.le_of_ble_eq_true rfl) rfl (fun ls hl => ?_)
  refine lv_iload_n hx hb dJ17_bitCount_10 rfl (lv_at hl 0 rfl) ?_
  refine lv_ldcw (v := 858993459) hx hb hown (hts _ q1644) dJ17_bitCount_11 ?_
  refine lv_iand hx hb dJ17_bitCount_14 ?_
  refine lv_iload_n hx hb dJ17_bitCount_15 rfl (lv_at hl 0 rfl) ?_
  refine lv_iconst (v := 2) hx hb dJ17_bitCount_16 (by decide) ?_
  refine lv_iushr (v := (Int32.toUInt32 (a - (((Int32.toUInt32 a >>> (Int32.toUInt32 1 &&& Int32.toUInt32 31)).toInt32) &&& 1431655765)) >>> (Int32.toUInt32 2 &&& Int32.toUInt32 31)).toInt32) hx hb dJ17_bitCount_17 rfl ?_
  refine lv_ldcw (v := 858993459) hx hb hown (hts _ q1644) dJ17_bitCount_18 ?_
  refine lv_iand hx hb dJ17_bitCount_21 ?_
  refine lv_iadd hx hb dJ17_bitCount_22 ?_
  refine lv_istore_n (lv' := [(0, .int (((a - (((Int32.toUInt32 a >>> (Int32.toUInt32 1 &&& Int32.toUInt32 31)).toInt32) &&& 1431655765)) &&& 858993459) + (((Int32.toUInt32 (a - (((Int32.toUInt32 a >>> (Int32.toUInt32 1 &&& Int32.toUInt32 31)).toInt32) &&& 1431655765)) >>> (Int32.toUInt32 2 &&& Int32.toUInt32 31)).toInt32) &&& 858993459)))]) hx hb dJ17_bitCount_23 rfl hl (Nat.le_of_ble_eq_true rfl) rfl (fun ls hl => ?_)
  refine lv_iload_n hx hb dJ17_bitCount_24 rfl (lv_at hl 0 rfl) ?_
  refine lv_iload_n hx hb dJ17_bitCount_25 rfl (lv_at hl 0 rfl) ?_
  refine lv_iconst (v := 4) hx hb dJ17_bitCount_26 (by decide) ?_
  refine lv_iushr (v := (Int32.toUInt32 (((a - (((Int32.toUInt32 a >>> (Int32.toUInt32 1 &&& Int32.toUInt32 31)).toInt32) &&& 1431655765)) &&& 858993459) + (((Int32.toUInt32 (a - (((Int32.toUInt32 a >>> (Int32.toUInt32 1 &&& Int32.toUInt32 31)).toInt32) &&& 1431655765)) >>> (Int32.toUInt32 2 &&& Int32.toUInt32 31)).toInt32) &&& 858993459)) >>> (Int32.toUInt32 4 &&& Int32.toUInt32 31)).toInt32) hx hb dJ17_bitCount_27 rfl ?_
  refine lv_iadd hx hb dJ17_bitCount_28 ?_
  refine lv_ldcw (v := 252645135) hx hb hown (hts _ q1645) dJ17_bitCount_29 ?_
  refine lv_iand hx hb dJ17_bitCount_32 ?_
  refine lv_istore_n (lv' := [(0, .int (((((a - (((Int32.toUInt32 a >>> (Int32.toUInt32 1 &&& Int32.toUInt32 31)).toInt32) &&& 1431655765)) &&& 858993459) + (((Int32.toUInt32 (a - (((Int32.toUInt32 a >>> (Int32.toUInt32 1 &&& Int32.toUInt32 31)).toInt32) &&& 1431655765)) >>> (Int32.toUInt32 2 &&& Int32.toUInt32 31)).toInt32) &&& 858993459)) + ((Int32.toUInt32 (((a - (((Int32.toUInt32 a >>> (Int32.toUInt32 1 &&& Int32.toUInt32 31)).toInt32) &&& 1431655765)) &&& 858993459) + (((Int32.toUInt32 (a - (((Int32.toUInt32 a >>> (Int32.toUInt32 1 &&& Int32.toUInt32 31)).toInt32) &&& 1431655765)) >>> (Int32.toUInt32 2 &&& Int32.toUInt32 31)).toInt32) &&& 858993459)) >>> (Int32.toUInt32 4 &&& Int32.toUInt32 31)).toInt32)) &&& 252645135))]) hx hb dJ17_bitCount_33 rfl hl (Nat.le_of_ble_eq_true rfl) rfl (fun ls hl => ?_)
  refine lv_iload_n hx hb dJ17_bitCount_34 rfl (lv_at hl 0 rfl) ?_
  refine lv_iload_n hx hb dJ17_bitCount_35 rfl (lv_at hl 0 rfl) ?_
  refine lv_bipush (v := 8) hx hb dJ17_bitCount_36 (by decide) ?_
  refine lv_iushr (v := (Int32.toUInt32 (((((a - (((Int32.toUInt32 a >>> (Int32.toUInt32 1 &&& Int32.toUInt32 31)).toInt32) &&& 1431655765)) &&& 858993459) + (((Int32.toUInt32 (a - (((Int32.toUInt32 a >>> (Int32.toUInt32 1 &&& Int32.toUInt32 31)).toInt32) &&& 1431655765)) >>> (Int32.toUInt32 2 &&& Int32.toUInt32 31)).toInt32) &&& 858993459)) + ((Int32.toUInt32 (((a - (((Int32.toUInt32 a >>> (Int32.toUInt32 1 &&& Int32.toUInt32 31)).toInt32) &&& 1431655765)) &&& 858993459) + (((Int32.toUInt32 (a - (((Int32.toUInt32 a >>> (Int32.toUInt32 1 &&& Int32.toUInt32 31)).toInt32) &&& 1431655765)) >>> (Int32.toUInt32 2 &&& Int32.toUInt32 31)).toInt32) &&& 858993459)) >>> (Int32.toUInt32 4 &&& Int32.toUInt32 31)).toInt32)) &&& 252645135) >>> (Int32.toUInt32 8 &&& Int32.toUInt32 31)).toInt32) hx hb dJ17_bitCount_38 rfl ?_
  refine lv_iadd hx hb dJ17_bitCount_39 ?_
  refine lv_istore_n (lv' := [(0, .int ((((((a - (((Int32.toUInt32 a >>> (Int32.toUInt32 1 &&& Int32.toUInt32 31)).toInt32) &&& 1431655765)) &&& 858993459) + (((Int32.toUInt32 (a - (((Int32.toUInt32 a >>> (Int32.toUInt32 1 &&& Int32.toUInt32 31)).toInt32) &&& 1431655765)) >>> (Int32.toUInt32 2 &&& Int32.toUInt32 31)).toInt32) &&& 858993459)) + ((Int32.toUInt32 (((a - (((Int32.toUInt32 a >>> (Int32.toUInt32 1 &&& Int32.toUInt32 31)).toInt32) &&& 1431655765)) &&& 858993459) + (((Int32.toUInt32 (a - (((Int32.toUInt32 a >>> (Int32.toUInt32 1 &&& Int32.toUInt32 31)).toInt32) &&& 1431655765)) >>> (Int32.toUInt32 2 &&& Int32.toUInt32 31)).toInt32) &&& 858993459)) >>> (Int32.toUInt32 4 &&& Int32.toUInt32 31)).toInt32)) &&& 252645135) + ((Int32.toUInt32 (((((a - (((Int32.toUInt32 a >>> (Int32.toUInt32 1 &&& Int32.toUInt32 31)).toInt32) &&& 1431655765)) &&& 858993459) + (((Int32.toUInt32 (a - (((Int32.toUInt32 a >>> (Int32.toUInt32 1 &&& Int32.toUInt32 31)).toInt32) &&& 1431655765)) >>> (Int32.toUInt32 2 &&& Int32.toUInt32 31)).toInt32) &&& 858993459)) + ((Int32.toUInt32 (((a - (((Int32.toUInt32 a >>> (Int32.toUInt32 1 &&& Int32.toUInt32 31)).toInt32) &&& 1431655765)) &&& 858993459) + (((Int32.toUInt32 (a - (((Int32.toUInt32 a >>> (Int32.toUInt32 1 &&& Int32.toUInt32 31)).toInt32) &&& 1431655765)) >>> (Int32.toUInt32 2 &&& Int32.toUInt32 31)).toInt32) &&& 858993459)) >>> (Int32.toUInt32 4 &&& Int32.toUInt32 31)).toInt32)) &&& 252645135) >>> (Int32.toUInt32 8 &&& Int32.toUInt32 31)).toInt32)))]) hx hb dJ17_bitCount_40 rfl hl (Nat.le_of_ble_eq_true rfl) rfl (fun ls hl => ?_)
  refine lv_iload_n hx hb dJ17_bitCount_41 rfl (lv_at hl 0 rfl) ?_
  refine lv_iload_n hx hb dJ17_bitCount_42 rfl (lv_at hl 0 rfl) ?_
  refine lv_bipush (v := 16) hx hb dJ17_bitCount_43 (by decide) ?_
  refine lv_iushr (v := (Int32.toUInt32 ((((((a - (((Int32.toUInt32 a >>> (Int32.toUInt32 1 &&& Int32.toUInt32 31)).toInt32) &&& 1431655765)) &&& 858993459) + (((Int32.toUInt32 (a - (((Int32.toUInt32 a >>> (Int32.toUInt32 1 &&& Int32.toUInt32 31)).toInt32) &&& 1431655765)) >>> (Int32.toUInt32 2 &&& Int32.toUInt32 31)).toInt32) &&& 858993459)) + ((Int32.toUInt32 (((a - (((Int32.toUInt32 a >>> (Int32.toUInt32 1 &&& Int32.toUInt32 31)).toInt32) &&& 1431655765)) &&& 858993459) + (((Int32.toUInt32 (a - (((Int32.toUInt32 a >>> (Int32.toUInt32 1 &&& Int32.toUInt32 31)).toInt32) &&& 1431655765)) >>> (Int32.toUInt32 2 &&& Int32.toUInt32 31)).toInt32) &&& 858993459)) >>> (Int32.toUInt32 4 &&& Int32.toUInt32 31)).toInt32)) &&& 252645135) + ((Int32.toUInt32 (((((a - (((Int32.toUInt32 a >>> (Int32.toUInt32 1 &&& Int32.toUInt32 31)).toInt32) &&& 1431655765)) &&& 858993459) + (((Int32.toUInt32 (a - (((Int32.toUInt32 a >>> (Int32.toUInt32 1 &&& Int32.toUInt32 31)).toInt32) &&& 1431655765)) >>> (Int32.toUInt32 2 &&& Int32.toUInt32 31)).toInt32) &&& 858993459)) + ((Int32.toUInt32 (((a - (((Int32.toUInt32 a >>> (Int32.toUInt32 1 &&& Int32.toUInt32 31)).toInt32) &&& 1431655765)) &&& 858993459) + (((Int32.toUInt32 (a - (((Int32.toUInt32 a >>> (Int32.toUInt32 1 &&& Int32.toUInt32 31)).toInt32) &&& 1431655765)) >>> (Int32.toUInt32 2 &&& Int32.toUInt32 31)).toInt32) &&& 858993459)) >>> (Int32.toUInt32 4 &&& Int32.toUInt32 31)).toInt32)) &&& 252645135) >>> (Int32.toUInt32 8 &&& Int32.toUInt32 31)).toInt32)) >>> (Int32.toUInt32 16 &&& Int32.toUInt32 31)).toInt32) hx hb dJ17_bitCount_45 rfl ?_
  refine lv_iadd hx hb dJ17_bitCount_46 ?_
  refine lv_istore_n (lv' := [(0, .int (((((((a - (((Int32.toUInt32 a >>> (Int32.toUInt32 1 &&& Int32.toUInt32 31)).toInt32) &&& 1431655765)) &&& 858993459) + (((Int32.toUInt32 (a - (((Int32.toUInt32 a >>> (Int32.toUInt32 1 &&& Int32.toUInt32 31)).toInt32) &&& 1431655765)) >>> (Int32.toUInt32 2 &&& Int32.toUInt32 31)).toInt32) &&& 858993459)) + ((Int32.toUInt32 (((a - (((Int32.toUInt32 a >>> (Int32.toUInt32 1 &&& Int32.toUInt32 31)).toInt32) &&& 1431655765)) &&& 858993459) + (((Int32.toUInt32 (a - (((Int32.toUInt32 a >>> (Int32.toUInt32 1 &&& Int32.toUInt32 31)).toInt32) &&& 1431655765)) >>> (Int32.toUInt32 2 &&& Int32.toUInt32 31)).toInt32) &&& 858993459)) >>> (Int32.toUInt32 4 &&& Int32.toUInt32 31)).toInt32)) &&& 252645135) + ((Int32.toUInt32 (((((a - (((Int32.toUInt32 a >>> (Int32.toUInt32 1 &&& Int32.toUInt32 31)).toInt32) &&& 1431655765)) &&& 858993459) + (((Int32.toUInt32 (a - (((Int32.toUInt32 a >>> (Int32.toUInt32 1 &&& Int32.toUInt32 31)).toInt32) &&& 1431655765)) >>> (Int32.toUInt32 2 &&& Int32.toUInt32 31)).toInt32) &&& 858993459)) + ((Int32.toUInt32 (((a - (((Int32.toUInt32 a >>> (Int32.toUInt32 1 &&& Int32.toUInt32 31)).toInt32) &&& 1431655765)) &&& 858993459) + (((Int32.toUInt32 (a - (((Int32.toUInt32 a >>> (Int32.toUInt32 1 &&& Int32.toUInt32 31)).toInt32) &&& 1431655765)) >>> (Int32.toUInt32 2 &&& Int32.toUInt32 31)).toInt32) &&& 858993459)) >>> (Int32.toUInt32 4 &&& Int32.toUInt32 31)).toInt32)) &&& 252645135) >>> (Int32.toUInt32 8 &&& Int32.toUInt32 31)).toInt32)) + ((Int32.toUInt32 ((((((a - (((Int32.toUInt32 a >>> (Int32.toUInt32 1 &&& Int32.toUInt32 31)).toInt32) &&& 1431655765)) &&& 858993459) + (((Int32.toUInt32 (a - (((Int32.toUInt32 a >>> (Int32.toUInt32 1 &&& Int32.toUInt32 31)).toInt32) &&& 1431655765)) >>> (Int32.toUInt32 2 &&& Int32.toUInt32 31)).toInt32) &&& 858993459)) + ((Int32.toUInt32 (((a - (((Int32.toUInt32 a >>> (Int32.toUInt32 1 &&& Int32.toUInt32 31)).toInt32) &&& 1431655765)) &&& 858993459) + (((Int32.toUInt32 (a - (((Int32.toUInt32 a >>> (Int32.toUInt32 1 &&& Int32.toUInt32 31)).toInt32) &&& 1431655765)) >>> (Int32.toUInt32 2 &&& Int32.toUInt32 31)).toInt32) &&& 858993459)) >>> (Int32.toUInt32 4 &&& Int32.toUInt32 31)).toInt32)) &&& 252645135) + ((Int32.toUInt32 (((((a - (((Int32.toUInt32 a >>> (Int32.toUInt32 1 &&& Int32.toUInt32 31)).toInt32) &&& 1431655765)) &&& 858993459) + (((Int32.toUInt32 (a - (((Int32.toUInt32 a >>> (Int32.toUInt32 1 &&& Int32.toUInt32 31)).toInt32) &&& 1431655765)) >>> (Int32.toUInt32 2 &&& Int32.toUInt32 31)).toInt32) &&& 858993459)) + ((Int32.toUInt32 (((a - (((Int32.toUInt32 a >>> (Int32.toUInt32 1 &&& Int32.toUInt32 31)).toInt32) &&& 1431655765)) &&& 858993459) + (((Int32.toUInt32 (a - (((Int32.toUInt32 a >>> (Int32.toUInt32 1 &&& Int32.toUInt32 31)).toInt32) &&& 1431655765)) >>> (Int32.toUInt32 2 &&& Int32.toUInt32 31)).toInt32) &&& 858993459)) >>> (Int32.toUInt32 4 &&& Int32.toUInt32 31)).toInt32)) &&& 252645135) >>> (Int32.toUInt32 8 &&& Int32.toUInt32 31)).toInt32)) >>> (Int32.toUInt32 16 &&& Int32.toUInt32 31)).toInt32)))]) hx hb dJ17_bitCount_47 rfl hl (Nat.le_of_ble_eq_true rfl) rfl (fun ls hl => ?_)
  refine lv_iload_n hx hb dJ17_bitCount_48 rfl (lv_at hl 0 rfl) ?_
  refine lv_bipush (v := 63) hx hb dJ17_bitCount_49 (by decide) ?_
  refine lv_iand hx hb dJ17_bitCount_51 ?_
  exact p_iret hx hb hr hlocks dJ17_bitCount_52 (by rw [← hR])

theorem bitCount_popc (a : Int32) : fJ17_bitCount a = nI (popc a) := sorry
theorem met_bitCount (l : Launch) (D : va_G) (E : Nat → Nat) (a : Int32) : PM l D E yJ17_bitCount cJ17_bitCount 1 (Option.some Jvm.ClassFile.FieldType.int) 0 0 [.int a] (fun _ => True) (some (.int (nI (popc a)))) := by
  rw [← bitCount_popc]
  exact met_J17_bitCount l D E a

def fX4_isIn (a : Int32) (k : Int32) : Bool :=
  (if ((a >>> (k &&& 31)) &&& 1) = 1 then true else false)
set_option maxHeartbeats 4000000 in
set_option maxRecDepth 100000 in
theorem met_X4_isIn (l : Launch) (D : va_G) (E : Nat → Nat) (a : Int32) (k : Int32)  : PM l D E yX4_isIn cX4_isIn 2 (Option.some Jvm.ClassFile.FieldType.boolean) 0 0 [.int (a), .int (k)] (fun _ => True) (some (.int (bI (fX4_isIn a k)))) := by
  generalize hR : fX4_isIn a k = r
  refine PM.start (by decide) (Nat.le_of_ble_eq_true rfl) ?_
  intro p e s m below meth c ls hx hb hr hml hown hlocks hts hG hTriv hl
  have hown : s.vm.findClass RX4 = some m.cls := hown
  have hS0 : xS p m c cX4_isIn 2 s _ RX4 := ⟨hx, hb, hml, hown, hts⟩
  have hl : lv_has ls 2 [(0, .int (a)), (1, .int (k))] := hl
  unfold fX4_isIn at hR
  refine lv_iload_n hx hb dX4_isIn_0 rfl (lv_at hl 0 rfl) ?_
  refine lv_iload_n hx hb dX4_isIn_1 rfl (lv_at hl 1 rfl) ?_
  refine lv_ishr hx hb dX4_isIn_2 ?_
  refine lv_iconst (v := 1) hx hb dX4_isIn_3 (by decide) ?_
  refine lv_iand hx hb dX4_isIn_4 ?_
  refine lv_iconst (v := 1) hx hb dX4_isIn_5 (by decide) ?_
  refine lv_icmp_ne (tgt := 13) hx hb dX4_isIn_6 (by decide) (fun c1 => ?_) (fun c1 => ?_)
  · rw [if_neg c1] at hR
    refine lv_iconst (v := 0) hx hb dX4_isIn_13 (by decide) ?_
    exact p_zret (b := false) hx hb hr hlocks dX4_isIn_14 rfl (by rw [← hR])
  · rw [if_pos c1] at hR
    refine lv_iconst (v := 1) hx hb dX4_isIn_9 (by decide) ?_
    refine lv_goto (tgt := 14) hx hb dX4_isIn_10 (by decide) ?_
    exact p_zret (b := true) hx hb hr hlocks dX4_isIn_14 rfl (by rw [← hR])

def fX4_is (a : Int32) (lo : Int32) (hi : Int32) : Bool :=
  (if a < lo then false else (if hi < a then false else true))
set_option maxHeartbeats 4000000 in
set_option maxRecDepth 100000 in
theorem met_X4_is (l : Launch) (D : va_G) (E : Nat → Nat) (a : Int32) (lo : Int32) (hi : Int32)  : PM l D E yX4_is cX4_is 3 (Option.some Jvm.ClassFile.FieldType.boolean) 0 0 [.int (a), .int (lo), .int (hi)] (fun _ => True) (some (.int (bI (fX4_is a lo hi)))) := by
  generalize hR : fX4_is a lo hi = r
  refine PM.start (by decide) (Nat.le_of_ble_eq_true rfl) ?_
  intro p e s m below meth c ls hx hb hr hml hown hlocks hts hG hTriv hl
  have hown : s.vm.findClass RX4 = some m.cls := hown
  have hS0 : xS p m c cX4_is 3 s _ RX4 := ⟨hx, hb, hml, hown, hts⟩
  have hl : lv_has ls 3 [(0, .int (a)), (1, .int (lo)), (2, .int (hi))] := hl
  unfold fX4_is at hR
  refine lv_iload_n hx hb dX4_is_0 rfl (lv_at hl 0 rfl) ?_
  refine lv_iload_n hx hb dX4_is_1 rfl (lv_at hl 1 rfl) ?_
  refine lv_icmp_lt (tgt := 14) hx hb dX4_is_2 (by decide) (fun c1 => ?_) (fun c1 => ?_)
  · rw [if_pos c1] at hR
    refine lv_iconst (v := 0) hx hb dX4_is_14 (by decide) ?_
    exact p_zret (b := false) hx hb hr hlocks dX4_is_15 rfl (by rw [← hR])
  · rw [if_neg c1] at hR
    refine lv_iload_n hx hb dX4_is_5 rfl (lv_at hl 0 rfl) ?_
    refine lv_iload_n hx hb dX4_is_6 rfl (lv_at hl 2 rfl) ?_
    refine lv_icmp_gt (tgt := 14) hx hb dX4_is_7 (by decide) (fun c2 => ?_) (fun c2 => ?_)
    · rw [if_pos c2] at hR
      refine lv_iconst (v := 0) hx hb dX4_is_14 (by decide) ?_
      exact p_zret (b := false) hx hb hr hlocks dX4_is_15 rfl (by rw [← hR])
    · rw [if_neg c2] at hR
      refine lv_iconst (v := 1) hx hb dX4_is_10 (by decide) ?_
      refine lv_goto (tgt := 15) hx hb dX4_is_11 (by decide) ?_
      exact p_zret (b := true) hx hb hr hlocks dX4_is_15 rfl (by rw [← hR])

def fX4_isPlayer (σ : St) (a : Int32) : Bool :=
  (fX4_is a 0 ((nI (nP σ)) - 1))
set_option maxHeartbeats 4000000 in
set_option maxRecDepth 100000 in
theorem met_X4_isPlayer (l : Launch) (D : va_G) (E : Nat → Nat) {β : Nat → Nat → Nat} {F : Nat → Prop} {σ : St} {th ca : Int32} {sm : Int64} (a : Int32)  : PM l D E yX4_isPlayer cX4_isPlayer 2 (Option.some Jvm.ClassFile.FieldType.boolean) 1 22 [.ref (β 0 0), .int (a)] (RM D E β F σ th ca sm) (some (.int (bI (fX4_isPlayer σ a)))) := by
  generalize hR : fX4_isPlayer σ a = r
  refine PM.start (by decide) (Nat.le_of_ble_eq_true rfl) ?_
  intro p e s m below meth c ls hx hb hr hml hown hlocks hts hG hM hl
  have hown : s.vm.findClass RX4 = some m.cls := hown
  have hS0 : xS p m c cX4_isPlayer 2 s _ RX4 := ⟨hx, hb, hml, hown, hts⟩
  have hl : lv_has ls 2 [(0, .ref (β 0 0)), (1, .int (a))] := hl
  unfold fX4_isPlayer at hR
  refine lv_iload_n hx hb dX4_isPlayer_0 rfl (lv_at hl 1 rfl) ?_
  refine lv_iconst (v := 0) hx hb dX4_isPlayer_1 (by decide) ?_
  refine lv_aload_n hx hb dX4_isPlayer_2 rfl (lv_at hl 0 rfl) ?_
  refine gf (v := .ref (β 1 0)) (C := RX4) (T := TX4) (N := 13) (k := 3) hx hb hts hown hG cl_X4 in_X4 hM.ag (by decide) q1543 rfl dX4_isPlayer_3 ?_
  refine pcV (As := []) (rest := [.int 0, .int (a)]) hS0 (met_ml_size l D E (j := 0) (by decide)) q1600 q336 q2080 q103 q338 hd_J2_size ⟨Nat.le_of_ble_eq_true rfl, Nat.le_of_ble_eq_true rfl⟩ hG (hM.lsR hG (j := 0) (by decide)) hM rfl hl.1 rfl (Nat.le_of_ble_eq_true rfl) dX4_isPlayer_6 ⟨Nat.le_refl _, Nat.le_refl _⟩ ?_
  refine W.eq (g2 := F0 m 9 ls [.int (nI (nP σ)), .int 0, .int (a)]) rfl ?_
  refine lv_iconst (v := 1) hx hb dX4_isPlayer_9 (by decide) ?_
  refine lv_isub hx hb dX4_isPlayer_10 ?_
  refine pcS (As := [.int (a), .int 0, .int ((nI (nP σ)) - 1)]) (rest := []) hS0 (met_X4_is l D E a 0 ((nI (nP σ)) - 1)) q1588 q1589 q110 q1590 hd_X4_is ⟨Nat.le_of_ble_eq_true rfl, Nat.le_of_ble_eq_true rfl⟩ hG trivial rfl hl.1 rfl (Nat.le_of_ble_eq_true rfl) dX4_isPlayer_11 ⟨Nat.le_refl _, Nat.le_refl _⟩ ?_
  refine W.eq (g2 := F0 m 14 ls [.int (bI ((fX4_is a 0 ((nI (nP σ)) - 1))))]) rfl ?_
  exact p_zret (b := (fX4_is a 0 ((nI (nP σ)) - 1))) hx hb hr hlocks dX4_isPlayer_14 rfl (by rw [← hR])

def fX4_isWedding (σ : St) (a : Int32) : Bool :=
  (fX4_is a 0 ((nI (nW σ)) - 1))
set_option maxHeartbeats 4000000 in
set_option maxRecDepth 100000 in
theorem met_X4_isWedding (l : Launch) (D : va_G) (E : Nat → Nat) {β : Nat → Nat → Nat} {F : Nat → Prop} {σ : St} {th ca : Int32} {sm : Int64} (a : Int32)  : PM l D E yX4_isWedding cX4_isWedding 2 (Option.some Jvm.ClassFile.FieldType.boolean) 1 22 [.ref (β 0 0), .int (a)] (RM D E β F σ th ca sm) (some (.int (bI (fX4_isWedding σ a)))) := by
  generalize hR : fX4_isWedding σ a = r
  refine PM.start (by decide) (Nat.le_of_ble_eq_true rfl) ?_
  intro p e s m below meth c ls hx hb hr hml hown hlocks hts hG hM hl
  have hown : s.vm.findClass RX4 = some m.cls := hown
  have hS0 : xS p m c cX4_isWedding 2 s _ RX4 := ⟨hx, hb, hml, hown, hts⟩
  have hl : lv_has ls 2 [(0, .ref (β 0 0)), (1, .int (a))] := hl
  unfold fX4_isWedding at hR
  refine lv_iload_n hx hb dX4_isWedding_0 rfl (lv_at hl 1 rfl) ?_
  refine lv_iconst (v := 0) hx hb dX4_isWedding_1 (by decide) ?_
  refine lv_aload_n hx hb dX4_isWedding_2 rfl (lv_at hl 0 rfl) ?_
  refine gf (v := .ref (β 1 2)) (C := RX4) (T := TX4) (N := 13) (k := 5) hx hb hts hown hG cl_X4 in_X4 hM.ag (by decide) q1545 rfl dX4_isWedding_3 ?_
  refine pcV (As := []) (rest := [.int 0, .int (a)]) hS0 (met_ml_size l D E (j := 2) (by decide)) q1600 q336 q2080 q103 q338 hd_J2_size ⟨Nat.le_of_ble_eq_true rfl, Nat.le_of_ble_eq_true rfl⟩ hG (hM.lsR hG (j := 2) (by decide)) hM rfl hl.1 rfl (Nat.le_of_ble_eq_true rfl) dX4_isWedding_6 ⟨Nat.le_refl _, Nat.le_refl _⟩ ?_
  refine W.eq (g2 := F0 m 9 ls [.int (nI (nW σ)), .int 0, .int (a)]) rfl ?_
  refine lv_iconst (v := 1) hx hb dX4_isWedding_9 (by decide) ?_
  refine lv_isub hx hb dX4_isWedding_10 ?_
  refine pcS (As := [.int (a), .int 0, .int ((nI (nW σ)) - 1)]) (rest := []) hS0 (met_X4_is l D E a 0 ((nI (nW σ)) - 1)) q1588 q1589 q110 q1590 hd_X4_is ⟨Nat.le_of_ble_eq_true rfl, Nat.le_of_ble_eq_true rfl⟩ hG trivial rfl hl.1 rfl (Nat.le_of_ble_eq_true rfl) dX4_isWedding_11 ⟨Nat.le_refl _, Nat.le_refl _⟩ ?_
  refine W.eq (g2 := F0 m 14 ls [.int (bI ((fX4_is a 0 ((nI (nW σ)) - 1))))]) rfl ?_
  exact p_zret (b := (fX4_is a 0 ((nI (nW σ)) - 1))) hx hb hr hlocks dX4_isWedding_14 rfl (by rw [← hR])

def fX4_areSongs (σ : St) (a : Int32) : Bool :=
  (fX4_is a 0 65535)
set_option maxHeartbeats 4000000 in
set_option maxRecDepth 100000 in
theorem met_X4_areSongs (l : Launch) (D : va_G) (E : Nat → Nat) {β : Nat → Nat → Nat} {F : Nat → Prop} {σ : St} {th ca : Int32} {sm : Int64} (a : Int32)  : PM l D E yX4_areSongs cX4_areSongs 2 (Option.some Jvm.ClassFile.FieldType.boolean) 1 22 [.ref (β 0 0), .int (a)] (RM D E β F σ th ca sm) (some (.int (bI (fX4_areSongs σ a)))) := by
  generalize hR : fX4_areSongs σ a = r
  refine PM.start (by decide) (Nat.le_of_ble_eq_true rfl) ?_
  intro p e s m below meth c ls hx hb hr hml hown hlocks hts hG hM hl
  have hown : s.vm.findClass RX4 = some m.cls := hown
  have hS0 : xS p m c cX4_areSongs 2 s _ RX4 := ⟨hx, hb, hml, hown, hts⟩
  have hl : lv_has ls 2 [(0, .ref (β 0 0)), (1, .int (a))] := hl
  unfold fX4_areSongs at hR
  refine lv_iload_n hx hb dX4_areSongs_0 rfl (lv_at hl 1 rfl) ?_
  refine lv_iconst (v := 0) hx hb dX4_areSongs_1 (by decide) ?_
  refine lv_ldc (v := 65535) hx hb hown (hts _ q1599) dX4_areSongs_2 ?_
  refine pcS (As := [.int (a), .int 0, .int 65535]) (rest := []) hS0 (met_X4_is l D E a 0 65535) q1588 q1589 q110 q1590 hd_X4_is ⟨Nat.le_of_ble_eq_true rfl, Nat.le_of_ble_eq_true rfl⟩ hG trivial rfl hl.1 rfl (Nat.le_of_ble_eq_true rfl) dX4_areSongs_4 ⟨Nat.le_refl _, Nat.le_refl _⟩ ?_
  refine W.eq (g2 := F0 m 7 ls [.int (bI ((fX4_is a 0 65535)))]) rfl ?_
  exact p_zret (b := (fX4_is a 0 65535)) hx hb hr hlocks dX4_areSongs_7 rfl (by rw [← hR])

def fX4_isDay (σ : St) (a : Int32) : Bool :=
  (fX4_is a (tod σ) 365)
set_option maxHeartbeats 4000000 in
set_option maxRecDepth 100000 in
theorem met_X4_isDay (l : Launch) (D : va_G) (E : Nat → Nat) {β : Nat → Nat → Nat} {F : Nat → Prop} {σ : St} {th ca : Int32} {sm : Int64} (a : Int32)  : PM l D E yX4_isDay cX4_isDay 2 (Option.some Jvm.ClassFile.FieldType.boolean) 1 22 [.ref (β 0 0), .int (a)] (RM D E β F σ th ca sm) (some (.int (bI (fX4_isDay σ a)))) := by
  generalize hR : fX4_isDay σ a = r
  refine PM.start (by decide) (Nat.le_of_ble_eq_true rfl) ?_
  intro p e s m below meth c ls hx hb hr hml hown hlocks hts hG hM hl
  have hown : s.vm.findClass RX4 = some m.cls := hown
  have hS0 : xS p m c cX4_isDay 2 s _ RX4 := ⟨hx, hb, hml, hown, hts⟩
  have hl : lv_has ls 2 [(0, .ref (β 0 0)), (1, .int (a))] := hl
  unfold fX4_isDay at hR
  refine lv_iload_n hx hb dX4_isDay_0 rfl (lv_at hl 1 rfl) ?_
  refine lv_aload_n hx hb dX4_isDay_1 rfl (lv_at hl 0 rfl) ?_
  refine gf (v := .int (tod σ)) (C := RX4) (T := TX4) (N := 13) (k := 1) hx hb hts hown hG cl_X4 in_X4 hM.ag (by decide) q1541 rfl dX4_isDay_2 ?_
  refine lv_sipush (v := 365) hx hb dX4_isDay_5 (by decide) ?_
  refine pcS (As := [.int (a), .int (tod σ), .int 365]) (rest := []) hS0 (met_X4_is l D E a (tod σ) 365) q1588 q1589 q110 q1590 hd_X4_is ⟨Nat.le_of_ble_eq_true rfl, Nat.le_of_ble_eq_true rfl⟩ hG trivial rfl hl.1 rfl (Nat.le_of_ble_eq_true rfl) dX4_isDay_8 ⟨Nat.le_refl _, Nat.le_refl _⟩ ?_
  refine W.eq (g2 := F0 m 11 ls [.int (bI ((fX4_is a (tod σ) 365)))]) rfl ?_
  exact p_zret (b := (fX4_is a (tod σ) 365)) hx hb hr hlocks dX4_isDay_11 rfl (by rw [← hR])

def fX4_isBand (σ : St) (a : Int32) : Bool :=
  (fX4_is a 0 ((nI (nB σ)) - 1))
set_option maxHeartbeats 4000000 in
set_option maxRecDepth 100000 in
theorem met_X4_isBand (l : Launch) (D : va_G) (E : Nat → Nat) {β : Nat → Nat → Nat} {F : Nat → Prop} {σ : St} {th ca : Int32} {sm : Int64} (a : Int32)  : PM l D E yX4_isBand cX4_isBand 2 (Option.some Jvm.ClassFile.FieldType.boolean) 1 22 [.ref (β 0 0), .int (a)] (RM D E β F σ th ca sm) (some (.int (bI (fX4_isBand σ a)))) := by
  generalize hR : fX4_isBand σ a = r
  refine PM.start (by decide) (Nat.le_of_ble_eq_true rfl) ?_
  intro p e s m below meth c ls hx hb hr hml hown hlocks hts hG hM hl
  have hown : s.vm.findClass RX4 = some m.cls := hown
  have hS0 : xS p m c cX4_isBand 2 s _ RX4 := ⟨hx, hb, hml, hown, hts⟩
  have hl : lv_has ls 2 [(0, .ref (β 0 0)), (1, .int (a))] := hl
  unfold fX4_isBand at hR
  refine lv_iload_n hx hb dX4_isBand_0 rfl (lv_at hl 1 rfl) ?_
  refine lv_iconst (v := 0) hx hb dX4_isBand_1 (by decide) ?_
  refine lv_aload_n hx hb dX4_isBand_2 rfl (lv_at hl 0 rfl) ?_
  refine gf (v := .ref (β 1 1)) (C := RX4) (T := TX4) (N := 13) (k := 4) hx hb hts hown hG cl_X4 in_X4 hM.ag (by decide) q1544 rfl dX4_isBand_3 ?_
  refine pcV (As := []) (rest := [.int 0, .int (a)]) hS0 (met_ml_size l D E (j := 1) (by decide)) q1600 q336 q2080 q103 q338 hd_J2_size ⟨Nat.le_of_ble_eq_true rfl, Nat.le_of_ble_eq_true rfl⟩ hG (hM.lsR hG (j := 1) (by decide)) hM rfl hl.1 rfl (Nat.le_of_ble_eq_true rfl) dX4_isBand_6 ⟨Nat.le_refl _, Nat.le_refl _⟩ ?_
  refine W.eq (g2 := F0 m 9 ls [.int (nI (nB σ)), .int 0, .int (a)]) rfl ?_
  refine lv_iconst (v := 1) hx hb dX4_isBand_9 (by decide) ?_
  refine lv_isub hx hb dX4_isBand_10 ?_
  refine pcS (As := [.int (a), .int 0, .int ((nI (nB σ)) - 1)]) (rest := []) hS0 (met_X4_is l D E a 0 ((nI (nB σ)) - 1)) q1588 q1589 q110 q1590 hd_X4_is ⟨Nat.le_of_ble_eq_true rfl, Nat.le_of_ble_eq_true rfl⟩ hG trivial rfl hl.1 rfl (Nat.le_of_ble_eq_true rfl) dX4_isBand_11 ⟨Nat.le_refl _, Nat.le_refl _⟩ ?_
  refine W.eq (g2 := F0 m 14 ls [.int (bI ((fX4_is a 0 ((nI (nB σ)) - 1))))]) rfl ?_
  exact p_zret (b := (fX4_is a 0 ((nI (nB σ)) - 1))) hx hb hr hlocks dX4_isBand_14 rfl (by rw [← hR])

def fX4_isTown (a : Int32) : Bool :=
  (fX4_is a 0 5)
set_option maxHeartbeats 4000000 in
set_option maxRecDepth 100000 in
theorem met_X4_isTown (l : Launch) (D : va_G) (E : Nat → Nat) (a : Int32)  : PM l D E yX4_isTown cX4_isTown 1 (Option.some Jvm.ClassFile.FieldType.boolean) 1 22 [.int (a)] (fun _ => True) (some (.int (bI (fX4_isTown a)))) := by
  generalize hR : fX4_isTown a = r
  refine PM.start (by decide) (Nat.le_of_ble_eq_true rfl) ?_
  intro p e s m below meth c ls hx hb hr hml hown hlocks hts hG hTriv hl
  have hown : s.vm.findClass RX4 = some m.cls := hown
  have hS0 : xS p m c cX4_isTown 1 s _ RX4 := ⟨hx, hb, hml, hown, hts⟩
  have hl : lv_has ls 1 [(0, .int (a))] := hl
  unfold fX4_isTown at hR
  refine lv_iload_n hx hb dX4_isTown_0 rfl (lv_at hl 0 rfl) ?_
  refine lv_iconst (v := 0) hx hb dX4_isTown_1 (by decide) ?_
  refine lv_iconst (v := 5) hx hb dX4_isTown_2 (by decide) ?_
  refine pcS (As := [.int (a), .int 0, .int 5]) (rest := []) hS0 (met_X4_is l D E a 0 5) q1588 q1589 q110 q1590 hd_X4_is ⟨Nat.le_of_ble_eq_true rfl, Nat.le_of_ble_eq_true rfl⟩ hG trivial rfl hl.1 rfl (Nat.le_of_ble_eq_true rfl) dX4_isTown_3 ⟨Nat.le_refl _, Nat.le_refl _⟩ ?_
  refine W.eq (g2 := F0 m 6 ls [.int (bI ((fX4_is a 0 5)))]) rfl ?_
  exact p_zret (b := (fX4_is a 0 5)) hx hb hr hlocks dX4_isTown_6 rfl (by rw [← hR])

def fX4_needed_2_L4 (a : Int32) (k : Nat)  (κ : Int32 → Int32) : Nat → Nat → Int32 → Int32
  | 0, i3, a2 => κ a2
  | n + 1, i3, a2 => fX4_needed_2_L4 a k κ n (i3 + 1) (a2 / 3)
def fX4_needed_2 (a : Int32) (k : Nat) : Int32 :=
  fX4_needed_2_L4 a k (fun (a1 : Int32) => a1 - a1 / 3 * 3) k 0 a
set_option maxHeartbeats 4000000 in
set_option maxRecDepth 100000 in
theorem met_X4_needed_2 (l : Launch) (D : va_G) (E : Nat → Nat) (a : Int32) (k : Nat) (h_k : k < 6) : PM l D E yX4_needed_2 cX4_needed_2 4 (Option.some Jvm.ClassFile.FieldType.int) 0 0 [.int (a), .int (nI k)] (fun _ => True) (some (.int (fX4_needed_2 a k))) := by
  generalize hR : fX4_needed_2 a k = r
  refine PM.start (by decide) (Nat.le_of_ble_eq_true rfl) ?_
  intro p e s m below meth c ls hx hb hr hml hown hlocks hts hG hTriv hl
  have hown : s.vm.findClass RX4 = some m.cls := hown
  have hS0 : xS p m c cX4_needed_2 4 s _ RX4 := ⟨hx, hb, hml, hown, hts⟩
  have hl : lv_has ls 4 [(0, .int (a)), (1, .int (nI k))] := hl
  have hL4 : ∀ (κ : Int32 → Int32) (hκ : ∀ (a2 : Int32) (ls : Array Slot), κ a2 = r → lv_has ls 4 [(2, .int (a2))] → W p l e { frames := 0, cells := 0, slots := 0, locals := 0 } s m [(.int (a) : Value), .int (nI k)].toArray below meth c s.heap [] 0 0 (MQ below (qP (some (.int r))) [(.int (a) : Value), .int (nI k)].toArray s 0 0 (fun _ => False)) (F0 m 19 ls [])) (n : Nat) (i3 : Nat) (a2 : Int32), i3 + n = k → fX4_needed_2_L4 a k κ n i3 a2 = r → ∀ (ls : Array Slot), lv_has ls 4 [(1, .int (nI k)), (2, .int (a2)), (3, .int (nI i3))] → W p l e { frames := 0, cells := 0, slots := 0, locals := 0 } s m [(.int (a) : Value), .int (nI k)].toArray below meth c s.heap [] 0 0 (MQ below (qP (some (.int r))) [(.int (a) : Value), .int (nI k)].toArray s 0 0 (fun _ => False)) (F0 m 4 ls []) := by
    intro  κ hκ n
    induction n with
    | zero =>
      intro i3 a2 hn hR ls hl
      rw [fX4_needed_2_L4] at hR
      refine lv_iload_n hx hb dX4_needed_2_4 rfl (lv_at hl 2 rfl) ?_
      refine lv_iload_n hx hb dX4_needed_2_5 rfl (lv_at hl 0 rfl) ?_
      refine lk_ge_out (k := i3) (N := k) hx hb hn (tgt := 19) dX4_needed_2_6 (by decide) ?_
      exact hκ a2 ls hR (lv_sub hl [1] rfl)
    | succ n ih =>
      intro i3 a2 hn hR ls hl
      rw [fX4_needed_2_L4] at hR
      refine lv_iload_n hx hb dX4_needed_2_4 rfl (lv_at hl 2 rfl) ?_
      refine lv_iload_n hx hb dX4_needed_2_5 rfl (lv_at hl 0 rfl) ?_
      have hki3 : i3 < k := lk_lt hn
      refine lk_ge_in (k := i3) (N := k) hx hb hki3 (by omega) (tgt := 19) dX4_needed_2_6 (by decide) ?_
      refine lv_iload_n hx hb dX4_needed_2_9 rfl (lv_at hl 1 rfl) ?_
      refine lv_iconst (v := 3) hx hb dX4_needed_2_10 (by decide) ?_
      refine lv_idiv hx hb dX4_needed_2_11 (by decide) ?_
      refine lv_istore_n (lv' := [(2, .int (a2 / 3)), (1, .int (nI k)), (3, .int (nI i3))]) hx hb dX4_needed_2_12 rfl hl (Nat.le_of_ble_eq_true rfl) rfl (fun ls hl => ?_)
      refine lv_iinc (v := nI (i3 + 1)) (lv' := [(3, .int (nI (i3 + 1))), (2, .int (a2 / 3)), (1, .int (nI k))]) hx hb dX4_needed_2_13 hl (k := 2) rfl (nI_1 i3) (Nat.le_of_ble_eq_true rfl) rfl (fun ls hl => ?_)
      refine lv_goto (tgt := 4) hx hb dX4_needed_2_16 (by decide) ?_
      exact ih (i3 + 1) (a2 / 3) (lk_st hn) hR ls (lv_sub hl [2, 1, 0] rfl)
  unfold fX4_needed_2 at hR
  refine lv_iload_n hx hb dX4_needed_2_0 rfl (lv_at hl 0 rfl) ?_
  refine lv_istore_n (lv' := [(2, .int (a)), (0, .int (a)), (1, .int (nI k))]) hx hb dX4_needed_2_1 rfl hl (Nat.le_of_ble_eq_true rfl) rfl (fun ls hl => ?_)
  refine lv_iconst (v := 0) hx hb dX4_needed_2_2 (by decide) ?_
  refine lv_istore_n (lv' := [(3, .int 0), (2, .int (a)), (0, .int (a)), (1, .int (nI k))]) hx hb dX4_needed_2_3 rfl hl (Nat.le_of_ble_eq_true rfl) rfl (fun ls hl => ?_)
  refine hL4  _ (fun a1 ls hR hl => ?_) k 0 a (Nat.zero_add _) hR ls (lv_sub hl [3, 1, 0] rfl)
  refine lv_iload_n hx hb dX4_needed_2_19 rfl (lv_at hl 0 rfl) ?_
  refine lv_iconst (v := 3) hx hb dX4_needed_2_20 (by decide) ?_
  refine lv_irem hx hb dX4_needed_2_21 (by decide) ?_
  exact p_iret hx hb hr hlocks dX4_needed_2_22 (by rw [← hR])

def fX4_needed_L4 (a : Int32)  (κ : Int32 → Int32) : Nat → Nat → Int32 → Int32
  | 0, i2, a1 => κ a1
  | n + 1, i2, a1 => fX4_needed_L4 a κ n (i2 + 1) (a1 + ((fX4_needed_2 a i2)))
def fX4_needed (a : Int32) : Int32 :=
  fX4_needed_L4 a (fun (a1 : Int32) => a1) 6 0 0
set_option maxHeartbeats 4000000 in
set_option maxRecDepth 100000 in
theorem met_X4_needed (l : Launch) (D : va_G) (E : Nat → Nat) (a : Int32)  : PM l D E yX4_needed cX4_needed 3 (Option.some Jvm.ClassFile.FieldType.int) 1 23 [.int (a)] (fun _ => True) (some (.int (fX4_needed a))) := by
  generalize hR : fX4_needed a = r
  refine PM.start (by decide) (Nat.le_of_ble_eq_true rfl) ?_
  intro p e s m below meth c ls hx hb hr hml hown hlocks hts hG hTriv hl
  have hown : s.vm.findClass RX4 = some m.cls := hown
  have hS0 : xS p m c cX4_needed 3 s _ RX4 := ⟨hx, hb, hml, hown, hts⟩
  have hl : lv_has ls 3 [(0, .int (a))] := hl
  have hL4 : ∀ (κ : Int32 → Int32) (hκ : ∀ (a1 : Int32) (ls : Array Slot), κ a1 = r → lv_has ls 3 [(1, .int (a1))] → W p l e { frames := 1, cells := 0, slots := 0, locals := 23 } s m [(.int (a) : Value)].toArray below meth c s.heap [] 0 0 (MQ below (qP (some (.int r))) [(.int (a) : Value)].toArray s 0 0 (fun _ => False)) (F0 m 24 ls [])) (n : Nat) (i2 : Nat) (a1 : Int32), i2 + n = 6 → fX4_needed_L4 a κ n i2 a1 = r → ∀ (ls : Array Slot), lv_has ls 3 [(0, .int (a)), (1, .int (a1)), (2, .int (nI i2))] → W p l e { frames := 1, cells := 0, slots := 0, locals := 23 } s m [(.int (a) : Value)].toArray below meth c s.heap [] 0 0 (MQ below (qP (some (.int r))) [(.int (a) : Value)].toArray s 0 0 (fun _ => False)) (F0 m 4 ls []) := by
    intro  κ hκ n
    induction n with
    | zero =>
      intro i2 a1 hn hR ls hl
      rw [fX4_needed_L4] at hR
      refine lv_iload_n hx hb dX4_needed_4 rfl (lv_at hl 2 rfl) ?_
      refine lv_bipush (v := 6) hx hb dX4_needed_5 (by decide) ?_
      refine lk_ge_out (k := i2) (N := 6) hx hb hn (tgt := 24) dX4_needed_7 (by decide) ?_
      exact hκ a1 ls hR (lv_sub hl [1] rfl)
    | succ n ih =>
      intro i2 a1 hn hR ls hl
      rw [fX4_needed_L4] at hR
      refine lv_iload_n hx hb dX4_needed_4 rfl (lv_at hl 2 rfl) ?_
      refine lv_bipush (v := 6) hx hb dX4_needed_5 (by decide) ?_
      have hki2 : i2 < 6 := lk_lt hn
      refine lk_ge_in (k := i2) (N := 6) hx hb hki2 (by decide) (tgt := 24) dX4_needed_7 (by decide) ?_
      refine lv_iload_n hx hb dX4_needed_10 rfl (lv_at hl 1 rfl) ?_
      refine lv_iload_n hx hb dX4_needed_11 rfl (lv_at hl 0 rfl) ?_
      refine lv_iload_n hx hb dX4_needed_12 rfl (lv_at hl 2 rfl) ?_
      refine pcS (As := [.int (a), .int (nI i2)]) (rest := [.int (a1)]) hS0 (met_X4_needed_2 l D E a i2 hki2) q1675 q1676 q110 q1677 hd_X4_needed_2 ⟨Nat.le_of_ble_eq_true rfl, Nat.le_of_ble_eq_true rfl⟩ hG trivial rfl hl.1 rfl (Nat.le_of_ble_eq_true rfl) dX4_needed_13 ⟨Nat.le_refl _, Nat.le_refl _⟩ ?_
      refine W.eq (g2 := F0 m 16 ls [.int ((fX4_needed_2 a i2)), .int (a1)]) rfl ?_
      refine lv_iadd hx hb dX4_needed_16 ?_
      refine lv_istore_n (lv' := [(1, .int (a1 + ((fX4_needed_2 a i2)))), (0, .int (a)), (2, .int (nI i2))]) hx hb dX4_needed_17 rfl hl (Nat.le_of_ble_eq_true rfl) rfl (fun ls hl => ?_)
      refine lv_iinc (v := nI (i2 + 1)) (lv' := [(2, .int (nI (i2 + 1))), (1, .int (a1 + ((fX4_needed_2 a i2)))), (0, .int (a))]) hx hb dX4_needed_18 hl (k := 2) rfl (nI_1 i2) (Nat.le_of_ble_eq_true rfl) rfl (fun ls hl => ?_)
      refine lv_goto (tgt := 4) hx hb dX4_needed_21 (by decide) ?_
      exact ih (i2 + 1) (a1 + ((fX4_needed_2 a i2))) (lk_st hn) hR ls (lv_sub hl [2, 1, 0] rfl)
  unfold fX4_needed at hR
  refine lv_iconst (v := 0) hx hb dX4_needed_0 (by decide) ?_
  refine lv_istore_n (lv' := [(1, .int 0), (0, .int (a))]) hx hb dX4_needed_1 rfl hl (Nat.le_of_ble_eq_true rfl) rfl (fun ls hl => ?_)
  refine lv_iconst (v := 0) hx hb dX4_needed_2 (by decide) ?_
  refine lv_istore_n (lv' := [(2, .int 0), (1, .int 0), (0, .int (a))]) hx hb dX4_needed_3 rfl hl (Nat.le_of_ble_eq_true rfl) rfl (fun ls hl => ?_)
  refine hL4  _ (fun a1 ls hR hl => ?_) 6 0 0 (Nat.zero_add _) hR ls (lv_sub hl [2, 1, 0] rfl)
  refine lv_iload_n hx hb dX4_needed_24 rfl (lv_at hl 0 rfl) ?_
  exact p_iret hx hb hr hlocks dX4_needed_25 (by rw [← hR])

def fX11_quarters (σ : St) (wi : Nat) : Int32 :=
  ((if (60 * ((24 - (wStart σ wi)) - (wLen σ wi))) < (wLate σ wi) then (60 * ((24 - (wStart σ wi)) - (wLen σ wi))) else (wLate σ wi)) + 14) / 15
set_option maxHeartbeats 4000000 in
set_option maxRecDepth 100000 in
theorem met_X11_quarters (l : Launch) (D : va_G) (E : Nat → Nat) {β : Nat → Nat → Nat} {F : Nat → Prop} {σ : St} {th ca : Int32} {sm : Int64} (wi : Nat) (h_wi : wi < nW σ) : PM l D E yX11_quarters cX11_quarters 1 (Option.some Jvm.ClassFile.FieldType.int) 1 24 [.ref (β 5 wi)] (RM D E β F σ th ca sm) (some (.int (fX11_quarters σ wi))) := by
  generalize hR : fX11_quarters σ wi = r
  refine PM.start (by decide) (Nat.le_of_ble_eq_true rfl) ?_
  intro p e s m below meth c ls hx hb hr hml hown hlocks hts hG hM hl
  have hown : s.vm.findClass RX11 = some m.cls := hown
  have hS0 : xS p m c cX11_quarters 1 s _ RX11 := ⟨hx, hb, hml, hown, hts⟩
  have hl : lv_has ls 1 [(0, .ref (β 5 wi))] := hl
  unfold fX11_quarters at hR
  refine lv_aload_n hx hb dX11_quarters_0 rfl (lv_at hl 0 rfl) ?_
  refine gf (v := .int (wLate σ wi)) (C := RX11) (T := TX11) (N := 12) (k := 10) hx hb hts hown hG cl_X11 in_X11 (hM.wd h_wi) (by decide) q1713 rfl dX11_quarters_1 ?_
  refine lv_bipush (v := 60) hx hb dX11_quarters_4 (by decide) ?_
  refine lv_bipush (v := 24) hx hb dX11_quarters_6 (by decide) ?_
  refine lv_aload_n hx hb dX11_quarters_8 rfl (lv_at hl 0 rfl) ?_
  refine gf (v := .int (wStart σ wi)) (C := RX11) (T := TX11) (N := 12) (k := 3) hx hb hts hown hG cl_X11 in_X11 (hM.wd h_wi) (by decide) q1704 rfl dX11_quarters_9 ?_
  refine lv_isub hx hb dX11_quarters_12 ?_
  refine lv_aload_n hx hb dX11_quarters_13 rfl (lv_at hl 0 rfl) ?_
  refine gf (v := .int (wLen σ wi)) (C := RX11) (T := TX11) (N := 12) (k := 4) hx hb hts hown hG cl_X11 in_X11 (hM.wd h_wi) (by decide) q1706 rfl dX11_quarters_14 ?_
  refine lv_isub hx hb dX11_quarters_17 ?_
  refine lv_imul hx hb dX11_quarters_18 ?_
  refine va_mmin hx hb (hml.trans hl.1.symm) hown (hts _ q1877) (hts _ q293) (hts _ q107) (hts _ q294) (Nat.le_of_ble_eq_true rfl) (Nat.le_of_ble_eq_true rfl) (Nat.le_refl _) (Nat.le_refl _) dX11_quarters_19 ?_
  refine W.eq (g2 := F0 m 22 ls [.int (if (60 * ((24 - (wStart σ wi)) - (wLen σ wi))) < (wLate σ wi) then (60 * ((24 - (wStart σ wi)) - (wLen σ wi))) else (wLate σ wi))]) rfl ?_
  refine lv_bipush (v := 14) hx hb dX11_quarters_22 (by decide) ?_
  refine lv_iadd hx hb dX11_quarters_24 ?_
  refine lv_bipush (v := 15) hx hb dX11_quarters_25 (by decide) ?_
  refine lv_idiv hx hb dX11_quarters_27 (by decide) ?_
  exact p_iret hx hb hr hlocks dX11_quarters_28 (by rw [← hR])

def fX4_isFixed_L2 (σ : St) (bn : Int32) (dn : Int32)  (κ : Bool) : Nat → Nat → Bool
  | 0, i3 => κ
  | n + 1, i3 => (if (nI (wState σ i3)) = 1 then (if (nI (wBand σ i3)) = bn then (if (nI (wDay σ i3)) = dn then true else fX4_isFixed_L2 σ bn dn κ n (i3 + 1)) else fX4_isFixed_L2 σ bn dn κ n (i3 + 1)) else fX4_isFixed_L2 σ bn dn κ n (i3 + 1))
def fX4_isFixed (σ : St) (bn : Int32) (dn : Int32) : Bool :=
  fX4_isFixed_L2 σ bn dn (false) (nW σ) 0
set_option maxHeartbeats 4000000 in
set_option maxRecDepth 100000 in
theorem met_X4_isFixed (l : Launch) (D : va_G) (E : Nat → Nat) {β : Nat → Nat → Nat} {F : Nat → Prop} {σ : St} {th ca : Int32} {sm : Int64} (bn : Int32) (dn : Int32)  : PM l D E yX4_isFixed cX4_isFixed 5 (Option.some Jvm.ClassFile.FieldType.boolean) 3 64 [.ref (β 0 0), .int (bn), .int (dn)] (RM D E β F σ th ca sm) (some (.int (bI (fX4_isFixed σ bn dn)))) := by
  generalize hR : fX4_isFixed σ bn dn = r
  refine PM.start (by decide) (Nat.le_of_ble_eq_true rfl) ?_
  intro p e s m below meth c ls hx hb hr hml hown hlocks hts hG hM hl
  have hown : s.vm.findClass RX4 = some m.cls := hown
  have hS0 : xS p m c cX4_isFixed 5 s _ RX4 := ⟨hx, hb, hml, hown, hts⟩
  have hl : lv_has ls 5 [(0, .ref (β 0 0)), (1, .int (bn)), (2, .int (dn))] := hl
  have hL2 : ∀ (κ : Bool) (hκ : ∀ (ls : Array Slot), κ = r → lv_has ls 5 [] → W p l e { frames := 3, cells := 0, slots := 0, locals := 64 } s m [(.ref (β 0 0) : Value), .int (bn), .int (dn)].toArray below meth c s.heap [] 0 0 (MQ below (qP (some (.int (bI r)))) [(.ref (β 0 0) : Value), .int (bn), .int (dn)].toArray s 0 0 (fun _ => False)) (F0 m 61 ls [])) (n : Nat) (i3 : Nat), i3 + n = nW σ → fX4_isFixed_L2 σ bn dn κ n i3 = r → ∀ (ls : Array Slot), lv_has ls 5 [(0, .ref (β 0 0)), (1, .int (bn)), (2, .int (dn)), (3, .int (nI i3))] → W p l e { frames := 3, cells := 0, slots := 0, locals := 64 } s m [(.ref (β 0 0) : Value), .int (bn), .int (dn)].toArray below meth c s.heap [] 0 0 (MQ below (qP (some (.int (bI r)))) [(.ref (β 0 0) : Value), .int (bn), .int (dn)].toArray s 0 0 (fun _ => False)) (F0 m 2 ls []) := by
    intro  κ hκ n
    induction n with
    | zero =>
      intro i3 hn hR ls hl
      rw [fX4_isFixed_L2] at hR
      refine lv_iload_n hx hb dX4_isFixed_2 rfl (lv_at hl 3 rfl) ?_
      refine lv_aload_n hx hb dX4_isFixed_3 rfl (lv_at hl 0 rfl) ?_
      refine gf (v := .ref (β 1 2)) (C := RX4) (T := TX4) (N := 13) (k := 5) hx hb hts hown hG cl_X4 in_X4 hM.ag (by decide) q1545 rfl dX4_isFixed_4 ?_
      refine pcV (As := []) (rest := [.int (nI i3)]) hS0 (met_ml_size l D E (j := 2) (by decide)) q1600 q336 q2080 q103 q338 hd_J2_size ⟨Nat.le_of_ble_eq_true rfl, Nat.le_of_ble_eq_true rfl⟩ hG (hM.lsR hG (j := 2) (by decide)) hM rfl hl.1 rfl (Nat.le_of_ble_eq_true rfl) dX4_isFixed_7 ⟨Nat.le_refl _, Nat.le_refl _⟩ ?_
      refine W.eq (g2 := F0 m 10 ls [.int (nI (nW σ)), .int (nI i3)]) rfl ?_
      refine lk_ge_out (k := i3) (N := nW σ) hx hb hn (tgt := 61) dX4_isFixed_10 (by decide) ?_
      exact hκ  ls hR (lv_sub hl [] rfl)
    | succ n ih =>
      intro i3 hn hR ls hl
      rw [fX4_isFixed_L2] at hR
      refine lv_iload_n hx hb dX4_isFixed_2 rfl (lv_at hl 3 rfl) ?_
      refine lv_aload_n hx hb dX4_isFixed_3 rfl (lv_at hl 0 rfl) ?_
      refine gf (v := .ref (β 1 2)) (C := RX4) (T := TX4) (N := 13) (k := 5) hx hb hts hown hG cl_X4 in_X4 hM.ag (by decide) q1545 rfl dX4_isFixed_4 ?_
      refine pcV (As := []) (rest := [.int (nI i3)]) hS0 (met_ml_size l D E (j := 2) (by decide)) q1600 q336 q2080 q103 q338 hd_J2_size ⟨Nat.le_of_ble_eq_true rfl, Nat.le_of_ble_eq_true rfl⟩ hG (hM.lsR hG (j := 2) (by decide)) hM rfl hl.1 rfl (Nat.le_of_ble_eq_true rfl) dX4_isFixed_7 ⟨Nat.le_refl _, Nat.le_refl _⟩ ?_
      refine W.eq (g2 := F0 m 10 ls [.int (nI (nW σ)), .int (nI i3)]) rfl ?_
      have hki3 : i3 < nW σ := lk_lt hn
      refine lk_ge_in (k := i3) (N := nW σ) hx hb hki3 (by have := hM.nW14; omega) (tgt := 61) dX4_isFixed_10 (by decide) ?_
      refine lv_aload_n hx hb dX4_isFixed_13 rfl (lv_at hl 0 rfl) ?_
      refine gf (v := .ref (β 1 2)) (C := RX4) (T := TX4) (N := 13) (k := 5) hx hb hts hown hG cl_X4 in_X4 hM.ag (by decide) q1545 rfl dX4_isFixed_14 ?_
      refine lv_iload_n hx hb dX4_isFixed_17 rfl (lv_at hl 3 rfl) ?_
      refine pcV (As := [.int (nI i3)]) (rest := []) hS0 (met_ml_get l D E (j := 2) (by decide) i3 hki3) q1639 q349 q2082 q103 q351 hd_J2_get ⟨Nat.le_of_ble_eq_true rfl, Nat.le_of_ble_eq_true rfl⟩ hG (hM.lsR hG (j := 2) (by decide)) hM rfl hl.1 rfl (Nat.le_of_ble_eq_true rfl) dX4_isFixed_18 ⟨Nat.le_refl _, Nat.le_refl _⟩ ?_
      refine W.eq (g2 := F0 m 21 ls [.ref (β 5 i3)]) rfl ?_
      refine gc (ci := 9) hx hb hown hG cl_X11 (rcv hG cl_X11 (hM.wd hki3)) (hts _ q1695) dX4_isFixed_21 ?_
      refine lv_astore (lv' := [(4, .ref (β 5 i3)), (0, .ref (β 0 0)), (1, .int (bn)), (2, .int (dn)), (3, .int (nI i3))]) hx hb dX4_isFixed_24 hl (Nat.le_of_ble_eq_true rfl) rfl (fun ls hl => ?_)
      refine lv_aload hx hb dX4_isFixed_26 (lv_at hl 0 rfl) ?_
      refine gfN (v := .int (nI (wState σ i3))) (C := RX11) (T := TX11) (N := 12) (k := 7) hx hb hts hown hG cl_X11 in_X11 (hM.wd hki3) (by decide) q1710 rfl dX4_isFixed_28 ?_
      refine lv_iconst (v := 1) hx hb dX4_isFixed_31 (by decide) ?_
      refine lv_icmp_ne (tgt := 55) hx hb dX4_isFixed_32 (by decide) (fun c1 => ?_) (fun c1 => ?_)
      · rw [if_neg c1] at hR
        refine lv_iinc (v := nI (i3 + 1)) (lv' := [(3, .int (nI (i3 + 1))), (4, .ref (β 5 i3)), (0, .ref (β 0 0)), (1, .int (bn)), (2, .int (dn))]) hx hb dX4_isFixed_55 hl (k := 4) rfl (nI_1 i3) (Nat.le_of_ble_eq_true rfl) rfl (fun ls hl => ?_)
        refine lv_goto (tgt := 2) hx hb dX4_isFixed_58 (by decide) ?_
        exact ih (i3 + 1) (lk_st hn) hR ls (lv_sub hl [2, 3, 4, 0] rfl)
      · rw [if_pos c1] at hR
        refine lv_aload hx hb dX4_isFixed_35 (lv_at hl 0 rfl) ?_
        refine gfN (v := .int (nI (wBand σ i3))) (C := RX11) (T := TX11) (N := 12) (k := 0) hx hb hts hown hG cl_X11 in_X11 (hM.wd hki3) (by decide) q1701 rfl dX4_isFixed_37 ?_
        refine lv_iload_n hx hb dX4_isFixed_40 rfl (lv_at hl 2 rfl) ?_
        refine lv_icmp_ne (tgt := 55) hx hb dX4_isFixed_41 (by decide) (fun c2 => ?_) (fun c2 => ?_)
        · rw [if_neg c2] at hR
          refine lv_iinc (v := nI (i3 + 1)) (lv' := [(3, .int (nI (i3 + 1))), (4, .ref (β 5 i3)), (0, .ref (β 0 0)), (1, .int (bn)), (2, .int (dn))]) hx hb dX4_isFixed_55 hl (k := 4) rfl (nI_1 i3) (Nat.le_of_ble_eq_true rfl) rfl (fun ls hl => ?_)
          refine lv_goto (tgt := 2) hx hb dX4_isFixed_58 (by decide) ?_
          exact ih (i3 + 1) (lk_st hn) hR ls (lv_sub hl [2, 3, 4, 0] rfl)
        · rw [if_pos c2] at hR
          refine lv_aload hx hb dX4_isFixed_44 (lv_at hl 0 rfl) ?_
          refine gfN (v := .int (nI (wDay σ i3))) (C := RX11) (T := TX11) (N := 12) (k := 1) hx hb hts hown hG cl_X11 in_X11 (hM.wd hki3) (by decide) q1702 rfl dX4_isFixed_46 ?_
          refine lv_iload_n hx hb dX4_isFixed_49 rfl (lv_at hl 3 rfl) ?_
          refine lv_icmp_ne (tgt := 55) hx hb dX4_isFixed_50 (by decide) (fun c3 => ?_) (fun c3 => ?_)
          · rw [if_neg c3] at hR
            refine lv_iinc (v := nI (i3 + 1)) (lv' := [(3, .int (nI (i3 + 1))), (4, .ref (β 5 i3)), (0, .ref (β 0 0)), (1, .int (bn)), (2, .int (dn))]) hx hb dX4_isFixed_55 hl (k := 4) rfl (nI_1 i3) (Nat.le_of_ble_eq_true rfl) rfl (fun ls hl => ?_)
            refine lv_goto (tgt := 2) hx hb dX4_isFixed_58 (by decide) ?_
            exact ih (i3 + 1) (lk_st hn) hR ls (lv_sub hl [2, 3, 4, 0] rfl)
          · rw [if_pos c3] at hR
            refine lv_iconst (v := 1) hx hb dX4_isFixed_53 (by decide) ?_
            exact p_zret (b := true) hx hb hr hlocks dX4_isFixed_54 rfl (by rw [← hR])
  unfold fX4_isFixed at hR
  refine lv_iconst (v := 0) hx hb dX4_isFixed_0 (by decide) ?_
  refine lv_istore_n (lv' := [(3, .int 0), (0, .ref (β 0 0)), (1, .int (bn)), (2, .int (dn))]) hx hb dX4_isFixed_1 rfl hl (Nat.le_of_ble_eq_true rfl) rfl (fun ls hl => ?_)
  refine hL2  _ (fun  ls hR hl => ?_) (nW σ) 0 (Nat.zero_add _) hR ls (lv_sub hl [1, 2, 3, 0] rfl)
  refine lv_iconst (v := 0) hx hb dX4_isFixed_61 (by decide) ?_
  exact p_zret (b := false) hx hb hr hlocks dX4_isFixed_62 rfl (by rw [← hR])

def fX4_place_L26 (σ : St) (wi : Nat)  (κ : Int32 → Int32) : Nat → Nat → Int32 → Int32
  | 0, i4, a3 => κ a3
  | n + 1, i4, a3 => (if (nI (wState σ i4)) = 0 then (if (nI (wBand σ i4)) = (nI (wBand σ wi)) then (if (nI (wDay σ i4)) = (nI (wDay σ wi)) then fX4_place_L26 σ wi κ n (i4 + 1) (a3 + 1) else fX4_place_L26 σ wi κ n (i4 + 1) (a3 + 0)) else fX4_place_L26 σ wi κ n (i4 + 1) (a3 + 0)) else fX4_place_L26 σ wi κ n (i4 + 1) (a3 + 0))
def fX4_place (σ : St) (wi : Nat) : Int32 :=
  (if (nI (wState σ wi)) = 0 then fX4_place_L26 σ wi (fun (a5 : Int32) => a5) wi 0 0 else (-1))
set_option maxHeartbeats 4000000 in
set_option maxRecDepth 100000 in
theorem met_X4_place (l : Launch) (D : va_G) (E : Nat → Nat) {β : Nat → Nat → Nat} {F : Nat → Prop} {σ : St} {th ca : Int32} {sm : Int64} (wi : Nat) (h_wi : wi < nW σ) : PM l D E yX4_place cX4_place 6 (Option.some Jvm.ClassFile.FieldType.int) 3 64 [.ref (β 0 0), .int (nI wi)] (RM D E β F σ th ca sm) (some (.int (fX4_place σ wi))) := by
  generalize hR : fX4_place σ wi = r
  refine PM.start (by decide) (Nat.le_of_ble_eq_true rfl) ?_
  intro p e s m below meth c ls hx hb hr hml hown hlocks hts hG hM hl
  have hown : s.vm.findClass RX4 = some m.cls := hown
  have hS0 : xS p m c cX4_place 6 s _ RX4 := ⟨hx, hb, hml, hown, hts⟩
  have hl : lv_has ls 6 [(0, .ref (β 0 0)), (1, .int (nI wi))] := hl
  have hL26 : ∀ (κ : Int32 → Int32) (hκ : ∀ (a3 : Int32) (ls : Array Slot), κ a3 = r → lv_has ls 6 [(3, .int (a3))] → W p l e { frames := 3, cells := 0, slots := 0, locals := 64 } s m [(.ref (β 0 0) : Value), .int (nI wi)].toArray below meth c s.heap [] 0 0 (MQ below (qP (some (.int r))) [(.ref (β 0 0) : Value), .int (nI wi)].toArray s 0 0 (fun _ => False)) (F0 m 92 ls [])) (n : Nat) (i4 : Nat) (a3 : Int32), i4 + n = wi → fX4_place_L26 σ wi κ n i4 a3 = r → ∀ (ls : Array Slot), lv_has ls 6 [(0, .ref (β 0 0)), (1, .int (nI wi)), (2, .ref (β 5 wi)), (3, .int (a3)), (4, .int (nI i4))] → W p l e { frames := 3, cells := 0, slots := 0, locals := 64 } s m [(.ref (β 0 0) : Value), .int (nI wi)].toArray below meth c s.heap [] 0 0 (MQ below (qP (some (.int r))) [(.ref (β 0 0) : Value), .int (nI wi)].toArray s 0 0 (fun _ => False)) (F0 m 26 ls []) := by
    intro  κ hκ n
    induction n with
    | zero =>
      intro i4 a3 hn hR ls hl
      rw [fX4_place_L26] at hR
      refine lv_iload hx hb dX4_place_26 (lv_at hl 4 rfl) ?_
      refine lv_iload_n hx hb dX4_place_28 rfl (lv_at hl 1 rfl) ?_
      refine lk_ge_out (k := i4) (N := wi) hx hb hn (tgt := 92) dX4_place_29 (by decide) ?_
      exact hκ a3 ls hR (lv_sub hl [3] rfl)
    | succ n ih =>
      intro i4 a3 hn hR ls hl
      rw [fX4_place_L26] at hR
      refine lv_iload hx hb dX4_place_26 (lv_at hl 4 rfl) ?_
      refine lv_iload_n hx hb dX4_place_28 rfl (lv_at hl 1 rfl) ?_
      have hki4 : i4 < wi := lk_lt hn
      refine lk_ge_in (k := i4) (N := wi) hx hb hki4 (by have := hM.nP10; have := hM.nW14; have := hM.nB6; omega) (tgt := 92) dX4_place_29 (by decide) ?_
      refine lv_aload_n hx hb dX4_place_32 rfl (lv_at hl 0 rfl) ?_
      refine gf (v := .ref (β 1 2)) (C := RX4) (T := TX4) (N := 13) (k := 5) hx hb hts hown hG cl_X4 in_X4 hM.ag (by decide) q1545 rfl dX4_place_33 ?_
      refine lv_iload hx hb dX4_place_36 (lv_at hl 4 rfl) ?_
      refine pcV (As := [.int (nI i4)]) (rest := []) hS0 (met_ml_get l D E (j := 2) (by decide) i4 (show i4 < nW σ from by have := hki4; omega)) q1639 q349 q2082 q103 q351 hd_J2_get ⟨Nat.le_of_ble_eq_true rfl, Nat.le_of_ble_eq_true rfl⟩ hG (hM.lsR hG (j := 2) (by decide)) hM rfl hl.1 rfl (Nat.le_of_ble_eq_true rfl) dX4_place_38 ⟨Nat.le_refl _, Nat.le_refl _⟩ ?_
      refine W.eq (g2 := F0 m 41 ls [.ref (β 5 i4)]) rfl ?_
      refine gc (ci := 9) hx hb hown hG cl_X11 (rcv hG cl_X11 (hM.wd (show i4 < nW σ from by have := hki4; omega))) (hts _ q1695) dX4_place_41 ?_
      refine lv_astore (lv' := [(5, .ref (β 5 i4)), (0, .ref (β 0 0)), (1, .int (nI wi)), (2, .ref (β 5 wi)), (3, .int (a3)), (4, .int (nI i4))]) hx hb dX4_place_44 hl (Nat.le_of_ble_eq_true rfl) rfl (fun ls hl => ?_)
      refine lv_iload_n hx hb dX4_place_46 rfl (lv_at hl 4 rfl) ?_
      refine lv_aload hx hb dX4_place_47 (lv_at hl 0 rfl) ?_
      refine gfN (v := .int (nI (wState σ i4))) (C := RX11) (T := TX11) (N := 12) (k := 7) hx hb hts hown hG cl_X11 in_X11 (hM.wd (show i4 < nW σ from by have := hki4; omega)) (by decide) q1710 rfl dX4_place_49 ?_
      refine lv_if_ne (tgt := 83) hx hb dX4_place_52 (by decide) (fun c2 => ?_) (fun c2 => ?_)
      · rw [if_neg c2] at hR
        refine lv_iconst (v := 0) hx hb dX4_place_83 (by decide) ?_
        refine lv_iadd hx hb dX4_place_84 ?_
        refine lv_istore_n (lv' := [(3, .int (a3 + 0)), (5, .ref (β 5 i4)), (0, .ref (β 0 0)), (1, .int (nI wi)), (2, .ref (β 5 wi)), (4, .int (nI i4))]) hx hb dX4_place_85 rfl hl (Nat.le_of_ble_eq_true rfl) rfl (fun ls hl => ?_)
        refine lv_iinc (v := nI (i4 + 1)) (lv' := [(4, .int (nI (i4 + 1))), (3, .int (a3 + 0)), (5, .ref (β 5 i4)), (0, .ref (β 0 0)), (1, .int (nI wi)), (2, .ref (β 5 wi))]) hx hb dX4_place_86 hl (k := 5) rfl (nI_1 i4) (Nat.le_of_ble_eq_true rfl) rfl (fun ls hl => ?_)
        refine lv_goto (tgt := 26) hx hb dX4_place_89 (by decide) ?_
        exact ih (i4 + 1) (a3 + 0) (lk_st hn) hR ls (lv_sub hl [3, 4, 5, 1, 0] rfl)
      · rw [if_pos c2] at hR
        refine lv_aload hx hb dX4_place_55 (lv_at hl 0 rfl) ?_
        refine gfN (v := .int (nI (wBand σ i4))) (C := RX11) (T := TX11) (N := 12) (k := 0) hx hb hts hown hG cl_X11 in_X11 (hM.wd (show i4 < nW σ from by have := hki4; omega)) (by decide) q1701 rfl dX4_place_57 ?_
        refine lv_aload_n hx hb dX4_place_60 rfl (lv_at hl 3 rfl) ?_
        refine gfN (v := .int (nI (wBand σ wi))) (C := RX11) (T := TX11) (N := 12) (k := 0) hx hb hts hown hG cl_X11 in_X11 (hM.wd h_wi) (by decide) q1701 rfl dX4_place_61 ?_
        refine lv_icmp_ne (tgt := 83) hx hb dX4_place_64 (by decide) (fun c3 => ?_) (fun c3 => ?_)
        · rw [if_neg c3] at hR
          refine lv_iconst (v := 0) hx hb dX4_place_83 (by decide) ?_
          refine lv_iadd hx hb dX4_place_84 ?_
          refine lv_istore_n (lv' := [(3, .int (a3 + 0)), (5, .ref (β 5 i4)), (0, .ref (β 0 0)), (1, .int (nI wi)), (2, .ref (β 5 wi)), (4, .int (nI i4))]) hx hb dX4_place_85 rfl hl (Nat.le_of_ble_eq_true rfl) rfl (fun ls hl => ?_)
          refine lv_iinc (v := nI (i4 + 1)) (lv' := [(4, .int (nI (i4 + 1))), (3, .int (a3 + 0)), (5, .ref (β 5 i4)), (0, .ref (β 0 0)), (1, .int (nI wi)), (2, .ref (β 5 wi))]) hx hb dX4_place_86 hl (k := 5) rfl (nI_1 i4) (Nat.le_of_ble_eq_true rfl) rfl (fun ls hl => ?_)
          refine lv_goto (tgt := 26) hx hb dX4_place_89 (by decide) ?_
          exact ih (i4 + 1) (a3 + 0) (lk_st hn) hR ls (lv_sub hl [3, 4, 5, 1, 0] rfl)
        · rw [if_pos c3] at hR
          refine lv_aload hx hb dX4_place_67 (lv_at hl 0 rfl) ?_
          refine gfN (v := .int (nI (wDay σ i4))) (C := RX11) (T := TX11) (N := 12) (k := 1) hx hb hts hown hG cl_X11 in_X11 (hM.wd (show i4 < nW σ from by have := hki4; omega)) (by decide) q1702 rfl dX4_place_69 ?_
          refine lv_aload_n hx hb dX4_place_72 rfl (lv_at hl 3 rfl) ?_
          refine gfN (v := .int (nI (wDay σ wi))) (C := RX11) (T := TX11) (N := 12) (k := 1) hx hb hts hown hG cl_X11 in_X11 (hM.wd h_wi) (by decide) q1702 rfl dX4_place_73 ?_
          refine lv_icmp_ne (tgt := 83) hx hb dX4_place_76 (by decide) (fun c4 => ?_) (fun c4 => ?_)
          · rw [if_neg c4] at hR
            refine lv_iconst (v := 0) hx hb dX4_place_83 (by decide) ?_
            refine lv_iadd hx hb dX4_place_84 ?_
            refine lv_istore_n (lv' := [(3, .int (a3 + 0)), (5, .ref (β 5 i4)), (0, .ref (β 0 0)), (1, .int (nI wi)), (2, .ref (β 5 wi)), (4, .int (nI i4))]) hx hb dX4_place_85 rfl hl (Nat.le_of_ble_eq_true rfl) rfl (fun ls hl => ?_)
            refine lv_iinc (v := nI (i4 + 1)) (lv' := [(4, .int (nI (i4 + 1))), (3, .int (a3 + 0)), (5, .ref (β 5 i4)), (0, .ref (β 0 0)), (1, .int (nI wi)), (2, .ref (β 5 wi))]) hx hb dX4_place_86 hl (k := 5) rfl (nI_1 i4) (Nat.le_of_ble_eq_true rfl) rfl (fun ls hl => ?_)
            refine lv_goto (tgt := 26) hx hb dX4_place_89 (by decide) ?_
            exact ih (i4 + 1) (a3 + 0) (lk_st hn) hR ls (lv_sub hl [3, 4, 5, 1, 0] rfl)
          · rw [if_pos c4] at hR
            refine lv_iconst (v := 1) hx hb dX4_place_79 (by decide) ?_
            refine lv_goto (tgt := 84) hx hb dX4_place_80 (by decide) ?_
            refine lv_iadd hx hb dX4_place_84 ?_
            refine lv_istore_n (lv' := [(3, .int (a3 + 1)), (5, .ref (β 5 i4)), (0, .ref (β 0 0)), (1, .int (nI wi)), (2, .ref (β 5 wi)), (4, .int (nI i4))]) hx hb dX4_place_85 rfl hl (Nat.le_of_ble_eq_true rfl) rfl (fun ls hl => ?_)
            refine lv_iinc (v := nI (i4 + 1)) (lv' := [(4, .int (nI (i4 + 1))), (3, .int (a3 + 1)), (5, .ref (β 5 i4)), (0, .ref (β 0 0)), (1, .int (nI wi)), (2, .ref (β 5 wi))]) hx hb dX4_place_86 hl (k := 5) rfl (nI_1 i4) (Nat.le_of_ble_eq_true rfl) rfl (fun ls hl => ?_)
            refine lv_goto (tgt := 26) hx hb dX4_place_89 (by decide) ?_
            exact ih (i4 + 1) (a3 + 1) (lk_st hn) hR ls (lv_sub hl [3, 4, 5, 1, 0] rfl)
  unfold fX4_place at hR
  refine lv_aload_n hx hb dX4_place_0 rfl (lv_at hl 0 rfl) ?_
  refine gf (v := .ref (β 1 2)) (C := RX4) (T := TX4) (N := 13) (k := 5) hx hb hts hown hG cl_X4 in_X4 hM.ag (by decide) q1545 rfl dX4_place_1 ?_
  refine lv_iload_n hx hb dX4_place_4 rfl (lv_at hl 1 rfl) ?_
  refine pcV (As := [.int (nI wi)]) (rest := []) hS0 (met_ml_get l D E (j := 2) (by decide) wi h_wi) q1639 q349 q2082 q103 q351 hd_J2_get ⟨Nat.le_of_ble_eq_true rfl, Nat.le_of_ble_eq_true rfl⟩ hG (hM.lsR hG (j := 2) (by decide)) hM rfl hl.1 rfl (Nat.le_of_ble_eq_true rfl) dX4_place_5 ⟨Nat.le_refl _, Nat.le_refl _⟩ ?_
  refine W.eq (g2 := F0 m 8 ls [.ref (β 5 wi)]) rfl ?_
  refine gc (ci := 9) hx hb hown hG cl_X11 (rcv hG cl_X11 (hM.wd h_wi)) (hts _ q1695) dX4_place_8 ?_
  refine lv_astore_n (lv' := [(2, .ref (β 5 wi)), (0, .ref (β 0 0)), (1, .int (nI wi))]) hx hb dX4_place_11 rfl hl (Nat.le_of_ble_eq_true rfl) rfl (fun ls hl => ?_)
  refine lv_aload_n hx hb dX4_place_12 rfl (lv_at hl 0 rfl) ?_
  refine gfN (v := .int (nI (wState σ wi))) (C := RX11) (T := TX11) (N := 12) (k := 7) hx hb hts hown hG cl_X11 in_X11 (hM.wd h_wi) (by decide) q1710 rfl dX4_place_13 ?_
  refine lv_if_eq (tgt := 21) hx hb dX4_place_16 (by decide) (fun c1 => ?_) (fun c1 => ?_)
  · rw [if_pos c1] at hR
    refine lv_iconst (v := 0) hx hb dX4_place_21 (by decide) ?_
    refine lv_istore_n (lv' := [(3, .int 0), (2, .ref (β 5 wi)), (0, .ref (β 0 0)), (1, .int (nI wi))]) hx hb dX4_place_22 rfl hl (Nat.le_of_ble_eq_true rfl) rfl (fun ls hl => ?_)
    refine lv_iconst (v := 0) hx hb dX4_place_23 (by decide) ?_
    refine lv_istore (lv' := [(4, .int 0), (3, .int 0), (2, .ref (β 5 wi)), (0, .ref (β 0 0)), (1, .int (nI wi))]) hx hb dX4_place_24 hl (Nat.le_of_ble_eq_true rfl) rfl (fun ls hl => ?_)
    refine hL26  _ (fun a5 ls hR hl => ?_) wi 0 0 (Nat.zero_add _) hR ls (lv_sub hl [3, 4, 2, 1, 0] rfl)
    refine lv_iload_n hx hb dX4_place_92 rfl (lv_at hl 0 rfl) ?_
    exact p_iret hx hb hr hlocks dX4_place_93 (by rw [← hR])
  · rw [if_neg c1] at hR
    refine lv_iconst (v := (-1)) hx hb dX4_place_19 (by decide) ?_
    exact p_iret hx hb hr hlocks dX4_place_20 (by rw [← hR])

def fX4_driveOf (σ : St) (i : Nat) (j : Nat) : Int32 :=
  rDrives σ ((i * 6) + j)
set_option maxHeartbeats 4000000 in
set_option maxRecDepth 100000 in
theorem met_X4_driveOf (l : Launch) (D : va_G) (E : Nat → Nat) {β : Nat → Nat → Nat} {F : Nat → Prop} {σ : St} {th ca : Int32} {sm : Int64} (i : Nat) (j : Nat) (h_i : i < 6) (h_j : j < 6) : PM l D E yX4_driveOf cX4_driveOf 3 (Option.some Jvm.ClassFile.FieldType.int) 0 0 [.ref (β 0 0), .int (nI i), .int (nI j)] (RM D E β F σ th ca sm) (some (.int (fX4_driveOf σ i j))) := by
  generalize hR : fX4_driveOf σ i j = r
  refine PM.start (by decide) (Nat.le_of_ble_eq_true rfl) ?_
  intro p e s m below meth c ls hx hb hr hml hown hlocks hts hG hM hl
  have hown : s.vm.findClass RX4 = some m.cls := hown
  have hS0 : xS p m c cX4_driveOf 3 s _ RX4 := ⟨hx, hb, hml, hown, hts⟩
  have hl : lv_has ls 3 [(0, .ref (β 0 0)), (1, .int (nI i)), (2, .int (nI j))] := hl
  unfold fX4_driveOf at hR
  refine lv_aload_n hx hb dX4_driveOf_0 rfl (lv_at hl 0 rfl) ?_
  refine gf (v := .ref (β 8 5)) (C := RX4) (T := TX4) (N := 13) (k := 11) hx hb hts hown hG cl_X4 in_X4 hM.ag (by decide) q1551 rfl dX4_driveOf_1 ?_
  refine lv_iload_n hx hb dX4_driveOf_4 rfl (lv_at hl 1 rfl) ?_
  refine lv_bipush (v := 6) hx hb dX4_driveOf_5 (by decide) ?_
  refine lv_imul hx hb dX4_driveOf_7 ?_
  refine lv_eq (pk_mul i 6) ?_
  refine lv_iload_n hx hb dX4_driveOf_8 rfl (lv_at hl 2 rfl) ?_
  refine lv_iadd hx hb dX4_driveOf_9 ?_
  refine lv_eq (nI_add (i * 6) j) ?_
  refine gaI (N := 36) (k := (i * 6) + j) hx hb hG hM.ar5 (show (i * 6) + j < 36 from by omega) (by decide) dX4_driveOf_10 ?_
  exact p_iret hx hb hr hlocks dX4_driveOf_11 (by rw [← hR])

def fX4_isFree_L60 (σ : St) (ui : Nat) (wi : Nat)  (κ : Bool) : Nat → Nat → Bool
  | 0, i5 => κ
  | n + 1, i5 => (if (nI i5) = (nI wi) then fX4_isFree_L60 σ ui wi κ n (i5 + 1) else (if (nI (wState σ i5)) = 1 then (if (nI (wDay σ i5)) = (nI (wDay σ wi)) then (if ((fX4_isIn (wSet σ i5) (nI ui))) = true then (if (wStart σ i5) < (wStart σ wi) then (if ((fX4_driveOf σ (wTown σ wi) (wTown σ i5))) = ((-1)) then false else (if (((wStart σ i5) + (wLen σ i5)) + ((fX4_driveOf σ (wTown σ wi) (wTown σ i5)))) ≤ (wStart σ wi) then fX4_isFree_L60 σ ui wi κ n (i5 + 1) else false)) else (if (wStart σ i5) = (wStart σ wi) then (if (nI wi) ≤ (nI i5) then (if ((fX4_driveOf σ (wTown σ wi) (wTown σ i5))) = ((-1)) then false else (if (((wStart σ wi) + (wLen σ wi)) + ((fX4_driveOf σ (wTown σ wi) (wTown σ i5)))) ≤ (wStart σ i5) then fX4_isFree_L60 σ ui wi κ n (i5 + 1) else false)) else (if ((fX4_driveOf σ (wTown σ wi) (wTown σ i5))) = ((-1)) then false else (if (((wStart σ i5) + (wLen σ i5)) + ((fX4_driveOf σ (wTown σ wi) (wTown σ i5)))) ≤ (wStart σ wi) then fX4_isFree_L60 σ ui wi κ n (i5 + 1) else false))) else (if ((fX4_driveOf σ (wTown σ wi) (wTown σ i5))) = ((-1)) then false else (if (((wStart σ wi) + (wLen σ wi)) + ((fX4_driveOf σ (wTown σ wi) (wTown σ i5)))) ≤ (wStart σ i5) then fX4_isFree_L60 σ ui wi κ n (i5 + 1) else false)))) else fX4_isFree_L60 σ ui wi κ n (i5 + 1)) else fX4_isFree_L60 σ ui wi κ n (i5 + 1)) else fX4_isFree_L60 σ ui wi κ n (i5 + 1)))
def fX4_isFree (σ : St) (ui : Nat) (wi : Nat) : Bool :=
  (if (pOff σ ui (wDay σ wi)) = 0 then (if ((fX4_driveOf σ (pHome σ ui) (wTown σ wi))) = ((-1)) then false else fX4_isFree_L60 σ ui wi (true) (nW σ) 0) else false)
set_option maxHeartbeats 4000000 in
set_option maxRecDepth 100000 in
theorem met_X4_isFree (l : Launch) (D : va_G) (E : Nat → Nat) {β : Nat → Nat → Nat} {F : Nat → Prop} {σ : St} {th ca : Int32} {sm : Int64} (ui : Nat) (wi : Nat) (h_ui : ui < nP σ) (h_wi : wi < nW σ) : PM l D E yX4_isFree cX4_isFree 11 (Option.some Jvm.ClassFile.FieldType.boolean) 3 64 [.ref (β 0 0), .int (nI ui), .int (nI wi)] (RM D E β F σ th ca sm) (some (.int (bI (fX4_isFree σ ui wi)))) := by
  generalize hR : fX4_isFree σ ui wi = r
  refine PM.start (by decide) (Nat.le_of_ble_eq_true rfl) ?_
  intro p e s m below meth c ls hx hb hr hml hown hlocks hts hG hM hl
  have hown : s.vm.findClass RX4 = some m.cls := hown
  have hS0 : xS p m c cX4_isFree 11 s _ RX4 := ⟨hx, hb, hml, hown, hts⟩
  have hl : lv_has ls 11 [(0, .ref (β 0 0)), (1, .int (nI ui)), (2, .int (nI wi))] := hl
  have hL60 : ∀ (κ : Bool) (hκ : ∀ (ls : Array Slot), κ = r → lv_has ls 11 [] → W p l e { frames := 3, cells := 0, slots := 0, locals := 64 } s m [(.ref (β 0 0) : Value), .int (nI ui), .int (nI wi)].toArray below meth c s.heap [] 0 0 (MQ below (qP (some (.int (bI r)))) [(.ref (β 0 0) : Value), .int (nI ui), .int (nI wi)].toArray s 0 0 (fun _ => False)) (F0 m 242 ls [])) (n : Nat) (i5 : Nat), i5 + n = nW σ → fX4_isFree_L60 σ ui wi κ n i5 = r → ∀ (ls : Array Slot), lv_has ls 11 [(0, .ref (β 0 0)), (1, .int (nI ui)), (2, .int (nI wi)), (3, .ref (β 5 wi)), (5, .int (nI i5))] → W p l e { frames := 3, cells := 0, slots := 0, locals := 64 } s m [(.ref (β 0 0) : Value), .int (nI ui), .int (nI wi)].toArray below meth c s.heap [] 0 0 (MQ below (qP (some (.int (bI r)))) [(.ref (β 0 0) : Value), .int (nI ui), .int (nI wi)].toArray s 0 0 (fun _ => False)) (F0 m 60 ls []) := by
    intro  κ hκ n
    induction n with
    | zero =>
      intro i5 hn hR ls hl
      rw [fX4_isFree_L60] at hR
      refine lv_iload hx hb dX4_isFree_60 (lv_at hl 4 rfl) ?_
      refine lv_aload_n hx hb dX4_isFree_62 rfl (lv_at hl 0 rfl) ?_
      refine gf (v := .ref (β 1 2)) (C := RX4) (T := TX4) (N := 13) (k := 5) hx hb hts hown hG cl_X4 in_X4 hM.ag (by decide) q1545 rfl dX4_isFree_63 ?_
      refine pcV (As := []) (rest := [.int (nI i5)]) hS0 (met_ml_size l D E (j := 2) (by decide)) q1600 q336 q2080 q103 q338 hd_J2_size ⟨Nat.le_of_ble_eq_true rfl, Nat.le_of_ble_eq_true rfl⟩ hG (hM.lsR hG (j := 2) (by decide)) hM rfl hl.1 rfl (Nat.le_of_ble_eq_true rfl) dX4_isFree_66 ⟨Nat.le_refl _, Nat.le_refl _⟩ ?_
      refine W.eq (g2 := F0 m 69 ls [.int (nI (nW σ)), .int (nI i5)]) rfl ?_
      refine lk_ge_out (k := i5) (N := nW σ) hx hb hn (tgt := 242) dX4_isFree_69 (by decide) ?_
      exact hκ  ls hR (lv_sub hl [] rfl)
    | succ n ih =>
      intro i5 hn hR ls hl
      rw [fX4_isFree_L60] at hR
      refine lv_iload hx hb dX4_isFree_60 (lv_at hl 4 rfl) ?_
      refine lv_aload_n hx hb dX4_isFree_62 rfl (lv_at hl 0 rfl) ?_
      refine gf (v := .ref (β 1 2)) (C := RX4) (T := TX4) (N := 13) (k := 5) hx hb hts hown hG cl_X4 in_X4 hM.ag (by decide) q1545 rfl dX4_isFree_63 ?_
      refine pcV (As := []) (rest := [.int (nI i5)]) hS0 (met_ml_size l D E (j := 2) (by decide)) q1600 q336 q2080 q103 q338 hd_J2_size ⟨Nat.le_of_ble_eq_true rfl, Nat.le_of_ble_eq_true rfl⟩ hG (hM.lsR hG (j := 2) (by decide)) hM rfl hl.1 rfl (Nat.le_of_ble_eq_true rfl) dX4_isFree_66 ⟨Nat.le_refl _, Nat.le_refl _⟩ ?_
      refine W.eq (g2 := F0 m 69 ls [.int (nI (nW σ)), .int (nI i5)]) rfl ?_
      have hki5 : i5 < nW σ := lk_lt hn
      refine lk_ge_in (k := i5) (N := nW σ) hx hb hki5 (by have := hM.nW14; omega) (tgt := 242) dX4_isFree_69 (by decide) ?_
      refine lv_aload_n hx hb dX4_isFree_72 rfl (lv_at hl 0 rfl) ?_
      refine gf (v := .ref (β 1 2)) (C := RX4) (T := TX4) (N := 13) (k := 5) hx hb hts hown hG cl_X4 in_X4 hM.ag (by decide) q1545 rfl dX4_isFree_73 ?_
      refine lv_iload hx hb dX4_isFree_76 (lv_at hl 4 rfl) ?_
      refine pcV (As := [.int (nI i5)]) (rest := []) hS0 (met_ml_get l D E (j := 2) (by decide) i5 hki5) q1639 q349 q2082 q103 q351 hd_J2_get ⟨Nat.le_of_ble_eq_true rfl, Nat.le_of_ble_eq_true rfl⟩ hG (hM.lsR hG (j := 2) (by decide)) hM rfl hl.1 rfl (Nat.le_of_ble_eq_true rfl) dX4_isFree_78 ⟨Nat.le_refl _, Nat.le_refl _⟩ ?_
      refine W.eq (g2 := F0 m 81 ls [.ref (β 5 i5)]) rfl ?_
      refine gc (ci := 9) hx hb hown hG cl_X11 (rcv hG cl_X11 (hM.wd hki5)) (hts _ q1695) dX4_isFree_81 ?_
      refine lv_astore (lv' := [(6, .ref (β 5 i5)), (0, .ref (β 0 0)), (1, .int (nI ui)), (2, .int (nI wi)), (3, .ref (β 5 wi)), (5, .int (nI i5))]) hx hb dX4_isFree_84 hl (Nat.le_of_ble_eq_true rfl) rfl (fun ls hl => ?_)
      refine lv_iload hx hb dX4_isFree_86 (lv_at hl 5 rfl) ?_
      refine lv_iload_n hx hb dX4_isFree_88 rfl (lv_at hl 3 rfl) ?_
      refine lv_icmp_eq (tgt := 236) hx hb dX4_isFree_89 (by decide) (fun c3 => ?_) (fun c3 => ?_)
      · rw [if_pos c3] at hR
        refine lv_iinc (v := nI (i5 + 1)) (lv' := [(5, .int (nI (i5 + 1))), (6, .ref (β 5 i5)), (0, .ref (β 0 0)), (1, .int (nI ui)), (2, .int (nI wi)), (3, .ref (β 5 wi))]) hx hb dX4_isFree_236 hl (k := 5) rfl (nI_1 i5) (Nat.le_of_ble_eq_true rfl) rfl (fun ls hl => ?_)
        refine lv_goto (tgt := 60) hx hb dX4_isFree_239 (by decide) ?_
        exact ih (i5 + 1) (lk_st hn) hR ls (lv_sub hl [2, 3, 4, 5, 0] rfl)
      · rw [if_neg c3] at hR
        refine lv_aload hx hb dX4_isFree_92 (lv_at hl 0 rfl) ?_
        refine gfN (v := .int (nI (wState σ i5))) (C := RX11) (T := TX11) (N := 12) (k := 7) hx hb hts hown hG cl_X11 in_X11 (hM.wd hki5) (by decide) q1710 rfl dX4_isFree_94 ?_
        refine lv_iconst (v := 1) hx hb dX4_isFree_97 (by decide) ?_
        refine lv_icmp_ne (tgt := 236) hx hb dX4_isFree_98 (by decide) (fun c4 => ?_) (fun c4 => ?_)
        · rw [if_neg c4] at hR
          refine lv_iinc (v := nI (i5 + 1)) (lv' := [(5, .int (nI (i5 + 1))), (6, .ref (β 5 i5)), (0, .ref (β 0 0)), (1, .int (nI ui)), (2, .int (nI wi)), (3, .ref (β 5 wi))]) hx hb dX4_isFree_236 hl (k := 5) rfl (nI_1 i5) (Nat.le_of_ble_eq_true rfl) rfl (fun ls hl => ?_)
          refine lv_goto (tgt := 60) hx hb dX4_isFree_239 (by decide) ?_
          exact ih (i5 + 1) (lk_st hn) hR ls (lv_sub hl [2, 3, 4, 5, 0] rfl)
        · rw [if_pos c4] at hR
          refine lv_aload hx hb dX4_isFree_101 (lv_at hl 0 rfl) ?_
          refine gfN (v := .int (nI (wDay σ i5))) (C := RX11) (T := TX11) (N := 12) (k := 1) hx hb hts hown hG cl_X11 in_X11 (hM.wd hki5) (by decide) q1702 rfl dX4_isFree_103 ?_
          refine lv_aload_n hx hb dX4_isFree_106 rfl (lv_at hl 4 rfl) ?_
          refine gfN (v := .int (nI (wDay σ wi))) (C := RX11) (T := TX11) (N := 12) (k := 1) hx hb hts hown hG cl_X11 in_X11 (hM.wd h_wi) (by decide) q1702 rfl dX4_isFree_107 ?_
          refine lv_icmp_ne (tgt := 236) hx hb dX4_isFree_110 (by decide) (fun c5 => ?_) (fun c5 => ?_)
          · rw [if_neg c5] at hR
            refine lv_iinc (v := nI (i5 + 1)) (lv' := [(5, .int (nI (i5 + 1))), (6, .ref (β 5 i5)), (0, .ref (β 0 0)), (1, .int (nI ui)), (2, .int (nI wi)), (3, .ref (β 5 wi))]) hx hb dX4_isFree_236 hl (k := 5) rfl (nI_1 i5) (Nat.le_of_ble_eq_true rfl) rfl (fun ls hl => ?_)
            refine lv_goto (tgt := 60) hx hb dX4_isFree_239 (by decide) ?_
            exact ih (i5 + 1) (lk_st hn) hR ls (lv_sub hl [2, 3, 4, 5, 0] rfl)
          · rw [if_pos c5] at hR
            refine lv_aload hx hb dX4_isFree_113 (lv_at hl 0 rfl) ?_
            refine gfN (v := .int (wSet σ i5)) (C := RX11) (T := TX11) (N := 12) (k := 8) hx hb hts hown hG cl_X11 in_X11 (hM.wd hki5) (by decide) q1711 rfl dX4_isFree_115 ?_
            refine lv_iload_n hx hb dX4_isFree_118 rfl (lv_at hl 2 rfl) ?_
            refine pcS (As := [.int (wSet σ i5), .int (nI ui)]) (rest := []) hS0 (met_X4_isIn l D E (wSet σ i5) (nI ui)) q1654 q1655 q110 q1656 hd_X4_isIn ⟨Nat.le_of_ble_eq_true rfl, Nat.le_of_ble_eq_true rfl⟩ hG trivial rfl hl.1 rfl (Nat.le_of_ble_eq_true rfl) dX4_isFree_119 ⟨Nat.le_refl _, Nat.le_refl _⟩ ?_
            refine W.eq (g2 := F0 m 122 ls [.int (bI ((fX4_isIn (wSet σ i5) (nI ui))))]) rfl ?_
            refine lb_if_ne (tgt := 128) hx hb dX4_isFree_122 (by decide) (fun c6 => ?_) (fun c6 => ?_)
            · rw [if_pos c6] at hR
              refine lv_aload hx hb dX4_isFree_128 (lv_at hl 0 rfl) ?_
              refine gfN (v := .int (wStart σ i5)) (C := RX11) (T := TX11) (N := 12) (k := 3) hx hb hts hown hG cl_X11 in_X11 (hM.wd hki5) (by decide) q1705 rfl dX4_isFree_130 ?_
              refine lv_aload_n hx hb dX4_isFree_133 rfl (lv_at hl 4 rfl) ?_
              refine gfN (v := .int (wStart σ wi)) (C := RX11) (T := TX11) (N := 12) (k := 3) hx hb hts hown hG cl_X11 in_X11 (hM.wd h_wi) (by decide) q1705 rfl dX4_isFree_134 ?_
              refine lv_icmp_lt (tgt := 158) hx hb dX4_isFree_137 (by decide) (fun c7 => ?_) (fun c7 => ?_)
              · rw [if_pos c7] at hR
                refine lv_iconst (v := 1) hx hb dX4_isFree_158 (by decide) ?_
                refine lv_goto (tgt := 163) hx hb dX4_isFree_159 (by decide) ?_
                refine lv_istore (lv' := [(7, .int 1), (6, .ref (β 5 i5)), (0, .ref (β 0 0)), (1, .int (nI ui)), (2, .int (nI wi)), (3, .ref (β 5 wi)), (5, .int (nI i5))]) hx hb dX4_isFree_163 hl (Nat.le_of_ble_eq_true rfl) rfl (fun ls hl => ?_)
                refine lv_iload hx hb dX4_isFree_165 (lv_at hl 0 rfl) ?_
                refine lv_if_eq (tgt := 175) hx hb dX4_isFree_167 (by decide) (fun c9 => absurd c9 (by decide)) (fun _ => ?_)
                refine lv_aload hx hb dX4_isFree_170 (lv_at hl 1 rfl) ?_
                refine lv_goto (tgt := 176) hx hb dX4_isFree_172 (by decide) ?_
                refine lv_astore (lv' := [(8, .ref (β 5 i5)), (7, .int 1), (6, .ref (β 5 i5)), (0, .ref (β 0 0)), (1, .int (nI ui)), (2, .int (nI wi)), (3, .ref (β 5 wi)), (5, .int (nI i5))]) hx hb dX4_isFree_176 hl (Nat.le_of_ble_eq_true rfl) rfl (fun ls hl => ?_)
                refine lv_iload hx hb dX4_isFree_178 (lv_at hl 1 rfl) ?_
                refine lv_if_eq (tgt := 187) hx hb dX4_isFree_180 (by decide) (fun c9 => absurd c9 (by decide)) (fun _ => ?_)
                refine lv_aload_n hx hb dX4_isFree_183 rfl (lv_at hl 6 rfl) ?_
                refine lv_goto (tgt := 189) hx hb dX4_isFree_184 (by decide) ?_
                refine lv_astore (lv' := [(9, .ref (β 5 wi)), (8, .ref (β 5 i5)), (7, .int 1), (6, .ref (β 5 i5)), (0, .ref (β 0 0)), (1, .int (nI ui)), (2, .int (nI wi)), (3, .ref (β 5 wi)), (5, .int (nI i5))]) hx hb dX4_isFree_189 hl (Nat.le_of_ble_eq_true rfl) rfl (fun ls hl => ?_)
                refine lv_aload_n hx hb dX4_isFree_191 rfl (lv_at hl 4 rfl) ?_
                refine lv_aload_n hx hb dX4_isFree_192 rfl (lv_at hl 7 rfl) ?_
                refine gfN (v := .int (nI (wTown σ wi))) (C := RX11) (T := TX11) (N := 12) (k := 2) hx hb hts hown hG cl_X11 in_X11 (hM.wd h_wi) (by decide) q1703 rfl dX4_isFree_193 ?_
                refine lv_aload hx hb dX4_isFree_196 (lv_at hl 3 rfl) ?_
                refine gfN (v := .int (nI (wTown σ i5))) (C := RX11) (T := TX11) (N := 12) (k := 2) hx hb hts hown hG cl_X11 in_X11 (hM.wd hki5) (by decide) q1703 rfl dX4_isFree_198 ?_
                refine pcV (As := [.int (nI (wTown σ wi)), .int (nI (wTown σ i5))]) (rest := []) hS0 (met_X4_driveOf l D E (wTown σ wi) (wTown σ i5) (hM.town h_wi) (hM.town hki5)) q1664 q1666 qs58 q110 q1667 hd_X4_driveOf ⟨Nat.le_of_ble_eq_true rfl, Nat.le_of_ble_eq_true rfl⟩ hG (rcv hG cl_X4 hM.ag) hM rfl hl.1 rfl (Nat.le_of_ble_eq_true rfl) dX4_isFree_201 ⟨Nat.le_refl _, Nat.le_refl _⟩ ?_
                refine W.eq (g2 := F0 m 204 ls [.int ((fX4_driveOf σ (wTown σ wi) (wTown σ i5)))]) rfl ?_
                refine lv_istore (lv' := [(10, .int ((fX4_driveOf σ (wTown σ wi) (wTown σ i5)))), (9, .ref (β 5 wi)), (8, .ref (β 5 i5)), (7, .int 1), (6, .ref (β 5 i5)), (0, .ref (β 0 0)), (1, .int (nI ui)), (2, .int (nI wi)), (3, .ref (β 5 wi)), (5, .int (nI i5))]) hx hb dX4_isFree_204 hl (Nat.le_of_ble_eq_true rfl) rfl (fun ls hl => ?_)
                refine lv_iload hx hb dX4_isFree_206 (lv_at hl 0 rfl) ?_
                refine lv_iconst (v := (-1)) hx hb dX4_isFree_208 (by decide) ?_
                refine lv_icmp_eq (tgt := 234) hx hb dX4_isFree_209 (by decide) (fun c8 => ?_) (fun c8 => ?_)
                · rw [if_pos c8] at hR
                  refine lv_iconst (v := 0) hx hb dX4_isFree_234 (by decide) ?_
                  exact p_zret (b := false) hx hb hr hlocks dX4_isFree_235 rfl (by rw [← hR])
                · rw [if_neg c8] at hR
                  refine lv_aload hx hb dX4_isFree_212 (lv_at hl 2 rfl) ?_
                  refine gfN (v := .int (wStart σ i5)) (C := RX11) (T := TX11) (N := 12) (k := 3) hx hb hts hown hG cl_X11 in_X11 (hM.wd hki5) (by decide) q1705 rfl dX4_isFree_214 ?_
                  refine lv_aload hx hb dX4_isFree_217 (lv_at hl 2 rfl) ?_
                  refine gfN (v := .int (wLen σ i5)) (C := RX11) (T := TX11) (N := 12) (k := 4) hx hb hts hown hG cl_X11 in_X11 (hM.wd hki5) (by decide) q1707 rfl dX4_isFree_219 ?_
                  refine lv_iadd hx hb dX4_isFree_222 ?_
                  refine lv_iload hx hb dX4_isFree_223 (lv_at hl 0 rfl) ?_
                  refine lv_iadd hx hb dX4_isFree_225 ?_
                  refine lv_aload hx hb dX4_isFree_226 (lv_at hl 1 rfl) ?_
                  refine gfN (v := .int (wStart σ wi)) (C := RX11) (T := TX11) (N := 12) (k := 3) hx hb hts hown hG cl_X11 in_X11 (hM.wd h_wi) (by decide) q1705 rfl dX4_isFree_228 ?_
                  refine lv_icmp_le (tgt := 236) hx hb dX4_isFree_231 (by decide) (fun c9 => ?_) (fun c9 => ?_)
                  · rw [if_pos c9] at hR
                    refine lv_iinc (v := nI (i5 + 1)) (lv' := [(5, .int (nI (i5 + 1))), (10, .int ((fX4_driveOf σ (wTown σ wi) (wTown σ i5)))), (9, .ref (β 5 wi)), (8, .ref (β 5 i5)), (7, .int 1), (6, .ref (β 5 i5)), (0, .ref (β 0 0)), (1, .int (nI ui)), (2, .int (nI wi)), (3, .ref (β 5 wi))]) hx hb dX4_isFree_236 hl (k := 9) rfl (nI_1 i5) (Nat.le_of_ble_eq_true rfl) rfl (fun ls hl => ?_)
                    refine lv_goto (tgt := 60) hx hb dX4_isFree_239 (by decide) ?_
                    exact ih (i5 + 1) (lk_st hn) hR ls (lv_sub hl [6, 7, 8, 9, 0] rfl)
                  · rw [if_neg c9] at hR
                    refine lv_iconst (v := 0) hx hb dX4_isFree_234 (by decide) ?_
                    exact p_zret (b := false) hx hb hr hlocks dX4_isFree_235 rfl (by rw [← hR])
              · rw [if_neg c7] at hR
                refine lv_aload hx hb dX4_isFree_140 (lv_at hl 0 rfl) ?_
                refine gfN (v := .int (wStart σ i5)) (C := RX11) (T := TX11) (N := 12) (k := 3) hx hb hts hown hG cl_X11 in_X11 (hM.wd hki5) (by decide) q1705 rfl dX4_isFree_142 ?_
                refine lv_aload_n hx hb dX4_isFree_145 rfl (lv_at hl 4 rfl) ?_
                refine gfN (v := .int (wStart σ wi)) (C := RX11) (T := TX11) (N := 12) (k := 3) hx hb hts hown hG cl_X11 in_X11 (hM.wd h_wi) (by decide) q1705 rfl dX4_isFree_146 ?_
                refine lv_icmp_ne (tgt := 162) hx hb dX4_isFree_149 (by decide) (fun c10 => ?_) (fun c10 => ?_)
                · rw [if_neg c10] at hR
                  refine lv_iconst (v := 0) hx hb dX4_isFree_162 (by decide) ?_
                  refine lv_istore (lv' := [(7, .int 0), (6, .ref (β 5 i5)), (0, .ref (β 0 0)), (1, .int (nI ui)), (2, .int (nI wi)), (3, .ref (β 5 wi)), (5, .int (nI i5))]) hx hb dX4_isFree_163 hl (Nat.le_of_ble_eq_true rfl) rfl (fun ls hl => ?_)
                  refine lv_iload hx hb dX4_isFree_165 (lv_at hl 0 rfl) ?_
                  refine lv_if_eq (tgt := 175) hx hb dX4_isFree_167 (by decide) (fun _ => ?_) (fun c9 => absurd (by decide) c9)
                  refine lv_aload_n hx hb dX4_isFree_175 rfl (lv_at hl 5 rfl) ?_
                  refine lv_astore (lv' := [(8, .ref (β 5 wi)), (7, .int 0), (6, .ref (β 5 i5)), (0, .ref (β 0 0)), (1, .int (nI ui)), (2, .int (nI wi)), (3, .ref (β 5 wi)), (5, .int (nI i5))]) hx hb dX4_isFree_176 hl (Nat.le_of_ble_eq_true rfl) rfl (fun ls hl => ?_)
                  refine lv_iload hx hb dX4_isFree_178 (lv_at hl 1 rfl) ?_
                  refine lv_if_eq (tgt := 187) hx hb dX4_isFree_180 (by decide) (fun _ => ?_) (fun c9 => absurd (by decide) c9)
                  refine lv_aload hx hb dX4_isFree_187 (lv_at hl 2 rfl) ?_
                  refine lv_astore (lv' := [(9, .ref (β 5 i5)), (8, .ref (β 5 wi)), (7, .int 0), (6, .ref (β 5 i5)), (0, .ref (β 0 0)), (1, .int (nI ui)), (2, .int (nI wi)), (3, .ref (β 5 wi)), (5, .int (nI i5))]) hx hb dX4_isFree_189 hl (Nat.le_of_ble_eq_true rfl) rfl (fun ls hl => ?_)
                  refine lv_aload_n hx hb dX4_isFree_191 rfl (lv_at hl 4 rfl) ?_
                  refine lv_aload_n hx hb dX4_isFree_192 rfl (lv_at hl 7 rfl) ?_
                  refine gfN (v := .int (nI (wTown σ wi))) (C := RX11) (T := TX11) (N := 12) (k := 2) hx hb hts hown hG cl_X11 in_X11 (hM.wd h_wi) (by decide) q1703 rfl dX4_isFree_193 ?_
                  refine lv_aload hx hb dX4_isFree_196 (lv_at hl 3 rfl) ?_
                  refine gfN (v := .int (nI (wTown σ i5))) (C := RX11) (T := TX11) (N := 12) (k := 2) hx hb hts hown hG cl_X11 in_X11 (hM.wd hki5) (by decide) q1703 rfl dX4_isFree_198 ?_
                  refine pcV (As := [.int (nI (wTown σ wi)), .int (nI (wTown σ i5))]) (rest := []) hS0 (met_X4_driveOf l D E (wTown σ wi) (wTown σ i5) (hM.town h_wi) (hM.town hki5)) q1664 q1666 qs58 q110 q1667 hd_X4_driveOf ⟨Nat.le_of_ble_eq_true rfl, Nat.le_of_ble_eq_true rfl⟩ hG (rcv hG cl_X4 hM.ag) hM rfl hl.1 rfl (Nat.le_of_ble_eq_true rfl) dX4_isFree_201 ⟨Nat.le_refl _, Nat.le_refl _⟩ ?_
                  refine W.eq (g2 := F0 m 204 ls [.int ((fX4_driveOf σ (wTown σ wi) (wTown σ i5)))]) rfl ?_
                  refine lv_istore (lv' := [(10, .int ((fX4_driveOf σ (wTown σ wi) (wTown σ i5)))), (9, .ref (β 5 i5)), (8, .ref (β 5 wi)), (7, .int 0), (6, .ref (β 5 i5)), (0, .ref (β 0 0)), (1, .int (nI ui)), (2, .int (nI wi)), (3, .ref (β 5 wi)), (5, .int (nI i5))]) hx hb dX4_isFree_204 hl (Nat.le_of_ble_eq_true rfl) rfl (fun ls hl => ?_)
                  refine lv_iload hx hb dX4_isFree_206 (lv_at hl 0 rfl) ?_
                  refine lv_iconst (v := (-1)) hx hb dX4_isFree_208 (by decide) ?_
                  refine lv_icmp_eq (tgt := 234) hx hb dX4_isFree_209 (by decide) (fun c11 => ?_) (fun c11 => ?_)
                  · rw [if_pos c11] at hR
                    refine lv_iconst (v := 0) hx hb dX4_isFree_234 (by decide) ?_
                    exact p_zret (b := false) hx hb hr hlocks dX4_isFree_235 rfl (by rw [← hR])
                  · rw [if_neg c11] at hR
                    refine lv_aload hx hb dX4_isFree_212 (lv_at hl 2 rfl) ?_
                    refine gfN (v := .int (wStart σ wi)) (C := RX11) (T := TX11) (N := 12) (k := 3) hx hb hts hown hG cl_X11 in_X11 (hM.wd h_wi) (by decide) q1705 rfl dX4_isFree_214 ?_
                    refine lv_aload hx hb dX4_isFree_217 (lv_at hl 2 rfl) ?_
                    refine gfN (v := .int (wLen σ wi)) (C := RX11) (T := TX11) (N := 12) (k := 4) hx hb hts hown hG cl_X11 in_X11 (hM.wd h_wi) (by decide) q1707 rfl dX4_isFree_219 ?_
                    refine lv_iadd hx hb dX4_isFree_222 ?_
                    refine lv_iload hx hb dX4_isFree_223 (lv_at hl 0 rfl) ?_
                    refine lv_iadd hx hb dX4_isFree_225 ?_
                    refine lv_aload hx hb dX4_isFree_226 (lv_at hl 1 rfl) ?_
                    refine gfN (v := .int (wStart σ i5)) (C := RX11) (T := TX11) (N := 12) (k := 3) hx hb hts hown hG cl_X11 in_X11 (hM.wd hki5) (by decide) q1705 rfl dX4_isFree_228 ?_
                    refine lv_icmp_le (tgt := 236) hx hb dX4_isFree_231 (by decide) (fun c12 => ?_) (fun c12 => ?_)
                    · rw [if_pos c12] at hR
                      refine lv_iinc (v := nI (i5 + 1)) (lv' := [(5, .int (nI (i5 + 1))), (10, .int ((fX4_driveOf σ (wTown σ wi) (wTown σ i5)))), (9, .ref (β 5 i5)), (8, .ref (β 5 wi)), (7, .int 0), (6, .ref (β 5 i5)), (0, .ref (β 0 0)), (1, .int (nI ui)), (2, .int (nI wi)), (3, .ref (β 5 wi))]) hx hb dX4_isFree_236 hl (k := 9) rfl (nI_1 i5) (Nat.le_of_ble_eq_true rfl) rfl (fun ls hl => ?_)
                      refine lv_goto (tgt := 60) hx hb dX4_isFree_239 (by decide) ?_
                      exact ih (i5 + 1) (lk_st hn) hR ls (lv_sub hl [6, 7, 8, 9, 0] rfl)
                    · rw [if_neg c12] at hR
                      refine lv_iconst (v := 0) hx hb dX4_isFree_234 (by decide) ?_
                      exact p_zret (b := false) hx hb hr hlocks dX4_isFree_235 rfl (by rw [← hR])
                · rw [if_pos c10] at hR
                  refine lv_iload hx hb dX4_isFree_152 (lv_at hl 5 rfl) ?_
                  refine lv_iload_n hx hb dX4_isFree_154 rfl (lv_at hl 3 rfl) ?_
                  refine lv_icmp_ge (tgt := 162) hx hb dX4_isFree_155 (by decide) (fun c13 => ?_) (fun c13 => ?_)
                  · rw [if_pos c13] at hR
                    refine lv_iconst (v := 0) hx hb dX4_isFree_162 (by decide) ?_
                    refine lv_istore (lv' := [(7, .int 0), (6, .ref (β 5 i5)), (0, .ref (β 0 0)), (1, .int (nI ui)), (2, .int (nI wi)), (3, .ref (β 5 wi)), (5, .int (nI i5))]) hx hb dX4_isFree_163 hl (Nat.le_of_ble_eq_true rfl) rfl (fun ls hl => ?_)
                    refine lv_iload hx hb dX4_isFree_165 (lv_at hl 0 rfl) ?_
                    refine lv_if_eq (tgt := 175) hx hb dX4_isFree_167 (by decide) (fun _ => ?_) (fun c9 => absurd (by decide) c9)
                    refine lv_aload_n hx hb dX4_isFree_175 rfl (lv_at hl 5 rfl) ?_
                    refine lv_astore (lv' := [(8, .ref (β 5 wi)), (7, .int 0), (6, .ref (β 5 i5)), (0, .ref (β 0 0)), (1, .int (nI ui)), (2, .int (nI wi)), (3, .ref (β 5 wi)), (5, .int (nI i5))]) hx hb dX4_isFree_176 hl (Nat.le_of_ble_eq_true rfl) rfl (fun ls hl => ?_)
                    refine lv_iload hx hb dX4_isFree_178 (lv_at hl 1 rfl) ?_
                    refine lv_if_eq (tgt := 187) hx hb dX4_isFree_180 (by decide) (fun _ => ?_) (fun c9 => absurd (by decide) c9)
                    refine lv_aload hx hb dX4_isFree_187 (lv_at hl 2 rfl) ?_
                    refine lv_astore (lv' := [(9, .ref (β 5 i5)), (8, .ref (β 5 wi)), (7, .int 0), (6, .ref (β 5 i5)), (0, .ref (β 0 0)), (1, .int (nI ui)), (2, .int (nI wi)), (3, .ref (β 5 wi)), (5, .int (nI i5))]) hx hb dX4_isFree_189 hl (Nat.le_of_ble_eq_true rfl) rfl (fun ls hl => ?_)
                    refine lv_aload_n hx hb dX4_isFree_191 rfl (lv_at hl 4 rfl) ?_
                    refine lv_aload_n hx hb dX4_isFree_192 rfl (lv_at hl 7 rfl) ?_
                    refine gfN (v := .int (nI (wTown σ wi))) (C := RX11) (T := TX11) (N := 12) (k := 2) hx hb hts hown hG cl_X11 in_X11 (hM.wd h_wi) (by decide) q1703 rfl dX4_isFree_193 ?_
                    refine lv_aload hx hb dX4_isFree_196 (lv_at hl 3 rfl) ?_
                    refine gfN (v := .int (nI (wTown σ i5))) (C := RX11) (T := TX11) (N := 12) (k := 2) hx hb hts hown hG cl_X11 in_X11 (hM.wd hki5) (by decide) q1703 rfl dX4_isFree_198 ?_
                    refine pcV (As := [.int (nI (wTown σ wi)), .int (nI (wTown σ i5))]) (rest := []) hS0 (met_X4_driveOf l D E (wTown σ wi) (wTown σ i5) (hM.town h_wi) (hM.town hki5)) q1664 q1666 qs58 q110 q1667 hd_X4_driveOf ⟨Nat.le_of_ble_eq_true rfl, Nat.le_of_ble_eq_true rfl⟩ hG (rcv hG cl_X4 hM.ag) hM rfl hl.1 rfl (Nat.le_of_ble_eq_true rfl) dX4_isFree_201 ⟨Nat.le_refl _, Nat.le_refl _⟩ ?_
                    refine W.eq (g2 := F0 m 204 ls [.int ((fX4_driveOf σ (wTown σ wi) (wTown σ i5)))]) rfl ?_
                    refine lv_istore (lv' := [(10, .int ((fX4_driveOf σ (wTown σ wi) (wTown σ i5)))), (9, .ref (β 5 i5)), (8, .ref (β 5 wi)), (7, .int 0), (6, .ref (β 5 i5)), (0, .ref (β 0 0)), (1, .int (nI ui)), (2, .int (nI wi)), (3, .ref (β 5 wi)), (5, .int (nI i5))]) hx hb dX4_isFree_204 hl (Nat.le_of_ble_eq_true rfl) rfl (fun ls hl => ?_)
                    refine lv_iload hx hb dX4_isFree_206 (lv_at hl 0 rfl) ?_
                    refine lv_iconst (v := (-1)) hx hb dX4_isFree_208 (by decide) ?_
                    refine lv_icmp_eq (tgt := 234) hx hb dX4_isFree_209 (by decide) (fun c14 => ?_) (fun c14 => ?_)
                    · rw [if_pos c14] at hR
                      refine lv_iconst (v := 0) hx hb dX4_isFree_234 (by decide) ?_
                      exact p_zret (b := false) hx hb hr hlocks dX4_isFree_235 rfl (by rw [← hR])
                    · rw [if_neg c14] at hR
                      refine lv_aload hx hb dX4_isFree_212 (lv_at hl 2 rfl) ?_
                      refine gfN (v := .int (wStart σ wi)) (C := RX11) (T := TX11) (N := 12) (k := 3) hx hb hts hown hG cl_X11 in_X11 (hM.wd h_wi) (by decide) q1705 rfl dX4_isFree_214 ?_
                      refine lv_aload hx hb dX4_isFree_217 (lv_at hl 2 rfl) ?_
                      refine gfN (v := .int (wLen σ wi)) (C := RX11) (T := TX11) (N := 12) (k := 4) hx hb hts hown hG cl_X11 in_X11 (hM.wd h_wi) (by decide) q1707 rfl dX4_isFree_219 ?_
                      refine lv_iadd hx hb dX4_isFree_222 ?_
                      refine lv_iload hx hb dX4_isFree_223 (lv_at hl 0 rfl) ?_
                      refine lv_iadd hx hb dX4_isFree_225 ?_
                      refine lv_aload hx hb dX4_isFree_226 (lv_at hl 1 rfl) ?_
                      refine gfN (v := .int (wStart σ i5)) (C := RX11) (T := TX11) (N := 12) (k := 3) hx hb hts hown hG cl_X11 in_X11 (hM.wd hki5) (by decide) q1705 rfl dX4_isFree_228 ?_
                      refine lv_icmp_le (tgt := 236) hx hb dX4_isFree_231 (by decide) (fun c15 => ?_) (fun c15 => ?_)
                      · rw [if_pos c15] at hR
                        refine lv_iinc (v := nI (i5 + 1)) (lv' := [(5, .int (nI (i5 + 1))), (10, .int ((fX4_driveOf σ (wTown σ wi) (wTown σ i5)))), (9, .ref (β 5 i5)), (8, .ref (β 5 wi)), (7, .int 0), (6, .ref (β 5 i5)), (0, .ref (β 0 0)), (1, .int (nI ui)), (2, .int (nI wi)), (3, .ref (β 5 wi))]) hx hb dX4_isFree_236 hl (k := 9) rfl (nI_1 i5) (Nat.le_of_ble_eq_true rfl) rfl (fun ls hl => ?_)
                        refine lv_goto (tgt := 60) hx hb dX4_isFree_239 (by decide) ?_
                        exact ih (i5 + 1) (lk_st hn) hR ls (lv_sub hl [6, 7, 8, 9, 0] rfl)
                      · rw [if_neg c15] at hR
                        refine lv_iconst (v := 0) hx hb dX4_isFree_234 (by decide) ?_
                        exact p_zret (b := false) hx hb hr hlocks dX4_isFree_235 rfl (by rw [← hR])
                  · rw [if_neg c13] at hR
                    refine lv_iconst (v := 1) hx hb dX4_isFree_158 (by decide) ?_
                    refine lv_goto (tgt := 163) hx hb dX4_isFree_159 (by decide) ?_
                    refine lv_istore (lv' := [(7, .int 1), (6, .ref (β 5 i5)), (0, .ref (β 0 0)), (1, .int (nI ui)), (2, .int (nI wi)), (3, .ref (β 5 wi)), (5, .int (nI i5))]) hx hb dX4_isFree_163 hl (Nat.le_of_ble_eq_true rfl) rfl (fun ls hl => ?_)
                    refine lv_iload hx hb dX4_isFree_165 (lv_at hl 0 rfl) ?_
                    refine lv_if_eq (tgt := 175) hx hb dX4_isFree_167 (by decide) (fun c9 => absurd c9 (by decide)) (fun _ => ?_)
                    refine lv_aload hx hb dX4_isFree_170 (lv_at hl 1 rfl) ?_
                    refine lv_goto (tgt := 176) hx hb dX4_isFree_172 (by decide) ?_
                    refine lv_astore (lv' := [(8, .ref (β 5 i5)), (7, .int 1), (6, .ref (β 5 i5)), (0, .ref (β 0 0)), (1, .int (nI ui)), (2, .int (nI wi)), (3, .ref (β 5 wi)), (5, .int (nI i5))]) hx hb dX4_isFree_176 hl (Nat.le_of_ble_eq_true rfl) rfl (fun ls hl => ?_)
                    refine lv_iload hx hb dX4_isFree_178 (lv_at hl 1 rfl) ?_
                    refine lv_if_eq (tgt := 187) hx hb dX4_isFree_180 (by decide) (fun c9 => absurd c9 (by decide)) (fun _ => ?_)
                    refine lv_aload_n hx hb dX4_isFree_183 rfl (lv_at hl 6 rfl) ?_
                    refine lv_goto (tgt := 189) hx hb dX4_isFree_184 (by decide) ?_
                    refine lv_astore (lv' := [(9, .ref (β 5 wi)), (8, .ref (β 5 i5)), (7, .int 1), (6, .ref (β 5 i5)), (0, .ref (β 0 0)), (1, .int (nI ui)), (2, .int (nI wi)), (3, .ref (β 5 wi)), (5, .int (nI i5))]) hx hb dX4_isFree_189 hl (Nat.le_of_ble_eq_true rfl) rfl (fun ls hl => ?_)
                    refine lv_aload_n hx hb dX4_isFree_191 rfl (lv_at hl 4 rfl) ?_
                    refine lv_aload_n hx hb dX4_isFree_192 rfl (lv_at hl 7 rfl) ?_
                    refine gfN (v := .int (nI (wTown σ wi))) (C := RX11) (T := TX11) (N := 12) (k := 2) hx hb hts hown hG cl_X11 in_X11 (hM.wd h_wi) (by decide) q1703 rfl dX4_isFree_193 ?_
                    refine lv_aload hx hb dX4_isFree_196 (lv_at hl 3 rfl) ?_
                    refine gfN (v := .int (nI (wTown σ i5))) (C := RX11) (T := TX11) (N := 12) (k := 2) hx hb hts hown hG cl_X11 in_X11 (hM.wd hki5) (by decide) q1703 rfl dX4_isFree_198 ?_
                    refine pcV (As := [.int (nI (wTown σ wi)), .int (nI (wTown σ i5))]) (rest := []) hS0 (met_X4_driveOf l D E (wTown σ wi) (wTown σ i5) (hM.town h_wi) (hM.town hki5)) q1664 q1666 qs58 q110 q1667 hd_X4_driveOf ⟨Nat.le_of_ble_eq_true rfl, Nat.le_of_ble_eq_true rfl⟩ hG (rcv hG cl_X4 hM.ag) hM rfl hl.1 rfl (Nat.le_of_ble_eq_true rfl) dX4_isFree_201 ⟨Nat.le_refl _, Nat.le_refl _⟩ ?_
                    refine W.eq (g2 := F0 m 204 ls [.int ((fX4_driveOf σ (wTown σ wi) (wTown σ i5)))]) rfl ?_
                    refine lv_istore (lv' := [(10, .int ((fX4_driveOf σ (wTown σ wi) (wTown σ i5)))), (9, .ref (β 5 wi)), (8, .ref (β 5 i5)), (7, .int 1), (6, .ref (β 5 i5)), (0, .ref (β 0 0)), (1, .int (nI ui)), (2, .int (nI wi)), (3, .ref (β 5 wi)), (5, .int (nI i5))]) hx hb dX4_isFree_204 hl (Nat.le_of_ble_eq_true rfl) rfl (fun ls hl => ?_)
                    refine lv_iload hx hb dX4_isFree_206 (lv_at hl 0 rfl) ?_
                    refine lv_iconst (v := (-1)) hx hb dX4_isFree_208 (by decide) ?_
                    refine lv_icmp_eq (tgt := 234) hx hb dX4_isFree_209 (by decide) (fun c16 => ?_) (fun c16 => ?_)
                    · rw [if_pos c16] at hR
                      refine lv_iconst (v := 0) hx hb dX4_isFree_234 (by decide) ?_
                      exact p_zret (b := false) hx hb hr hlocks dX4_isFree_235 rfl (by rw [← hR])
                    · rw [if_neg c16] at hR
                      refine lv_aload hx hb dX4_isFree_212 (lv_at hl 2 rfl) ?_
                      refine gfN (v := .int (wStart σ i5)) (C := RX11) (T := TX11) (N := 12) (k := 3) hx hb hts hown hG cl_X11 in_X11 (hM.wd hki5) (by decide) q1705 rfl dX4_isFree_214 ?_
                      refine lv_aload hx hb dX4_isFree_217 (lv_at hl 2 rfl) ?_
                      refine gfN (v := .int (wLen σ i5)) (C := RX11) (T := TX11) (N := 12) (k := 4) hx hb hts hown hG cl_X11 in_X11 (hM.wd hki5) (by decide) q1707 rfl dX4_isFree_219 ?_
                      refine lv_iadd hx hb dX4_isFree_222 ?_
                      refine lv_iload hx hb dX4_isFree_223 (lv_at hl 0 rfl) ?_
                      refine lv_iadd hx hb dX4_isFree_225 ?_
                      refine lv_aload hx hb dX4_isFree_226 (lv_at hl 1 rfl) ?_
                      refine gfN (v := .int (wStart σ wi)) (C := RX11) (T := TX11) (N := 12) (k := 3) hx hb hts hown hG cl_X11 in_X11 (hM.wd h_wi) (by decide) q1705 rfl dX4_isFree_228 ?_
                      refine lv_icmp_le (tgt := 236) hx hb dX4_isFree_231 (by decide) (fun c17 => ?_) (fun c17 => ?_)
                      · rw [if_pos c17] at hR
                        refine lv_iinc (v := nI (i5 + 1)) (lv' := [(5, .int (nI (i5 + 1))), (10, .int ((fX4_driveOf σ (wTown σ wi) (wTown σ i5)))), (9, .ref (β 5 wi)), (8, .ref (β 5 i5)), (7, .int 1), (6, .ref (β 5 i5)), (0, .ref (β 0 0)), (1, .int (nI ui)), (2, .int (nI wi)), (3, .ref (β 5 wi))]) hx hb dX4_isFree_236 hl (k := 9) rfl (nI_1 i5) (Nat.le_of_ble_eq_true rfl) rfl (fun ls hl => ?_)
                        refine lv_goto (tgt := 60) hx hb dX4_isFree_239 (by decide) ?_
                        exact ih (i5 + 1) (lk_st hn) hR ls (lv_sub hl [6, 7, 8, 9, 0] rfl)
                      · rw [if_neg c17] at hR
                        refine lv_iconst (v := 0) hx hb dX4_isFree_234 (by decide) ?_
                        exact p_zret (b := false) hx hb hr hlocks dX4_isFree_235 rfl (by rw [← hR])
            · rw [if_neg c6] at hR
              refine lv_goto (tgt := 236) hx hb dX4_isFree_125 (by decide) ?_
              refine lv_iinc (v := nI (i5 + 1)) (lv' := [(5, .int (nI (i5 + 1))), (6, .ref (β 5 i5)), (0, .ref (β 0 0)), (1, .int (nI ui)), (2, .int (nI wi)), (3, .ref (β 5 wi))]) hx hb dX4_isFree_236 hl (k := 5) rfl (nI_1 i5) (Nat.le_of_ble_eq_true rfl) rfl (fun ls hl => ?_)
              refine lv_goto (tgt := 60) hx hb dX4_isFree_239 (by decide) ?_
              exact ih (i5 + 1) (lk_st hn) hR ls (lv_sub hl [2, 3, 4, 5, 0] rfl)
  unfold fX4_isFree at hR
  refine lv_aload_n hx hb dX4_isFree_0 rfl (lv_at hl 0 rfl) ?_
  refine gf (v := .ref (β 1 2)) (C := RX4) (T := TX4) (N := 13) (k := 5) hx hb hts hown hG cl_X4 in_X4 hM.ag (by decide) q1545 rfl dX4_isFree_1 ?_
  refine lv_iload_n hx hb dX4_isFree_4 rfl (lv_at hl 2 rfl) ?_
  refine pcV (As := [.int (nI wi)]) (rest := []) hS0 (met_ml_get l D E (j := 2) (by decide) wi h_wi) q1639 q349 q2082 q103 q351 hd_J2_get ⟨Nat.le_of_ble_eq_true rfl, Nat.le_of_ble_eq_true rfl⟩ hG (hM.lsR hG (j := 2) (by decide)) hM rfl hl.1 rfl (Nat.le_of_ble_eq_true rfl) dX4_isFree_5 ⟨Nat.le_refl _, Nat.le_refl _⟩ ?_
  refine W.eq (g2 := F0 m 8 ls [.ref (β 5 wi)]) rfl ?_
  refine gc (ci := 9) hx hb hown hG cl_X11 (rcv hG cl_X11 (hM.wd h_wi)) (hts _ q1695) dX4_isFree_8 ?_
  refine lv_astore_n (lv' := [(3, .ref (β 5 wi)), (0, .ref (β 0 0)), (1, .int (nI ui)), (2, .int (nI wi))]) hx hb dX4_isFree_11 rfl hl (Nat.le_of_ble_eq_true rfl) rfl (fun ls hl => ?_)
  refine lv_aload_n hx hb dX4_isFree_12 rfl (lv_at hl 1 rfl) ?_
  refine gf (v := .ref (β 1 0)) (C := RX4) (T := TX4) (N := 13) (k := 3) hx hb hts hown hG cl_X4 in_X4 hM.ag (by decide) q1543 rfl dX4_isFree_13 ?_
  refine lv_iload_n hx hb dX4_isFree_16 rfl (lv_at hl 2 rfl) ?_
  refine pcV (As := [.int (nI ui)]) (rest := []) hS0 (met_ml_get l D E (j := 0) (by decide) ui h_ui) q1639 q349 q2082 q103 q351 hd_J2_get ⟨Nat.le_of_ble_eq_true rfl, Nat.le_of_ble_eq_true rfl⟩ hG (hM.lsR hG (j := 0) (by decide)) hM rfl hl.1 rfl (Nat.le_of_ble_eq_true rfl) dX4_isFree_17 ⟨Nat.le_refl _, Nat.le_refl _⟩ ?_
  refine W.eq (g2 := F0 m 20 ls [.ref (β 3 ui)]) rfl ?_
  refine gc (ci := 6) hx hb hown hG cl_X7 (rcv hG cl_X7 (hM.pl h_ui)) (hts _ q1601) dX4_isFree_20 ?_
  refine lv_astore (lv' := [(4, .ref (β 3 ui)), (3, .ref (β 5 wi)), (0, .ref (β 0 0)), (1, .int (nI ui)), (2, .int (nI wi))]) hx hb dX4_isFree_23 hl (Nat.le_of_ble_eq_true rfl) rfl (fun ls hl => ?_)
  refine lv_aload hx hb dX4_isFree_25 (lv_at hl 0 rfl) ?_
  refine gfN (v := .ref (β 4 ui)) (C := RX7) (T := TX7) (N := 7) (k := 6) hx hb hts hown hG cl_X7 in_X7 (hM.pl h_ui) (by decide) q1614 rfl dX4_isFree_27 ?_
  refine lv_aload_n hx hb dX4_isFree_30 rfl (lv_at hl 1 rfl) ?_
  refine gfN (v := .int (nI (wDay σ wi))) (C := RX11) (T := TX11) (N := 12) (k := 1) hx hb hts hown hG cl_X11 in_X11 (hM.wd h_wi) (by decide) q1702 rfl dX4_isFree_31 ?_
  refine gaZ (N := 366) (k := wDay σ wi) hx hb hG (hM.off h_ui) (hM.day h_wi) (by decide) dX4_isFree_34 ?_
  refine lv_if_ne (tgt := 55) hx hb dX4_isFree_35 (by decide) (fun c1 => ?_) (fun c1 => ?_)
  · rw [if_neg c1] at hR
    refine lv_iconst (v := 0) hx hb dX4_isFree_55 (by decide) ?_
    exact p_zret (b := false) hx hb hr hlocks dX4_isFree_56 rfl (by rw [← hR])
  · rw [if_pos c1] at hR
    refine lv_aload_n hx hb dX4_isFree_38 rfl (lv_at hl 2 rfl) ?_
    refine lv_aload hx hb dX4_isFree_39 (lv_at hl 0 rfl) ?_
    refine gfN (v := .int (nI (pHome σ ui))) (C := RX7) (T := TX7) (N := 7) (k := 2) hx hb hts hown hG cl_X7 in_X7 (hM.pl h_ui) (by decide) q1609 rfl dX4_isFree_41 ?_
    refine lv_aload_n hx hb dX4_isFree_44 rfl (lv_at hl 1 rfl) ?_
    refine gfN (v := .int (nI (wTown σ wi))) (C := RX11) (T := TX11) (N := 12) (k := 2) hx hb hts hown hG cl_X11 in_X11 (hM.wd h_wi) (by decide) q1703 rfl dX4_isFree_45 ?_
    refine pcV (As := [.int (nI (pHome σ ui)), .int (nI (wTown σ wi))]) (rest := []) hS0 (met_X4_driveOf l D E (pHome σ ui) (wTown σ wi) (hM.home h_ui) (hM.town h_wi)) q1664 q1666 qs58 q110 q1667 hd_X4_driveOf ⟨Nat.le_of_ble_eq_true rfl, Nat.le_of_ble_eq_true rfl⟩ hG (rcv hG cl_X4 hM.ag) hM rfl hl.1 rfl (Nat.le_of_ble_eq_true rfl) dX4_isFree_48 ⟨Nat.le_refl _, Nat.le_refl _⟩ ?_
    refine W.eq (g2 := F0 m 51 ls [.int ((fX4_driveOf σ (pHome σ ui) (wTown σ wi)))]) rfl ?_
    refine lv_iconst (v := (-1)) hx hb dX4_isFree_51 (by decide) ?_
    refine lv_icmp_ne (tgt := 57) hx hb dX4_isFree_52 (by decide) (fun c2 => ?_) (fun c2 => ?_)
    · rw [if_neg c2] at hR
      refine lv_iconst (v := 0) hx hb dX4_isFree_57 (by decide) ?_
      refine lv_istore (lv' := [(5, .int 0), (4, .ref (β 3 ui)), (3, .ref (β 5 wi)), (0, .ref (β 0 0)), (1, .int (nI ui)), (2, .int (nI wi))]) hx hb dX4_isFree_58 hl (Nat.le_of_ble_eq_true rfl) rfl (fun ls hl => ?_)
      refine hL60  _ (fun  ls hR hl => ?_) (nW σ) 0 (Nat.zero_add _) hR ls (lv_sub hl [3, 4, 5, 2, 0] rfl)
      refine lv_iconst (v := 1) hx hb dX4_isFree_242 (by decide) ?_
      exact p_zret (b := true) hx hb hr hlocks dX4_isFree_243 rfl (by rw [← hR])
    · rw [if_pos c2] at hR
      refine lv_iconst (v := 0) hx hb dX4_isFree_55 (by decide) ?_
      exact p_zret (b := false) hx hb hr hlocks dX4_isFree_56 rfl (by rw [← hR])

def fX4_freeFor_L4 (σ : St) (wi : Nat)  (κ : Int32 → Int32) : Nat → Nat → Int32 → Int32
  | 0, i3, a2 => κ a2
  | n + 1, i3, a2 => (if ((fX4_isFree σ i3 wi)) = true then fX4_freeFor_L4 σ wi κ n (i3 + 1) (a2 ||| (1 <<< ((nI i3) &&& 31))) else fX4_freeFor_L4 σ wi κ n (i3 + 1) (a2 ||| 0))
def fX4_freeFor (σ : St) (wi : Nat) : Int32 :=
  fX4_freeFor_L4 σ wi (fun (a2 : Int32) => a2) (nP σ) 0 0
set_option maxHeartbeats 4000000 in
set_option maxRecDepth 100000 in
theorem met_X4_freeFor (l : Launch) (D : va_G) (E : Nat → Nat) {β : Nat → Nat → Nat} {F : Nat → Prop} {σ : St} {th ca : Int32} {sm : Int64} (wi : Nat) (h_wi : wi < nW σ) : PM l D E yX4_freeFor cX4_freeFor 4 (Option.some Jvm.ClassFile.FieldType.int) 4 94 [.ref (β 0 0), .int (nI wi)] (RM D E β F σ th ca sm) (some (.int (fX4_freeFor σ wi))) := by
  generalize hR : fX4_freeFor σ wi = r
  refine PM.start (by decide) (Nat.le_of_ble_eq_true rfl) ?_
  intro p e s m below meth c ls hx hb hr hml hown hlocks hts hG hM hl
  have hown : s.vm.findClass RX4 = some m.cls := hown
  have hS0 : xS p m c cX4_freeFor 4 s _ RX4 := ⟨hx, hb, hml, hown, hts⟩
  have hl : lv_has ls 4 [(0, .ref (β 0 0)), (1, .int (nI wi))] := hl
  have hL4 : ∀ (κ : Int32 → Int32) (hκ : ∀ (a2 : Int32) (ls : Array Slot), κ a2 = r → lv_has ls 4 [(2, .int (a2))] → W p l e { frames := 4, cells := 0, slots := 0, locals := 94 } s m [(.ref (β 0 0) : Value), .int (nI wi)].toArray below meth c s.heap [] 0 0 (MQ below (qP (some (.int r))) [(.ref (β 0 0) : Value), .int (nI wi)].toArray s 0 0 (fun _ => False)) (F0 m 40 ls [])) (n : Nat) (i3 : Nat) (a2 : Int32), i3 + n = nP σ → fX4_freeFor_L4 σ wi κ n i3 a2 = r → ∀ (ls : Array Slot), lv_has ls 4 [(0, .ref (β 0 0)), (1, .int (nI wi)), (2, .int (a2)), (3, .int (nI i3))] → W p l e { frames := 4, cells := 0, slots := 0, locals := 94 } s m [(.ref (β 0 0) : Value), .int (nI wi)].toArray below meth c s.heap [] 0 0 (MQ below (qP (some (.int r))) [(.ref (β 0 0) : Value), .int (nI wi)].toArray s 0 0 (fun _ => False)) (F0 m 4 ls []) := by
    intro  κ hκ n
    induction n with
    | zero =>
      intro i3 a2 hn hR ls hl
      rw [fX4_freeFor_L4] at hR
      refine lv_iload_n hx hb dX4_freeFor_4 rfl (lv_at hl 3 rfl) ?_
      refine lv_aload_n hx hb dX4_freeFor_5 rfl (lv_at hl 0 rfl) ?_
      refine gf (v := .ref (β 1 0)) (C := RX4) (T := TX4) (N := 13) (k := 3) hx hb hts hown hG cl_X4 in_X4 hM.ag (by decide) q1543 rfl dX4_freeFor_6 ?_
      refine pcV (As := []) (rest := [.int (nI i3)]) hS0 (met_ml_size l D E (j := 0) (by decide)) q1600 q336 q2080 q103 q338 hd_J2_size ⟨Nat.le_of_ble_eq_true rfl, Nat.le_of_ble_eq_true rfl⟩ hG (hM.lsR hG (j := 0) (by decide)) hM rfl hl.1 rfl (Nat.le_of_ble_eq_true rfl) dX4_freeFor_9 ⟨Nat.le_refl _, Nat.le_refl _⟩ ?_
      refine W.eq (g2 := F0 m 12 ls [.int (nI (nP σ)), .int (nI i3)]) rfl ?_
      refine lk_ge_out (k := i3) (N := nP σ) hx hb hn (tgt := 40) dX4_freeFor_12 (by decide) ?_
      exact hκ a2 ls hR (lv_sub hl [2] rfl)
    | succ n ih =>
      intro i3 a2 hn hR ls hl
      rw [fX4_freeFor_L4] at hR
      refine lv_iload_n hx hb dX4_freeFor_4 rfl (lv_at hl 3 rfl) ?_
      refine lv_aload_n hx hb dX4_freeFor_5 rfl (lv_at hl 0 rfl) ?_
      refine gf (v := .ref (β 1 0)) (C := RX4) (T := TX4) (N := 13) (k := 3) hx hb hts hown hG cl_X4 in_X4 hM.ag (by decide) q1543 rfl dX4_freeFor_6 ?_
      refine pcV (As := []) (rest := [.int (nI i3)]) hS0 (met_ml_size l D E (j := 0) (by decide)) q1600 q336 q2080 q103 q338 hd_J2_size ⟨Nat.le_of_ble_eq_true rfl, Nat.le_of_ble_eq_true rfl⟩ hG (hM.lsR hG (j := 0) (by decide)) hM rfl hl.1 rfl (Nat.le_of_ble_eq_true rfl) dX4_freeFor_9 ⟨Nat.le_refl _, Nat.le_refl _⟩ ?_
      refine W.eq (g2 := F0 m 12 ls [.int (nI (nP σ)), .int (nI i3)]) rfl ?_
      have hki3 : i3 < nP σ := lk_lt hn
      refine lk_ge_in (k := i3) (N := nP σ) hx hb hki3 (by have := hM.nP10; omega) (tgt := 40) dX4_freeFor_12 (by decide) ?_
      refine lv_iload_n hx hb dX4_freeFor_15 rfl (lv_at hl 2 rfl) ?_
      refine lv_aload_n hx hb dX4_freeFor_16 rfl (lv_at hl 0 rfl) ?_
      refine lv_iload_n hx hb dX4_freeFor_17 rfl (lv_at hl 3 rfl) ?_
      refine lv_iload_n hx hb dX4_freeFor_18 rfl (lv_at hl 1 rfl) ?_
      refine pcV (As := [.int (nI i3), .int (nI wi)]) (rest := [.int (a2)]) hS0 (met_X4_isFree l D E i3 wi hki3 h_wi) q1761 q1763 qs66 q110 q1764 hd_X4_isFree ⟨Nat.le_of_ble_eq_true rfl, Nat.le_of_ble_eq_true rfl⟩ hG (rcv hG cl_X4 hM.ag) hM rfl hl.1 rfl (Nat.le_of_ble_eq_true rfl) dX4_freeFor_19 ⟨Nat.le_refl _, Nat.le_refl _⟩ ?_
      refine W.eq (g2 := F0 m 22 ls [.int (bI ((fX4_isFree σ i3 wi))), .int (a2)]) rfl ?_
      refine lb_if_eq (tgt := 31) hx hb dX4_freeFor_22 (by decide) (fun c1 => ?_) (fun c1 => ?_)
      · rw [if_neg c1] at hR
        refine lv_iconst (v := 0) hx hb dX4_freeFor_31 (by decide) ?_
        refine lv_ior hx hb dX4_freeFor_32 ?_
        refine lv_istore_n (lv' := [(2, .int (a2 ||| 0)), (0, .ref (β 0 0)), (1, .int (nI wi)), (3, .int (nI i3))]) hx hb dX4_freeFor_33 rfl hl (Nat.le_of_ble_eq_true rfl) rfl (fun ls hl => ?_)
        refine lv_iinc (v := nI (i3 + 1)) (lv' := [(3, .int (nI (i3 + 1))), (2, .int (a2 ||| 0)), (0, .ref (β 0 0)), (1, .int (nI wi))]) hx hb dX4_freeFor_34 hl (k := 3) rfl (nI_1 i3) (Nat.le_of_ble_eq_true rfl) rfl (fun ls hl => ?_)
        refine lv_goto (tgt := 4) hx hb dX4_freeFor_37 (by decide) ?_
        exact ih (i3 + 1) (a2 ||| 0) (lk_st hn) hR ls (lv_sub hl [2, 3, 1, 0] rfl)
      · rw [if_pos c1] at hR
        refine lv_iconst (v := 1) hx hb dX4_freeFor_25 (by decide) ?_
        refine lv_iload_n hx hb dX4_freeFor_26 rfl (lv_at hl 3 rfl) ?_
        refine lv_ishl hx hb dX4_freeFor_27 ?_
        refine lv_goto (tgt := 32) hx hb dX4_freeFor_28 (by decide) ?_
        refine lv_ior hx hb dX4_freeFor_32 ?_
        refine lv_istore_n (lv' := [(2, .int (a2 ||| (1 <<< ((nI i3) &&& 31)))), (0, .ref (β 0 0)), (1, .int (nI wi)), (3, .int (nI i3))]) hx hb dX4_freeFor_33 rfl hl (Nat.le_of_ble_eq_true rfl) rfl (fun ls hl => ?_)
        refine lv_iinc (v := nI (i3 + 1)) (lv' := [(3, .int (nI (i3 + 1))), (2, .int (a2 ||| (1 <<< ((nI i3) &&& 31)))), (0, .ref (β 0 0)), (1, .int (nI wi))]) hx hb dX4_freeFor_34 hl (k := 3) rfl (nI_1 i3) (Nat.le_of_ble_eq_true rfl) rfl (fun ls hl => ?_)
        refine lv_goto (tgt := 4) hx hb dX4_freeFor_37 (by decide) ?_
        exact ih (i3 + 1) (a2 ||| (1 <<< ((nI i3) &&& 31))) (lk_st hn) hR ls (lv_sub hl [2, 3, 1, 0] rfl)
  unfold fX4_freeFor at hR
  refine lv_iconst (v := 0) hx hb dX4_freeFor_0 (by decide) ?_
  refine lv_istore_n (lv' := [(2, .int 0), (0, .ref (β 0 0)), (1, .int (nI wi))]) hx hb dX4_freeFor_1 rfl hl (Nat.le_of_ble_eq_true rfl) rfl (fun ls hl => ?_)
  refine lv_iconst (v := 0) hx hb dX4_freeFor_2 (by decide) ?_
  refine lv_istore_n (lv' := [(3, .int 0), (2, .int 0), (0, .ref (β 0 0)), (1, .int (nI wi))]) hx hb dX4_freeFor_3 rfl hl (Nat.le_of_ble_eq_true rfl) rfl (fun ls hl => ?_)
  refine hL4  _ (fun a2 ls hR hl => ?_) (nP σ) 0 0 (Nat.zero_add _) hR ls (lv_sub hl [2, 3, 1, 0] rfl)
  refine lv_iload_n hx hb dX4_freeFor_40 rfl (lv_at hl 0 rfl) ?_
  exact p_iret hx hb hr hlocks dX4_freeFor_41 (by rw [← hR])

def fX4_isPeaceful_L2 (σ : St) (a : Int32)  (κ : Bool) : Nat → Nat → Bool
  | 0, i2 => κ
  | n + 1, i2 => (if ((fX4_isIn a (nI i2))) = true then (if ((pFeuds σ i2) &&& a) = 0 then fX4_isPeaceful_L2 σ a κ n (i2 + 1) else false) else fX4_isPeaceful_L2 σ a κ n (i2 + 1))
def fX4_isPeaceful (σ : St) (a : Int32) : Bool :=
  fX4_isPeaceful_L2 σ a (true) (nP σ) 0
set_option maxHeartbeats 4000000 in
set_option maxRecDepth 100000 in
theorem met_X4_isPeaceful (l : Launch) (D : va_G) (E : Nat → Nat) {β : Nat → Nat → Nat} {F : Nat → Prop} {σ : St} {th ca : Int32} {sm : Int64} (a : Int32)  : PM l D E yX4_isPeaceful cX4_isPeaceful 3 (Option.some Jvm.ClassFile.FieldType.boolean) 3 64 [.ref (β 0 0), .int (a)] (RM D E β F σ th ca sm) (some (.int (bI (fX4_isPeaceful σ a)))) := by
  generalize hR : fX4_isPeaceful σ a = r
  refine PM.start (by decide) (Nat.le_of_ble_eq_true rfl) ?_
  intro p e s m below meth c ls hx hb hr hml hown hlocks hts hG hM hl
  have hown : s.vm.findClass RX4 = some m.cls := hown
  have hS0 : xS p m c cX4_isPeaceful 3 s _ RX4 := ⟨hx, hb, hml, hown, hts⟩
  have hl : lv_has ls 3 [(0, .ref (β 0 0)), (1, .int (a))] := hl
  have hL2 : ∀ (κ : Bool) (hκ : ∀ (ls : Array Slot), κ = r → lv_has ls 3 [] → W p l e { frames := 3, cells := 0, slots := 0, locals := 64 } s m [(.ref (β 0 0) : Value), .int (a)].toArray below meth c s.heap [] 0 0 (MQ below (qP (some (.int (bI r)))) [(.ref (β 0 0) : Value), .int (a)].toArray s 0 0 (fun _ => False)) (F0 m 48 ls [])) (n : Nat) (i2 : Nat), i2 + n = nP σ → fX4_isPeaceful_L2 σ a κ n i2 = r → ∀ (ls : Array Slot), lv_has ls 3 [(0, .ref (β 0 0)), (1, .int (a)), (2, .int (nI i2))] → W p l e { frames := 3, cells := 0, slots := 0, locals := 64 } s m [(.ref (β 0 0) : Value), .int (a)].toArray below meth c s.heap [] 0 0 (MQ below (qP (some (.int (bI r)))) [(.ref (β 0 0) : Value), .int (a)].toArray s 0 0 (fun _ => False)) (F0 m 2 ls []) := by
    intro  κ hκ n
    induction n with
    | zero =>
      intro i2 hn hR ls hl
      rw [fX4_isPeaceful_L2] at hR
      refine lv_iload_n hx hb dX4_isPeaceful_2 rfl (lv_at hl 2 rfl) ?_
      refine lv_aload_n hx hb dX4_isPeaceful_3 rfl (lv_at hl 0 rfl) ?_
      refine gf (v := .ref (β 1 0)) (C := RX4) (T := TX4) (N := 13) (k := 3) hx hb hts hown hG cl_X4 in_X4 hM.ag (by decide) q1543 rfl dX4_isPeaceful_4 ?_
      refine pcV (As := []) (rest := [.int (nI i2)]) hS0 (met_ml_size l D E (j := 0) (by decide)) q1600 q336 q2080 q103 q338 hd_J2_size ⟨Nat.le_of_ble_eq_true rfl, Nat.le_of_ble_eq_true rfl⟩ hG (hM.lsR hG (j := 0) (by decide)) hM rfl hl.1 rfl (Nat.le_of_ble_eq_true rfl) dX4_isPeaceful_7 ⟨Nat.le_refl _, Nat.le_refl _⟩ ?_
      refine W.eq (g2 := F0 m 10 ls [.int (nI (nP σ)), .int (nI i2)]) rfl ?_
      refine lk_ge_out (k := i2) (N := nP σ) hx hb hn (tgt := 48) dX4_isPeaceful_10 (by decide) ?_
      exact hκ  ls hR (lv_sub hl [] rfl)
    | succ n ih =>
      intro i2 hn hR ls hl
      rw [fX4_isPeaceful_L2] at hR
      refine lv_iload_n hx hb dX4_isPeaceful_2 rfl (lv_at hl 2 rfl) ?_
      refine lv_aload_n hx hb dX4_isPeaceful_3 rfl (lv_at hl 0 rfl) ?_
      refine gf (v := .ref (β 1 0)) (C := RX4) (T := TX4) (N := 13) (k := 3) hx hb hts hown hG cl_X4 in_X4 hM.ag (by decide) q1543 rfl dX4_isPeaceful_4 ?_
      refine pcV (As := []) (rest := [.int (nI i2)]) hS0 (met_ml_size l D E (j := 0) (by decide)) q1600 q336 q2080 q103 q338 hd_J2_size ⟨Nat.le_of_ble_eq_true rfl, Nat.le_of_ble_eq_true rfl⟩ hG (hM.lsR hG (j := 0) (by decide)) hM rfl hl.1 rfl (Nat.le_of_ble_eq_true rfl) dX4_isPeaceful_7 ⟨Nat.le_refl _, Nat.le_refl _⟩ ?_
      refine W.eq (g2 := F0 m 10 ls [.int (nI (nP σ)), .int (nI i2)]) rfl ?_
      have hki2 : i2 < nP σ := lk_lt hn
      refine lk_ge_in (k := i2) (N := nP σ) hx hb hki2 (by have := hM.nP10; omega) (tgt := 48) dX4_isPeaceful_10 (by decide) ?_
      refine lv_iload_n hx hb dX4_isPeaceful_13 rfl (lv_at hl 1 rfl) ?_
      refine lv_iload_n hx hb dX4_isPeaceful_14 rfl (lv_at hl 2 rfl) ?_
      refine pcS (As := [.int (a), .int (nI i2)]) (rest := []) hS0 (met_X4_isIn l D E a (nI i2)) q1654 q1655 q110 q1656 hd_X4_isIn ⟨Nat.le_of_ble_eq_true rfl, Nat.le_of_ble_eq_true rfl⟩ hG trivial rfl hl.1 rfl (Nat.le_of_ble_eq_true rfl) dX4_isPeaceful_15 ⟨Nat.le_refl _, Nat.le_refl _⟩ ?_
      refine W.eq (g2 := F0 m 18 ls [.int (bI ((fX4_isIn a (nI i2))))]) rfl ?_
      refine lb_if_eq (tgt := 42) hx hb dX4_isPeaceful_18 (by decide) (fun c1 => ?_) (fun c1 => ?_)
      · rw [if_neg c1] at hR
        refine lv_iinc (v := nI (i2 + 1)) (lv' := [(2, .int (nI (i2 + 1))), (0, .ref (β 0 0)), (1, .int (a))]) hx hb dX4_isPeaceful_42 hl (k := 2) rfl (nI_1 i2) (Nat.le_of_ble_eq_true rfl) rfl (fun ls hl => ?_)
        refine lv_goto (tgt := 2) hx hb dX4_isPeaceful_45 (by decide) ?_
        exact ih (i2 + 1) (lk_st hn) hR ls (lv_sub hl [1, 2, 0] rfl)
      · rw [if_pos c1] at hR
        refine lv_aload_n hx hb dX4_isPeaceful_21 rfl (lv_at hl 0 rfl) ?_
        refine gf (v := .ref (β 1 0)) (C := RX4) (T := TX4) (N := 13) (k := 3) hx hb hts hown hG cl_X4 in_X4 hM.ag (by decide) q1543 rfl dX4_isPeaceful_22 ?_
        refine lv_iload_n hx hb dX4_isPeaceful_25 rfl (lv_at hl 2 rfl) ?_
        refine pcV (As := [.int (nI i2)]) (rest := []) hS0 (met_ml_get l D E (j := 0) (by decide) i2 hki2) q1639 q349 q2082 q103 q351 hd_J2_get ⟨Nat.le_of_ble_eq_true rfl, Nat.le_of_ble_eq_true rfl⟩ hG (hM.lsR hG (j := 0) (by decide)) hM rfl hl.1 rfl (Nat.le_of_ble_eq_true rfl) dX4_isPeaceful_26 ⟨Nat.le_refl _, Nat.le_refl _⟩ ?_
        refine W.eq (g2 := F0 m 29 ls [.ref (β 3 i2)]) rfl ?_
        refine gc (ci := 6) hx hb hown hG cl_X7 (rcv hG cl_X7 (hM.pl hki2)) (hts _ q1601) dX4_isPeaceful_29 ?_
        refine gfN (v := .int (pFeuds σ i2)) (C := RX7) (T := TX7) (N := 7) (k := 4) hx hb hts hown hG cl_X7 in_X7 (hM.pl hki2) (by decide) q1611 rfl dX4_isPeaceful_32 ?_
        refine lv_iload_n hx hb dX4_isPeaceful_35 rfl (lv_at hl 1 rfl) ?_
        refine lv_iand hx hb dX4_isPeaceful_36 ?_
        refine lv_if_eq (tgt := 42) hx hb dX4_isPeaceful_37 (by decide) (fun c2 => ?_) (fun c2 => ?_)
        · rw [if_pos c2] at hR
          refine lv_iinc (v := nI (i2 + 1)) (lv' := [(2, .int (nI (i2 + 1))), (0, .ref (β 0 0)), (1, .int (a))]) hx hb dX4_isPeaceful_42 hl (k := 2) rfl (nI_1 i2) (Nat.le_of_ble_eq_true rfl) rfl (fun ls hl => ?_)
          refine lv_goto (tgt := 2) hx hb dX4_isPeaceful_45 (by decide) ?_
          exact ih (i2 + 1) (lk_st hn) hR ls (lv_sub hl [1, 2, 0] rfl)
        · rw [if_neg c2] at hR
          refine lv_iconst (v := 0) hx hb dX4_isPeaceful_40 (by decide) ?_
          exact p_zret (b := false) hx hb hr hlocks dX4_isPeaceful_41 rfl (by rw [← hR])
  unfold fX4_isPeaceful at hR
  refine lv_iconst (v := 0) hx hb dX4_isPeaceful_0 (by decide) ?_
  refine lv_istore_n (lv' := [(2, .int 0), (0, .ref (β 0 0)), (1, .int (a))]) hx hb dX4_isPeaceful_1 rfl hl (Nat.le_of_ble_eq_true rfl) rfl (fun ls hl => ?_)
  refine hL2  _ (fun  ls hR hl => ?_) (nP σ) 0 (Nat.zero_add _) hR ls (lv_sub hl [1, 2, 0] rfl)
  refine lv_iconst (v := 1) hx hb dX4_isPeaceful_48 (by decide) ?_
  exact p_zret (b := true) hx hb hr hlocks dX4_isPeaceful_49 rfl (by rw [← hR])

def fX4_isKnown_L5 (σ : St) (a : Int32) (q : Nat)  (κ : Int32 → Bool) : Nat → Nat → Int32 → Bool
  | 0, i4, a3 => κ a3
  | n + 1, i4, a3 => (if ((fX4_isIn a (nI i4))) = true then (if ((fX4_isIn (pSongs σ i4) (nI q))) = true then fX4_isKnown_L5 σ a q κ n (i4 + 1) (a3 + 1) else fX4_isKnown_L5 σ a q κ n (i4 + 1) (a3 + 0)) else fX4_isKnown_L5 σ a q κ n (i4 + 1) (a3 + 0))
def fX4_isKnown (σ : St) (a : Int32) (q : Nat) : Bool :=
  fX4_isKnown_L5 σ a q (fun (a3 : Int32) => (if 2 ≤ a3 then true else (if a3 = 1 then (if (nI (popc a)) = 1 then true else false) else false))) (nP σ) 0 0
set_option maxHeartbeats 4000000 in
set_option maxRecDepth 100000 in
theorem met_X4_isKnown (l : Launch) (D : va_G) (E : Nat → Nat) {β : Nat → Nat → Nat} {F : Nat → Prop} {σ : St} {th ca : Int32} {sm : Int64} (a : Int32) (q : Nat)  : PM l D E yX4_isKnown cX4_isKnown 5 (Option.some Jvm.ClassFile.FieldType.boolean) 3 64 [.ref (β 0 0), .int (a), .int (nI q)] (RM D E β F σ th ca sm) (some (.int (bI (fX4_isKnown σ a q)))) := by
  generalize hR : fX4_isKnown σ a q = r
  refine PM.start (by decide) (Nat.le_of_ble_eq_true rfl) ?_
  intro p e s m below meth c ls hx hb hr hml hown hlocks hts hG hM hl
  have hown : s.vm.findClass RX4 = some m.cls := hown
  have hS0 : xS p m c cX4_isKnown 5 s _ RX4 := ⟨hx, hb, hml, hown, hts⟩
  have hl : lv_has ls 5 [(0, .ref (β 0 0)), (1, .int (a)), (2, .int (nI q))] := hl
  have hL5 : ∀ (κ : Int32 → Bool) (hκ : ∀ (a3 : Int32) (ls : Array Slot), κ a3 = r → lv_has ls 5 [(1, .int (a)), (3, .int (a3))] → W p l e { frames := 3, cells := 0, slots := 0, locals := 64 } s m [(.ref (β 0 0) : Value), .int (a), .int (nI q)].toArray below meth c s.heap [] 0 0 (MQ below (qP (some (.int (bI r)))) [(.ref (β 0 0) : Value), .int (a), .int (nI q)].toArray s 0 0 (fun _ => False)) (F0 m 62 ls [])) (n : Nat) (i4 : Nat) (a3 : Int32), i4 + n = nP σ → fX4_isKnown_L5 σ a q κ n i4 a3 = r → ∀ (ls : Array Slot), lv_has ls 5 [(0, .ref (β 0 0)), (1, .int (a)), (2, .int (nI q)), (3, .int (a3)), (4, .int (nI i4))] → W p l e { frames := 3, cells := 0, slots := 0, locals := 64 } s m [(.ref (β 0 0) : Value), .int (a), .int (nI q)].toArray below meth c s.heap [] 0 0 (MQ below (qP (some (.int (bI r)))) [(.ref (β 0 0) : Value), .int (a), .int (nI q)].toArray s 0 0 (fun _ => False)) (F0 m 5 ls []) := by
    intro  κ hκ n
    induction n with
    | zero =>
      intro i4 a3 hn hR ls hl
      rw [fX4_isKnown_L5] at hR
      refine lv_iload hx hb dX4_isKnown_5 (lv_at hl 4 rfl) ?_
      refine lv_aload_n hx hb dX4_isKnown_7 rfl (lv_at hl 0 rfl) ?_
      refine gf (v := .ref (β 1 0)) (C := RX4) (T := TX4) (N := 13) (k := 3) hx hb hts hown hG cl_X4 in_X4 hM.ag (by decide) q1543 rfl dX4_isKnown_8 ?_
      refine pcV (As := []) (rest := [.int (nI i4)]) hS0 (met_ml_size l D E (j := 0) (by decide)) q1600 q336 q2080 q103 q338 hd_J2_size ⟨Nat.le_of_ble_eq_true rfl, Nat.le_of_ble_eq_true rfl⟩ hG (hM.lsR hG (j := 0) (by decide)) hM rfl hl.1 rfl (Nat.le_of_ble_eq_true rfl) dX4_isKnown_11 ⟨Nat.le_refl _, Nat.le_refl _⟩ ?_
      refine W.eq (g2 := F0 m 14 ls [.int (nI (nP σ)), .int (nI i4)]) rfl ?_
      refine lk_ge_out (k := i4) (N := nP σ) hx hb hn (tgt := 62) dX4_isKnown_14 (by decide) ?_
      exact hκ a3 ls hR (lv_sub hl [1, 3] rfl)
    | succ n ih =>
      intro i4 a3 hn hR ls hl
      rw [fX4_isKnown_L5] at hR
      refine lv_iload hx hb dX4_isKnown_5 (lv_at hl 4 rfl) ?_
      refine lv_aload_n hx hb dX4_isKnown_7 rfl (lv_at hl 0 rfl) ?_
      refine gf (v := .ref (β 1 0)) (C := RX4) (T := TX4) (N := 13) (k := 3) hx hb hts hown hG cl_X4 in_X4 hM.ag (by decide) q1543 rfl dX4_isKnown_8 ?_
      refine pcV (As := []) (rest := [.int (nI i4)]) hS0 (met_ml_size l D E (j := 0) (by decide)) q1600 q336 q2080 q103 q338 hd_J2_size ⟨Nat.le_of_ble_eq_true rfl, Nat.le_of_ble_eq_true rfl⟩ hG (hM.lsR hG (j := 0) (by decide)) hM rfl hl.1 rfl (Nat.le_of_ble_eq_true rfl) dX4_isKnown_11 ⟨Nat.le_refl _, Nat.le_refl _⟩ ?_
      refine W.eq (g2 := F0 m 14 ls [.int (nI (nP σ)), .int (nI i4)]) rfl ?_
      have hki4 : i4 < nP σ := lk_lt hn
      refine lk_ge_in (k := i4) (N := nP σ) hx hb hki4 (by have := hM.nP10; omega) (tgt := 62) dX4_isKnown_14 (by decide) ?_
      refine lv_iload_n hx hb dX4_isKnown_17 rfl (lv_at hl 3 rfl) ?_
      refine lv_iload_n hx hb dX4_isKnown_18 rfl (lv_at hl 1 rfl) ?_
      refine lv_iload hx hb dX4_isKnown_19 (lv_at hl 4 rfl) ?_
      refine pcS (As := [.int (a), .int (nI i4)]) (rest := [.int (a3)]) hS0 (met_X4_isIn l D E a (nI i4)) q1654 q1655 q110 q1656 hd_X4_isIn ⟨Nat.le_of_ble_eq_true rfl, Nat.le_of_ble_eq_true rfl⟩ hG trivial rfl hl.1 rfl (Nat.le_of_ble_eq_true rfl) dX4_isKnown_21 ⟨Nat.le_refl _, Nat.le_refl _⟩ ?_
      refine W.eq (g2 := F0 m 24 ls [.int (bI ((fX4_isIn a (nI i4)))), .int (a3)]) rfl ?_
      refine lb_if_eq (tgt := 53) hx hb dX4_isKnown_24 (by decide) (fun c1 => ?_) (fun c1 => ?_)
      · rw [if_neg c1] at hR
        refine lv_iconst (v := 0) hx hb dX4_isKnown_53 (by decide) ?_
        refine lv_iadd hx hb dX4_isKnown_54 ?_
        refine lv_istore_n (lv' := [(3, .int (a3 + 0)), (0, .ref (β 0 0)), (1, .int (a)), (2, .int (nI q)), (4, .int (nI i4))]) hx hb dX4_isKnown_55 rfl hl (Nat.le_of_ble_eq_true rfl) rfl (fun ls hl => ?_)
        refine lv_iinc (v := nI (i4 + 1)) (lv' := [(4, .int (nI (i4 + 1))), (3, .int (a3 + 0)), (0, .ref (β 0 0)), (1, .int (a)), (2, .int (nI q))]) hx hb dX4_isKnown_56 hl (k := 4) rfl (nI_1 i4) (Nat.le_of_ble_eq_true rfl) rfl (fun ls hl => ?_)
        refine lv_goto (tgt := 5) hx hb dX4_isKnown_59 (by decide) ?_
        exact ih (i4 + 1) (a3 + 0) (lk_st hn) hR ls (lv_sub hl [2, 3, 4, 1, 0] rfl)
      · rw [if_pos c1] at hR
        refine lv_aload_n hx hb dX4_isKnown_27 rfl (lv_at hl 0 rfl) ?_
        refine gf (v := .ref (β 1 0)) (C := RX4) (T := TX4) (N := 13) (k := 3) hx hb hts hown hG cl_X4 in_X4 hM.ag (by decide) q1543 rfl dX4_isKnown_28 ?_
        refine lv_iload hx hb dX4_isKnown_31 (lv_at hl 4 rfl) ?_
        refine pcV (As := [.int (nI i4)]) (rest := [.int (a3)]) hS0 (met_ml_get l D E (j := 0) (by decide) i4 hki4) q1639 q349 q2082 q103 q351 hd_J2_get ⟨Nat.le_of_ble_eq_true rfl, Nat.le_of_ble_eq_true rfl⟩ hG (hM.lsR hG (j := 0) (by decide)) hM rfl hl.1 rfl (Nat.le_of_ble_eq_true rfl) dX4_isKnown_33 ⟨Nat.le_refl _, Nat.le_refl _⟩ ?_
        refine W.eq (g2 := F0 m 36 ls [.ref (β 3 i4), .int (a3)]) rfl ?_
        refine gc (ci := 6) hx hb hown hG cl_X7 (rcv hG cl_X7 (hM.pl hki4)) (hts _ q1601) dX4_isKnown_36 ?_
        refine gfN (v := .int (pSongs σ i4)) (C := RX7) (T := TX7) (N := 7) (k := 1) hx hb hts hown hG cl_X7 in_X7 (hM.pl hki4) (by decide) q1608 rfl dX4_isKnown_39 ?_
        refine lv_iload_n hx hb dX4_isKnown_42 rfl (lv_at hl 2 rfl) ?_
        refine pcS (As := [.int (pSongs σ i4), .int (nI q)]) (rest := [.int (a3)]) hS0 (met_X4_isIn l D E (pSongs σ i4) (nI q)) q1654 q1655 q110 q1656 hd_X4_isIn ⟨Nat.le_of_ble_eq_true rfl, Nat.le_of_ble_eq_true rfl⟩ hG trivial rfl hl.1 rfl (Nat.le_of_ble_eq_true rfl) dX4_isKnown_43 ⟨Nat.le_refl _, Nat.le_refl _⟩ ?_
        refine W.eq (g2 := F0 m 46 ls [.int (bI ((fX4_isIn (pSongs σ i4) (nI q)))), .int (a3)]) rfl ?_
        refine lb_if_eq (tgt := 53) hx hb dX4_isKnown_46 (by decide) (fun c2 => ?_) (fun c2 => ?_)
        · rw [if_neg c2] at hR
          refine lv_iconst (v := 0) hx hb dX4_isKnown_53 (by decide) ?_
          refine lv_iadd hx hb dX4_isKnown_54 ?_
          refine lv_istore_n (lv' := [(3, .int (a3 + 0)), (0, .ref (β 0 0)), (1, .int (a)), (2, .int (nI q)), (4, .int (nI i4))]) hx hb dX4_isKnown_55 rfl hl (Nat.le_of_ble_eq_true rfl) rfl (fun ls hl => ?_)
          refine lv_iinc (v := nI (i4 + 1)) (lv' := [(4, .int (nI (i4 + 1))), (3, .int (a3 + 0)), (0, .ref (β 0 0)), (1, .int (a)), (2, .int (nI q))]) hx hb dX4_isKnown_56 hl (k := 4) rfl (nI_1 i4) (Nat.le_of_ble_eq_true rfl) rfl (fun ls hl => ?_)
          refine lv_goto (tgt := 5) hx hb dX4_isKnown_59 (by decide) ?_
          exact ih (i4 + 1) (a3 + 0) (lk_st hn) hR ls (lv_sub hl [2, 3, 4, 1, 0] rfl)
        · rw [if_pos c2] at hR
          refine lv_iconst (v := 1) hx hb dX4_isKnown_49 (by decide) ?_
          refine lv_goto (tgt := 54) hx hb dX4_isKnown_50 (by decide) ?_
          refine lv_iadd hx hb dX4_isKnown_54 ?_
          refine lv_istore_n (lv' := [(3, .int (a3 + 1)), (0, .ref (β 0 0)), (1, .int (a)), (2, .int (nI q)), (4, .int (nI i4))]) hx hb dX4_isKnown_55 rfl hl (Nat.le_of_ble_eq_true rfl) rfl (fun ls hl => ?_)
          refine lv_iinc (v := nI (i4 + 1)) (lv' := [(4, .int (nI (i4 + 1))), (3, .int (a3 + 1)), (0, .ref (β 0 0)), (1, .int (a)), (2, .int (nI q))]) hx hb dX4_isKnown_56 hl (k := 4) rfl (nI_1 i4) (Nat.le_of_ble_eq_true rfl) rfl (fun ls hl => ?_)
          refine lv_goto (tgt := 5) hx hb dX4_isKnown_59 (by decide) ?_
          exact ih (i4 + 1) (a3 + 1) (lk_st hn) hR ls (lv_sub hl [2, 3, 4, 1, 0] rfl)
  unfold fX4_isKnown at hR
  refine lv_iconst (v := 0) hx hb dX4_isKnown_0 (by decide) ?_
  refine lv_istore_n (lv' := [(3, .int 0), (0, .ref (β 0 0)), (1, .int (a)), (2, .int (nI q))]) hx hb dX4_isKnown_1 rfl hl (Nat.le_of_ble_eq_true rfl) rfl (fun ls hl => ?_)
  refine lv_iconst (v := 0) hx hb dX4_isKnown_2 (by decide) ?_
  refine lv_istore (lv' := [(4, .int 0), (3, .int 0), (0, .ref (β 0 0)), (1, .int (a)), (2, .int (nI q))]) hx hb dX4_isKnown_3 hl (Nat.le_of_ble_eq_true rfl) rfl (fun ls hl => ?_)
  refine hL5  _ (fun a3 ls hR hl => ?_) (nP σ) 0 0 (Nat.zero_add _) hR ls (lv_sub hl [2, 3, 4, 1, 0] rfl)
  refine lv_iload_n hx hb dX4_isKnown_62 rfl (lv_at hl 1 rfl) ?_
  refine lv_iconst (v := 2) hx hb dX4_isKnown_63 (by decide) ?_
  refine lv_icmp_ge (tgt := 80) hx hb dX4_isKnown_64 (by decide) (fun c4 => ?_) (fun c4 => ?_)
  · rw [if_pos c4] at hR
    refine lv_iconst (v := 1) hx hb dX4_isKnown_80 (by decide) ?_
    refine lv_goto (tgt := 85) hx hb dX4_isKnown_81 (by decide) ?_
    exact p_zret (b := true) hx hb hr hlocks dX4_isKnown_85 rfl (by rw [← hR])
  · rw [if_neg c4] at hR
    refine lv_iload_n hx hb dX4_isKnown_67 rfl (lv_at hl 1 rfl) ?_
    refine lv_iconst (v := 1) hx hb dX4_isKnown_68 (by decide) ?_
    refine lv_icmp_ne (tgt := 84) hx hb dX4_isKnown_69 (by decide) (fun c5 => ?_) (fun c5 => ?_)
    · rw [if_neg c5] at hR
      refine lv_iconst (v := 0) hx hb dX4_isKnown_84 (by decide) ?_
      exact p_zret (b := false) hx hb hr hlocks dX4_isKnown_85 rfl (by rw [← hR])
    · rw [if_pos c5] at hR
      refine lv_iload_n hx hb dX4_isKnown_72 rfl (lv_at hl 0 rfl) ?_
      refine pcS (As := [.int (a)]) (rest := []) hS0 (met_bitCount l D E a) q1640 q1641 q125 q1642 hd_J17_bitCount ⟨Nat.le_of_ble_eq_true rfl, Nat.le_of_ble_eq_true rfl⟩ hG trivial rfl hl.1 rfl (Nat.le_of_ble_eq_true rfl) dX4_isKnown_73 ⟨Nat.le_refl _, Nat.le_refl _⟩ ?_
      refine W.eq (g2 := F0 m 76 ls [.int (nI (popc a))]) rfl ?_
      refine lv_iconst (v := 1) hx hb dX4_isKnown_76 (by decide) ?_
      refine lv_icmp_ne (tgt := 84) hx hb dX4_isKnown_77 (by decide) (fun c6 => ?_) (fun c6 => ?_)
      · rw [if_neg c6] at hR
        refine lv_iconst (v := 0) hx hb dX4_isKnown_84 (by decide) ?_
        exact p_zret (b := false) hx hb hr hlocks dX4_isKnown_85 rfl (by rw [← hR])
      · rw [if_pos c6] at hR
        refine lv_iconst (v := 1) hx hb dX4_isKnown_80 (by decide) ?_
        refine lv_goto (tgt := 85) hx hb dX4_isKnown_81 (by decide) ?_
        exact p_zret (b := true) hx hb hr hlocks dX4_isKnown_85 rfl (by rw [← hR])

def fX4_areKnown_L2 (σ : St) (a : Int32) (z : Int32)  (κ : Bool) : Nat → Nat → Bool
  | 0, i3 => κ
  | n + 1, i3 => (if ((fX4_isIn z (nI i3))) = true then (if ((fX4_isKnown σ a i3)) = true then fX4_areKnown_L2 σ a z κ n (i3 + 1) else false) else fX4_areKnown_L2 σ a z κ n (i3 + 1))
def fX4_areKnown (σ : St) (a : Int32) (z : Int32) : Bool :=
  fX4_areKnown_L2 σ a z (true) 16 0
set_option maxHeartbeats 4000000 in
set_option maxRecDepth 100000 in
theorem met_X4_areKnown (l : Launch) (D : va_G) (E : Nat → Nat) {β : Nat → Nat → Nat} {F : Nat → Prop} {σ : St} {th ca : Int32} {sm : Int64} (a : Int32) (z : Int32)  : PM l D E yX4_areKnown cX4_areKnown 4 (Option.some Jvm.ClassFile.FieldType.boolean) 4 88 [.ref (β 0 0), .int (a), .int (z)] (RM D E β F σ th ca sm) (some (.int (bI (fX4_areKnown σ a z)))) := by
  generalize hR : fX4_areKnown σ a z = r
  refine PM.start (by decide) (Nat.le_of_ble_eq_true rfl) ?_
  intro p e s m below meth c ls hx hb hr hml hown hlocks hts hG hM hl
  have hown : s.vm.findClass RX4 = some m.cls := hown
  have hS0 : xS p m c cX4_areKnown 4 s _ RX4 := ⟨hx, hb, hml, hown, hts⟩
  have hl : lv_has ls 4 [(0, .ref (β 0 0)), (1, .int (a)), (2, .int (z))] := hl
  have hL2 : ∀ (κ : Bool) (hκ : ∀ (ls : Array Slot), κ = r → lv_has ls 4 [] → W p l e { frames := 4, cells := 0, slots := 0, locals := 88 } s m [(.ref (β 0 0) : Value), .int (a), .int (z)].toArray below meth c s.heap [] 0 0 (MQ below (qP (some (.int (bI r)))) [(.ref (β 0 0) : Value), .int (a), .int (z)].toArray s 0 0 (fun _ => False)) (F0 m 33 ls [])) (n : Nat) (i3 : Nat), i3 + n = 16 → fX4_areKnown_L2 σ a z κ n i3 = r → ∀ (ls : Array Slot), lv_has ls 4 [(0, .ref (β 0 0)), (1, .int (a)), (2, .int (z)), (3, .int (nI i3))] → W p l e { frames := 4, cells := 0, slots := 0, locals := 88 } s m [(.ref (β 0 0) : Value), .int (a), .int (z)].toArray below meth c s.heap [] 0 0 (MQ below (qP (some (.int (bI r)))) [(.ref (β 0 0) : Value), .int (a), .int (z)].toArray s 0 0 (fun _ => False)) (F0 m 2 ls []) := by
    intro  κ hκ n
    induction n with
    | zero =>
      intro i3 hn hR ls hl
      rw [fX4_areKnown_L2] at hR
      refine lv_iload_n hx hb dX4_areKnown_2 rfl (lv_at hl 3 rfl) ?_
      refine lv_bipush (v := 16) hx hb dX4_areKnown_3 (by decide) ?_
      refine lk_ge_out (k := i3) (N := 16) hx hb hn (tgt := 33) dX4_areKnown_5 (by decide) ?_
      exact hκ  ls hR (lv_sub hl [] rfl)
    | succ n ih =>
      intro i3 hn hR ls hl
      rw [fX4_areKnown_L2] at hR
      refine lv_iload_n hx hb dX4_areKnown_2 rfl (lv_at hl 3 rfl) ?_
      refine lv_bipush (v := 16) hx hb dX4_areKnown_3 (by decide) ?_
      have hki3 : i3 < 16 := lk_lt hn
      refine lk_ge_in (k := i3) (N := 16) hx hb hki3 (by decide) (tgt := 33) dX4_areKnown_5 (by decide) ?_
      refine lv_iload_n hx hb dX4_areKnown_8 rfl (lv_at hl 2 rfl) ?_
      refine lv_iload_n hx hb dX4_areKnown_9 rfl (lv_at hl 3 rfl) ?_
      refine pcS (As := [.int (z), .int (nI i3)]) (rest := []) hS0 (met_X4_isIn l D E z (nI i3)) q1654 q1655 q110 q1656 hd_X4_isIn ⟨Nat.le_of_ble_eq_true rfl, Nat.le_of_ble_eq_true rfl⟩ hG trivial rfl hl.1 rfl (Nat.le_of_ble_eq_true rfl) dX4_areKnown_10 ⟨Nat.le_refl _, Nat.le_refl _⟩ ?_
      refine W.eq (g2 := F0 m 13 ls [.int (bI ((fX4_isIn z (nI i3))))]) rfl ?_
      refine lb_if_eq (tgt := 27) hx hb dX4_areKnown_13 (by decide) (fun c1 => ?_) (fun c1 => ?_)
      · rw [if_neg c1] at hR
        refine lv_iinc (v := nI (i3 + 1)) (lv' := [(3, .int (nI (i3 + 1))), (0, .ref (β 0 0)), (1, .int (a)), (2, .int (z))]) hx hb dX4_areKnown_27 hl (k := 3) rfl (nI_1 i3) (Nat.le_of_ble_eq_true rfl) rfl (fun ls hl => ?_)
        refine lv_goto (tgt := 2) hx hb dX4_areKnown_30 (by decide) ?_
        exact ih (i3 + 1) (lk_st hn) hR ls (lv_sub hl [1, 2, 3, 0] rfl)
      · rw [if_pos c1] at hR
        refine lv_aload_n hx hb dX4_areKnown_16 rfl (lv_at hl 0 rfl) ?_
        refine lv_iload_n hx hb dX4_areKnown_17 rfl (lv_at hl 1 rfl) ?_
        refine lv_iload_n hx hb dX4_areKnown_18 rfl (lv_at hl 3 rfl) ?_
        refine pcV (As := [.int (a), .int (nI i3)]) (rest := []) hS0 (met_X4_isKnown l D E a i3) q1779 q1781 qs70 q110 q1782 hd_X4_isKnown ⟨Nat.le_of_ble_eq_true rfl, Nat.le_of_ble_eq_true rfl⟩ hG (rcv hG cl_X4 hM.ag) hM rfl hl.1 rfl (Nat.le_of_ble_eq_true rfl) dX4_areKnown_19 ⟨Nat.le_refl _, Nat.le_refl _⟩ ?_
        refine W.eq (g2 := F0 m 22 ls [.int (bI ((fX4_isKnown σ a i3)))]) rfl ?_
        refine lb_if_ne (tgt := 27) hx hb dX4_areKnown_22 (by decide) (fun c2 => ?_) (fun c2 => ?_)
        · rw [if_pos c2] at hR
          refine lv_iinc (v := nI (i3 + 1)) (lv' := [(3, .int (nI (i3 + 1))), (0, .ref (β 0 0)), (1, .int (a)), (2, .int (z))]) hx hb dX4_areKnown_27 hl (k := 3) rfl (nI_1 i3) (Nat.le_of_ble_eq_true rfl) rfl (fun ls hl => ?_)
          refine lv_goto (tgt := 2) hx hb dX4_areKnown_30 (by decide) ?_
          exact ih (i3 + 1) (lk_st hn) hR ls (lv_sub hl [1, 2, 3, 0] rfl)
        · rw [if_neg c2] at hR
          refine lv_iconst (v := 0) hx hb dX4_areKnown_25 (by decide) ?_
          exact p_zret (b := false) hx hb hr hlocks dX4_areKnown_26 rfl (by rw [← hR])
  unfold fX4_areKnown at hR
  refine lv_iconst (v := 0) hx hb dX4_areKnown_0 (by decide) ?_
  refine lv_istore_n (lv' := [(3, .int 0), (0, .ref (β 0 0)), (1, .int (a)), (2, .int (z))]) hx hb dX4_areKnown_1 rfl hl (Nat.le_of_ble_eq_true rfl) rfl (fun ls hl => ?_)
  refine hL2  _ (fun  ls hR hl => ?_) 16 0 (Nat.zero_add _) hR ls (lv_sub hl [1, 2, 3, 0] rfl)
  refine lv_iconst (v := 1) hx hb dX4_areKnown_33 (by decide) ?_
  exact p_zret (b := true) hx hb hr hlocks dX4_areKnown_34 rfl (by rw [← hR])

def fX4_cost (σ : St) (ui : Nat) (wi : Nat) : Int32 :=
  (if ((fX4_driveOf σ (pHome σ ui) (wTown σ wi))) = ((-1)) then ((pFee σ ui) * (wLen σ wi)) + 0 else ((pFee σ ui) * (wLen σ wi)) + (10 * ((fX4_driveOf σ (pHome σ ui) (wTown σ wi)))))
set_option maxHeartbeats 4000000 in
set_option maxRecDepth 100000 in
theorem met_X4_cost (l : Launch) (D : va_G) (E : Nat → Nat) {β : Nat → Nat → Nat} {F : Nat → Prop} {σ : St} {th ca : Int32} {sm : Int64} (ui : Nat) (wi : Nat) (h_ui : ui < nP σ) (h_wi : wi < nW σ) : PM l D E yX4_cost cX4_cost 5 (Option.some Jvm.ClassFile.FieldType.int) 3 64 [.ref (β 0 0), .int (nI ui), .ref (β 5 wi)] (RM D E β F σ th ca sm) (some (.int (fX4_cost σ ui wi))) := by
  generalize hR : fX4_cost σ ui wi = r
  refine PM.start (by decide) (Nat.le_of_ble_eq_true rfl) ?_
  intro p e s m below meth c ls hx hb hr hml hown hlocks hts hG hM hl
  have hown : s.vm.findClass RX4 = some m.cls := hown
  have hS0 : xS p m c cX4_cost 5 s _ RX4 := ⟨hx, hb, hml, hown, hts⟩
  have hl : lv_has ls 5 [(0, .ref (β 0 0)), (1, .int (nI ui)), (2, .ref (β 5 wi))] := hl
  unfold fX4_cost at hR
  refine lv_aload_n hx hb dX4_cost_0 rfl (lv_at hl 0 rfl) ?_
  refine gf (v := .ref (β 1 0)) (C := RX4) (T := TX4) (N := 13) (k := 3) hx hb hts hown hG cl_X4 in_X4 hM.ag (by decide) q1543 rfl dX4_cost_1 ?_
  refine lv_iload_n hx hb dX4_cost_4 rfl (lv_at hl 1 rfl) ?_
  refine pcV (As := [.int (nI ui)]) (rest := []) hS0 (met_ml_get l D E (j := 0) (by decide) ui h_ui) q1639 q349 q2082 q103 q351 hd_J2_get ⟨Nat.le_of_ble_eq_true rfl, Nat.le_of_ble_eq_true rfl⟩ hG (hM.lsR hG (j := 0) (by decide)) hM rfl hl.1 rfl (Nat.le_of_ble_eq_true rfl) dX4_cost_5 ⟨Nat.le_refl _, Nat.le_refl _⟩ ?_
  refine W.eq (g2 := F0 m 8 ls [.ref (β 3 ui)]) rfl ?_
  refine gc (ci := 6) hx hb hown hG cl_X7 (rcv hG cl_X7 (hM.pl h_ui)) (hts _ q1601) dX4_cost_8 ?_
  refine lv_astore_n (lv' := [(3, .ref (β 3 ui)), (0, .ref (β 0 0)), (1, .int (nI ui)), (2, .ref (β 5 wi))]) hx hb dX4_cost_11 rfl hl (Nat.le_of_ble_eq_true rfl) rfl (fun ls hl => ?_)
  refine lv_aload_n hx hb dX4_cost_12 rfl (lv_at hl 1 rfl) ?_
  refine lv_aload_n hx hb dX4_cost_13 rfl (lv_at hl 0 rfl) ?_
  refine gfN (v := .int (nI (pHome σ ui))) (C := RX7) (T := TX7) (N := 7) (k := 2) hx hb hts hown hG cl_X7 in_X7 (hM.pl h_ui) (by decide) q1609 rfl dX4_cost_14 ?_
  refine lv_aload_n hx hb dX4_cost_17 rfl (lv_at hl 3 rfl) ?_
  refine gfN (v := .int (nI (wTown σ wi))) (C := RX11) (T := TX11) (N := 12) (k := 2) hx hb hts hown hG cl_X11 in_X11 (hM.wd h_wi) (by decide) q1703 rfl dX4_cost_18 ?_
  refine pcV (As := [.int (nI (pHome σ ui)), .int (nI (wTown σ wi))]) (rest := []) hS0 (met_X4_driveOf l D E (pHome σ ui) (wTown σ wi) (hM.home h_ui) (hM.town h_wi)) q1664 q1666 qs58 q110 q1667 hd_X4_driveOf ⟨Nat.le_of_ble_eq_true rfl, Nat.le_of_ble_eq_true rfl⟩ hG (rcv hG cl_X4 hM.ag) hM rfl hl.1 rfl (Nat.le_of_ble_eq_true rfl) dX4_cost_21 ⟨Nat.le_refl _, Nat.le_refl _⟩ ?_
  refine W.eq (g2 := F0 m 24 ls [.int ((fX4_driveOf σ (pHome σ ui) (wTown σ wi)))]) rfl ?_
  refine lv_istore (lv' := [(4, .int ((fX4_driveOf σ (pHome σ ui) (wTown σ wi)))), (3, .ref (β 3 ui)), (0, .ref (β 0 0)), (1, .int (nI ui)), (2, .ref (β 5 wi))]) hx hb dX4_cost_24 hl (Nat.le_of_ble_eq_true rfl) rfl (fun ls hl => ?_)
  refine lv_aload_n hx hb dX4_cost_26 rfl (lv_at hl 1 rfl) ?_
  refine gfN (v := .int (pFee σ ui)) (C := RX7) (T := TX7) (N := 7) (k := 3) hx hb hts hown hG cl_X7 in_X7 (hM.pl h_ui) (by decide) q1610 rfl dX4_cost_27 ?_
  refine lv_aload_n hx hb dX4_cost_30 rfl (lv_at hl 4 rfl) ?_
  refine gfN (v := .int (wLen σ wi)) (C := RX11) (T := TX11) (N := 12) (k := 4) hx hb hts hown hG cl_X11 in_X11 (hM.wd h_wi) (by decide) q1707 rfl dX4_cost_31 ?_
  refine lv_imul hx hb dX4_cost_34 ?_
  refine lv_iload hx hb dX4_cost_35 (lv_at hl 0 rfl) ?_
  refine lv_iconst (v := (-1)) hx hb dX4_cost_37 (by decide) ?_
  refine lv_icmp_ne (tgt := 45) hx hb dX4_cost_38 (by decide) (fun c1 => ?_) (fun c1 => ?_)
  · rw [if_neg c1] at hR
    refine lv_bipush (v := 10) hx hb dX4_cost_45 (by decide) ?_
    refine lv_iload hx hb dX4_cost_47 (lv_at hl 0 rfl) ?_
    refine lv_imul hx hb dX4_cost_49 ?_
    refine lv_iadd hx hb dX4_cost_50 ?_
    exact p_iret hx hb hr hlocks dX4_cost_51 (by rw [← hR])
  · rw [if_pos c1] at hR
    refine lv_iconst (v := 0) hx hb dX4_cost_41 (by decide) ?_
    refine lv_goto (tgt := 50) hx hb dX4_cost_42 (by decide) ?_
    refine lv_iadd hx hb dX4_cost_50 ?_
    exact p_iret hx hb hr hlocks dX4_cost_51 (by rw [← hR])

def fX4_costOf_L5 (σ : St) (a : Int32) (wi : Nat)  (κ : Int32 → Int32) : Nat → Nat → Int32 → Int32
  | 0, i4, a3 => κ a3
  | n + 1, i4, a3 => (if ((fX4_isIn a (nI i4))) = true then fX4_costOf_L5 σ a wi κ n (i4 + 1) (a3 + ((fX4_cost σ i4 wi))) else fX4_costOf_L5 σ a wi κ n (i4 + 1) (a3 + 0))
def fX4_costOf (σ : St) (a : Int32) (wi : Nat) : Int32 :=
  fX4_costOf_L5 σ a wi (fun (a2 : Int32) => a2) (nP σ) 0 0
set_option maxHeartbeats 4000000 in
set_option maxRecDepth 100000 in
theorem met_X4_costOf (l : Launch) (D : va_G) (E : Nat → Nat) {β : Nat → Nat → Nat} {F : Nat → Prop} {σ : St} {th ca : Int32} {sm : Int64} (a : Int32) (wi : Nat) (h_wi : wi < nW σ) : PM l D E yX4_costOf cX4_costOf 5 (Option.some Jvm.ClassFile.FieldType.int) 4 88 [.ref (β 0 0), .int (a), .ref (β 5 wi)] (RM D E β F σ th ca sm) (some (.int (fX4_costOf σ a wi))) := by
  generalize hR : fX4_costOf σ a wi = r
  refine PM.start (by decide) (Nat.le_of_ble_eq_true rfl) ?_
  intro p e s m below meth c ls hx hb hr hml hown hlocks hts hG hM hl
  have hown : s.vm.findClass RX4 = some m.cls := hown
  have hS0 : xS p m c cX4_costOf 5 s _ RX4 := ⟨hx, hb, hml, hown, hts⟩
  have hl : lv_has ls 5 [(0, .ref (β 0 0)), (1, .int (a)), (2, .ref (β 5 wi))] := hl
  have hL5 : ∀ (κ : Int32 → Int32) (hκ : ∀ (a3 : Int32) (ls : Array Slot), κ a3 = r → lv_has ls 5 [(3, .int (a3))] → W p l e { frames := 4, cells := 0, slots := 0, locals := 88 } s m [(.ref (β 0 0) : Value), .int (a), .ref (β 5 wi)].toArray below meth c s.heap [] 0 0 (MQ below (qP (some (.int r))) [(.ref (β 0 0) : Value), .int (a), .ref (β 5 wi)].toArray s 0 0 (fun _ => False)) (F0 m 46 ls [])) (n : Nat) (i4 : Nat) (a3 : Int32), i4 + n = nP σ → fX4_costOf_L5 σ a wi κ n i4 a3 = r → ∀ (ls : Array Slot), lv_has ls 5 [(0, .ref (β 0 0)), (1, .int (a)), (2, .ref (β 5 wi)), (3, .int (a3)), (4, .int (nI i4))] → W p l e { frames := 4, cells := 0, slots := 0, locals := 88 } s m [(.ref (β 0 0) : Value), .int (a), .ref (β 5 wi)].toArray below meth c s.heap [] 0 0 (MQ below (qP (some (.int r))) [(.ref (β 0 0) : Value), .int (a), .ref (β 5 wi)].toArray s 0 0 (fun _ => False)) (F0 m 5 ls []) := by
    intro  κ hκ n
    induction n with
    | zero =>
      intro i4 a3 hn hR ls hl
      rw [fX4_costOf_L5] at hR
      refine lv_iload hx hb dX4_costOf_5 (lv_at hl 4 rfl) ?_
      refine lv_aload_n hx hb dX4_costOf_7 rfl (lv_at hl 0 rfl) ?_
      refine gf (v := .ref (β 1 0)) (C := RX4) (T := TX4) (N := 13) (k := 3) hx hb hts hown hG cl_X4 in_X4 hM.ag (by decide) q1543 rfl dX4_costOf_8 ?_
      refine pcV (As := []) (rest := [.int (nI i4)]) hS0 (met_ml_size l D E (j := 0) (by decide)) q1600 q336 q2080 q103 q338 hd_J2_size ⟨Nat.le_of_ble_eq_true rfl, Nat.le_of_ble_eq_true rfl⟩ hG (hM.lsR hG (j := 0) (by decide)) hM rfl hl.1 rfl (Nat.le_of_ble_eq_true rfl) dX4_costOf_11 ⟨Nat.le_refl _, Nat.le_refl _⟩ ?_
      refine W.eq (g2 := F0 m 14 ls [.int (nI (nP σ)), .int (nI i4)]) rfl ?_
      refine lk_ge_out (k := i4) (N := nP σ) hx hb hn (tgt := 46) dX4_costOf_14 (by decide) ?_
      exact hκ a3 ls hR (lv_sub hl [3] rfl)
    | succ n ih =>
      intro i4 a3 hn hR ls hl
      rw [fX4_costOf_L5] at hR
      refine lv_iload hx hb dX4_costOf_5 (lv_at hl 4 rfl) ?_
      refine lv_aload_n hx hb dX4_costOf_7 rfl (lv_at hl 0 rfl) ?_
      refine gf (v := .ref (β 1 0)) (C := RX4) (T := TX4) (N := 13) (k := 3) hx hb hts hown hG cl_X4 in_X4 hM.ag (by decide) q1543 rfl dX4_costOf_8 ?_
      refine pcV (As := []) (rest := [.int (nI i4)]) hS0 (met_ml_size l D E (j := 0) (by decide)) q1600 q336 q2080 q103 q338 hd_J2_size ⟨Nat.le_of_ble_eq_true rfl, Nat.le_of_ble_eq_true rfl⟩ hG (hM.lsR hG (j := 0) (by decide)) hM rfl hl.1 rfl (Nat.le_of_ble_eq_true rfl) dX4_costOf_11 ⟨Nat.le_refl _, Nat.le_refl _⟩ ?_
      refine W.eq (g2 := F0 m 14 ls [.int (nI (nP σ)), .int (nI i4)]) rfl ?_
      have hki4 : i4 < nP σ := lk_lt hn
      refine lk_ge_in (k := i4) (N := nP σ) hx hb hki4 (by have := hM.nP10; omega) (tgt := 46) dX4_costOf_14 (by decide) ?_
      refine lv_iload_n hx hb dX4_costOf_17 rfl (lv_at hl 3 rfl) ?_
      refine lv_iload_n hx hb dX4_costOf_18 rfl (lv_at hl 1 rfl) ?_
      refine lv_iload hx hb dX4_costOf_19 (lv_at hl 4 rfl) ?_
      refine pcS (As := [.int (a), .int (nI i4)]) (rest := [.int (a3)]) hS0 (met_X4_isIn l D E a (nI i4)) q1654 q1655 q110 q1656 hd_X4_isIn ⟨Nat.le_of_ble_eq_true rfl, Nat.le_of_ble_eq_true rfl⟩ hG trivial rfl hl.1 rfl (Nat.le_of_ble_eq_true rfl) dX4_costOf_21 ⟨Nat.le_refl _, Nat.le_refl _⟩ ?_
      refine W.eq (g2 := F0 m 24 ls [.int (bI ((fX4_isIn a (nI i4)))), .int (a3)]) rfl ?_
      refine lb_if_eq (tgt := 37) hx hb dX4_costOf_24 (by decide) (fun c1 => ?_) (fun c1 => ?_)
      · rw [if_neg c1] at hR
        refine lv_iconst (v := 0) hx hb dX4_costOf_37 (by decide) ?_
        refine lv_iadd hx hb dX4_costOf_38 ?_
        refine lv_istore_n (lv' := [(3, .int (a3 + 0)), (0, .ref (β 0 0)), (1, .int (a)), (2, .ref (β 5 wi)), (4, .int (nI i4))]) hx hb dX4_costOf_39 rfl hl (Nat.le_of_ble_eq_true rfl) rfl (fun ls hl => ?_)
        refine lv_iinc (v := nI (i4 + 1)) (lv' := [(4, .int (nI (i4 + 1))), (3, .int (a3 + 0)), (0, .ref (β 0 0)), (1, .int (a)), (2, .ref (β 5 wi))]) hx hb dX4_costOf_40 hl (k := 4) rfl (nI_1 i4) (Nat.le_of_ble_eq_true rfl) rfl (fun ls hl => ?_)
        refine lv_goto (tgt := 5) hx hb dX4_costOf_43 (by decide) ?_
        exact ih (i4 + 1) (a3 + 0) (lk_st hn) hR ls (lv_sub hl [2, 3, 4, 1, 0] rfl)
      · rw [if_pos c1] at hR
        refine lv_aload_n hx hb dX4_costOf_27 rfl (lv_at hl 0 rfl) ?_
        refine lv_iload hx hb dX4_costOf_28 (lv_at hl 4 rfl) ?_
        refine lv_aload_n hx hb dX4_costOf_30 rfl (lv_at hl 2 rfl) ?_
        refine pcV (As := [.int (nI i4), .ref (β 5 wi)]) (rest := [.int (a3)]) hS0 (met_X4_cost l D E i4 wi hki4 h_wi) q1795 q1797 qs74 q110 q1798 hd_X4_cost ⟨Nat.le_of_ble_eq_true rfl, Nat.le_of_ble_eq_true rfl⟩ hG (rcv hG cl_X4 hM.ag) hM rfl hl.1 rfl (Nat.le_of_ble_eq_true rfl) dX4_costOf_31 ⟨Nat.le_refl _, Nat.le_refl _⟩ ?_
        refine W.eq (g2 := F0 m 34 ls [.int ((fX4_cost σ i4 wi)), .int (a3)]) rfl ?_
        refine lv_goto (tgt := 38) hx hb dX4_costOf_34 (by decide) ?_
        refine lv_iadd hx hb dX4_costOf_38 ?_
        refine lv_istore_n (lv' := [(3, .int (a3 + ((fX4_cost σ i4 wi)))), (0, .ref (β 0 0)), (1, .int (a)), (2, .ref (β 5 wi)), (4, .int (nI i4))]) hx hb dX4_costOf_39 rfl hl (Nat.le_of_ble_eq_true rfl) rfl (fun ls hl => ?_)
        refine lv_iinc (v := nI (i4 + 1)) (lv' := [(4, .int (nI (i4 + 1))), (3, .int (a3 + ((fX4_cost σ i4 wi)))), (0, .ref (β 0 0)), (1, .int (a)), (2, .ref (β 5 wi))]) hx hb dX4_costOf_40 hl (k := 4) rfl (nI_1 i4) (Nat.le_of_ble_eq_true rfl) rfl (fun ls hl => ?_)
        refine lv_goto (tgt := 5) hx hb dX4_costOf_43 (by decide) ?_
        exact ih (i4 + 1) (a3 + ((fX4_cost σ i4 wi))) (lk_st hn) hR ls (lv_sub hl [2, 3, 4, 1, 0] rfl)
  unfold fX4_costOf at hR
  refine lv_iconst (v := 0) hx hb dX4_costOf_0 (by decide) ?_
  refine lv_istore_n (lv' := [(3, .int 0), (0, .ref (β 0 0)), (1, .int (a)), (2, .ref (β 5 wi))]) hx hb dX4_costOf_1 rfl hl (Nat.le_of_ble_eq_true rfl) rfl (fun ls hl => ?_)
  refine lv_iconst (v := 0) hx hb dX4_costOf_2 (by decide) ?_
  refine lv_istore (lv' := [(4, .int 0), (3, .int 0), (0, .ref (β 0 0)), (1, .int (a)), (2, .ref (β 5 wi))]) hx hb dX4_costOf_3 hl (Nat.le_of_ble_eq_true rfl) rfl (fun ls hl => ?_)
  refine hL5  _ (fun a2 ls hR hl => ?_) (nP σ) 0 0 (Nat.zero_add _) hR ls (lv_sub hl [2, 3, 4, 1, 0] rfl)
  refine lv_iload_n hx hb dX4_costOf_46 rfl (lv_at hl 0 rfl) ?_
  exact p_iret hx hb hr hlocks dX4_costOf_47 (by rw [← hR])

def fX4_priceOf (a : Int32) : Int32 :=
  ((a * 6) / 5) + 50
set_option maxHeartbeats 4000000 in
set_option maxRecDepth 100000 in
theorem met_X4_priceOf (l : Launch) (D : va_G) (E : Nat → Nat) (a : Int32)  : PM l D E yX4_priceOf cX4_priceOf 1 (Option.some Jvm.ClassFile.FieldType.int) 0 0 [.int (a)] (fun _ => True) (some (.int (fX4_priceOf a))) := by
  generalize hR : fX4_priceOf a = r
  refine PM.start (by decide) (Nat.le_of_ble_eq_true rfl) ?_
  intro p e s m below meth c ls hx hb hr hml hown hlocks hts hG hTriv hl
  have hown : s.vm.findClass RX4 = some m.cls := hown
  have hS0 : xS p m c cX4_priceOf 1 s _ RX4 := ⟨hx, hb, hml, hown, hts⟩
  have hl : lv_has ls 1 [(0, .int (a))] := hl
  unfold fX4_priceOf at hR
  refine lv_iload_n hx hb dX4_priceOf_0 rfl (lv_at hl 0 rfl) ?_
  refine lv_bipush (v := 6) hx hb dX4_priceOf_1 (by decide) ?_
  refine lv_imul hx hb dX4_priceOf_3 ?_
  refine lv_iconst (v := 5) hx hb dX4_priceOf_4 (by decide) ?_
  refine lv_idiv hx hb dX4_priceOf_5 (by decide) ?_
  refine lv_bipush (v := 50) hx hb dX4_priceOf_6 (by decide) ?_
  refine lv_iadd hx hb dX4_priceOf_8 ?_
  exact p_iret hx hb hr hlocks dX4_priceOf_9 (by rw [← hR])

def fX4_owed (σ : St) (wi : Nat) : Int32 :=
  (if ((nI (wDay σ wi)) - (tod σ)) < 30 then (if ((nI (wDay σ wi)) - (tod σ)) < 14 then (if ((nI (wDay σ wi)) - (tod σ)) < 7 then ((wPrice σ wi) * 100) / 100 else ((wPrice σ wi) * 70) / 100) else ((wPrice σ wi) * 40) / 100) else ((wPrice σ wi) * 20) / 100)
set_option maxHeartbeats 4000000 in
set_option maxRecDepth 100000 in
theorem met_X4_owed (l : Launch) (D : va_G) (E : Nat → Nat) {β : Nat → Nat → Nat} {F : Nat → Prop} {σ : St} {th ca : Int32} {sm : Int64} (wi : Nat) (h_wi : wi < nW σ) : PM l D E yX4_owed cX4_owed 4 (Option.some Jvm.ClassFile.FieldType.int) 0 0 [.ref (β 0 0), .ref (β 5 wi)] (RM D E β F σ th ca sm) (some (.int (fX4_owed σ wi))) := by
  generalize hR : fX4_owed σ wi = r
  refine PM.start (by decide) (Nat.le_of_ble_eq_true rfl) ?_
  intro p e s m below meth c ls hx hb hr hml hown hlocks hts hG hM hl
  have hown : s.vm.findClass RX4 = some m.cls := hown
  have hS0 : xS p m c cX4_owed 4 s _ RX4 := ⟨hx, hb, hml, hown, hts⟩
  have hl : lv_has ls 4 [(0, .ref (β 0 0)), (1, .ref (β 5 wi))] := hl
  unfold fX4_owed at hR
  refine lv_aload_n hx hb dX4_owed_0 rfl (lv_at hl 1 rfl) ?_
  refine gfN (v := .int (nI (wDay σ wi))) (C := RX11) (T := TX11) (N := 12) (k := 1) hx hb hts hown hG cl_X11 in_X11 (hM.wd h_wi) (by decide) q1702 rfl dX4_owed_1 ?_
  refine lv_aload_n hx hb dX4_owed_4 rfl (lv_at hl 0 rfl) ?_
  refine gf (v := .int (tod σ)) (C := RX4) (T := TX4) (N := 13) (k := 1) hx hb hts hown hG cl_X4 in_X4 hM.ag (by decide) q1541 rfl dX4_owed_5 ?_
  refine lv_isub hx hb dX4_owed_8 ?_
  refine lv_istore_n (lv' := [(2, .int ((nI (wDay σ wi)) - (tod σ))), (0, .ref (β 0 0)), (1, .ref (β 5 wi))]) hx hb dX4_owed_9 rfl hl (Nat.le_of_ble_eq_true rfl) rfl (fun ls hl => ?_)
  refine lv_iload_n hx hb dX4_owed_10 rfl (lv_at hl 0 rfl) ?_
  refine lv_bipush (v := 30) hx hb dX4_owed_11 (by decide) ?_
  refine lv_icmp_lt (tgt := 21) hx hb dX4_owed_13 (by decide) (fun c1 => ?_) (fun c1 => ?_)
  · rw [if_pos c1] at hR
    refine lv_iload_n hx hb dX4_owed_21 rfl (lv_at hl 0 rfl) ?_
    refine lv_bipush (v := 14) hx hb dX4_owed_22 (by decide) ?_
    refine lv_icmp_lt (tgt := 32) hx hb dX4_owed_24 (by decide) (fun c2 => ?_) (fun c2 => ?_)
    · rw [if_pos c2] at hR
      refine lv_iload_n hx hb dX4_owed_32 rfl (lv_at hl 0 rfl) ?_
      refine lv_bipush (v := 7) hx hb dX4_owed_33 (by decide) ?_
      refine lv_icmp_lt (tgt := 43) hx hb dX4_owed_35 (by decide) (fun c3 => ?_) (fun c3 => ?_)
      · rw [if_pos c3] at hR
        refine lv_bipush (v := 100) hx hb dX4_owed_43 (by decide) ?_
        refine lv_istore_n (lv' := [(3, .int 100), (2, .int ((nI (wDay σ wi)) - (tod σ))), (0, .ref (β 0 0)), (1, .ref (β 5 wi))]) hx hb dX4_owed_45 rfl hl (Nat.le_of_ble_eq_true rfl) rfl (fun ls hl => ?_)
        refine lv_aload_n hx hb dX4_owed_46 rfl (lv_at hl 3 rfl) ?_
        refine gfN (v := .int (wPrice σ wi)) (C := RX11) (T := TX11) (N := 12) (k := 9) hx hb hts hown hG cl_X11 in_X11 (hM.wd h_wi) (by decide) q1712 rfl dX4_owed_47 ?_
        refine lv_iload_n hx hb dX4_owed_50 rfl (lv_at hl 0 rfl) ?_
        refine lv_imul hx hb dX4_owed_51 ?_
        refine lv_bipush (v := 100) hx hb dX4_owed_52 (by decide) ?_
        refine lv_idiv hx hb dX4_owed_54 (by decide) ?_
        exact p_iret hx hb hr hlocks dX4_owed_55 (by rw [← hR])
      · rw [if_neg c3] at hR
        refine lv_bipush (v := 70) hx hb dX4_owed_38 (by decide) ?_
        refine lv_goto (tgt := 45) hx hb dX4_owed_40 (by decide) ?_
        refine lv_istore_n (lv' := [(3, .int 70), (2, .int ((nI (wDay σ wi)) - (tod σ))), (0, .ref (β 0 0)), (1, .ref (β 5 wi))]) hx hb dX4_owed_45 rfl hl (Nat.le_of_ble_eq_true rfl) rfl (fun ls hl => ?_)
        refine lv_aload_n hx hb dX4_owed_46 rfl (lv_at hl 3 rfl) ?_
        refine gfN (v := .int (wPrice σ wi)) (C := RX11) (T := TX11) (N := 12) (k := 9) hx hb hts hown hG cl_X11 in_X11 (hM.wd h_wi) (by decide) q1712 rfl dX4_owed_47 ?_
        refine lv_iload_n hx hb dX4_owed_50 rfl (lv_at hl 0 rfl) ?_
        refine lv_imul hx hb dX4_owed_51 ?_
        refine lv_bipush (v := 100) hx hb dX4_owed_52 (by decide) ?_
        refine lv_idiv hx hb dX4_owed_54 (by decide) ?_
        exact p_iret hx hb hr hlocks dX4_owed_55 (by rw [← hR])
    · rw [if_neg c2] at hR
      refine lv_bipush (v := 40) hx hb dX4_owed_27 (by decide) ?_
      refine lv_goto (tgt := 45) hx hb dX4_owed_29 (by decide) ?_
      refine lv_istore_n (lv' := [(3, .int 40), (2, .int ((nI (wDay σ wi)) - (tod σ))), (0, .ref (β 0 0)), (1, .ref (β 5 wi))]) hx hb dX4_owed_45 rfl hl (Nat.le_of_ble_eq_true rfl) rfl (fun ls hl => ?_)
      refine lv_aload_n hx hb dX4_owed_46 rfl (lv_at hl 3 rfl) ?_
      refine gfN (v := .int (wPrice σ wi)) (C := RX11) (T := TX11) (N := 12) (k := 9) hx hb hts hown hG cl_X11 in_X11 (hM.wd h_wi) (by decide) q1712 rfl dX4_owed_47 ?_
      refine lv_iload_n hx hb dX4_owed_50 rfl (lv_at hl 0 rfl) ?_
      refine lv_imul hx hb dX4_owed_51 ?_
      refine lv_bipush (v := 100) hx hb dX4_owed_52 (by decide) ?_
      refine lv_idiv hx hb dX4_owed_54 (by decide) ?_
      exact p_iret hx hb hr hlocks dX4_owed_55 (by rw [← hR])
  · rw [if_neg c1] at hR
    refine lv_bipush (v := 20) hx hb dX4_owed_16 (by decide) ?_
    refine lv_goto (tgt := 45) hx hb dX4_owed_18 (by decide) ?_
    refine lv_istore_n (lv' := [(3, .int 20), (2, .int ((nI (wDay σ wi)) - (tod σ))), (0, .ref (β 0 0)), (1, .ref (β 5 wi))]) hx hb dX4_owed_45 rfl hl (Nat.le_of_ble_eq_true rfl) rfl (fun ls hl => ?_)
    refine lv_aload_n hx hb dX4_owed_46 rfl (lv_at hl 3 rfl) ?_
    refine gfN (v := .int (wPrice σ wi)) (C := RX11) (T := TX11) (N := 12) (k := 9) hx hb hts hown hG cl_X11 in_X11 (hM.wd h_wi) (by decide) q1712 rfl dX4_owed_47 ?_
    refine lv_iload_n hx hb dX4_owed_50 rfl (lv_at hl 0 rfl) ?_
    refine lv_imul hx hb dX4_owed_51 ?_
    refine lv_bipush (v := 100) hx hb dX4_owed_52 (by decide) ?_
    refine lv_idiv hx hb dX4_owed_54 (by decide) ?_
    exact p_iret hx hb hr hlocks dX4_owed_55 (by rw [← hR])

def fX4_fees_L4 (σ : St) (a : Int32)  (κ : Int32 → Int32) : Nat → Nat → Int32 → Int32
  | 0, i3, a2 => κ a2
  | n + 1, i3, a2 => (if ((fX4_isIn a (nI i3))) = true then fX4_fees_L4 σ a κ n (i3 + 1) (a2 + (pFee σ i3)) else fX4_fees_L4 σ a κ n (i3 + 1) (a2 + 0))
def fX4_fees (σ : St) (a : Int32) : Int32 :=
  fX4_fees_L4 σ a (fun (a2 : Int32) => a2) (nP σ) 0 0
set_option maxHeartbeats 4000000 in
set_option maxRecDepth 100000 in
theorem met_X4_fees (l : Launch) (D : va_G) (E : Nat → Nat) {β : Nat → Nat → Nat} {F : Nat → Prop} {σ : St} {th ca : Int32} {sm : Int64} (a : Int32)  : PM l D E yX4_fees cX4_fees 4 (Option.some Jvm.ClassFile.FieldType.int) 3 64 [.ref (β 0 0), .int (a)] (RM D E β F σ th ca sm) (some (.int (fX4_fees σ a))) := by
  generalize hR : fX4_fees σ a = r
  refine PM.start (by decide) (Nat.le_of_ble_eq_true rfl) ?_
  intro p e s m below meth c ls hx hb hr hml hown hlocks hts hG hM hl
  have hown : s.vm.findClass RX4 = some m.cls := hown
  have hS0 : xS p m c cX4_fees 4 s _ RX4 := ⟨hx, hb, hml, hown, hts⟩
  have hl : lv_has ls 4 [(0, .ref (β 0 0)), (1, .int (a))] := hl
  have hL4 : ∀ (κ : Int32 → Int32) (hκ : ∀ (a2 : Int32) (ls : Array Slot), κ a2 = r → lv_has ls 4 [(2, .int (a2))] → W p l e { frames := 3, cells := 0, slots := 0, locals := 64 } s m [(.ref (β 0 0) : Value), .int (a)].toArray below meth c s.heap [] 0 0 (MQ below (qP (some (.int r))) [(.ref (β 0 0) : Value), .int (a)].toArray s 0 0 (fun _ => False)) (F0 m 50 ls [])) (n : Nat) (i3 : Nat) (a2 : Int32), i3 + n = nP σ → fX4_fees_L4 σ a κ n i3 a2 = r → ∀ (ls : Array Slot), lv_has ls 4 [(0, .ref (β 0 0)), (1, .int (a)), (2, .int (a2)), (3, .int (nI i3))] → W p l e { frames := 3, cells := 0, slots := 0, locals := 64 } s m [(.ref (β 0 0) : Value), .int (a)].toArray below meth c s.heap [] 0 0 (MQ below (qP (some (.int r))) [(.ref (β 0 0) : Value), .int (a)].toArray s 0 0 (fun _ => False)) (F0 m 4 ls []) := by
    intro  κ hκ n
    induction n with
    | zero =>
      intro i3 a2 hn hR ls hl
      rw [fX4_fees_L4] at hR
      refine lv_iload_n hx hb dX4_fees_4 rfl (lv_at hl 3 rfl) ?_
      refine lv_aload_n hx hb dX4_fees_5 rfl (lv_at hl 0 rfl) ?_
      refine gf (v := .ref (β 1 0)) (C := RX4) (T := TX4) (N := 13) (k := 3) hx hb hts hown hG cl_X4 in_X4 hM.ag (by decide) q1543 rfl dX4_fees_6 ?_
      refine pcV (As := []) (rest := [.int (nI i3)]) hS0 (met_ml_size l D E (j := 0) (by decide)) q1600 q336 q2080 q103 q338 hd_J2_size ⟨Nat.le_of_ble_eq_true rfl, Nat.le_of_ble_eq_true rfl⟩ hG (hM.lsR hG (j := 0) (by decide)) hM rfl hl.1 rfl (Nat.le_of_ble_eq_true rfl) dX4_fees_9 ⟨Nat.le_refl _, Nat.le_refl _⟩ ?_
      refine W.eq (g2 := F0 m 12 ls [.int (nI (nP σ)), .int (nI i3)]) rfl ?_
      refine lk_ge_out (k := i3) (N := nP σ) hx hb hn (tgt := 50) dX4_fees_12 (by decide) ?_
      exact hκ a2 ls hR (lv_sub hl [2] rfl)
    | succ n ih =>
      intro i3 a2 hn hR ls hl
      rw [fX4_fees_L4] at hR
      refine lv_iload_n hx hb dX4_fees_4 rfl (lv_at hl 3 rfl) ?_
      refine lv_aload_n hx hb dX4_fees_5 rfl (lv_at hl 0 rfl) ?_
      refine gf (v := .ref (β 1 0)) (C := RX4) (T := TX4) (N := 13) (k := 3) hx hb hts hown hG cl_X4 in_X4 hM.ag (by decide) q1543 rfl dX4_fees_6 ?_
      refine pcV (As := []) (rest := [.int (nI i3)]) hS0 (met_ml_size l D E (j := 0) (by decide)) q1600 q336 q2080 q103 q338 hd_J2_size ⟨Nat.le_of_ble_eq_true rfl, Nat.le_of_ble_eq_true rfl⟩ hG (hM.lsR hG (j := 0) (by decide)) hM rfl hl.1 rfl (Nat.le_of_ble_eq_true rfl) dX4_fees_9 ⟨Nat.le_refl _, Nat.le_refl _⟩ ?_
      refine W.eq (g2 := F0 m 12 ls [.int (nI (nP σ)), .int (nI i3)]) rfl ?_
      have hki3 : i3 < nP σ := lk_lt hn
      refine lk_ge_in (k := i3) (N := nP σ) hx hb hki3 (by have := hM.nP10; omega) (tgt := 50) dX4_fees_12 (by decide) ?_
      refine lv_iload_n hx hb dX4_fees_15 rfl (lv_at hl 2 rfl) ?_
      refine lv_iload_n hx hb dX4_fees_16 rfl (lv_at hl 1 rfl) ?_
      refine lv_iload_n hx hb dX4_fees_17 rfl (lv_at hl 3 rfl) ?_
      refine pcS (As := [.int (a), .int (nI i3)]) (rest := [.int (a2)]) hS0 (met_X4_isIn l D E a (nI i3)) q1654 q1655 q110 q1656 hd_X4_isIn ⟨Nat.le_of_ble_eq_true rfl, Nat.le_of_ble_eq_true rfl⟩ hG trivial rfl hl.1 rfl (Nat.le_of_ble_eq_true rfl) dX4_fees_18 ⟨Nat.le_refl _, Nat.le_refl _⟩ ?_
      refine W.eq (g2 := F0 m 21 ls [.int (bI ((fX4_isIn a (nI i3)))), .int (a2)]) rfl ?_
      refine lb_if_eq (tgt := 41) hx hb dX4_fees_21 (by decide) (fun c1 => ?_) (fun c1 => ?_)
      · rw [if_neg c1] at hR
        refine lv_iconst (v := 0) hx hb dX4_fees_41 (by decide) ?_
        refine lv_iadd hx hb dX4_fees_42 ?_
        refine lv_istore_n (lv' := [(2, .int (a2 + 0)), (0, .ref (β 0 0)), (1, .int (a)), (3, .int (nI i3))]) hx hb dX4_fees_43 rfl hl (Nat.le_of_ble_eq_true rfl) rfl (fun ls hl => ?_)
        refine lv_iinc (v := nI (i3 + 1)) (lv' := [(3, .int (nI (i3 + 1))), (2, .int (a2 + 0)), (0, .ref (β 0 0)), (1, .int (a))]) hx hb dX4_fees_44 hl (k := 3) rfl (nI_1 i3) (Nat.le_of_ble_eq_true rfl) rfl (fun ls hl => ?_)
        refine lv_goto (tgt := 4) hx hb dX4_fees_47 (by decide) ?_
        exact ih (i3 + 1) (a2 + 0) (lk_st hn) hR ls (lv_sub hl [2, 3, 1, 0] rfl)
      · rw [if_pos c1] at hR
        refine lv_aload_n hx hb dX4_fees_24 rfl (lv_at hl 0 rfl) ?_
        refine gf (v := .ref (β 1 0)) (C := RX4) (T := TX4) (N := 13) (k := 3) hx hb hts hown hG cl_X4 in_X4 hM.ag (by decide) q1543 rfl dX4_fees_25 ?_
        refine lv_iload_n hx hb dX4_fees_28 rfl (lv_at hl 3 rfl) ?_
        refine pcV (As := [.int (nI i3)]) (rest := [.int (a2)]) hS0 (met_ml_get l D E (j := 0) (by decide) i3 hki3) q1639 q349 q2082 q103 q351 hd_J2_get ⟨Nat.le_of_ble_eq_true rfl, Nat.le_of_ble_eq_true rfl⟩ hG (hM.lsR hG (j := 0) (by decide)) hM rfl hl.1 rfl (Nat.le_of_ble_eq_true rfl) dX4_fees_29 ⟨Nat.le_refl _, Nat.le_refl _⟩ ?_
        refine W.eq (g2 := F0 m 32 ls [.ref (β 3 i3), .int (a2)]) rfl ?_
        refine gc (ci := 6) hx hb hown hG cl_X7 (rcv hG cl_X7 (hM.pl hki3)) (hts _ q1601) dX4_fees_32 ?_
        refine gfN (v := .int (pFee σ i3)) (C := RX7) (T := TX7) (N := 7) (k := 3) hx hb hts hown hG cl_X7 in_X7 (hM.pl hki3) (by decide) q1610 rfl dX4_fees_35 ?_
        refine lv_goto (tgt := 42) hx hb dX4_fees_38 (by decide) ?_
        refine lv_iadd hx hb dX4_fees_42 ?_
        refine lv_istore_n (lv' := [(2, .int (a2 + (pFee σ i3))), (0, .ref (β 0 0)), (1, .int (a)), (3, .int (nI i3))]) hx hb dX4_fees_43 rfl hl (Nat.le_of_ble_eq_true rfl) rfl (fun ls hl => ?_)
        refine lv_iinc (v := nI (i3 + 1)) (lv' := [(3, .int (nI (i3 + 1))), (2, .int (a2 + (pFee σ i3))), (0, .ref (β 0 0)), (1, .int (a))]) hx hb dX4_fees_44 hl (k := 3) rfl (nI_1 i3) (Nat.le_of_ble_eq_true rfl) rfl (fun ls hl => ?_)
        refine lv_goto (tgt := 4) hx hb dX4_fees_47 (by decide) ?_
        exact ih (i3 + 1) (a2 + (pFee σ i3)) (lk_st hn) hR ls (lv_sub hl [2, 3, 1, 0] rfl)
  unfold fX4_fees at hR
  refine lv_iconst (v := 0) hx hb dX4_fees_0 (by decide) ?_
  refine lv_istore_n (lv' := [(2, .int 0), (0, .ref (β 0 0)), (1, .int (a))]) hx hb dX4_fees_1 rfl hl (Nat.le_of_ble_eq_true rfl) rfl (fun ls hl => ?_)
  refine lv_iconst (v := 0) hx hb dX4_fees_2 (by decide) ?_
  refine lv_istore_n (lv' := [(3, .int 0), (2, .int 0), (0, .ref (β 0 0)), (1, .int (a))]) hx hb dX4_fees_3 rfl hl (Nat.le_of_ble_eq_true rfl) rfl (fun ls hl => ?_)
  refine hL4  _ (fun a2 ls hR hl => ?_) (nP σ) 0 0 (Nat.zero_add _) hR ls (lv_sub hl [2, 3, 1, 0] rfl)
  refine lv_iload_n hx hb dX4_fees_50 rfl (lv_at hl 0 rfl) ?_
  exact p_iret hx hb hr hlocks dX4_fees_51 (by rw [← hR])

def fX4_earnedAt (σ : St) (ui : Nat) (wi : Nat) : Int32 :=
  ((fX4_cost σ ui wi)) + ((((fX11_quarters σ wi)) * (pFee σ ui)) / 4)
set_option maxHeartbeats 4000000 in
set_option maxRecDepth 100000 in
theorem met_X4_earnedAt (l : Launch) (D : va_G) (E : Nat → Nat) {β : Nat → Nat → Nat} {F : Nat → Prop} {σ : St} {th ca : Int32} {sm : Int64} (ui : Nat) (wi : Nat) (h_ui : ui < nP σ) (h_wi : wi < nW σ) : PM l D E yX4_earnedAt cX4_earnedAt 3 (Option.some Jvm.ClassFile.FieldType.int) 4 88 [.ref (β 0 0), .int (nI ui), .ref (β 5 wi)] (RM D E β F σ th ca sm) (some (.int (fX4_earnedAt σ ui wi))) := by
  generalize hR : fX4_earnedAt σ ui wi = r
  refine PM.start (by decide) (Nat.le_of_ble_eq_true rfl) ?_
  intro p e s m below meth c ls hx hb hr hml hown hlocks hts hG hM hl
  have hown : s.vm.findClass RX4 = some m.cls := hown
  have hS0 : xS p m c cX4_earnedAt 3 s _ RX4 := ⟨hx, hb, hml, hown, hts⟩
  have hl : lv_has ls 3 [(0, .ref (β 0 0)), (1, .int (nI ui)), (2, .ref (β 5 wi))] := hl
  unfold fX4_earnedAt at hR
  refine lv_aload_n hx hb dX4_earnedAt_0 rfl (lv_at hl 0 rfl) ?_
  refine lv_iload_n hx hb dX4_earnedAt_1 rfl (lv_at hl 1 rfl) ?_
  refine lv_aload_n hx hb dX4_earnedAt_2 rfl (lv_at hl 2 rfl) ?_
  refine pcV (As := [.int (nI ui), .ref (β 5 wi)]) (rest := []) hS0 (met_X4_cost l D E ui wi h_ui h_wi) q1795 q1797 qs74 q110 q1798 hd_X4_cost ⟨Nat.le_of_ble_eq_true rfl, Nat.le_of_ble_eq_true rfl⟩ hG (rcv hG cl_X4 hM.ag) hM rfl hl.1 rfl (Nat.le_of_ble_eq_true rfl) dX4_earnedAt_3 ⟨Nat.le_refl _, Nat.le_refl _⟩ ?_
  refine W.eq (g2 := F0 m 6 ls [.int ((fX4_cost σ ui wi))]) rfl ?_
  refine lv_aload_n hx hb dX4_earnedAt_6 rfl (lv_at hl 2 rfl) ?_
  refine pcV (As := []) (rest := [.int ((fX4_cost σ ui wi))]) hS0 (met_X11_quarters l D E wi h_wi) q1873 q1874 q1875 q131 q1876 hd_X11_quarters ⟨Nat.le_of_ble_eq_true rfl, Nat.le_of_ble_eq_true rfl⟩ hG (rcv hG cl_X11 (hM.wd h_wi)) hM rfl hl.1 rfl (Nat.le_of_ble_eq_true rfl) dX4_earnedAt_7 ⟨Nat.le_refl _, Nat.le_refl _⟩ ?_
  refine W.eq (g2 := F0 m 10 ls [.int ((fX11_quarters σ wi)), .int ((fX4_cost σ ui wi))]) rfl ?_
  refine lv_aload_n hx hb dX4_earnedAt_10 rfl (lv_at hl 0 rfl) ?_
  refine gf (v := .ref (β 1 0)) (C := RX4) (T := TX4) (N := 13) (k := 3) hx hb hts hown hG cl_X4 in_X4 hM.ag (by decide) q1543 rfl dX4_earnedAt_11 ?_
  refine lv_iload_n hx hb dX4_earnedAt_14 rfl (lv_at hl 1 rfl) ?_
  refine pcV (As := [.int (nI ui)]) (rest := [.int ((fX11_quarters σ wi)), .int ((fX4_cost σ ui wi))]) hS0 (met_ml_get l D E (j := 0) (by decide) ui h_ui) q1639 q349 q2082 q103 q351 hd_J2_get ⟨Nat.le_of_ble_eq_true rfl, Nat.le_of_ble_eq_true rfl⟩ hG (hM.lsR hG (j := 0) (by decide)) hM rfl hl.1 rfl (Nat.le_of_ble_eq_true rfl) dX4_earnedAt_15 ⟨Nat.le_refl _, Nat.le_refl _⟩ ?_
  refine W.eq (g2 := F0 m 18 ls [.ref (β 3 ui), .int ((fX11_quarters σ wi)), .int ((fX4_cost σ ui wi))]) rfl ?_
  refine gc (ci := 6) hx hb hown hG cl_X7 (rcv hG cl_X7 (hM.pl h_ui)) (hts _ q1601) dX4_earnedAt_18 ?_
  refine gfN (v := .int (pFee σ ui)) (C := RX7) (T := TX7) (N := 7) (k := 3) hx hb hts hown hG cl_X7 in_X7 (hM.pl h_ui) (by decide) q1610 rfl dX4_earnedAt_21 ?_
  refine lv_imul hx hb dX4_earnedAt_24 ?_
  refine lv_iconst (v := 4) hx hb dX4_earnedAt_25 (by decide) ?_
  refine lv_idiv hx hb dX4_earnedAt_26 (by decide) ?_
  refine lv_iadd hx hb dX4_earnedAt_27 ?_
  exact p_iret hx hb hr hlocks dX4_earnedAt_28 (by rw [← hR])

def fX4_gain_L28 (σ : St) (wi : Nat)  (κ : Int32 → Int32) : Nat → Nat → Int32 → Int32
  | 0, i3, a2 => κ a2
  | n + 1, i3, a2 => (if ((fX4_isIn (wSet σ wi) (nI i3))) = true then fX4_gain_L28 σ wi κ n (i3 + 1) (a2 - ((fX4_earnedAt σ i3 wi))) else fX4_gain_L28 σ wi κ n (i3 + 1) (a2 - 0))
def fX4_gain (σ : St) (wi : Nat) : Int32 :=
  fX4_gain_L28 σ wi (fun (a2 : Int32) => a2) (nP σ) 0 (((wPrice σ wi) - (wPaid σ wi)) + ((((fX11_quarters σ wi)) * ((fX4_fees σ (wSet σ wi)))) / 4))
set_option maxHeartbeats 4000000 in
set_option maxRecDepth 100000 in
theorem met_X4_gain (l : Launch) (D : va_G) (E : Nat → Nat) {β : Nat → Nat → Nat} {F : Nat → Prop} {σ : St} {th ca : Int32} {sm : Int64} (wi : Nat) (h_wi : wi < nW σ) : PM l D E yX4_gain cX4_gain 4 (Option.some Jvm.ClassFile.FieldType.int) 5 110 [.ref (β 0 0), .ref (β 5 wi)] (RM D E β F σ th ca sm) (some (.int (fX4_gain σ wi))) := by
  generalize hR : fX4_gain σ wi = r
  refine PM.start (by decide) (Nat.le_of_ble_eq_true rfl) ?_
  intro p e s m below meth c ls hx hb hr hml hown hlocks hts hG hM hl
  have hown : s.vm.findClass RX4 = some m.cls := hown
  have hS0 : xS p m c cX4_gain 4 s _ RX4 := ⟨hx, hb, hml, hown, hts⟩
  have hl : lv_has ls 4 [(0, .ref (β 0 0)), (1, .ref (β 5 wi))] := hl
  have hL28 : ∀ (κ : Int32 → Int32) (hκ : ∀ (a2 : Int32) (ls : Array Slot), κ a2 = r → lv_has ls 4 [(2, .int (a2))] → W p l e { frames := 5, cells := 0, slots := 0, locals := 110 } s m [(.ref (β 0 0) : Value), .ref (β 5 wi)].toArray below meth c s.heap [] 0 0 (MQ below (qP (some (.int r))) [(.ref (β 0 0) : Value), .ref (β 5 wi)].toArray s 0 0 (fun _ => False)) (F0 m 69 ls [])) (n : Nat) (i3 : Nat) (a2 : Int32), i3 + n = nP σ → fX4_gain_L28 σ wi κ n i3 a2 = r → ∀ (ls : Array Slot), lv_has ls 4 [(0, .ref (β 0 0)), (1, .ref (β 5 wi)), (2, .int (a2)), (3, .int (nI i3))] → W p l e { frames := 5, cells := 0, slots := 0, locals := 110 } s m [(.ref (β 0 0) : Value), .ref (β 5 wi)].toArray below meth c s.heap [] 0 0 (MQ below (qP (some (.int r))) [(.ref (β 0 0) : Value), .ref (β 5 wi)].toArray s 0 0 (fun _ => False)) (F0 m 28 ls []) := by
    intro  κ hκ n
    induction n with
    | zero =>
      intro i3 a2 hn hR ls hl
      rw [fX4_gain_L28] at hR
      refine lv_iload_n hx hb dX4_gain_28 rfl (lv_at hl 3 rfl) ?_
      refine lv_aload_n hx hb dX4_gain_29 rfl (lv_at hl 0 rfl) ?_
      refine gf (v := .ref (β 1 0)) (C := RX4) (T := TX4) (N := 13) (k := 3) hx hb hts hown hG cl_X4 in_X4 hM.ag (by decide) q1543 rfl dX4_gain_30 ?_
      refine pcV (As := []) (rest := [.int (nI i3)]) hS0 (met_ml_size l D E (j := 0) (by decide)) q1600 q336 q2080 q103 q338 hd_J2_size ⟨Nat.le_of_ble_eq_true rfl, Nat.le_of_ble_eq_true rfl⟩ hG (hM.lsR hG (j := 0) (by decide)) hM rfl hl.1 rfl (Nat.le_of_ble_eq_true rfl) dX4_gain_33 ⟨Nat.le_refl _, Nat.le_refl _⟩ ?_
      refine W.eq (g2 := F0 m 36 ls [.int (nI (nP σ)), .int (nI i3)]) rfl ?_
      refine lk_ge_out (k := i3) (N := nP σ) hx hb hn (tgt := 69) dX4_gain_36 (by decide) ?_
      exact hκ a2 ls hR (lv_sub hl [2] rfl)
    | succ n ih =>
      intro i3 a2 hn hR ls hl
      rw [fX4_gain_L28] at hR
      refine lv_iload_n hx hb dX4_gain_28 rfl (lv_at hl 3 rfl) ?_
      refine lv_aload_n hx hb dX4_gain_29 rfl (lv_at hl 0 rfl) ?_
      refine gf (v := .ref (β 1 0)) (C := RX4) (T := TX4) (N := 13) (k := 3) hx hb hts hown hG cl_X4 in_X4 hM.ag (by decide) q1543 rfl dX4_gain_30 ?_
      refine pcV (As := []) (rest := [.int (nI i3)]) hS0 (met_ml_size l D E (j := 0) (by decide)) q1600 q336 q2080 q103 q338 hd_J2_size ⟨Nat.le_of_ble_eq_true rfl, Nat.le_of_ble_eq_true rfl⟩ hG (hM.lsR hG (j := 0) (by decide)) hM rfl hl.1 rfl (Nat.le_of_ble_eq_true rfl) dX4_gain_33 ⟨Nat.le_refl _, Nat.le_refl _⟩ ?_
      refine W.eq (g2 := F0 m 36 ls [.int (nI (nP σ)), .int (nI i3)]) rfl ?_
      have hki3 : i3 < nP σ := lk_lt hn
      refine lk_ge_in (k := i3) (N := nP σ) hx hb hki3 (by have := hM.nP10; omega) (tgt := 69) dX4_gain_36 (by decide) ?_
      refine lv_iload_n hx hb dX4_gain_39 rfl (lv_at hl 2 rfl) ?_
      refine lv_aload_n hx hb dX4_gain_40 rfl (lv_at hl 1 rfl) ?_
      refine gfN (v := .int (wSet σ wi)) (C := RX11) (T := TX11) (N := 12) (k := 8) hx hb hts hown hG cl_X11 in_X11 (hM.wd h_wi) (by decide) q1711 rfl dX4_gain_41 ?_
      refine lv_iload_n hx hb dX4_gain_44 rfl (lv_at hl 3 rfl) ?_
      refine pcS (As := [.int (wSet σ wi), .int (nI i3)]) (rest := [.int (a2)]) hS0 (met_X4_isIn l D E (wSet σ wi) (nI i3)) q1654 q1655 q110 q1656 hd_X4_isIn ⟨Nat.le_of_ble_eq_true rfl, Nat.le_of_ble_eq_true rfl⟩ hG trivial rfl hl.1 rfl (Nat.le_of_ble_eq_true rfl) dX4_gain_45 ⟨Nat.le_refl _, Nat.le_refl _⟩ ?_
      refine W.eq (g2 := F0 m 48 ls [.int (bI ((fX4_isIn (wSet σ wi) (nI i3)))), .int (a2)]) rfl ?_
      refine lb_if_eq (tgt := 60) hx hb dX4_gain_48 (by decide) (fun c1 => ?_) (fun c1 => ?_)
      · rw [if_neg c1] at hR
        refine lv_iconst (v := 0) hx hb dX4_gain_60 (by decide) ?_
        refine lv_isub hx hb dX4_gain_61 ?_
        refine lv_istore_n (lv' := [(2, .int (a2 - 0)), (0, .ref (β 0 0)), (1, .ref (β 5 wi)), (3, .int (nI i3))]) hx hb dX4_gain_62 rfl hl (Nat.le_of_ble_eq_true rfl) rfl (fun ls hl => ?_)
        refine lv_iinc (v := nI (i3 + 1)) (lv' := [(3, .int (nI (i3 + 1))), (2, .int (a2 - 0)), (0, .ref (β 0 0)), (1, .ref (β 5 wi))]) hx hb dX4_gain_63 hl (k := 3) rfl (nI_1 i3) (Nat.le_of_ble_eq_true rfl) rfl (fun ls hl => ?_)
        refine lv_goto (tgt := 28) hx hb dX4_gain_66 (by decide) ?_
        exact ih (i3 + 1) (a2 - 0) (lk_st hn) hR ls (lv_sub hl [2, 3, 1, 0] rfl)
      · rw [if_pos c1] at hR
        refine lv_aload_n hx hb dX4_gain_51 rfl (lv_at hl 0 rfl) ?_
        refine lv_iload_n hx hb dX4_gain_52 rfl (lv_at hl 3 rfl) ?_
        refine lv_aload_n hx hb dX4_gain_53 rfl (lv_at hl 1 rfl) ?_
        refine pcV (As := [.int (nI i3), .ref (β 5 wi)]) (rest := [.int (a2)]) hS0 (met_X4_earnedAt l D E i3 wi hki3 h_wi) q1894 q1896 qs81 q110 q1897 hd_X4_earnedAt ⟨Nat.le_of_ble_eq_true rfl, Nat.le_of_ble_eq_true rfl⟩ hG (rcv hG cl_X4 hM.ag) hM rfl hl.1 rfl (Nat.le_of_ble_eq_true rfl) dX4_gain_54 ⟨Nat.le_refl _, Nat.le_refl _⟩ ?_
        refine W.eq (g2 := F0 m 57 ls [.int ((fX4_earnedAt σ i3 wi)), .int (a2)]) rfl ?_
        refine lv_goto (tgt := 61) hx hb dX4_gain_57 (by decide) ?_
        refine lv_isub hx hb dX4_gain_61 ?_
        refine lv_istore_n (lv' := [(2, .int (a2 - ((fX4_earnedAt σ i3 wi)))), (0, .ref (β 0 0)), (1, .ref (β 5 wi)), (3, .int (nI i3))]) hx hb dX4_gain_62 rfl hl (Nat.le_of_ble_eq_true rfl) rfl (fun ls hl => ?_)
        refine lv_iinc (v := nI (i3 + 1)) (lv' := [(3, .int (nI (i3 + 1))), (2, .int (a2 - ((fX4_earnedAt σ i3 wi)))), (0, .ref (β 0 0)), (1, .ref (β 5 wi))]) hx hb dX4_gain_63 hl (k := 3) rfl (nI_1 i3) (Nat.le_of_ble_eq_true rfl) rfl (fun ls hl => ?_)
        refine lv_goto (tgt := 28) hx hb dX4_gain_66 (by decide) ?_
        exact ih (i3 + 1) (a2 - ((fX4_earnedAt σ i3 wi))) (lk_st hn) hR ls (lv_sub hl [2, 3, 1, 0] rfl)
  unfold fX4_gain at hR
  refine lv_aload_n hx hb dX4_gain_0 rfl (lv_at hl 1 rfl) ?_
  refine gfN (v := .int (wPrice σ wi)) (C := RX11) (T := TX11) (N := 12) (k := 9) hx hb hts hown hG cl_X11 in_X11 (hM.wd h_wi) (by decide) q1712 rfl dX4_gain_1 ?_
  refine lv_aload_n hx hb dX4_gain_4 rfl (lv_at hl 1 rfl) ?_
  refine gfN (v := .int (wPaid σ wi)) (C := RX11) (T := TX11) (N := 12) (k := 11) hx hb hts hown hG cl_X11 in_X11 (hM.wd h_wi) (by decide) q1715 rfl dX4_gain_5 ?_
  refine lv_isub hx hb dX4_gain_8 ?_
  refine lv_aload_n hx hb dX4_gain_9 rfl (lv_at hl 1 rfl) ?_
  refine pcV (As := []) (rest := [.int ((wPrice σ wi) - (wPaid σ wi))]) hS0 (met_X11_quarters l D E wi h_wi) q1873 q1874 q1875 q131 q1876 hd_X11_quarters ⟨Nat.le_of_ble_eq_true rfl, Nat.le_of_ble_eq_true rfl⟩ hG (rcv hG cl_X11 (hM.wd h_wi)) hM rfl hl.1 rfl (Nat.le_of_ble_eq_true rfl) dX4_gain_10 ⟨Nat.le_refl _, Nat.le_refl _⟩ ?_
  refine W.eq (g2 := F0 m 13 ls [.int ((fX11_quarters σ wi)), .int ((wPrice σ wi) - (wPaid σ wi))]) rfl ?_
  refine lv_aload_n hx hb dX4_gain_13 rfl (lv_at hl 0 rfl) ?_
  refine lv_aload_n hx hb dX4_gain_14 rfl (lv_at hl 1 rfl) ?_
  refine gfN (v := .int (wSet σ wi)) (C := RX11) (T := TX11) (N := 12) (k := 8) hx hb hts hown hG cl_X11 in_X11 (hM.wd h_wi) (by decide) q1711 rfl dX4_gain_15 ?_
  refine pcV (As := [.int (wSet σ wi)]) (rest := [.int ((fX11_quarters σ wi)), .int ((wPrice σ wi) - (wPaid σ wi))]) hS0 (met_X4_fees l D E (wSet σ wi)) q1890 q1892 qs80 q110 q1893 hd_X4_fees ⟨Nat.le_of_ble_eq_true rfl, Nat.le_of_ble_eq_true rfl⟩ hG (rcv hG cl_X4 hM.ag) hM rfl hl.1 rfl (Nat.le_of_ble_eq_true rfl) dX4_gain_18 ⟨Nat.le_refl _, Nat.le_refl _⟩ ?_
  refine W.eq (g2 := F0 m 21 ls [.int ((fX4_fees σ (wSet σ wi))), .int ((fX11_quarters σ wi)), .int ((wPrice σ wi) - (wPaid σ wi))]) rfl ?_
  refine lv_imul hx hb dX4_gain_21 ?_
  refine lv_iconst (v := 4) hx hb dX4_gain_22 (by decide) ?_
  refine lv_idiv hx hb dX4_gain_23 (by decide) ?_
  refine lv_iadd hx hb dX4_gain_24 ?_
  refine lv_istore_n (lv' := [(2, .int (((wPrice σ wi) - (wPaid σ wi)) + ((((fX11_quarters σ wi)) * ((fX4_fees σ (wSet σ wi)))) / 4))), (0, .ref (β 0 0)), (1, .ref (β 5 wi))]) hx hb dX4_gain_25 rfl hl (Nat.le_of_ble_eq_true rfl) rfl (fun ls hl => ?_)
  refine lv_iconst (v := 0) hx hb dX4_gain_26 (by decide) ?_
  refine lv_istore_n (lv' := [(3, .int 0), (2, .int (((wPrice σ wi) - (wPaid σ wi)) + ((((fX11_quarters σ wi)) * ((fX4_fees σ (wSet σ wi)))) / 4))), (0, .ref (β 0 0)), (1, .ref (β 5 wi))]) hx hb dX4_gain_27 rfl hl (Nat.le_of_ble_eq_true rfl) rfl (fun ls hl => ?_)
  refine hL28  _ (fun a2 ls hR hl => ?_) (nP σ) 0 (((wPrice σ wi) - (wPaid σ wi)) + ((((fX11_quarters σ wi)) * ((fX4_fees σ (wSet σ wi)))) / 4)) (Nat.zero_add _) hR ls (lv_sub hl [2, 3, 1, 0] rfl)
  refine lv_iload_n hx hb dX4_gain_69 rfl (lv_at hl 0 rfl) ?_
  exact p_iret hx hb hr hlocks dX4_gain_70 (by rw [← hR])

def fX4_isBehind (σ : St) (i : Nat) (j : Nat) : Bool :=
  (if (sEnergy σ i) < (sEnergy σ j) then (if 2 < (if (12 - (if 0 ≤ ((sKey σ i) - (sKey σ j)) then ((sKey σ i) - (sKey σ j)) else 0 - ((sKey σ i) - (sKey σ j)))) < (if 0 ≤ ((sKey σ i) - (sKey σ j)) then ((sKey σ i) - (sKey σ j)) else 0 - ((sKey σ i) - (sKey σ j))) then (12 - (if 0 ≤ ((sKey σ i) - (sKey σ j)) then ((sKey σ i) - (sKey σ j)) else 0 - ((sKey σ i) - (sKey σ j)))) else (if 0 ≤ ((sKey σ i) - (sKey σ j)) then ((sKey σ i) - (sKey σ j)) else 0 - ((sKey σ i) - (sKey σ j)))) then false else true) else (if (sEnergy σ j) = (sEnergy σ i) then (if (nI j) ≤ (nI i) then false else (if 2 < (if (12 - (if 0 ≤ ((sKey σ i) - (sKey σ j)) then ((sKey σ i) - (sKey σ j)) else 0 - ((sKey σ i) - (sKey σ j)))) < (if 0 ≤ ((sKey σ i) - (sKey σ j)) then ((sKey σ i) - (sKey σ j)) else 0 - ((sKey σ i) - (sKey σ j))) then (12 - (if 0 ≤ ((sKey σ i) - (sKey σ j)) then ((sKey σ i) - (sKey σ j)) else 0 - ((sKey σ i) - (sKey σ j)))) else (if 0 ≤ ((sKey σ i) - (sKey σ j)) then ((sKey σ i) - (sKey σ j)) else 0 - ((sKey σ i) - (sKey σ j)))) then false else true)) else false))
set_option maxHeartbeats 4000000 in
set_option maxRecDepth 100000 in
theorem met_X4_isBehind (l : Launch) (D : va_G) (E : Nat → Nat) {β : Nat → Nat → Nat} {F : Nat → Prop} {σ : St} {th ca : Int32} {sm : Int64} (i : Nat) (j : Nat) (h_i : i < 16) (h_j : j < 16) : PM l D E yX4_isBehind cX4_isBehind 5 (Option.some Jvm.ClassFile.FieldType.boolean) 1 24 [.ref (β 0 0), .int (nI i), .int (nI j)] (RM D E β F σ th ca sm) (some (.int (bI (fX4_isBehind σ i j)))) := by
  generalize hR : fX4_isBehind σ i j = r
  refine PM.start (by decide) (Nat.le_of_ble_eq_true rfl) ?_
  intro p e s m below meth c ls hx hb hr hml hown hlocks hts hG hM hl
  have hown : s.vm.findClass RX4 = some m.cls := hown
  have hS0 : xS p m c cX4_isBehind 5 s _ RX4 := ⟨hx, hb, hml, hown, hts⟩
  have hl : lv_has ls 5 [(0, .ref (β 0 0)), (1, .int (nI i)), (2, .int (nI j))] := hl
  unfold fX4_isBehind at hR
  refine lv_aload_n hx hb dX4_isBehind_0 rfl (lv_at hl 0 rfl) ?_
  refine gf (v := .ref (β 8 1)) (C := RX4) (T := TX4) (N := 13) (k := 7) hx hb hts hown hG cl_X4 in_X4 hM.ag (by decide) q1547 rfl dX4_isBehind_1 ?_
  refine lv_iload_n hx hb dX4_isBehind_4 rfl (lv_at hl 2 rfl) ?_
  refine gaI (N := 16) (k := j) hx hb hG hM.ar1 h_j (by decide) dX4_isBehind_5 ?_
  refine lv_aload_n hx hb dX4_isBehind_6 rfl (lv_at hl 0 rfl) ?_
  refine gf (v := .ref (β 8 1)) (C := RX4) (T := TX4) (N := 13) (k := 7) hx hb hts hown hG cl_X4 in_X4 hM.ag (by decide) q1547 rfl dX4_isBehind_7 ?_
  refine lv_iload_n hx hb dX4_isBehind_10 rfl (lv_at hl 1 rfl) ?_
  refine gaI (N := 16) (k := i) hx hb hG hM.ar1 h_i (by decide) dX4_isBehind_11 ?_
  refine lv_icmp_gt (tgt := 35) hx hb dX4_isBehind_12 (by decide) (fun c1 => ?_) (fun c1 => ?_)
  · rw [if_pos c1] at hR
    refine lv_iconst (v := 1) hx hb dX4_isBehind_35 (by decide) ?_
    refine lv_goto (tgt := 40) hx hb dX4_isBehind_36 (by decide) ?_
    refine lv_istore_n (lv' := [(3, .int 1), (0, .ref (β 0 0)), (1, .int (nI i)), (2, .int (nI j))]) hx hb dX4_isBehind_40 rfl hl (Nat.le_of_ble_eq_true rfl) rfl (fun ls hl => ?_)
    refine lv_aload_n hx hb dX4_isBehind_41 rfl (lv_at hl 1 rfl) ?_
    refine gf (v := .ref (β 8 0)) (C := RX4) (T := TX4) (N := 13) (k := 6) hx hb hts hown hG cl_X4 in_X4 hM.ag (by decide) q1546 rfl dX4_isBehind_42 ?_
    refine lv_iload_n hx hb dX4_isBehind_45 rfl (lv_at hl 2 rfl) ?_
    refine gaI (N := 16) (k := i) hx hb hG hM.ar0 h_i (by decide) dX4_isBehind_46 ?_
    refine lv_aload_n hx hb dX4_isBehind_47 rfl (lv_at hl 1 rfl) ?_
    refine gf (v := .ref (β 8 0)) (C := RX4) (T := TX4) (N := 13) (k := 6) hx hb hts hown hG cl_X4 in_X4 hM.ag (by decide) q1546 rfl dX4_isBehind_48 ?_
    refine lv_iload_n hx hb dX4_isBehind_51 rfl (lv_at hl 3 rfl) ?_
    refine gaI (N := 16) (k := j) hx hb hG hM.ar0 h_j (by decide) dX4_isBehind_52 ?_
    refine lv_isub hx hb dX4_isBehind_53 ?_
    refine va_mabs hx hb (hml.trans hl.1.symm) hown (hts _ q1906) (hts _ q665) (hts _ q107) (hts _ q666) (Nat.le_of_ble_eq_true rfl) (Nat.le_of_ble_eq_true rfl) (Nat.le_refl _) (Nat.le_refl _) dX4_isBehind_54 ?_
    refine W.eq (g2 := F0 m 57 ls [.int (if 0 ≤ ((sKey σ i) - (sKey σ j)) then ((sKey σ i) - (sKey σ j)) else 0 - ((sKey σ i) - (sKey σ j)))]) rfl ?_
    refine lv_istore (lv' := [(4, .int (if 0 ≤ ((sKey σ i) - (sKey σ j)) then ((sKey σ i) - (sKey σ j)) else 0 - ((sKey σ i) - (sKey σ j)))), (3, .int 1), (0, .ref (β 0 0)), (1, .int (nI i)), (2, .int (nI j))]) hx hb dX4_isBehind_57 hl (Nat.le_of_ble_eq_true rfl) rfl (fun ls hl => ?_)
    refine lv_iload_n hx hb dX4_isBehind_59 rfl (lv_at hl 1 rfl) ?_
    refine lv_if_eq (tgt := 81) hx hb dX4_isBehind_60 (by decide) (fun c9 => absurd c9 (by decide)) (fun _ => ?_)
    refine lv_iload hx hb dX4_isBehind_63 (lv_at hl 0 rfl) ?_
    refine lv_bipush (v := 12) hx hb dX4_isBehind_65 (by decide) ?_
    refine lv_iload hx hb dX4_isBehind_67 (lv_at hl 0 rfl) ?_
    refine lv_isub hx hb dX4_isBehind_69 ?_
    refine va_mmin hx hb (hml.trans hl.1.symm) hown (hts _ q1907) (hts _ q293) (hts _ q107) (hts _ q294) (Nat.le_of_ble_eq_true rfl) (Nat.le_of_ble_eq_true rfl) (Nat.le_refl _) (Nat.le_refl _) dX4_isBehind_70 ?_
    refine W.eq (g2 := F0 m 73 ls [.int (if (12 - (if 0 ≤ ((sKey σ i) - (sKey σ j)) then ((sKey σ i) - (sKey σ j)) else 0 - ((sKey σ i) - (sKey σ j)))) < (if 0 ≤ ((sKey σ i) - (sKey σ j)) then ((sKey σ i) - (sKey σ j)) else 0 - ((sKey σ i) - (sKey σ j))) then (12 - (if 0 ≤ ((sKey σ i) - (sKey σ j)) then ((sKey σ i) - (sKey σ j)) else 0 - ((sKey σ i) - (sKey σ j)))) else (if 0 ≤ ((sKey σ i) - (sKey σ j)) then ((sKey σ i) - (sKey σ j)) else 0 - ((sKey σ i) - (sKey σ j))))]) rfl ?_
    refine lv_iconst (v := 2) hx hb dX4_isBehind_73 (by decide) ?_
    refine lv_icmp_gt (tgt := 81) hx hb dX4_isBehind_74 (by decide) (fun c2 => ?_) (fun c2 => ?_)
    · rw [if_pos c2] at hR
      refine lv_iconst (v := 0) hx hb dX4_isBehind_81 (by decide) ?_
      exact p_zret (b := false) hx hb hr hlocks dX4_isBehind_82 rfl (by rw [← hR])
    · rw [if_neg c2] at hR
      refine lv_iconst (v := 1) hx hb dX4_isBehind_77 (by decide) ?_
      refine lv_goto (tgt := 82) hx hb dX4_isBehind_78 (by decide) ?_
      exact p_zret (b := true) hx hb hr hlocks dX4_isBehind_82 rfl (by rw [← hR])
  · rw [if_neg c1] at hR
    refine lv_aload_n hx hb dX4_isBehind_15 rfl (lv_at hl 0 rfl) ?_
    refine gf (v := .ref (β 8 1)) (C := RX4) (T := TX4) (N := 13) (k := 7) hx hb hts hown hG cl_X4 in_X4 hM.ag (by decide) q1547 rfl dX4_isBehind_16 ?_
    refine lv_iload_n hx hb dX4_isBehind_19 rfl (lv_at hl 2 rfl) ?_
    refine gaI (N := 16) (k := j) hx hb hG hM.ar1 h_j (by decide) dX4_isBehind_20 ?_
    refine lv_aload_n hx hb dX4_isBehind_21 rfl (lv_at hl 0 rfl) ?_
    refine gf (v := .ref (β 8 1)) (C := RX4) (T := TX4) (N := 13) (k := 7) hx hb hts hown hG cl_X4 in_X4 hM.ag (by decide) q1547 rfl dX4_isBehind_22 ?_
    refine lv_iload_n hx hb dX4_isBehind_25 rfl (lv_at hl 1 rfl) ?_
    refine gaI (N := 16) (k := i) hx hb hG hM.ar1 h_i (by decide) dX4_isBehind_26 ?_
    refine lv_icmp_ne (tgt := 39) hx hb dX4_isBehind_27 (by decide) (fun c3 => ?_) (fun c3 => ?_)
    · rw [if_neg c3] at hR
      refine lv_iconst (v := 0) hx hb dX4_isBehind_39 (by decide) ?_
      refine lv_istore_n (lv' := [(3, .int 0), (0, .ref (β 0 0)), (1, .int (nI i)), (2, .int (nI j))]) hx hb dX4_isBehind_40 rfl hl (Nat.le_of_ble_eq_true rfl) rfl (fun ls hl => ?_)
      refine lv_aload_n hx hb dX4_isBehind_41 rfl (lv_at hl 1 rfl) ?_
      refine gf (v := .ref (β 8 0)) (C := RX4) (T := TX4) (N := 13) (k := 6) hx hb hts hown hG cl_X4 in_X4 hM.ag (by decide) q1546 rfl dX4_isBehind_42 ?_
      refine lv_iload_n hx hb dX4_isBehind_45 rfl (lv_at hl 2 rfl) ?_
      refine gaI (N := 16) (k := i) hx hb hG hM.ar0 h_i (by decide) dX4_isBehind_46 ?_
      refine lv_aload_n hx hb dX4_isBehind_47 rfl (lv_at hl 1 rfl) ?_
      refine gf (v := .ref (β 8 0)) (C := RX4) (T := TX4) (N := 13) (k := 6) hx hb hts hown hG cl_X4 in_X4 hM.ag (by decide) q1546 rfl dX4_isBehind_48 ?_
      refine lv_iload_n hx hb dX4_isBehind_51 rfl (lv_at hl 3 rfl) ?_
      refine gaI (N := 16) (k := j) hx hb hG hM.ar0 h_j (by decide) dX4_isBehind_52 ?_
      refine lv_isub hx hb dX4_isBehind_53 ?_
      refine va_mabs hx hb (hml.trans hl.1.symm) hown (hts _ q1906) (hts _ q665) (hts _ q107) (hts _ q666) (Nat.le_of_ble_eq_true rfl) (Nat.le_of_ble_eq_true rfl) (Nat.le_refl _) (Nat.le_refl _) dX4_isBehind_54 ?_
      refine W.eq (g2 := F0 m 57 ls [.int (if 0 ≤ ((sKey σ i) - (sKey σ j)) then ((sKey σ i) - (sKey σ j)) else 0 - ((sKey σ i) - (sKey σ j)))]) rfl ?_
      refine lv_istore (lv' := [(4, .int (if 0 ≤ ((sKey σ i) - (sKey σ j)) then ((sKey σ i) - (sKey σ j)) else 0 - ((sKey σ i) - (sKey σ j)))), (3, .int 0), (0, .ref (β 0 0)), (1, .int (nI i)), (2, .int (nI j))]) hx hb dX4_isBehind_57 hl (Nat.le_of_ble_eq_true rfl) rfl (fun ls hl => ?_)
      refine lv_iload_n hx hb dX4_isBehind_59 rfl (lv_at hl 1 rfl) ?_
      refine lv_if_eq (tgt := 81) hx hb dX4_isBehind_60 (by decide) (fun _ => ?_) (fun c9 => absurd (by decide) c9)
      refine lv_iconst (v := 0) hx hb dX4_isBehind_81 (by decide) ?_
      exact p_zret (b := false) hx hb hr hlocks dX4_isBehind_82 rfl (by rw [← hR])
    · rw [if_pos c3] at hR
      refine lv_iload_n hx hb dX4_isBehind_30 rfl (lv_at hl 2 rfl) ?_
      refine lv_iload_n hx hb dX4_isBehind_31 rfl (lv_at hl 1 rfl) ?_
      refine lv_icmp_le (tgt := 39) hx hb dX4_isBehind_32 (by decide) (fun c4 => ?_) (fun c4 => ?_)
      · rw [if_pos c4] at hR
        refine lv_iconst (v := 0) hx hb dX4_isBehind_39 (by decide) ?_
        refine lv_istore_n (lv' := [(3, .int 0), (0, .ref (β 0 0)), (1, .int (nI i)), (2, .int (nI j))]) hx hb dX4_isBehind_40 rfl hl (Nat.le_of_ble_eq_true rfl) rfl (fun ls hl => ?_)
        refine lv_aload_n hx hb dX4_isBehind_41 rfl (lv_at hl 1 rfl) ?_
        refine gf (v := .ref (β 8 0)) (C := RX4) (T := TX4) (N := 13) (k := 6) hx hb hts hown hG cl_X4 in_X4 hM.ag (by decide) q1546 rfl dX4_isBehind_42 ?_
        refine lv_iload_n hx hb dX4_isBehind_45 rfl (lv_at hl 2 rfl) ?_
        refine gaI (N := 16) (k := i) hx hb hG hM.ar0 h_i (by decide) dX4_isBehind_46 ?_
        refine lv_aload_n hx hb dX4_isBehind_47 rfl (lv_at hl 1 rfl) ?_
        refine gf (v := .ref (β 8 0)) (C := RX4) (T := TX4) (N := 13) (k := 6) hx hb hts hown hG cl_X4 in_X4 hM.ag (by decide) q1546 rfl dX4_isBehind_48 ?_
        refine lv_iload_n hx hb dX4_isBehind_51 rfl (lv_at hl 3 rfl) ?_
        refine gaI (N := 16) (k := j) hx hb hG hM.ar0 h_j (by decide) dX4_isBehind_52 ?_
        refine lv_isub hx hb dX4_isBehind_53 ?_
        refine va_mabs hx hb (hml.trans hl.1.symm) hown (hts _ q1906) (hts _ q665) (hts _ q107) (hts _ q666) (Nat.le_of_ble_eq_true rfl) (Nat.le_of_ble_eq_true rfl) (Nat.le_refl _) (Nat.le_refl _) dX4_isBehind_54 ?_
        refine W.eq (g2 := F0 m 57 ls [.int (if 0 ≤ ((sKey σ i) - (sKey σ j)) then ((sKey σ i) - (sKey σ j)) else 0 - ((sKey σ i) - (sKey σ j)))]) rfl ?_
        refine lv_istore (lv' := [(4, .int (if 0 ≤ ((sKey σ i) - (sKey σ j)) then ((sKey σ i) - (sKey σ j)) else 0 - ((sKey σ i) - (sKey σ j)))), (3, .int 0), (0, .ref (β 0 0)), (1, .int (nI i)), (2, .int (nI j))]) hx hb dX4_isBehind_57 hl (Nat.le_of_ble_eq_true rfl) rfl (fun ls hl => ?_)
        refine lv_iload_n hx hb dX4_isBehind_59 rfl (lv_at hl 1 rfl) ?_
        refine lv_if_eq (tgt := 81) hx hb dX4_isBehind_60 (by decide) (fun _ => ?_) (fun c9 => absurd (by decide) c9)
        refine lv_iconst (v := 0) hx hb dX4_isBehind_81 (by decide) ?_
        exact p_zret (b := false) hx hb hr hlocks dX4_isBehind_82 rfl (by rw [← hR])
      · rw [if_neg c4] at hR
        refine lv_iconst (v := 1) hx hb dX4_isBehind_35 (by decide) ?_
        refine lv_goto (tgt := 40) hx hb dX4_isBehind_36 (by decide) ?_
        refine lv_istore_n (lv' := [(3, .int 1), (0, .ref (β 0 0)), (1, .int (nI i)), (2, .int (nI j))]) hx hb dX4_isBehind_40 rfl hl (Nat.le_of_ble_eq_true rfl) rfl (fun ls hl => ?_)
        refine lv_aload_n hx hb dX4_isBehind_41 rfl (lv_at hl 1 rfl) ?_
        refine gf (v := .ref (β 8 0)) (C := RX4) (T := TX4) (N := 13) (k := 6) hx hb hts hown hG cl_X4 in_X4 hM.ag (by decide) q1546 rfl dX4_isBehind_42 ?_
        refine lv_iload_n hx hb dX4_isBehind_45 rfl (lv_at hl 2 rfl) ?_
        refine gaI (N := 16) (k := i) hx hb hG hM.ar0 h_i (by decide) dX4_isBehind_46 ?_
        refine lv_aload_n hx hb dX4_isBehind_47 rfl (lv_at hl 1 rfl) ?_
        refine gf (v := .ref (β 8 0)) (C := RX4) (T := TX4) (N := 13) (k := 6) hx hb hts hown hG cl_X4 in_X4 hM.ag (by decide) q1546 rfl dX4_isBehind_48 ?_
        refine lv_iload_n hx hb dX4_isBehind_51 rfl (lv_at hl 3 rfl) ?_
        refine gaI (N := 16) (k := j) hx hb hG hM.ar0 h_j (by decide) dX4_isBehind_52 ?_
        refine lv_isub hx hb dX4_isBehind_53 ?_
        refine va_mabs hx hb (hml.trans hl.1.symm) hown (hts _ q1906) (hts _ q665) (hts _ q107) (hts _ q666) (Nat.le_of_ble_eq_true rfl) (Nat.le_of_ble_eq_true rfl) (Nat.le_refl _) (Nat.le_refl _) dX4_isBehind_54 ?_
        refine W.eq (g2 := F0 m 57 ls [.int (if 0 ≤ ((sKey σ i) - (sKey σ j)) then ((sKey σ i) - (sKey σ j)) else 0 - ((sKey σ i) - (sKey σ j)))]) rfl ?_
        refine lv_istore (lv' := [(4, .int (if 0 ≤ ((sKey σ i) - (sKey σ j)) then ((sKey σ i) - (sKey σ j)) else 0 - ((sKey σ i) - (sKey σ j)))), (3, .int 1), (0, .ref (β 0 0)), (1, .int (nI i)), (2, .int (nI j))]) hx hb dX4_isBehind_57 hl (Nat.le_of_ble_eq_true rfl) rfl (fun ls hl => ?_)
        refine lv_iload_n hx hb dX4_isBehind_59 rfl (lv_at hl 1 rfl) ?_
        refine lv_if_eq (tgt := 81) hx hb dX4_isBehind_60 (by decide) (fun c9 => absurd c9 (by decide)) (fun _ => ?_)
        refine lv_iload hx hb dX4_isBehind_63 (lv_at hl 0 rfl) ?_
        refine lv_bipush (v := 12) hx hb dX4_isBehind_65 (by decide) ?_
        refine lv_iload hx hb dX4_isBehind_67 (lv_at hl 0 rfl) ?_
        refine lv_isub hx hb dX4_isBehind_69 ?_
        refine va_mmin hx hb (hml.trans hl.1.symm) hown (hts _ q1907) (hts _ q293) (hts _ q107) (hts _ q294) (Nat.le_of_ble_eq_true rfl) (Nat.le_of_ble_eq_true rfl) (Nat.le_refl _) (Nat.le_refl _) dX4_isBehind_70 ?_
        refine W.eq (g2 := F0 m 73 ls [.int (if (12 - (if 0 ≤ ((sKey σ i) - (sKey σ j)) then ((sKey σ i) - (sKey σ j)) else 0 - ((sKey σ i) - (sKey σ j)))) < (if 0 ≤ ((sKey σ i) - (sKey σ j)) then ((sKey σ i) - (sKey σ j)) else 0 - ((sKey σ i) - (sKey σ j))) then (12 - (if 0 ≤ ((sKey σ i) - (sKey σ j)) then ((sKey σ i) - (sKey σ j)) else 0 - ((sKey σ i) - (sKey σ j)))) else (if 0 ≤ ((sKey σ i) - (sKey σ j)) then ((sKey σ i) - (sKey σ j)) else 0 - ((sKey σ i) - (sKey σ j))))]) rfl ?_
        refine lv_iconst (v := 2) hx hb dX4_isBehind_73 (by decide) ?_
        refine lv_icmp_gt (tgt := 81) hx hb dX4_isBehind_74 (by decide) (fun c5 => ?_) (fun c5 => ?_)
        · rw [if_pos c5] at hR
          refine lv_iconst (v := 0) hx hb dX4_isBehind_81 (by decide) ?_
          exact p_zret (b := false) hx hb hr hlocks dX4_isBehind_82 rfl (by rw [← hR])
        · rw [if_neg c5] at hR
          refine lv_iconst (v := 1) hx hb dX4_isBehind_77 (by decide) ?_
          refine lv_goto (tgt := 82) hx hb dX4_isBehind_78 (by decide) ?_
          exact p_zret (b := true) hx hb hr hlocks dX4_isBehind_82 rfl (by rw [← hR])

def fX4_share_L4 (σ : St) (q : Nat)  (κ : Int32 → Int32) : Nat → Nat → Int32 → Int32
  | 0, i3, a2 => κ a2
  | n + 1, i3, a2 => fX4_share_L4 σ q κ n (i3 + 1) (a2 + ((sMin σ i3) * (sPlayed σ i3)))
def fX4_share (σ : St) (q : Nat) : Int32 :=
  fX4_share_L4 σ q (fun (a1 : Int32) => (if a1 = 0 then 0 else ((1000 * (sMin σ q)) * (sPlayed σ q)) / a1)) 16 0 0
set_option maxHeartbeats 4000000 in
set_option maxRecDepth 100000 in
theorem met_X4_share (l : Launch) (D : va_G) (E : Nat → Nat) {β : Nat → Nat → Nat} {F : Nat → Prop} {σ : St} {th ca : Int32} {sm : Int64} (q : Nat) (h_q : q < 16) : PM l D E yX4_share cX4_share 4 (Option.some Jvm.ClassFile.FieldType.int) 0 0 [.ref (β 0 0), .int (nI q)] (RM D E β F σ th ca sm) (some (.int (fX4_share σ q))) := by
  generalize hR : fX4_share σ q = r
  refine PM.start (by decide) (Nat.le_of_ble_eq_true rfl) ?_
  intro p e s m below meth c ls hx hb hr hml hown hlocks hts hG hM hl
  have hown : s.vm.findClass RX4 = some m.cls := hown
  have hS0 : xS p m c cX4_share 4 s _ RX4 := ⟨hx, hb, hml, hown, hts⟩
  have hl : lv_has ls 4 [(0, .ref (β 0 0)), (1, .int (nI q))] := hl
  have hL4 : ∀ (κ : Int32 → Int32) (hκ : ∀ (a2 : Int32) (ls : Array Slot), κ a2 = r → lv_has ls 4 [(0, .ref (β 0 0)), (1, .int (nI q)), (2, .int (a2))] → W p l e { frames := 0, cells := 0, slots := 0, locals := 0 } s m [(.ref (β 0 0) : Value), .int (nI q)].toArray below meth c s.heap [] 0 0 (MQ below (qP (some (.int r))) [(.ref (β 0 0) : Value), .int (nI q)].toArray s 0 0 (fun _ => False)) (F0 m 32 ls [])) (n : Nat) (i3 : Nat) (a2 : Int32), i3 + n = 16 → fX4_share_L4 σ q κ n i3 a2 = r → ∀ (ls : Array Slot), lv_has ls 4 [(0, .ref (β 0 0)), (1, .int (nI q)), (2, .int (a2)), (3, .int (nI i3))] → W p l e { frames := 0, cells := 0, slots := 0, locals := 0 } s m [(.ref (β 0 0) : Value), .int (nI q)].toArray below meth c s.heap [] 0 0 (MQ below (qP (some (.int r))) [(.ref (β 0 0) : Value), .int (nI q)].toArray s 0 0 (fun _ => False)) (F0 m 4 ls []) := by
    intro  κ hκ n
    induction n with
    | zero =>
      intro i3 a2 hn hR ls hl
      rw [fX4_share_L4] at hR
      refine lv_iload_n hx hb dX4_share_4 rfl (lv_at hl 3 rfl) ?_
      refine lv_bipush (v := 16) hx hb dX4_share_5 (by decide) ?_
      refine lk_ge_out (k := i3) (N := 16) hx hb hn (tgt := 32) dX4_share_7 (by decide) ?_
      exact hκ a2 ls hR (lv_sub hl [0, 1, 2] rfl)
    | succ n ih =>
      intro i3 a2 hn hR ls hl
      rw [fX4_share_L4] at hR
      refine lv_iload_n hx hb dX4_share_4 rfl (lv_at hl 3 rfl) ?_
      refine lv_bipush (v := 16) hx hb dX4_share_5 (by decide) ?_
      have hki3 : i3 < 16 := lk_lt hn
      refine lk_ge_in (k := i3) (N := 16) hx hb hki3 (by decide) (tgt := 32) dX4_share_7 (by decide) ?_
      refine lv_iload_n hx hb dX4_share_10 rfl (lv_at hl 2 rfl) ?_
      refine lv_aload_n hx hb dX4_share_11 rfl (lv_at hl 0 rfl) ?_
      refine gf (v := .ref (β 8 2)) (C := RX4) (T := TX4) (N := 13) (k := 8) hx hb hts hown hG cl_X4 in_X4 hM.ag (by decide) q1548 rfl dX4_share_12 ?_
      refine lv_iload_n hx hb dX4_share_15 rfl (lv_at hl 3 rfl) ?_
      refine gaI (N := 16) (k := i3) hx hb hG hM.ar2 hki3 (by decide) dX4_share_16 ?_
      refine lv_aload_n hx hb dX4_share_17 rfl (lv_at hl 0 rfl) ?_
      refine gf (v := .ref (β 8 3)) (C := RX4) (T := TX4) (N := 13) (k := 9) hx hb hts hown hG cl_X4 in_X4 hM.ag (by decide) q1549 rfl dX4_share_18 ?_
      refine lv_iload_n hx hb dX4_share_21 rfl (lv_at hl 3 rfl) ?_
      refine gaI (N := 16) (k := i3) hx hb hG hM.ar3 hki3 (by decide) dX4_share_22 ?_
      refine lv_imul hx hb dX4_share_23 ?_
      refine lv_iadd hx hb dX4_share_24 ?_
      refine lv_istore_n (lv' := [(2, .int (a2 + ((sMin σ i3) * (sPlayed σ i3)))), (0, .ref (β 0 0)), (1, .int (nI q)), (3, .int (nI i3))]) hx hb dX4_share_25 rfl hl (Nat.le_of_ble_eq_true rfl) rfl (fun ls hl => ?_)
      refine lv_iinc (v := nI (i3 + 1)) (lv' := [(3, .int (nI (i3 + 1))), (2, .int (a2 + ((sMin σ i3) * (sPlayed σ i3)))), (0, .ref (β 0 0)), (1, .int (nI q))]) hx hb dX4_share_26 hl (k := 3) rfl (nI_1 i3) (Nat.le_of_ble_eq_true rfl) rfl (fun ls hl => ?_)
      refine lv_goto (tgt := 4) hx hb dX4_share_29 (by decide) ?_
      exact ih (i3 + 1) (a2 + ((sMin σ i3) * (sPlayed σ i3))) (lk_st hn) hR ls (lv_sub hl [2, 3, 1, 0] rfl)
  unfold fX4_share at hR
  refine lv_iconst (v := 0) hx hb dX4_share_0 (by decide) ?_
  refine lv_istore_n (lv' := [(2, .int 0), (0, .ref (β 0 0)), (1, .int (nI q))]) hx hb dX4_share_1 rfl hl (Nat.le_of_ble_eq_true rfl) rfl (fun ls hl => ?_)
  refine lv_iconst (v := 0) hx hb dX4_share_2 (by decide) ?_
  refine lv_istore_n (lv' := [(3, .int 0), (2, .int 0), (0, .ref (β 0 0)), (1, .int (nI q))]) hx hb dX4_share_3 rfl hl (Nat.le_of_ble_eq_true rfl) rfl (fun ls hl => ?_)
  refine hL4  _ (fun a1 ls hR hl => ?_) 16 0 0 (Nat.zero_add _) hR ls (lv_sub hl [2, 3, 1, 0] rfl)
  refine lv_iload_n hx hb dX4_share_32 rfl (lv_at hl 2 rfl) ?_
  refine lv_if_ne (tgt := 40) hx hb dX4_share_33 (by decide) (fun c2 => ?_) (fun c2 => ?_)
  · rw [if_neg c2] at hR
    refine lv_sipush (v := 1000) hx hb dX4_share_40 (by decide) ?_
    refine lv_aload_n hx hb dX4_share_43 rfl (lv_at hl 0 rfl) ?_
    refine gf (v := .ref (β 8 2)) (C := RX4) (T := TX4) (N := 13) (k := 8) hx hb hts hown hG cl_X4 in_X4 hM.ag (by decide) q1548 rfl dX4_share_44 ?_
    refine lv_iload_n hx hb dX4_share_47 rfl (lv_at hl 1 rfl) ?_
    refine gaI (N := 16) (k := q) hx hb hG hM.ar2 h_q (by decide) dX4_share_48 ?_
    refine lv_imul hx hb dX4_share_49 ?_
    refine lv_aload_n hx hb dX4_share_50 rfl (lv_at hl 0 rfl) ?_
    refine gf (v := .ref (β 8 3)) (C := RX4) (T := TX4) (N := 13) (k := 9) hx hb hts hown hG cl_X4 in_X4 hM.ag (by decide) q1549 rfl dX4_share_51 ?_
    refine lv_iload_n hx hb dX4_share_54 rfl (lv_at hl 1 rfl) ?_
    refine gaI (N := 16) (k := q) hx hb hG hM.ar3 h_q (by decide) dX4_share_55 ?_
    refine lv_imul hx hb dX4_share_56 ?_
    refine lv_iload_n hx hb dX4_share_57 rfl (lv_at hl 2 rfl) ?_
    refine lv_idiv hx hb dX4_share_58 c2 ?_
    exact p_iret hx hb hr hlocks dX4_share_59 (by rw [← hR])
  · rw [if_pos c2] at hR
    refine lv_iconst (v := 0) hx hb dX4_share_36 (by decide) ?_
    refine lv_goto (tgt := 59) hx hb dX4_share_37 (by decide) ?_
    exact p_iret hx hb hr hlocks dX4_share_59 (by rw [← hR])

def fX4_ofSongNow_L5 (σ : St) (q : Nat) (z : Int32)  (κ : Int32 → Int32) : Nat → Nat → Int32 → Int32
  | 0, i4, a3 => κ a3
  | n + 1, i4, a3 => (if ((fX4_isIn (pSongs σ i4) (nI q))) = true then fX4_ofSongNow_L5 σ q z κ n (i4 + 1) (a3 + 1) else fX4_ofSongNow_L5 σ q z κ n (i4 + 1) (a3 + 0))
def fX4_ofSongNow (σ : St) (q : Nat) (z : Int32) : Int32 :=
  fX4_ofSongNow_L5 σ q z (fun (a2 : Int32) => (if z = 0 then sKey σ q else (if z = 1 then sEnergy σ q else (if z = 2 then sMin σ q else (if z = 3 then sPlayed σ q else (if z = 4 then (fX4_share σ q) else a2)))))) (nP σ) 0 0
set_option maxHeartbeats 4000000 in
set_option maxRecDepth 100000 in
theorem met_X4_ofSongNow (l : Launch) (D : va_G) (E : Nat → Nat) {β : Nat → Nat → Nat} {F : Nat → Prop} {σ : St} {th ca : Int32} {sm : Int64} (q : Nat) (z : Int32) (h_q : q < 16) : PM l D E yX4_ofSongNow cX4_ofSongNow 5 (Option.some Jvm.ClassFile.FieldType.int) 3 64 [.ref (β 0 0), .int (nI q), .int (z)] (RM D E β F σ th ca sm) (some (.int (fX4_ofSongNow σ q z))) := by
  generalize hR : fX4_ofSongNow σ q z = r
  refine PM.start (by decide) (Nat.le_of_ble_eq_true rfl) ?_
  intro p e s m below meth c ls hx hb hr hml hown hlocks hts hG hM hl
  have hown : s.vm.findClass RX4 = some m.cls := hown
  have hS0 : xS p m c cX4_ofSongNow 5 s _ RX4 := ⟨hx, hb, hml, hown, hts⟩
  have hl : lv_has ls 5 [(0, .ref (β 0 0)), (1, .int (nI q)), (2, .int (z))] := hl
  have hL5 : ∀ (κ : Int32 → Int32) (hκ : ∀ (a3 : Int32) (ls : Array Slot), κ a3 = r → lv_has ls 5 [(0, .ref (β 0 0)), (1, .int (nI q)), (2, .int (z)), (3, .int (a3))] → W p l e { frames := 3, cells := 0, slots := 0, locals := 64 } s m [(.ref (β 0 0) : Value), .int (nI q), .int (z)].toArray below meth c s.heap [] 0 0 (MQ below (qP (some (.int r))) [(.ref (β 0 0) : Value), .int (nI q), .int (z)].toArray s 0 0 (fun _ => False)) (F0 m 53 ls [])) (n : Nat) (i4 : Nat) (a3 : Int32), i4 + n = nP σ → fX4_ofSongNow_L5 σ q z κ n i4 a3 = r → ∀ (ls : Array Slot), lv_has ls 5 [(0, .ref (β 0 0)), (1, .int (nI q)), (2, .int (z)), (3, .int (a3)), (4, .int (nI i4))] → W p l e { frames := 3, cells := 0, slots := 0, locals := 64 } s m [(.ref (β 0 0) : Value), .int (nI q), .int (z)].toArray below meth c s.heap [] 0 0 (MQ below (qP (some (.int r))) [(.ref (β 0 0) : Value), .int (nI q), .int (z)].toArray s 0 0 (fun _ => False)) (F0 m 5 ls []) := by
    intro  κ hκ n
    induction n with
    | zero =>
      intro i4 a3 hn hR ls hl
      rw [fX4_ofSongNow_L5] at hR
      refine lv_iload hx hb dX4_ofSongNow_5 (lv_at hl 4 rfl) ?_
      refine lv_aload_n hx hb dX4_ofSongNow_7 rfl (lv_at hl 0 rfl) ?_
      refine gf (v := .ref (β 1 0)) (C := RX4) (T := TX4) (N := 13) (k := 3) hx hb hts hown hG cl_X4 in_X4 hM.ag (by decide) q1543 rfl dX4_ofSongNow_8 ?_
      refine pcV (As := []) (rest := [.int (nI i4)]) hS0 (met_ml_size l D E (j := 0) (by decide)) q1600 q336 q2080 q103 q338 hd_J2_size ⟨Nat.le_of_ble_eq_true rfl, Nat.le_of_ble_eq_true rfl⟩ hG (hM.lsR hG (j := 0) (by decide)) hM rfl hl.1 rfl (Nat.le_of_ble_eq_true rfl) dX4_ofSongNow_11 ⟨Nat.le_refl _, Nat.le_refl _⟩ ?_
      refine W.eq (g2 := F0 m 14 ls [.int (nI (nP σ)), .int (nI i4)]) rfl ?_
      refine lk_ge_out (k := i4) (N := nP σ) hx hb hn (tgt := 53) dX4_ofSongNow_14 (by decide) ?_
      exact hκ a3 ls hR (lv_sub hl [0, 1, 2, 3] rfl)
    | succ n ih =>
      intro i4 a3 hn hR ls hl
      rw [fX4_ofSongNow_L5] at hR
      refine lv_iload hx hb dX4_ofSongNow_5 (lv_at hl 4 rfl) ?_
      refine lv_aload_n hx hb dX4_ofSongNow_7 rfl (lv_at hl 0 rfl) ?_
      refine gf (v := .ref (β 1 0)) (C := RX4) (T := TX4) (N := 13) (k := 3) hx hb hts hown hG cl_X4 in_X4 hM.ag (by decide) q1543 rfl dX4_ofSongNow_8 ?_
      refine pcV (As := []) (rest := [.int (nI i4)]) hS0 (met_ml_size l D E (j := 0) (by decide)) q1600 q336 q2080 q103 q338 hd_J2_size ⟨Nat.le_of_ble_eq_true rfl, Nat.le_of_ble_eq_true rfl⟩ hG (hM.lsR hG (j := 0) (by decide)) hM rfl hl.1 rfl (Nat.le_of_ble_eq_true rfl) dX4_ofSongNow_11 ⟨Nat.le_refl _, Nat.le_refl _⟩ ?_
      refine W.eq (g2 := F0 m 14 ls [.int (nI (nP σ)), .int (nI i4)]) rfl ?_
      have hki4 : i4 < nP σ := lk_lt hn
      refine lk_ge_in (k := i4) (N := nP σ) hx hb hki4 (by have := hM.nP10; omega) (tgt := 53) dX4_ofSongNow_14 (by decide) ?_
      refine lv_iload_n hx hb dX4_ofSongNow_17 rfl (lv_at hl 3 rfl) ?_
      refine lv_aload_n hx hb dX4_ofSongNow_18 rfl (lv_at hl 0 rfl) ?_
      refine gf (v := .ref (β 1 0)) (C := RX4) (T := TX4) (N := 13) (k := 3) hx hb hts hown hG cl_X4 in_X4 hM.ag (by decide) q1543 rfl dX4_ofSongNow_19 ?_
      refine lv_iload hx hb dX4_ofSongNow_22 (lv_at hl 4 rfl) ?_
      refine pcV (As := [.int (nI i4)]) (rest := [.int (a3)]) hS0 (met_ml_get l D E (j := 0) (by decide) i4 hki4) q1639 q349 q2082 q103 q351 hd_J2_get ⟨Nat.le_of_ble_eq_true rfl, Nat.le_of_ble_eq_true rfl⟩ hG (hM.lsR hG (j := 0) (by decide)) hM rfl hl.1 rfl (Nat.le_of_ble_eq_true rfl) dX4_ofSongNow_24 ⟨Nat.le_refl _, Nat.le_refl _⟩ ?_
      refine W.eq (g2 := F0 m 27 ls [.ref (β 3 i4), .int (a3)]) rfl ?_
      refine gc (ci := 6) hx hb hown hG cl_X7 (rcv hG cl_X7 (hM.pl hki4)) (hts _ q1601) dX4_ofSongNow_27 ?_
      refine gfN (v := .int (pSongs σ i4)) (C := RX7) (T := TX7) (N := 7) (k := 1) hx hb hts hown hG cl_X7 in_X7 (hM.pl hki4) (by decide) q1608 rfl dX4_ofSongNow_30 ?_
      refine lv_iload_n hx hb dX4_ofSongNow_33 rfl (lv_at hl 1 rfl) ?_
      refine pcS (As := [.int (pSongs σ i4), .int (nI q)]) (rest := [.int (a3)]) hS0 (met_X4_isIn l D E (pSongs σ i4) (nI q)) q1654 q1655 q110 q1656 hd_X4_isIn ⟨Nat.le_of_ble_eq_true rfl, Nat.le_of_ble_eq_true rfl⟩ hG trivial rfl hl.1 rfl (Nat.le_of_ble_eq_true rfl) dX4_ofSongNow_34 ⟨Nat.le_refl _, Nat.le_refl _⟩ ?_
      refine W.eq (g2 := F0 m 37 ls [.int (bI ((fX4_isIn (pSongs σ i4) (nI q)))), .int (a3)]) rfl ?_
      refine lb_if_eq (tgt := 44) hx hb dX4_ofSongNow_37 (by decide) (fun c1 => ?_) (fun c1 => ?_)
      · rw [if_neg c1] at hR
        refine lv_iconst (v := 0) hx hb dX4_ofSongNow_44 (by decide) ?_
        refine lv_iadd hx hb dX4_ofSongNow_45 ?_
        refine lv_istore_n (lv' := [(3, .int (a3 + 0)), (0, .ref (β 0 0)), (1, .int (nI q)), (2, .int (z)), (4, .int (nI i4))]) hx hb dX4_ofSongNow_46 rfl hl (Nat.le_of_ble_eq_true rfl) rfl (fun ls hl => ?_)
        refine lv_iinc (v := nI (i4 + 1)) (lv' := [(4, .int (nI (i4 + 1))), (3, .int (a3 + 0)), (0, .ref (β 0 0)), (1, .int (nI q)), (2, .int (z))]) hx hb dX4_ofSongNow_47 hl (k := 4) rfl (nI_1 i4) (Nat.le_of_ble_eq_true rfl) rfl (fun ls hl => ?_)
        refine lv_goto (tgt := 5) hx hb dX4_ofSongNow_50 (by decide) ?_
        exact ih (i4 + 1) (a3 + 0) (lk_st hn) hR ls (lv_sub hl [2, 3, 4, 1, 0] rfl)
      · rw [if_pos c1] at hR
        refine lv_iconst (v := 1) hx hb dX4_ofSongNow_40 (by decide) ?_
        refine lv_goto (tgt := 45) hx hb dX4_ofSongNow_41 (by decide) ?_
        refine lv_iadd hx hb dX4_ofSongNow_45 ?_
        refine lv_istore_n (lv' := [(3, .int (a3 + 1)), (0, .ref (β 0 0)), (1, .int (nI q)), (2, .int (z)), (4, .int (nI i4))]) hx hb dX4_ofSongNow_46 rfl hl (Nat.le_of_ble_eq_true rfl) rfl (fun ls hl => ?_)
        refine lv_iinc (v := nI (i4 + 1)) (lv' := [(4, .int (nI (i4 + 1))), (3, .int (a3 + 1)), (0, .ref (β 0 0)), (1, .int (nI q)), (2, .int (z))]) hx hb dX4_ofSongNow_47 hl (k := 4) rfl (nI_1 i4) (Nat.le_of_ble_eq_true rfl) rfl (fun ls hl => ?_)
        refine lv_goto (tgt := 5) hx hb dX4_ofSongNow_50 (by decide) ?_
        exact ih (i4 + 1) (a3 + 1) (lk_st hn) hR ls (lv_sub hl [2, 3, 4, 1, 0] rfl)
  unfold fX4_ofSongNow at hR
  refine lv_iconst (v := 0) hx hb dX4_ofSongNow_0 (by decide) ?_
  refine lv_istore_n (lv' := [(3, .int 0), (0, .ref (β 0 0)), (1, .int (nI q)), (2, .int (z))]) hx hb dX4_ofSongNow_1 rfl hl (Nat.le_of_ble_eq_true rfl) rfl (fun ls hl => ?_)
  refine lv_iconst (v := 0) hx hb dX4_ofSongNow_2 (by decide) ?_
  refine lv_istore (lv' := [(4, .int 0), (3, .int 0), (0, .ref (β 0 0)), (1, .int (nI q)), (2, .int (z))]) hx hb dX4_ofSongNow_3 hl (Nat.le_of_ble_eq_true rfl) rfl (fun ls hl => ?_)
  refine hL5  _ (fun a2 ls hR hl => ?_) (nP σ) 0 0 (Nat.zero_add _) hR ls (lv_sub hl [2, 3, 4, 1, 0] rfl)
  refine lv_iload_n hx hb dX4_ofSongNow_53 rfl (lv_at hl 2 rfl) ?_
  by_cases c3 : z = 0
  · rw [if_pos c3] at hR
    refine lv_eq c3 ?_
    refine lv_tableIn (x := 0) (off := 34) (tgt := 88) hx hb dX4_ofSongNow_54 (by decide) (by decide) (by decide) (by decide) ?_
    refine lv_aload_n hx hb dX4_ofSongNow_88 rfl (lv_at hl 0 rfl) ?_
    refine gf (v := .ref (β 8 0)) (C := RX4) (T := TX4) (N := 13) (k := 6) hx hb hts hown hG cl_X4 in_X4 hM.ag (by decide) q1546 rfl dX4_ofSongNow_89 ?_
    refine lv_iload_n hx hb dX4_ofSongNow_92 rfl (lv_at hl 1 rfl) ?_
    refine gaI (N := 16) (k := q) hx hb hG hM.ar0 h_q (by decide) dX4_ofSongNow_93 ?_
    exact p_iret hx hb hr hlocks dX4_ofSongNow_94 (by rw [← hR])
  rw [if_neg c3] at hR
  by_cases c4 : z = 1
  · rw [if_pos c4] at hR
    refine lv_eq c4 ?_
    refine lv_tableIn (x := 1) (off := 41) (tgt := 95) hx hb dX4_ofSongNow_54 (by decide) (by decide) (by decide) (by decide) ?_
    refine lv_aload_n hx hb dX4_ofSongNow_95 rfl (lv_at hl 0 rfl) ?_
    refine gf (v := .ref (β 8 1)) (C := RX4) (T := TX4) (N := 13) (k := 7) hx hb hts hown hG cl_X4 in_X4 hM.ag (by decide) q1547 rfl dX4_ofSongNow_96 ?_
    refine lv_iload_n hx hb dX4_ofSongNow_99 rfl (lv_at hl 1 rfl) ?_
    refine gaI (N := 16) (k := q) hx hb hG hM.ar1 h_q (by decide) dX4_ofSongNow_100 ?_
    exact p_iret hx hb hr hlocks dX4_ofSongNow_101 (by rw [← hR])
  rw [if_neg c4] at hR
  by_cases c5 : z = 2
  · rw [if_pos c5] at hR
    refine lv_eq c5 ?_
    refine lv_tableIn (x := 2) (off := 48) (tgt := 102) hx hb dX4_ofSongNow_54 (by decide) (by decide) (by decide) (by decide) ?_
    refine lv_aload_n hx hb dX4_ofSongNow_102 rfl (lv_at hl 0 rfl) ?_
    refine gf (v := .ref (β 8 2)) (C := RX4) (T := TX4) (N := 13) (k := 8) hx hb hts hown hG cl_X4 in_X4 hM.ag (by decide) q1548 rfl dX4_ofSongNow_103 ?_
    refine lv_iload_n hx hb dX4_ofSongNow_106 rfl (lv_at hl 1 rfl) ?_
    refine gaI (N := 16) (k := q) hx hb hG hM.ar2 h_q (by decide) dX4_ofSongNow_107 ?_
    exact p_iret hx hb hr hlocks dX4_ofSongNow_108 (by rw [← hR])
  rw [if_neg c5] at hR
  by_cases c6 : z = 3
  · rw [if_pos c6] at hR
    refine lv_eq c6 ?_
    refine lv_tableIn (x := 3) (off := 55) (tgt := 109) hx hb dX4_ofSongNow_54 (by decide) (by decide) (by decide) (by decide) ?_
    refine lv_aload_n hx hb dX4_ofSongNow_109 rfl (lv_at hl 0 rfl) ?_
    refine gf (v := .ref (β 8 3)) (C := RX4) (T := TX4) (N := 13) (k := 9) hx hb hts hown hG cl_X4 in_X4 hM.ag (by decide) q1549 rfl dX4_ofSongNow_110 ?_
    refine lv_iload_n hx hb dX4_ofSongNow_113 rfl (lv_at hl 1 rfl) ?_
    refine gaI (N := 16) (k := q) hx hb hG hM.ar3 h_q (by decide) dX4_ofSongNow_114 ?_
    exact p_iret hx hb hr hlocks dX4_ofSongNow_115 (by rw [← hR])
  rw [if_neg c6] at hR
  by_cases c7 : z = 4
  · rw [if_pos c7] at hR
    refine lv_eq c7 ?_
    refine lv_tableIn (x := 4) (off := 62) (tgt := 116) hx hb dX4_ofSongNow_54 (by decide) (by decide) (by decide) (by decide) ?_
    refine lv_aload_n hx hb dX4_ofSongNow_116 rfl (lv_at hl 0 rfl) ?_
    refine lv_iload_n hx hb dX4_ofSongNow_117 rfl (lv_at hl 1 rfl) ?_
    refine pcV (As := [.int (nI q)]) (rest := []) hS0 (met_X4_share l D E q h_q) q1929 q1931 qs87 q110 q1932 hd_X4_share ⟨Nat.le_of_ble_eq_true rfl, Nat.le_of_ble_eq_true rfl⟩ hG (rcv hG cl_X4 hM.ag) hM rfl hl.1 rfl (Nat.le_of_ble_eq_true rfl) dX4_ofSongNow_118 ⟨Nat.le_refl _, Nat.le_refl _⟩ ?_
    refine W.eq (g2 := F0 m 121 ls [.int ((fX4_share σ q))]) rfl ?_
    exact p_iret hx hb hr hlocks dX4_ofSongNow_121 (by rw [← hR])
  rw [if_neg c7] at hR
  refine lv_tableOut (tgt := 122) hx hb dX4_ofSongNow_54 (sw_out (lo := 0) (hi := 4) (by decide) (by decide) (fun z h1 h2 => by rcases (show z = 0 ∨ z = 1 ∨ z = 2 ∨ z = 3 ∨ z = 4 by omega) with rfl | rfl | rfl | rfl | rfl <;> first | exact c3 | exact c4 | exact c5 | exact c6 | exact c7)) (by decide) ?_
  refine lv_iload_n hx hb dX4_ofSongNow_122 rfl (lv_at hl 3 rfl) ?_
  exact p_iret hx hb hr hlocks dX4_ofSongNow_123 (by rw [← hR])

def fX4_isBetter (σ : St) (a : Int32) (bb : Int32) (hd : Int32) (wi : Nat) : Bool :=
  (if 0 < ((nI (popc (a &&& hd))) - (nI (popc (bb &&& hd)))) then true else (if ((nI (popc (a &&& hd))) - (nI (popc (bb &&& hd)))) = 0 then (if ((fX4_costOf σ bb wi)) ≤ ((fX4_costOf σ a wi)) then false else true) else false))
set_option maxHeartbeats 4000000 in
set_option maxRecDepth 100000 in
theorem met_X4_isBetter (l : Launch) (D : va_G) (E : Nat → Nat) {β : Nat → Nat → Nat} {F : Nat → Prop} {σ : St} {th ca : Int32} {sm : Int64} (a : Int32) (bb : Int32) (hd : Int32) (wi : Nat) (h_wi : wi < nW σ) : PM l D E yX4_isBetter cX4_isBetter 6 (Option.some Jvm.ClassFile.FieldType.boolean) 5 112 [.ref (β 0 0), .int (a), .int (bb), .int (hd), .ref (β 5 wi)] (RM D E β F σ th ca sm) (some (.int (bI (fX4_isBetter σ a bb hd wi)))) := by
  generalize hR : fX4_isBetter σ a bb hd wi = r
  refine PM.start (by decide) (Nat.le_of_ble_eq_true rfl) ?_
  intro p e s m below meth c ls hx hb hr hml hown hlocks hts hG hM hl
  have hown : s.vm.findClass RX4 = some m.cls := hown
  have hS0 : xS p m c cX4_isBetter 6 s _ RX4 := ⟨hx, hb, hml, hown, hts⟩
  have hl : lv_has ls 6 [(0, .ref (β 0 0)), (1, .int (a)), (2, .int (bb)), (3, .int (hd)), (4, .ref (β 5 wi))] := hl
  unfold fX4_isBetter at hR
  refine lv_iload_n hx hb dX4_isBetter_0 rfl (lv_at hl 1 rfl) ?_
  refine lv_iload_n hx hb dX4_isBetter_1 rfl (lv_at hl 3 rfl) ?_
  refine lv_iand hx hb dX4_isBetter_2 ?_
  refine pcS (As := [.int (a &&& hd)]) (rest := []) hS0 (met_bitCount l D E (a &&& hd)) q1640 q1641 q125 q1642 hd_J17_bitCount ⟨Nat.le_of_ble_eq_true rfl, Nat.le_of_ble_eq_true rfl⟩ hG trivial rfl hl.1 rfl (Nat.le_of_ble_eq_true rfl) dX4_isBetter_3 ⟨Nat.le_refl _, Nat.le_refl _⟩ ?_
  refine W.eq (g2 := F0 m 6 ls [.int (nI (popc (a &&& hd)))]) rfl ?_
  refine lv_iload_n hx hb dX4_isBetter_6 rfl (lv_at hl 2 rfl) ?_
  refine lv_iload_n hx hb dX4_isBetter_7 rfl (lv_at hl 3 rfl) ?_
  refine lv_iand hx hb dX4_isBetter_8 ?_
  refine pcS (As := [.int (bb &&& hd)]) (rest := [.int (nI (popc (a &&& hd)))]) hS0 (met_bitCount l D E (bb &&& hd)) q1640 q1641 q125 q1642 hd_J17_bitCount ⟨Nat.le_of_ble_eq_true rfl, Nat.le_of_ble_eq_true rfl⟩ hG trivial rfl hl.1 rfl (Nat.le_of_ble_eq_true rfl) dX4_isBetter_9 ⟨Nat.le_refl _, Nat.le_refl _⟩ ?_
  refine W.eq (g2 := F0 m 12 ls [.int (nI (popc (bb &&& hd))), .int (nI (popc (a &&& hd)))]) rfl ?_
  refine lv_isub hx hb dX4_isBetter_12 ?_
  refine lv_istore (lv' := [(5, .int ((nI (popc (a &&& hd))) - (nI (popc (bb &&& hd))))), (0, .ref (β 0 0)), (1, .int (a)), (2, .int (bb)), (3, .int (hd)), (4, .ref (β 5 wi))]) hx hb dX4_isBetter_13 hl (Nat.le_of_ble_eq_true rfl) rfl (fun ls hl => ?_)
  refine lv_iload hx hb dX4_isBetter_15 (lv_at hl 0 rfl) ?_
  refine lv_if_gt (tgt := 42) hx hb dX4_isBetter_17 (by decide) (fun c1 => ?_) (fun c1 => ?_)
  · rw [if_pos c1] at hR
    refine lv_iconst (v := 1) hx hb dX4_isBetter_42 (by decide) ?_
    refine lv_goto (tgt := 47) hx hb dX4_isBetter_43 (by decide) ?_
    exact p_zret (b := true) hx hb hr hlocks dX4_isBetter_47 rfl (by rw [← hR])
  · rw [if_neg c1] at hR
    refine lv_iload hx hb dX4_isBetter_20 (lv_at hl 0 rfl) ?_
    refine lv_if_ne (tgt := 46) hx hb dX4_isBetter_22 (by decide) (fun c2 => ?_) (fun c2 => ?_)
    · rw [if_neg c2] at hR
      refine lv_iconst (v := 0) hx hb dX4_isBetter_46 (by decide) ?_
      exact p_zret (b := false) hx hb hr hlocks dX4_isBetter_47 rfl (by rw [← hR])
    · rw [if_pos c2] at hR
      refine lv_aload_n hx hb dX4_isBetter_25 rfl (lv_at hl 1 rfl) ?_
      refine lv_iload_n hx hb dX4_isBetter_26 rfl (lv_at hl 2 rfl) ?_
      refine lv_aload hx hb dX4_isBetter_27 (lv_at hl 5 rfl) ?_
      refine pcV (As := [.int (a), .ref (β 5 wi)]) (rest := []) hS0 (met_X4_costOf l D E a wi h_wi) q1791 q1793 qs73 q110 q1794 hd_X4_costOf ⟨Nat.le_of_ble_eq_true rfl, Nat.le_of_ble_eq_true rfl⟩ hG (rcv hG cl_X4 hM.ag) hM rfl hl.1 rfl (Nat.le_of_ble_eq_true rfl) dX4_isBetter_29 ⟨Nat.le_refl _, Nat.le_refl _⟩ ?_
      refine W.eq (g2 := F0 m 32 ls [.int ((fX4_costOf σ a wi))]) rfl ?_
      refine lv_aload_n hx hb dX4_isBetter_32 rfl (lv_at hl 1 rfl) ?_
      refine lv_iload_n hx hb dX4_isBetter_33 rfl (lv_at hl 3 rfl) ?_
      refine lv_aload hx hb dX4_isBetter_34 (lv_at hl 5 rfl) ?_
      refine pcV (As := [.int (bb), .ref (β 5 wi)]) (rest := [.int ((fX4_costOf σ a wi))]) hS0 (met_X4_costOf l D E bb wi h_wi) q1791 q1793 qs73 q110 q1794 hd_X4_costOf ⟨Nat.le_of_ble_eq_true rfl, Nat.le_of_ble_eq_true rfl⟩ hG (rcv hG cl_X4 hM.ag) hM rfl hl.1 rfl (Nat.le_of_ble_eq_true rfl) dX4_isBetter_36 ⟨Nat.le_refl _, Nat.le_refl _⟩ ?_
      refine W.eq (g2 := F0 m 39 ls [.int ((fX4_costOf σ bb wi)), .int ((fX4_costOf σ a wi))]) rfl ?_
      refine lv_icmp_ge (tgt := 46) hx hb dX4_isBetter_39 (by decide) (fun c3 => ?_) (fun c3 => ?_)
      · rw [if_pos c3] at hR
        refine lv_iconst (v := 0) hx hb dX4_isBetter_46 (by decide) ?_
        exact p_zret (b := false) hx hb hr hlocks dX4_isBetter_47 rfl (by rw [← hR])
      · rw [if_neg c3] at hR
        refine lv_iconst (v := 1) hx hb dX4_isBetter_42 (by decide) ?_
        refine lv_goto (tgt := 47) hx hb dX4_isBetter_43 (by decide) ?_
        exact p_zret (b := true) hx hb hr hlocks dX4_isBetter_47 rfl (by rw [← hR])

