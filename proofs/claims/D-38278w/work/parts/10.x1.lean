/-! lists that are read; small methods -/
set_option maxRecDepth 100000
set_option maxHeartbeats 4000000 in
set_option maxRecDepth 100000 in
theorem met_J15_checkIndex (l : Launch) (D : va_G) (E : Nat → Nat) (k : Nat) (n : Nat) (hkn : k < n) (hnb : n < 2 ^ 31) : PM l D E yJ15_checkIndex cJ15_checkIndex 3 (Option.some Jvm.ClassFile.FieldType.int) 0 0 [.int (nI k), .int (nI n), .null] (fun _ => True) (some (.int (nI k))) := by
  refine PM.start (by decide) (Nat.le_of_ble_eq_true rfl) ?_
  intro p e s m below meth c ls hx hb hr hml hown hlocks hts hG hTriv hl
  have hown : s.vm.findClass RJ15 = some m.cls := hown
  have hS0 : xS p m c cJ15_checkIndex 3 s _ RJ15 := ⟨hx, hb, hml, hown, hts⟩
  have hl : lv_has ls 3 [(0, .int (nI k)), (1, .int (nI n)), (2, .null)] := hl
  refine lv_iload_n hx hb dJ15_checkIndex_0 rfl (lv_at hl 0 rfl) ?_
  refine lv_if_lt (tgt := 9) hx hb dJ15_checkIndex_1 (by decide) (fun c9 => absurd c9 (nI_pos (by omega))) (fun _ => ?_)
  refine lv_iload_n hx hb dJ15_checkIndex_4 rfl (lv_at hl 0 rfl) ?_
  refine lv_iload_n hx hb dJ15_checkIndex_5 rfl (lv_at hl 1 rfl) ?_
  refine lv_icmp_lt (tgt := 16) hx hb dJ15_checkIndex_6 (by decide) (fun _ => ?_) (fun c9 => absurd (nI_lt hkn hnb) c9)
  refine lv_iload_n hx hb dJ15_checkIndex_16 rfl (lv_at hl 0 rfl) ?_
  exact p_iret hx hb hr hlocks dJ15_checkIndex_17 rfl

set_option maxHeartbeats 4000000 in
set_option maxRecDepth 100000 in
theorem met_J14_checkIndex (l : Launch) (D : va_G) (E : Nat → Nat) (k : Nat) (n : Nat) (hkn : k < n) (hnb : n < 2 ^ 31) : PM l D E yJ14_checkIndex cJ14_checkIndex 2 (Option.some Jvm.ClassFile.FieldType.int) 1 22 [.int (nI k), .int (nI n)] (fun _ => True) (some (.int (nI k))) := by
  refine PM.start (by decide) (Nat.le_of_ble_eq_true rfl) ?_
  intro p e s m below meth c ls hx hb hr hml hown hlocks hts hG hTriv hl
  have hown : s.vm.findClass RJ14 = some m.cls := hown
  have hS0 : xS p m c cJ14_checkIndex 2 s _ RJ14 := ⟨hx, hb, hml, hown, hts⟩
  have hl : lv_has ls 2 [(0, .int (nI k)), (1, .int (nI n))] := hl
  refine lv_iload_n hx hb dJ14_checkIndex_0 rfl (lv_at hl 0 rfl) ?_
  refine lv_iload_n hx hb dJ14_checkIndex_1 rfl (lv_at hl 1 rfl) ?_
  refine lv_null hx hb dJ14_checkIndex_2 ?_
  refine pcS (As := [.int (nI k), .int (nI n), .null]) (rest := []) hS0 (met_J15_checkIndex l D E k n hkn hnb) q355 q356 q123 q357 hd_J15_checkIndex ⟨Nat.le_of_ble_eq_true rfl, Nat.le_of_ble_eq_true rfl⟩ hG trivial rfl hl.1 rfl (Nat.le_of_ble_eq_true rfl) dJ14_checkIndex_3 ⟨Nat.le_refl _, Nat.le_refl _⟩ ?_
  refine W.eq (g2 := F0 m 6 ls [.int (nI k)]) rfl ?_
  exact p_iret hx hb hr hlocks dJ14_checkIndex_6 rfl

set_option maxHeartbeats 4000000 in
set_option maxRecDepth 100000 in
theorem met_J2_size (l : Launch) (D : va_G) (E : Nat → Nat) {lst arr n cap : Nat} {mc : Int32} {g : Nat → Option Nat}   : PM l D E yJ2_size cJ2_size 1 (Option.some Jvm.ClassFile.FieldType.int) 0 0 [.ref (lst)] (LR D E lst arr n cap mc g) (some (.int (nI n))) := by
  refine PM.start (by decide) (Nat.le_of_ble_eq_true rfl) ?_
  intro p e s m below meth c ls hx hb hr hml hown hlocks hts hG hL hl
  have hown : s.vm.findClass RJ2 = some m.cls := hown
  have hS0 : xS p m c cJ2_size 1 s _ RJ2 := ⟨hx, hb, hml, hown, hts⟩
  have hl : lv_has ls 1 [(0, .ref (lst))] := hl
  refine lv_aload_n hx hb dJ2_size_0 rfl (lv_at hl 0 rfl) ?_
  refine gf (v := .int (nI n)) (C := RJ2) (T := TJ2) (N := 3) (k := 2) hx hb hts hown hG cl_J2 in_J2 hL.1 (by decide) q166 rfl dJ2_size_1 ?_
  exact p_iret hx hb hr hlocks dJ2_size_4 rfl

set_option maxHeartbeats 4000000 in
set_option maxRecDepth 100000 in
theorem met_J2_elementData (l : Launch) (D : va_G) (E : Nat → Nat) {lst arr n cap : Nat} {mc : Int32} {g : Nat → Option Nat} (k z : Nat) (hk : k < n) (hz : g k = some z) : PM l D E yJ2_elementData cJ2_elementData 2 (Option.some (Jvm.ClassFile.FieldType.object "java/lang/Object")) 0 0 [.ref (lst), .int (nI k)] (LR D E lst arr n cap mc g) (some (.ref z)) := by
  refine PM.start (by decide) (Nat.le_of_ble_eq_true rfl) ?_
  intro p e s m below meth c ls hx hb hr hml hown hlocks hts hG hL hl
  have hown : s.vm.findClass RJ2 = some m.cls := hown
  have hS0 : xS p m c cJ2_elementData 2 s _ RJ2 := ⟨hx, hb, hml, hown, hts⟩
  have hl : lv_has ls 2 [(0, .ref (lst)), (1, .int (nI k))] := hl
  refine lv_aload_n hx hb dJ2_elementData_0 rfl (lv_at hl 0 rfl) ?_
  refine gf (v := .ref (arr)) (C := RJ2) (T := TJ2) (N := 3) (k := 1) hx hb hts hown hG cl_J2 in_J2 hL.1 (by decide) q163 rfl dJ2_elementData_1 ?_
  refine lv_iload_n hx hb dJ2_elementData_4 rfl (lv_at hl 1 rfl) ?_
  refine gaQ (N := cap) (k := k) hx hb hG (hL.arr (by omega)) (Nat.lt_of_lt_of_le hk hL.le) hL.capB hz dJ2_elementData_5 ?_
  exact p_aret hx hb hr (Or.inl ⟨_, rfl⟩) hlocks dJ2_elementData_6 rfl

set_option maxHeartbeats 4000000 in
set_option maxRecDepth 100000 in
theorem met_J2_get (l : Launch) (D : va_G) (E : Nat → Nat) {lst arr n cap : Nat} {mc : Int32} {g : Nat → Option Nat} (k z : Nat) (hk : k < n) (hz : g k = some z) : PM l D E yJ2_get cJ2_get 2 (Option.some (Jvm.ClassFile.FieldType.object "java/lang/Object")) 2 43 [.ref (lst), .int (nI k)] (LR D E lst arr n cap mc g) (some (.ref z)) := by
  refine PM.start (by decide) (Nat.le_of_ble_eq_true rfl) ?_
  intro p e s m below meth c ls hx hb hr hml hown hlocks hts hG hL hl
  have hown : s.vm.findClass RJ2 = some m.cls := hown
  have hS0 : xS p m c cJ2_get 2 s _ RJ2 := ⟨hx, hb, hml, hown, hts⟩
  have hl : lv_has ls 2 [(0, .ref (lst)), (1, .int (nI k))] := hl
  refine lv_iload_n hx hb dJ2_get_0 rfl (lv_at hl 1 rfl) ?_
  refine lv_aload_n hx hb dJ2_get_1 rfl (lv_at hl 0 rfl) ?_
  refine gf (v := .int (nI n)) (C := RJ2) (T := TJ2) (N := 3) (k := 2) hx hb hts hown hG cl_J2 in_J2 hL.1 (by decide) q166 rfl dJ2_get_2 ?_
  refine pcS (As := [.int (nI k), .int (nI n)]) (rest := []) hS0 (met_J14_checkIndex l D E k n hk hL.nB) q352 q353 q122 q354 hd_J14_checkIndex ⟨Nat.le_of_ble_eq_true rfl, Nat.le_of_ble_eq_true rfl⟩ hG trivial rfl hl.1 rfl (Nat.le_of_ble_eq_true rfl) dJ2_get_5 ⟨Nat.le_refl _, Nat.le_refl _⟩ ?_
  refine W.eq (g2 := F0 m 8 ls [.int (nI k)]) rfl ?_
  refine lv_pop hx hb dJ2_get_8 rfl ?_
  refine lv_aload_n hx hb dJ2_get_9 rfl (lv_at hl 0 rfl) ?_
  refine lv_iload_n hx hb dJ2_get_10 rfl (lv_at hl 1 rfl) ?_
  refine pcV (As := [.int (nI k)]) (rest := []) hS0 (met_J2_elementData l D E k z hk hz) q358 q359 q360 q103 q361 hd_J2_elementData ⟨Nat.le_of_ble_eq_true rfl, Nat.le_of_ble_eq_true rfl⟩ hG (rcv hG cl_J2 hL.1) hL rfl hl.1 rfl (Nat.le_of_ble_eq_true rfl) dJ2_get_11 ⟨Nat.le_refl _, Nat.le_refl _⟩ ?_
  refine W.eq (g2 := F0 m 14 ls [.ref (z)]) rfl ?_
  exact p_aret hx hb hr (Or.inl ⟨_, rfl⟩) hlocks dJ2_get_14 rfl

theorem met_xl_size (l : Launch) (D : va_G) (E : Nat → Nat) {α : Nat → Nat → Nat} {F : Nat → Prop} {σ : St} {j : Nat} (hj : j < 4) : PM l D E yJ2_size cJ2_size 1 (Option.some Jvm.ClassFile.FieldType.int) 0 0 [.ref (α 1 j)] (RX D E α F σ) (some (.int (nI (xCnt σ j)))) :=
  PM.ex (ι := Nat × Nat × Nat × Nat × Int32 × (Nat → Option Nat)) (P2 := fun x H => LR D E (α 1 j) x.1 (xCnt σ j) x.2.2.1 x.2.2.2.2.1 x.2.2.2.2.2 H) (fun x => met_J2_size l D E) (fun H h => by
    obtain ⟨cap, mc, g, h1, -⟩ := h.ls hj
    exact ⟨(α 2 j, 0, cap, 0, mc, g), h1⟩)
theorem met_xl_get (l : Launch) (D : va_G) (E : Nat → Nat) {α : Nat → Nat → Nat} {F : Nat → Prop} {σ : St} {j : Nat} (hj : j < 4) (k : Nat) (hk : k < xCnt σ j) : PM l D E yJ2_get cJ2_get 2 (Option.some (Jvm.ClassFile.FieldType.object "java/lang/Object")) 2 43 [.ref (α 1 j), .int (nI k)] (RX D E α F σ) (some (.ref (α (xEl j) k))) :=
  PM.ex (ι := { x : Nat × Nat × Int32 × (Nat → Option Nat) // x.2.2.2 k = some (α (xEl j) k) }) (P2 := fun x H => LR D E (α 1 j) x.1.1 (xCnt σ j) x.1.2.1 x.1.2.2.1 x.1.2.2.2 H) (fun x => met_J2_get l D E k _ hk x.2) (fun H h => by
    obtain ⟨cap, mc, g, h1, h2⟩ := h.ls hj
    exact ⟨⟨(α 2 j, cap, mc, g), h2 k hk⟩, h1⟩)

def fX1_has (a : Int32) (k : Int32) : Bool :=
  (if ((a >>> (k &&& 31)) &&& 1) = 1 then true else false)
set_option maxHeartbeats 4000000 in
set_option maxRecDepth 100000 in
theorem met_X1_has (l : Launch) (D : va_G) (E : Nat → Nat) (a : Int32) (k : Int32)  : PM l D E yX1_has cX1_has 2 (Option.some Jvm.ClassFile.FieldType.boolean) 0 0 [.int (a), .int (k)] (fun _ => True) (some (.int (bI (fX1_has a k)))) := by
  generalize hR : fX1_has a k = r
  refine PM.start (by decide) (Nat.le_of_ble_eq_true rfl) ?_
  intro p e s m below meth c ls hx hb hr hml hown hlocks hts hG hTriv hl
  have hown : s.vm.findClass RX1 = some m.cls := hown
  have hS0 : xS p m c cX1_has 2 s _ RX1 := ⟨hx, hb, hml, hown, hts⟩
  have hl : lv_has ls 2 [(0, .int (a)), (1, .int (k))] := hl
  unfold fX1_has at hR
  refine lv_iload_n hx hb dX1_has_0 rfl (lv_at hl 0 rfl) ?_
  refine lv_iload_n hx hb dX1_has_1 rfl (lv_at hl 1 rfl) ?_
  refine lv_ishr hx hb dX1_has_2 ?_
  refine lv_iconst (v := 1) hx hb dX1_has_3 (by decide) ?_
  refine lv_iand hx hb dX1_has_4 ?_
  refine lv_iconst (v := 1) hx hb dX1_has_5 (by decide) ?_
  refine lv_icmp_ne (tgt := 13) hx hb dX1_has_6 (by decide) (fun c1 => ?_) (fun c1 => ?_)
  · rw [if_neg c1] at hR
    refine lv_iconst (v := 0) hx hb dX1_has_13 (by decide) ?_
    exact p_zret (b := false) hx hb hr hlocks dX1_has_14 rfl (by rw [← hR])
  · rw [if_pos c1] at hR
    refine lv_iconst (v := 1) hx hb dX1_has_9 (by decide) ?_
    refine lv_goto (tgt := 14) hx hb dX1_has_10 (by decide) ?_
    exact p_zret (b := true) hx hb hr hlocks dX1_has_14 rfl (by rw [← hR])

def fX10_is (σ : St) (wi : Nat) (xi : Nat) : Bool :=
  (if wState σ wi = xi then true else false)
set_option maxHeartbeats 4000000 in
set_option maxRecDepth 100000 in
theorem met_X10_is (l : Launch) (D : va_G) (E : Nat → Nat) {α : Nat → Nat → Nat} {F : Nat → Prop} {σ : St} (wi : Nat) (xi : Nat) (h_wi : wi < nW σ) (h_xi : xi < 4) : PM l D E yX10_is cX10_is 2 (Option.some Jvm.ClassFile.FieldType.boolean) 0 0 [.ref (α 5 wi), .ref (E (10 + xi))] (RX D E α F σ) (some (.int (bI (fX10_is σ wi xi)))) := by
  generalize hR : fX10_is σ wi xi = r
  refine PM.start (by decide) (Nat.le_of_ble_eq_true rfl) ?_
  intro p e s m below meth c ls hx hb hr hml hown hlocks hts hG hX hl
  have hown : s.vm.findClass RX10 = some m.cls := hown
  have hS0 : xS p m c cX10_is 2 s _ RX10 := ⟨hx, hb, hml, hown, hts⟩
  have hl : lv_has ls 2 [(0, .ref (α 5 wi)), (1, .ref (E (10 + xi)))] := hl
  unfold fX10_is at hR
  refine lv_aload_n hx hb dX10_is_0 rfl (lv_at hl 0 rfl) ?_
  refine gf (v := .ref (E (10 + wState σ wi))) (C := RX10) (T := TX10) (N := 12) (k := 7) hx hb hts hown hG cl_X10 in_X10 (hX.wd h_wi) (by decide) q1024 rfl dX10_is_1 ?_
  refine lv_aload_n hx hb dX10_is_4 rfl (lv_at hl 1 rfl) ?_
  refine ge_acmp_ne (i := wState σ wi) (j := xi) (tgt := 12) hx hb hG (hX.state h_wi) h_xi dX10_is_5 (by decide) (fun c1 => ?_) (fun c1 => ?_)
  · rw [if_neg c1] at hR
    refine lv_iconst (v := 0) hx hb dX10_is_12 (by decide) ?_
    exact p_zret (b := false) hx hb hr hlocks dX10_is_13 rfl (by rw [← hR])
  · rw [if_pos c1] at hR
    refine lv_iconst (v := 1) hx hb dX10_is_8 (by decide) ?_
    refine lv_goto (tgt := 13) hx hb dX10_is_9 (by decide) ?_
    exact p_zret (b := true) hx hb hr hlocks dX10_is_13 rfl (by rw [← hR])

def fX10_end (σ : St) (wi : Nat) : Int32 :=
  (wStart σ wi) + (wLen σ wi)
set_option maxHeartbeats 4000000 in
set_option maxRecDepth 100000 in
theorem met_X10_end (l : Launch) (D : va_G) (E : Nat → Nat) {α : Nat → Nat → Nat} {F : Nat → Prop} {σ : St} (wi : Nat) (h_wi : wi < nW σ) : PM l D E yX10_end cX10_end 1 (Option.some Jvm.ClassFile.FieldType.int) 0 0 [.ref (α 5 wi)] (RX D E α F σ) (some (.int (fX10_end σ wi))) := by
  generalize hR : fX10_end σ wi = r
  refine PM.start (by decide) (Nat.le_of_ble_eq_true rfl) ?_
  intro p e s m below meth c ls hx hb hr hml hown hlocks hts hG hX hl
  have hown : s.vm.findClass RX10 = some m.cls := hown
  have hS0 : xS p m c cX10_end 1 s _ RX10 := ⟨hx, hb, hml, hown, hts⟩
  have hl : lv_has ls 1 [(0, .ref (α 5 wi))] := hl
  unfold fX10_end at hR
  refine lv_aload_n hx hb dX10_end_0 rfl (lv_at hl 0 rfl) ?_
  refine gf (v := .int (wStart σ wi)) (C := RX10) (T := TX10) (N := 12) (k := 3) hx hb hts hown hG cl_X10 in_X10 (hX.wd h_wi) (by decide) q1015 rfl dX10_end_1 ?_
  refine lv_aload_n hx hb dX10_end_4 rfl (lv_at hl 0 rfl) ?_
  refine gf (v := .int (wLen σ wi)) (C := RX10) (T := TX10) (N := 12) (k := 4) hx hb hts hown hG cl_X10 in_X10 (hX.wd h_wi) (by decide) q1017 rfl dX10_end_5 ?_
  refine lv_iadd hx hb dX10_end_8 ?_
  exact p_iret hx hb hr hlocks dX10_end_9 (by rw [← hR])

def fX10_isQueued (σ : St) (wi : Nat) (bn : Int32) (dn : Int32) : Bool :=
  (if ((fX10_is σ wi 0)) = true then (if (nI (wBand σ wi)) = bn then (if (nI (wDay σ wi)) = dn then true else false) else false) else false)
set_option maxHeartbeats 4000000 in
set_option maxRecDepth 100000 in
theorem met_X10_isQueued (l : Launch) (D : va_G) (E : Nat → Nat) {α : Nat → Nat → Nat} {F : Nat → Prop} {σ : St} (wi : Nat) (bn : Int32) (dn : Int32) (h_wi : wi < nW σ) : PM l D E yX10_isQueued cX10_isQueued 3 (Option.some Jvm.ClassFile.FieldType.boolean) 1 21 [.ref (α 5 wi), .int (bn), .int (dn)] (RX D E α F σ) (some (.int (bI (fX10_isQueued σ wi bn dn)))) := by
  generalize hR : fX10_isQueued σ wi bn dn = r
  refine PM.start (by decide) (Nat.le_of_ble_eq_true rfl) ?_
  intro p e s m below meth c ls hx hb hr hml hown hlocks hts hG hX hl
  have hown : s.vm.findClass RX10 = some m.cls := hown
  have hS0 : xS p m c cX10_isQueued 3 s _ RX10 := ⟨hx, hb, hml, hown, hts⟩
  have hl : lv_has ls 3 [(0, .ref (α 5 wi)), (1, .int (bn)), (2, .int (dn))] := hl
  unfold fX10_isQueued at hR
  refine lv_aload_n hx hb dX10_isQueued_0 rfl (lv_at hl 0 rfl) ?_
  refine gs hx hb (hG.en (i := 0) (by decide)) hown (hts _ q488) (fun _ h => h) dX10_isQueued_1 ?_
  refine pcV (As := [.ref (E (10 + 0))]) (rest := []) hS0 (met_X10_is l D E wi 0 h_wi (by decide)) q489 q371 q372 q130 q373 hd_X10_is ⟨Nat.le_of_ble_eq_true rfl, Nat.le_of_ble_eq_true rfl⟩ hG (rcv hG cl_X10 (hX.wd h_wi)) hX rfl hl.1 rfl (Nat.le_of_ble_eq_true rfl) dX10_isQueued_4 ⟨Nat.le_refl _, Nat.le_refl _⟩ ?_
  refine W.eq (g2 := F0 m 7 ls [.int (bI ((fX10_is σ wi 0)))]) rfl ?_
  refine lb_if_eq (tgt := 30) hx hb dX10_isQueued_7 (by decide) (fun c1 => ?_) (fun c1 => ?_)
  · rw [if_neg c1] at hR
    refine lv_iconst (v := 0) hx hb dX10_isQueued_30 (by decide) ?_
    exact p_zret (b := false) hx hb hr hlocks dX10_isQueued_31 rfl (by rw [← hR])
  · rw [if_pos c1] at hR
    refine lv_aload_n hx hb dX10_isQueued_10 rfl (lv_at hl 0 rfl) ?_
    refine gf (v := .int (nI (wBand σ wi))) (C := RX10) (T := TX10) (N := 12) (k := 0) hx hb hts hown hG cl_X10 in_X10 (hX.wd h_wi) (by decide) q1008 rfl dX10_isQueued_11 ?_
    refine lv_iload_n hx hb dX10_isQueued_14 rfl (lv_at hl 1 rfl) ?_
    refine lv_icmp_ne (tgt := 30) hx hb dX10_isQueued_15 (by decide) (fun c2 => ?_) (fun c2 => ?_)
    · rw [if_neg c2] at hR
      refine lv_iconst (v := 0) hx hb dX10_isQueued_30 (by decide) ?_
      exact p_zret (b := false) hx hb hr hlocks dX10_isQueued_31 rfl (by rw [← hR])
    · rw [if_pos c2] at hR
      refine lv_aload_n hx hb dX10_isQueued_18 rfl (lv_at hl 0 rfl) ?_
      refine gf (v := .int (nI (wDay σ wi))) (C := RX10) (T := TX10) (N := 12) (k := 1) hx hb hts hown hG cl_X10 in_X10 (hX.wd h_wi) (by decide) q1011 rfl dX10_isQueued_19 ?_
      refine lv_iload_n hx hb dX10_isQueued_22 rfl (lv_at hl 2 rfl) ?_
      refine lv_icmp_ne (tgt := 30) hx hb dX10_isQueued_23 (by decide) (fun c3 => ?_) (fun c3 => ?_)
      · rw [if_neg c3] at hR
        refine lv_iconst (v := 0) hx hb dX10_isQueued_30 (by decide) ?_
        exact p_zret (b := false) hx hb hr hlocks dX10_isQueued_31 rfl (by rw [← hR])
      · rw [if_pos c3] at hR
        refine lv_iconst (v := 1) hx hb dX10_isQueued_26 (by decide) ?_
        refine lv_goto (tgt := 31) hx hb dX10_isQueued_27 (by decide) ?_
        exact p_zret (b := true) hx hb hr hlocks dX10_isQueued_31 rfl (by rw [← hR])

def fX2_drive (σ : St) (i : Nat) (j : Nat) : Int32 :=
  rDrives σ ((i * 6) + j)
set_option maxHeartbeats 4000000 in
set_option maxRecDepth 100000 in
theorem met_X2_drive (l : Launch) (D : va_G) (E : Nat → Nat) {α : Nat → Nat → Nat} {F : Nat → Prop} {σ : St} (i : Nat) (j : Nat) (h_i : i < 6) (h_j : j < 6) : PM l D E yX2_drive cX2_drive 3 (Option.some Jvm.ClassFile.FieldType.int) 0 0 [.ref (α 7 0), .int (nI i), .int (nI j)] (RX D E α F σ) (some (.int (fX2_drive σ i j))) := by
  generalize hR : fX2_drive σ i j = r
  refine PM.start (by decide) (Nat.le_of_ble_eq_true rfl) ?_
  intro p e s m below meth c ls hx hb hr hml hown hlocks hts hG hX hl
  have hown : s.vm.findClass RX2 = some m.cls := hown
  have hS0 : xS p m c cX2_drive 3 s _ RX2 := ⟨hx, hb, hml, hown, hts⟩
  have hl : lv_has ls 3 [(0, .ref (α 7 0)), (1, .int (nI i)), (2, .int (nI j))] := hl
  unfold fX2_drive at hR
  refine lv_aload_n hx hb dX2_drive_0 rfl (lv_at hl 0 rfl) ?_
  refine gf (v := .ref (α 8 1)) (C := RX2) (T := TX2) (N := 2) (k := 1) hx hb hts hown hG cl_X2 in_X2 hX.rd (by decide) q193 rfl dX2_drive_1 ?_
  refine lv_iload_n hx hb dX2_drive_4 rfl (lv_at hl 1 rfl) ?_
  refine lv_bipush (v := 6) hx hb dX2_drive_5 (by decide) ?_
  refine lv_imul hx hb dX2_drive_7 ?_
  refine lv_eq (pk_mul i 6) ?_
  refine lv_iload_n hx hb dX2_drive_8 rfl (lv_at hl 2 rfl) ?_
  refine lv_iadd hx hb dX2_drive_9 ?_
  refine lv_eq (nI_add (i * 6) j) ?_
  refine gaI (N := 36) (k := (i * 6) + j) hx hb hG hX.dr (show (i * 6) + j < 36 from by omega) (by decide) dX2_drive_10 ?_
  exact p_iret hx hb hr hlocks dX2_drive_11 (by rw [← hR])

def fX1_isFixed_L2 (σ : St) (bn : Int32) (dn : Int32)  (κ : Bool) : Nat → Nat → Bool
  | 0, i3 => κ
  | n + 1, i3 => (if ((fX10_is σ i3 1)) = true then (if (nI (wBand σ i3)) = bn then (if (nI (wDay σ i3)) = dn then true else fX1_isFixed_L2 σ bn dn κ n (i3 + 1)) else fX1_isFixed_L2 σ bn dn κ n (i3 + 1)) else fX1_isFixed_L2 σ bn dn κ n (i3 + 1))
def fX1_isFixed (σ : St) (bn : Int32) (dn : Int32) : Bool :=
  fX1_isFixed_L2 σ bn dn (false) (nW σ) 0
set_option maxHeartbeats 4000000 in
set_option maxRecDepth 100000 in
theorem met_X1_isFixed (l : Launch) (D : va_G) (E : Nat → Nat) {α : Nat → Nat → Nat} {F : Nat → Prop} {σ : St} (bn : Int32) (dn : Int32)  : PM l D E yX1_isFixed cX1_isFixed 5 (Option.some Jvm.ClassFile.FieldType.boolean) 3 64 [.ref (α 0 0), .int (bn), .int (dn)] (RX D E α F σ) (some (.int (bI (fX1_isFixed σ bn dn)))) := by
  generalize hR : fX1_isFixed σ bn dn = r
  refine PM.start (by decide) (Nat.le_of_ble_eq_true rfl) ?_
  intro p e s m below meth c ls hx hb hr hml hown hlocks hts hG hX hl
  have hown : s.vm.findClass RX1 = some m.cls := hown
  have hS0 : xS p m c cX1_isFixed 5 s _ RX1 := ⟨hx, hb, hml, hown, hts⟩
  have hl : lv_has ls 5 [(0, .ref (α 0 0)), (1, .int (bn)), (2, .int (dn))] := hl
  have hL2 : ∀ (κ : Bool) (hκ : ∀ (ls : Array Slot), κ = r → lv_has ls 5 [] → W p l e { frames := 3, cells := 0, slots := 0, locals := 64 } s m [(.ref (α 0 0) : Value), .int (bn), .int (dn)].toArray below meth c s.heap [] 0 0 (MQ below (qP (some (.int (bI r)))) [(.ref (α 0 0) : Value), .int (bn), .int (dn)].toArray s 0 0 (fun _ => False)) (F0 m 67 ls [])) (n : Nat) (i3 : Nat), i3 + n = nW σ → fX1_isFixed_L2 σ bn dn κ n i3 = r → ∀ (ls : Array Slot), lv_has ls 5 [(0, .ref (α 0 0)), (1, .int (bn)), (2, .int (dn)), (3, .int (nI i3))] → W p l e { frames := 3, cells := 0, slots := 0, locals := 64 } s m [(.ref (α 0 0) : Value), .int (bn), .int (dn)].toArray below meth c s.heap [] 0 0 (MQ below (qP (some (.int (bI r)))) [(.ref (α 0 0) : Value), .int (bn), .int (dn)].toArray s 0 0 (fun _ => False)) (F0 m 2 ls []) := by
    intro  κ hκ n
    induction n with
    | zero =>
      intro i3 hn hR ls hl
      rw [fX1_isFixed_L2] at hR
      refine lv_iload_n hx hb dX1_isFixed_2 rfl (lv_at hl 3 rfl) ?_
      refine lv_aload_n hx hb dX1_isFixed_3 rfl (lv_at hl 0 rfl) ?_
      refine gf (v := .ref (α 1 3)) (C := RX1) (T := TX1) (N := 6) (k := 4) hx hb hts hown hG cl_X1 in_X1 hX.ag (by decide) q307 rfl dX1_isFixed_4 ?_
      refine pcF (x := xL_size) (ci := 13) (As := []) (rest := [.int (nI i3)]) hG.fw_size hS0 (met_xl_size l D E (j := 3) (by decide)) q331 q334 q336 q103 q338 hd_xL_size ⟨Nat.le_of_ble_eq_true rfl, Nat.le_of_ble_eq_true rfl⟩ hG cl_J2 (hX.lsR hG (j := 3) (by decide)) hX rfl hl.1 rfl (Nat.le_of_ble_eq_true rfl) dX1_isFixed_7 ⟨Nat.le_refl _, Nat.le_refl _⟩ ?_
      refine W.eq (g2 := F0 m 12 ls [.int (nI (nW σ)), .int (nI i3)]) rfl ?_
      refine lk_ge_out (k := i3) (N := nW σ) hx hb hn (tgt := 67) dX1_isFixed_12 (by decide) ?_
      exact hκ  ls hR (lv_sub hl [] rfl)
    | succ n ih =>
      intro i3 hn hR ls hl
      rw [fX1_isFixed_L2] at hR
      refine lv_iload_n hx hb dX1_isFixed_2 rfl (lv_at hl 3 rfl) ?_
      refine lv_aload_n hx hb dX1_isFixed_3 rfl (lv_at hl 0 rfl) ?_
      refine gf (v := .ref (α 1 3)) (C := RX1) (T := TX1) (N := 6) (k := 4) hx hb hts hown hG cl_X1 in_X1 hX.ag (by decide) q307 rfl dX1_isFixed_4 ?_
      refine pcF (x := xL_size) (ci := 13) (As := []) (rest := [.int (nI i3)]) hG.fw_size hS0 (met_xl_size l D E (j := 3) (by decide)) q331 q334 q336 q103 q338 hd_xL_size ⟨Nat.le_of_ble_eq_true rfl, Nat.le_of_ble_eq_true rfl⟩ hG cl_J2 (hX.lsR hG (j := 3) (by decide)) hX rfl hl.1 rfl (Nat.le_of_ble_eq_true rfl) dX1_isFixed_7 ⟨Nat.le_refl _, Nat.le_refl _⟩ ?_
      refine W.eq (g2 := F0 m 12 ls [.int (nI (nW σ)), .int (nI i3)]) rfl ?_
      have hki3 : i3 < nW σ := lk_lt hn
      refine lk_ge_in (k := i3) (N := nW σ) hx hb hki3 (by have := hX.nW14; omega) (tgt := 67) dX1_isFixed_12 (by decide) ?_
      refine lv_aload_n hx hb dX1_isFixed_15 rfl (lv_at hl 0 rfl) ?_
      refine gf (v := .ref (α 1 3)) (C := RX1) (T := TX1) (N := 6) (k := 4) hx hb hts hown hG cl_X1 in_X1 hX.ag (by decide) q307 rfl dX1_isFixed_16 ?_
      refine lv_iload_n hx hb dX1_isFixed_19 rfl (lv_at hl 3 rfl) ?_
      refine pcF (x := xL_get) (ci := 13) (As := [.int (nI i3)]) (rest := []) hG.fw_get hS0 (met_xl_get l D E (j := 3) (by decide) i3 hki3) q344 q347 q349 q103 q351 hd_xL_get ⟨Nat.le_of_ble_eq_true rfl, Nat.le_of_ble_eq_true rfl⟩ hG cl_J2 (hX.lsR hG (j := 3) (by decide)) hX rfl hl.1 rfl (Nat.le_of_ble_eq_true rfl) dX1_isFixed_20 ⟨Nat.le_refl _, Nat.le_refl _⟩ ?_
      refine W.eq (g2 := F0 m 25 ls [.ref (α 5 i3)]) rfl ?_
      refine gc (ci := 8) hx hb hown hG cl_X10 (rcv hG cl_X10 (hX.wd hki3)) (hts _ q369) dX1_isFixed_25 ?_
      refine lv_astore (lv' := [(4, .ref (α 5 i3)), (0, .ref (α 0 0)), (1, .int (bn)), (2, .int (dn)), (3, .int (nI i3))]) hx hb dX1_isFixed_28 hl (Nat.le_of_ble_eq_true rfl) rfl (fun ls hl => ?_)
      refine lv_aload hx hb dX1_isFixed_30 (lv_at hl 0 rfl) ?_
      refine gs hx hb (hG.en (i := 1) (by decide)) hown (hts _ q363) (fun _ h => h) dX1_isFixed_32 ?_
      refine pcV (As := [.ref (E (10 + 1))]) (rest := []) hS0 (met_X10_is l D E i3 1 hki3 (by decide)) q370 q371 q372 q130 q373 hd_X10_is ⟨Nat.le_of_ble_eq_true rfl, Nat.le_of_ble_eq_true rfl⟩ hG (rcv hG cl_X10 (hX.wd hki3)) hX rfl hl.1 rfl (Nat.le_of_ble_eq_true rfl) dX1_isFixed_35 ⟨Nat.le_refl _, Nat.le_refl _⟩ ?_
      refine W.eq (g2 := F0 m 38 ls [.int (bI ((fX10_is σ i3 1)))]) rfl ?_
      refine lb_if_eq (tgt := 61) hx hb dX1_isFixed_38 (by decide) (fun c1 => ?_) (fun c1 => ?_)
      · rw [if_neg c1] at hR
        refine lv_iinc (v := nI (i3 + 1)) (lv' := [(3, .int (nI (i3 + 1))), (4, .ref (α 5 i3)), (0, .ref (α 0 0)), (1, .int (bn)), (2, .int (dn))]) hx hb dX1_isFixed_61 hl (k := 4) rfl (nI_1 i3) (Nat.le_of_ble_eq_true rfl) rfl (fun ls hl => ?_)
        refine lv_goto (tgt := 2) hx hb dX1_isFixed_64 (by decide) ?_
        exact ih (i3 + 1) (lk_st hn) hR ls (lv_sub hl [2, 3, 4, 0] rfl)
      · rw [if_pos c1] at hR
        refine lv_aload hx hb dX1_isFixed_41 (lv_at hl 0 rfl) ?_
        refine gfN (v := .int (nI (wBand σ i3))) (C := RX10) (T := TX10) (N := 12) (k := 0) hx hb hts hown hG cl_X10 in_X10 (hX.wd hki3) (by decide) q1010 rfl dX1_isFixed_43 ?_
        refine lv_iload_n hx hb dX1_isFixed_46 rfl (lv_at hl 2 rfl) ?_
        refine lv_icmp_ne (tgt := 61) hx hb dX1_isFixed_47 (by decide) (fun c2 => ?_) (fun c2 => ?_)
        · rw [if_neg c2] at hR
          refine lv_iinc (v := nI (i3 + 1)) (lv' := [(3, .int (nI (i3 + 1))), (4, .ref (α 5 i3)), (0, .ref (α 0 0)), (1, .int (bn)), (2, .int (dn))]) hx hb dX1_isFixed_61 hl (k := 4) rfl (nI_1 i3) (Nat.le_of_ble_eq_true rfl) rfl (fun ls hl => ?_)
          refine lv_goto (tgt := 2) hx hb dX1_isFixed_64 (by decide) ?_
          exact ih (i3 + 1) (lk_st hn) hR ls (lv_sub hl [2, 3, 4, 0] rfl)
        · rw [if_pos c2] at hR
          refine lv_aload hx hb dX1_isFixed_50 (lv_at hl 0 rfl) ?_
          refine gfN (v := .int (nI (wDay σ i3))) (C := RX10) (T := TX10) (N := 12) (k := 1) hx hb hts hown hG cl_X10 in_X10 (hX.wd hki3) (by decide) q1012 rfl dX1_isFixed_52 ?_
          refine lv_iload_n hx hb dX1_isFixed_55 rfl (lv_at hl 3 rfl) ?_
          refine lv_icmp_ne (tgt := 61) hx hb dX1_isFixed_56 (by decide) (fun c3 => ?_) (fun c3 => ?_)
          · rw [if_neg c3] at hR
            refine lv_iinc (v := nI (i3 + 1)) (lv' := [(3, .int (nI (i3 + 1))), (4, .ref (α 5 i3)), (0, .ref (α 0 0)), (1, .int (bn)), (2, .int (dn))]) hx hb dX1_isFixed_61 hl (k := 4) rfl (nI_1 i3) (Nat.le_of_ble_eq_true rfl) rfl (fun ls hl => ?_)
            refine lv_goto (tgt := 2) hx hb dX1_isFixed_64 (by decide) ?_
            exact ih (i3 + 1) (lk_st hn) hR ls (lv_sub hl [2, 3, 4, 0] rfl)
          · rw [if_pos c3] at hR
            refine lv_iconst (v := 1) hx hb dX1_isFixed_59 (by decide) ?_
            exact p_zret (b := true) hx hb hr hlocks dX1_isFixed_60 rfl (by rw [← hR])
  unfold fX1_isFixed at hR
  refine lv_iconst (v := 0) hx hb dX1_isFixed_0 (by decide) ?_
  refine lv_istore_n (lv' := [(3, .int 0), (0, .ref (α 0 0)), (1, .int (bn)), (2, .int (dn))]) hx hb dX1_isFixed_1 rfl hl (Nat.le_of_ble_eq_true rfl) rfl (fun ls hl => ?_)
  refine hL2  _ (fun  ls hR hl => ?_) (nW σ) 0 (Nat.zero_add _) hR ls (lv_sub hl [1, 2, 3, 0] rfl)
  refine lv_iconst (v := 0) hx hb dX1_isFixed_67 (by decide) ?_
  exact p_zret (b := false) hx hb hr hlocks dX1_isFixed_68 rfl (by rw [← hR])

