/-! the agency: questions -/
set_option maxRecDepth 100000
theorem mb_ix {n : Nat} (hn : n < 2 ^ 30) {a : Int32} (h : 0 ≤ a ∧ a ≤ nI n) : a = nI a.toNatClampNeg ∧ a.toNatClampNeg < n + 1 := is_ix hn (is_t.mpr h)
def fX1_ofPlayer (σ : St) (a : Int32) (b : Int32) : Nat × Int32 :=
  (if 0 ≤ a ∧ a < nI (nP σ) then (if 0 ≤ b ∧ b ≤ 8 then (0, (fX1_playerNow σ ((Int32.toNatClampNeg a)) b)) else (2, 0)) else (1, 0))
set_option maxHeartbeats 4000000 in
set_option maxRecDepth 100000 in
theorem met_X1_ofPlayer (l : Launch) (D : va_G) (E : Nat → Nat) (hlf : l.stackTraces = false) {α : Nat → Nat → Nat} {F : Nat → Prop} {σ : St} (a : Int32) (b : Int32)  : XM l D E yX1_ofPlayer cX1_ofPlayer 3 (Option.some Jvm.ClassFile.FieldType.int) 8 142 2 12 [.ref (α 0 0), .int (a), .int (b)] (RX D E α F σ) (fun _ => False) (fun _ => False) (fun sz v h => (fX1_ofPlayer σ a b).1 = 0 ∧ v = some (.int (fX1_ofPlayer σ a b).2)) (fun sz X h => X = exN (fX1_ofPlayer σ a b).1 ∧ (fX1_ofPlayer σ a b).1 ≠ 0) := by
  generalize hR : fX1_ofPlayer σ a b = r
  refine XM.start (by decide) (Nat.le_of_ble_eq_true rfl) ?_
  intro p e s m below meth c ls hx hb hr hml hown hlocks hex hts hG hX hS hl
  have hown : s.vm.findClass RX1 = some m.cls := hown
  have hS0 : xS p m c cX1_ofPlayer 3 s _ RX1 := ⟨hx, hb, hml, hown, hts⟩
  have hl : lv_has ls 3 [(0, .ref (α 0 0)), (1, .int (a)), (2, .int (b))] := hl
  have hG0 := hG
  have hX0 := hX
  have hb0P := hX0.nP10
  have hb0B := hX0.nB6
  have hb0W := hX0.nW14
  have hFE := hX.fE
  have hX := hX.wide (n := s.heap.size) hG.2.2.1
  have hcn : cnt σ σ := cnt.rf
  unfold fX1_ofPlayer at hR
  refine lv_aload_n hx hb dX1_ofPlayer_0 rfl (lv_at hl 0 rfl) ?_
  refine lv_iload_n hx hb dX1_ofPlayer_1 rfl (lv_at hl 1 rfl) ?_
  refine xcV (As := [.int (a)]) (rest := []) hS0 (met_X1_playerAt l D E hlf a _) q944 q946 qs40 q100 q947 hd_X1_playerAt ⟨Nat.le_of_ble_eq_true rfl, Nat.le_of_ble_eq_true rfl⟩ hG (rcv hG cl_X1 hX.ag) ⟨rfl, hX⟩ rfl hl.1 rfl (Nat.le_of_ble_eq_true rfl) dX1_ofPlayer_2 ⟨Nat.le_of_ble_eq_true rfl, Nat.le_of_ble_eq_true rfl⟩ hS (fun q h => h.elim) (fun q h => h.elim) (fun X ce q9 H1 locs1 hP hz hk hS h1 h2 h3 => ?_) (fun v H1 locs1 hP hz hk hS => ?_)
  · obtain ⟨rfl, hc9⟩ := hP
    rw [if_neg hc9] at hR
    exact x_out hex hlocks h1 h2 h3 hS ⟨Nat.le_of_ble_eq_true rfl, Nat.le_of_ble_eq_true rfl⟩ (by subst hR; exact ⟨rfl, Nat.succ_ne_zero _⟩)
  · obtain ⟨rfl, hc9, rfl⟩ := hP
    rw [if_pos hc9] at hR
    have k1 := hc9
    have nk1 := ck_ix k1 (by have := hX.nP10; have := hX.nW14; have := hX.nB6; omega)
    refine W.eq (g2 := F0 m 5 ls [.ref (α 3 (Int32.toNatClampNeg a))]) rfl ?_
    refine lv_pop hx hb dX1_ofPlayer_5 rfl ?_
    refine lv_iload_n hx hb dX1_ofPlayer_6 rfl (lv_at hl 2 rfl) ?_
    refine lv_iconst (v := 0) hx hb dX1_ofPlayer_7 (by decide) ?_
    refine lv_bipush (v := 8) hx hb dX1_ofPlayer_8 (by decide) ?_
    refine xcS (As := [.int (b), .int 0, .int 8]) (rest := []) hS0 (met_X1_mustBeIn l D E hlf b 0 8 _) q860 q861 q100 q862 hd_X1_mustBeIn ⟨Nat.le_of_ble_eq_true rfl, Nat.le_of_ble_eq_true rfl⟩ hG rfl rfl hl.1 rfl (Nat.le_of_ble_eq_true rfl) dX1_ofPlayer_10 ⟨Nat.le_of_ble_eq_true rfl, Nat.le_of_ble_eq_true rfl⟩ hS (fun q h => h.elim) (fun q h => h.elim) (fun X ce q9 H1 locs1 hP hz hk hS h1 h2 h3 => ?_) (fun v H1 locs1 hP hz hk hS => ?_)
    · obtain ⟨rfl, hc9⟩ := hP
      rw [if_neg hc9] at hR
      exact x_out hex hlocks h1 h2 h3 hS ⟨Nat.le_of_ble_eq_true rfl, Nat.le_of_ble_eq_true rfl⟩ (by subst hR; exact ⟨rfl, Nat.succ_ne_zero _⟩)
    · obtain ⟨rfl, hc9, rfl⟩ := hP
      rw [if_pos hc9] at hR
      have k2 := hc9
      refine W.eq (g2 := F0 m 13 ls []) rfl ?_
      refine lv_aload_n hx hb dX1_ofPlayer_13 rfl (lv_at hl 0 rfl) ?_
      refine lv_iload_n hx hb dX1_ofPlayer_14 rfl (lv_at hl 1 rfl) ?_
      refine lv_eq nk1.1 ?_
      refine lv_iload_n hx hb dX1_ofPlayer_15 rfl (lv_at hl 2 rfl) ?_
      refine pcV (As := [.int (nI ((Int32.toNatClampNeg a))), .int (b)]) (rest := []) hS0 (met_X1_playerNow l D E ((Int32.toNatClampNeg a)) b nk1.2) q339 q341 qs5 q100 q342 hd_X1_playerNow ⟨Nat.le_of_ble_eq_true rfl, Nat.le_of_ble_eq_true rfl⟩ hG (rcv hG cl_X1 hX.ag) hX rfl hl.1 rfl (Nat.le_of_ble_eq_true rfl) dX1_ofPlayer_16 ⟨Nat.le_of_ble_eq_true rfl, Nat.le_of_ble_eq_true rfl⟩ ?_
      refine W.eq (g2 := F0 m 19 ls [.int ((fX1_playerNow σ ((Int32.toNatClampNeg a)) b))]) rfl ?_
      exact vx_ret (g_iret hx hb hr hlocks hS ⟨Nat.le_of_ble_eq_true rfl, Nat.le_of_ble_eq_true rfl⟩ dX1_ofPlayer_19 (by subst hR; exact ⟨rfl, rfl⟩))

def fX1_ofSong (σ : St) (a : Int32) (b : Int32) : Nat × Int32 :=
  (if 0 ≤ a ∧ a < 16 then (if 0 ≤ b ∧ b ≤ 5 then (0, (fX1_songNow σ ((Int32.toNatClampNeg a)) b)) else (2, 0)) else (1, 0))
set_option maxHeartbeats 4000000 in
set_option maxRecDepth 100000 in
theorem met_X1_ofSong (l : Launch) (D : va_G) (E : Nat → Nat) (hlf : l.stackTraces = false) {α : Nat → Nat → Nat} {F : Nat → Prop} {σ : St} (a : Int32) (b : Int32)  : XM l D E yX1_ofSong cX1_ofSong 3 (Option.some Jvm.ClassFile.FieldType.int) 8 142 2 12 [.ref (α 0 0), .int (a), .int (b)] (RX D E α F σ) (fun _ => False) (fun _ => False) (fun sz v h => (fX1_ofSong σ a b).1 = 0 ∧ v = some (.int (fX1_ofSong σ a b).2)) (fun sz X h => X = exN (fX1_ofSong σ a b).1 ∧ (fX1_ofSong σ a b).1 ≠ 0) := by
  generalize hR : fX1_ofSong σ a b = r
  refine XM.start (by decide) (Nat.le_of_ble_eq_true rfl) ?_
  intro p e s m below meth c ls hx hb hr hml hown hlocks hex hts hG hX hS hl
  have hown : s.vm.findClass RX1 = some m.cls := hown
  have hS0 : xS p m c cX1_ofSong 3 s _ RX1 := ⟨hx, hb, hml, hown, hts⟩
  have hl : lv_has ls 3 [(0, .ref (α 0 0)), (1, .int (a)), (2, .int (b))] := hl
  have hG0 := hG
  have hX0 := hX
  have hb0P := hX0.nP10
  have hb0B := hX0.nB6
  have hb0W := hX0.nW14
  have hFE := hX.fE
  have hX := hX.wide (n := s.heap.size) hG.2.2.1
  have hcn : cnt σ σ := cnt.rf
  unfold fX1_ofSong at hR
  refine lv_iload_n hx hb dX1_ofSong_0 rfl (lv_at hl 1 rfl) ?_
  refine lv_bipush (v := 16) hx hb dX1_ofSong_1 (by decide) ?_
  refine xcS (As := [.int (a), .int 16]) (rest := []) hS0 (met_X1_checkPlace l D E hlf a 16 _) q836 q837 q100 q838 hd_X1_checkPlace ⟨Nat.le_of_ble_eq_true rfl, Nat.le_of_ble_eq_true rfl⟩ hG rfl rfl hl.1 rfl (Nat.le_of_ble_eq_true rfl) dX1_ofSong_3 ⟨Nat.le_of_ble_eq_true rfl, Nat.le_of_ble_eq_true rfl⟩ hS (fun q h => h.elim) (fun q h => h.elim) (fun X ce q9 H1 locs1 hP hz hk hS h1 h2 h3 => ?_) (fun v H1 locs1 hP hz hk hS => ?_)
  · obtain ⟨rfl, hc9⟩ := hP
    rw [if_neg hc9] at hR
    exact x_out hex hlocks h1 h2 h3 hS ⟨Nat.le_of_ble_eq_true rfl, Nat.le_of_ble_eq_true rfl⟩ (by subst hR; exact ⟨rfl, Nat.succ_ne_zero _⟩)
  · obtain ⟨rfl, hc9, rfl⟩ := hP
    rw [if_pos hc9] at hR
    have k1 := hc9
    have nk1 := ck_ix k1 (by decide)
    refine W.eq (g2 := F0 m 6 ls []) rfl ?_
    refine lv_iload_n hx hb dX1_ofSong_6 rfl (lv_at hl 2 rfl) ?_
    refine lv_iconst (v := 0) hx hb dX1_ofSong_7 (by decide) ?_
    refine lv_iconst (v := 5) hx hb dX1_ofSong_8 (by decide) ?_
    refine xcS (As := [.int (b), .int 0, .int 5]) (rest := []) hS0 (met_X1_mustBeIn l D E hlf b 0 5 _) q860 q861 q100 q862 hd_X1_mustBeIn ⟨Nat.le_of_ble_eq_true rfl, Nat.le_of_ble_eq_true rfl⟩ hG rfl rfl hl.1 rfl (Nat.le_of_ble_eq_true rfl) dX1_ofSong_9 ⟨Nat.le_of_ble_eq_true rfl, Nat.le_of_ble_eq_true rfl⟩ hS (fun q h => h.elim) (fun q h => h.elim) (fun X ce q9 H1 locs1 hP hz hk hS h1 h2 h3 => ?_) (fun v H1 locs1 hP hz hk hS => ?_)
    · obtain ⟨rfl, hc9⟩ := hP
      rw [if_neg hc9] at hR
      exact x_out hex hlocks h1 h2 h3 hS ⟨Nat.le_of_ble_eq_true rfl, Nat.le_of_ble_eq_true rfl⟩ (by subst hR; exact ⟨rfl, Nat.succ_ne_zero _⟩)
    · obtain ⟨rfl, hc9, rfl⟩ := hP
      rw [if_pos hc9] at hR
      have k2 := hc9
      refine W.eq (g2 := F0 m 12 ls []) rfl ?_
      refine lv_aload_n hx hb dX1_ofSong_12 rfl (lv_at hl 0 rfl) ?_
      refine lv_iload_n hx hb dX1_ofSong_13 rfl (lv_at hl 1 rfl) ?_
      refine lv_eq nk1.1 ?_
      refine lv_iload_n hx hb dX1_ofSong_14 rfl (lv_at hl 2 rfl) ?_
      refine pcV (As := [.int (nI ((Int32.toNatClampNeg a))), .int (b)]) (rest := []) hS0 (met_X1_songNow l D E ((Int32.toNatClampNeg a)) b nk1.2) q450 q452 qs15 q100 q453 hd_X1_songNow ⟨Nat.le_of_ble_eq_true rfl, Nat.le_of_ble_eq_true rfl⟩ hG (rcv hG cl_X1 hX.ag) hX rfl hl.1 rfl (Nat.le_of_ble_eq_true rfl) dX1_ofSong_15 ⟨Nat.le_of_ble_eq_true rfl, Nat.le_of_ble_eq_true rfl⟩ ?_
      refine W.eq (g2 := F0 m 18 ls [.int ((fX1_songNow σ ((Int32.toNatClampNeg a)) b))]) rfl ?_
      exact vx_ret (g_iret hx hb hr hlocks hS ⟨Nat.le_of_ble_eq_true rfl, Nat.le_of_ble_eq_true rfl⟩ dX1_ofSong_18 (by subst hR; exact ⟨rfl, rfl⟩))

def fX1_ofBand (σ : St) (a : Int32) (b : Int32) : Nat × Int32 :=
  (if 0 ≤ a ∧ a < (nI (nB σ)) then (if 0 ≤ b ∧ b ≤ 8 then (0, (fX1_bandNow σ ((Int32.toNatClampNeg a)) ((Int32.toNatClampNeg b)))) else (2, 0)) else (1, 0))
set_option maxHeartbeats 4000000 in
set_option maxRecDepth 100000 in
theorem met_X1_ofBand (l : Launch) (D : va_G) (E : Nat → Nat) (hlf : l.stackTraces = false) {α : Nat → Nat → Nat} {F : Nat → Prop} {σ : St} (a : Int32) (b : Int32)  : XM l D E yX1_ofBand cX1_ofBand 3 (Option.some Jvm.ClassFile.FieldType.int) 8 142 2 12 [.ref (α 0 0), .int (a), .int (b)] (RX D E α F σ) (fun _ => False) (fun _ => False) (fun sz v h => (fX1_ofBand σ a b).1 = 0 ∧ v = some (.int (fX1_ofBand σ a b).2)) (fun sz X h => X = exN (fX1_ofBand σ a b).1 ∧ (fX1_ofBand σ a b).1 ≠ 0) := by
  generalize hR : fX1_ofBand σ a b = r
  refine XM.start (by decide) (Nat.le_of_ble_eq_true rfl) ?_
  intro p e s m below meth c ls hx hb hr hml hown hlocks hex hts hG hX hS hl
  have hown : s.vm.findClass RX1 = some m.cls := hown
  have hS0 : xS p m c cX1_ofBand 3 s _ RX1 := ⟨hx, hb, hml, hown, hts⟩
  have hl : lv_has ls 3 [(0, .ref (α 0 0)), (1, .int (a)), (2, .int (b))] := hl
  have hG0 := hG
  have hX0 := hX
  have hb0P := hX0.nP10
  have hb0B := hX0.nB6
  have hb0W := hX0.nW14
  have hFE := hX.fE
  have hX := hX.wide (n := s.heap.size) hG.2.2.1
  have hcn : cnt σ σ := cnt.rf
  unfold fX1_ofBand at hR
  refine lv_iload_n hx hb dX1_ofBand_0 rfl (lv_at hl 1 rfl) ?_
  refine lv_aload_n hx hb dX1_ofBand_1 rfl (lv_at hl 0 rfl) ?_
  refine gf (v := .ref (α 1 2)) (C := RX1) (T := TX1) (N := 6) (k := 3) hx hb hts hown hG cl_X1 in_X1 hX.ag (by decide) q305 rfl dX1_ofBand_2 ?_
  refine pcF (x := xL_size) (ci := 13) (As := []) (rest := [.int (a)]) hG.fw_size hS0 (met_xl_size l D E (j := 2) (by decide)) q331 q334 q336 q103 q338 hd_xL_size ⟨Nat.le_of_ble_eq_true rfl, Nat.le_of_ble_eq_true rfl⟩ hG cl_J2 (hX.lsR hG (j := 2) (by decide)) hX rfl hl.1 rfl (Nat.le_of_ble_eq_true rfl) dX1_ofBand_5 ⟨Nat.le_of_ble_eq_true rfl, Nat.le_of_ble_eq_true rfl⟩ ?_
  refine W.eq (g2 := F0 m 10 ls [.int (nI (nB σ)), .int (a)]) rfl ?_
  refine xcS (As := [.int (a), .int (nI (nB σ))]) (rest := []) hS0 (met_X1_checkPlace l D E hlf a (nI (nB σ)) _) q836 q837 q100 q838 hd_X1_checkPlace ⟨Nat.le_of_ble_eq_true rfl, Nat.le_of_ble_eq_true rfl⟩ hG rfl rfl hl.1 rfl (Nat.le_of_ble_eq_true rfl) dX1_ofBand_10 ⟨Nat.le_of_ble_eq_true rfl, Nat.le_of_ble_eq_true rfl⟩ hS (fun q h => h.elim) (fun q h => h.elim) (fun X ce q9 H1 locs1 hP hz hk hS h1 h2 h3 => ?_) (fun v H1 locs1 hP hz hk hS => ?_)
  · obtain ⟨rfl, hc9⟩ := hP
    rw [if_neg hc9] at hR
    exact x_out hex hlocks h1 h2 h3 hS ⟨Nat.le_of_ble_eq_true rfl, Nat.le_of_ble_eq_true rfl⟩ (by subst hR; exact ⟨rfl, Nat.succ_ne_zero _⟩)
  · obtain ⟨rfl, hc9, rfl⟩ := hP
    rw [if_pos hc9] at hR
    have k1 := hc9
    have nk1 := ck_ix k1 (by have := hX.nP10; have := hX.nW14; have := hX.nB6; omega)
    refine W.eq (g2 := F0 m 13 ls []) rfl ?_
    refine lv_iload_n hx hb dX1_ofBand_13 rfl (lv_at hl 2 rfl) ?_
    refine lv_iconst (v := 0) hx hb dX1_ofBand_14 (by decide) ?_
    refine lv_bipush (v := 8) hx hb dX1_ofBand_15 (by decide) ?_
    refine xcS (As := [.int (b), .int 0, .int 8]) (rest := []) hS0 (met_X1_mustBeIn l D E hlf b 0 8 _) q860 q861 q100 q862 hd_X1_mustBeIn ⟨Nat.le_of_ble_eq_true rfl, Nat.le_of_ble_eq_true rfl⟩ hG rfl rfl hl.1 rfl (Nat.le_of_ble_eq_true rfl) dX1_ofBand_17 ⟨Nat.le_of_ble_eq_true rfl, Nat.le_of_ble_eq_true rfl⟩ hS (fun q h => h.elim) (fun q h => h.elim) (fun X ce q9 H1 locs1 hP hz hk hS h1 h2 h3 => ?_) (fun v H1 locs1 hP hz hk hS => ?_)
    · obtain ⟨rfl, hc9⟩ := hP
      rw [if_neg hc9] at hR
      exact x_out hex hlocks h1 h2 h3 hS ⟨Nat.le_of_ble_eq_true rfl, Nat.le_of_ble_eq_true rfl⟩ (by subst hR; exact ⟨rfl, Nat.succ_ne_zero _⟩)
    · obtain ⟨rfl, hc9, rfl⟩ := hP
      rw [if_pos hc9] at hR
      have k2 := hc9
      have nk2 := mb_ix (n := 8) (by decide) k2
      refine W.eq (g2 := F0 m 20 ls []) rfl ?_
      refine lv_aload_n hx hb dX1_ofBand_20 rfl (lv_at hl 0 rfl) ?_
      refine lv_iload_n hx hb dX1_ofBand_21 rfl (lv_at hl 1 rfl) ?_
      refine lv_eq nk1.1 ?_
      refine lv_iload_n hx hb dX1_ofBand_22 rfl (lv_at hl 2 rfl) ?_
      refine lv_eq nk2.1 ?_
      refine pcV (As := [.int (nI ((Int32.toNatClampNeg a))), .int (nI ((Int32.toNatClampNeg b)))]) (rest := []) hS0 (met_X1_bandNow l D E ((Int32.toNatClampNeg a)) ((Int32.toNatClampNeg b)) nk1.2 nk2.2) q458 q460 qs17 q100 q461 hd_X1_bandNow ⟨Nat.le_of_ble_eq_true rfl, Nat.le_of_ble_eq_true rfl⟩ hG (rcv hG cl_X1 hX.ag) hX rfl hl.1 rfl (Nat.le_of_ble_eq_true rfl) dX1_ofBand_23 ⟨Nat.le_of_ble_eq_true rfl, Nat.le_of_ble_eq_true rfl⟩ ?_
      refine W.eq (g2 := F0 m 26 ls [.int ((fX1_bandNow σ ((Int32.toNatClampNeg a)) ((Int32.toNatClampNeg b))))]) rfl ?_
      exact vx_ret (g_iret hx hb hr hlocks hS ⟨Nat.le_of_ble_eq_true rfl, Nat.le_of_ble_eq_true rfl⟩ dX1_ofBand_26 (by subst hR; exact ⟨rfl, rfl⟩))

def fX1_desk (σ : St) (a : Int32) : Nat × Int32 :=
  (if 0 ≤ a ∧ a ≤ 12 then (0, (fX1_deskNow σ a)) else (2, 0))
set_option maxHeartbeats 4000000 in
set_option maxRecDepth 100000 in
theorem met_X1_desk (l : Launch) (D : va_G) (E : Nat → Nat) (hlf : l.stackTraces = false) {α : Nat → Nat → Nat} {F : Nat → Prop} {σ : St} (a : Int32)  : XM l D E yX1_desk cX1_desk 2 (Option.some Jvm.ClassFile.FieldType.int) 8 142 1 6 [.ref (α 0 0), .int (a)] (RX D E α F σ) (fun _ => False) (fun _ => False) (fun sz v h => (fX1_desk σ a).1 = 0 ∧ v = some (.int (fX1_desk σ a).2)) (fun sz X h => X = exN (fX1_desk σ a).1 ∧ (fX1_desk σ a).1 ≠ 0) := by
  generalize hR : fX1_desk σ a = r
  refine XM.start (by decide) (Nat.le_of_ble_eq_true rfl) ?_
  intro p e s m below meth c ls hx hb hr hml hown hlocks hex hts hG hX hS hl
  have hown : s.vm.findClass RX1 = some m.cls := hown
  have hS0 : xS p m c cX1_desk 2 s _ RX1 := ⟨hx, hb, hml, hown, hts⟩
  have hl : lv_has ls 2 [(0, .ref (α 0 0)), (1, .int (a))] := hl
  have hG0 := hG
  have hX0 := hX
  have hb0P := hX0.nP10
  have hb0B := hX0.nB6
  have hb0W := hX0.nW14
  have hFE := hX.fE
  have hX := hX.wide (n := s.heap.size) hG.2.2.1
  have hcn : cnt σ σ := cnt.rf
  unfold fX1_desk at hR
  refine lv_iload_n hx hb dX1_desk_0 rfl (lv_at hl 1 rfl) ?_
  refine lv_iconst (v := 0) hx hb dX1_desk_1 (by decide) ?_
  refine lv_bipush (v := 12) hx hb dX1_desk_2 (by decide) ?_
  refine xcS (As := [.int (a), .int 0, .int 12]) (rest := []) hS0 (met_X1_mustBeIn l D E hlf a 0 12 _) q860 q861 q100 q862 hd_X1_mustBeIn ⟨Nat.le_of_ble_eq_true rfl, Nat.le_of_ble_eq_true rfl⟩ hG rfl rfl hl.1 rfl (Nat.le_of_ble_eq_true rfl) dX1_desk_4 ⟨Nat.le_of_ble_eq_true rfl, Nat.le_of_ble_eq_true rfl⟩ hS (fun q h => h.elim) (fun q h => h.elim) (fun X ce q9 H1 locs1 hP hz hk hS h1 h2 h3 => ?_) (fun v H1 locs1 hP hz hk hS => ?_)
  · obtain ⟨rfl, hc9⟩ := hP
    rw [if_neg hc9] at hR
    exact x_out hex hlocks h1 h2 h3 hS ⟨Nat.le_of_ble_eq_true rfl, Nat.le_of_ble_eq_true rfl⟩ (by subst hR; exact ⟨rfl, Nat.succ_ne_zero _⟩)
  · obtain ⟨rfl, hc9, rfl⟩ := hP
    rw [if_pos hc9] at hR
    have k1 := hc9
    refine W.eq (g2 := F0 m 7 ls []) rfl ?_
    refine lv_aload_n hx hb dX1_desk_7 rfl (lv_at hl 0 rfl) ?_
    refine lv_iload_n hx hb dX1_desk_8 rfl (lv_at hl 1 rfl) ?_
    refine pcV (As := [.int (a)]) (rest := []) hS0 (met_X1_deskNow l D E a) q395 q397 qs9 q100 q398 hd_X1_deskNow ⟨Nat.le_of_ble_eq_true rfl, Nat.le_of_ble_eq_true rfl⟩ hG (rcv hG cl_X1 hX.ag) hX rfl hl.1 rfl (Nat.le_of_ble_eq_true rfl) dX1_desk_9 ⟨Nat.le_of_ble_eq_true rfl, Nat.le_of_ble_eq_true rfl⟩ ?_
    refine W.eq (g2 := F0 m 12 ls [.int ((fX1_deskNow σ a))]) rfl ?_
    exact vx_ret (g_iret hx hb hr hlocks hS ⟨Nat.le_of_ble_eq_true rfl, Nat.le_of_ble_eq_true rfl⟩ dX1_desk_12 (by subst hR; exact ⟨rfl, rfl⟩))

