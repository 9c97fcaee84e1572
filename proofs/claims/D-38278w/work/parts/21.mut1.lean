/-! methods that write -/
set_option maxRecDepth 100000
theorem is_t {a lo hi : Int32} : fX4_is a lo hi = true ↔ lo ≤ a ∧ a ≤ hi := by
  unfold fX4_is
  constructor
  · intro h
    split at h
    · cases h
    · split at h
      · cases h
      · rename_i h1 h2
        exact ⟨i_nlt h1, i_nlt h2⟩
  · intro ⟨h1, h2⟩
    rw [if_neg (fun z => i_nle z h1), if_neg (fun z => i_nle z h2)]
theorem is_ix {n : Nat} (hn : n < 2 ^ 30) {a : Int32} (h : fX4_is a 0 (nI n) = true) : a = nI a.toNatClampNeg ∧ a.toNatClampNeg < n + 1 := by
  obtain ⟨h1, h2⟩ := is_t.mp h
  refine ck_ix ⟨h1, ?_⟩ (by omega)
  have e1 : (nI n).toInt = n := nI_toInt (by omega)
  have e2 : (nI (n + 1)).toInt = (n + 1 : Nat) := nI_toInt (by omega)
  simp only [Int32.lt_iff_toInt_lt, Int32.le_iff_toInt_le] at h2 ⊢
  rw [e1] at h2
  rw [e2]
  omega
theorem is_ixN {n : Nat} (hn : n < 2 ^ 30) {a : Int32} (h : fX4_is a 0 (nI n - 1) = true) : a = nI a.toNatClampNeg ∧ a.toNatClampNeg < n := by
  cases n with
  | zero =>
    obtain ⟨h1, h2⟩ := is_t.mp h
    have : (nI 0 - 1 : Int32).toInt = -1 := by decide
    have e0 : (0 : Int32).toInt = 0 := by decide
    simp only [Int32.le_iff_toInt_le] at h1 h2
    omega
  | succ n =>
    rw [nI_pred] at h
    exact is_ix (by omega) h
section
variable {D : va_G} {E : Nat → Nat} {β : Nat → Nat → Nat} {F : Nat → Prop} {σ : St} {th ca : Int32} {sm : Int64} {H : Heap} {a : Int32}
theorem isPlayer_ix (hM : RM D E β F σ th ca sm H) (h : fX4_isPlayer σ a = true) : a = nI a.toNatClampNeg ∧ a.toNatClampNeg < nP σ := is_ixN (by have := hM.nP10; omega) h
theorem isWedding_ix (hM : RM D E β F σ th ca sm H) (h : fX4_isWedding σ a = true) : a = nI a.toNatClampNeg ∧ a.toNatClampNeg < nW σ := is_ixN (by have := hM.nW14; omega) h
theorem isBand_ix (hM : RM D E β F σ th ca sm H) (h : fX4_isBand σ a = true) : a = nI a.toNatClampNeg ∧ a.toNatClampNeg < nB σ := is_ixN (by have := hM.nB6; omega) h
end
theorem isDay_ix {σ : St} {a : Int32} (h0 : 0 ≤ tod σ) (h : fX4_isDay σ a = true) : a = nI a.toNatClampNeg ∧ a.toNatClampNeg < 366 := by
  unfold fX4_isDay at h
  obtain ⟨h1, h2⟩ := is_t.mp h
  exact is_ix (n := 365) (by decide) (is_t.mpr ⟨Int32.le_trans h0 h1, h2⟩)
theorem isTown_ix {a : Int32} (h : fX4_isTown a = true) : a = nI a.toNatClampNeg ∧ a.toNatClampNeg < 6 := is_ix (n := 5) (by decide) h
def fX1_learn (σ : St) (a : Int32) (z : Int32) : Nat × Int32 × St :=
  (if 0 ≤ a ∧ a < nI (nP σ) then (if 0 ≤ z ∧ z ≤ 65535 then (fun (σ1 : St) => (0, nI (popc (pSongs σ1 ((Int32.toNatClampNeg a)))), σ1)) (sW σ 12 ((Int32.toNatClampNeg a)) ((pSongs σ ((Int32.toNatClampNeg a))) ||| z)) else (2, 0, σ)) else (1, 0, σ))
set_option maxHeartbeats 4000000 in
set_option maxRecDepth 100000 in
theorem met_X1_learn (l : Launch) (D : va_G) (E : Nat → Nat) (hlf : l.stackTraces = false) {α : Nat → Nat → Nat} {F : Nat → Prop} {σ : St} (a : Int32) (z : Int32)  : XM l D E yX1_learn cX1_learn 4 (Option.some Jvm.ClassFile.FieldType.int) 9 170 2 12 [.ref (α 0 0), .int (a), .int (z)] (RX D E α F σ) F F (fun sz v h => (fX1_learn σ a z).1 = 0 ∧ v = some (.int (fX1_learn σ a z).2.1) ∧ RX D E α (fN F sz) (fX1_learn σ a z).2.2 h ∧ cnt (fX1_learn σ a z).2.2 σ) (fun sz X h => X = exN (fX1_learn σ a z).1 ∧ (fX1_learn σ a z).1 ≠ 0 ∧ RX D E α (fN F sz) σ h) := by
  generalize hR : fX1_learn σ a z = r
  refine XM.start (by decide) (Nat.le_of_ble_eq_true rfl) ?_
  intro p e s m below meth c ls hx hb hr hml hown hlocks hex hts hG hX hS hl
  have hown : s.vm.findClass RX1 = some m.cls := hown
  have hS0 : xS p m c cX1_learn 4 s _ RX1 := ⟨hx, hb, hml, hown, hts⟩
  have hl : lv_has ls 4 [(0, .ref (α 0 0)), (1, .int (a)), (2, .int (z))] := hl
  have hG0 := hG
  have hX0 := hX
  have hb0P := hX0.nP10
  have hb0B := hX0.nB6
  have hb0W := hX0.nW14
  have hFE := hX.fE
  have hX := hX.wide (n := s.heap.size) hG.2.2.1
  have hcn : cnt σ σ := cnt.rf
  unfold fX1_learn at hR
  refine lv_aload_n hx hb dX1_learn_0 rfl (lv_at hl 0 rfl) ?_
  refine lv_iload_n hx hb dX1_learn_1 rfl (lv_at hl 1 rfl) ?_
  refine xcV (As := [.int (a)]) (rest := []) hS0 (met_X1_playerAt l D E hlf a _) q944 q946 qs40 q100 q947 hd_X1_playerAt ⟨Nat.le_of_ble_eq_true rfl, Nat.le_of_ble_eq_true rfl⟩ hG (rcv hG cl_X1 hX.ag) ⟨rfl, hX⟩ rfl hl.1 rfl (Nat.le_of_ble_eq_true rfl) dX1_learn_2 ⟨Nat.le_of_ble_eq_true rfl, Nat.le_of_ble_eq_true rfl⟩ hS (fun q h => h.elim) (fun q h => h.elim) (fun X ce q9 H1 locs1 hP hz hk hS h1 h2 h3 => ?_) (fun v H1 locs1 hP hz hk hS => ?_)
  · obtain ⟨rfl, hc9⟩ := hP
    rw [if_neg hc9] at hR
    exact x_out hex hlocks h1 h2 h3 hS ⟨Nat.le_of_ble_eq_true rfl, Nat.le_of_ble_eq_true rfl⟩ (by subst hR; exact ⟨rfl, Nat.succ_ne_zero _, (hX.kept (fun q h4 _ => hk q h4 id))⟩)
  · obtain ⟨rfl, hc9, rfl⟩ := hP
    rw [if_pos hc9] at hR
    have k1 := hc9
    have nk1 := ck_ix k1 (by have := hX.nP10; have := hX.nW14; have := hX.nB6; omega)
    refine W.eq (g2 := F0 m 5 ls [.ref (α 3 (Int32.toNatClampNeg a))]) rfl ?_
    refine lv_astore_n (lv' := [(3, .ref (α 3 (Int32.toNatClampNeg a))), (0, .ref (α 0 0)), (1, .int (a)), (2, .int (z))]) hx hb dX1_learn_5 rfl hl (Nat.le_of_ble_eq_true rfl) rfl (fun ls hl => ?_)
    refine lv_iload_n hx hb dX1_learn_6 rfl (lv_at hl 3 rfl) ?_
    refine xcS (As := [.int (z)]) (rest := []) hS0 (met_X1_mustBeSongs l D E hlf z _) q881 q882 q100 q883 hd_X1_mustBeSongs ⟨Nat.le_of_ble_eq_true rfl, Nat.le_of_ble_eq_true rfl⟩ hG rfl rfl hl.1 rfl (Nat.le_of_ble_eq_true rfl) dX1_learn_7 ⟨Nat.le_of_ble_eq_true rfl, Nat.le_of_ble_eq_true rfl⟩ hS (fun q h => h.elim) (fun q h => h.elim) (fun X ce q9 H1 locs1 hP hz hk hS h1 h2 h3 => ?_) (fun v H1 locs1 hP hz hk hS => ?_)
    · obtain ⟨rfl, hc9⟩ := hP
      rw [if_neg hc9] at hR
      exact x_out hex hlocks h1 h2 h3 hS ⟨Nat.le_of_ble_eq_true rfl, Nat.le_of_ble_eq_true rfl⟩ (by subst hR; exact ⟨rfl, Nat.succ_ne_zero _, (hX.kept (fun q h4 _ => hk q h4 id))⟩)
    · obtain ⟨rfl, hc9, rfl⟩ := hP
      rw [if_pos hc9] at hR
      have k2 := hc9
      refine W.eq (g2 := F0 m 10 ls []) rfl ?_
      refine lv_aload_n hx hb dX1_learn_10 rfl (lv_at hl 0 rfl) ?_
      refine lv_dup hx hb dX1_learn_11 rfl ?_
      refine gfN (v := .int (pSongs σ ((Int32.toNatClampNeg a)))) (C := RX6) (T := TX6) (N := 7) (k := 3) hx hb hts hown hG cl_X6 in_X6 (hX.pl nk1.2) (by decide) q916 rfl dX1_learn_12 ?_
      refine lv_iload_n hx hb dX1_learn_15 rfl (lv_at hl 3 rfl) ?_
      refine lv_ior hx hb dX1_learn_16 ?_
      refine pfN (ty0 := tyX6) (ty := tyX6 3) (v := .int ((pSongs σ ((Int32.toNatClampNeg a))) ||| z)) (C := RX6) (T := TX6) (N := 7) (k := 3) hx hb hts hown hG hS cl_X6 in_X6 tyX6_ok nmX6 (hX.pl nk1.2) (hX.plF nk1.2) (hX.plF nk1.2) (by decide) q916 rfl (tyX6_ok 3 (by decide)) rfl rfl (Nat.le_of_ble_eq_true rfl) dX1_learn_17 (fun H1 locs1 he hz hq hS => ?_)
      have hX := hX.Pp12 nk1.2 he hq
      have hG := gE.ofS hG0 hS hFE
      obtain ⟨σ1, hσ1⟩ : ∃ x, x = sW σ 12 ((Int32.toNatClampNeg a)) ((pSongs σ ((Int32.toNatClampNeg a))) ||| z) := ⟨_, rfl⟩
      rw [← hσ1] at hR hX
      have hcn : cnt σ1 σ := by rw [hσ1]; exact hcn.sW
      try dsimp only at hR
      refine lv_aload_n hx hb dX1_learn_20 rfl (lv_at hl 0 rfl) ?_
      refine gfN (v := .int (pSongs σ1 ((Int32.toNatClampNeg a)))) (C := RX6) (T := TX6) (N := 7) (k := 3) hx hb hts hown hG cl_X6 in_X6 (hX.pl (hcn.p nk1.2)) (by decide) q916 rfl dX1_learn_21 ?_
      refine pcS (As := [.int (pSongs σ1 ((Int32.toNatClampNeg a)))]) (rest := []) hS0 (met_size l D E (pSongs σ1 ((Int32.toNatClampNeg a)))) q379 q380 q100 q381 hd_X1_size ⟨Nat.le_of_ble_eq_true rfl, Nat.le_of_ble_eq_true rfl⟩ hG trivial rfl hl.1 rfl (Nat.le_of_ble_eq_true rfl) dX1_learn_24 ⟨Nat.le_of_ble_eq_true rfl, Nat.le_of_ble_eq_true rfl⟩ ?_
      refine W.eq (g2 := F0 m 27 ls [.int (nI (popc (pSongs σ1 ((Int32.toNatClampNeg a)))))]) rfl ?_
      exact vx_ret (g_iret hx hb hr hlocks hS ⟨Nat.le_of_ble_eq_true rfl, Nat.le_of_ble_eq_true rfl⟩ dX1_learn_27 (by subst hR; exact ⟨rfl, rfl, hX, hcn⟩))

def fX1_late (σ : St) (a : Int32) (z : Int32) : Nat × Int32 × St :=
  (if 0 ≤ a ∧ a < nI (nW σ) then (if 0 ≤ z ∧ z ≤ 240 then (if ((fX10_is σ ((Int32.toNatClampNeg a)) 1)) = true then (fun (σ1 : St) => (0, (fX10_quarters σ1 ((Int32.toNatClampNeg a))), σ1)) (sW σ 27 ((Int32.toNatClampNeg a)) z) else (3, 0, σ)) else (2, 0, σ)) else (1, 0, σ))
set_option maxHeartbeats 4000000 in
set_option maxRecDepth 100000 in
theorem met_X1_late (l : Launch) (D : va_G) (E : Nat → Nat) (hlf : l.stackTraces = false) {α : Nat → Nat → Nat} {F : Nat → Prop} {σ : St} (a : Int32) (z : Int32)  : XM l D E yX1_late cX1_late 4 (Option.some Jvm.ClassFile.FieldType.int) 8 142 3 18 [.ref (α 0 0), .int (a), .int (z)] (RX D E α F σ) F F (fun sz v h => (fX1_late σ a z).1 = 0 ∧ v = some (.int (fX1_late σ a z).2.1) ∧ RX D E α (fN F sz) (fX1_late σ a z).2.2 h ∧ cnt (fX1_late σ a z).2.2 σ) (fun sz X h => X = exN (fX1_late σ a z).1 ∧ (fX1_late σ a z).1 ≠ 0 ∧ RX D E α (fN F sz) σ h) := by
  generalize hR : fX1_late σ a z = r
  refine XM.start (by decide) (Nat.le_of_ble_eq_true rfl) ?_
  intro p e s m below meth c ls hx hb hr hml hown hlocks hex hts hG hX hS hl
  have hown : s.vm.findClass RX1 = some m.cls := hown
  have hS0 : xS p m c cX1_late 4 s _ RX1 := ⟨hx, hb, hml, hown, hts⟩
  have hl : lv_has ls 4 [(0, .ref (α 0 0)), (1, .int (a)), (2, .int (z))] := hl
  have hG0 := hG
  have hX0 := hX
  have hb0P := hX0.nP10
  have hb0B := hX0.nB6
  have hb0W := hX0.nW14
  have hFE := hX.fE
  have hX := hX.wide (n := s.heap.size) hG.2.2.1
  have hcn : cnt σ σ := cnt.rf
  unfold fX1_late at hR
  refine lv_aload_n hx hb dX1_late_0 rfl (lv_at hl 0 rfl) ?_
  refine lv_iload_n hx hb dX1_late_1 rfl (lv_at hl 1 rfl) ?_
  refine xcV (As := [.int (a)]) (rest := []) hS0 (met_X1_weddingAt l D E hlf a _) q1066 q1068 qs42 q100 q1069 hd_X1_weddingAt ⟨Nat.le_of_ble_eq_true rfl, Nat.le_of_ble_eq_true rfl⟩ hG (rcv hG cl_X1 hX.ag) ⟨rfl, hX⟩ rfl hl.1 rfl (Nat.le_of_ble_eq_true rfl) dX1_late_2 ⟨Nat.le_of_ble_eq_true rfl, Nat.le_of_ble_eq_true rfl⟩ hS (fun q h => h.elim) (fun q h => h.elim) (fun X ce q9 H1 locs1 hP hz hk hS h1 h2 h3 => ?_) (fun v H1 locs1 hP hz hk hS => ?_)
  · obtain ⟨rfl, hc9⟩ := hP
    rw [if_neg hc9] at hR
    exact x_out hex hlocks h1 h2 h3 hS ⟨Nat.le_of_ble_eq_true rfl, Nat.le_of_ble_eq_true rfl⟩ (by subst hR; exact ⟨rfl, Nat.succ_ne_zero _, (hX.kept (fun q h4 _ => hk q h4 id))⟩)
  · obtain ⟨rfl, hc9, rfl⟩ := hP
    rw [if_pos hc9] at hR
    have k1 := hc9
    have nk1 := ck_ix k1 (by have := hX.nP10; have := hX.nW14; have := hX.nB6; omega)
    refine W.eq (g2 := F0 m 5 ls [.ref (α 5 (Int32.toNatClampNeg a))]) rfl ?_
    refine lv_astore_n (lv' := [(3, .ref (α 5 (Int32.toNatClampNeg a))), (0, .ref (α 0 0)), (1, .int (a)), (2, .int (z))]) hx hb dX1_late_5 rfl hl (Nat.le_of_ble_eq_true rfl) rfl (fun ls hl => ?_)
    refine lv_iload_n hx hb dX1_late_6 rfl (lv_at hl 3 rfl) ?_
    refine lv_iconst (v := 0) hx hb dX1_late_7 (by decide) ?_
    refine lv_sipush (v := 240) hx hb dX1_late_8 (by decide) ?_
    refine xcS (As := [.int (z), .int 0, .int 240]) (rest := []) hS0 (met_X1_mustBeIn l D E hlf z 0 240 _) q860 q861 q100 q862 hd_X1_mustBeIn ⟨Nat.le_of_ble_eq_true rfl, Nat.le_of_ble_eq_true rfl⟩ hG rfl rfl hl.1 rfl (Nat.le_of_ble_eq_true rfl) dX1_late_11 ⟨Nat.le_of_ble_eq_true rfl, Nat.le_of_ble_eq_true rfl⟩ hS (fun q h => h.elim) (fun q h => h.elim) (fun X ce q9 H1 locs1 hP hz hk hS h1 h2 h3 => ?_) (fun v H1 locs1 hP hz hk hS => ?_)
    · obtain ⟨rfl, hc9⟩ := hP
      rw [if_neg hc9] at hR
      exact x_out hex hlocks h1 h2 h3 hS ⟨Nat.le_of_ble_eq_true rfl, Nat.le_of_ble_eq_true rfl⟩ (by subst hR; exact ⟨rfl, Nat.succ_ne_zero _, (hX.kept (fun q h4 _ => hk q h4 id))⟩)
    · obtain ⟨rfl, hc9, rfl⟩ := hP
      rw [if_pos hc9] at hR
      have k2 := hc9
      refine W.eq (g2 := F0 m 14 ls []) rfl ?_
      refine lv_aload_n hx hb dX1_late_14 rfl (lv_at hl 0 rfl) ?_
      refine gs hx hb (hG.en (i := 1) (by decide)) hown (hts _ q363) (fun _ h => h) dX1_late_15 ?_
      refine pcV (As := [.ref (E (10 + 1))]) (rest := []) hS0 (met_X10_is l D E ((Int32.toNatClampNeg a)) 1 nk1.2 (by decide)) q370 q371 q372 q130 q373 hd_X10_is ⟨Nat.le_of_ble_eq_true rfl, Nat.le_of_ble_eq_true rfl⟩ hG (rcv hG cl_X10 (hX.wd nk1.2)) hX rfl hl.1 rfl (Nat.le_of_ble_eq_true rfl) dX1_late_18 ⟨Nat.le_of_ble_eq_true rfl, Nat.le_of_ble_eq_true rfl⟩ ?_
      refine W.eq (g2 := F0 m 21 ls [.int (bI ((fX10_is σ ((Int32.toNatClampNeg a)) 1)))]) rfl ?_
      refine xcS (As := [.int (bI ((fX10_is σ ((Int32.toNatClampNeg a)) 1)))]) (rest := []) hS0 (met_X1_checkState l D E hlf ((fX10_is σ ((Int32.toNatClampNeg a)) 1)) _) q885 q886 q100 q887 hd_X1_checkState ⟨Nat.le_of_ble_eq_true rfl, Nat.le_of_ble_eq_true rfl⟩ hG rfl rfl hl.1 rfl (Nat.le_of_ble_eq_true rfl) dX1_late_21 ⟨Nat.le_of_ble_eq_true rfl, Nat.le_of_ble_eq_true rfl⟩ hS (fun q h => h.elim) (fun q h => h.elim) (fun X ce q9 H1 locs1 hP hz hk hS h1 h2 h3 => ?_) (fun v H1 locs1 hP hz hk hS => ?_)
      · obtain ⟨rfl, hc9⟩ := hP
        rw [if_neg hc9] at hR
        exact x_out hex hlocks h1 h2 h3 hS ⟨Nat.le_of_ble_eq_true rfl, Nat.le_of_ble_eq_true rfl⟩ (by subst hR; exact ⟨rfl, Nat.succ_ne_zero _, (hX.kept (fun q h4 _ => hk q h4 id))⟩)
      · obtain ⟨rfl, hc9, rfl⟩ := hP
        rw [if_pos hc9] at hR
        have k3 := hc9
        refine W.eq (g2 := F0 m 24 ls []) rfl ?_
        refine lv_aload_n hx hb dX1_late_24 rfl (lv_at hl 0 rfl) ?_
        refine lv_iload_n hx hb dX1_late_25 rfl (lv_at hl 3 rfl) ?_
        refine pfN (ty0 := tyX10) (ty := tyX10 11) (v := .int (z)) (C := RX10) (T := TX10) (N := 12) (k := 11) hx hb hts hown hG hS cl_X10 in_X10 tyX10_ok nmX10 (hX.wd nk1.2) (hX.wdF nk1.2) (hX.wdF nk1.2) (by decide) q1033 rfl (tyX10_ok 11 (by decide)) rfl rfl (Nat.le_of_ble_eq_true rfl) dX1_late_26 (fun H1 locs1 he hz hq hS => ?_)
        have hX := hX.Pw27 nk1.2 he hq
        have hG := gE.ofS hG0 hS hFE
        obtain ⟨σ1, hσ1⟩ : ∃ x, x = sW σ 27 ((Int32.toNatClampNeg a)) z := ⟨_, rfl⟩
        rw [← hσ1] at hR hX
        have hcn : cnt σ1 σ := by rw [hσ1]; exact hcn.sW
        try dsimp only at hR
        refine lv_aload_n hx hb dX1_late_29 rfl (lv_at hl 0 rfl) ?_
        refine pcV (As := []) (rest := []) hS0 (met_X10_quarters l D E ((Int32.toNatClampNeg a)) (hcn.w nk1.2)) q490 q491 q492 q130 q493 hd_X10_quarters ⟨Nat.le_of_ble_eq_true rfl, Nat.le_of_ble_eq_true rfl⟩ hG (rcv hG cl_X10 (hX.wd (hcn.w nk1.2))) hX rfl hl.1 rfl (Nat.le_of_ble_eq_true rfl) dX1_late_30 ⟨Nat.le_of_ble_eq_true rfl, Nat.le_of_ble_eq_true rfl⟩ ?_
        refine W.eq (g2 := F0 m 33 ls [.int ((fX10_quarters σ1 ((Int32.toNatClampNeg a))))]) rfl ?_
        exact vx_ret (g_iret hx hb hr hlocks hS ⟨Nat.le_of_ble_eq_true rfl, Nat.le_of_ble_eq_true rfl⟩ dX1_late_33 (by subst hR; exact ⟨rfl, rfl, hX, hcn⟩))

def fX1_cancel (σ : St) (a : Int32) : Nat × Int32 × St :=
  (if 0 ≤ a ∧ a < nI (nW σ) then (if ((fX10_is σ ((Int32.toNatClampNeg a)) 0)) = true then (if ((fX10_is σ ((Int32.toNatClampNeg a)) 1)) = true then (fun (σ3 : St) => (fun (σ4 : St) => (0, (fX1_owed σ ((Int32.toNatClampNeg a))), σ4)) (sN σ3 5 ((Int32.toNatClampNeg a)) 3)) (sW σ 26 ((Int32.toNatClampNeg a)) (if (wPaid σ ((Int32.toNatClampNeg a))) < ((fX1_owed σ ((Int32.toNatClampNeg a)))) then ((fX1_owed σ ((Int32.toNatClampNeg a)))) else (wPaid σ ((Int32.toNatClampNeg a))))) else (fun (σ1 : St) => (fun (σ2 : St) => (0, 0, σ2)) (sN σ1 5 ((Int32.toNatClampNeg a)) 3)) (sW σ 26 ((Int32.toNatClampNeg a)) (if (wPaid σ ((Int32.toNatClampNeg a))) < 0 then 0 else (wPaid σ ((Int32.toNatClampNeg a)))))) else (if ((fX10_is σ ((Int32.toNatClampNeg a)) 1)) = true then (if ((fX10_is σ ((Int32.toNatClampNeg a)) 1)) = true then (fun (σ7 : St) => (fun (σ8 : St) => (0, (fX1_owed σ ((Int32.toNatClampNeg a))), σ8)) (sN σ7 5 ((Int32.toNatClampNeg a)) 3)) (sW σ 26 ((Int32.toNatClampNeg a)) (if (wPaid σ ((Int32.toNatClampNeg a))) < ((fX1_owed σ ((Int32.toNatClampNeg a)))) then ((fX1_owed σ ((Int32.toNatClampNeg a)))) else (wPaid σ ((Int32.toNatClampNeg a))))) else (fun (σ5 : St) => (fun (σ6 : St) => (0, 0, σ6)) (sN σ5 5 ((Int32.toNatClampNeg a)) 3)) (sW σ 26 ((Int32.toNatClampNeg a)) (if (wPaid σ ((Int32.toNatClampNeg a))) < 0 then 0 else (wPaid σ ((Int32.toNatClampNeg a)))))) else (3, 0, σ))) else (1, 0, σ))
set_option maxHeartbeats 4000000 in
set_option maxRecDepth 100000 in
theorem met_X1_cancel (l : Launch) (D : va_G) (E : Nat → Nat) (hlf : l.stackTraces = false) {α : Nat → Nat → Nat} {F : Nat → Prop} {σ : St} (a : Int32)  : XM l D E yX1_cancel cX1_cancel 4 (Option.some Jvm.ClassFile.FieldType.int) 8 141 2 12 [.ref (α 0 0), .int (a)] (RX D E α F σ) F F (fun sz v h => (fX1_cancel σ a).1 = 0 ∧ v = some (.int (fX1_cancel σ a).2.1) ∧ RX D E α (fN F sz) (fX1_cancel σ a).2.2 h ∧ cnt (fX1_cancel σ a).2.2 σ) (fun sz X h => X = exN (fX1_cancel σ a).1 ∧ (fX1_cancel σ a).1 ≠ 0 ∧ RX D E α (fN F sz) σ h) := by
  generalize hR : fX1_cancel σ a = r
  refine XM.start (by decide) (Nat.le_of_ble_eq_true rfl) ?_
  intro p e s m below meth c ls hx hb hr hml hown hlocks hex hts hG hX hS hl
  have hown : s.vm.findClass RX1 = some m.cls := hown
  have hS0 : xS p m c cX1_cancel 4 s _ RX1 := ⟨hx, hb, hml, hown, hts⟩
  have hl : lv_has ls 4 [(0, .ref (α 0 0)), (1, .int (a))] := hl
  have hG0 := hG
  have hX0 := hX
  have hb0P := hX0.nP10
  have hb0B := hX0.nB6
  have hb0W := hX0.nW14
  have hFE := hX.fE
  have hX := hX.wide (n := s.heap.size) hG.2.2.1
  have hcn : cnt σ σ := cnt.rf
  unfold fX1_cancel at hR
  refine lv_aload_n hx hb dX1_cancel_0 rfl (lv_at hl 0 rfl) ?_
  refine lv_iload_n hx hb dX1_cancel_1 rfl (lv_at hl 1 rfl) ?_
  refine xcV (As := [.int (a)]) (rest := []) hS0 (met_X1_weddingAt l D E hlf a _) q1066 q1068 qs42 q100 q1069 hd_X1_weddingAt ⟨Nat.le_of_ble_eq_true rfl, Nat.le_of_ble_eq_true rfl⟩ hG (rcv hG cl_X1 hX.ag) ⟨rfl, hX⟩ rfl hl.1 rfl (Nat.le_of_ble_eq_true rfl) dX1_cancel_2 ⟨Nat.le_of_ble_eq_true rfl, Nat.le_of_ble_eq_true rfl⟩ hS (fun q h => h.elim) (fun q h => h.elim) (fun X ce q9 H1 locs1 hP hz hk hS h1 h2 h3 => ?_) (fun v H1 locs1 hP hz hk hS => ?_)
  · obtain ⟨rfl, hc9⟩ := hP
    rw [if_neg hc9] at hR
    exact x_out hex hlocks h1 h2 h3 hS ⟨Nat.le_of_ble_eq_true rfl, Nat.le_of_ble_eq_true rfl⟩ (by subst hR; exact ⟨rfl, Nat.succ_ne_zero _, (hX.kept (fun q h4 _ => hk q h4 id))⟩)
  · obtain ⟨rfl, hc9, rfl⟩ := hP
    rw [if_pos hc9] at hR
    have k1 := hc9
    have nk1 := ck_ix k1 (by have := hX.nP10; have := hX.nW14; have := hX.nB6; omega)
    refine W.eq (g2 := F0 m 5 ls [.ref (α 5 (Int32.toNatClampNeg a))]) rfl ?_
    refine lv_astore_n (lv' := [(2, .ref (α 5 (Int32.toNatClampNeg a))), (0, .ref (α 0 0)), (1, .int (a))]) hx hb dX1_cancel_5 rfl hl (Nat.le_of_ble_eq_true rfl) rfl (fun ls hl => ?_)
    refine lv_aload_n hx hb dX1_cancel_6 rfl (lv_at hl 0 rfl) ?_
    refine gs hx hb (hG.en (i := 0) (by decide)) hown (hts _ q399) (fun _ h => h) dX1_cancel_7 ?_
    refine pcV (As := [.ref (E (10 + 0))]) (rest := []) hS0 (met_X10_is l D E ((Int32.toNatClampNeg a)) 0 nk1.2 (by decide)) q370 q371 q372 q130 q373 hd_X10_is ⟨Nat.le_of_ble_eq_true rfl, Nat.le_of_ble_eq_true rfl⟩ hG (rcv hG cl_X10 (hX.wd nk1.2)) hX rfl hl.1 rfl (Nat.le_of_ble_eq_true rfl) dX1_cancel_10 ⟨Nat.le_of_ble_eq_true rfl, Nat.le_of_ble_eq_true rfl⟩ ?_
    refine W.eq (g2 := F0 m 13 ls [.int (bI ((fX10_is σ ((Int32.toNatClampNeg a)) 0)))]) rfl ?_
    refine lb_if_ne (tgt := 26) hx hb dX1_cancel_13 (by decide) (fun c2 => ?_) (fun c2 => ?_)
    · rw [if_pos c2] at hR
      refine lv_iconst (v := 1) hx hb dX1_cancel_26 (by decide) ?_
      refine lv_goto (tgt := 31) hx hb dX1_cancel_27 (by decide) ?_
      refine xcS (As := [.int 1]) (rest := []) hS0 (met_X1_checkState l D E hlf true _) q885 q886 q100 q887 hd_X1_checkState ⟨Nat.le_of_ble_eq_true rfl, Nat.le_of_ble_eq_true rfl⟩ hG rfl rfl hl.1 rfl (Nat.le_of_ble_eq_true rfl) dX1_cancel_31 ⟨Nat.le_of_ble_eq_true rfl, Nat.le_of_ble_eq_true rfl⟩ hS (fun q h => h.elim) (fun q h => h.elim) (fun X ce q9 H1 locs1 hP hz hk hS h1 h2 h3 => ?_) (fun v H1 locs1 hP hz hk hS => ?_)
      · exact absurd rfl hP.2
      · obtain ⟨rfl, hc9, rfl⟩ := hP
        refine W.eq (g2 := F0 m 34 ls []) rfl ?_
        refine lv_aload_n hx hb dX1_cancel_34 rfl (lv_at hl 0 rfl) ?_
        refine gs hx hb (hG.en (i := 1) (by decide)) hown (hts _ q363) (fun _ h => h) dX1_cancel_35 ?_
        refine pcV (As := [.ref (E (10 + 1))]) (rest := []) hS0 (met_X10_is l D E ((Int32.toNatClampNeg a)) 1 nk1.2 (by decide)) q370 q371 q372 q130 q373 hd_X10_is ⟨Nat.le_of_ble_eq_true rfl, Nat.le_of_ble_eq_true rfl⟩ hG (rcv hG cl_X10 (hX.wd nk1.2)) hX rfl hl.1 rfl (Nat.le_of_ble_eq_true rfl) dX1_cancel_38 ⟨Nat.le_of_ble_eq_true rfl, Nat.le_of_ble_eq_true rfl⟩ ?_
        refine W.eq (g2 := F0 m 41 ls [.int (bI ((fX10_is σ ((Int32.toNatClampNeg a)) 1)))]) rfl ?_
        refine lb_if_eq (tgt := 52) hx hb dX1_cancel_41 (by decide) (fun c4 => ?_) (fun c4 => ?_)
        · rw [if_neg c4] at hR
          refine lv_iconst (v := 0) hx hb dX1_cancel_52 (by decide) ?_
          refine lv_istore_n (lv' := [(3, .int 0), (2, .ref (α 5 (Int32.toNatClampNeg a))), (0, .ref (α 0 0)), (1, .int (a))]) hx hb dX1_cancel_53 rfl hl (Nat.le_of_ble_eq_true rfl) rfl (fun ls hl => ?_)
          refine lv_aload_n hx hb dX1_cancel_54 rfl (lv_at hl 1 rfl) ?_
          refine lv_aload_n hx hb dX1_cancel_55 rfl (lv_at hl 1 rfl) ?_
          refine gfN (v := .int (wPaid σ ((Int32.toNatClampNeg a)))) (C := RX10) (T := TX10) (N := 12) (k := 10) hx hb hts hown hG cl_X10 in_X10 (hX.wd nk1.2) (by decide) q1031 rfl dX1_cancel_56 ?_
          refine lv_iload_n hx hb dX1_cancel_59 rfl (lv_at hl 0 rfl) ?_
          refine va_mmax hx hb (hml.trans hl.1.symm) hown (hts _ q423) (hts _ q249) (hts _ q107) (hts _ q250) (Nat.le_of_ble_eq_true rfl) (Nat.le_of_ble_eq_true rfl) (Nat.le_of_ble_eq_true rfl) (Nat.le_of_ble_eq_true rfl) dX1_cancel_60 ?_
          refine W.eq (g2 := F0 m 63 ls [.int (if (wPaid σ ((Int32.toNatClampNeg a))) < 0 then 0 else (wPaid σ ((Int32.toNatClampNeg a)))), .ref (α 5 (Int32.toNatClampNeg a))]) rfl ?_
          refine pfN (ty0 := tyX10) (ty := tyX10 10) (v := .int (if (wPaid σ ((Int32.toNatClampNeg a))) < 0 then 0 else (wPaid σ ((Int32.toNatClampNeg a))))) (C := RX10) (T := TX10) (N := 12) (k := 10) hx hb hts hown hG hS cl_X10 in_X10 tyX10_ok nmX10 (hX.wd nk1.2) (hX.wdF nk1.2) (hX.wdF nk1.2) (by decide) q1031 rfl (tyX10_ok 10 (by decide)) rfl rfl (Nat.le_of_ble_eq_true rfl) dX1_cancel_63 (fun H1 locs1 he hz hq hS => ?_)
          have hX := hX.Pw26 nk1.2 he hq
          have hG := gE.ofS hG0 hS hFE
          obtain ⟨σ1, hσ1⟩ : ∃ x, x = sW σ 26 ((Int32.toNatClampNeg a)) (if (wPaid σ ((Int32.toNatClampNeg a))) < 0 then 0 else (wPaid σ ((Int32.toNatClampNeg a)))) := ⟨_, rfl⟩
          rw [← hσ1] at hR hX
          have hcn : cnt σ1 σ := by rw [hσ1]; exact hcn.sW
          try dsimp only at hR
          refine lv_aload_n hx hb dX1_cancel_66 rfl (lv_at hl 1 rfl) ?_
          refine gs hx hb (hG.en (i := 3) (by decide)) hown (hts _ q405) (fun _ h => h) dX1_cancel_67 ?_
          refine pfN (ty0 := tyX10) (ty := tyX10 7) (v := .ref (E (10 + 3))) (C := RX10) (T := TX10) (N := 12) (k := 7) hx hb hts hown hG hS cl_X10 in_X10 tyX10_ok nmX10 (hX.wd (hcn.w nk1.2)) (hX.wdF (hcn.w nk1.2)) (hX.wdF (hcn.w nk1.2)) (by decide) q1025 rfl (tyX10_ok 7 (by decide)) rfl rfl (Nat.le_of_ble_eq_true rfl) dX1_cancel_70 (fun H1 locs1 he hz hq hS => ?_)
          have hX := hX.Pwst (hcn.w nk1.2) (v := 3) (by decide) he hq
          have hG := gE.ofS hG0 hS hFE
          obtain ⟨σ2, hσ2⟩ : ∃ x, x = sN σ1 5 ((Int32.toNatClampNeg a)) 3 := ⟨_, rfl⟩
          rw [← hσ2] at hR hX
          have hcn : cnt σ2 σ := by rw [hσ2]; exact hcn.sN (by decide)
          try dsimp only at hR
          refine lv_iload_n hx hb dX1_cancel_73 rfl (lv_at hl 0 rfl) ?_
          exact vx_ret (g_iret hx hb hr hlocks hS ⟨Nat.le_of_ble_eq_true rfl, Nat.le_of_ble_eq_true rfl⟩ dX1_cancel_74 (by subst hR; exact ⟨rfl, rfl, hX, hcn⟩))
        · rw [if_pos c4] at hR
          refine lv_aload_n hx hb dX1_cancel_44 rfl (lv_at hl 1 rfl) ?_
          refine lv_aload_n hx hb dX1_cancel_45 rfl (lv_at hl 0 rfl) ?_
          refine pcV (As := [.ref (α 5 (Int32.toNatClampNeg a))]) (rest := []) hS0 (met_X1_owed l D E ((Int32.toNatClampNeg a)) nk1.2) q1081 q1083 qs44 q100 q1084 hd_X1_owed ⟨Nat.le_of_ble_eq_true rfl, Nat.le_of_ble_eq_true rfl⟩ hG (rcv hG cl_X1 hX.ag) hX rfl hl.1 rfl (Nat.le_of_ble_eq_true rfl) dX1_cancel_46 ⟨Nat.le_of_ble_eq_true rfl, Nat.le_of_ble_eq_true rfl⟩ ?_
          refine W.eq (g2 := F0 m 49 ls [.int ((fX1_owed σ ((Int32.toNatClampNeg a))))]) rfl ?_
          refine lv_goto (tgt := 53) hx hb dX1_cancel_49 (by decide) ?_
          refine lv_istore_n (lv' := [(3, .int ((fX1_owed σ ((Int32.toNatClampNeg a))))), (2, .ref (α 5 (Int32.toNatClampNeg a))), (0, .ref (α 0 0)), (1, .int (a))]) hx hb dX1_cancel_53 rfl hl (Nat.le_of_ble_eq_true rfl) rfl (fun ls hl => ?_)
          refine lv_aload_n hx hb dX1_cancel_54 rfl (lv_at hl 1 rfl) ?_
          refine lv_aload_n hx hb dX1_cancel_55 rfl (lv_at hl 1 rfl) ?_
          refine gfN (v := .int (wPaid σ ((Int32.toNatClampNeg a)))) (C := RX10) (T := TX10) (N := 12) (k := 10) hx hb hts hown hG cl_X10 in_X10 (hX.wd nk1.2) (by decide) q1031 rfl dX1_cancel_56 ?_
          refine lv_iload_n hx hb dX1_cancel_59 rfl (lv_at hl 0 rfl) ?_
          refine va_mmax hx hb (hml.trans hl.1.symm) hown (hts _ q423) (hts _ q249) (hts _ q107) (hts _ q250) (Nat.le_of_ble_eq_true rfl) (Nat.le_of_ble_eq_true rfl) (Nat.le_of_ble_eq_true rfl) (Nat.le_of_ble_eq_true rfl) dX1_cancel_60 ?_
          refine W.eq (g2 := F0 m 63 ls [.int (if (wPaid σ ((Int32.toNatClampNeg a))) < ((fX1_owed σ ((Int32.toNatClampNeg a)))) then ((fX1_owed σ ((Int32.toNatClampNeg a)))) else (wPaid σ ((Int32.toNatClampNeg a)))), .ref (α 5 (Int32.toNatClampNeg a))]) rfl ?_
          refine pfN (ty0 := tyX10) (ty := tyX10 10) (v := .int (if (wPaid σ ((Int32.toNatClampNeg a))) < ((fX1_owed σ ((Int32.toNatClampNeg a)))) then ((fX1_owed σ ((Int32.toNatClampNeg a)))) else (wPaid σ ((Int32.toNatClampNeg a))))) (C := RX10) (T := TX10) (N := 12) (k := 10) hx hb hts hown hG hS cl_X10 in_X10 tyX10_ok nmX10 (hX.wd nk1.2) (hX.wdF nk1.2) (hX.wdF nk1.2) (by decide) q1031 rfl (tyX10_ok 10 (by decide)) rfl rfl (Nat.le_of_ble_eq_true rfl) dX1_cancel_63 (fun H1 locs1 he hz hq hS => ?_)
          have hX := hX.Pw26 nk1.2 he hq
          have hG := gE.ofS hG0 hS hFE
          obtain ⟨σ3, hσ3⟩ : ∃ x, x = sW σ 26 ((Int32.toNatClampNeg a)) (if (wPaid σ ((Int32.toNatClampNeg a))) < ((fX1_owed σ ((Int32.toNatClampNeg a)))) then ((fX1_owed σ ((Int32.toNatClampNeg a)))) else (wPaid σ ((Int32.toNatClampNeg a)))) := ⟨_, rfl⟩
          rw [← hσ3] at hR hX
          have hcn : cnt σ3 σ := by rw [hσ3]; exact hcn.sW
          try dsimp only at hR
          refine lv_aload_n hx hb dX1_cancel_66 rfl (lv_at hl 1 rfl) ?_
          refine gs hx hb (hG.en (i := 3) (by decide)) hown (hts _ q405) (fun _ h => h) dX1_cancel_67 ?_
          refine pfN (ty0 := tyX10) (ty := tyX10 7) (v := .ref (E (10 + 3))) (C := RX10) (T := TX10) (N := 12) (k := 7) hx hb hts hown hG hS cl_X10 in_X10 tyX10_ok nmX10 (hX.wd (hcn.w nk1.2)) (hX.wdF (hcn.w nk1.2)) (hX.wdF (hcn.w nk1.2)) (by decide) q1025 rfl (tyX10_ok 7 (by decide)) rfl rfl (Nat.le_of_ble_eq_true rfl) dX1_cancel_70 (fun H1 locs1 he hz hq hS => ?_)
          have hX := hX.Pwst (hcn.w nk1.2) (v := 3) (by decide) he hq
          have hG := gE.ofS hG0 hS hFE
          obtain ⟨σ4, hσ4⟩ : ∃ x, x = sN σ3 5 ((Int32.toNatClampNeg a)) 3 := ⟨_, rfl⟩
          rw [← hσ4] at hR hX
          have hcn : cnt σ4 σ := by rw [hσ4]; exact hcn.sN (by decide)
          try dsimp only at hR
          refine lv_iload_n hx hb dX1_cancel_73 rfl (lv_at hl 0 rfl) ?_
          exact vx_ret (g_iret hx hb hr hlocks hS ⟨Nat.le_of_ble_eq_true rfl, Nat.le_of_ble_eq_true rfl⟩ dX1_cancel_74 (by subst hR; exact ⟨rfl, rfl, hX, hcn⟩))
    · rw [if_neg c2] at hR
      refine lv_aload_n hx hb dX1_cancel_16 rfl (lv_at hl 0 rfl) ?_
      refine gs hx hb (hG.en (i := 1) (by decide)) hown (hts _ q363) (fun _ h => h) dX1_cancel_17 ?_
      refine pcV (As := [.ref (E (10 + 1))]) (rest := []) hS0 (met_X10_is l D E ((Int32.toNatClampNeg a)) 1 nk1.2 (by decide)) q370 q371 q372 q130 q373 hd_X10_is ⟨Nat.le_of_ble_eq_true rfl, Nat.le_of_ble_eq_true rfl⟩ hG (rcv hG cl_X10 (hX.wd nk1.2)) hX rfl hl.1 rfl (Nat.le_of_ble_eq_true rfl) dX1_cancel_20 ⟨Nat.le_of_ble_eq_true rfl, Nat.le_of_ble_eq_true rfl⟩ ?_
      refine W.eq (g2 := F0 m 23 ls [.int (bI ((fX10_is σ ((Int32.toNatClampNeg a)) 1)))]) rfl ?_
      refine lb_if_eq (tgt := 30) hx hb dX1_cancel_23 (by decide) (fun c5 => ?_) (fun c5 => ?_)
      · rw [if_neg c5] at hR
        refine lv_iconst (v := 0) hx hb dX1_cancel_30 (by decide) ?_
        refine xcS (As := [.int 0]) (rest := []) hS0 (met_X1_checkState l D E hlf false _) q885 q886 q100 q887 hd_X1_checkState ⟨Nat.le_of_ble_eq_true rfl, Nat.le_of_ble_eq_true rfl⟩ hG rfl rfl hl.1 rfl (Nat.le_of_ble_eq_true rfl) dX1_cancel_31 ⟨Nat.le_of_ble_eq_true rfl, Nat.le_of_ble_eq_true rfl⟩ hS (fun q h => h.elim) (fun q h => h.elim) (fun X ce q9 H1 locs1 hP hz hk hS h1 h2 h3 => ?_) (fun v H1 locs1 hP hz hk hS => ?_)
        · obtain ⟨rfl, hc9⟩ := hP
          exact x_out hex hlocks h1 h2 h3 hS ⟨Nat.le_of_ble_eq_true rfl, Nat.le_of_ble_eq_true rfl⟩ (by subst hR; exact ⟨rfl, Nat.succ_ne_zero _, (hX.kept (fun q h4 _ => hk q h4 id))⟩)
        · exact absurd hP.2.1 (by decide)
      · rw [if_pos c5] at hR
        refine lv_iconst (v := 1) hx hb dX1_cancel_26 (by decide) ?_
        refine lv_goto (tgt := 31) hx hb dX1_cancel_27 (by decide) ?_
        refine xcS (As := [.int 1]) (rest := []) hS0 (met_X1_checkState l D E hlf true _) q885 q886 q100 q887 hd_X1_checkState ⟨Nat.le_of_ble_eq_true rfl, Nat.le_of_ble_eq_true rfl⟩ hG rfl rfl hl.1 rfl (Nat.le_of_ble_eq_true rfl) dX1_cancel_31 ⟨Nat.le_of_ble_eq_true rfl, Nat.le_of_ble_eq_true rfl⟩ hS (fun q h => h.elim) (fun q h => h.elim) (fun X ce q9 H1 locs1 hP hz hk hS h1 h2 h3 => ?_) (fun v H1 locs1 hP hz hk hS => ?_)
        · exact absurd rfl hP.2
        · obtain ⟨rfl, hc9, rfl⟩ := hP
          refine W.eq (g2 := F0 m 34 ls []) rfl ?_
          refine lv_aload_n hx hb dX1_cancel_34 rfl (lv_at hl 0 rfl) ?_
          refine gs hx hb (hG.en (i := 1) (by decide)) hown (hts _ q363) (fun _ h => h) dX1_cancel_35 ?_
          refine pcV (As := [.ref (E (10 + 1))]) (rest := []) hS0 (met_X10_is l D E ((Int32.toNatClampNeg a)) 1 nk1.2 (by decide)) q370 q371 q372 q130 q373 hd_X10_is ⟨Nat.le_of_ble_eq_true rfl, Nat.le_of_ble_eq_true rfl⟩ hG (rcv hG cl_X10 (hX.wd nk1.2)) hX rfl hl.1 rfl (Nat.le_of_ble_eq_true rfl) dX1_cancel_38 ⟨Nat.le_of_ble_eq_true rfl, Nat.le_of_ble_eq_true rfl⟩ ?_
          refine W.eq (g2 := F0 m 41 ls [.int (bI ((fX10_is σ ((Int32.toNatClampNeg a)) 1)))]) rfl ?_
          refine lb_if_eq (tgt := 52) hx hb dX1_cancel_41 (by decide) (fun c7 => ?_) (fun c7 => ?_)
          · rw [if_neg c7] at hR
            refine lv_iconst (v := 0) hx hb dX1_cancel_52 (by decide) ?_
            refine lv_istore_n (lv' := [(3, .int 0), (2, .ref (α 5 (Int32.toNatClampNeg a))), (0, .ref (α 0 0)), (1, .int (a))]) hx hb dX1_cancel_53 rfl hl (Nat.le_of_ble_eq_true rfl) rfl (fun ls hl => ?_)
            refine lv_aload_n hx hb dX1_cancel_54 rfl (lv_at hl 1 rfl) ?_
            refine lv_aload_n hx hb dX1_cancel_55 rfl (lv_at hl 1 rfl) ?_
            refine gfN (v := .int (wPaid σ ((Int32.toNatClampNeg a)))) (C := RX10) (T := TX10) (N := 12) (k := 10) hx hb hts hown hG cl_X10 in_X10 (hX.wd nk1.2) (by decide) q1031 rfl dX1_cancel_56 ?_
            refine lv_iload_n hx hb dX1_cancel_59 rfl (lv_at hl 0 rfl) ?_
            refine va_mmax hx hb (hml.trans hl.1.symm) hown (hts _ q423) (hts _ q249) (hts _ q107) (hts _ q250) (Nat.le_of_ble_eq_true rfl) (Nat.le_of_ble_eq_true rfl) (Nat.le_of_ble_eq_true rfl) (Nat.le_of_ble_eq_true rfl) dX1_cancel_60 ?_
            refine W.eq (g2 := F0 m 63 ls [.int (if (wPaid σ ((Int32.toNatClampNeg a))) < 0 then 0 else (wPaid σ ((Int32.toNatClampNeg a)))), .ref (α 5 (Int32.toNatClampNeg a))]) rfl ?_
            refine pfN (ty0 := tyX10) (ty := tyX10 10) (v := .int (if (wPaid σ ((Int32.toNatClampNeg a))) < 0 then 0 else (wPaid σ ((Int32.toNatClampNeg a))))) (C := RX10) (T := TX10) (N := 12) (k := 10) hx hb hts hown hG hS cl_X10 in_X10 tyX10_ok nmX10 (hX.wd nk1.2) (hX.wdF nk1.2) (hX.wdF nk1.2) (by decide) q1031 rfl (tyX10_ok 10 (by decide)) rfl rfl (Nat.le_of_ble_eq_true rfl) dX1_cancel_63 (fun H1 locs1 he hz hq hS => ?_)
            have hX := hX.Pw26 nk1.2 he hq
            have hG := gE.ofS hG0 hS hFE
            obtain ⟨σ5, hσ5⟩ : ∃ x, x = sW σ 26 ((Int32.toNatClampNeg a)) (if (wPaid σ ((Int32.toNatClampNeg a))) < 0 then 0 else (wPaid σ ((Int32.toNatClampNeg a)))) := ⟨_, rfl⟩
            rw [← hσ5] at hR hX
            have hcn : cnt σ5 σ := by rw [hσ5]; exact hcn.sW
            try dsimp only at hR
            refine lv_aload_n hx hb dX1_cancel_66 rfl (lv_at hl 1 rfl) ?_
            refine gs hx hb (hG.en (i := 3) (by decide)) hown (hts _ q405) (fun _ h => h) dX1_cancel_67 ?_
            refine pfN (ty0 := tyX10) (ty := tyX10 7) (v := .ref (E (10 + 3))) (C := RX10) (T := TX10) (N := 12) (k := 7) hx hb hts hown hG hS cl_X10 in_X10 tyX10_ok nmX10 (hX.wd (hcn.w nk1.2)) (hX.wdF (hcn.w nk1.2)) (hX.wdF (hcn.w nk1.2)) (by decide) q1025 rfl (tyX10_ok 7 (by decide)) rfl rfl (Nat.le_of_ble_eq_true rfl) dX1_cancel_70 (fun H1 locs1 he hz hq hS => ?_)
            have hX := hX.Pwst (hcn.w nk1.2) (v := 3) (by decide) he hq
            have hG := gE.ofS hG0 hS hFE
            obtain ⟨σ6, hσ6⟩ : ∃ x, x = sN σ5 5 ((Int32.toNatClampNeg a)) 3 := ⟨_, rfl⟩
            rw [← hσ6] at hR hX
            have hcn : cnt σ6 σ := by rw [hσ6]; exact hcn.sN (by decide)
            try dsimp only at hR
            refine lv_iload_n hx hb dX1_cancel_73 rfl (lv_at hl 0 rfl) ?_
            exact vx_ret (g_iret hx hb hr hlocks hS ⟨Nat.le_of_ble_eq_true rfl, Nat.le_of_ble_eq_true rfl⟩ dX1_cancel_74 (by subst hR; exact ⟨rfl, rfl, hX, hcn⟩))
          · rw [if_pos c7] at hR
            refine lv_aload_n hx hb dX1_cancel_44 rfl (lv_at hl 1 rfl) ?_
            refine lv_aload_n hx hb dX1_cancel_45 rfl (lv_at hl 0 rfl) ?_
            refine pcV (As := [.ref (α 5 (Int32.toNatClampNeg a))]) (rest := []) hS0 (met_X1_owed l D E ((Int32.toNatClampNeg a)) nk1.2) q1081 q1083 qs44 q100 q1084 hd_X1_owed ⟨Nat.le_of_ble_eq_true rfl, Nat.le_of_ble_eq_true rfl⟩ hG (rcv hG cl_X1 hX.ag) hX rfl hl.1 rfl (Nat.le_of_ble_eq_true rfl) dX1_cancel_46 ⟨Nat.le_of_ble_eq_true rfl, Nat.le_of_ble_eq_true rfl⟩ ?_
            refine W.eq (g2 := F0 m 49 ls [.int ((fX1_owed σ ((Int32.toNatClampNeg a))))]) rfl ?_
            refine lv_goto (tgt := 53) hx hb dX1_cancel_49 (by decide) ?_
            refine lv_istore_n (lv' := [(3, .int ((fX1_owed σ ((Int32.toNatClampNeg a))))), (2, .ref (α 5 (Int32.toNatClampNeg a))), (0, .ref (α 0 0)), (1, .int (a))]) hx hb dX1_cancel_53 rfl hl (Nat.le_of_ble_eq_true rfl) rfl (fun ls hl => ?_)
            refine lv_aload_n hx hb dX1_cancel_54 rfl (lv_at hl 1 rfl) ?_
            refine lv_aload_n hx hb dX1_cancel_55 rfl (lv_at hl 1 rfl) ?_
            refine gfN (v := .int (wPaid σ ((Int32.toNatClampNeg a)))) (C := RX10) (T := TX10) (N := 12) (k := 10) hx hb hts hown hG cl_X10 in_X10 (hX.wd nk1.2) (by decide) q1031 rfl dX1_cancel_56 ?_
            refine lv_iload_n hx hb dX1_cancel_59 rfl (lv_at hl 0 rfl) ?_
            refine va_mmax hx hb (hml.trans hl.1.symm) hown (hts _ q423) (hts _ q249) (hts _ q107) (hts _ q250) (Nat.le_of_ble_eq_true rfl) (Nat.le_of_ble_eq_true rfl) (Nat.le_of_ble_eq_true rfl) (Nat.le_of_ble_eq_true rfl) dX1_cancel_60 ?_
            refine W.eq (g2 := F0 m 63 ls [.int (if (wPaid σ ((Int32.toNatClampNeg a))) < ((fX1_owed σ ((Int32.toNatClampNeg a)))) then ((fX1_owed σ ((Int32.toNatClampNeg a)))) else (wPaid σ ((Int32.toNatClampNeg a)))), .ref (α 5 (Int32.toNatClampNeg a))]) rfl ?_
            refine pfN (ty0 := tyX10) (ty := tyX10 10) (v := .int (if (wPaid σ ((Int32.toNatClampNeg a))) < ((fX1_owed σ ((Int32.toNatClampNeg a)))) then ((fX1_owed σ ((Int32.toNatClampNeg a)))) else (wPaid σ ((Int32.toNatClampNeg a))))) (C := RX10) (T := TX10) (N := 12) (k := 10) hx hb hts hown hG hS cl_X10 in_X10 tyX10_ok nmX10 (hX.wd nk1.2) (hX.wdF nk1.2) (hX.wdF nk1.2) (by decide) q1031 rfl (tyX10_ok 10 (by decide)) rfl rfl (Nat.le_of_ble_eq_true rfl) dX1_cancel_63 (fun H1 locs1 he hz hq hS => ?_)
            have hX := hX.Pw26 nk1.2 he hq
            have hG := gE.ofS hG0 hS hFE
            obtain ⟨σ7, hσ7⟩ : ∃ x, x = sW σ 26 ((Int32.toNatClampNeg a)) (if (wPaid σ ((Int32.toNatClampNeg a))) < ((fX1_owed σ ((Int32.toNatClampNeg a)))) then ((fX1_owed σ ((Int32.toNatClampNeg a)))) else (wPaid σ ((Int32.toNatClampNeg a)))) := ⟨_, rfl⟩
            rw [← hσ7] at hR hX
            have hcn : cnt σ7 σ := by rw [hσ7]; exact hcn.sW
            try dsimp only at hR
            refine lv_aload_n hx hb dX1_cancel_66 rfl (lv_at hl 1 rfl) ?_
            refine gs hx hb (hG.en (i := 3) (by decide)) hown (hts _ q405) (fun _ h => h) dX1_cancel_67 ?_
            refine pfN (ty0 := tyX10) (ty := tyX10 7) (v := .ref (E (10 + 3))) (C := RX10) (T := TX10) (N := 12) (k := 7) hx hb hts hown hG hS cl_X10 in_X10 tyX10_ok nmX10 (hX.wd (hcn.w nk1.2)) (hX.wdF (hcn.w nk1.2)) (hX.wdF (hcn.w nk1.2)) (by decide) q1025 rfl (tyX10_ok 7 (by decide)) rfl rfl (Nat.le_of_ble_eq_true rfl) dX1_cancel_70 (fun H1 locs1 he hz hq hS => ?_)
            have hX := hX.Pwst (hcn.w nk1.2) (v := 3) (by decide) he hq
            have hG := gE.ofS hG0 hS hFE
            obtain ⟨σ8, hσ8⟩ : ∃ x, x = sN σ7 5 ((Int32.toNatClampNeg a)) 3 := ⟨_, rfl⟩
            rw [← hσ8] at hR hX
            have hcn : cnt σ8 σ := by rw [hσ8]; exact hcn.sN (by decide)
            try dsimp only at hR
            refine lv_iload_n hx hb dX1_cancel_73 rfl (lv_at hl 0 rfl) ?_
            exact vx_ret (g_iret hx hb hr hlocks hS ⟨Nat.le_of_ble_eq_true rfl, Nat.le_of_ble_eq_true rfl⟩ dX1_cancel_74 (by subst hR; exact ⟨rfl, rfl, hX, hcn⟩))

def fX1_feud (σ : St) (a : Int32) (b : Int32) (z : Bool) : Nat × Bool × St :=
  (if 0 ≤ a ∧ a < nI (nP σ) then (if 0 ≤ b ∧ b < nI (nP σ) then (if (nI ((Int32.toNatClampNeg a))) = (nI ((Int32.toNatClampNeg b))) then (2, false, σ) else (if z = true then (fun (σ4 : St) => (if z = true then (fun (σ6 : St) => (0, (fX1_has (pFeuds σ ((Int32.toNatClampNeg a))) (nI ((Int32.toNatClampNeg b)))), σ6)) (sW σ4 13 ((Int32.toNatClampNeg b)) ((pFeuds σ4 ((Int32.toNatClampNeg b))) ||| (1 <<< ((nI ((Int32.toNatClampNeg a))) &&& 31)))) else (fun (σ5 : St) => (0, (fX1_has (pFeuds σ ((Int32.toNatClampNeg a))) (nI ((Int32.toNatClampNeg b)))), σ5)) (sW σ4 13 ((Int32.toNatClampNeg b)) ((pFeuds σ4 ((Int32.toNatClampNeg b))) &&& ((1 <<< ((nI ((Int32.toNatClampNeg a))) &&& 31)) ^^^ ((-1))))))) (sW σ 13 ((Int32.toNatClampNeg a)) ((pFeuds σ ((Int32.toNatClampNeg a))) ||| (1 <<< ((nI ((Int32.toNatClampNeg b))) &&& 31)))) else (fun (σ1 : St) => (if z = true then (fun (σ3 : St) => (0, (fX1_has (pFeuds σ ((Int32.toNatClampNeg a))) (nI ((Int32.toNatClampNeg b)))), σ3)) (sW σ1 13 ((Int32.toNatClampNeg b)) ((pFeuds σ1 ((Int32.toNatClampNeg b))) ||| (1 <<< ((nI ((Int32.toNatClampNeg a))) &&& 31)))) else (fun (σ2 : St) => (0, (fX1_has (pFeuds σ ((Int32.toNatClampNeg a))) (nI ((Int32.toNatClampNeg b)))), σ2)) (sW σ1 13 ((Int32.toNatClampNeg b)) ((pFeuds σ1 ((Int32.toNatClampNeg b))) &&& ((1 <<< ((nI ((Int32.toNatClampNeg a))) &&& 31)) ^^^ ((-1))))))) (sW σ 13 ((Int32.toNatClampNeg a)) ((pFeuds σ ((Int32.toNatClampNeg a))) &&& ((1 <<< ((nI ((Int32.toNatClampNeg b))) &&& 31)) ^^^ ((-1))))))) else (1, false, σ)) else (1, false, σ))
set_option maxHeartbeats 4000000 in
set_option maxRecDepth 100000 in
theorem met_X1_feud (l : Launch) (D : va_G) (E : Nat → Nat) (hlf : l.stackTraces = false) {α : Nat → Nat → Nat} {F : Nat → Prop} {σ : St} (a : Int32) (b : Int32) (z : Bool)  : XM l D E yX1_feud cX1_feud 7 (Option.some Jvm.ClassFile.FieldType.boolean) 8 141 3 18 [.ref (α 0 0), .int (a), .int (b), .int (bI z)] (RX D E α F σ) F F (fun sz v h => (fX1_feud σ a b z).1 = 0 ∧ v = some (.int (bI (fX1_feud σ a b z).2.1)) ∧ RX D E α (fN F sz) (fX1_feud σ a b z).2.2 h ∧ cnt (fX1_feud σ a b z).2.2 σ) (fun sz X h => X = exN (fX1_feud σ a b z).1 ∧ (fX1_feud σ a b z).1 ≠ 0 ∧ RX D E α (fN F sz) σ h) := by
  generalize hR : fX1_feud σ a b z = r
  refine XM.start (by decide) (Nat.le_of_ble_eq_true rfl) ?_
  intro p e s m below meth c ls hx hb hr hml hown hlocks hex hts hG hX hS hl
  have hown : s.vm.findClass RX1 = some m.cls := hown
  have hS0 : xS p m c cX1_feud 7 s _ RX1 := ⟨hx, hb, hml, hown, hts⟩
  have hl : lv_has ls 7 [(0, .ref (α 0 0)), (1, .int (a)), (2, .int (b)), (3, .int (bI z))] := hl
  have hG0 := hG
  have hX0 := hX
  have hb0P := hX0.nP10
  have hb0B := hX0.nB6
  have hb0W := hX0.nW14
  have hFE := hX.fE
  have hX := hX.wide (n := s.heap.size) hG.2.2.1
  have hcn : cnt σ σ := cnt.rf
  unfold fX1_feud at hR
  refine lv_aload_n hx hb dX1_feud_0 rfl (lv_at hl 0 rfl) ?_
  refine lv_iload_n hx hb dX1_feud_1 rfl (lv_at hl 1 rfl) ?_
  refine xcV (As := [.int (a)]) (rest := []) hS0 (met_X1_playerAt l D E hlf a _) q944 q946 qs40 q100 q947 hd_X1_playerAt ⟨Nat.le_of_ble_eq_true rfl, Nat.le_of_ble_eq_true rfl⟩ hG (rcv hG cl_X1 hX.ag) ⟨rfl, hX⟩ rfl hl.1 rfl (Nat.le_of_ble_eq_true rfl) dX1_feud_2 ⟨Nat.le_of_ble_eq_true rfl, Nat.le_of_ble_eq_true rfl⟩ hS (fun q h => h.elim) (fun q h => h.elim) (fun X ce q9 H1 locs1 hP hz hk hS h1 h2 h3 => ?_) (fun v H1 locs1 hP hz hk hS => ?_)
  · obtain ⟨rfl, hc9⟩ := hP
    rw [if_neg hc9] at hR
    exact x_out hex hlocks h1 h2 h3 hS ⟨Nat.le_of_ble_eq_true rfl, Nat.le_of_ble_eq_true rfl⟩ (by subst hR; exact ⟨rfl, Nat.succ_ne_zero _, (hX.kept (fun q h4 _ => hk q h4 id))⟩)
  · obtain ⟨rfl, hc9, rfl⟩ := hP
    rw [if_pos hc9] at hR
    have k1 := hc9
    have nk1 := ck_ix k1 (by have := hX.nP10; have := hX.nW14; have := hX.nB6; omega)
    refine W.eq (g2 := F0 m 5 ls [.ref (α 3 (Int32.toNatClampNeg a))]) rfl ?_
    refine lv_astore (lv' := [(4, .ref (α 3 (Int32.toNatClampNeg a))), (0, .ref (α 0 0)), (1, .int (a)), (2, .int (b)), (3, .int (bI z))]) hx hb dX1_feud_5 hl (Nat.le_of_ble_eq_true rfl) rfl (fun ls hl => ?_)
    refine lv_aload_n hx hb dX1_feud_7 rfl (lv_at hl 1 rfl) ?_
    refine lv_iload_n hx hb dX1_feud_8 rfl (lv_at hl 3 rfl) ?_
    refine xcV (As := [.int (b)]) (rest := []) hS0 (met_X1_playerAt l D E hlf b _) q944 q946 qs40 q100 q947 hd_X1_playerAt ⟨Nat.le_of_ble_eq_true rfl, Nat.le_of_ble_eq_true rfl⟩ hG (rcv hG cl_X1 hX.ag) ⟨rfl, hX⟩ rfl hl.1 rfl (Nat.le_of_ble_eq_true rfl) dX1_feud_9 ⟨Nat.le_of_ble_eq_true rfl, Nat.le_of_ble_eq_true rfl⟩ hS (fun q h => h.elim) (fun q h => h.elim) (fun X ce q9 H1 locs1 hP hz hk hS h1 h2 h3 => ?_) (fun v H1 locs1 hP hz hk hS => ?_)
    · obtain ⟨rfl, hc9⟩ := hP
      rw [if_neg hc9] at hR
      exact x_out hex hlocks h1 h2 h3 hS ⟨Nat.le_of_ble_eq_true rfl, Nat.le_of_ble_eq_true rfl⟩ (by subst hR; exact ⟨rfl, Nat.succ_ne_zero _, (hX.kept (fun q h4 _ => hk q h4 id))⟩)
    · obtain ⟨rfl, hc9, rfl⟩ := hP
      rw [if_pos hc9] at hR
      have k2 := hc9
      have nk2 := ck_ix k2 (by have := hX.nP10; have := hX.nW14; have := hX.nB6; omega)
      refine W.eq (g2 := F0 m 12 ls [.ref (α 3 (Int32.toNatClampNeg b))]) rfl ?_
      refine lv_astore (lv' := [(5, .ref (α 3 (Int32.toNatClampNeg b))), (4, .ref (α 3 (Int32.toNatClampNeg a))), (0, .ref (α 0 0)), (1, .int (a)), (2, .int (b)), (3, .int (bI z))]) hx hb dX1_feud_12 hl (Nat.le_of_ble_eq_true rfl) rfl (fun ls hl => ?_)
      refine lv_iload_n hx hb dX1_feud_14 rfl (lv_at hl 3 rfl) ?_
      refine lv_eq nk1.1 ?_
      refine lv_iload_n hx hb dX1_feud_15 rfl (lv_at hl 4 rfl) ?_
      refine lv_eq nk2.1 ?_
      refine lv_icmp_eq (tgt := 23) hx hb dX1_feud_16 (by decide) (fun c3 => ?_) (fun c3 => ?_)
      · rw [if_pos c3] at hR
        refine lv_iconst (v := 0) hx hb dX1_feud_23 (by decide) ?_
        refine xcS (As := [.int 0]) (rest := []) hS0 (met_X1_must l D E hlf false _) q863 q864 q100 q865 hd_X1_must ⟨Nat.le_of_ble_eq_true rfl, Nat.le_of_ble_eq_true rfl⟩ hG rfl rfl hl.1 rfl (Nat.le_of_ble_eq_true rfl) dX1_feud_24 ⟨Nat.le_of_ble_eq_true rfl, Nat.le_of_ble_eq_true rfl⟩ hS (fun q h => h.elim) (fun q h => h.elim) (fun X ce q9 H1 locs1 hP hz hk hS h1 h2 h3 => ?_) (fun v H1 locs1 hP hz hk hS => ?_)
        · obtain ⟨rfl, hc9⟩ := hP
          exact x_out hex hlocks h1 h2 h3 hS ⟨Nat.le_of_ble_eq_true rfl, Nat.le_of_ble_eq_true rfl⟩ (by subst hR; exact ⟨rfl, Nat.succ_ne_zero _, (hX.kept (fun q h4 _ => hk q h4 id))⟩)
        · exact absurd hP.2.1 (by decide)
      · rw [if_neg c3] at hR
        refine lv_iconst (v := 1) hx hb dX1_feud_19 (by decide) ?_
        refine lv_goto (tgt := 24) hx hb dX1_feud_20 (by decide) ?_
        refine xcS (As := [.int 1]) (rest := []) hS0 (met_X1_must l D E hlf true _) q863 q864 q100 q865 hd_X1_must ⟨Nat.le_of_ble_eq_true rfl, Nat.le_of_ble_eq_true rfl⟩ hG rfl rfl hl.1 rfl (Nat.le_of_ble_eq_true rfl) dX1_feud_24 ⟨Nat.le_of_ble_eq_true rfl, Nat.le_of_ble_eq_true rfl⟩ hS (fun q h => h.elim) (fun q h => h.elim) (fun X ce q9 H1 locs1 hP hz hk hS h1 h2 h3 => ?_) (fun v H1 locs1 hP hz hk hS => ?_)
        · exact absurd rfl hP.2
        · obtain ⟨rfl, hc9, rfl⟩ := hP
          refine W.eq (g2 := F0 m 27 ls []) rfl ?_
          refine lv_aload hx hb dX1_feud_27 (lv_at hl 1 rfl) ?_
          refine gfN (v := .int (pFeuds σ ((Int32.toNatClampNeg a)))) (C := RX6) (T := TX6) (N := 7) (k := 4) hx hb hts hown hG cl_X6 in_X6 (hX.pl nk1.2) (by decide) q917 rfl dX1_feud_29 ?_
          refine lv_iload_n hx hb dX1_feud_32 rfl (lv_at hl 4 rfl) ?_
          refine lv_eq nk2.1 ?_
          refine pcS (As := [.int (pFeuds σ ((Int32.toNatClampNeg a))), .int (nI ((Int32.toNatClampNeg b)))]) (rest := []) hS0 (met_X1_has l D E (pFeuds σ ((Int32.toNatClampNeg a))) (nI ((Int32.toNatClampNeg b)))) q374 q375 q100 q376 hd_X1_has ⟨Nat.le_of_ble_eq_true rfl, Nat.le_of_ble_eq_true rfl⟩ hG trivial rfl hl.1 rfl (Nat.le_of_ble_eq_true rfl) dX1_feud_33 ⟨Nat.le_of_ble_eq_true rfl, Nat.le_of_ble_eq_true rfl⟩ ?_
          refine W.eq (g2 := F0 m 36 ls [.int (bI ((fX1_has (pFeuds σ ((Int32.toNatClampNeg a))) (nI ((Int32.toNatClampNeg b))))))]) rfl ?_
          refine lv_istore (lv' := [(6, .int (bI ((fX1_has (pFeuds σ ((Int32.toNatClampNeg a))) (nI ((Int32.toNatClampNeg b))))))), (5, .ref (α 3 (Int32.toNatClampNeg b))), (4, .ref (α 3 (Int32.toNatClampNeg a))), (0, .ref (α 0 0)), (1, .int (a)), (2, .int (b)), (3, .int (bI z))]) hx hb dX1_feud_36 hl (Nat.le_of_ble_eq_true rfl) rfl (fun ls hl => ?_)
          refine lv_aload hx hb dX1_feud_38 (lv_at hl 2 rfl) ?_
          refine lv_iload_n hx hb dX1_feud_40 rfl (lv_at hl 6 rfl) ?_
          refine lb_if_eq (tgt := 56) hx hb dX1_feud_41 (by decide) (fun c5 => ?_) (fun c5 => ?_)
          · rw [if_neg c5] at hR
            refine lv_aload hx hb dX1_feud_56 (lv_at hl 2 rfl) ?_
            refine gfN (v := .int (pFeuds σ ((Int32.toNatClampNeg a)))) (C := RX6) (T := TX6) (N := 7) (k := 4) hx hb hts hown hG cl_X6 in_X6 (hX.pl nk1.2) (by decide) q917 rfl dX1_feud_58 ?_
            refine lv_iconst (v := 1) hx hb dX1_feud_61 (by decide) ?_
            refine lv_iload_n hx hb dX1_feud_62 rfl (lv_at hl 5 rfl) ?_
            refine lv_eq nk2.1 ?_
            refine lv_ishl hx hb dX1_feud_63 ?_
            refine lv_iconst (v := (-1)) hx hb dX1_feud_64 (by decide) ?_
            refine lv_ixor hx hb dX1_feud_65 ?_
            refine lv_iand hx hb dX1_feud_66 ?_
            refine pfN (ty0 := tyX6) (ty := tyX6 4) (v := .int ((pFeuds σ ((Int32.toNatClampNeg a))) &&& ((1 <<< ((nI ((Int32.toNatClampNeg b))) &&& 31)) ^^^ ((-1))))) (C := RX6) (T := TX6) (N := 7) (k := 4) hx hb hts hown hG hS cl_X6 in_X6 tyX6_ok nmX6 (hX.pl nk1.2) (hX.plF nk1.2) (hX.plF nk1.2) (by decide) q917 rfl (tyX6_ok 4 (by decide)) rfl rfl (Nat.le_of_ble_eq_true rfl) dX1_feud_67 (fun H1 locs1 he hz hq hS => ?_)
            have hX := hX.Pp13 nk1.2 he hq
            have hG := gE.ofS hG0 hS hFE
            obtain ⟨σ1, hσ1⟩ : ∃ x, x = sW σ 13 ((Int32.toNatClampNeg a)) ((pFeuds σ ((Int32.toNatClampNeg a))) &&& ((1 <<< ((nI ((Int32.toNatClampNeg b))) &&& 31)) ^^^ ((-1)))) := ⟨_, rfl⟩
            rw [← hσ1] at hR hX
            have hcn : cnt σ1 σ := by rw [hσ1]; exact hcn.sW
            try dsimp only at hR
            refine lv_aload hx hb dX1_feud_70 (lv_at hl 1 rfl) ?_
            refine lv_iload_n hx hb dX1_feud_72 rfl (lv_at hl 6 rfl) ?_
            refine lb_if_eq (tgt := 88) hx hb dX1_feud_73 (by decide) (fun c6 => ?_) (fun c6 => ?_)
            · rw [if_neg c6] at hR
              refine lv_aload hx hb dX1_feud_88 (lv_at hl 1 rfl) ?_
              refine gfN (v := .int (pFeuds σ1 ((Int32.toNatClampNeg b)))) (C := RX6) (T := TX6) (N := 7) (k := 4) hx hb hts hown hG cl_X6 in_X6 (hX.pl (hcn.p nk2.2)) (by decide) q917 rfl dX1_feud_90 ?_
              refine lv_iconst (v := 1) hx hb dX1_feud_93 (by decide) ?_
              refine lv_iload_n hx hb dX1_feud_94 rfl (lv_at hl 4 rfl) ?_
              refine lv_eq nk1.1 ?_
              refine lv_ishl hx hb dX1_feud_95 ?_
              refine lv_iconst (v := (-1)) hx hb dX1_feud_96 (by decide) ?_
              refine lv_ixor hx hb dX1_feud_97 ?_
              refine lv_iand hx hb dX1_feud_98 ?_
              refine pfN (ty0 := tyX6) (ty := tyX6 4) (v := .int ((pFeuds σ1 ((Int32.toNatClampNeg b))) &&& ((1 <<< ((nI ((Int32.toNatClampNeg a))) &&& 31)) ^^^ ((-1))))) (C := RX6) (T := TX6) (N := 7) (k := 4) hx hb hts hown hG hS cl_X6 in_X6 tyX6_ok nmX6 (hX.pl (hcn.p nk2.2)) (hX.plF (hcn.p nk2.2)) (hX.plF (hcn.p nk2.2)) (by decide) q917 rfl (tyX6_ok 4 (by decide)) rfl rfl (Nat.le_of_ble_eq_true rfl) dX1_feud_99 (fun H1 locs1 he hz hq hS => ?_)
              have hX := hX.Pp13 (hcn.p nk2.2) he hq
              have hG := gE.ofS hG0 hS hFE
              obtain ⟨σ2, hσ2⟩ : ∃ x, x = sW σ1 13 ((Int32.toNatClampNeg b)) ((pFeuds σ1 ((Int32.toNatClampNeg b))) &&& ((1 <<< ((nI ((Int32.toNatClampNeg a))) &&& 31)) ^^^ ((-1)))) := ⟨_, rfl⟩
              rw [← hσ2] at hR hX
              have hcn : cnt σ2 σ := by rw [hσ2]; exact hcn.sW
              try dsimp only at hR
              refine lv_iload hx hb dX1_feud_102 (lv_at hl 0 rfl) ?_
              exact vx_ret (g_zret (b := (fX1_has (pFeuds σ ((Int32.toNatClampNeg a))) (nI ((Int32.toNatClampNeg b))))) hx hb hr hlocks hS ⟨Nat.le_of_ble_eq_true rfl, Nat.le_of_ble_eq_true rfl⟩ dX1_feud_104 rfl (by subst hR; exact ⟨rfl, rfl, hX, hcn⟩))
            · rw [if_pos c6] at hR
              refine lv_aload hx hb dX1_feud_76 (lv_at hl 1 rfl) ?_
              refine gfN (v := .int (pFeuds σ1 ((Int32.toNatClampNeg b)))) (C := RX6) (T := TX6) (N := 7) (k := 4) hx hb hts hown hG cl_X6 in_X6 (hX.pl (hcn.p nk2.2)) (by decide) q917 rfl dX1_feud_78 ?_
              refine lv_iconst (v := 1) hx hb dX1_feud_81 (by decide) ?_
              refine lv_iload_n hx hb dX1_feud_82 rfl (lv_at hl 4 rfl) ?_
              refine lv_eq nk1.1 ?_
              refine lv_ishl hx hb dX1_feud_83 ?_
              refine lv_ior hx hb dX1_feud_84 ?_
              refine lv_goto (tgt := 99) hx hb dX1_feud_85 (by decide) ?_
              refine pfN (ty0 := tyX6) (ty := tyX6 4) (v := .int ((pFeuds σ1 ((Int32.toNatClampNeg b))) ||| (1 <<< ((nI ((Int32.toNatClampNeg a))) &&& 31)))) (C := RX6) (T := TX6) (N := 7) (k := 4) hx hb hts hown hG hS cl_X6 in_X6 tyX6_ok nmX6 (hX.pl (hcn.p nk2.2)) (hX.plF (hcn.p nk2.2)) (hX.plF (hcn.p nk2.2)) (by decide) q917 rfl (tyX6_ok 4 (by decide)) rfl rfl (Nat.le_of_ble_eq_true rfl) dX1_feud_99 (fun H1 locs1 he hz hq hS => ?_)
              have hX := hX.Pp13 (hcn.p nk2.2) he hq
              have hG := gE.ofS hG0 hS hFE
              obtain ⟨σ3, hσ3⟩ : ∃ x, x = sW σ1 13 ((Int32.toNatClampNeg b)) ((pFeuds σ1 ((Int32.toNatClampNeg b))) ||| (1 <<< ((nI ((Int32.toNatClampNeg a))) &&& 31))) := ⟨_, rfl⟩
              rw [← hσ3] at hR hX
              have hcn : cnt σ3 σ := by rw [hσ3]; exact hcn.sW
              try dsimp only at hR
              refine lv_iload hx hb dX1_feud_102 (lv_at hl 0 rfl) ?_
              exact vx_ret (g_zret (b := (fX1_has (pFeuds σ ((Int32.toNatClampNeg a))) (nI ((Int32.toNatClampNeg b))))) hx hb hr hlocks hS ⟨Nat.le_of_ble_eq_true rfl, Nat.le_of_ble_eq_true rfl⟩ dX1_feud_104 rfl (by subst hR; exact ⟨rfl, rfl, hX, hcn⟩))
          · rw [if_pos c5] at hR
            refine lv_aload hx hb dX1_feud_44 (lv_at hl 2 rfl) ?_
            refine gfN (v := .int (pFeuds σ ((Int32.toNatClampNeg a)))) (C := RX6) (T := TX6) (N := 7) (k := 4) hx hb hts hown hG cl_X6 in_X6 (hX.pl nk1.2) (by decide) q917 rfl dX1_feud_46 ?_
            refine lv_iconst (v := 1) hx hb dX1_feud_49 (by decide) ?_
            refine lv_iload_n hx hb dX1_feud_50 rfl (lv_at hl 5 rfl) ?_
            refine lv_eq nk2.1 ?_
            refine lv_ishl hx hb dX1_feud_51 ?_
            refine lv_ior hx hb dX1_feud_52 ?_
            refine lv_goto (tgt := 67) hx hb dX1_feud_53 (by decide) ?_
            refine pfN (ty0 := tyX6) (ty := tyX6 4) (v := .int ((pFeuds σ ((Int32.toNatClampNeg a))) ||| (1 <<< ((nI ((Int32.toNatClampNeg b))) &&& 31)))) (C := RX6) (T := TX6) (N := 7) (k := 4) hx hb hts hown hG hS cl_X6 in_X6 tyX6_ok nmX6 (hX.pl nk1.2) (hX.plF nk1.2) (hX.plF nk1.2) (by decide) q917 rfl (tyX6_ok 4 (by decide)) rfl rfl (Nat.le_of_ble_eq_true rfl) dX1_feud_67 (fun H1 locs1 he hz hq hS => ?_)
            have hX := hX.Pp13 nk1.2 he hq
            have hG := gE.ofS hG0 hS hFE
            obtain ⟨σ4, hσ4⟩ : ∃ x, x = sW σ 13 ((Int32.toNatClampNeg a)) ((pFeuds σ ((Int32.toNatClampNeg a))) ||| (1 <<< ((nI ((Int32.toNatClampNeg b))) &&& 31))) := ⟨_, rfl⟩
            rw [← hσ4] at hR hX
            have hcn : cnt σ4 σ := by rw [hσ4]; exact hcn.sW
            try dsimp only at hR
            refine lv_aload hx hb dX1_feud_70 (lv_at hl 1 rfl) ?_
            refine lv_iload_n hx hb dX1_feud_72 rfl (lv_at hl 6 rfl) ?_
            refine lb_if_eq (tgt := 88) hx hb dX1_feud_73 (by decide) (fun c7 => ?_) (fun c7 => ?_)
            · rw [if_neg c7] at hR
              refine lv_aload hx hb dX1_feud_88 (lv_at hl 1 rfl) ?_
              refine gfN (v := .int (pFeuds σ4 ((Int32.toNatClampNeg b)))) (C := RX6) (T := TX6) (N := 7) (k := 4) hx hb hts hown hG cl_X6 in_X6 (hX.pl (hcn.p nk2.2)) (by decide) q917 rfl dX1_feud_90 ?_
              refine lv_iconst (v := 1) hx hb dX1_feud_93 (by decide) ?_
              refine lv_iload_n hx hb dX1_feud_94 rfl (lv_at hl 4 rfl) ?_
              refine lv_eq nk1.1 ?_
              refine lv_ishl hx hb dX1_feud_95 ?_
              refine lv_iconst (v := (-1)) hx hb dX1_feud_96 (by decide) ?_
              refine lv_ixor hx hb dX1_feud_97 ?_
              refine lv_iand hx hb dX1_feud_98 ?_
              refine pfN (ty0 := tyX6) (ty := tyX6 4) (v := .int ((pFeuds σ4 ((Int32.toNatClampNeg b))) &&& ((1 <<< ((nI ((Int32.toNatClampNeg a))) &&& 31)) ^^^ ((-1))))) (C := RX6) (T := TX6) (N := 7) (k := 4) hx hb hts hown hG hS cl_X6 in_X6 tyX6_ok nmX6 (hX.pl (hcn.p nk2.2)) (hX.plF (hcn.p nk2.2)) (hX.plF (hcn.p nk2.2)) (by decide) q917 rfl (tyX6_ok 4 (by decide)) rfl rfl (Nat.le_of_ble_eq_true rfl) dX1_feud_99 (fun H1 locs1 he hz hq hS => ?_)
              have hX := hX.Pp13 (hcn.p nk2.2) he hq
              have hG := gE.ofS hG0 hS hFE
              obtain ⟨σ5, hσ5⟩ : ∃ x, x = sW σ4 13 ((Int32.toNatClampNeg b)) ((pFeuds σ4 ((Int32.toNatClampNeg b))) &&& ((1 <<< ((nI ((Int32.toNatClampNeg a))) &&& 31)) ^^^ ((-1)))) := ⟨_, rfl⟩
              rw [← hσ5] at hR hX
              have hcn : cnt σ5 σ := by rw [hσ5]; exact hcn.sW
              try dsimp only at hR
              refine lv_iload hx hb dX1_feud_102 (lv_at hl 0 rfl) ?_
              exact vx_ret (g_zret (b := (fX1_has (pFeuds σ ((Int32.toNatClampNeg a))) (nI ((Int32.toNatClampNeg b))))) hx hb hr hlocks hS ⟨Nat.le_of_ble_eq_true rfl, Nat.le_of_ble_eq_true rfl⟩ dX1_feud_104 rfl (by subst hR; exact ⟨rfl, rfl, hX, hcn⟩))
            · rw [if_pos c7] at hR
              refine lv_aload hx hb dX1_feud_76 (lv_at hl 1 rfl) ?_
              refine gfN (v := .int (pFeuds σ4 ((Int32.toNatClampNeg b)))) (C := RX6) (T := TX6) (N := 7) (k := 4) hx hb hts hown hG cl_X6 in_X6 (hX.pl (hcn.p nk2.2)) (by decide) q917 rfl dX1_feud_78 ?_
              refine lv_iconst (v := 1) hx hb dX1_feud_81 (by decide) ?_
              refine lv_iload_n hx hb dX1_feud_82 rfl (lv_at hl 4 rfl) ?_
              refine lv_eq nk1.1 ?_
              refine lv_ishl hx hb dX1_feud_83 ?_
              refine lv_ior hx hb dX1_feud_84 ?_
              refine lv_goto (tgt := 99) hx hb dX1_feud_85 (by decide) ?_
              refine pfN (ty0 := tyX6) (ty := tyX6 4) (v := .int ((pFeuds σ4 ((Int32.toNatClampNeg b))) ||| (1 <<< ((nI ((Int32.toNatClampNeg a))) &&& 31)))) (C := RX6) (T := TX6) (N := 7) (k := 4) hx hb hts hown hG hS cl_X6 in_X6 tyX6_ok nmX6 (hX.pl (hcn.p nk2.2)) (hX.plF (hcn.p nk2.2)) (hX.plF (hcn.p nk2.2)) (by decide) q917 rfl (tyX6_ok 4 (by decide)) rfl rfl (Nat.le_of_ble_eq_true rfl) dX1_feud_99 (fun H1 locs1 he hz hq hS => ?_)
              have hX := hX.Pp13 (hcn.p nk2.2) he hq
              have hG := gE.ofS hG0 hS hFE
              obtain ⟨σ6, hσ6⟩ : ∃ x, x = sW σ4 13 ((Int32.toNatClampNeg b)) ((pFeuds σ4 ((Int32.toNatClampNeg b))) ||| (1 <<< ((nI ((Int32.toNatClampNeg a))) &&& 31))) := ⟨_, rfl⟩
              rw [← hσ6] at hR hX
              have hcn : cnt σ6 σ := by rw [hσ6]; exact hcn.sW
              try dsimp only at hR
              refine lv_iload hx hb dX1_feud_102 (lv_at hl 0 rfl) ?_
              exact vx_ret (g_zret (b := (fX1_has (pFeuds σ ((Int32.toNatClampNeg a))) (nI ((Int32.toNatClampNeg b))))) hx hb hr hlocks hS ⟨Nat.le_of_ble_eq_true rfl, Nat.le_of_ble_eq_true rfl⟩ dX1_feud_104 rfl (by subst hR; exact ⟨rfl, rfl, hX, hcn⟩))

def fX1_drive (σ : St) (a : Int32) (b : Int32) : Nat × Int32 :=
  (if 0 ≤ a ∧ a < 6 then (if 0 ≤ b ∧ b < 6 then (0, (fX2_drive σ ((Int32.toNatClampNeg a)) ((Int32.toNatClampNeg b)))) else (1, 0)) else (1, 0))
set_option maxHeartbeats 4000000 in
set_option maxRecDepth 100000 in
theorem met_X1_drive (l : Launch) (D : va_G) (E : Nat → Nat) (hlf : l.stackTraces = false) {α : Nat → Nat → Nat} {F : Nat → Prop} {σ : St} (a : Int32) (b : Int32)  : XM l D E yX1_drive cX1_drive 3 (Option.some Jvm.ClassFile.FieldType.int) 7 102 2 12 [.ref (α 0 0), .int (a), .int (b)] (RX D E α F σ) (fun _ => False) (fun _ => False) (fun sz v h => (fX1_drive σ a b).1 = 0 ∧ v = some (.int (fX1_drive σ a b).2)) (fun sz X h => X = exN (fX1_drive σ a b).1 ∧ (fX1_drive σ a b).1 ≠ 0) := by
  generalize hR : fX1_drive σ a b = r
  refine XM.start (by decide) (Nat.le_of_ble_eq_true rfl) ?_
  intro p e s m below meth c ls hx hb hr hml hown hlocks hex hts hG hX hS hl
  have hown : s.vm.findClass RX1 = some m.cls := hown
  have hS0 : xS p m c cX1_drive 3 s _ RX1 := ⟨hx, hb, hml, hown, hts⟩
  have hl : lv_has ls 3 [(0, .ref (α 0 0)), (1, .int (a)), (2, .int (b))] := hl
  have hG0 := hG
  have hX0 := hX
  have hb0P := hX0.nP10
  have hb0B := hX0.nB6
  have hb0W := hX0.nW14
  have hFE := hX.fE
  have hX := hX.wide (n := s.heap.size) hG.2.2.1
  have hcn : cnt σ σ := cnt.rf
  unfold fX1_drive at hR
  refine lv_iload_n hx hb dX1_drive_0 rfl (lv_at hl 1 rfl) ?_
  refine lv_bipush (v := 6) hx hb dX1_drive_1 (by decide) ?_
  refine xcS (As := [.int (a), .int 6]) (rest := []) hS0 (met_X1_checkPlace l D E hlf a 6 _) q836 q837 q100 q838 hd_X1_checkPlace ⟨Nat.le_of_ble_eq_true rfl, Nat.le_of_ble_eq_true rfl⟩ hG rfl rfl hl.1 rfl (Nat.le_of_ble_eq_true rfl) dX1_drive_3 ⟨Nat.le_of_ble_eq_true rfl, Nat.le_of_ble_eq_true rfl⟩ hS (fun q h => h.elim) (fun q h => h.elim) (fun X ce q9 H1 locs1 hP hz hk hS h1 h2 h3 => ?_) (fun v H1 locs1 hP hz hk hS => ?_)
  · obtain ⟨rfl, hc9⟩ := hP
    rw [if_neg hc9] at hR
    exact x_out hex hlocks h1 h2 h3 hS ⟨Nat.le_of_ble_eq_true rfl, Nat.le_of_ble_eq_true rfl⟩ (by subst hR; exact ⟨rfl, Nat.succ_ne_zero _⟩)
  · obtain ⟨rfl, hc9, rfl⟩ := hP
    rw [if_pos hc9] at hR
    have k1 := hc9
    have nk1 := ck_ix k1 (by decide)
    refine W.eq (g2 := F0 m 6 ls []) rfl ?_
    refine lv_iload_n hx hb dX1_drive_6 rfl (lv_at hl 2 rfl) ?_
    refine lv_bipush (v := 6) hx hb dX1_drive_7 (by decide) ?_
    refine xcS (As := [.int (b), .int 6]) (rest := []) hS0 (met_X1_checkPlace l D E hlf b 6 _) q836 q837 q100 q838 hd_X1_checkPlace ⟨Nat.le_of_ble_eq_true rfl, Nat.le_of_ble_eq_true rfl⟩ hG rfl rfl hl.1 rfl (Nat.le_of_ble_eq_true rfl) dX1_drive_9 ⟨Nat.le_of_ble_eq_true rfl, Nat.le_of_ble_eq_true rfl⟩ hS (fun q h => h.elim) (fun q h => h.elim) (fun X ce q9 H1 locs1 hP hz hk hS h1 h2 h3 => ?_) (fun v H1 locs1 hP hz hk hS => ?_)
    · obtain ⟨rfl, hc9⟩ := hP
      rw [if_neg hc9] at hR
      exact x_out hex hlocks h1 h2 h3 hS ⟨Nat.le_of_ble_eq_true rfl, Nat.le_of_ble_eq_true rfl⟩ (by subst hR; exact ⟨rfl, Nat.succ_ne_zero _⟩)
    · obtain ⟨rfl, hc9, rfl⟩ := hP
      rw [if_pos hc9] at hR
      have k2 := hc9
      have nk2 := ck_ix k2 (by decide)
      refine W.eq (g2 := F0 m 12 ls []) rfl ?_
      refine lv_aload_n hx hb dX1_drive_12 rfl (lv_at hl 0 rfl) ?_
      refine gf (v := .ref (α 7 0)) (C := RX1) (T := TX1) (N := 6) (k := 2) hx hb hts hown hG cl_X1 in_X1 hX.ag (by decide) q303 rfl dX1_drive_13 ?_
      refine lv_iload_n hx hb dX1_drive_16 rfl (lv_at hl 1 rfl) ?_
      refine lv_eq nk1.1 ?_
      refine lv_iload_n hx hb dX1_drive_17 rfl (lv_at hl 2 rfl) ?_
      refine lv_eq nk2.1 ?_
      refine pcV (As := [.int (nI ((Int32.toNatClampNeg a))), .int (nI ((Int32.toNatClampNeg b)))]) (rest := []) hS0 (met_X2_drive l D E ((Int32.toNatClampNeg a)) ((Int32.toNatClampNeg b)) nk1.2 nk2.2) q513 q189 q190 q104 q191 hd_X2_drive ⟨Nat.le_of_ble_eq_true rfl, Nat.le_of_ble_eq_true rfl⟩ hG (rcv hG cl_X2 hX.rd) hX rfl hl.1 rfl (Nat.le_of_ble_eq_true rfl) dX1_drive_18 ⟨Nat.le_of_ble_eq_true rfl, Nat.le_of_ble_eq_true rfl⟩ ?_
      refine W.eq (g2 := F0 m 21 ls [.int ((fX2_drive σ ((Int32.toNatClampNeg a)) ((Int32.toNatClampNeg b))))]) rfl ?_
      exact vx_ret (g_iret hx hb hr hlocks hS ⟨Nat.le_of_ble_eq_true rfl, Nat.le_of_ble_eq_true rfl⟩ dX1_drive_21 (by subst hR; exact ⟨rfl, rfl⟩))

def fX1_free (σ : St) (a : Int32) (b : Int32) : Nat × Bool :=
  (if 0 ≤ a ∧ a < nI (nP σ) then (if 0 ≤ b ∧ b < nI (nW σ) then (0, (fX1_isFree σ ((Int32.toNatClampNeg a)) ((Int32.toNatClampNeg b)))) else (1, false)) else (1, false))
set_option maxHeartbeats 4000000 in
set_option maxRecDepth 100000 in
theorem met_X1_free (l : Launch) (D : va_G) (E : Nat → Nat) (hlf : l.stackTraces = false) {α : Nat → Nat → Nat} {F : Nat → Prop} {σ : St} (a : Int32) (b : Int32)  : XM l D E yX1_free cX1_free 3 (Option.some Jvm.ClassFile.FieldType.boolean) 8 141 2 12 [.ref (α 0 0), .int (a), .int (b)] (RX D E α F σ) (fun _ => False) (fun _ => False) (fun sz v h => (fX1_free σ a b).1 = 0 ∧ v = some (.int (bI (fX1_free σ a b).2))) (fun sz X h => X = exN (fX1_free σ a b).1 ∧ (fX1_free σ a b).1 ≠ 0) := by
  generalize hR : fX1_free σ a b = r
  refine XM.start (by decide) (Nat.le_of_ble_eq_true rfl) ?_
  intro p e s m below meth c ls hx hb hr hml hown hlocks hex hts hG hX hS hl
  have hown : s.vm.findClass RX1 = some m.cls := hown
  have hS0 : xS p m c cX1_free 3 s _ RX1 := ⟨hx, hb, hml, hown, hts⟩
  have hl : lv_has ls 3 [(0, .ref (α 0 0)), (1, .int (a)), (2, .int (b))] := hl
  have hG0 := hG
  have hX0 := hX
  have hb0P := hX0.nP10
  have hb0B := hX0.nB6
  have hb0W := hX0.nW14
  have hFE := hX.fE
  have hX := hX.wide (n := s.heap.size) hG.2.2.1
  have hcn : cnt σ σ := cnt.rf
  unfold fX1_free at hR
  refine lv_aload_n hx hb dX1_free_0 rfl (lv_at hl 0 rfl) ?_
  refine lv_iload_n hx hb dX1_free_1 rfl (lv_at hl 1 rfl) ?_
  refine xcV (As := [.int (a)]) (rest := []) hS0 (met_X1_playerAt l D E hlf a _) q944 q946 qs40 q100 q947 hd_X1_playerAt ⟨Nat.le_of_ble_eq_true rfl, Nat.le_of_ble_eq_true rfl⟩ hG (rcv hG cl_X1 hX.ag) ⟨rfl, hX⟩ rfl hl.1 rfl (Nat.le_of_ble_eq_true rfl) dX1_free_2 ⟨Nat.le_of_ble_eq_true rfl, Nat.le_of_ble_eq_true rfl⟩ hS (fun q h => h.elim) (fun q h => h.elim) (fun X ce q9 H1 locs1 hP hz hk hS h1 h2 h3 => ?_) (fun v H1 locs1 hP hz hk hS => ?_)
  · obtain ⟨rfl, hc9⟩ := hP
    rw [if_neg hc9] at hR
    exact x_out hex hlocks h1 h2 h3 hS ⟨Nat.le_of_ble_eq_true rfl, Nat.le_of_ble_eq_true rfl⟩ (by subst hR; exact ⟨rfl, Nat.succ_ne_zero _⟩)
  · obtain ⟨rfl, hc9, rfl⟩ := hP
    rw [if_pos hc9] at hR
    have k1 := hc9
    have nk1 := ck_ix k1 (by have := hX.nP10; have := hX.nW14; have := hX.nB6; omega)
    refine W.eq (g2 := F0 m 5 ls [.ref (α 3 (Int32.toNatClampNeg a))]) rfl ?_
    refine lv_pop hx hb dX1_free_5 rfl ?_
    refine lv_aload_n hx hb dX1_free_6 rfl (lv_at hl 0 rfl) ?_
    refine lv_iload_n hx hb dX1_free_7 rfl (lv_at hl 2 rfl) ?_
    refine xcV (As := [.int (b)]) (rest := []) hS0 (met_X1_weddingAt l D E hlf b _) q1066 q1068 qs42 q100 q1069 hd_X1_weddingAt ⟨Nat.le_of_ble_eq_true rfl, Nat.le_of_ble_eq_true rfl⟩ hG (rcv hG cl_X1 hX.ag) ⟨rfl, hX⟩ rfl hl.1 rfl (Nat.le_of_ble_eq_true rfl) dX1_free_8 ⟨Nat.le_of_ble_eq_true rfl, Nat.le_of_ble_eq_true rfl⟩ hS (fun q h => h.elim) (fun q h => h.elim) (fun X ce q9 H1 locs1 hP hz hk hS h1 h2 h3 => ?_) (fun v H1 locs1 hP hz hk hS => ?_)
    · obtain ⟨rfl, hc9⟩ := hP
      rw [if_neg hc9] at hR
      exact x_out hex hlocks h1 h2 h3 hS ⟨Nat.le_of_ble_eq_true rfl, Nat.le_of_ble_eq_true rfl⟩ (by subst hR; exact ⟨rfl, Nat.succ_ne_zero _⟩)
    · obtain ⟨rfl, hc9, rfl⟩ := hP
      rw [if_pos hc9] at hR
      have k2 := hc9
      have nk2 := ck_ix k2 (by have := hX.nP10; have := hX.nW14; have := hX.nB6; omega)
      refine W.eq (g2 := F0 m 11 ls [.ref (α 5 (Int32.toNatClampNeg b))]) rfl ?_
      refine lv_pop hx hb dX1_free_11 rfl ?_
      refine lv_aload_n hx hb dX1_free_12 rfl (lv_at hl 0 rfl) ?_
      refine lv_iload_n hx hb dX1_free_13 rfl (lv_at hl 1 rfl) ?_
      refine lv_eq nk1.1 ?_
      refine lv_iload_n hx hb dX1_free_14 rfl (lv_at hl 2 rfl) ?_
      refine lv_eq nk2.1 ?_
      refine pcV (As := [.int (nI ((Int32.toNatClampNeg a))), .int (nI ((Int32.toNatClampNeg b)))]) (rest := []) hS0 (met_X1_isFree l D E ((Int32.toNatClampNeg a)) ((Int32.toNatClampNeg b)) nk1.2 nk2.2) q509 q511 qs24 q100 q512 hd_X1_isFree ⟨Nat.le_of_ble_eq_true rfl, Nat.le_of_ble_eq_true rfl⟩ hG (rcv hG cl_X1 hX.ag) hX rfl hl.1 rfl (Nat.le_of_ble_eq_true rfl) dX1_free_15 ⟨Nat.le_of_ble_eq_true rfl, Nat.le_of_ble_eq_true rfl⟩ ?_
      refine W.eq (g2 := F0 m 18 ls [.int (bI ((fX1_isFree σ ((Int32.toNatClampNeg a)) ((Int32.toNatClampNeg b)))))]) rfl ?_
      exact vx_ret (g_zret (b := (fX1_isFree σ ((Int32.toNatClampNeg a)) ((Int32.toNatClampNeg b)))) hx hb hr hlocks hS ⟨Nat.le_of_ble_eq_true rfl, Nat.le_of_ble_eq_true rfl⟩ dX1_free_18 rfl (by subst hR; exact ⟨rfl, rfl⟩))

def fX4_refuse (σ : St) (th : Int32) (ca : Int32) (sm : Int64) (a : Int32) : Int32 × MSt :=
  (0, ((σ, a, ca, sm) : MSt))
set_option maxHeartbeats 4000000 in
set_option maxRecDepth 100000 in
theorem met_X4_refuse (l : Launch) (D : va_G) (E : Nat → Nat) {β : Nat → Nat → Nat} {F : Nat → Prop} {σ : St} {th ca : Int32} {sm : Int64} (a : Int32)  : GM l D E yX4_refuse cX4_refuse 2 (Option.some Jvm.ClassFile.FieldType.int) 0 0 0 0 [.ref (β 0 0), .int (a)] (RM D E β F σ th ca sm) F F (fun sz v h => v = some (.int (fX4_refuse σ th ca sm a).1) ∧ RM D E β (fN F sz) (fX4_refuse σ th ca sm a).2.1 (fX4_refuse σ th ca sm a).2.2.1 (fX4_refuse σ th ca sm a).2.2.2.1 (fX4_refuse σ th ca sm a).2.2.2.2 h ∧ cnt (fX4_refuse σ th ca sm a).2.1 σ)  := by
  generalize hR : fX4_refuse σ th ca sm a = r
  refine GM.start (by decide) (Nat.le_of_ble_eq_true rfl) ?_
  intro p e s m below meth c ls hx hb hr hml hown hlocks hnm hts hG hM hS hl
  have hown : s.vm.findClass RX4 = some m.cls := hown
  have hS0 : xS p m c cX4_refuse 2 s _ RX4 := ⟨hx, hb, hml, hown, hts⟩
  have hl : lv_has ls 2 [(0, .ref (β 0 0)), (1, .int (a))] := hl
  have hG0 := hG
  have hM0 := hM
  have hb0P := hM0.nP10
  have hb0B := hM0.nB6
  have hb0W := hM0.nW14
  have hFE := hM.fE
  have hM := hM.wide (n := s.heap.size) hG.2.2.1
  have hcn : cnt σ σ := cnt.rf
  unfold fX4_refuse at hR
  refine lv_aload_n hx hb dX4_refuse_0 rfl (lv_at hl 0 rfl) ?_
  refine lv_iload_n hx hb dX4_refuse_1 rfl (lv_at hl 1 rfl) ?_
  refine pf (ty0 := tyX4) (ty := tyX4 0) (v := .int (a)) (C := RX4) (T := TX4) (N := 13) (k := 0) hx hb hts hown hG hS cl_X4 in_X4 tyX4_ok nmX4 hM.ag hM.agF hM.agF (by decide) q1540 rfl (tyX4_ok 0 (by decide)) rfl rfl (Nat.le_of_ble_eq_true rfl) dX4_refuse_2 (fun H1 locs1 he hz hq hS => ?_)
  have hM := hM.Pth  he hq
  have hG := gE.ofS hG0 hS hFE
  refine lv_iconst (v := 0) hx hb dX4_refuse_5 (by decide) ?_
  exact g_iret hx hb hr hlocks hS ⟨Nat.le_of_ble_eq_true rfl, Nat.le_of_ble_eq_true rfl⟩ dX4_refuse_6 (by subst hR; exact ⟨rfl, hM, hcn⟩)

def fX4_learn (σ : St) (th : Int32) (ca : Int32) (sm : Int64) (a : Int32) (z : Int32) : Int32 × MSt :=
  (if ((fX4_isPlayer σ a)) = true then (if ((fX4_areSongs σ z)) = true then (fun (σ1 : St) => (nI (popc (pSongs σ1 ((Int32.toNatClampNeg a)))), ((σ1, 0, ca, sm) : MSt))) (sW σ 12 ((Int32.toNatClampNeg a)) ((pSongs σ ((Int32.toNatClampNeg a))) ||| z)) else (fun (σ2 : St) => (fun (th2 : Int32) => (fun (ca2 : Int32) => (fun (sm2 : Int64) => (fun (v2 : Int32) => (v2, ((σ2, th2, ca2, sm2) : MSt))) ((fX4_refuse σ 0 ca sm 2).1)) ((fX4_refuse σ 0 ca sm 2).2.2.2.2)) ((fX4_refuse σ 0 ca sm 2).2.2.2.1)) ((fX4_refuse σ 0 ca sm 2).2.2.1)) ((fX4_refuse σ 0 ca sm 2).2.1)) else (fun (σ3 : St) => (fun (th3 : Int32) => (fun (ca3 : Int32) => (fun (sm3 : Int64) => (fun (v3 : Int32) => (v3, ((σ3, th3, ca3, sm3) : MSt))) ((fX4_refuse σ 0 ca sm 1).1)) ((fX4_refuse σ 0 ca sm 1).2.2.2.2)) ((fX4_refuse σ 0 ca sm 1).2.2.2.1)) ((fX4_refuse σ 0 ca sm 1).2.2.1)) ((fX4_refuse σ 0 ca sm 1).2.1))
set_option maxHeartbeats 4000000 in
set_option maxRecDepth 100000 in
theorem met_X4_learn (l : Launch) (D : va_G) (E : Nat → Nat) {β : Nat → Nat → Nat} {F : Nat → Prop} {σ : St} {th ca : Int32} {sm : Int64} (a : Int32) (z : Int32)  : GM l D E yX4_learn cX4_learn 3 (Option.some Jvm.ClassFile.FieldType.int) 3 64 0 0 [.ref (β 0 0), .int (a), .int (z)] (RM D E β F σ th ca sm) F F (fun sz v h => v = some (.int (fX4_learn σ th ca sm a z).1) ∧ RM D E β (fN F sz) (fX4_learn σ th ca sm a z).2.1 (fX4_learn σ th ca sm a z).2.2.1 (fX4_learn σ th ca sm a z).2.2.2.1 (fX4_learn σ th ca sm a z).2.2.2.2 h ∧ cnt (fX4_learn σ th ca sm a z).2.1 σ)  := by
  generalize hR : fX4_learn σ th ca sm a z = r
  refine GM.start (by decide) (Nat.le_of_ble_eq_true rfl) ?_
  intro p e s m below meth c ls hx hb hr hml hown hlocks hnm hts hG hM hS hl
  have hown : s.vm.findClass RX4 = some m.cls := hown
  have hS0 : xS p m c cX4_learn 3 s _ RX4 := ⟨hx, hb, hml, hown, hts⟩
  have hl : lv_has ls 3 [(0, .ref (β 0 0)), (1, .int (a)), (2, .int (z))] := hl
  have hG0 := hG
  have hM0 := hM
  have hb0P := hM0.nP10
  have hb0B := hM0.nB6
  have hb0W := hM0.nW14
  have hFE := hM.fE
  have hM := hM.wide (n := s.heap.size) hG.2.2.1
  have hcn : cnt σ σ := cnt.rf
  unfold fX4_learn at hR
  refine lv_aload_n hx hb dX4_learn_0 rfl (lv_at hl 0 rfl) ?_
  refine lv_iconst (v := 0) hx hb dX4_learn_1 (by decide) ?_
  refine pf (ty0 := tyX4) (ty := tyX4 0) (v := .int 0) (C := RX4) (T := TX4) (N := 13) (k := 0) hx hb hts hown hG hS cl_X4 in_X4 tyX4_ok nmX4 hM.ag hM.agF hM.agF (by decide) q1540 rfl (tyX4_ok 0 (by decide)) rfl rfl (Nat.le_of_ble_eq_true rfl) dX4_learn_2 (fun H1 locs1 he hz hq hS => ?_)
  have hM := hM.Pth  he hq
  have hG := gE.ofS hG0 hS hFE
  refine lv_aload_n hx hb dX4_learn_5 rfl (lv_at hl 0 rfl) ?_
  refine lv_iload_n hx hb dX4_learn_6 rfl (lv_at hl 1 rfl) ?_
  refine pcV (As := [.int (a)]) (rest := []) hS0 (met_X4_isPlayer l D E a) q1635 q1637 qs57 q110 q1638 hd_X4_isPlayer ⟨Nat.le_of_ble_eq_true rfl, Nat.le_of_ble_eq_true rfl⟩ hG (rcv hG cl_X4 hM.ag) hM rfl hl.1 rfl (Nat.le_of_ble_eq_true rfl) dX4_learn_7 ⟨Nat.le_of_ble_eq_true rfl, Nat.le_of_ble_eq_true rfl⟩ ?_
  refine W.eq (g2 := F0 m 10 ls [.int (bI ((fX4_isPlayer σ a)))]) rfl ?_
  refine lb_if_ne (tgt := 19) hx hb dX4_learn_10 (by decide) (fun c1 => ?_) (fun c1 => ?_)
  · rw [if_pos c1] at hR
    have nc1 := isPlayer_ix hM c1
    refine lv_aload_n hx hb dX4_learn_19 rfl (lv_at hl 0 rfl) ?_
    refine lv_iload_n hx hb dX4_learn_20 rfl (lv_at hl 2 rfl) ?_
    refine pcV (As := [.int (z)]) (rest := []) hS0 (met_X4_areSongs l D E z) q1595 q1597 qs56 q110 q1598 hd_X4_areSongs ⟨Nat.le_of_ble_eq_true rfl, Nat.le_of_ble_eq_true rfl⟩ hG (rcv hG cl_X4 hM.ag) hM rfl hl.1 rfl (Nat.le_of_ble_eq_true rfl) dX4_learn_21 ⟨Nat.le_of_ble_eq_true rfl, Nat.le_of_ble_eq_true rfl⟩ ?_
    refine W.eq (g2 := F0 m 24 ls [.int (bI ((fX4_areSongs σ z)))]) rfl ?_
    refine lb_if_ne (tgt := 33) hx hb dX4_learn_24 (by decide) (fun c2 => ?_) (fun c2 => ?_)
    · rw [if_pos c2] at hR
      refine lv_aload_n hx hb dX4_learn_33 rfl (lv_at hl 0 rfl) ?_
      refine gf (v := .ref (β 1 0)) (C := RX4) (T := TX4) (N := 13) (k := 3) hx hb hts hown hG cl_X4 in_X4 hM.ag (by decide) q1543 rfl dX4_learn_34 ?_
      refine lv_iload_n hx hb dX4_learn_37 rfl (lv_at hl 1 rfl) ?_
      refine lv_eq nc1.1 ?_
      refine pcV (As := [.int (nI ((Int32.toNatClampNeg a)))]) (rest := []) hS0 (met_ml_get l D E (j := 0) (by decide) ((Int32.toNatClampNeg a)) nc1.2) q1639 q349 q2082 q103 q351 hd_J2_get ⟨Nat.le_of_ble_eq_true rfl, Nat.le_of_ble_eq_true rfl⟩ hG (hM.lsR hG (j := 0) (by decide)) hM rfl hl.1 rfl (Nat.le_of_ble_eq_true rfl) dX4_learn_38 ⟨Nat.le_of_ble_eq_true rfl, Nat.le_of_ble_eq_true rfl⟩ ?_
      refine W.eq (g2 := F0 m 41 ls [.ref (β 3 ((Int32.toNatClampNeg a)))]) rfl ?_
      refine gc (ci := 6) hx hb hown hG cl_X7 (rcv hG cl_X7 (hM.pl nc1.2)) (hts _ q1601) dX4_learn_41 ?_
      refine lv_dup hx hb dX4_learn_44 rfl ?_
      refine gfN (v := .int (pSongs σ ((Int32.toNatClampNeg a)))) (C := RX7) (T := TX7) (N := 7) (k := 1) hx hb hts hown hG cl_X7 in_X7 (hM.pl nc1.2) (by decide) q1608 rfl dX4_learn_45 ?_
      refine lv_iload_n hx hb dX4_learn_48 rfl (lv_at hl 2 rfl) ?_
      refine lv_ior hx hb dX4_learn_49 ?_
      refine pfN (ty0 := tyX7) (ty := tyX7 1) (v := .int ((pSongs σ ((Int32.toNatClampNeg a))) ||| z)) (C := RX7) (T := TX7) (N := 7) (k := 1) hx hb hts hown hG hS cl_X7 in_X7 tyX7_ok nmX7 (hM.pl nc1.2) (hM.plF nc1.2) (hM.plF nc1.2) (by decide) q1608 rfl (tyX7_ok 1 (by decide)) rfl rfl (Nat.le_of_ble_eq_true rfl) dX4_learn_50 (fun H1 locs1 he hz hq hS => ?_)
      have hM := hM.Pp12 nc1.2 he hq
      have hG := gE.ofS hG0 hS hFE
      obtain ⟨σ1, hσ1⟩ : ∃ x, x = sW σ 12 ((Int32.toNatClampNeg a)) ((pSongs σ ((Int32.toNatClampNeg a))) ||| z) := ⟨_, rfl⟩
      rw [← hσ1] at hR hM
      have hcn : cnt σ1 σ := by rw [hσ1]; exact hcn.sW
      try dsimp only at hR
      refine lv_aload_n hx hb dX4_learn_53 rfl (lv_at hl 0 rfl) ?_
      refine gf (v := .ref (β 1 0)) (C := RX4) (T := TX4) (N := 13) (k := 3) hx hb hts hown hG cl_X4 in_X4 hM.ag (by decide) q1543 rfl dX4_learn_54 ?_
      refine lv_iload_n hx hb dX4_learn_57 rfl (lv_at hl 1 rfl) ?_
      refine lv_eq nc1.1 ?_
      refine pcV (As := [.int (nI ((Int32.toNatClampNeg a)))]) (rest := []) hS0 (met_ml_get l D E (j := 0) (by decide) ((Int32.toNatClampNeg a)) (hcn.p nc1.2)) q1639 q349 q2082 q103 q351 hd_J2_get ⟨Nat.le_of_ble_eq_true rfl, Nat.le_of_ble_eq_true rfl⟩ hG (hM.lsR hG (j := 0) (by decide)) hM rfl hl.1 rfl (Nat.le_of_ble_eq_true rfl) dX4_learn_58 ⟨Nat.le_of_ble_eq_true rfl, Nat.le_of_ble_eq_true rfl⟩ ?_
      refine W.eq (g2 := F0 m 61 ls [.ref (β 3 ((Int32.toNatClampNeg a)))]) rfl ?_
      refine gc (ci := 6) hx hb hown hG cl_X7 (rcv hG cl_X7 (hM.pl (hcn.p nc1.2))) (hts _ q1601) dX4_learn_61 ?_
      refine gfN (v := .int (pSongs σ1 ((Int32.toNatClampNeg a)))) (C := RX7) (T := TX7) (N := 7) (k := 1) hx hb hts hown hG cl_X7 in_X7 (hM.pl (hcn.p nc1.2)) (by decide) q1608 rfl dX4_learn_64 ?_
      refine pcS (As := [.int (pSongs σ1 ((Int32.toNatClampNeg a)))]) (rest := []) hS0 (met_bitCount l D E (pSongs σ1 ((Int32.toNatClampNeg a)))) q1640 q1641 q125 q1642 hd_J17_bitCount ⟨Nat.le_of_ble_eq_true rfl, Nat.le_of_ble_eq_true rfl⟩ hG trivial rfl hl.1 rfl (Nat.le_of_ble_eq_true rfl) dX4_learn_67 ⟨Nat.le_of_ble_eq_true rfl, Nat.le_of_ble_eq_true rfl⟩ ?_
      refine W.eq (g2 := F0 m 70 ls [.int (nI (popc (pSongs σ1 ((Int32.toNatClampNeg a)))))]) rfl ?_
      exact g_iret hx hb hr hlocks hS ⟨Nat.le_of_ble_eq_true rfl, Nat.le_of_ble_eq_true rfl⟩ dX4_learn_70 (by subst hR; exact ⟨rfl, hM, hcn⟩)
    · rw [if_neg c2] at hR
      refine lv_aload_n hx hb dX4_learn_27 rfl (lv_at hl 0 rfl) ?_
      refine lv_iconst (v := 2) hx hb dX4_learn_28 (by decide) ?_
      have hB := hS.1
      refine gcV (As := [.int 2]) (rest := []) hS0 (met_X4_refuse l D E 2) q1591 q1593 qs55 q110 q1594 hd_X4_refuse ⟨Nat.le_of_ble_eq_true rfl, Nat.le_of_ble_eq_true rfl⟩ hG (rcv hG cl_X4 hM.ag) hM rfl hl.1 rfl (Nat.le_of_ble_eq_true rfl) dX4_learn_29 ⟨Nat.le_of_ble_eq_true rfl, Nat.le_of_ble_eq_true rfl⟩ hS (fun q h => h) (fun q h => h) (fun v H1 locs1 hP hz hk hS => ?_)
      obtain ⟨rfl, hZ, hc8⟩ := hP
      have hM := hZ.mono (fun q _ => fN_fN hB q) hM.fE
      have hG := gE.ofS hG0 hS hFE
      have hcn := hc8.tr hcn
      generalize hv_σ2 : (fX4_refuse σ 0 ca sm 2).2.1 = σ2 at hR hM hcn ⊢
      generalize hv_th2 : (fX4_refuse σ 0 ca sm 2).2.2.1 = th2 at hR hM hcn ⊢
      generalize hv_ca2 : (fX4_refuse σ 0 ca sm 2).2.2.2.1 = ca2 at hR hM hcn ⊢
      generalize hv_sm2 : (fX4_refuse σ 0 ca sm 2).2.2.2.2 = sm2 at hR hM hcn ⊢
      generalize hv_v2 : (fX4_refuse σ 0 ca sm 2).1 = v2 at hR hM hcn ⊢
      try dsimp only at hR
      refine W.eq (g2 := F0 m 32 ls [.int (v2)]) rfl ?_
      exact g_iret hx hb hr hlocks hS ⟨Nat.le_of_ble_eq_true rfl, Nat.le_of_ble_eq_true rfl⟩ dX4_learn_32 (by subst hR; exact ⟨rfl, hM, hcn⟩)
  · rw [if_neg c1] at hR
    refine lv_aload_n hx hb dX4_learn_13 rfl (lv_at hl 0 rfl) ?_
    refine lv_iconst (v := 1) hx hb dX4_learn_14 (by decide) ?_
    have hB := hS.1
    refine gcV (As := [.int 1]) (rest := []) hS0 (met_X4_refuse l D E 1) q1591 q1593 qs55 q110 q1594 hd_X4_refuse ⟨Nat.le_of_ble_eq_true rfl, Nat.le_of_ble_eq_true rfl⟩ hG (rcv hG cl_X4 hM.ag) hM rfl hl.1 rfl (Nat.le_of_ble_eq_true rfl) dX4_learn_15 ⟨Nat.le_of_ble_eq_true rfl, Nat.le_of_ble_eq_true rfl⟩ hS (fun q h => h) (fun q h => h) (fun v H1 locs1 hP hz hk hS => ?_)
    obtain ⟨rfl, hZ, hc8⟩ := hP
    have hM := hZ.mono (fun q _ => fN_fN hB q) hM.fE
    have hG := gE.ofS hG0 hS hFE
    have hcn := hc8.tr hcn
    generalize hv_σ3 : (fX4_refuse σ 0 ca sm 1).2.1 = σ3 at hR hM hcn ⊢
    generalize hv_th3 : (fX4_refuse σ 0 ca sm 1).2.2.1 = th3 at hR hM hcn ⊢
    generalize hv_ca3 : (fX4_refuse σ 0 ca sm 1).2.2.2.1 = ca3 at hR hM hcn ⊢
    generalize hv_sm3 : (fX4_refuse σ 0 ca sm 1).2.2.2.2 = sm3 at hR hM hcn ⊢
    generalize hv_v3 : (fX4_refuse σ 0 ca sm 1).1 = v3 at hR hM hcn ⊢
    try dsimp only at hR
    refine W.eq (g2 := F0 m 18 ls [.int (v3)]) rfl ?_
    exact g_iret hx hb hr hlocks hS ⟨Nat.le_of_ble_eq_true rfl, Nat.le_of_ble_eq_true rfl⟩ dX4_learn_18 (by subst hR; exact ⟨rfl, hM, hcn⟩)

