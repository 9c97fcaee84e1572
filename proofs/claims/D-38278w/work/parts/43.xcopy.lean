/-! the agency: copies, put back -/
set_option maxRecDepth 100000
/-- the first weddings as they stood in another state -/
def mixW (σ0 σ : St) : Nat → St
  | 0 => σ
  | n + 1 => cpW σ0 (mixW σ0 σ n) n
theorem mixW_cnt {σ0 σ : St} : ∀ n, cnt (mixW σ0 σ n) σ
  | 0 => cnt.rf
  | n + 1 => mixW_cnt n
theorem cnt.sy {a b : St} (h : cnt a b) : cnt b a := ⟨h.1.symm, h.2.1.symm, h.2.2.symm⟩
def LVWx (D : va_G) (E : Nat → Nat) (lo hi q0 : Nat) (L : List Nat) (arr cap : Nat) (sn : St × Nat) (H : Heap) : Prop := L.length = sn.2 ∧ LVa D E lo hi q0 arr cap L H ∧ sn.2 ≤ 14 ∧ (∀ i, i < sn.2 → lo ≤ L.getD i 0 ∧ L.getD i 0 < hi ∧ L.getD i 0 ≠ q0 ∧ (cap ≠ 0 → L.getD i 0 ≠ arr) ∧ va_at D vwCl (L.getD i 0, wdC E sn.1 i) H) ∧ ∀ i j, i < sn.2 → j < sn.2 → L.getD i 0 = L.getD j 0 → i = j
section
variable {D : va_G} {E : Nat → Nat} {lo hi q0 arr cap : Nat} {L : List Nat} {sn : St × Nat} {H H1 : Heap}
theorem LVWx.lt (h : LVWx D E lo hi q0 L arr cap sn H) : hi ≤ H.size := h.2.1.lt
theorem LVWx.el (h : LVWx D E lo hi q0 L arr cap sn H) {k : Nat} (hk : k < sn.2) : va_at D vwCl (L.getD k 0, wdC E sn.1 k) H := (h.2.2.2.1 k hk).2.2.2.2
theorem LVWx.kept (h : LVWx D E lo hi q0 L arr cap sn H) (hq : ∀ q : Nat, lo ≤ q → q < hi → H1[q]? = H[q]?) (hz : H.size ≤ H1.size) : LVWx D E lo hi q0 L arr cap sn H1 := by
  obtain ⟨h1, h2, h3, h4, h5⟩ := h
  exact ⟨h1, h2.kept hq hz, h3, fun i hi => ⟨(h4 i hi).1, (h4 i hi).2.1, (h4 i hi).2.2.1, (h4 i hi).2.2.2.1, (h4 i hi).2.2.2.2.kept (hq _ (h4 i hi).1 (h4 i hi).2.1)⟩, h5⟩
end
def fX1_copies_L10 (σ : St)  (κ : Unit) : Nat → Nat → Unit
  | 0, i2 => κ
  | n + 1, i2 => fX1_copies_L10 σ κ n (i2 + 1)
def fX1_copies (σ : St) : Unit :=
  fX1_copies_L10 σ (()) (nW σ) 0
set_option maxHeartbeats 4000000 in
set_option maxRecDepth 100000 in
theorem met_X1_copies (l : Launch) (D : va_G) (E : Nat → Nat) {α : Nat → Nat → Nat} {F : Nat → Prop} {σ : St}   : GM l D E yX1_copies cX1_copies 3 (Option.some (Jvm.ClassFile.FieldType.object "java/util/List")) 7 171 31 1683 [.ref (α 0 0)] (RX D E α F σ) (fun _ => False) (fun _ => False) (fun sz v h => ∃ q, v = some (.ref q) ∧ LVW D E sz h.size q (σ, nW σ) h)  := by
  generalize hR : fX1_copies σ = r
  refine GM.start (by decide) (Nat.le_of_ble_eq_true rfl) ?_
  intro p e s m below meth c ls hx hb hr hml hown hlocks hnm hts hG hX hS hl
  have hown : s.vm.findClass RX1 = some m.cls := hown
  have hS0 : xS p m c cX1_copies 3 s _ RX1 := ⟨hx, hb, hml, hown, hts⟩
  have hl : lv_has ls 3 [(0, .ref (α 0 0))] := hl
  have hG0 := hG
  have hX0 := hX
  have hb0P := hX0.nP10
  have hb0B := hX0.nB6
  have hb0W := hX0.nW14
  have hFE := hX.fE
  obtain ⟨Fc, hX, hFn⟩ := hX.nar
  have hFa : ∀ q, Fc q → fN F s.heap.size q := fun q z => Or.inl (hFn q z).1
  have hFb : ∀ q, Fc q → q < s.heap.size := fun q z => (hFn q z).2
  have hcn : cnt σ σ := cnt.rf
  have hL10 : ∀ (q0 : Nat) (hge_ls : s.heap.size ≤ s.heap.size) (κ : Unit) (hκ : ∀ (H : Heap) (locs : List Loc) (Fc : Nat → Prop) (ls : Array Slot), κ = r → RX D E α Fc σ H → (∀ q, Fc q → fN F s.heap.size q) → (∀ q, Fc q → q < H.size) → (∀ q, Fc q → q < s.heap.size) → LVW D E s.heap.size H.size q0 ((σ, nW σ)) H → xK (fun _ => False) (fun _ => False) s.heap H locs → lv_has ls 3 [(1, .ref (q0))] → W p l e { frames := 7, cells := 31, slots := 1683, locals := 171 } s m [(.ref (α 0 0) : Value)].toArray below meth c H locs (1 + 28) (3 + 1568) (MQ below (qG (fun _ => False) ((fun sz v h => ∃ q, v = some (.ref q) ∧ LVW D E sz h.size q (σ, nW σ) h) s.heap.size)) [(.ref (α 0 0) : Value)].toArray s 31 1683 (fN (fun _ => False) s.heap.size)) (F0 m 52 ls [])) (n : Nat) (i2 : Nat) , i2 + n = nW σ → fX1_copies_L10 σ κ n i2 = r → ∀ (H : Heap) (locs : List Loc) (Fc : Nat → Prop), RX D E α Fc σ H → (∀ q, Fc q → fN F s.heap.size q) → (∀ q, Fc q → q < H.size) → (∀ q, Fc q → q < s.heap.size) → LVW D E s.heap.size H.size q0 ((σ, i2)) H → xK (fun _ => False) (fun _ => False) s.heap H locs → ∀ (ls : Array Slot), lv_has ls 3 [(0, .ref (α 0 0)), (1, .ref (q0)), (2, .int (nI i2))] → W p l e { frames := 7, cells := 31, slots := 1683, locals := 171 } s m [(.ref (α 0 0) : Value)].toArray below meth c H locs (1 + i2 * 2) (3 + i2 * 112) (MQ below (qG (fun _ => False) ((fun sz v h => ∃ q, v = some (.ref q) ∧ LVW D E sz h.size q (σ, nW σ) h) s.heap.size)) [(.ref (α 0 0) : Value)].toArray s 31 1683 (fN (fun _ => False) s.heap.size)) (F0 m 10 ls []) := by
    intro q0 hge_ls κ hκ n
    induction n with
    | zero =>
      intro i2 hn hR H locs Fc hX hFa hFb hd_ls hT_ls hS ls hl
      rw [fX1_copies_L10] at hR
      have hG := gE.ofS hG0 hS (fun _ h => h.elim)
      have hb_i2 : i2 ≤ 14 := by have := hX0.nP10; have := hX0.nB6; have := hX0.nW14; omega
      obtain ⟨hi_ls, hhi_ls⟩ : ∃ x, x = H.size := ⟨_, rfl⟩
      rw [← hhi_ls] at hT_ls
      refine lv_iload_n hx hb dX1_copies_10 rfl (lv_at hl 2 rfl) ?_
      refine lv_aload_n hx hb dX1_copies_11 rfl (lv_at hl 0 rfl) ?_
      refine gf (v := .ref (α 1 3)) (C := RX1) (T := TX1) (N := 6) (k := 4) hx hb hts hown hG cl_X1 in_X1 hX.ag (by decide) q307 rfl dX1_copies_12 ?_
      refine pcF (x := xL_size) (ci := 13) (As := []) (rest := [.int (nI i2)]) hG.fw_size hS0 (met_xl_size l D E (j := 3) (by decide)) q331 q334 q336 q103 q338 hd_xL_size ⟨Nat.le_of_ble_eq_true rfl, Nat.le_of_ble_eq_true rfl⟩ hG cl_J2 (hX.lsR hG (j := 3) (by decide)) hX rfl hl.1 rfl (Nat.le_of_ble_eq_true rfl) dX1_copies_15 ⟨by show _ ≤ 31; omega, by show _ ≤ 1683; omega⟩ ?_
      refine W.eq (g2 := F0 m 20 ls [.int (nI (nW σ)), .int (nI i2)]) rfl ?_
      refine lk_ge_out (k := i2) (N := nW σ) hx hb hn (tgt := 52) dX1_copies_20 (by decide) ?_
      have hn9 : i2 = nW σ := hn
      try rw [hn9] at hT_ls
      try rw [hn9] at hd_ls
      exact W.widen (by show _ ≤ _; omega) (by show _ ≤ _; omega) (hκ  _ _ _ ls hR hX hFa (fun q z => by have := hFb q z; omega) hd_ls hT_ls.full hS (lv_sub hl [1] rfl))
    | succ n ih =>
      intro i2 hn hR H locs Fc hX hFa hFb hd_ls hT_ls hS ls hl
      rw [fX1_copies_L10] at hR
      have hG := gE.ofS hG0 hS (fun _ h => h.elim)
      have hb_i2 : i2 ≤ 14 := by have := hX0.nP10; have := hX0.nB6; have := hX0.nW14; omega
      obtain ⟨hi_ls, hhi_ls⟩ : ∃ x, x = H.size := ⟨_, rfl⟩
      rw [← hhi_ls] at hT_ls
      refine lv_iload_n hx hb dX1_copies_10 rfl (lv_at hl 2 rfl) ?_
      refine lv_aload_n hx hb dX1_copies_11 rfl (lv_at hl 0 rfl) ?_
      refine gf (v := .ref (α 1 3)) (C := RX1) (T := TX1) (N := 6) (k := 4) hx hb hts hown hG cl_X1 in_X1 hX.ag (by decide) q307 rfl dX1_copies_12 ?_
      refine pcF (x := xL_size) (ci := 13) (As := []) (rest := [.int (nI i2)]) hG.fw_size hS0 (met_xl_size l D E (j := 3) (by decide)) q331 q334 q336 q103 q338 hd_xL_size ⟨Nat.le_of_ble_eq_true rfl, Nat.le_of_ble_eq_true rfl⟩ hG cl_J2 (hX.lsR hG (j := 3) (by decide)) hX rfl hl.1 rfl (Nat.le_of_ble_eq_true rfl) dX1_copies_15 ⟨by show _ ≤ 31; omega, by show _ ≤ 1683; omega⟩ ?_
      refine W.eq (g2 := F0 m 20 ls [.int (nI (nW σ)), .int (nI i2)]) rfl ?_
      have hki2 : i2 < nW σ := lk_lt hn
      refine lk_ge_in (k := i2) (N := nW σ) hx hb hki2 (by have := hX.nP10; have := hX.nW14; have := hX.nB6; omega) (tgt := 52) dX1_copies_20 (by decide) ?_
      refine lv_aload_n hx hb dX1_copies_23 rfl (lv_at hl 1 rfl) ?_
      refine lv_aload_n hx hb dX1_copies_24 rfl (lv_at hl 0 rfl) ?_
      refine gf (v := .ref (α 1 3)) (C := RX1) (T := TX1) (N := 6) (k := 4) hx hb hts hown hG cl_X1 in_X1 hX.ag (by decide) q307 rfl dX1_copies_25 ?_
      refine lv_iload_n hx hb dX1_copies_28 rfl (lv_at hl 2 rfl) ?_
      refine pcF (x := xL_get) (ci := 13) (As := [.int (nI i2)]) (rest := [.ref (q0)]) hG.fw_get hS0 (met_xl_get l D E (j := 3) (by decide) i2 hki2) q344 q347 q349 q103 q351 hd_xL_get ⟨Nat.le_of_ble_eq_true rfl, Nat.le_of_ble_eq_true rfl⟩ hG cl_J2 (hX.lsR hG (j := 3) (by decide)) hX rfl hl.1 rfl (Nat.le_of_ble_eq_true rfl) dX1_copies_29 ⟨by show _ ≤ 31; omega, by show _ ≤ 1683; omega⟩ ?_
      refine W.eq (g2 := F0 m 34 ls [.ref (α 5 i2), .ref (q0)]) rfl ?_
      refine gc (ci := 8) hx hb hown hG cl_X10 (rcv hG cl_X10 (hX.wd hki2)) (hts _ q369) dX1_copies_34 ?_
      have hB := hS.1
      have hL_ls : hi_ls ≤ _ := hT_ls.lt
      refine gcV (As := []) (rest := [.ref (q0)]) hS0 (met_X10_copy l D E i2 hki2) q1489 q1490 q1491 q130 q1492 hd_X10_copy ⟨Nat.le_of_ble_eq_true rfl, Nat.le_of_ble_eq_true rfl⟩ hG (rcv hG cl_X10 (hX.wd hki2)) hX rfl hl.1 rfl (Nat.le_of_ble_eq_true rfl) dX1_copies_37 ⟨by show _ ≤ 31; omega, by show _ ≤ 1683; omega⟩ hS (fun q h => h.elim) (fun q h => h.elim) (fun v H1 locs1 hP hz hk hS => ?_)
      obtain ⟨q37, rfl, hq9, hT_w37⟩ := hP
      have hT_ls : LVW D E s.heap.size hi_ls q0 ((σ, i2)) H1 := hT_ls.kept (fun q h8 h9 => hk q (Nat.lt_of_lt_of_le h9 hT_ls.lt) id) (by omega)
      have hX := hX.kept (fun q h4 _ => hk q h4 id)
      have hG := gE.ofS hG0 hS (fun _ h => h.elim)
      have hne_ls_w37 : q37 < s.heap.size ∨ hi_ls ≤ q37 := by have h9 := hL_ls; omega
      have hge_w37 : s.heap.size ≤ q37 := by have := hB; omega
      have hd_w37 : ¬ Fc q37 := fun z => by have := hFb _ z; omega
      have hge9_w37 : hi_ls ≤ q37 := by have h9 := hL_ls; omega
      refine W.eq (g2 := F0 m 40 ls [.ref (q37), .ref (q0)]) rfl ?_
      have hB := hS.1
      have hL_ls : hi_ls ≤ _ := hT_ls.lt
      have hL_w37 : q37 < _ := hT_w37.lt
      refine gcF (x := xL_add) (ci := 13) (As := [.ref (q37)]) (rest := []) hG.fw_add hS0 (met_lvw_add l D E s.heap.size hi_ls q0 σ i2 q37 (by have h9 := hge9_w37; omega) (by have h9 := hX.nW14; omega)) q224 q228 q230 q103 q232 hd_xL_add ⟨Nat.le_of_ble_eq_true rfl, Nat.le_of_ble_eq_true rfl⟩ hG cl_J2 (LVW.recv hG hT_ls) ⟨hT_ls, hT_w37, hG0.2.2.1⟩ rfl hl.1 rfl (Nat.le_of_ble_eq_true rfl) dX1_copies_40 ⟨by show _ ≤ 31; omega, by show _ ≤ 1683; omega⟩ hS (fun q h => Or.inr h.1) (fun q h => Or.inr h.1) (fun v H1 locs1 hP hz hk hS => ?_)
      obtain ⟨rfl, hT9⟩ := hP
      have hX := hX.kept (fun q h4 h5 => hk q h4 (fun e9 => by have e8 := hd_ls q h5; have e9 : s.heap.size ≤ q ∧ q < hi_ls := e9; omega))
      obtain ⟨hi_ls, hT_ls⟩ : ∃ hi, LVW D E s.heap.size hi q0 ((σ, i2 + 1)) H1 := ⟨_, hT9⟩
      have hG := gE.ofS hG0 hS (fun _ h => h.elim)
      refine W.eq (g2 := F0 m 45 ls [.int 1]) rfl ?_
      refine lv_pop hx hb dX1_copies_45 rfl ?_
      refine lv_iinc (v := nI (i2 + 1)) (lv' := [(2, .int (nI (i2 + 1))), (0, .ref (α 0 0)), (1, .ref (q0))]) hx hb dX1_copies_46 hl (k := 2) rfl (nI_1 i2) (Nat.le_of_ble_eq_true rfl) rfl (fun ls hl => ?_)
      refine lv_goto (tgt := 10) hx hb dX1_copies_49 (by decide) ?_
      exact W.widen (by show _ ≤ _; omega) (by show _ ≤ _; omega) (ih (i2 + 1) (lk_st hn) hR _ _ _ hX hFa (fun q z => by have := hFb q z; omega) hd_ls hT_ls.full hS ls (lv_sub hl [1, 2, 0] rfl))
  unfold fX1_copies at hR
  have hB := hS.1
  refine nw (ci := 13) (C := RJ2) (T := TJ2) (N := 3) (fs := [.int 0, .null, .int 0]) (ty := tyJ2) hx hb hts hown hG hS cl_J2 in_J2 tyJ2_ok q149 q150 q103 (df_J2) ⟨Nat.le_of_ble_eq_true rfl, Nat.le_of_ble_eq_true rfl⟩ dX1_copies_0 (fun q0 H1 hq9 hT_t0 hz ho hS => ?_)
  have hX := hX.kept (fun q h4 _ => ho q h4)
  have hG := gE.ofS hG0 hS (fun _ h => h.elim)
  have hge_t0 : s.heap.size ≤ q0 := by have := hB; omega
  have hd_t0 : ¬ Fc q0 := fun z => by have := hFb _ z; omega
  refine lv_dup hx hb dX1_copies_3 rfl ?_
  have hB := hS.1
  have hL_t0 : q0 < _ := hT_t0.lt
  refine gcI (As := []) (rest := [.ref (q0)]) hS0 (met_J2_init l D E q0) q151 q152 q103 q153 rfl hd_J2_init ⟨Nat.le_of_ble_eq_true rfl, Nat.le_of_ble_eq_true rfl⟩ hG ⟨hT_t0, (Nat.le_trans hG0.2.2.1 hge_t0)⟩ rfl hl.1 rfl (Nat.le_of_ble_eq_true rfl) dX1_copies_4 ⟨Nat.le_of_ble_eq_true rfl, Nat.le_of_ble_eq_true rfl⟩ hS (fun q h => by have h : q = q0 := h; rw [h]; exact (Or.inr hge_t0)) (fun q h => by have h : q = q0 := h; rw [h]; exact (Or.inr hge_t0)) (fun v H1 locs1 hP hz hk hS => ?_)
  obtain ⟨rfl, hT9⟩ := hP
  have hX := hX.kept (fun q h4 h5 => hk q h4 (fun e9 => hd_t0 (e9 ▸ h5)))
  have hT_t0 : va_at D vwCl (q0, .inr (13, [.int 0, .ref (E 6), .int 0])) H1 := hT9
  have hG := gE.ofS hG0 hS (fun _ h => h.elim)
  refine W.eq (g2 := F0 m 7 ls [.ref (q0)]) rfl ?_
  obtain ⟨hi_ls, hT_ls⟩ : ∃ hi, LVW D E s.heap.size hi q0 (σ, 0) H1 := ⟨_, LVW.mk hT_t0 hge_t0 hT_t0.lt (Nat.le_refl _)⟩
  have hge_ls : s.heap.size ≤ s.heap.size := Nat.le_refl _
  have hd_ls : ∀ q, Fc q → q < s.heap.size := fun q z => hFb q z
  refine lv_astore_n (lv' := [(1, .ref (q0)), (0, .ref (α 0 0))]) hx hb dX1_copies_7 rfl hl (Nat.le_of_ble_eq_true rfl) rfl (fun ls hl => ?_)
  refine lv_iconst (v := 0) hx hb dX1_copies_8 (by decide) ?_
  refine lv_istore_n (lv' := [(2, .int 0), (1, .ref (q0)), (0, .ref (α 0 0))]) hx hb dX1_copies_9 rfl hl (Nat.le_of_ble_eq_true rfl) rfl (fun ls hl => ?_)
  refine W.widen (k := 1 + 0 * 2) (n := 3 + 0 * 112) (by show _ ≤ _; omega) (by show _ ≤ _; omega) ?_
  refine hL10 q0 hge_ls _ (fun  H1 locs1 Fc ls hR hX hFa hFb hd_ls hT_ls hS hl => ?_) (nW σ) 0  (Nat.zero_add _) hR _ _ _ hX hFa (fun q z => by have := hFb q z; omega) hd_ls hT_ls.full hS ls (lv_sub hl [2, 1, 0] rfl)
  try dsimp only at hR
  have hG := gE.ofS hG0 hS (fun _ h => h.elim)
  obtain ⟨hi_ls, hhi_ls⟩ : ∃ x, x = H1.size := ⟨_, rfl⟩
  rw [← hhi_ls] at hT_ls
  refine lv_aload_n hx hb dX1_copies_52 rfl (lv_at hl 0 rfl) ?_
  exact g_aret hx hb hr (Or.inl ⟨_, rfl⟩) hlocks hS ⟨by show _ ≤ 31; omega, by show _ ≤ 1683; omega⟩ dX1_copies_53 (by subst hR; exact ⟨_, rfl, hT_ls.full⟩)

theorem met_lv_sizeW (l : Launch) (D : va_G) (E : Nat → Nat) {lo hi q0 n : Nat} {L : List Nat} (h : L.length = n) : PM l D E yJ2_size cJ2_size 1 (Option.some Jvm.ClassFile.FieldType.int) 0 0 [.ref q0] (LV D E lo hi q0 L) (some (.int (nI n))) := by
  have h9 := met_lv_size l D E (lo := lo) (hi := hi) (q0 := q0) (L := L)
  rw [h] at h9
  exact h9
theorem RX.ap23 {D : va_G} {E : Nat → Nat} {α : Nat → Nat → Nat} {F : Nat → Prop} {σ : St} {H : Heap} (h : RX D E α F σ H) {k : Nat} (hk : k < nW σ) : α 5 k ≠ α 2 3 := by
  obtain ⟨-, -, γ, h2, h3⟩ := h
  have h4 : nW σ ≤ γ.2.1 3 := (h2 3 (by decide)).1
  have hc : cellX E σ γ α 2 3 = some (arQ E (γ.2.1 3) (fun k => if k < xCnt σ 3 then some (α 5 k) else γ.2.2 3 k)) := if_pos ⟨by decide, by omega⟩
  intro e
  have := (h3.2 5 k 2 3 _ _ (if_pos hk) hc e).1
  omega

def fX1_restore_L2 (σ : St) (σ0 : St)  (κ : St → St) : Nat → Nat → St → St
  | 0, i2, σ1 => κ σ1
  | n + 1, i2, σ1 => (fun (σ2 : St) => fX1_restore_L2 σ σ0 κ n (i2 + 1) σ2) (cpW σ0 σ1 i2)
def fX1_restore (σ : St) (σ0 : St) : St :=
  fX1_restore_L2 σ σ0 (fun (σ3 : St) => σ3) (nW σ) 0 σ
set_option maxHeartbeats 4000000 in
set_option maxRecDepth 100000 in
theorem met_X1_restore (l : Launch) (D : va_G) (E : Nat → Nat) {α0 : Nat → Nat → Nat} {F : Nat → Prop} {σ : St} (q0 : Nat) (lo : Nat) (hi : Nat) (L : List Nat) (arr : Nat) (cap : Nat) (σ0 : St) (hI0 : RI σ0) (hc0 : cnt σ0 σ) (hElo : E 0 ≤ lo) (hdF : ∀ q, F q → q < lo ∨ hi ≤ q) : GM l D E yX1_restore cX1_restore 3 (Option.none : Option Jvm.ClassFile.FieldType) 3 66 0 0 [.ref (α0 0 0), .ref (q0)] (fun h => RX D E α0 F σ h ∧ LVWx D E lo hi q0 L arr cap (σ0, nW σ) h) (fun q => F q ∨ (lo ≤ q ∧ q < hi)) F (fun sz v h => v = none ∧ ∃ α01, KA 5 α0 α01 ∧ RX D E α01 (fN (fun q => F q ∨ (lo ≤ q ∧ q < hi)) sz) (fX1_restore σ σ0) h ∧ cnt (fX1_restore σ σ0) σ)  := by
  generalize hR : fX1_restore σ σ0 = r
  refine GM.start (by decide) (Nat.le_of_ble_eq_true rfl) ?_
  intro p e s m below meth c ls hx hb hr hml hown hlocks hnm hts hG ⟨hX, hT_were⟩ hS hl
  have hown : s.vm.findClass RX1 = some m.cls := hown
  have hS0 : xS p m c cX1_restore 3 s _ RX1 := ⟨hx, hb, hml, hown, hts⟩
  obtain ⟨α, hαe⟩ : ∃ α, α = α0 := ⟨_, rfl⟩
  have hα : KA 5 α0 α := by rw [hαe]; exact KA.rf
  rw [← hαe] at hX hl
  have hl : lv_has ls 3 [(0, .ref (α 0 0)), (1, .ref (q0))] := hl
  have hG0 := hG
  have hX0 := hX
  have hb0P := hX0.nP10
  have hb0B := hX0.nB6
  have hb0W := hX0.nW14
  have hFE := hX.fE
  obtain ⟨Fc, hX, hFn⟩ := hX.nar
  have hFa : ∀ q, Fc q → fN (fun q => F q ∨ (lo ≤ q ∧ q < hi)) s.heap.size q := fun q z => Or.inl (Or.inl (hFn q z).1)
  have hFb : ∀ q, Fc q → q < s.heap.size := fun q z => (hFn q z).2
  have hcn : cnt σ σ := cnt.rf
  have hd_were : ∀ q, Fc q → (q < lo ∨ hi ≤ q) ∨ ∃ j, j < 0 ∧ q = L.getD j 0 := fun q z => Or.inl (hdF q (hFn q z).1)
  have h23 : 0 < nW σ → F (α0 2 3) := fun h => by
    obtain ⟨_, _, _, _, _, _, h9, -⟩ := hX0.setW (F' := fun _ => True) h
    rw [hα 2 3 (by decide)] at h9
    exact h9
  have hL2 : ∀  (κ : St → St) (hκ : ∀ (σ1 : St) (H : Heap) (locs : List Loc) (Fc : Nat → Prop) (α : Nat → Nat → Nat) (ls : Array Slot), κ σ1 = r → KA 5 α0 α → cnt σ1 σ → RX D E α Fc σ1 H → (∀ q, Fc q → fN (fun q => F q ∨ (lo ≤ q ∧ q < hi)) s.heap.size q) → (∀ q, Fc q → q < H.size) → (∀ q, Fc q → (q < lo ∨ hi ≤ q) ∨ ∃ j, j < nW σ ∧ q = L.getD j 0) → LVWx D E lo hi q0 L arr cap (σ0, nW σ) H → xK (fun q => F q ∨ (lo ≤ q ∧ q < hi)) F s.heap H locs → lv_has ls 3 [] → W p l e { frames := 3, cells := 0, slots := 0, locals := 66 } s m [(.ref (α0 0 0) : Value), .ref (q0)].toArray below meth c H locs 0 0 (MQ below (qG F ((fun sz v h => v = none ∧ ∃ α01, KA 5 α0 α01 ∧ RX D E α01 (fN (fun q => F q ∨ (lo ≤ q ∧ q < hi)) sz) r h ∧ cnt r σ) s.heap.size)) [(.ref (α0 0 0) : Value), .ref (q0)].toArray s 0 0 (fN (fun q => F q ∨ (lo ≤ q ∧ q < hi)) s.heap.size)) (F0 m 39 ls [])) (n : Nat) (i2 : Nat) (σ1 : St), i2 + n = nW σ → fX1_restore_L2 σ σ0 κ n i2 σ1 = r → ∀ (H : Heap) (locs : List Loc) (Fc : Nat → Prop) (α : Nat → Nat → Nat), KA 5 α0 α → cnt σ1 σ → RX D E α Fc σ1 H → (∀ q, Fc q → fN (fun q => F q ∨ (lo ≤ q ∧ q < hi)) s.heap.size q) → (∀ q, Fc q → q < H.size) → (∀ q, Fc q → (q < lo ∨ hi ≤ q) ∨ ∃ j, j < i2 ∧ q = L.getD j 0) → LVWx D E lo hi q0 L arr cap (σ0, nW σ) H → xK (fun q => F q ∨ (lo ≤ q ∧ q < hi)) F s.heap H locs → ∀ (ls : Array Slot), lv_has ls 3 [(0, .ref (α 0 0)), (1, .ref (q0)), (2, .int (nI i2))] → W p l e { frames := 3, cells := 0, slots := 0, locals := 66 } s m [(.ref (α0 0 0) : Value), .ref (q0)].toArray below meth c H locs 0 0 (MQ below (qG F ((fun sz v h => v = none ∧ ∃ α01, KA 5 α0 α01 ∧ RX D E α01 (fN (fun q => F q ∨ (lo ≤ q ∧ q < hi)) sz) r h ∧ cnt r σ) s.heap.size)) [(.ref (α0 0 0) : Value), .ref (q0)].toArray s 0 0 (fN (fun q => F q ∨ (lo ≤ q ∧ q < hi)) s.heap.size)) (F0 m 2 ls []) := by
    intro  κ hκ n
    induction n with
    | zero =>
      intro i2 σ1 hn hR H locs Fc α hα hcn hX hFa hFb hd_were hT_were hS ls hl
      rw [fX1_restore_L2] at hR
      have hG := gE.ofS hG0 hS hFE
      refine lv_iload_n hx hb dX1_restore_2 rfl (lv_at hl 2 rfl) ?_
      refine lv_aload_n hx hb dX1_restore_3 rfl (lv_at hl 1 rfl) ?_
      refine pcF (x := xL_size) (ci := 13) (As := []) (rest := [.int (nI i2)]) hG.fw_size hS0 (met_lv_sizeW l D E (hT_were.1)) q331 q334 q336 q103 q338 hd_xL_size ⟨Nat.le_of_ble_eq_true rfl, Nat.le_of_ble_eq_true rfl⟩ hG cl_J2 (LV.recv hG ⟨arr, cap, hT_were.2.1⟩) ⟨arr, cap, hT_were.2.1⟩ rfl hl.1 rfl (Nat.le_of_ble_eq_true rfl) dX1_restore_4 ⟨Nat.le_of_ble_eq_true rfl, Nat.le_of_ble_eq_true rfl⟩ ?_
      refine W.eq (g2 := F0 m 9 ls [.int (nI (nW σ)), .int (nI i2)]) rfl ?_
      refine lk_ge_out (k := i2) (N := nW σ) hx hb hn (tgt := 39) dX1_restore_9 (by decide) ?_
      have hn9 : i2 = nW σ := hn
      try rw [hn9] at hT_were
      try rw [hn9] at hd_were
      exact hκ σ1 _ _ _ _ ls hR hα hcn hX hFa (fun q z => by have := hFb q z; omega) hd_were hT_were hS (lv_sub hl [] rfl)
    | succ n ih =>
      intro i2 σ1 hn hR H locs Fc α hα hcn hX hFa hFb hd_were hT_were hS ls hl
      rw [fX1_restore_L2] at hR
      have hG := gE.ofS hG0 hS hFE
      refine lv_iload_n hx hb dX1_restore_2 rfl (lv_at hl 2 rfl) ?_
      refine lv_aload_n hx hb dX1_restore_3 rfl (lv_at hl 1 rfl) ?_
      refine pcF (x := xL_size) (ci := 13) (As := []) (rest := [.int (nI i2)]) hG.fw_size hS0 (met_lv_sizeW l D E (hT_were.1)) q331 q334 q336 q103 q338 hd_xL_size ⟨Nat.le_of_ble_eq_true rfl, Nat.le_of_ble_eq_true rfl⟩ hG cl_J2 (LV.recv hG ⟨arr, cap, hT_were.2.1⟩) ⟨arr, cap, hT_were.2.1⟩ rfl hl.1 rfl (Nat.le_of_ble_eq_true rfl) dX1_restore_4 ⟨Nat.le_of_ble_eq_true rfl, Nat.le_of_ble_eq_true rfl⟩ ?_
      refine W.eq (g2 := F0 m 9 ls [.int (nI (nW σ)), .int (nI i2)]) rfl ?_
      have hki2 : i2 < nW σ := lk_lt hn
      refine lk_ge_in (k := i2) (N := nW σ) hx hb hki2 (by have := hX.nP10; have := hX.nW14; have := hX.nB6; omega) (tgt := 39) dX1_restore_9 (by decide) ?_
      refine lv_aload_n hx hb dX1_restore_12 rfl (lv_at hl 0 rfl) ?_
      refine gf (v := .ref (α 1 3)) (C := RX1) (T := TX1) (N := 6) (k := 4) hx hb hts hown hG cl_X1 in_X1 hX.ag (by decide) q307 rfl dX1_restore_13 ?_
      refine lv_iload_n hx hb dX1_restore_16 rfl (lv_at hl 2 rfl) ?_
      refine lv_aload_n hx hb dX1_restore_17 rfl (lv_at hl 1 rfl) ?_
      refine lv_iload_n hx hb dX1_restore_18 rfl (lv_at hl 2 rfl) ?_
      refine pcF (x := xL_get) (ci := 13) (As := [.int (nI i2)]) (rest := [.int (nI i2), .ref (α 1 3)]) hG.fw_get hS0 (met_lv_get l D E (lo := lo) (hi := hi) (L := L) i2 (by rw [hT_were.1]; exact hki2)) q344 q347 q349 q103 q351 hd_xL_get ⟨Nat.le_of_ble_eq_true rfl, Nat.le_of_ble_eq_true rfl⟩ hG cl_J2 (LV.recv hG ⟨arr, cap, hT_were.2.1⟩) ⟨arr, cap, hT_were.2.1⟩ rfl hl.1 rfl (Nat.le_of_ble_eq_true rfl) dX1_restore_19 ⟨Nat.le_of_ble_eq_true rfl, Nat.le_of_ble_eq_true rfl⟩ ?_
      refine W.eq (g2 := F0 m 24 ls [.ref (L.getD i2 0), .int (nI i2), .ref (α 1 3)]) rfl ?_
      refine gc (ci := 8) hx hb hown hG cl_X10 (rcv hG cl_X10 (hT_were.el hki2)) (hts _ q369) dX1_restore_24 ?_
      obtain ⟨cap9, mc9, g9, hL9, hA9, hg9, hF9, hcap9, hnc9, hne9, hcl9⟩ := hX.setW (F' := fun q => Fc q ∨ q = (L.getD i2 0)) (hcn.w hki2)
      obtain ⟨zo, hzo⟩ : ∃ x, x = α 5 i2 := ⟨_, rfl⟩
      have hz9 : ¬ Fc (L.getD i2 0) := fun z9 => (hd_were _ z9).elim (fun z8 => by have h7 := hT_were.2.2.2.1 _ hki2; omega) (fun ⟨j, hj, z8⟩ => absurd (hT_were.2.2.2.2 _ _ hki2 (Nat.lt_trans hj hki2) z8) (by omega))
      have hz8 : α 2 3 < lo ∨ hi ≤ α 2 3 := by rw [hα 2 3 (by decide)]; exact hdF _ (h23 (by omega))
      have hB := hS.1
      have hL_were : hi ≤ _ := hT_were.lt
      refine gcF (x := xL_set) (ci := 13) (As := [.int (nI i2), .ref (L.getD i2 0)]) (rest := []) hG.fw_set hS0 (met_J2_set l D E i2 (α 1 3) (α 2 3) mc9 (nW σ1) cap9 g9 (L.getD i2 0) zo hne9 (by omega) hnc9 (hcn.w hki2) (by rw [hzo]; exact hg9)) q724 q727 q729 q103 q731 hd_xL_set ⟨Nat.le_of_ble_eq_true rfl, Nat.le_of_ble_eq_true rfl⟩ hG cl_J2 (hX.lsR hG (j := 3) (by decide)) ⟨hL9.1, hA9, Or.inl ⟨_, _, hT_were.el hki2⟩, hX.fE _ hF9⟩ rfl hl.1 rfl (Nat.le_of_ble_eq_true rfl) dX1_restore_27 ⟨Nat.le_of_ble_eq_true rfl, Nat.le_of_ble_eq_true rfl⟩ hS (fun q h9 => by have h9 : q = α 2 3 := h9; rw [h9, hα 2 3 (by decide)]; first | exact Or.inl (h23 (by omega)) | exact Or.inl (Or.inl (h23 (by omega)))) (fun q h9 => by have h9 : q = α 2 3 := h9; rw [h9, hα 2 3 (by decide)]; first | exact Or.inl (h23 (by omega)) | exact Or.inl (Or.inl (h23 (by omega)))) (fun v H1 locs1 hP hz hk hS => ?_)
      obtain ⟨rfl, hA8⟩ := hP
      have hT_were := hT_were.kept (fun q h8 h9 => hk q (Nat.lt_of_lt_of_le h9 hT_were.lt) (fun e => by have e : q = α 2 3 := e; omega)) (by omega)
      have hZ := hcl9 H1 (L.getD i2 0) σ0 hA8 (fun q h1 h2 => hk q h1 h2) (hT_were.el hki2) hz9 (fun q h => Or.inl h) (Or.inr rfl) (fun q h => h.elim (hX.fE q) (fun h => by have h7 := hT_were.2.2.2.1 _ hki2; omega)) hI0 (hc0.tr hcn.sy)
      have hα9 : KA 5 α (adWk α i2 (L.getD i2 0)) := KA.up
      generalize adWk α i2 (L.getD i2 0) = α9 at hZ hα9
      have hl : lv_has ls 3 [(0, .ref (α9 0 0)), (1, .ref (q0)), (2, .int (nI i2))] := by
        rw [hα9 0 0 (by decide)]
        exact hl
      have hα := hα.tr hα9
      obtain ⟨α, hα, hX, hl⟩ : ∃ α, KA 5 α0 α ∧ RX D E α (fun q => Fc q ∨ q = (L.getD i2 0)) (cpW σ0 σ1 i2) H1 ∧ lv_has ls 3 [(0, .ref (α 0 0)), (1, .ref (q0)), (2, .int (nI i2))] := ⟨α9, hα, hZ, hl⟩
      have hcn : cnt (cpW σ0 σ1 i2) σ := hcn
      obtain ⟨σ2, hσ2⟩ : ∃ x, x = cpW σ0 σ1 i2 := ⟨_, rfl⟩
      rw [← hσ2] at hR hX hcn
      try dsimp only at hR
      obtain ⟨Fd, hX, hFn⟩ := hX.nar
      have hFa : ∀ q, Fd q → fN (fun q => F q ∨ (lo ≤ q ∧ q < hi)) s.heap.size q := fun q h7 => (hFn q h7).1.elim (hFa q) (fun h => by rw [h]; have h7 := hT_were.2.2.2.1 _ hki2; exact Or.inl (Or.inr ⟨h7.1, h7.2.1⟩))
      have hFb : ∀ q, Fd q → q < H1.size := fun q z => (hFn q z).2
      have hd_were : ∀ q, Fd q → (q < lo ∨ hi ≤ q) ∨ ∃ j, j < i2 + 1 ∧ q = L.getD j 0 := fun q h7 => (hFn q h7).1.elim (fun h => (hd_were q h).elim Or.inl (fun ⟨j, hj, e8⟩ => Or.inr ⟨j, by omega, e8⟩)) (fun h => Or.inr ⟨i2, by omega, h⟩)
      clear hFn
      generalize Fd = Fc at hX hFa hFb hd_were
      have hG := gE.ofS hG0 hS hFE
      refine W.eq (g2 := F0 m 32 ls [.ref (zo)]) rfl ?_
      refine lv_pop hx hb dX1_restore_32 rfl ?_
      refine lv_iinc (v := nI (i2 + 1)) (lv' := [(2, .int (nI (i2 + 1))), (0, .ref (α 0 0)), (1, .ref (q0))]) hx hb dX1_restore_33 hl (k := 2) rfl (nI_1 i2) (Nat.le_of_ble_eq_true rfl) rfl (fun ls hl => ?_)
      refine lv_goto (tgt := 2) hx hb dX1_restore_36 (by decide) ?_
      exact ih (i2 + 1) σ2 (lk_st hn) hR _ _ _ _ hα hcn hX hFa (fun q z => by have := hFb q z; omega) hd_were hT_were hS ls (lv_sub hl [1, 2, 0] rfl)
  unfold fX1_restore at hR
  refine lv_iconst (v := 0) hx hb dX1_restore_0 (by decide) ?_
  refine lv_istore_n (lv' := [(2, .int 0), (0, .ref (α 0 0)), (1, .ref (q0))]) hx hb dX1_restore_1 rfl hl (Nat.le_of_ble_eq_true rfl) rfl (fun ls hl => ?_)
  refine hL2  _ (fun σ3 H1 locs1 Fc α ls hR hα hcn hX hFa hFb hd_were hT_were hS hl => ?_) (nW σ) 0 σ (Nat.zero_add _) hR _ _ _ _ hα hcn hX hFa (fun q z => by have := hFb q z; omega) hd_were hT_were hS ls (lv_sub hl [1, 2, 0] rfl)
  try dsimp only at hR
  have hG := gE.ofS hG0 hS hFE
  exact g_vret hx hb hr hlocks hS ⟨Nat.le_of_ble_eq_true rfl, Nat.le_of_ble_eq_true rfl⟩ dX1_restore_39 (by subst hR; exact ⟨rfl, α, hα, hX.mono (fun q _ z => hFa q z) (fun q z => z.elim (fun z => z.elim (hFE q) (fun z => Nat.le_trans hElo z.1)) (fun z => Nat.le_trans hG0.2.2.1 z)), hcn⟩)

theorem met_restoreW (l : Launch) (D : va_G) (E : Nat → Nat) {α : Nat → Nat → Nat} {F : Nat → Prop} {σ : St} (lo hi q0 n : Nat) (σ0 : St) (hn : n = nW σ) (hI0 : RI σ0) (hc0 : cnt σ0 σ) (hElo : E 0 ≤ lo) (hdF : ∀ q, F q → q < lo ∨ hi ≤ q) : GM l D E yX1_restore cX1_restore 3 (Option.none : Option Jvm.ClassFile.FieldType) 3 66 0 0 [.ref (α 0 0), .ref q0] (fun h => RX D E α F σ h ∧ LVW D E lo hi q0 (σ0, n) h) (fun q => F q ∨ (lo ≤ q ∧ q < hi)) F (fun sz v h => v = none ∧ ∃ α1, KA 5 α α1 ∧ RX D E α1 (fN (fun q => F q ∨ (lo ≤ q ∧ q < hi)) sz) (fX1_restore σ σ0) h ∧ cnt (fX1_restore σ σ0) σ) := by
  subst hn
  refine GM.ex (ι := List Nat × Nat × Nat) (fun x => met_X1_restore l D E q0 lo hi x.1 x.2.1 x.2.2 σ0 hI0 hc0 hElo hdF) (fun s H hG hP => ?_)
  obtain ⟨hX, L, arr, cap, h1⟩ := hP
  exact ⟨(L, arr, cap), ⟨hX, h1⟩, fun q z => Or.inl z, fun q z => z, fun v H1 h2 _ _ => h2⟩

