/-! constructors that make arrays; copies of objects -/
set_option maxRecDepth 100000
set_option maxHeartbeats 4000000 in
set_option maxRecDepth 100000 in
theorem met_X6_init (l : Launch) (D : va_G) (E : Nat → Nat) (q0 : Nat) (a_ : Int32) (b_ : Int32) (c_ : Int32) (d_ : Int32)  : GM l D E yX6_init cX6_init 5 (Option.none : Option Jvm.ClassFile.FieldType) 1 12 1 366 [.ref (q0), .int (a_), .int (b_), .int (c_), .int (d_)] (fun h => va_at D vwCl (q0, .inr (5, [.int 0, .int 0, .int 0, .int 0, .int 0, .int 0, .null])) h ∧ E 0 ≤ q0) (fun z => z = q0) (fun z => z = q0) (fun sz v h => v = none ∧ ∃ z0, sz ≤ z0 ∧ va_at D vwCl (q0, .inr (5, [.int (a_), .int (c_), .int (d_), .int (b_), .int 0, .int 0, .ref (z0)])) h ∧ va_at D vwCl (z0, arZ E 366 (fun _ => 0)) h)  := by
  refine GM.start (by decide) (Nat.le_of_ble_eq_true rfl) ?_
  intro p e s m below meth c ls hx hb hr hml hown hlocks hnm hts hG ⟨hT_this, hq0⟩ hS hl
  have hown : s.vm.findClass RX6 = some m.cls := hown
  have hS0 : xS p m c cX6_init 5 s _ RX6 := ⟨hx, hb, hml, hown, hts⟩
  have hl : lv_has ls 5 [(0, .ref (q0)), (1, .int (a_)), (2, .int (b_)), (3, .int (c_)), (4, .int (d_))] := hl
  have hG0 := hG
  refine lv_aload_n hx hb dX6_init_0 rfl (lv_at hl 0 rfl) ?_
  refine W.objInit hx hb hown (hts _ q907) (hts _ q147) (hts _ q148) rfl (by rw [hml]; exact hl.1) rfl dX6_init_1 (Nat.le_of_ble_eq_true rfl) (Nat.le_of_ble_eq_true rfl) ?_
  refine W.eq (g2 := F0 m 4 ls []) rfl ?_
  refine lv_aload_n hx hb dX6_init_4 rfl (lv_at hl 0 rfl) ?_
  refine lv_sipush (v := 366) hx hb dX6_init_5 (by decide) ?_
  have hB := hS.1
  have hL_this : q0 < _ := hT_this.lt
  refine nwZ (atype := .boolean) (ty := .boolean) (t := 1) (cA := E 2) (N := 366) (z := (366, .inl (fun _ => 0))) hx hb hts hG hS q936 rfl rfl trivial (fun _ => rfl) (by decide) (by decide) ⟨Nat.le_of_ble_eq_true rfl, Nat.le_of_ble_eq_true rfl⟩ dX6_init_8 (fun q8 H1 hq9 hT_t8 hz ho hS => ?_)
  have hT_this : va_at D vwCl (q0, .inr (5, [.int 0, .int 0, .int 0, .int 0, .int 0, .int 0, .null])) H1 := hT_this.kept (ho _ hT_this.lt)
  have hG := gE.ofS hG0 hS (fun q h => by have h : q = q0 := h; rw [h]; exact hq0)
  have hne_this_t8 : q0 ≠ q8 := by have h9 := hL_this; omega
  have hge_t8 : s.heap.size ≤ q8 := by have := hB; omega
  have hB := hS.1
  have hL_this : q0 < _ := hT_this.lt
  have hL_t8 : q8 < _ := hT_t8.lt
  refine pf (ty0 := tyX6) (ty := tyX6 6) (v := .ref (q8)) (C := RX6) (T := TX6) (N := 7) (k := 6) hx hb hts hown hG hS cl_X6 in_X6 tyX6_ok nmX6 hT_this (Or.inl rfl) (Or.inl rfl) (by decide) q919 rfl (tyX6_ok 6 (by decide)) rfl rfl (Nat.le_of_ble_eq_true rfl) dX6_init_10 (fun H1 locs1 he hz hq hS => ?_)
  have hT_t8 : va_at D vwCl (q8, arZ E 366 (fun _ => 0)) H1 := hT_t8.kept (hq _ (fun e9 => absurd e9 hne_this_t8.symm))
  have hT_this : va_at D vwCl (q0, .inr (5, [.int 0, .int 0, .int 0, .int 0, .int 0, .int 0, .ref (q8)])) H1 := he
  have hG := gE.ofS hG0 hS (fun q h => by have h : q = q0 := h; rw [h]; exact hq0)
  refine lv_aload_n hx hb dX6_init_13 rfl (lv_at hl 0 rfl) ?_
  refine lv_iload_n hx hb dX6_init_14 rfl (lv_at hl 1 rfl) ?_
  have hB := hS.1
  have hL_this : q0 < _ := hT_this.lt
  have hL_t8 : q8 < _ := hT_t8.lt
  refine pfF (ty0 := tyX6) (ty := tyX6 0) (v := .int (a_)) (C := RX6) (T := TX6) (N := 7) (k := 0) hx hb hts hown hG hS cl_X6 in_X6 tyX6_ok nmX6 hT_this (Or.inl rfl) (Or.inl rfl) (by decide) q908 rfl hnm rfl (tyX6_ok 0 (by decide)) rfl rfl (Nat.le_of_ble_eq_true rfl) dX6_init_15 (fun H1 locs1 he hz hq hS => ?_)
  have hT_t8 : va_at D vwCl (q8, arZ E 366 (fun _ => 0)) H1 := hT_t8.kept (hq _ (fun e9 => absurd e9 hne_this_t8.symm))
  have hT_this : va_at D vwCl (q0, .inr (5, [.int (a_), .int 0, .int 0, .int 0, .int 0, .int 0, .ref (q8)])) H1 := he
  have hG := gE.ofS hG0 hS (fun q h => by have h : q = q0 := h; rw [h]; exact hq0)
  refine lv_aload_n hx hb dX6_init_18 rfl (lv_at hl 0 rfl) ?_
  refine lv_iload_n hx hb dX6_init_19 rfl (lv_at hl 2 rfl) ?_
  have hB := hS.1
  have hL_this : q0 < _ := hT_this.lt
  have hL_t8 : q8 < _ := hT_t8.lt
  refine pf (ty0 := tyX6) (ty := tyX6 3) (v := .int (b_)) (C := RX6) (T := TX6) (N := 7) (k := 3) hx hb hts hown hG hS cl_X6 in_X6 tyX6_ok nmX6 hT_this (Or.inl rfl) (Or.inl rfl) (by decide) q915 rfl (tyX6_ok 3 (by decide)) rfl rfl (Nat.le_of_ble_eq_true rfl) dX6_init_20 (fun H1 locs1 he hz hq hS => ?_)
  have hT_t8 : va_at D vwCl (q8, arZ E 366 (fun _ => 0)) H1 := hT_t8.kept (hq _ (fun e9 => absurd e9 hne_this_t8.symm))
  have hT_this : va_at D vwCl (q0, .inr (5, [.int (a_), .int 0, .int 0, .int (b_), .int 0, .int 0, .ref (q8)])) H1 := he
  have hG := gE.ofS hG0 hS (fun q h => by have h : q = q0 := h; rw [h]; exact hq0)
  refine lv_aload_n hx hb dX6_init_23 rfl (lv_at hl 0 rfl) ?_
  refine lv_iload_n hx hb dX6_init_24 rfl (lv_at hl 3 rfl) ?_
  have hB := hS.1
  have hL_this : q0 < _ := hT_this.lt
  have hL_t8 : q8 < _ := hT_t8.lt
  refine pfF (ty0 := tyX6) (ty := tyX6 1) (v := .int (c_)) (C := RX6) (T := TX6) (N := 7) (k := 1) hx hb hts hown hG hS cl_X6 in_X6 tyX6_ok nmX6 hT_this (Or.inl rfl) (Or.inl rfl) (by decide) q911 rfl hnm rfl (tyX6_ok 1 (by decide)) rfl rfl (Nat.le_of_ble_eq_true rfl) dX6_init_25 (fun H1 locs1 he hz hq hS => ?_)
  have hT_t8 : va_at D vwCl (q8, arZ E 366 (fun _ => 0)) H1 := hT_t8.kept (hq _ (fun e9 => absurd e9 hne_this_t8.symm))
  have hT_this : va_at D vwCl (q0, .inr (5, [.int (a_), .int (c_), .int 0, .int (b_), .int 0, .int 0, .ref (q8)])) H1 := he
  have hG := gE.ofS hG0 hS (fun q h => by have h : q = q0 := h; rw [h]; exact hq0)
  refine lv_aload_n hx hb dX6_init_28 rfl (lv_at hl 0 rfl) ?_
  refine lv_iload hx hb dX6_init_29 (lv_at hl 4 rfl) ?_
  have hB := hS.1
  have hL_this : q0 < _ := hT_this.lt
  have hL_t8 : q8 < _ := hT_t8.lt
  refine pfF (ty0 := tyX6) (ty := tyX6 2) (v := .int (d_)) (C := RX6) (T := TX6) (N := 7) (k := 2) hx hb hts hown hG hS cl_X6 in_X6 tyX6_ok nmX6 hT_this (Or.inl rfl) (Or.inl rfl) (by decide) q913 rfl hnm rfl (tyX6_ok 2 (by decide)) rfl rfl (Nat.le_of_ble_eq_true rfl) dX6_init_31 (fun H1 locs1 he hz hq hS => ?_)
  have hT_t8 : va_at D vwCl (q8, arZ E 366 (fun _ => 0)) H1 := hT_t8.kept (hq _ (fun e9 => absurd e9 hne_this_t8.symm))
  have hT_this : va_at D vwCl (q0, .inr (5, [.int (a_), .int (c_), .int (d_), .int (b_), .int 0, .int 0, .ref (q8)])) H1 := he
  have hG := gE.ofS hG0 hS (fun q h => by have h : q = q0 := h; rw [h]; exact hq0)
  exact g_vret hx hb hr hlocks hS ⟨Nat.le_of_ble_eq_true rfl, Nat.le_of_ble_eq_true rfl⟩ dX6_init_34 (by skip; exact ⟨rfl, _, hge_t8, hT_this, hT_t8⟩)

set_option maxHeartbeats 4000000 in
set_option maxRecDepth 100000 in
theorem met_X7_init (l : Launch) (D : va_G) (E : Nat → Nat) (q0 : Nat)  : GM l D E yX7_init cX7_init 1 (Option.none : Option Jvm.ClassFile.FieldType) 1 12 1 366 [.ref (q0)] (fun h => va_at D vwCl (q0, .inr (6, [.int 0, .int 0, .int 0, .int 0, .int 0, .int 0, .null])) h ∧ E 0 ≤ q0) (fun z => z = q0) (fun z => z = q0) (fun sz v h => v = none ∧ ∃ z0, sz ≤ z0 ∧ va_at D vwCl (q0, .inr (6, [.int 0, .int 0, .int 0, .int 0, .int 0, .int 0, .ref (z0)])) h ∧ va_at D vwCl (z0, arZ E 366 (fun _ => 0)) h)  := by
  refine GM.start (by decide) (Nat.le_of_ble_eq_true rfl) ?_
  intro p e s m below meth c ls hx hb hr hml hown hlocks hnm hts hG ⟨hT_this, hq0⟩ hS hl
  have hown : s.vm.findClass RX7 = some m.cls := hown
  have hS0 : xS p m c cX7_init 1 s _ RX7 := ⟨hx, hb, hml, hown, hts⟩
  have hl : lv_has ls 1 [(0, .ref (q0))] := hl
  have hG0 := hG
  refine lv_aload_n hx hb dX7_init_0 rfl (lv_at hl 0 rfl) ?_
  refine W.objInit hx hb hown (hts _ q1606) (hts _ q147) (hts _ q148) rfl (by rw [hml]; exact hl.1) rfl dX7_init_1 (Nat.le_of_ble_eq_true rfl) (Nat.le_of_ble_eq_true rfl) ?_
  refine W.eq (g2 := F0 m 4 ls []) rfl ?_
  refine lv_aload_n hx hb dX7_init_4 rfl (lv_at hl 0 rfl) ?_
  refine lv_sipush (v := 366) hx hb dX7_init_5 (by decide) ?_
  have hB := hS.1
  have hL_this : q0 < _ := hT_this.lt
  refine nwZ (atype := .boolean) (ty := .boolean) (t := 1) (cA := E 2) (N := 366) (z := (366, .inl (fun _ => 0))) hx hb hts hG hS q936 rfl rfl trivial (fun _ => rfl) (by decide) (by decide) ⟨Nat.le_of_ble_eq_true rfl, Nat.le_of_ble_eq_true rfl⟩ dX7_init_8 (fun q8 H1 hq9 hT_t8 hz ho hS => ?_)
  have hT_this : va_at D vwCl (q0, .inr (6, [.int 0, .int 0, .int 0, .int 0, .int 0, .int 0, .null])) H1 := hT_this.kept (ho _ hT_this.lt)
  have hG := gE.ofS hG0 hS (fun q h => by have h : q = q0 := h; rw [h]; exact hq0)
  have hne_this_t8 : q0 ≠ q8 := by have h9 := hL_this; omega
  have hge_t8 : s.heap.size ≤ q8 := by have := hB; omega
  have hB := hS.1
  have hL_this : q0 < _ := hT_this.lt
  have hL_t8 : q8 < _ := hT_t8.lt
  refine pfF (ty0 := tyX7) (ty := tyX7 6) (v := .ref (q8)) (C := RX7) (T := TX7) (N := 7) (k := 6) hx hb hts hown hG hS cl_X7 in_X7 tyX7_ok nmX7 hT_this (Or.inl rfl) (Or.inl rfl) (by decide) q1613 rfl hnm rfl (tyX7_ok 6 (by decide)) rfl rfl (Nat.le_of_ble_eq_true rfl) dX7_init_10 (fun H1 locs1 he hz hq hS => ?_)
  have hT_t8 : va_at D vwCl (q8, arZ E 366 (fun _ => 0)) H1 := hT_t8.kept (hq _ (fun e9 => absurd e9 hne_this_t8.symm))
  have hT_this : va_at D vwCl (q0, .inr (6, [.int 0, .int 0, .int 0, .int 0, .int 0, .int 0, .ref (q8)])) H1 := he
  have hG := gE.ofS hG0 hS (fun q h => by have h : q = q0 := h; rw [h]; exact hq0)
  exact g_vret hx hb hr hlocks hS ⟨Nat.le_of_ble_eq_true rfl, Nat.le_of_ble_eq_true rfl⟩ dX7_init_13 (by skip; exact ⟨rfl, _, hge_t8, hT_this, hT_t8⟩)

def fX8_init_L24 (a_ : Int32)  (κ : (Nat → Int32) → Nat → Int32) : Nat → Nat → Int32 → (Nat → Int32) → Nat → Int32
  | 0, i3, a2, t_t7_24 => κ t_t7_24
  | n + 1, i3, a2, t_t7_24 => (fun (f2 : Nat → Int32) => fX8_init_L24 a_ κ n (i3 + 1) (a2 / 3) f2) (upd t_t7_24 i3 (a2 - a2 / 3 * 3))
def fX8_init (a_ : Int32) : Nat → Int32 :=
  fX8_init_L24 a_ (fun (t_t7_1 : (Nat → Int32)) => t_t7_1) 6 0 a_ (fun _ => 0)
set_option maxHeartbeats 4000000 in
set_option maxRecDepth 100000 in
theorem met_X8_init (l : Launch) (D : va_G) (E : Nat → Nat) (q0 : Nat) (a_ : Int32)  : GM l D E yX8_init cX8_init 4 (Option.none : Option Jvm.ClassFile.FieldType) 1 12 2 12 [.ref (q0), .int (a_)] (fun h => va_at D vwCl (q0, .inr (7, [.null, .null])) h ∧ E 0 ≤ q0) (fun z => z = q0) (fun z => z = q0) (fun sz v h => v = none ∧ ∃ z0 z1, sz ≤ z0 ∧ sz ≤ z1 ∧ z0 ≠ z1 ∧ va_at D vwCl (q0, .inr (7, [.ref (z0), .ref (z1)])) h ∧ va_at D vwCl (z0, arI E 6 (fX8_init a_)) h ∧ va_at D vwCl (z1, arI E 6 (fun _ => 0)) h)  := by
  generalize hR : fX8_init a_ = r
  refine GM.start (by decide) (Nat.le_of_ble_eq_true rfl) ?_
  intro p e s m below meth c ls hx hb hr hml hown hlocks hnm hts hG ⟨hT_this, hq0⟩ hS hl
  have hown : s.vm.findClass RX8 = some m.cls := hown
  have hS0 : xS p m c cX8_init 4 s _ RX8 := ⟨hx, hb, hml, hown, hts⟩
  have hl : lv_has ls 4 [(0, .ref (q0)), (1, .int (a_))] := hl
  have hG0 := hG
  have hL24 : ∀ (q7 : Nat) (q15 : Nat) (hne_this_t7 : q0 ≠ q7) (hne_this_t15 : q0 ≠ q15) (hge_t7 : s.heap.size ≤ q7) (hne_t7_t15 : q7 ≠ q15) (hge_t15 : s.heap.size ≤ q15) (κ : (Nat → Int32) → Nat → Int32) (hκ : ∀ (t_t7_24 : (Nat → Int32)) (H : Heap) (locs : List Loc) (ls : Array Slot), κ t_t7_24 = r → va_at D vwCl (q0, .inr (7, [.ref (q7), .ref (q15)])) H → va_at D vwCl (q7, arI E 6 t_t7_24) H → va_at D vwCl (q15, arI E 6 (fun _ => 0)) H → xK (fun z => z = q0) (fun z => z = q0) s.heap H locs → lv_has ls 4 [] → W p l e { frames := 1, cells := 2, slots := 12, locals := 12 } s m [(.ref (q0) : Value), .int (a_)].toArray below meth c H locs 2 12 (MQ below (qG (fun z => z = q0) ((fun sz v h => v = none ∧ ∃ z0 z1, sz ≤ z0 ∧ sz ≤ z1 ∧ z0 ≠ z1 ∧ va_at D vwCl (q0, .inr (7, [.ref (z0), .ref (z1)])) h ∧ va_at D vwCl (z0, arI E 6 r) h ∧ va_at D vwCl (z1, arI E 6 (fun _ => 0)) h) s.heap.size)) [(.ref (q0) : Value), .int (a_)].toArray s 2 12 (fN (fun z => z = q0) s.heap.size)) (F0 m 49 ls [])) (n : Nat) (i3 : Nat) (a2 : Int32) (t_t7_24 : (Nat → Int32)), i3 + n = 6 → fX8_init_L24 a_ κ n i3 a2 t_t7_24 = r → ∀ (H : Heap) (locs : List Loc), va_at D vwCl (q0, .inr (7, [.ref (q7), .ref (q15)])) H → va_at D vwCl (q7, arI E 6 t_t7_24) H → va_at D vwCl (q15, arI E 6 (fun _ => 0)) H → xK (fun z => z = q0) (fun z => z = q0) s.heap H locs → ∀ (ls : Array Slot), lv_has ls 4 [(0, .ref (q0)), (2, .int (a2)), (3, .int (nI i3))] → W p l e { frames := 1, cells := 2, slots := 12, locals := 12 } s m [(.ref (q0) : Value), .int (a_)].toArray below meth c H locs 2 12 (MQ below (qG (fun z => z = q0) ((fun sz v h => v = none ∧ ∃ z0 z1, sz ≤ z0 ∧ sz ≤ z1 ∧ z0 ≠ z1 ∧ va_at D vwCl (q0, .inr (7, [.ref (z0), .ref (z1)])) h ∧ va_at D vwCl (z0, arI E 6 r) h ∧ va_at D vwCl (z1, arI E 6 (fun _ => 0)) h) s.heap.size)) [(.ref (q0) : Value), .int (a_)].toArray s 2 12 (fN (fun z => z = q0) s.heap.size)) (F0 m 24 ls []) := by
    intro q7 q15 hne_this_t7 hne_this_t15 hge_t7 hne_t7_t15 hge_t15 κ hκ n
    induction n with
    | zero =>
      intro i3 a2 t_t7_24 hn hR H locs hT_this hT_t7 hT_t15 hS ls hl
      rw [fX8_init_L24] at hR
      have hG := gE.ofS hG0 hS (fun q h => by have h : q = q0 := h; rw [h]; exact hq0)
      refine lv_iload_n hx hb dX8_init_24 rfl (lv_at hl 2 rfl) ?_
      refine lv_bipush (v := 6) hx hb dX8_init_25 (by decide) ?_
      refine lk_ge_out (k := i3) (N := 6) hx hb hn (tgt := 49) dX8_init_27 (by decide) ?_
      exact hκ t_t7_24 _ _ ls hR hT_this hT_t7 hT_t15 hS (lv_sub hl [] rfl)
    | succ n ih =>
      intro i3 a2 t_t7_24 hn hR H locs hT_this hT_t7 hT_t15 hS ls hl
      rw [fX8_init_L24] at hR
      have hG := gE.ofS hG0 hS (fun q h => by have h : q = q0 := h; rw [h]; exact hq0)
      refine lv_iload_n hx hb dX8_init_24 rfl (lv_at hl 2 rfl) ?_
      refine lv_bipush (v := 6) hx hb dX8_init_25 (by decide) ?_
      have hki3 : i3 < 6 := lk_lt hn
      refine lk_ge_in (k := i3) (N := 6) hx hb hki3 (by decide) (tgt := 49) dX8_init_27 (by decide) ?_
      refine lv_aload_n hx hb dX8_init_30 rfl (lv_at hl 0 rfl) ?_
      refine gf (v := .ref (q7)) (C := RX8) (T := TX8) (N := 2) (k := 0) hx hb hts hown hG cl_X8 in_X8 hT_this (by decide) q984 rfl dX8_init_31 ?_
      refine lv_iload_n hx hb dX8_init_34 rfl (lv_at hl 2 rfl) ?_
      refine lv_iload_n hx hb dX8_init_35 rfl (lv_at hl 1 rfl) ?_
      refine lv_iconst (v := 3) hx hb dX8_init_36 (by decide) ?_
      refine lv_irem hx hb dX8_init_37 (by decide) ?_
      have hB := hS.1
      have hL_this : q0 < _ := hT_this.lt
      have hL_t7 : q7 < _ := hT_t7.lt
      have hL_t15 : q15 < _ := hT_t15.lt
      refine paI (N := 6) (k := i3) hx hb hG hS hT_t7 (Or.inr hge_t7) (Or.inr hge_t7) hki3 (by decide) dX8_init_38 (fun H1 locs1 he hz hq hS => ?_)
      have hT_this : va_at D vwCl (q0, .inr (7, [.ref (q7), .ref (q15)])) H1 := hT_this.kept (hq _ (fun e9 => absurd e9 hne_this_t7))
      have hT_t15 : va_at D vwCl (q15, arI E 6 (fun _ => 0)) H1 := hT_t15.kept (hq _ (fun e9 => absurd e9 hne_t7_t15.symm))
      have hG := gE.ofS hG0 hS (fun q h => by have h : q = q0 := h; rw [h]; exact hq0)
      obtain ⟨f2, hf2⟩ : ∃ x, x = upd t_t7_24 i3 (a2 - a2 / 3 * 3) := ⟨_, rfl⟩
      rw [← hf2] at hR he
      try dsimp only at hR
      have hT_t7 : va_at D vwCl (q7, arI E 6 f2) H1 := he
      refine lv_iload_n hx hb dX8_init_39 rfl (lv_at hl 1 rfl) ?_
      refine lv_iconst (v := 3) hx hb dX8_init_40 (by decide) ?_
      refine lv_idiv hx hb dX8_init_41 (by decide) ?_
      refine lv_istore_n (lv' := [(2, .int (a2 / 3)), (0, .ref (q0)), (3, .int (nI i3))]) hx hb dX8_init_42 rfl hl (Nat.le_of_ble_eq_true rfl) rfl (fun ls hl => ?_)
      refine lv_iinc (v := nI (i3 + 1)) (lv' := [(3, .int (nI (i3 + 1))), (2, .int (a2 / 3)), (0, .ref (q0))]) hx hb dX8_init_43 hl (k := 2) rfl (nI_1 i3) (Nat.le_of_ble_eq_true rfl) rfl (fun ls hl => ?_)
      refine lv_goto (tgt := 24) hx hb dX8_init_46 (by decide) ?_
      exact ih (i3 + 1) (a2 / 3) f2 (lk_st hn) hR _ _ hT_this hT_t7 hT_t15 hS ls (lv_sub hl [2, 1, 0] rfl)
  unfold fX8_init at hR
  refine lv_aload_n hx hb dX8_init_0 rfl (lv_at hl 0 rfl) ?_
  refine W.objInit hx hb hown (hts _ q983) (hts _ q147) (hts _ q148) rfl (by rw [hml]; exact hl.1) rfl dX8_init_1 (Nat.le_of_ble_eq_true rfl) (Nat.le_of_ble_eq_true rfl) ?_
  refine W.eq (g2 := F0 m 4 ls []) rfl ?_
  refine lv_aload_n hx hb dX8_init_4 rfl (lv_at hl 0 rfl) ?_
  refine lv_bipush (v := 6) hx hb dX8_init_5 (by decide) ?_
  have hB := hS.1
  have hL_this : q0 < _ := hT_this.lt
  refine nwZ (atype := .int) (ty := .int) (t := 0) (cA := E 1) (N := 6) (z := (6, .inl (fun _ => 0))) hx hb hts hG hS q199 rfl rfl trivial (fun _ => rfl) (by decide) (by decide) ⟨Nat.le_of_ble_eq_true rfl, Nat.le_of_ble_eq_true rfl⟩ dX8_init_7 (fun q7 H1 hq9 hT_t7 hz ho hS => ?_)
  have hT_this : va_at D vwCl (q0, .inr (7, [.null, .null])) H1 := hT_this.kept (ho _ hT_this.lt)
  have hG := gE.ofS hG0 hS (fun q h => by have h : q = q0 := h; rw [h]; exact hq0)
  have hne_this_t7 : q0 ≠ q7 := by have h9 := hL_this; omega
  have hge_t7 : s.heap.size ≤ q7 := by have := hB; omega
  have hB := hS.1
  have hL_this : q0 < _ := hT_this.lt
  have hL_t7 : q7 < _ := hT_t7.lt
  refine pfF (ty0 := tyX8) (ty := tyX8 0) (v := .ref (q7)) (C := RX8) (T := TX8) (N := 2) (k := 0) hx hb hts hown hG hS cl_X8 in_X8 tyX8_ok nmX8 hT_this (Or.inl rfl) (Or.inl rfl) (by decide) q984 rfl hnm rfl (tyX8_ok 0 (by decide)) rfl rfl (Nat.le_of_ble_eq_true rfl) dX8_init_9 (fun H1 locs1 he hz hq hS => ?_)
  have hT_t7 : va_at D vwCl (q7, arI E 6 (fun _ => 0)) H1 := hT_t7.kept (hq _ (fun e9 => absurd e9 hne_this_t7.symm))
  have hT_this : va_at D vwCl (q0, .inr (7, [.ref (q7), .null])) H1 := he
  have hG := gE.ofS hG0 hS (fun q h => by have h : q = q0 := h; rw [h]; exact hq0)
  refine lv_aload_n hx hb dX8_init_12 rfl (lv_at hl 0 rfl) ?_
  refine lv_bipush (v := 6) hx hb dX8_init_13 (by decide) ?_
  have hB := hS.1
  have hL_this : q0 < _ := hT_this.lt
  have hL_t7 : q7 < _ := hT_t7.lt
  refine nwZ (atype := .int) (ty := .int) (t := 0) (cA := E 1) (N := 6) (z := (6, .inl (fun _ => 0))) hx hb hts hG hS q199 rfl rfl trivial (fun _ => rfl) (by decide) (by decide) ⟨Nat.le_of_ble_eq_true rfl, Nat.le_of_ble_eq_true rfl⟩ dX8_init_15 (fun q15 H1 hq9 hT_t15 hz ho hS => ?_)
  have hT_this : va_at D vwCl (q0, .inr (7, [.ref (q7), .null])) H1 := hT_this.kept (ho _ hT_this.lt)
  have hT_t7 : va_at D vwCl (q7, arI E 6 (fun _ => 0)) H1 := hT_t7.kept (ho _ hT_t7.lt)
  have hG := gE.ofS hG0 hS (fun q h => by have h : q = q0 := h; rw [h]; exact hq0)
  have hne_this_t15 : q0 ≠ q15 := by have h9 := hL_this; omega
  have hne_t7_t15 : q7 ≠ q15 := by have h9 := hL_t7; omega
  have hge_t15 : s.heap.size ≤ q15 := by have := hB; omega
  have hB := hS.1
  have hL_this : q0 < _ := hT_this.lt
  have hL_t7 : q7 < _ := hT_t7.lt
  have hL_t15 : q15 < _ := hT_t15.lt
  refine pfF (ty0 := tyX8) (ty := tyX8 1) (v := .ref (q15)) (C := RX8) (T := TX8) (N := 2) (k := 1) hx hb hts hown hG hS cl_X8 in_X8 tyX8_ok nmX8 hT_this (Or.inl rfl) (Or.inl rfl) (by decide) q986 rfl hnm rfl (tyX8_ok 1 (by decide)) rfl rfl (Nat.le_of_ble_eq_true rfl) dX8_init_17 (fun H1 locs1 he hz hq hS => ?_)
  have hT_t7 : va_at D vwCl (q7, arI E 6 (fun _ => 0)) H1 := hT_t7.kept (hq _ (fun e9 => absurd e9 hne_this_t7.symm))
  have hT_t15 : va_at D vwCl (q15, arI E 6 (fun _ => 0)) H1 := hT_t15.kept (hq _ (fun e9 => absurd e9 hne_this_t15.symm))
  have hT_this : va_at D vwCl (q0, .inr (7, [.ref (q7), .ref (q15)])) H1 := he
  have hG := gE.ofS hG0 hS (fun q h => by have h : q = q0 := h; rw [h]; exact hq0)
  refine lv_iload_n hx hb dX8_init_20 rfl (lv_at hl 1 rfl) ?_
  refine lv_istore_n (lv' := [(2, .int (a_)), (0, .ref (q0)), (1, .int (a_))]) hx hb dX8_init_21 rfl hl (Nat.le_of_ble_eq_true rfl) rfl (fun ls hl => ?_)
  refine lv_iconst (v := 0) hx hb dX8_init_22 (by decide) ?_
  refine lv_istore_n (lv' := [(3, .int 0), (2, .int (a_)), (0, .ref (q0)), (1, .int (a_))]) hx hb dX8_init_23 rfl hl (Nat.le_of_ble_eq_true rfl) rfl (fun ls hl => ?_)
  refine hL24 q7 q15 hne_this_t7 hne_this_t15 hge_t7 hne_t7_t15 hge_t15 _ (fun t_t7_1 H1 locs1 ls hR hT_this hT_t7 hT_t15 hS hl => ?_) 6 0 a_ (fun _ => 0) (Nat.zero_add _) hR _ _ hT_this hT_t7 hT_t15 hS ls (lv_sub hl [2, 1, 0] rfl)
  try dsimp only at hR
  have hG := gE.ofS hG0 hS (fun q h => by have h : q = q0 := h; rw [h]; exact hq0)
  exact g_vret hx hb hr hlocks hS ⟨Nat.le_of_ble_eq_true rfl, Nat.le_of_ble_eq_true rfl⟩ dX8_init_49 (by subst hR; exact ⟨rfl, _, _, hge_t7, hge_t15, hne_t7_t15, hT_this, hT_t7, hT_t15⟩)

set_option maxHeartbeats 4000000 in
set_option maxRecDepth 100000 in
theorem met_X3_again (l : Launch) (D : va_G) (E : Nat → Nat) {α : Nat → Nat → Nat} {F : Nat → Prop} {σ : St} (i : Nat) (h_i : i < 16) : GM l D E yX3_again cX3_again 1 (Option.some (Jvm.ClassFile.FieldType.object "FirstdanceAgency$Song")) 2 36 1 4 [.ref (α 6 i)] (RX D E α F σ) (fun _ => False) (fun _ => False) (fun sz v h => ∃ q, v = some (.ref q) ∧ sz ≤ q ∧ va_at D vwCl (q, .inr (2, [.int (sKey σ i), .int (sEnergy σ i), .int (sMin σ i), .int (sPlayed σ i + 1)])) h)  := by
  refine GM.start (by decide) (Nat.le_of_ble_eq_true rfl) ?_
  intro p e s m below meth c ls hx hb hr hml hown hlocks hnm hts hG hX hS hl
  have hown : s.vm.findClass RX3 = some m.cls := hown
  have hS0 : xS p m c cX3_again 1 s _ RX3 := ⟨hx, hb, hml, hown, hts⟩
  have hl : lv_has ls 1 [(0, .ref (α 6 i))] := hl
  have hG0 := hG
  have hX0 := hX
  have hb0P := hX0.nP10
  have hb0B := hX0.nB6
  have hb0W := hX0.nW14
  have hFE := hX.fE
  obtain ⟨Fc, hX, hFn⟩ := hX.nar
  have hFa : ∀ q, Fc q → fN F s.heap.size q := fun q z => Or.inl (hFn q z).1
  have hFb : ∀ q, Fc q → q < s.heap.size := fun q z => (hFn q z).2
  have hcn : cnt σ σ := cnt.rf
  have hB := hS.1
  refine nw (ci := 2) (C := RX3) (T := TX3) (N := 4) (fs := [.int 0, .int 0, .int 0, .int 0]) (ty := tyX3) hx hb hts hown hG hS cl_X3 in_X3 tyX3_ok q1131 q201 q105 (df_X3) ⟨Nat.le_of_ble_eq_true rfl, Nat.le_of_ble_eq_true rfl⟩ dX3_again_0 (fun q0 H1 hq9 hT_t0 hz ho hS => ?_)
  have hX := hX.kept (fun q h4 _ => ho q h4)
  have hG := gE.ofS hG0 hS (fun _ h => h.elim)
  have hge_t0 : s.heap.size ≤ q0 := by have := hB; omega
  have hd_t0 : ¬ Fc q0 := fun z => by have := hFb _ z; omega
  refine lv_dup hx hb dX3_again_3 rfl ?_
  refine lv_aload_n hx hb dX3_again_4 rfl (lv_at hl 0 rfl) ?_
  refine gf (v := .int (sKey σ i)) (C := RX3) (T := TX3) (N := 4) (k := 0) hx hb hts hown hG cl_X3 in_X3 (hX.sg h_i) (by decide) q206 rfl dX3_again_5 ?_
  refine lv_aload_n hx hb dX3_again_8 rfl (lv_at hl 0 rfl) ?_
  refine gf (v := .int (sEnergy σ i)) (C := RX3) (T := TX3) (N := 4) (k := 1) hx hb hts hown hG cl_X3 in_X3 (hX.sg h_i) (by decide) q208 rfl dX3_again_9 ?_
  refine lv_aload_n hx hb dX3_again_12 rfl (lv_at hl 0 rfl) ?_
  refine gf (v := .int (sMin σ i)) (C := RX3) (T := TX3) (N := 4) (k := 2) hx hb hts hown hG cl_X3 in_X3 (hX.sg h_i) (by decide) q210 rfl dX3_again_13 ?_
  refine lv_aload_n hx hb dX3_again_16 rfl (lv_at hl 0 rfl) ?_
  refine gf (v := .int (sPlayed σ i)) (C := RX3) (T := TX3) (N := 4) (k := 3) hx hb hts hown hG cl_X3 in_X3 (hX.sg h_i) (by decide) q212 rfl dX3_again_17 ?_
  refine lv_iconst (v := 1) hx hb dX3_again_20 (by decide) ?_
  refine lv_iadd hx hb dX3_again_21 ?_
  have hB := hS.1
  have hL_t0 : q0 < _ := hT_t0.lt
  refine gcI (As := [.int (sKey σ i), .int (sEnergy σ i), .int (sMin σ i), .int ((sPlayed σ i) + 1)]) (rest := [.ref (q0)]) hS0 (met_X3_init l D E q0 (sKey σ i) (sEnergy σ i) (sMin σ i) ((sPlayed σ i) + 1)) q1132 q203 q105 q204 rfl hd_X3_init ⟨Nat.le_of_ble_eq_true rfl, Nat.le_of_ble_eq_true rfl⟩ hG ⟨hT_t0, (Nat.le_trans hG0.2.2.1 hge_t0)⟩ rfl hl.1 rfl (Nat.le_of_ble_eq_true rfl) dX3_again_22 ⟨Nat.le_of_ble_eq_true rfl, Nat.le_of_ble_eq_true rfl⟩ hS (fun q h => by have h : q = q0 := h; rw [h]; exact (Or.inr hge_t0)) (fun q h => by have h : q = q0 := h; rw [h]; exact (Or.inr hge_t0)) (fun v H1 locs1 hP hz hk hS => ?_)
  obtain ⟨rfl, hT9⟩ := hP
  have hX := hX.kept (fun q h4 h5 => hk q h4 (fun e9 => hd_t0 (e9 ▸ h5)))
  have hT_t0 : va_at D vwCl (q0, .inr (2, [.int (sKey σ i), .int (sEnergy σ i), .int (sMin σ i), .int ((sPlayed σ i) + 1)])) H1 := hT9
  have hG := gE.ofS hG0 hS (fun _ h => h.elim)
  refine W.eq (g2 := F0 m 25 ls [.ref (q0)]) rfl ?_
  exact g_aret hx hb hr (Or.inl ⟨_, rfl⟩) hlocks hS ⟨Nat.le_of_ble_eq_true rfl, Nat.le_of_ble_eq_true rfl⟩ dX3_again_25 (by skip; exact ⟨_, rfl, hge_t0, hT_t0⟩)

set_option maxHeartbeats 4000000 in
set_option maxRecDepth 100000 in
theorem met_X10_copy (l : Launch) (D : va_G) (E : Nat → Nat) {α : Nat → Nat → Nat} {F : Nat → Prop} {σ : St} (wi : Nat) (h_wi : wi < nW σ) : GM l D E yX10_copy cX10_copy 2 (Option.some (Jvm.ClassFile.FieldType.object "FirstdanceAgency$Wedding")) 2 39 1 12 [.ref (α 5 wi)] (RX D E α F σ) (fun _ => False) (fun _ => False) (fun sz v h => ∃ q, v = some (.ref q) ∧ sz ≤ q ∧ va_at D vwCl (q, .inr (8, [.int (nI (wBand σ wi)), .int (nI (wDay σ wi)), .int (nI (wTown σ wi)), .int (wStart σ wi), .int (wLen σ wi), .int (wSongs σ wi), .int (wTold σ wi), .ref (E (10 + wState σ wi)), .int (wSet σ wi), .int (wPrice σ wi), .int (wPaid σ wi), .int (wLate σ wi)])) h)  := by
  refine GM.start (by decide) (Nat.le_of_ble_eq_true rfl) ?_
  intro p e s m below meth c ls hx hb hr hml hown hlocks hnm hts hG hX hS hl
  have hown : s.vm.findClass RX10 = some m.cls := hown
  have hS0 : xS p m c cX10_copy 2 s _ RX10 := ⟨hx, hb, hml, hown, hts⟩
  have hl : lv_has ls 2 [(0, .ref (α 5 wi))] := hl
  have hG0 := hG
  have hX0 := hX
  have hb0P := hX0.nP10
  have hb0B := hX0.nB6
  have hb0W := hX0.nW14
  have hFE := hX.fE
  obtain ⟨Fc, hX, hFn⟩ := hX.nar
  have hFa : ∀ q, Fc q → fN F s.heap.size q := fun q z => Or.inl (hFn q z).1
  have hFb : ∀ q, Fc q → q < s.heap.size := fun q z => (hFn q z).2
  have hcn : cnt σ σ := cnt.rf
  have hB := hS.1
  refine nw (ci := 8) (C := RX10) (T := TX10) (N := 12) (fs := [.int 0, .int 0, .int 0, .int 0, .int 0, .int 0, .int 0, .null, .int 0, .int 0, .int 0, .int 0]) (ty := tyX10) hx hb hts hown hG hS cl_X10 in_X10 tyX10_ok q1493 q1003 q130 (df_X10) ⟨Nat.le_of_ble_eq_true rfl, Nat.le_of_ble_eq_true rfl⟩ dX10_copy_0 (fun q0 H1 hq9 hT_t0 hz ho hS => ?_)
  have hX := hX.kept (fun q h4 _ => ho q h4)
  have hG := gE.ofS hG0 hS (fun _ h => h.elim)
  have hge_t0 : s.heap.size ≤ q0 := by have := hB; omega
  have hd_t0 : ¬ Fc q0 := fun z => by have := hFb _ z; omega
  refine lv_dup hx hb dX10_copy_3 rfl ?_
  refine lv_aload_n hx hb dX10_copy_4 rfl (lv_at hl 0 rfl) ?_
  refine gf (v := .int (nI (wBand σ wi))) (C := RX10) (T := TX10) (N := 12) (k := 0) hx hb hts hown hG cl_X10 in_X10 (hX.wd h_wi) (by decide) q1008 rfl dX10_copy_5 ?_
  refine lv_aload_n hx hb dX10_copy_8 rfl (lv_at hl 0 rfl) ?_
  refine gf (v := .int (nI (wDay σ wi))) (C := RX10) (T := TX10) (N := 12) (k := 1) hx hb hts hown hG cl_X10 in_X10 (hX.wd h_wi) (by decide) q1011 rfl dX10_copy_9 ?_
  refine lv_aload_n hx hb dX10_copy_12 rfl (lv_at hl 0 rfl) ?_
  refine gf (v := .int (nI (wTown σ wi))) (C := RX10) (T := TX10) (N := 12) (k := 2) hx hb hts hown hG cl_X10 in_X10 (hX.wd h_wi) (by decide) q1013 rfl dX10_copy_13 ?_
  refine lv_aload_n hx hb dX10_copy_16 rfl (lv_at hl 0 rfl) ?_
  refine gf (v := .int (wStart σ wi)) (C := RX10) (T := TX10) (N := 12) (k := 3) hx hb hts hown hG cl_X10 in_X10 (hX.wd h_wi) (by decide) q1015 rfl dX10_copy_17 ?_
  refine lv_aload_n hx hb dX10_copy_20 rfl (lv_at hl 0 rfl) ?_
  refine gf (v := .int (wLen σ wi)) (C := RX10) (T := TX10) (N := 12) (k := 4) hx hb hts hown hG cl_X10 in_X10 (hX.wd h_wi) (by decide) q1017 rfl dX10_copy_21 ?_
  refine lv_aload_n hx hb dX10_copy_24 rfl (lv_at hl 0 rfl) ?_
  refine gf (v := .int (wSongs σ wi)) (C := RX10) (T := TX10) (N := 12) (k := 5) hx hb hts hown hG cl_X10 in_X10 (hX.wd h_wi) (by decide) q1019 rfl dX10_copy_25 ?_
  refine lv_aload_n hx hb dX10_copy_28 rfl (lv_at hl 0 rfl) ?_
  refine gf (v := .int (wTold σ wi)) (C := RX10) (T := TX10) (N := 12) (k := 6) hx hb hts hown hG cl_X10 in_X10 (hX.wd h_wi) (by decide) q1022 rfl dX10_copy_29 ?_
  have hB := hS.1
  have hL_t0 : q0 < _ := hT_t0.lt
  refine gcI (As := [.int (nI (wBand σ wi)), .int (nI (wDay σ wi)), .int (nI (wTown σ wi)), .int (wStart σ wi), .int (wLen σ wi), .int (wSongs σ wi), .int (wTold σ wi)]) (rest := [.ref (q0)]) hS0 (met_X10_init l D E q0 (nI (wBand σ wi)) (nI (wDay σ wi)) (nI (wTown σ wi)) (wStart σ wi) (wLen σ wi) (wSongs σ wi) (wTold σ wi)) q1494 q1005 q130 q1006 rfl hd_X10_init ⟨Nat.le_of_ble_eq_true rfl, Nat.le_of_ble_eq_true rfl⟩ hG ⟨hT_t0, (Nat.le_trans hG0.2.2.1 hge_t0)⟩ rfl hl.1 rfl (Nat.le_of_ble_eq_true rfl) dX10_copy_32 ⟨Nat.le_of_ble_eq_true rfl, Nat.le_of_ble_eq_true rfl⟩ hS (fun q h => by have h : q = q0 := h; rw [h]; exact (Or.inr hge_t0)) (fun q h => by have h : q = q0 := h; rw [h]; exact (Or.inr hge_t0)) (fun v H1 locs1 hP hz hk hS => ?_)
  obtain ⟨rfl, hT9⟩ := hP
  have hX := hX.kept (fun q h4 h5 => hk q h4 (fun e9 => hd_t0 (e9 ▸ h5)))
  have hT_t0 : va_at D vwCl (q0, .inr (8, [.int (nI (wBand σ wi)), .int (nI (wDay σ wi)), .int (nI (wTown σ wi)), .int (wStart σ wi), .int (wLen σ wi), .int (wSongs σ wi), .int (wTold σ wi), .ref (E (10 + 0)), .int 0, .int 0, .int 0, .int 0])) H1 := hT9
  have hG := gE.ofS hG0 hS (fun _ h => h.elim)
  refine W.eq (g2 := F0 m 35 ls [.ref (q0)]) rfl ?_
  refine lv_astore_n (lv' := [(1, .ref (q0)), (0, .ref (α 5 wi))]) hx hb dX10_copy_35 rfl hl (Nat.le_of_ble_eq_true rfl) rfl (fun ls hl => ?_)
  refine lv_aload_n hx hb dX10_copy_36 rfl (lv_at hl 0 rfl) ?_
  refine lv_aload_n hx hb dX10_copy_37 rfl (lv_at hl 1 rfl) ?_
  refine gf (v := .ref (E (10 + wState σ wi))) (C := RX10) (T := TX10) (N := 12) (k := 7) hx hb hts hown hG cl_X10 in_X10 (hX.wd h_wi) (by decide) q1024 rfl dX10_copy_38 ?_
  have hB := hS.1
  have hL_t0 : q0 < _ := hT_t0.lt
  refine pf (ty0 := tyX10) (ty := tyX10 7) (v := .ref (E (10 + wState σ wi))) (C := RX10) (T := TX10) (N := 12) (k := 7) hx hb hts hown hG hS cl_X10 in_X10 tyX10_ok nmX10 hT_t0 (Or.inr hge_t0) (Or.inr hge_t0) (by decide) q1024 rfl (tyX10_ok 7 (by decide)) rfl rfl (Nat.le_of_ble_eq_true rfl) dX10_copy_41 (fun H1 locs1 he hz hq hS => ?_)
  have hX := hX.kept (fun q h4 h5 => hq q (fun e9 => hd_t0 (e9 ▸ h5)))
  have hT_t0 : va_at D vwCl (q0, .inr (8, [.int (nI (wBand σ wi)), .int (nI (wDay σ wi)), .int (nI (wTown σ wi)), .int (wStart σ wi), .int (wLen σ wi), .int (wSongs σ wi), .int (wTold σ wi), .ref (E (10 + wState σ wi)), .int 0, .int 0, .int 0, .int 0])) H1 := he
  have hG := gE.ofS hG0 hS (fun _ h => h.elim)
  refine lv_aload_n hx hb dX10_copy_44 rfl (lv_at hl 0 rfl) ?_
  refine lv_aload_n hx hb dX10_copy_45 rfl (lv_at hl 1 rfl) ?_
  refine gf (v := .int (wSet σ wi)) (C := RX10) (T := TX10) (N := 12) (k := 8) hx hb hts hown hG cl_X10 in_X10 (hX.wd h_wi) (by decide) q1026 rfl dX10_copy_46 ?_
  have hB := hS.1
  have hL_t0 : q0 < _ := hT_t0.lt
  refine pf (ty0 := tyX10) (ty := tyX10 8) (v := .int (wSet σ wi)) (C := RX10) (T := TX10) (N := 12) (k := 8) hx hb hts hown hG hS cl_X10 in_X10 tyX10_ok nmX10 hT_t0 (Or.inr hge_t0) (Or.inr hge_t0) (by decide) q1026 rfl (tyX10_ok 8 (by decide)) rfl rfl (Nat.le_of_ble_eq_true rfl) dX10_copy_49 (fun H1 locs1 he hz hq hS => ?_)
  have hX := hX.kept (fun q h4 h5 => hq q (fun e9 => hd_t0 (e9 ▸ h5)))
  have hT_t0 : va_at D vwCl (q0, .inr (8, [.int (nI (wBand σ wi)), .int (nI (wDay σ wi)), .int (nI (wTown σ wi)), .int (wStart σ wi), .int (wLen σ wi), .int (wSongs σ wi), .int (wTold σ wi), .ref (E (10 + wState σ wi)), .int (wSet σ wi), .int 0, .int 0, .int 0])) H1 := he
  have hG := gE.ofS hG0 hS (fun _ h => h.elim)
  refine lv_aload_n hx hb dX10_copy_52 rfl (lv_at hl 0 rfl) ?_
  refine lv_aload_n hx hb dX10_copy_53 rfl (lv_at hl 1 rfl) ?_
  refine gf (v := .int (wPrice σ wi)) (C := RX10) (T := TX10) (N := 12) (k := 9) hx hb hts hown hG cl_X10 in_X10 (hX.wd h_wi) (by decide) q1028 rfl dX10_copy_54 ?_
  have hB := hS.1
  have hL_t0 : q0 < _ := hT_t0.lt
  refine pf (ty0 := tyX10) (ty := tyX10 9) (v := .int (wPrice σ wi)) (C := RX10) (T := TX10) (N := 12) (k := 9) hx hb hts hown hG hS cl_X10 in_X10 tyX10_ok nmX10 hT_t0 (Or.inr hge_t0) (Or.inr hge_t0) (by decide) q1028 rfl (tyX10_ok 9 (by decide)) rfl rfl (Nat.le_of_ble_eq_true rfl) dX10_copy_57 (fun H1 locs1 he hz hq hS => ?_)
  have hX := hX.kept (fun q h4 h5 => hq q (fun e9 => hd_t0 (e9 ▸ h5)))
  have hT_t0 : va_at D vwCl (q0, .inr (8, [.int (nI (wBand σ wi)), .int (nI (wDay σ wi)), .int (nI (wTown σ wi)), .int (wStart σ wi), .int (wLen σ wi), .int (wSongs σ wi), .int (wTold σ wi), .ref (E (10 + wState σ wi)), .int (wSet σ wi), .int (wPrice σ wi), .int 0, .int 0])) H1 := he
  have hG := gE.ofS hG0 hS (fun _ h => h.elim)
  refine lv_aload_n hx hb dX10_copy_60 rfl (lv_at hl 0 rfl) ?_
  refine lv_aload_n hx hb dX10_copy_61 rfl (lv_at hl 1 rfl) ?_
  refine gf (v := .int (wPaid σ wi)) (C := RX10) (T := TX10) (N := 12) (k := 10) hx hb hts hown hG cl_X10 in_X10 (hX.wd h_wi) (by decide) q1030 rfl dX10_copy_62 ?_
  have hB := hS.1
  have hL_t0 : q0 < _ := hT_t0.lt
  refine pf (ty0 := tyX10) (ty := tyX10 10) (v := .int (wPaid σ wi)) (C := RX10) (T := TX10) (N := 12) (k := 10) hx hb hts hown hG hS cl_X10 in_X10 tyX10_ok nmX10 hT_t0 (Or.inr hge_t0) (Or.inr hge_t0) (by decide) q1030 rfl (tyX10_ok 10 (by decide)) rfl rfl (Nat.le_of_ble_eq_true rfl) dX10_copy_65 (fun H1 locs1 he hz hq hS => ?_)
  have hX := hX.kept (fun q h4 h5 => hq q (fun e9 => hd_t0 (e9 ▸ h5)))
  have hT_t0 : va_at D vwCl (q0, .inr (8, [.int (nI (wBand σ wi)), .int (nI (wDay σ wi)), .int (nI (wTown σ wi)), .int (wStart σ wi), .int (wLen σ wi), .int (wSongs σ wi), .int (wTold σ wi), .ref (E (10 + wState σ wi)), .int (wSet σ wi), .int (wPrice σ wi), .int (wPaid σ wi), .int 0])) H1 := he
  have hG := gE.ofS hG0 hS (fun _ h => h.elim)
  refine lv_aload_n hx hb dX10_copy_68 rfl (lv_at hl 0 rfl) ?_
  refine lv_aload_n hx hb dX10_copy_69 rfl (lv_at hl 1 rfl) ?_
  refine gf (v := .int (wLate σ wi)) (C := RX10) (T := TX10) (N := 12) (k := 11) hx hb hts hown hG cl_X10 in_X10 (hX.wd h_wi) (by decide) q1032 rfl dX10_copy_70 ?_
  have hB := hS.1
  have hL_t0 : q0 < _ := hT_t0.lt
  refine pf (ty0 := tyX10) (ty := tyX10 11) (v := .int (wLate σ wi)) (C := RX10) (T := TX10) (N := 12) (k := 11) hx hb hts hown hG hS cl_X10 in_X10 tyX10_ok nmX10 hT_t0 (Or.inr hge_t0) (Or.inr hge_t0) (by decide) q1032 rfl (tyX10_ok 11 (by decide)) rfl rfl (Nat.le_of_ble_eq_true rfl) dX10_copy_73 (fun H1 locs1 he hz hq hS => ?_)
  have hX := hX.kept (fun q h4 h5 => hq q (fun e9 => hd_t0 (e9 ▸ h5)))
  have hT_t0 : va_at D vwCl (q0, .inr (8, [.int (nI (wBand σ wi)), .int (nI (wDay σ wi)), .int (nI (wTown σ wi)), .int (wStart σ wi), .int (wLen σ wi), .int (wSongs σ wi), .int (wTold σ wi), .ref (E (10 + wState σ wi)), .int (wSet σ wi), .int (wPrice σ wi), .int (wPaid σ wi), .int (wLate σ wi)])) H1 := he
  have hG := gE.ofS hG0 hS (fun _ h => h.elim)
  refine lv_aload_n hx hb dX10_copy_76 rfl (lv_at hl 0 rfl) ?_
  exact g_aret hx hb hr (Or.inl ⟨_, rfl⟩) hlocks hS ⟨Nat.le_of_ble_eq_true rfl, Nat.le_of_ble_eq_true rfl⟩ dX10_copy_77 (by skip; exact ⟨_, rfl, hge_t0, hT_t0⟩)

