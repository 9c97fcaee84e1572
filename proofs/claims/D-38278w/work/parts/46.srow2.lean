/-! rows of songs: many, isAhead, better -/
set_option maxRecDepth 100000
def fX13_many0 (kf : Int32) (mi0 : Int32) : Int32 :=
  1 + 0
set_option maxHeartbeats 4000000 in
set_option maxRecDepth 100000 in
theorem met_X13_many0 (l : Launch) (D : va_G) (E : Nat → Nat) {a0 : Nat} {kf mi0 : Int32} {fr0 lo0 : Nat}   : PM l D E yX13_many cX13_many 1 (Option.some Jvm.ClassFile.FieldType.int) (fr0 + 1) (lo0 + 20) [.ref (a0)] (fun h => va_at D vwCl (a0, .inr (11, [.int kf, .ref (E 7), .int mi0])) h) (some (.int (fX13_many0 kf mi0))) := by
  generalize hR : fX13_many0 kf mi0 = r
  refine PM.start (by decide) (Nat.le_of_ble_eq_true rfl) ?_
  intro p e s m below meth c ls hx hb hr hml hown hlocks hts hG hQ hl
  have hown : s.vm.findClass RX13 = some m.cls := hown
  have hS0 : xS p m c cX13_many 1 s _ RX13 := ⟨hx, hb, hml, hown, hts⟩
  have hl : lv_has ls 1 [(0, .ref (a0))] := hl
  unfold fX13_many0 at hR
  refine lv_iconst (v := 1) hx hb dX13_many_0 (by decide) ?_
  refine lv_aload_n hx hb dX13_many_1 rfl (lv_at hl 0 rfl) ?_
  refine gf (v := .ref (E 7)) (C := RX13) (T := TX13) (N := 3) (k := 1) hx hb hts hown hG cl_X13 in_X13 hQ (by decide) q696 rfl dX13_many_2 ?_
  refine pcV (As := []) (rest := [.int 1]) hS0 (met_isPresentE l D E) q685 q673 q674 q134 q675 hd_J20_isPresent ⟨by show _ ≤ fr0 + 1; omega, by show _ ≤ lo0 + 20; omega⟩ hG (OP.recv hG (OP.nil (D := D) (lo := 0) (mi := fun _ => 0) (Nat.zero_le _))) trivial rfl hl.1 rfl (Nat.le_of_ble_eq_true rfl) dX13_many_5 ⟨Nat.le_refl _, Nat.le_refl _⟩ ?_
  refine W.eq (g2 := F0 m 8 ls [.int 0, .int 1]) rfl ?_
  refine lv_if_eq (tgt := 27) hx hb dX13_many_8 (by decide) (fun _ => ?_) (fun c9 => absurd (by decide) c9)
  refine lv_iconst (v := 0) hx hb dX13_many_27 (by decide) ?_
  refine lv_iadd hx hb dX13_many_28 ?_
  exact p_iret hx hb hr hlocks dX13_many_29 (by rw [← hR])

def fX13_many1 (kf : Int32) (mi0 : Int32) (n1 : Int32) : Int32 :=
  1 + n1
set_option maxHeartbeats 4000000 in
set_option maxRecDepth 100000 in
theorem met_X13_many1 (l : Launch) (D : va_G) (E : Nat → Nat) {a0 o0 a1 : Nat} {kf mi0 : Int32} {fs1 : List Value} {Ph9 : Heap → Prop} {fr0 lo0 : Nat} (n1 : Int32) (hrec : PM l D E yX13_many cX13_many 1 (Option.some Jvm.ClassFile.FieldType.int) fr0 lo0 [.ref a1] Ph9 (some (.int n1))) : PM l D E yX13_many cX13_many 1 (Option.some Jvm.ClassFile.FieldType.int) (fr0 + 1) (lo0 + 20) [.ref (a0)] (fun h => va_at D vwCl (a0, .inr (11, [.int kf, .ref o0, .int mi0])) h ∧ va_at D vwCl (o0, .inr (16, [.ref a1])) h ∧ va_at D vwCl (a1, .inr (11, fs1)) h ∧ Ph9 h) (some (.int (fX13_many1 kf mi0 n1))) := by
  generalize hR : fX13_many1 kf mi0 n1 = r
  refine PM.start (by decide) (Nat.le_of_ble_eq_true rfl) ?_
  intro p e s m below meth c ls hx hb hr hml hown hlocks hts hG hQ hl
  have hown : s.vm.findClass RX13 = some m.cls := hown
  have hS0 : xS p m c cX13_many 1 s _ RX13 := ⟨hx, hb, hml, hown, hts⟩
  have hl : lv_has ls 1 [(0, .ref (a0))] := hl
  unfold fX13_many1 at hR
  refine lv_iconst (v := 1) hx hb dX13_many_0 (by decide) ?_
  refine lv_aload_n hx hb dX13_many_1 rfl (lv_at hl 0 rfl) ?_
  refine gf (v := .ref (o0)) (C := RX13) (T := TX13) (N := 3) (k := 1) hx hb hts hown hG cl_X13 in_X13 hQ.1 (by decide) q696 rfl dX13_many_2 ?_
  refine pcV (As := []) (rest := [.int 1]) hS0 (met_isPresentS l D E) q685 q673 q674 q134 q675 hd_J20_isPresent ⟨by show _ ≤ fr0 + 1; omega, by show _ ≤ lo0 + 20; omega⟩ hG (rcv hG cl_J20 hQ.2.1) hQ.2.1 rfl hl.1 rfl (Nat.le_of_ble_eq_true rfl) dX13_many_5 ⟨Nat.le_refl _, Nat.le_refl _⟩ ?_
  refine W.eq (g2 := F0 m 8 ls [.int 1, .int 1]) rfl ?_
  refine lv_if_eq (tgt := 27) hx hb dX13_many_8 (by decide) (fun c9 => absurd c9 (by decide)) (fun _ => ?_)
  refine lv_aload_n hx hb dX13_many_11 rfl (lv_at hl 0 rfl) ?_
  refine gf (v := .ref (o0)) (C := RX13) (T := TX13) (N := 3) (k := 1) hx hb hts hown hG cl_X13 in_X13 hQ.1 (by decide) q696 rfl dX13_many_12 ?_
  refine pcV (As := []) (rest := [.int 1]) hS0 (met_J20_get l D E) q686 q677 q678 q134 q679 hd_J20_get ⟨by show _ ≤ fr0 + 1; omega, by show _ ≤ lo0 + 20; omega⟩ hG (rcv hG cl_J20 hQ.2.1) hQ.2.1 rfl hl.1 rfl (Nat.le_of_ble_eq_true rfl) dX13_many_15 ⟨Nat.le_refl _, Nat.le_refl _⟩ ?_
  refine W.eq (g2 := F0 m 18 ls [.ref (a1), .int 1]) rfl ?_
  refine gc (ci := 11) hx hb hown hG cl_X13 (rcv hG cl_X13 hQ.2.2.1) (hts _ q687) dX13_many_18 ?_
  refine pcV (As := []) (rest := [.int 1]) hS0 hrec q736 q733 q734 q135 q735 hd_X13_many ⟨by show _ ≤ fr0 + 1; omega, by show _ ≤ lo0 + 20; omega⟩ hG (rcv hG cl_X13 hQ.2.2.1) hQ.2.2.2 rfl hl.1 rfl (Nat.le_of_ble_eq_true rfl) dX13_many_21 ⟨Nat.le_refl _, Nat.le_refl _⟩ ?_
  refine W.eq (g2 := F0 m 24 ls [.int (n1), .int 1]) rfl ?_
  refine lv_goto (tgt := 28) hx hb dX13_many_24 (by decide) ?_
  refine lv_iadd hx hb dX13_many_28 ?_
  exact p_iret hx hb hr hlocks dX13_many_29 (by rw [← hR])

theorem met_manyR (l : Launch) (D : va_G) (E : Nat → Nat) {lo hi : Nat} {mi : Nat → Int32} : ∀ (d : Nat) (t : List Nat) (k a o' : Nat), t.length ≤ d → PM l D E yX13_many cX13_many 1 (Option.some Jvm.ClassFile.FieldType.int) (d * 1 + 1) (d * 20 + 20) [.ref a] (fun h => va_at D vwCl (a, .inr (11, [.int (nI k), .ref o', .int (rowMin mi (k :: t))])) h ∧ OP D E lo hi mi t o' h) (some (.int (nI (t.length + 1)))) := by
  intro d
  induction d with
  | zero =>
    intro t k a o' hd
    have e : t = [] := List.length_eq_zero_iff.mp (by omega)
    subst e
    exact PM.ex (ι := Unit) (P2 := fun _ => fun h => va_at D vwCl (a, .inr (11, [.int (nI k), .ref (E 7), .int (rowMin mi [k])])) h) (fun _ => met_X13_many0 l D E (fr0 := 0 * 1) (lo0 := 0 * 20)) (fun H h => ⟨(), by have h2 := h.1; rw [show o' = E 7 from h.2.1] at h2; exact h2⟩)
  | succ d ih =>
    intro t k a o' hd
    cases t with
    | nil =>
      exact PM.ex (ι := Unit) (P2 := fun _ => fun h => va_at D vwCl (a, .inr (11, [.int (nI k), .ref (E 7), .int (rowMin mi [k])])) h) (fun _ => met_X13_many0 l D E (fr0 := (d + 1) * 1) (lo0 := (d + 1) * 20)) (fun H h => ⟨(), by have h2 := h.1; rw [show o' = E 7 from h.2.1] at h2; exact h2⟩)
    | cons j u =>
      have hd : u.length + 1 ≤ d + 1 := hd
      have e1 : (d + 1) * 1 + 1 = (d * 1 + 1) + 1 := by omega
      have e2 : (d + 1) * 20 + 20 = (d * 20 + 20) + 20 := by omega
      have e3 : nI ((j :: u).length + 1) = 1 + nI (u.length + 1) := by rw [Int32.add_comm, nI_1]; rfl
      rw [e1, e2, e3]
      refine PM.ex (ι := Nat × Nat) (P2 := fun x h => va_at D vwCl (a, .inr (11, [.int (nI k), .ref o', .int (rowMin mi (k :: j :: u))])) h ∧ va_at D vwCl (o', .inr (16, [.ref x.1])) h ∧ va_at D vwCl (x.1, .inr (11, [.int (nI j), .ref x.2, .int (rowMin mi (j :: u))])) h ∧ (va_at D vwCl (x.1, .inr (11, [.int (nI j), .ref x.2, .int (rowMin mi (j :: u))])) h ∧ OP D E lo hi mi u x.2 h)) (fun x => met_X13_many1 l D E (fr0 := d * 1 + 1) (lo0 := d * 20 + 20) (nI (u.length + 1)) (ih u j x.1 x.2 (by omega))) (fun H h => ?_)
      obtain ⟨h1, ⟨b, o2, g1, g2, g3, g4, g5⟩, h3⟩ := h
      exact ⟨(b, o2), h1, g3, g4, g4, g5, h3⟩

def fX13_isAheadA00 (kf : Int32) (mi0 : Int32) (jf : Int32) (ni0 : Int32) : Bool :=
  (if mi0 = ni0 then (if kf = jf then false else (if jf ≤ kf then false else true)) else (if mi0 ≤ ni0 then false else true))
set_option maxHeartbeats 4000000 in
set_option maxRecDepth 100000 in
theorem met_X13_isAheadA00 (l : Launch) (D : va_G) (E : Nat → Nat) {a0 b0 : Nat} {kf mi0 jf ni0 : Int32} {fr0 lo0 : Nat}   : PM l D E yX13_isAhead cX13_isAhead 2 (Option.some Jvm.ClassFile.FieldType.boolean) (fr0 + 1) (lo0 + 20) [.ref (a0), .ref (b0)] (fun h => va_at D vwCl (a0, .inr (11, [.int kf, .ref (E 7), .int mi0])) h ∧ va_at D vwCl (b0, .inr (11, [.int jf, .ref (E 7), .int ni0])) h) (some (.int (bI (fX13_isAheadA00 kf mi0 jf ni0)))) := by
  generalize hR : fX13_isAheadA00 kf mi0 jf ni0 = r
  refine PM.start (by decide) (Nat.le_of_ble_eq_true rfl) ?_
  intro p e s m below meth c ls hx hb hr hml hown hlocks hts hG hQ hl
  have hown : s.vm.findClass RX13 = some m.cls := hown
  have hS0 : xS p m c cX13_isAhead 2 s _ RX13 := ⟨hx, hb, hml, hown, hts⟩
  have hl : lv_has ls 2 [(0, .ref (a0)), (1, .ref (b0))] := hl
  unfold fX13_isAheadA00 at hR
  refine lv_aload_n hx hb dX13_isAhead_0 rfl (lv_at hl 0 rfl) ?_
  refine gf (v := .int (mi0)) (C := RX13) (T := TX13) (N := 3) (k := 2) hx hb hts hown hG cl_X13 in_X13 hQ.1 (by decide) q698 rfl dX13_isAhead_1 ?_
  refine lv_aload_n hx hb dX13_isAhead_4 rfl (lv_at hl 1 rfl) ?_
  refine gf (v := .int (ni0)) (C := RX13) (T := TX13) (N := 3) (k := 2) hx hb hts hown hG cl_X13 in_X13 hQ.2 (by decide) q698 rfl dX13_isAhead_5 ?_
  refine lv_icmp_eq (tgt := 28) hx hb dX13_isAhead_8 (by decide) (fun c1 => ?_) (fun c1 => ?_)
  · rw [if_pos c1] at hR
    refine lv_aload_n hx hb dX13_isAhead_28 rfl (lv_at hl 0 rfl) ?_
    refine gf (v := .int (kf)) (C := RX13) (T := TX13) (N := 3) (k := 0) hx hb hts hown hG cl_X13 in_X13 hQ.1 (by decide) q694 rfl dX13_isAhead_29 ?_
    refine lv_aload_n hx hb dX13_isAhead_32 rfl (lv_at hl 1 rfl) ?_
    refine gf (v := .int (jf)) (C := RX13) (T := TX13) (N := 3) (k := 0) hx hb hts hown hG cl_X13 in_X13 hQ.2 (by decide) q694 rfl dX13_isAhead_33 ?_
    refine lv_icmp_eq (tgt := 56) hx hb dX13_isAhead_36 (by decide) (fun c2 => ?_) (fun c2 => ?_)
    · rw [if_pos c2] at hR
      refine lv_aload_n hx hb dX13_isAhead_56 rfl (lv_at hl 0 rfl) ?_
      refine gf (v := .ref (E 7)) (C := RX13) (T := TX13) (N := 3) (k := 1) hx hb hts hown hG cl_X13 in_X13 hQ.1 (by decide) q696 rfl dX13_isAhead_57 ?_
      refine pcV (As := []) (rest := []) hS0 (met_isPresentE l D E) q685 q673 q674 q134 q675 hd_J20_isPresent ⟨by show _ ≤ fr0 + 1; omega, by show _ ≤ lo0 + 20; omega⟩ hG (OP.recv hG (OP.nil (D := D) (lo := 0) (mi := fun _ => 0) (Nat.zero_le _))) trivial rfl hl.1 rfl (Nat.le_of_ble_eq_true rfl) dX13_isAhead_60 ⟨Nat.le_refl _, Nat.le_refl _⟩ ?_
      refine W.eq (g2 := F0 m 63 ls [.int 0]) rfl ?_
      refine lv_if_eq (tgt := 76) hx hb dX13_isAhead_63 (by decide) (fun _ => ?_) (fun c9 => absurd (by decide) c9)
      refine lv_aload_n hx hb dX13_isAhead_76 rfl (lv_at hl 0 rfl) ?_
      refine gf (v := .ref (E 7)) (C := RX13) (T := TX13) (N := 3) (k := 1) hx hb hts hown hG cl_X13 in_X13 hQ.1 (by decide) q696 rfl dX13_isAhead_77 ?_
      refine pcV (As := []) (rest := []) hS0 (met_isPresentE l D E) q685 q673 q674 q134 q675 hd_J20_isPresent ⟨by show _ ≤ fr0 + 1; omega, by show _ ≤ lo0 + 20; omega⟩ hG (OP.recv hG (OP.nil (D := D) (lo := 0) (mi := fun _ => 0) (Nat.zero_le _))) trivial rfl hl.1 rfl (Nat.le_of_ble_eq_true rfl) dX13_isAhead_80 ⟨Nat.le_refl _, Nat.le_refl _⟩ ?_
      refine W.eq (g2 := F0 m 83 ls [.int 0]) rfl ?_
      refine lv_if_ne (tgt := 100) hx hb dX13_isAhead_83 (by decide) (fun c9 => absurd (by decide) c9) (fun _ => ?_)
      refine lv_aload_n hx hb dX13_isAhead_86 rfl (lv_at hl 1 rfl) ?_
      refine gf (v := .ref (E 7)) (C := RX13) (T := TX13) (N := 3) (k := 1) hx hb hts hown hG cl_X13 in_X13 hQ.2 (by decide) q696 rfl dX13_isAhead_87 ?_
      refine pcV (As := []) (rest := []) hS0 (met_isPresentE l D E) q685 q673 q674 q134 q675 hd_J20_isPresent ⟨by show _ ≤ fr0 + 1; omega, by show _ ≤ lo0 + 20; omega⟩ hG (OP.recv hG (OP.nil (D := D) (lo := 0) (mi := fun _ => 0) (Nat.zero_le _))) trivial rfl hl.1 rfl (Nat.le_of_ble_eq_true rfl) dX13_isAhead_90 ⟨Nat.le_refl _, Nat.le_refl _⟩ ?_
      refine W.eq (g2 := F0 m 93 ls [.int 0]) rfl ?_
      refine lv_if_eq (tgt := 100) hx hb dX13_isAhead_93 (by decide) (fun _ => ?_) (fun c9 => absurd (by decide) c9)
      refine lv_iconst (v := 0) hx hb dX13_isAhead_100 (by decide) ?_
      exact p_zret (b := false) hx hb hr hlocks dX13_isAhead_101 rfl (by rw [← hR])
    · rw [if_neg c2] at hR
      refine lv_aload_n hx hb dX13_isAhead_39 rfl (lv_at hl 0 rfl) ?_
      refine gf (v := .int (kf)) (C := RX13) (T := TX13) (N := 3) (k := 0) hx hb hts hown hG cl_X13 in_X13 hQ.1 (by decide) q694 rfl dX13_isAhead_40 ?_
      refine lv_aload_n hx hb dX13_isAhead_43 rfl (lv_at hl 1 rfl) ?_
      refine gf (v := .int (jf)) (C := RX13) (T := TX13) (N := 3) (k := 0) hx hb hts hown hG cl_X13 in_X13 hQ.2 (by decide) q694 rfl dX13_isAhead_44 ?_
      refine lv_icmp_ge (tgt := 54) hx hb dX13_isAhead_47 (by decide) (fun c3 => ?_) (fun c3 => ?_)
      · rw [if_pos c3] at hR
        refine lv_iconst (v := 0) hx hb dX13_isAhead_54 (by decide) ?_
        exact p_zret (b := false) hx hb hr hlocks dX13_isAhead_55 rfl (by rw [← hR])
      · rw [if_neg c3] at hR
        refine lv_iconst (v := 1) hx hb dX13_isAhead_50 (by decide) ?_
        refine lv_goto (tgt := 55) hx hb dX13_isAhead_51 (by decide) ?_
        exact p_zret (b := true) hx hb hr hlocks dX13_isAhead_55 rfl (by rw [← hR])
  · rw [if_neg c1] at hR
    refine lv_aload_n hx hb dX13_isAhead_11 rfl (lv_at hl 0 rfl) ?_
    refine gf (v := .int (mi0)) (C := RX13) (T := TX13) (N := 3) (k := 2) hx hb hts hown hG cl_X13 in_X13 hQ.1 (by decide) q698 rfl dX13_isAhead_12 ?_
    refine lv_aload_n hx hb dX13_isAhead_15 rfl (lv_at hl 1 rfl) ?_
    refine gf (v := .int (ni0)) (C := RX13) (T := TX13) (N := 3) (k := 2) hx hb hts hown hG cl_X13 in_X13 hQ.2 (by decide) q698 rfl dX13_isAhead_16 ?_
    refine lv_icmp_le (tgt := 26) hx hb dX13_isAhead_19 (by decide) (fun c4 => ?_) (fun c4 => ?_)
    · rw [if_pos c4] at hR
      refine lv_iconst (v := 0) hx hb dX13_isAhead_26 (by decide) ?_
      exact p_zret (b := false) hx hb hr hlocks dX13_isAhead_27 rfl (by rw [← hR])
    · rw [if_neg c4] at hR
      refine lv_iconst (v := 1) hx hb dX13_isAhead_22 (by decide) ?_
      refine lv_goto (tgt := 27) hx hb dX13_isAhead_23 (by decide) ?_
      exact p_zret (b := true) hx hb hr hlocks dX13_isAhead_27 rfl (by rw [← hR])

def fX13_isAheadA01 (kf : Int32) (mi0 : Int32) (jf : Int32) (ni0 : Int32) : Bool :=
  (if mi0 = ni0 then (if kf = jf then true else (if jf ≤ kf then false else true)) else (if mi0 ≤ ni0 then false else true))
set_option maxHeartbeats 4000000 in
set_option maxRecDepth 100000 in
theorem met_X13_isAheadA01 (l : Launch) (D : va_G) (E : Nat → Nat) {a0 b0 p0 b1 : Nat} {kf mi0 jf ni0 : Int32} {fr0 lo0 : Nat}   : PM l D E yX13_isAhead cX13_isAhead 2 (Option.some Jvm.ClassFile.FieldType.boolean) (fr0 + 1) (lo0 + 20) [.ref (a0), .ref (b0)] (fun h => va_at D vwCl (a0, .inr (11, [.int kf, .ref (E 7), .int mi0])) h ∧ va_at D vwCl (b0, .inr (11, [.int jf, .ref p0, .int ni0])) h ∧ va_at D vwCl (p0, .inr (16, [.ref b1])) h) (some (.int (bI (fX13_isAheadA01 kf mi0 jf ni0)))) := by
  generalize hR : fX13_isAheadA01 kf mi0 jf ni0 = r
  refine PM.start (by decide) (Nat.le_of_ble_eq_true rfl) ?_
  intro p e s m below meth c ls hx hb hr hml hown hlocks hts hG hQ hl
  have hown : s.vm.findClass RX13 = some m.cls := hown
  have hS0 : xS p m c cX13_isAhead 2 s _ RX13 := ⟨hx, hb, hml, hown, hts⟩
  have hl : lv_has ls 2 [(0, .ref (a0)), (1, .ref (b0))] := hl
  unfold fX13_isAheadA01 at hR
  refine lv_aload_n hx hb dX13_isAhead_0 rfl (lv_at hl 0 rfl) ?_
  refine gf (v := .int (mi0)) (C := RX13) (T := TX13) (N := 3) (k := 2) hx hb hts hown hG cl_X13 in_X13 hQ.1 (by decide) q698 rfl dX13_isAhead_1 ?_
  refine lv_aload_n hx hb dX13_isAhead_4 rfl (lv_at hl 1 rfl) ?_
  refine gf (v := .int (ni0)) (C := RX13) (T := TX13) (N := 3) (k := 2) hx hb hts hown hG cl_X13 in_X13 hQ.2.1 (by decide) q698 rfl dX13_isAhead_5 ?_
  refine lv_icmp_eq (tgt := 28) hx hb dX13_isAhead_8 (by decide) (fun c1 => ?_) (fun c1 => ?_)
  · rw [if_pos c1] at hR
    refine lv_aload_n hx hb dX13_isAhead_28 rfl (lv_at hl 0 rfl) ?_
    refine gf (v := .int (kf)) (C := RX13) (T := TX13) (N := 3) (k := 0) hx hb hts hown hG cl_X13 in_X13 hQ.1 (by decide) q694 rfl dX13_isAhead_29 ?_
    refine lv_aload_n hx hb dX13_isAhead_32 rfl (lv_at hl 1 rfl) ?_
    refine gf (v := .int (jf)) (C := RX13) (T := TX13) (N := 3) (k := 0) hx hb hts hown hG cl_X13 in_X13 hQ.2.1 (by decide) q694 rfl dX13_isAhead_33 ?_
    refine lv_icmp_eq (tgt := 56) hx hb dX13_isAhead_36 (by decide) (fun c2 => ?_) (fun c2 => ?_)
    · rw [if_pos c2] at hR
      refine lv_aload_n hx hb dX13_isAhead_56 rfl (lv_at hl 0 rfl) ?_
      refine gf (v := .ref (E 7)) (C := RX13) (T := TX13) (N := 3) (k := 1) hx hb hts hown hG cl_X13 in_X13 hQ.1 (by decide) q696 rfl dX13_isAhead_57 ?_
      refine pcV (As := []) (rest := []) hS0 (met_isPresentE l D E) q685 q673 q674 q134 q675 hd_J20_isPresent ⟨by show _ ≤ fr0 + 1; omega, by show _ ≤ lo0 + 20; omega⟩ hG (OP.recv hG (OP.nil (D := D) (lo := 0) (mi := fun _ => 0) (Nat.zero_le _))) trivial rfl hl.1 rfl (Nat.le_of_ble_eq_true rfl) dX13_isAhead_60 ⟨Nat.le_refl _, Nat.le_refl _⟩ ?_
      refine W.eq (g2 := F0 m 63 ls [.int 0]) rfl ?_
      refine lv_if_eq (tgt := 76) hx hb dX13_isAhead_63 (by decide) (fun _ => ?_) (fun c9 => absurd (by decide) c9)
      refine lv_aload_n hx hb dX13_isAhead_76 rfl (lv_at hl 0 rfl) ?_
      refine gf (v := .ref (E 7)) (C := RX13) (T := TX13) (N := 3) (k := 1) hx hb hts hown hG cl_X13 in_X13 hQ.1 (by decide) q696 rfl dX13_isAhead_77 ?_
      refine pcV (As := []) (rest := []) hS0 (met_isPresentE l D E) q685 q673 q674 q134 q675 hd_J20_isPresent ⟨by show _ ≤ fr0 + 1; omega, by show _ ≤ lo0 + 20; omega⟩ hG (OP.recv hG (OP.nil (D := D) (lo := 0) (mi := fun _ => 0) (Nat.zero_le _))) trivial rfl hl.1 rfl (Nat.le_of_ble_eq_true rfl) dX13_isAhead_80 ⟨Nat.le_refl _, Nat.le_refl _⟩ ?_
      refine W.eq (g2 := F0 m 83 ls [.int 0]) rfl ?_
      refine lv_if_ne (tgt := 100) hx hb dX13_isAhead_83 (by decide) (fun c9 => absurd (by decide) c9) (fun _ => ?_)
      refine lv_aload_n hx hb dX13_isAhead_86 rfl (lv_at hl 1 rfl) ?_
      refine gf (v := .ref (p0)) (C := RX13) (T := TX13) (N := 3) (k := 1) hx hb hts hown hG cl_X13 in_X13 hQ.2.1 (by decide) q696 rfl dX13_isAhead_87 ?_
      refine pcV (As := []) (rest := []) hS0 (met_isPresentS l D E) q685 q673 q674 q134 q675 hd_J20_isPresent ⟨by show _ ≤ fr0 + 1; omega, by show _ ≤ lo0 + 20; omega⟩ hG (rcv hG cl_J20 hQ.2.2) hQ.2.2 rfl hl.1 rfl (Nat.le_of_ble_eq_true rfl) dX13_isAhead_90 ⟨Nat.le_refl _, Nat.le_refl _⟩ ?_
      refine W.eq (g2 := F0 m 93 ls [.int 1]) rfl ?_
      refine lv_if_eq (tgt := 100) hx hb dX13_isAhead_93 (by decide) (fun c9 => absurd c9 (by decide)) (fun _ => ?_)
      refine lv_iconst (v := 1) hx hb dX13_isAhead_96 (by decide) ?_
      refine lv_goto (tgt := 101) hx hb dX13_isAhead_97 (by decide) ?_
      exact p_zret (b := true) hx hb hr hlocks dX13_isAhead_101 rfl (by rw [← hR])
    · rw [if_neg c2] at hR
      refine lv_aload_n hx hb dX13_isAhead_39 rfl (lv_at hl 0 rfl) ?_
      refine gf (v := .int (kf)) (C := RX13) (T := TX13) (N := 3) (k := 0) hx hb hts hown hG cl_X13 in_X13 hQ.1 (by decide) q694 rfl dX13_isAhead_40 ?_
      refine lv_aload_n hx hb dX13_isAhead_43 rfl (lv_at hl 1 rfl) ?_
      refine gf (v := .int (jf)) (C := RX13) (T := TX13) (N := 3) (k := 0) hx hb hts hown hG cl_X13 in_X13 hQ.2.1 (by decide) q694 rfl dX13_isAhead_44 ?_
      refine lv_icmp_ge (tgt := 54) hx hb dX13_isAhead_47 (by decide) (fun c3 => ?_) (fun c3 => ?_)
      · rw [if_pos c3] at hR
        refine lv_iconst (v := 0) hx hb dX13_isAhead_54 (by decide) ?_
        exact p_zret (b := false) hx hb hr hlocks dX13_isAhead_55 rfl (by rw [← hR])
      · rw [if_neg c3] at hR
        refine lv_iconst (v := 1) hx hb dX13_isAhead_50 (by decide) ?_
        refine lv_goto (tgt := 55) hx hb dX13_isAhead_51 (by decide) ?_
        exact p_zret (b := true) hx hb hr hlocks dX13_isAhead_55 rfl (by rw [← hR])
  · rw [if_neg c1] at hR
    refine lv_aload_n hx hb dX13_isAhead_11 rfl (lv_at hl 0 rfl) ?_
    refine gf (v := .int (mi0)) (C := RX13) (T := TX13) (N := 3) (k := 2) hx hb hts hown hG cl_X13 in_X13 hQ.1 (by decide) q698 rfl dX13_isAhead_12 ?_
    refine lv_aload_n hx hb dX13_isAhead_15 rfl (lv_at hl 1 rfl) ?_
    refine gf (v := .int (ni0)) (C := RX13) (T := TX13) (N := 3) (k := 2) hx hb hts hown hG cl_X13 in_X13 hQ.2.1 (by decide) q698 rfl dX13_isAhead_16 ?_
    refine lv_icmp_le (tgt := 26) hx hb dX13_isAhead_19 (by decide) (fun c4 => ?_) (fun c4 => ?_)
    · rw [if_pos c4] at hR
      refine lv_iconst (v := 0) hx hb dX13_isAhead_26 (by decide) ?_
      exact p_zret (b := false) hx hb hr hlocks dX13_isAhead_27 rfl (by rw [← hR])
    · rw [if_neg c4] at hR
      refine lv_iconst (v := 1) hx hb dX13_isAhead_22 (by decide) ?_
      refine lv_goto (tgt := 27) hx hb dX13_isAhead_23 (by decide) ?_
      exact p_zret (b := true) hx hb hr hlocks dX13_isAhead_27 rfl (by rw [← hR])

def fX13_isAheadA10 (kf : Int32) (mi0 : Int32) (jf : Int32) (ni0 : Int32) : Bool :=
  (if mi0 = ni0 then (if kf = jf then false else (if jf ≤ kf then false else true)) else (if mi0 ≤ ni0 then false else true))
set_option maxHeartbeats 4000000 in
set_option maxRecDepth 100000 in
theorem met_X13_isAheadA10 (l : Launch) (D : va_G) (E : Nat → Nat) {a0 b0 o0 a1 : Nat} {kf mi0 jf ni0 : Int32} {fr0 lo0 : Nat}   : PM l D E yX13_isAhead cX13_isAhead 2 (Option.some Jvm.ClassFile.FieldType.boolean) (fr0 + 1) (lo0 + 20) [.ref (a0), .ref (b0)] (fun h => va_at D vwCl (a0, .inr (11, [.int kf, .ref o0, .int mi0])) h ∧ va_at D vwCl (b0, .inr (11, [.int jf, .ref (E 7), .int ni0])) h ∧ va_at D vwCl (o0, .inr (16, [.ref a1])) h) (some (.int (bI (fX13_isAheadA10 kf mi0 jf ni0)))) := by
  generalize hR : fX13_isAheadA10 kf mi0 jf ni0 = r
  refine PM.start (by decide) (Nat.le_of_ble_eq_true rfl) ?_
  intro p e s m below meth c ls hx hb hr hml hown hlocks hts hG hQ hl
  have hown : s.vm.findClass RX13 = some m.cls := hown
  have hS0 : xS p m c cX13_isAhead 2 s _ RX13 := ⟨hx, hb, hml, hown, hts⟩
  have hl : lv_has ls 2 [(0, .ref (a0)), (1, .ref (b0))] := hl
  unfold fX13_isAheadA10 at hR
  refine lv_aload_n hx hb dX13_isAhead_0 rfl (lv_at hl 0 rfl) ?_
  refine gf (v := .int (mi0)) (C := RX13) (T := TX13) (N := 3) (k := 2) hx hb hts hown hG cl_X13 in_X13 hQ.1 (by decide) q698 rfl dX13_isAhead_1 ?_
  refine lv_aload_n hx hb dX13_isAhead_4 rfl (lv_at hl 1 rfl) ?_
  refine gf (v := .int (ni0)) (C := RX13) (T := TX13) (N := 3) (k := 2) hx hb hts hown hG cl_X13 in_X13 hQ.2.1 (by decide) q698 rfl dX13_isAhead_5 ?_
  refine lv_icmp_eq (tgt := 28) hx hb dX13_isAhead_8 (by decide) (fun c1 => ?_) (fun c1 => ?_)
  · rw [if_pos c1] at hR
    refine lv_aload_n hx hb dX13_isAhead_28 rfl (lv_at hl 0 rfl) ?_
    refine gf (v := .int (kf)) (C := RX13) (T := TX13) (N := 3) (k := 0) hx hb hts hown hG cl_X13 in_X13 hQ.1 (by decide) q694 rfl dX13_isAhead_29 ?_
    refine lv_aload_n hx hb dX13_isAhead_32 rfl (lv_at hl 1 rfl) ?_
    refine gf (v := .int (jf)) (C := RX13) (T := TX13) (N := 3) (k := 0) hx hb hts hown hG cl_X13 in_X13 hQ.2.1 (by decide) q694 rfl dX13_isAhead_33 ?_
    refine lv_icmp_eq (tgt := 56) hx hb dX13_isAhead_36 (by decide) (fun c2 => ?_) (fun c2 => ?_)
    · rw [if_pos c2] at hR
      refine lv_aload_n hx hb dX13_isAhead_56 rfl (lv_at hl 0 rfl) ?_
      refine gf (v := .ref (o0)) (C := RX13) (T := TX13) (N := 3) (k := 1) hx hb hts hown hG cl_X13 in_X13 hQ.1 (by decide) q696 rfl dX13_isAhead_57 ?_
      refine pcV (As := []) (rest := []) hS0 (met_isPresentS l D E) q685 q673 q674 q134 q675 hd_J20_isPresent ⟨by show _ ≤ fr0 + 1; omega, by show _ ≤ lo0 + 20; omega⟩ hG (rcv hG cl_J20 hQ.2.2) hQ.2.2 rfl hl.1 rfl (Nat.le_of_ble_eq_true rfl) dX13_isAhead_60 ⟨Nat.le_refl _, Nat.le_refl _⟩ ?_
      refine W.eq (g2 := F0 m 63 ls [.int 1]) rfl ?_
      refine lv_if_eq (tgt := 76) hx hb dX13_isAhead_63 (by decide) (fun c9 => absurd c9 (by decide)) (fun _ => ?_)
      refine lv_aload_n hx hb dX13_isAhead_66 rfl (lv_at hl 1 rfl) ?_
      refine gf (v := .ref (E 7)) (C := RX13) (T := TX13) (N := 3) (k := 1) hx hb hts hown hG cl_X13 in_X13 hQ.2.1 (by decide) q696 rfl dX13_isAhead_67 ?_
      refine pcV (As := []) (rest := []) hS0 (met_isPresentE l D E) q685 q673 q674 q134 q675 hd_J20_isPresent ⟨by show _ ≤ fr0 + 1; omega, by show _ ≤ lo0 + 20; omega⟩ hG (OP.recv hG (OP.nil (D := D) (lo := 0) (mi := fun _ => 0) (Nat.zero_le _))) trivial rfl hl.1 rfl (Nat.le_of_ble_eq_true rfl) dX13_isAhead_70 ⟨Nat.le_refl _, Nat.le_refl _⟩ ?_
      refine W.eq (g2 := F0 m 73 ls [.int 0]) rfl ?_
      refine lv_if_ne (tgt := 102) hx hb dX13_isAhead_73 (by decide) (fun c9 => absurd (by decide) c9) (fun _ => ?_)
      refine lv_aload_n hx hb dX13_isAhead_76 rfl (lv_at hl 0 rfl) ?_
      refine gf (v := .ref (o0)) (C := RX13) (T := TX13) (N := 3) (k := 1) hx hb hts hown hG cl_X13 in_X13 hQ.1 (by decide) q696 rfl dX13_isAhead_77 ?_
      refine pcV (As := []) (rest := []) hS0 (met_isPresentS l D E) q685 q673 q674 q134 q675 hd_J20_isPresent ⟨by show _ ≤ fr0 + 1; omega, by show _ ≤ lo0 + 20; omega⟩ hG (rcv hG cl_J20 hQ.2.2) hQ.2.2 rfl hl.1 rfl (Nat.le_of_ble_eq_true rfl) dX13_isAhead_80 ⟨Nat.le_refl _, Nat.le_refl _⟩ ?_
      refine W.eq (g2 := F0 m 83 ls [.int 1]) rfl ?_
      refine lv_if_ne (tgt := 100) hx hb dX13_isAhead_83 (by decide) (fun _ => ?_) (fun c9 => absurd c9 (by decide))
      refine lv_iconst (v := 0) hx hb dX13_isAhead_100 (by decide) ?_
      exact p_zret (b := false) hx hb hr hlocks dX13_isAhead_101 rfl (by rw [← hR])
    · rw [if_neg c2] at hR
      refine lv_aload_n hx hb dX13_isAhead_39 rfl (lv_at hl 0 rfl) ?_
      refine gf (v := .int (kf)) (C := RX13) (T := TX13) (N := 3) (k := 0) hx hb hts hown hG cl_X13 in_X13 hQ.1 (by decide) q694 rfl dX13_isAhead_40 ?_
      refine lv_aload_n hx hb dX13_isAhead_43 rfl (lv_at hl 1 rfl) ?_
      refine gf (v := .int (jf)) (C := RX13) (T := TX13) (N := 3) (k := 0) hx hb hts hown hG cl_X13 in_X13 hQ.2.1 (by decide) q694 rfl dX13_isAhead_44 ?_
      refine lv_icmp_ge (tgt := 54) hx hb dX13_isAhead_47 (by decide) (fun c3 => ?_) (fun c3 => ?_)
      · rw [if_pos c3] at hR
        refine lv_iconst (v := 0) hx hb dX13_isAhead_54 (by decide) ?_
        exact p_zret (b := false) hx hb hr hlocks dX13_isAhead_55 rfl (by rw [← hR])
      · rw [if_neg c3] at hR
        refine lv_iconst (v := 1) hx hb dX13_isAhead_50 (by decide) ?_
        refine lv_goto (tgt := 55) hx hb dX13_isAhead_51 (by decide) ?_
        exact p_zret (b := true) hx hb hr hlocks dX13_isAhead_55 rfl (by rw [← hR])
  · rw [if_neg c1] at hR
    refine lv_aload_n hx hb dX13_isAhead_11 rfl (lv_at hl 0 rfl) ?_
    refine gf (v := .int (mi0)) (C := RX13) (T := TX13) (N := 3) (k := 2) hx hb hts hown hG cl_X13 in_X13 hQ.1 (by decide) q698 rfl dX13_isAhead_12 ?_
    refine lv_aload_n hx hb dX13_isAhead_15 rfl (lv_at hl 1 rfl) ?_
    refine gf (v := .int (ni0)) (C := RX13) (T := TX13) (N := 3) (k := 2) hx hb hts hown hG cl_X13 in_X13 hQ.2.1 (by decide) q698 rfl dX13_isAhead_16 ?_
    refine lv_icmp_le (tgt := 26) hx hb dX13_isAhead_19 (by decide) (fun c4 => ?_) (fun c4 => ?_)
    · rw [if_pos c4] at hR
      refine lv_iconst (v := 0) hx hb dX13_isAhead_26 (by decide) ?_
      exact p_zret (b := false) hx hb hr hlocks dX13_isAhead_27 rfl (by rw [← hR])
    · rw [if_neg c4] at hR
      refine lv_iconst (v := 1) hx hb dX13_isAhead_22 (by decide) ?_
      refine lv_goto (tgt := 27) hx hb dX13_isAhead_23 (by decide) ?_
      exact p_zret (b := true) hx hb hr hlocks dX13_isAhead_27 rfl (by rw [← hR])

def fX13_isAheadA11 (kf : Int32) (mi0 : Int32) (jf : Int32) (ni0 : Int32) (r1 : Bool) : Bool :=
  (if mi0 = ni0 then (if kf = jf then r1 else (if jf ≤ kf then false else true)) else (if mi0 ≤ ni0 then false else true))
set_option maxHeartbeats 4000000 in
set_option maxRecDepth 100000 in
theorem met_X13_isAheadA11 (l : Launch) (D : va_G) (E : Nat → Nat) {a0 b0 o0 p0 a1 b1 : Nat} {kf mi0 jf ni0 : Int32} {fs1 fs2 : List Value} {Ph9 : Heap → Prop} {fr0 lo0 : Nat} (r1 : Bool) (hrec : PM l D E yX13_isAhead cX13_isAhead 2 (Option.some Jvm.ClassFile.FieldType.boolean) fr0 lo0 [.ref a1, .ref b1] Ph9 (some (.int (bI r1)))) : PM l D E yX13_isAhead cX13_isAhead 2 (Option.some Jvm.ClassFile.FieldType.boolean) (fr0 + 1) (lo0 + 21) [.ref (a0), .ref (b0)] (fun h => va_at D vwCl (a0, .inr (11, [.int kf, .ref o0, .int mi0])) h ∧ va_at D vwCl (b0, .inr (11, [.int jf, .ref p0, .int ni0])) h ∧ va_at D vwCl (o0, .inr (16, [.ref a1])) h ∧ va_at D vwCl (p0, .inr (16, [.ref b1])) h ∧ va_at D vwCl (a1, .inr (11, fs1)) h ∧ va_at D vwCl (b1, .inr (11, fs2)) h ∧ Ph9 h) (some (.int (bI (fX13_isAheadA11 kf mi0 jf ni0 r1)))) := by
  generalize hR : fX13_isAheadA11 kf mi0 jf ni0 r1 = r
  refine PM.start (by decide) (Nat.le_of_ble_eq_true rfl) ?_
  intro p e s m below meth c ls hx hb hr hml hown hlocks hts hG hQ hl
  have hown : s.vm.findClass RX13 = some m.cls := hown
  have hS0 : xS p m c cX13_isAhead 2 s _ RX13 := ⟨hx, hb, hml, hown, hts⟩
  have hl : lv_has ls 2 [(0, .ref (a0)), (1, .ref (b0))] := hl
  unfold fX13_isAheadA11 at hR
  refine lv_aload_n hx hb dX13_isAhead_0 rfl (lv_at hl 0 rfl) ?_
  refine gf (v := .int (mi0)) (C := RX13) (T := TX13) (N := 3) (k := 2) hx hb hts hown hG cl_X13 in_X13 hQ.1 (by decide) q698 rfl dX13_isAhead_1 ?_
  refine lv_aload_n hx hb dX13_isAhead_4 rfl (lv_at hl 1 rfl) ?_
  refine gf (v := .int (ni0)) (C := RX13) (T := TX13) (N := 3) (k := 2) hx hb hts hown hG cl_X13 in_X13 hQ.2.1 (by decide) q698 rfl dX13_isAhead_5 ?_
  refine lv_icmp_eq (tgt := 28) hx hb dX13_isAhead_8 (by decide) (fun c1 => ?_) (fun c1 => ?_)
  · rw [if_pos c1] at hR
    refine lv_aload_n hx hb dX13_isAhead_28 rfl (lv_at hl 0 rfl) ?_
    refine gf (v := .int (kf)) (C := RX13) (T := TX13) (N := 3) (k := 0) hx hb hts hown hG cl_X13 in_X13 hQ.1 (by decide) q694 rfl dX13_isAhead_29 ?_
    refine lv_aload_n hx hb dX13_isAhead_32 rfl (lv_at hl 1 rfl) ?_
    refine gf (v := .int (jf)) (C := RX13) (T := TX13) (N := 3) (k := 0) hx hb hts hown hG cl_X13 in_X13 hQ.2.1 (by decide) q694 rfl dX13_isAhead_33 ?_
    refine lv_icmp_eq (tgt := 56) hx hb dX13_isAhead_36 (by decide) (fun c2 => ?_) (fun c2 => ?_)
    · rw [if_pos c2] at hR
      refine lv_aload_n hx hb dX13_isAhead_56 rfl (lv_at hl 0 rfl) ?_
      refine gf (v := .ref (o0)) (C := RX13) (T := TX13) (N := 3) (k := 1) hx hb hts hown hG cl_X13 in_X13 hQ.1 (by decide) q696 rfl dX13_isAhead_57 ?_
      refine pcV (As := []) (rest := []) hS0 (met_isPresentS l D E) q685 q673 q674 q134 q675 hd_J20_isPresent ⟨by show _ ≤ fr0 + 1; omega, by show _ ≤ lo0 + 21; omega⟩ hG (rcv hG cl_J20 hQ.2.2.1) hQ.2.2.1 rfl hl.1 rfl (Nat.le_of_ble_eq_true rfl) dX13_isAhead_60 ⟨Nat.le_refl _, Nat.le_refl _⟩ ?_
      refine W.eq (g2 := F0 m 63 ls [.int 1]) rfl ?_
      refine lv_if_eq (tgt := 76) hx hb dX13_isAhead_63 (by decide) (fun c9 => absurd c9 (by decide)) (fun _ => ?_)
      refine lv_aload_n hx hb dX13_isAhead_66 rfl (lv_at hl 1 rfl) ?_
      refine gf (v := .ref (p0)) (C := RX13) (T := TX13) (N := 3) (k := 1) hx hb hts hown hG cl_X13 in_X13 hQ.2.1 (by decide) q696 rfl dX13_isAhead_67 ?_
      refine pcV (As := []) (rest := []) hS0 (met_isPresentS l D E) q685 q673 q674 q134 q675 hd_J20_isPresent ⟨by show _ ≤ fr0 + 1; omega, by show _ ≤ lo0 + 21; omega⟩ hG (rcv hG cl_J20 hQ.2.2.2.1) hQ.2.2.2.1 rfl hl.1 rfl (Nat.le_of_ble_eq_true rfl) dX13_isAhead_70 ⟨Nat.le_refl _, Nat.le_refl _⟩ ?_
      refine W.eq (g2 := F0 m 73 ls [.int 1]) rfl ?_
      refine lv_if_ne (tgt := 102) hx hb dX13_isAhead_73 (by decide) (fun _ => ?_) (fun c9 => absurd c9 (by decide))
      refine lv_aload_n hx hb dX13_isAhead_102 rfl (lv_at hl 0 rfl) ?_
      refine gf (v := .ref (o0)) (C := RX13) (T := TX13) (N := 3) (k := 1) hx hb hts hown hG cl_X13 in_X13 hQ.1 (by decide) q696 rfl dX13_isAhead_103 ?_
      refine pcV (As := []) (rest := []) hS0 (met_J20_get l D E) q686 q677 q678 q134 q679 hd_J20_get ⟨by show _ ≤ fr0 + 1; omega, by show _ ≤ lo0 + 21; omega⟩ hG (rcv hG cl_J20 hQ.2.2.1) hQ.2.2.1 rfl hl.1 rfl (Nat.le_of_ble_eq_true rfl) dX13_isAhead_106 ⟨Nat.le_refl _, Nat.le_refl _⟩ ?_
      refine W.eq (g2 := F0 m 109 ls [.ref (a1)]) rfl ?_
      refine gc (ci := 11) hx hb hown hG cl_X13 (rcv hG cl_X13 hQ.2.2.2.2.1) (hts _ q687) dX13_isAhead_109 ?_
      refine lv_aload_n hx hb dX13_isAhead_112 rfl (lv_at hl 1 rfl) ?_
      refine gf (v := .ref (p0)) (C := RX13) (T := TX13) (N := 3) (k := 1) hx hb hts hown hG cl_X13 in_X13 hQ.2.1 (by decide) q696 rfl dX13_isAhead_113 ?_
      refine pcV (As := []) (rest := [.ref (a1)]) hS0 (met_J20_get l D E) q686 q677 q678 q134 q679 hd_J20_get ⟨by show _ ≤ fr0 + 1; omega, by show _ ≤ lo0 + 21; omega⟩ hG (rcv hG cl_J20 hQ.2.2.2.1) hQ.2.2.2.1 rfl hl.1 rfl (Nat.le_of_ble_eq_true rfl) dX13_isAhead_116 ⟨Nat.le_refl _, Nat.le_refl _⟩ ?_
      refine W.eq (g2 := F0 m 119 ls [.ref (b1), .ref (a1)]) rfl ?_
      refine gc (ci := 11) hx hb hown hG cl_X13 (rcv hG cl_X13 hQ.2.2.2.2.2.1) (hts _ q687) dX13_isAhead_119 ?_
      refine pcV (As := [.ref (b1)]) (rest := []) hS0 hrec q688 q682 q683 q135 q684 hd_X13_isAhead ⟨by show _ ≤ fr0 + 1; omega, by show _ ≤ lo0 + 21; omega⟩ hG (rcv hG cl_X13 hQ.2.2.2.2.1) hQ.2.2.2.2.2.2 rfl hl.1 rfl (Nat.le_of_ble_eq_true rfl) dX13_isAhead_122 ⟨Nat.le_refl _, Nat.le_refl _⟩ ?_
      refine W.eq (g2 := F0 m 125 ls [.int (bI r1)]) rfl ?_
      exact p_zret (b := r1) hx hb hr hlocks dX13_isAhead_125 rfl (by rw [← hR])
    · rw [if_neg c2] at hR
      refine lv_aload_n hx hb dX13_isAhead_39 rfl (lv_at hl 0 rfl) ?_
      refine gf (v := .int (kf)) (C := RX13) (T := TX13) (N := 3) (k := 0) hx hb hts hown hG cl_X13 in_X13 hQ.1 (by decide) q694 rfl dX13_isAhead_40 ?_
      refine lv_aload_n hx hb dX13_isAhead_43 rfl (lv_at hl 1 rfl) ?_
      refine gf (v := .int (jf)) (C := RX13) (T := TX13) (N := 3) (k := 0) hx hb hts hown hG cl_X13 in_X13 hQ.2.1 (by decide) q694 rfl dX13_isAhead_44 ?_
      refine lv_icmp_ge (tgt := 54) hx hb dX13_isAhead_47 (by decide) (fun c3 => ?_) (fun c3 => ?_)
      · rw [if_pos c3] at hR
        refine lv_iconst (v := 0) hx hb dX13_isAhead_54 (by decide) ?_
        exact p_zret (b := false) hx hb hr hlocks dX13_isAhead_55 rfl (by rw [← hR])
      · rw [if_neg c3] at hR
        refine lv_iconst (v := 1) hx hb dX13_isAhead_50 (by decide) ?_
        refine lv_goto (tgt := 55) hx hb dX13_isAhead_51 (by decide) ?_
        exact p_zret (b := true) hx hb hr hlocks dX13_isAhead_55 rfl (by rw [← hR])
  · rw [if_neg c1] at hR
    refine lv_aload_n hx hb dX13_isAhead_11 rfl (lv_at hl 0 rfl) ?_
    refine gf (v := .int (mi0)) (C := RX13) (T := TX13) (N := 3) (k := 2) hx hb hts hown hG cl_X13 in_X13 hQ.1 (by decide) q698 rfl dX13_isAhead_12 ?_
    refine lv_aload_n hx hb dX13_isAhead_15 rfl (lv_at hl 1 rfl) ?_
    refine gf (v := .int (ni0)) (C := RX13) (T := TX13) (N := 3) (k := 2) hx hb hts hown hG cl_X13 in_X13 hQ.2.1 (by decide) q698 rfl dX13_isAhead_16 ?_
    refine lv_icmp_le (tgt := 26) hx hb dX13_isAhead_19 (by decide) (fun c4 => ?_) (fun c4 => ?_)
    · rw [if_pos c4] at hR
      refine lv_iconst (v := 0) hx hb dX13_isAhead_26 (by decide) ?_
      exact p_zret (b := false) hx hb hr hlocks dX13_isAhead_27 rfl (by rw [← hR])
    · rw [if_neg c4] at hR
      refine lv_iconst (v := 1) hx hb dX13_isAhead_22 (by decide) ?_
      refine lv_goto (tgt := 27) hx hb dX13_isAhead_23 (by decide) ?_
      exact p_zret (b := true) hx hb hr hlocks dX13_isAhead_27 rfl (by rw [← hR])

theorem met_aheadR (l : Launch) (D : va_G) (E : Nat → Nat) {lo hi lo2 hi2 : Nat} {mi : Nat → Int32} : ∀ (d : Nat) (t u : List Nat) (k j a b oa ob : Nat), t.length ≤ d → PM l D E yX13_isAhead cX13_isAhead 2 (Option.some Jvm.ClassFile.FieldType.boolean) (d * 1 + 1) (d * 21 + 20) [.ref a, .ref b] (fun h => (va_at D vwCl (a, .inr (11, [.int (nI k), .ref oa, .int (rowMin mi (k :: t))])) h ∧ OP D E lo hi mi t oa h) ∧ (va_at D vwCl (b, .inr (11, [.int (nI j), .ref ob, .int (rowMin mi (j :: u))])) h ∧ OP D E lo2 hi2 mi u ob h)) (some (.int (bI (aheadL mi (k :: t) (j :: u))))) := by
  intro d
  induction d with
  | zero =>
    intro t u k j a b oa ob hd
    have e : t = [] := List.length_eq_zero_iff.mp (by omega)
    subst e
    cases u with
    | nil =>
      have e9 : fX13_isAheadA00 (nI k) (rowMin mi [k]) (nI j) (rowMin mi [j]) = aheadL mi [k] [j] := rfl
      rw [← e9]
      exact PM.ex (ι := Unit) (fun _ => met_X13_isAheadA00 l D E (fr0 := 0 * 1) (lo0 := 0 * 21)) (fun H h => ⟨(), by have h2 := h.1.1; rw [show oa = E 7 from h.1.2.1] at h2; exact h2, by have h2 := h.2.1; rw [show ob = E 7 from h.2.2.1] at h2; exact h2⟩)
    | cons j2 u2 =>
      have e9 : fX13_isAheadA01 (nI k) (rowMin mi [k]) (nI j) (rowMin mi (j :: j2 :: u2)) = aheadL mi [k] (j :: j2 :: u2) := rfl
      rw [← e9]
      refine PM.ex (ι := Nat) (P2 := fun x h => va_at D vwCl (a, .inr (11, [.int (nI k), .ref (E 7), .int (rowMin mi [k])])) h ∧ va_at D vwCl (b, .inr (11, [.int (nI j), .ref ob, .int (rowMin mi (j :: j2 :: u2))])) h ∧ va_at D vwCl (ob, .inr (16, [.ref x])) h) (fun x => met_X13_isAheadA01 l D E (fr0 := 0 * 1) (lo0 := 0 * 21)) (fun H h => ?_)
      obtain ⟨⟨h1, h2⟩, h3, ⟨b1, o2, g1, g2, g3, g4, g5⟩, h4⟩ := h
      exact ⟨b1, by rw [show oa = E 7 from h2.1] at h1; exact h1, h3, g3⟩
  | succ d ih =>
    intro t u k j a b oa ob hd
    cases t with
    | nil =>
      cases u with
      | nil =>
        have e9 : fX13_isAheadA00 (nI k) (rowMin mi [k]) (nI j) (rowMin mi [j]) = aheadL mi [k] [j] := rfl
        rw [← e9]
        exact PM.ex (ι := Unit) (fun _ => met_X13_isAheadA00 l D E (fr0 := (d + 1) * 1) (lo0 := (d + 1) * 21)) (fun H h => ⟨(), by have h2 := h.1.1; rw [show oa = E 7 from h.1.2.1] at h2; exact h2, by have h2 := h.2.1; rw [show ob = E 7 from h.2.2.1] at h2; exact h2⟩)
      | cons j2 u2 =>
        have e9 : fX13_isAheadA01 (nI k) (rowMin mi [k]) (nI j) (rowMin mi (j :: j2 :: u2)) = aheadL mi [k] (j :: j2 :: u2) := rfl
        rw [← e9]
        refine PM.ex (ι := Nat) (P2 := fun x h => va_at D vwCl (a, .inr (11, [.int (nI k), .ref (E 7), .int (rowMin mi [k])])) h ∧ va_at D vwCl (b, .inr (11, [.int (nI j), .ref ob, .int (rowMin mi (j :: j2 :: u2))])) h ∧ va_at D vwCl (ob, .inr (16, [.ref x])) h) (fun x => met_X13_isAheadA01 l D E (fr0 := (d + 1) * 1) (lo0 := (d + 1) * 21)) (fun H h => ?_)
        obtain ⟨⟨h1, h2⟩, h3, ⟨b1, o2, g1, g2, g3, g4, g5⟩, h4⟩ := h
        exact ⟨b1, by rw [show oa = E 7 from h2.1] at h1; exact h1, h3, g3⟩
    | cons k2 t2 =>
      have hd : t2.length + 1 ≤ d + 1 := hd
      cases u with
      | nil =>
        have e9 : fX13_isAheadA10 (nI k) (rowMin mi (k :: k2 :: t2)) (nI j) (rowMin mi [j]) = aheadL mi (k :: k2 :: t2) [j] := rfl
        rw [← e9]
        refine PM.ex (ι := Nat) (P2 := fun x h => va_at D vwCl (a, .inr (11, [.int (nI k), .ref oa, .int (rowMin mi (k :: k2 :: t2))])) h ∧ va_at D vwCl (b, .inr (11, [.int (nI j), .ref (E 7), .int (rowMin mi [j])])) h ∧ va_at D vwCl (oa, .inr (16, [.ref x])) h) (fun x => met_X13_isAheadA10 l D E (fr0 := (d + 1) * 1) (lo0 := (d + 1) * 21)) (fun H h => ?_)
        obtain ⟨⟨h1, ⟨b1, o2, g1, g2, g3, g4, g5⟩, h4⟩, h3, h2⟩ := h
        exact ⟨b1, h1, by rw [show ob = E 7 from h2.1] at h3; exact h3, g3⟩
      | cons j2 u2 =>
        have e9 : fX13_isAheadA11 (nI k) (rowMin mi (k :: k2 :: t2)) (nI j) (rowMin mi (j :: j2 :: u2)) (aheadL mi (k2 :: t2) (j2 :: u2)) = aheadL mi (k :: k2 :: t2) (j :: j2 :: u2) := rfl
        have e1 : (d + 1) * 1 + 1 = (d * 1 + 1) + 1 := by omega
        have e2 : (d + 1) * 21 + 20 = (d * 21 + 20) + 21 := by omega
        rw [← e9, e1, e2]
        refine PM.ex (ι := Nat × Nat × Nat × Nat) (P2 := fun x h => va_at D vwCl (a, .inr (11, [.int (nI k), .ref oa, .int (rowMin mi (k :: k2 :: t2))])) h ∧ va_at D vwCl (b, .inr (11, [.int (nI j), .ref ob, .int (rowMin mi (j :: j2 :: u2))])) h ∧ va_at D vwCl (oa, .inr (16, [.ref x.1])) h ∧ va_at D vwCl (ob, .inr (16, [.ref x.2.1])) h ∧ va_at D vwCl (x.1, .inr (11, [.int (nI k2), .ref x.2.2.1, .int (rowMin mi (k2 :: t2))])) h ∧ va_at D vwCl (x.2.1, .inr (11, [.int (nI j2), .ref x.2.2.2, .int (rowMin mi (j2 :: u2))])) h ∧ ((va_at D vwCl (x.1, .inr (11, [.int (nI k2), .ref x.2.2.1, .int (rowMin mi (k2 :: t2))])) h ∧ OP D E lo hi mi t2 x.2.2.1 h) ∧ (va_at D vwCl (x.2.1, .inr (11, [.int (nI j2), .ref x.2.2.2, .int (rowMin mi (j2 :: u2))])) h ∧ OP D E lo2 hi2 mi u2 x.2.2.2 h))) (fun x => met_X13_isAheadA11 l D E (fr0 := d * 1 + 1) (lo0 := d * 21 + 20) (aheadL mi (k2 :: t2) (j2 :: u2)) (ih t2 u2 k2 j2 x.1 x.2.1 x.2.2.1 x.2.2.2 (by omega))) (fun H h => ?_)
        obtain ⟨⟨h1, ⟨c1, o2, g1, g2, g3, g4, g5⟩, h4⟩, h3, ⟨c2, o3, i1, i2, i3, i4, i5⟩, h6⟩ := h
        exact ⟨(c1, c2, o2, o3), h1, h3, g3, i3, g4, i4, ⟨g4, g5, h4⟩, i4, i5, h6⟩

def fX1_betterB2 (o0 : Nat) (p0 : Nat) (r1 : Bool) : Nat :=
  (if r1 = true then p0 else o0)
set_option maxHeartbeats 4000000 in
set_option maxRecDepth 100000 in
theorem met_X1_betterB2 (l : Launch) (D : va_G) (E : Nat → Nat) {o0 p0 a1 b1 : Nat} {fs1 fs2 : List Value} {Ph9 : Heap → Prop} (r1 : Bool) (hrec : PM l D E yX13_isAhead cX13_isAhead 2 (Option.some Jvm.ClassFile.FieldType.boolean) 17 356 [.ref b1, .ref a1] Ph9 (some (.int (bI r1)))) : PM l D E yX1_better cX1_better 2 (Option.some (Jvm.ClassFile.FieldType.object "java/util/Optional")) 18 377 [.ref (o0), .ref (p0)] (fun h => va_at D vwCl (o0, .inr (16, [.ref a1])) h ∧ va_at D vwCl (p0, .inr (16, [.ref b1])) h ∧ va_at D vwCl (a1, .inr (11, fs1)) h ∧ va_at D vwCl (b1, .inr (11, fs2)) h ∧ Ph9 h) (some (.ref ((fX1_betterB2 o0 p0 r1)))) := by
  generalize hR : fX1_betterB2 o0 p0 r1 = r
  refine PM.start (by decide) (Nat.le_of_ble_eq_true rfl) ?_
  intro p e s m below meth c ls hx hb hr hml hown hlocks hts hG hQ hl
  have hown : s.vm.findClass RX1 = some m.cls := hown
  have hS0 : xS p m c cX1_better 2 s _ RX1 := ⟨hx, hb, hml, hown, hts⟩
  have hl : lv_has ls 2 [(0, .ref (o0)), (1, .ref (p0))] := hl
  unfold fX1_betterB2 at hR
  refine lv_aload_n hx hb dX1_better_0 rfl (lv_at hl 0 rfl) ?_
  refine pcV (As := []) (rest := []) hS0 (met_isPresentS l D E) q672 q673 q674 q134 q675 hd_J20_isPresent ⟨Nat.le_of_ble_eq_true rfl, Nat.le_of_ble_eq_true rfl⟩ hG (rcv hG cl_J20 hQ.1) hQ.1 rfl hl.1 rfl (Nat.le_of_ble_eq_true rfl) dX1_better_1 ⟨Nat.le_refl _, Nat.le_refl _⟩ ?_
  refine W.eq (g2 := F0 m 4 ls [.int 1]) rfl ?_
  refine lv_if_ne (tgt := 9) hx hb dX1_better_4 (by decide) (fun _ => ?_) (fun c9 => absurd c9 (by decide))
  refine lv_aload_n hx hb dX1_better_9 rfl (lv_at hl 1 rfl) ?_
  refine pcV (As := []) (rest := []) hS0 (met_isPresentS l D E) q672 q673 q674 q134 q675 hd_J20_isPresent ⟨Nat.le_of_ble_eq_true rfl, Nat.le_of_ble_eq_true rfl⟩ hG (rcv hG cl_J20 hQ.2.1) hQ.2.1 rfl hl.1 rfl (Nat.le_of_ble_eq_true rfl) dX1_better_10 ⟨Nat.le_refl _, Nat.le_refl _⟩ ?_
  refine W.eq (g2 := F0 m 13 ls [.int 1]) rfl ?_
  refine lv_if_eq (tgt := 40) hx hb dX1_better_13 (by decide) (fun c9 => absurd c9 (by decide)) (fun _ => ?_)
  refine lv_aload_n hx hb dX1_better_16 rfl (lv_at hl 1 rfl) ?_
  refine pcV (As := []) (rest := []) hS0 (met_J20_get l D E) q676 q677 q678 q134 q679 hd_J20_get ⟨Nat.le_of_ble_eq_true rfl, Nat.le_of_ble_eq_true rfl⟩ hG (rcv hG cl_J20 hQ.2.1) hQ.2.1 rfl hl.1 rfl (Nat.le_of_ble_eq_true rfl) dX1_better_17 ⟨Nat.le_refl _, Nat.le_refl _⟩ ?_
  refine W.eq (g2 := F0 m 20 ls [.ref (b1)]) rfl ?_
  refine gc (ci := 11) hx hb hown hG cl_X13 (rcv hG cl_X13 hQ.2.2.2.1) (hts _ q680) dX1_better_20 ?_
  refine lv_aload_n hx hb dX1_better_23 rfl (lv_at hl 0 rfl) ?_
  refine pcV (As := []) (rest := [.ref (b1)]) hS0 (met_J20_get l D E) q676 q677 q678 q134 q679 hd_J20_get ⟨Nat.le_of_ble_eq_true rfl, Nat.le_of_ble_eq_true rfl⟩ hG (rcv hG cl_J20 hQ.1) hQ.1 rfl hl.1 rfl (Nat.le_of_ble_eq_true rfl) dX1_better_24 ⟨Nat.le_refl _, Nat.le_refl _⟩ ?_
  refine W.eq (g2 := F0 m 27 ls [.ref (a1), .ref (b1)]) rfl ?_
  refine gc (ci := 11) hx hb hown hG cl_X13 (rcv hG cl_X13 hQ.2.2.1) (hts _ q680) dX1_better_27 ?_
  refine pcV (As := [.ref (a1)]) (rest := []) hS0 hrec q681 q682 q683 q135 q684 hd_X13_isAhead ⟨Nat.le_of_ble_eq_true rfl, Nat.le_of_ble_eq_true rfl⟩ hG (rcv hG cl_X13 hQ.2.2.2.1) hQ.2.2.2.2 rfl hl.1 rfl (Nat.le_of_ble_eq_true rfl) dX1_better_30 ⟨Nat.le_refl _, Nat.le_refl _⟩ ?_
  refine W.eq (g2 := F0 m 33 ls [.int (bI r1)]) rfl ?_
  refine lb_if_eq (tgt := 40) hx hb dX1_better_33 (by decide) (fun c1 => ?_) (fun c1 => ?_)
  · rw [if_neg c1] at hR
    refine lv_aload_n hx hb dX1_better_40 rfl (lv_at hl 0 rfl) ?_
    exact p_aret hx hb hr (Or.inl ⟨_, rfl⟩) hlocks dX1_better_41 (by rw [← hR])
  · rw [if_pos c1] at hR
    refine lv_aload_n hx hb dX1_better_36 rfl (lv_at hl 1 rfl) ?_
    refine lv_goto (tgt := 41) hx hb dX1_better_37 (by decide) ?_
    exact p_aret hx hb hr (Or.inl ⟨_, rfl⟩) hlocks dX1_better_41 (by rw [← hR])

def fX1_betterB0 (b9 : Nat) : Nat :=
  b9
set_option maxHeartbeats 4000000 in
set_option maxRecDepth 100000 in
theorem met_X1_betterB0 (l : Launch) (D : va_G) (E : Nat → Nat) {b9 : Nat}   : PM l D E yX1_better cX1_better 2 (Option.some (Jvm.ClassFile.FieldType.object "java/util/Optional")) 18 377 [.ref (E 7), .ref (b9)] (fun _ => True) (some (.ref ((fX1_betterB0 b9)))) := by
  generalize hR : fX1_betterB0 b9 = r
  refine PM.start (by decide) (Nat.le_of_ble_eq_true rfl) ?_
  intro p e s m below meth c ls hx hb hr hml hown hlocks hts hG hTriv hl
  have hown : s.vm.findClass RX1 = some m.cls := hown
  have hS0 : xS p m c cX1_better 2 s _ RX1 := ⟨hx, hb, hml, hown, hts⟩
  have hl : lv_has ls 2 [(0, .ref (E 7)), (1, .ref (b9))] := hl
  unfold fX1_betterB0 at hR
  refine lv_aload_n hx hb dX1_better_0 rfl (lv_at hl 0 rfl) ?_
  refine pcV (As := []) (rest := []) hS0 (met_isPresentE l D E) q672 q673 q674 q134 q675 hd_J20_isPresent ⟨Nat.le_of_ble_eq_true rfl, Nat.le_of_ble_eq_true rfl⟩ hG (OP.recv hG (OP.nil (D := D) (lo := 0) (mi := fun _ => 0) (Nat.zero_le _))) trivial rfl hl.1 rfl (Nat.le_of_ble_eq_true rfl) dX1_better_1 ⟨Nat.le_refl _, Nat.le_refl _⟩ ?_
  refine W.eq (g2 := F0 m 4 ls [.int 0]) rfl ?_
  refine lv_if_ne (tgt := 9) hx hb dX1_better_4 (by decide) (fun c9 => absurd (by decide) c9) (fun _ => ?_)
  refine lv_aload_n hx hb dX1_better_7 rfl (lv_at hl 1 rfl) ?_
  exact p_aret hx hb hr (Or.inl ⟨_, rfl⟩) hlocks dX1_better_8 (by rw [← hR])

def fX1_betterB1 (o0 : Nat) : Nat :=
  o0
set_option maxHeartbeats 4000000 in
set_option maxRecDepth 100000 in
theorem met_X1_betterB1 (l : Launch) (D : va_G) (E : Nat → Nat) {o0 a1 : Nat}   : PM l D E yX1_better cX1_better 2 (Option.some (Jvm.ClassFile.FieldType.object "java/util/Optional")) 18 377 [.ref (o0), .ref (E 7)] (fun h => va_at D vwCl (o0, .inr (16, [.ref a1])) h) (some (.ref ((fX1_betterB1 o0)))) := by
  generalize hR : fX1_betterB1 o0 = r
  refine PM.start (by decide) (Nat.le_of_ble_eq_true rfl) ?_
  intro p e s m below meth c ls hx hb hr hml hown hlocks hts hG hQ hl
  have hown : s.vm.findClass RX1 = some m.cls := hown
  have hS0 : xS p m c cX1_better 2 s _ RX1 := ⟨hx, hb, hml, hown, hts⟩
  have hl : lv_has ls 2 [(0, .ref (o0)), (1, .ref (E 7))] := hl
  unfold fX1_betterB1 at hR
  refine lv_aload_n hx hb dX1_better_0 rfl (lv_at hl 0 rfl) ?_
  refine pcV (As := []) (rest := []) hS0 (met_isPresentS l D E) q672 q673 q674 q134 q675 hd_J20_isPresent ⟨Nat.le_of_ble_eq_true rfl, Nat.le_of_ble_eq_true rfl⟩ hG (rcv hG cl_J20 hQ) hQ rfl hl.1 rfl (Nat.le_of_ble_eq_true rfl) dX1_better_1 ⟨Nat.le_refl _, Nat.le_refl _⟩ ?_
  refine W.eq (g2 := F0 m 4 ls [.int 1]) rfl ?_
  refine lv_if_ne (tgt := 9) hx hb dX1_better_4 (by decide) (fun _ => ?_) (fun c9 => absurd c9 (by decide))
  refine lv_aload_n hx hb dX1_better_9 rfl (lv_at hl 1 rfl) ?_
  refine pcV (As := []) (rest := []) hS0 (met_isPresentE l D E) q672 q673 q674 q134 q675 hd_J20_isPresent ⟨Nat.le_of_ble_eq_true rfl, Nat.le_of_ble_eq_true rfl⟩ hG (OP.recv hG (OP.nil (D := D) (lo := 0) (mi := fun _ => 0) (Nat.zero_le _))) trivial rfl hl.1 rfl (Nat.le_of_ble_eq_true rfl) dX1_better_10 ⟨Nat.le_refl _, Nat.le_refl _⟩ ?_
  refine W.eq (g2 := F0 m 13 ls [.int 0]) rfl ?_
  refine lv_if_eq (tgt := 40) hx hb dX1_better_13 (by decide) (fun _ => ?_) (fun c9 => absurd (by decide) c9)
  refine lv_aload_n hx hb dX1_better_40 rfl (lv_at hl 0 rfl) ?_
  exact p_aret hx hb hr (Or.inl ⟨_, rfl⟩) hlocks dX1_better_41 (by rw [← hR])

theorem met_betterL (l : Launch) (D : va_G) (E : Nat → Nat) {lo hi lo2 hi2 : Nat} {mi : Nat → Int32} (ks js : List Nat) (o p : Nat) (hj : js.length ≤ 17) : PM l D E yX1_better cX1_better 2 (Option.some (Jvm.ClassFile.FieldType.object "java/util/Optional")) 18 377 [.ref o, .ref p] (fun h => OP D E lo hi mi ks o h ∧ OP D E lo2 hi2 mi js p h) (some (.ref (if ks.isEmpty = true then p else if js.isEmpty = true then o else if aheadL mi js ks = true then p else o))) := by
  cases ks with
  | nil => exact PM.ex (ι := { x : Unit // o = E 7 }) (P2 := fun _ _ => True) (fun x => by have h := met_X1_betterB0 l D E (b9 := p); rw [x.2]; exact h) (fun H h => ⟨⟨(), h.1.1⟩, trivial⟩)
  | cons k t =>
    cases js with
    | nil => exact PM.ex (ι := { x : Nat // p = E 7 }) (P2 := fun x h => va_at D vwCl (o, .inr (16, [.ref x.1])) h) (fun x => by obtain ⟨x, hx⟩ := x; subst hx; exact met_X1_betterB1 l D E (o0 := o) (a1 := x)) (fun H h => by
        obtain ⟨⟨⟨a, o2, g1, g2, g3, g4, g5⟩, g6⟩, h7⟩ := h
        exact ⟨⟨a, h7.1⟩, g3⟩)
    | cons j u =>
      have hj : u.length + 1 ≤ 17 := hj
      refine PM.ex (ι := Nat × Nat × Nat × Nat) (P2 := fun x h => va_at D vwCl (o, .inr (16, [.ref x.1])) h ∧ va_at D vwCl (p, .inr (16, [.ref x.2.1])) h ∧ va_at D vwCl (x.1, .inr (11, [.int (nI k), .ref x.2.2.1, .int (rowMin mi (k :: t))])) h ∧ va_at D vwCl (x.2.1, .inr (11, [.int (nI j), .ref x.2.2.2, .int (rowMin mi (j :: u))])) h ∧ ((va_at D vwCl (x.2.1, .inr (11, [.int (nI j), .ref x.2.2.2, .int (rowMin mi (j :: u))])) h ∧ OP D E lo2 hi2 mi u x.2.2.2 h) ∧ (va_at D vwCl (x.1, .inr (11, [.int (nI k), .ref x.2.2.1, .int (rowMin mi (k :: t))])) h ∧ OP D E lo hi mi t x.2.2.1 h))) (fun x => met_X1_betterB2 l D E (aheadL mi (j :: u) (k :: t)) (met_aheadR l D E 16 u t j k x.2.1 x.1 x.2.2.2 x.2.2.1 (by omega))) (fun H h => ?_)
      obtain ⟨⟨⟨c1, o2, g1, g2, g3, g4, g5⟩, h4⟩, ⟨c2, o3, i1, i2, i3, i4, i5⟩, h6⟩ := h
      exact ⟨(c1, c2, o2, o3), g3, i3, g4, i4, ⟨i4, i5, h6⟩, g4, g5, h4⟩

