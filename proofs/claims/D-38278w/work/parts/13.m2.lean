/-! the model: fillings -/
set_option maxRecDepth 100000
def fX4_canPlay0 (σ : St) (sa : Int32) (sb : Int32) (tk : Int32) : Bool :=
  true
set_option maxHeartbeats 4000000 in
set_option maxRecDepth 100000 in
theorem met_X4_canPlay0 (l : Launch) (D : va_G) (E : Nat → Nat) {β : Nat → Nat → Nat} {F : Nat → Prop} {σ : St} {th ca : Int32} {sm : Int64} (sa : Int32) (sb : Int32) (tk : Int32)  : PM l D E yX4_canPlay cX4_canPlay 9 (Option.some Jvm.ClassFile.FieldType.boolean) 0 0 [.ref (β 0 0), .int (sa), .int (sb), .int 6, .int (tk)] (RM D E β F σ th ca sm) (some (.int (bI (fX4_canPlay0 σ sa sb tk)))) := by
  generalize hR : fX4_canPlay0 σ sa sb tk = r
  refine PM.start (by decide) (Nat.le_of_ble_eq_true rfl) ?_
  intro p e s m below meth c ls hx hb hr hml hown hlocks hts hG hM hl
  have hown : s.vm.findClass RX4 = some m.cls := hown
  have hS0 : xS p m c cX4_canPlay 9 s _ RX4 := ⟨hx, hb, hml, hown, hts⟩
  have hl : lv_has ls 9 [(0, .ref (β 0 0)), (1, .int (sa)), (2, .int (sb)), (3, .int 6), (4, .int (tk))] := hl
  unfold fX4_canPlay0 at hR
  refine lv_iload_n hx hb dX4_canPlay_0 rfl (lv_at hl 3 rfl) ?_
  refine lv_bipush (v := 6) hx hb dX4_canPlay_1 (by decide) ?_
  refine lv_icmp_ne (tgt := 8) hx hb dX4_canPlay_3 (by decide) (fun c9 => absurd c9 (by decide)) (fun _ => ?_)
  refine lv_iconst (v := 1) hx hb dX4_canPlay_6 (by decide) ?_
  exact p_zret (b := true) hx hb hr hlocks dX4_canPlay_7 rfl (by rw [← hR])

def fX4_canPlay_L123 (σ : St) (sa : Int32) (sb : Int32) (k : Nat) (tk : Int32) (cp : Int32 → Bool) (i6 : Nat) (κ : Bool) : Nat → Nat → Bool
  | 0, i8 => κ
  | n + 1, i8 => (if ((fX4_needed_2 sb k)) = 2 then (if ((fX4_isIn (sa &&& ((tk ||| (1 <<< ((nI i6) &&& 31))) ^^^ ((-1)))) (nI i8))) = true then (if ((fX4_isIn (pIns σ i8) (nI k))) = true then (if (cp ((tk ||| (1 <<< ((nI i6) &&& 31))) ||| (1 <<< ((nI i8) &&& 31)))) = true then true else fX4_canPlay_L123 σ sa sb k tk cp i6 κ n (i8 + 1)) else fX4_canPlay_L123 σ sa sb k tk cp i6 κ n (i8 + 1)) else fX4_canPlay_L123 σ sa sb k tk cp i6 κ n (i8 + 1)) else κ)
def fX4_canPlay_L35 (σ : St) (sa : Int32) (sb : Int32) (k : Nat) (tk : Int32) (cp : Int32 → Bool)  (κ : Bool) : Nat → Nat → Bool
  | 0, i6 => κ
  | n + 1, i6 => (if ((fX4_isIn (sa &&& (tk ^^^ ((-1)))) (nI i6))) = true then (if ((fX4_isIn (pIns σ i6) (nI k))) = true then (if ((fX4_needed_2 sb k)) = 1 then (if (cp (tk ||| (1 <<< ((nI i6) &&& 31)))) = true then true else fX4_canPlay_L123 σ sa sb k tk cp i6 (fX4_canPlay_L35 σ sa sb k tk cp κ n (i6 + 1)) ((nP σ) - (i6 + 1)) (i6 + 1)) else fX4_canPlay_L123 σ sa sb k tk cp i6 (fX4_canPlay_L35 σ sa sb k tk cp κ n (i6 + 1)) ((nP σ) - (i6 + 1)) (i6 + 1)) else fX4_canPlay_L35 σ sa sb k tk cp κ n (i6 + 1)) else fX4_canPlay_L35 σ sa sb k tk cp κ n (i6 + 1))
def fX4_canPlay (σ : St) (sa : Int32) (sb : Int32) (k : Nat) (tk : Int32) (cp : Int32 → Bool) : Bool :=
  (if ((fX4_needed_2 sb k)) = 0 then cp tk else fX4_canPlay_L35 σ sa sb k tk cp (false) (nP σ) 0)
set_option maxHeartbeats 4000000 in
set_option maxRecDepth 100000 in
theorem met_X4_canPlay (l : Launch) (D : va_G) (E : Nat → Nat) {β : Nat → Nat → Nat} {F : Nat → Prop} {σ : St} {th ca : Int32} {sm : Int64} {fr0 lo0 : Nat} (sa : Int32) (sb : Int32) (k : Nat) (tk : Int32) (cp : Int32 → Bool) (h_k : k < 6) (hcp : ∀ t : Int32, PM l D E yX4_canPlay cX4_canPlay 9 (Option.some Jvm.ClassFile.FieldType.boolean) fr0 lo0 [.ref (β 0 0), .int sa, .int sb, .int (nI (k + 1)), .int t] (RM D E β F σ th ca sm) (some (.int (bI (cp t))))) : PM l D E yX4_canPlay cX4_canPlay 9 (Option.some Jvm.ClassFile.FieldType.boolean) (fr0 + 3) (lo0 + 64) [.ref (β 0 0), .int (sa), .int (sb), .int (nI k), .int (tk)] (RM D E β F σ th ca sm) (some (.int (bI (fX4_canPlay σ sa sb k tk cp)))) := by
  generalize hR : fX4_canPlay σ sa sb k tk cp = r
  refine PM.start (by decide) (Nat.le_of_ble_eq_true rfl) ?_
  intro p e s m below meth c ls hx hb hr hml hown hlocks hts hG hM hl
  have hown : s.vm.findClass RX4 = some m.cls := hown
  have hS0 : xS p m c cX4_canPlay 9 s _ RX4 := ⟨hx, hb, hml, hown, hts⟩
  have hl : lv_has ls 9 [(0, .ref (β 0 0)), (1, .int (sa)), (2, .int (sb)), (3, .int (nI k)), (4, .int (tk))] := hl
  have hL123 : ∀ (i6 : Nat) (hki6 : i6 < nP σ) (κ : Bool) (hκ : ∀ (ls : Array Slot), κ = r → lv_has ls 9 [(0, .ref (β 0 0)), (1, .int (sa)), (2, .int (sb)), (3, .int (nI k)), (4, .int (tk)), (5, .int ((fX4_needed_2 sb k))), (6, .int (nI i6))] → W p l e { frames := fr0 + 3, cells := 0, slots := 0, locals := lo0 + 64 } s m [(.ref (β 0 0) : Value), .int (sa), .int (sb), .int (nI k), .int (tk)].toArray below meth c s.heap [] 0 0 (MQ below (qP (some (.int (bI r)))) [(.ref (β 0 0) : Value), .int (sa), .int (sb), .int (nI k), .int (tk)].toArray s 0 0 (fun _ => False)) (F0 m 204 ls [])) (n : Nat) (i8 : Nat), i8 + n = nP σ → fX4_canPlay_L123 σ sa sb k tk cp i6 κ n i8 = r → ∀ (ls : Array Slot), lv_has ls 9 [(0, .ref (β 0 0)), (1, .int (sa)), (2, .int (sb)), (3, .int (nI k)), (4, .int (tk)), (5, .int ((fX4_needed_2 sb k))), (6, .int (nI i6)), (7, .int (tk ||| (1 <<< ((nI i6) &&& 31)))), (8, .int (nI i8))] → W p l e { frames := fr0 + 3, cells := 0, slots := 0, locals := lo0 + 64 } s m [(.ref (β 0 0) : Value), .int (sa), .int (sb), .int (nI k), .int (tk)].toArray below meth c s.heap [] 0 0 (MQ below (qP (some (.int (bI r)))) [(.ref (β 0 0) : Value), .int (sa), .int (sb), .int (nI k), .int (tk)].toArray s 0 0 (fun _ => False)) (F0 m 123 ls []) := by
    intro i6 hki6 κ hκ n
    induction n with
    | zero =>
      intro i8 hn hR ls hl
      rw [fX4_canPlay_L123] at hR
      refine lv_iload hx hb dX4_canPlay_123 (lv_at hl 8 rfl) ?_
      refine lv_aload_n hx hb dX4_canPlay_125 rfl (lv_at hl 0 rfl) ?_
      refine gf (v := .ref (β 1 0)) (C := RX4) (T := TX4) (N := 13) (k := 3) hx hb hts hown hG cl_X4 in_X4 hM.ag (by decide) q1543 rfl dX4_canPlay_126 ?_
      refine pcV (As := []) (rest := [.int (nI i8)]) hS0 (met_ml_size l D E (j := 0) (by decide)) q1600 q336 q2080 q103 q338 hd_J2_size ⟨by show _ ≤ fr0 + 3; omega, by show _ ≤ lo0 + 64; omega⟩ hG (hM.lsR hG (j := 0) (by decide)) hM rfl hl.1 rfl (Nat.le_of_ble_eq_true rfl) dX4_canPlay_129 ⟨Nat.le_refl _, Nat.le_refl _⟩ ?_
      refine W.eq (g2 := F0 m 132 ls [.int (nI (nP σ)), .int (nI i8)]) rfl ?_
      refine lk_ge_out (k := i8) (N := nP σ) hx hb hn (tgt := 204) dX4_canPlay_132 (by decide) ?_
      exact hκ  ls hR (lv_sub hl [0, 1, 2, 3, 4, 5, 6] rfl)
    | succ n ih =>
      intro i8 hn hR ls hl
      rw [fX4_canPlay_L123] at hR
      refine lv_iload hx hb dX4_canPlay_123 (lv_at hl 8 rfl) ?_
      refine lv_aload_n hx hb dX4_canPlay_125 rfl (lv_at hl 0 rfl) ?_
      refine gf (v := .ref (β 1 0)) (C := RX4) (T := TX4) (N := 13) (k := 3) hx hb hts hown hG cl_X4 in_X4 hM.ag (by decide) q1543 rfl dX4_canPlay_126 ?_
      refine pcV (As := []) (rest := [.int (nI i8)]) hS0 (met_ml_size l D E (j := 0) (by decide)) q1600 q336 q2080 q103 q338 hd_J2_size ⟨by show _ ≤ fr0 + 3; omega, by show _ ≤ lo0 + 64; omega⟩ hG (hM.lsR hG (j := 0) (by decide)) hM rfl hl.1 rfl (Nat.le_of_ble_eq_true rfl) dX4_canPlay_129 ⟨Nat.le_refl _, Nat.le_refl _⟩ ?_
      refine W.eq (g2 := F0 m 132 ls [.int (nI (nP σ)), .int (nI i8)]) rfl ?_
      have hki8 : i8 < nP σ := lk_lt hn
      refine lk_ge_in (k := i8) (N := nP σ) hx hb hki8 (by have := hM.nP10; omega) (tgt := 204) dX4_canPlay_132 (by decide) ?_
      refine lv_iload hx hb dX4_canPlay_135 (lv_at hl 5 rfl) ?_
      refine lv_iconst (v := 2) hx hb dX4_canPlay_137 (by decide) ?_
      refine lv_icmp_ne (tgt := 204) hx hb dX4_canPlay_138 (by decide) (fun c5 => ?_) (fun c5 => ?_)
      · rw [if_neg c5] at hR
        exact hκ  ls hR (lv_sub hl [0, 1, 2, 3, 4, 5, 6] rfl)
      · rw [if_pos c5] at hR
        refine lv_iload_n hx hb dX4_canPlay_141 rfl (lv_at hl 1 rfl) ?_
        refine lv_iload hx hb dX4_canPlay_142 (lv_at hl 7 rfl) ?_
        refine lv_iconst (v := (-1)) hx hb dX4_canPlay_144 (by decide) ?_
        refine lv_ixor hx hb dX4_canPlay_145 ?_
        refine lv_iand hx hb dX4_canPlay_146 ?_
        refine lv_iload hx hb dX4_canPlay_147 (lv_at hl 8 rfl) ?_
        refine pcS (As := [.int (sa &&& ((tk ||| (1 <<< ((nI i6) &&& 31))) ^^^ ((-1)))), .int (nI i8)]) (rest := []) hS0 (met_X4_isIn l D E (sa &&& ((tk ||| (1 <<< ((nI i6) &&& 31))) ^^^ ((-1)))) (nI i8)) q1654 q1655 q110 q1656 hd_X4_isIn ⟨by show _ ≤ fr0 + 3; omega, by show _ ≤ lo0 + 64; omega⟩ hG trivial rfl hl.1 rfl (Nat.le_of_ble_eq_true rfl) dX4_canPlay_149 ⟨Nat.le_refl _, Nat.le_refl _⟩ ?_
        refine W.eq (g2 := F0 m 152 ls [.int (bI ((fX4_isIn (sa &&& ((tk ||| (1 <<< ((nI i6) &&& 31))) ^^^ ((-1)))) (nI i8))))]) rfl ?_
        refine lb_if_eq (tgt := 198) hx hb dX4_canPlay_152 (by decide) (fun c6 => ?_) (fun c6 => ?_)
        · rw [if_neg c6] at hR
          refine lv_iinc (v := nI (i8 + 1)) (lv' := [(8, .int (nI (i8 + 1))), (0, .ref (β 0 0)), (1, .int (sa)), (2, .int (sb)), (3, .int (nI k)), (4, .int (tk)), (5, .int ((fX4_needed_2 sb k))), (6, .int (nI i6)), (7, .int (tk ||| (1 <<< ((nI i6) &&& 31))))]) hx hb dX4_canPlay_198 hl (k := 8) rfl (nI_1 i8) (Nat.le_of_ble_eq_true rfl) rfl (fun ls hl => ?_)
          refine lv_goto (tgt := 123) hx hb dX4_canPlay_201 (by decide) ?_
          exact ih (i8 + 1) (lk_st hn) hR ls (lv_sub hl [1, 2, 3, 4, 5, 6, 7, 8, 0] rfl)
        · rw [if_pos c6] at hR
          refine lv_aload_n hx hb dX4_canPlay_155 rfl (lv_at hl 0 rfl) ?_
          refine gf (v := .ref (β 1 0)) (C := RX4) (T := TX4) (N := 13) (k := 3) hx hb hts hown hG cl_X4 in_X4 hM.ag (by decide) q1543 rfl dX4_canPlay_156 ?_
          refine lv_iload hx hb dX4_canPlay_159 (lv_at hl 8 rfl) ?_
          refine pcV (As := [.int (nI i8)]) (rest := []) hS0 (met_ml_get l D E (j := 0) (by decide) i8 hki8) q1639 q349 q2082 q103 q351 hd_J2_get ⟨by show _ ≤ fr0 + 3; omega, by show _ ≤ lo0 + 64; omega⟩ hG (hM.lsR hG (j := 0) (by decide)) hM rfl hl.1 rfl (Nat.le_of_ble_eq_true rfl) dX4_canPlay_161 ⟨Nat.le_refl _, Nat.le_refl _⟩ ?_
          refine W.eq (g2 := F0 m 164 ls [.ref (β 3 i8)]) rfl ?_
          refine gc (ci := 6) hx hb hown hG cl_X7 (rcv hG cl_X7 (hM.pl hki8)) (hts _ q1601) dX4_canPlay_164 ?_
          refine gfN (v := .int (pIns σ i8)) (C := RX7) (T := TX7) (N := 7) (k := 0) hx hb hts hown hG cl_X7 in_X7 (hM.pl hki8) (by decide) q1607 rfl dX4_canPlay_167 ?_
          refine lv_iload_n hx hb dX4_canPlay_170 rfl (lv_at hl 3 rfl) ?_
          refine pcS (As := [.int (pIns σ i8), .int (nI k)]) (rest := []) hS0 (met_X4_isIn l D E (pIns σ i8) (nI k)) q1654 q1655 q110 q1656 hd_X4_isIn ⟨by show _ ≤ fr0 + 3; omega, by show _ ≤ lo0 + 64; omega⟩ hG trivial rfl hl.1 rfl (Nat.le_of_ble_eq_true rfl) dX4_canPlay_171 ⟨Nat.le_refl _, Nat.le_refl _⟩ ?_
          refine W.eq (g2 := F0 m 174 ls [.int (bI ((fX4_isIn (pIns σ i8) (nI k))))]) rfl ?_
          refine lb_if_eq (tgt := 198) hx hb dX4_canPlay_174 (by decide) (fun c7 => ?_) (fun c7 => ?_)
          · rw [if_neg c7] at hR
            refine lv_iinc (v := nI (i8 + 1)) (lv' := [(8, .int (nI (i8 + 1))), (0, .ref (β 0 0)), (1, .int (sa)), (2, .int (sb)), (3, .int (nI k)), (4, .int (tk)), (5, .int ((fX4_needed_2 sb k))), (6, .int (nI i6)), (7, .int (tk ||| (1 <<< ((nI i6) &&& 31))))]) hx hb dX4_canPlay_198 hl (k := 8) rfl (nI_1 i8) (Nat.le_of_ble_eq_true rfl) rfl (fun ls hl => ?_)
            refine lv_goto (tgt := 123) hx hb dX4_canPlay_201 (by decide) ?_
            exact ih (i8 + 1) (lk_st hn) hR ls (lv_sub hl [1, 2, 3, 4, 5, 6, 7, 8, 0] rfl)
          · rw [if_pos c7] at hR
            refine lv_aload_n hx hb dX4_canPlay_177 rfl (lv_at hl 0 rfl) ?_
            refine lv_iload_n hx hb dX4_canPlay_178 rfl (lv_at hl 1 rfl) ?_
            refine lv_iload_n hx hb dX4_canPlay_179 rfl (lv_at hl 2 rfl) ?_
            refine lv_iload_n hx hb dX4_canPlay_180 rfl (lv_at hl 3 rfl) ?_
            refine lv_iconst (v := 1) hx hb dX4_canPlay_181 (by decide) ?_
            refine lv_iadd hx hb dX4_canPlay_182 ?_
            refine lv_eq (nI_add k 1) ?_
            refine lv_iload hx hb dX4_canPlay_183 (lv_at hl 7 rfl) ?_
            refine lv_iconst (v := 1) hx hb dX4_canPlay_185 (by decide) ?_
            refine lv_iload hx hb dX4_canPlay_186 (lv_at hl 8 rfl) ?_
            refine lv_ishl hx hb dX4_canPlay_188 ?_
            refine lv_ior hx hb dX4_canPlay_189 ?_
            refine pcV (As := [.int (sa), .int (sb), .int (nI (k + 1)), .int ((tk ||| (1 <<< ((nI i6) &&& 31))) ||| (1 <<< ((nI i8) &&& 31)))]) (rest := []) hS0 (hcp ((tk ||| (1 <<< ((nI i6) &&& 31))) ||| (1 <<< ((nI i8) &&& 31)))) q1783 q1785 qs71 q110 q1786 hd_X4_canPlay ⟨by show _ ≤ fr0 + 3; omega, by show _ ≤ lo0 + 64; omega⟩ hG (rcv hG cl_X4 hM.ag) hM rfl hl.1 rfl (Nat.le_of_ble_eq_true rfl) dX4_canPlay_190 ⟨Nat.le_refl _, Nat.le_refl _⟩ ?_
            refine W.eq (g2 := F0 m 193 ls [.int (bI (cp ((tk ||| (1 <<< ((nI i6) &&& 31))) ||| (1 <<< ((nI i8) &&& 31)))))]) rfl ?_
            refine lb_if_eq (tgt := 198) hx hb dX4_canPlay_193 (by decide) (fun c8 => ?_) (fun c8 => ?_)
            · rw [if_neg c8] at hR
              refine lv_iinc (v := nI (i8 + 1)) (lv' := [(8, .int (nI (i8 + 1))), (0, .ref (β 0 0)), (1, .int (sa)), (2, .int (sb)), (3, .int (nI k)), (4, .int (tk)), (5, .int ((fX4_needed_2 sb k))), (6, .int (nI i6)), (7, .int (tk ||| (1 <<< ((nI i6) &&& 31))))]) hx hb dX4_canPlay_198 hl (k := 8) rfl (nI_1 i8) (Nat.le_of_ble_eq_true rfl) rfl (fun ls hl => ?_)
              refine lv_goto (tgt := 123) hx hb dX4_canPlay_201 (by decide) ?_
              exact ih (i8 + 1) (lk_st hn) hR ls (lv_sub hl [1, 2, 3, 4, 5, 6, 7, 8, 0] rfl)
            · rw [if_pos c8] at hR
              refine lv_iconst (v := 1) hx hb dX4_canPlay_196 (by decide) ?_
              exact p_zret (b := true) hx hb hr hlocks dX4_canPlay_197 rfl (by rw [← hR])
  have hL35 : ∀ (κ : Bool) (hκ : ∀ (ls : Array Slot), κ = r → lv_has ls 9 [] → W p l e { frames := fr0 + 3, cells := 0, slots := 0, locals := lo0 + 64 } s m [(.ref (β 0 0) : Value), .int (sa), .int (sb), .int (nI k), .int (tk)].toArray below meth c s.heap [] 0 0 (MQ below (qP (some (.int (bI r)))) [(.ref (β 0 0) : Value), .int (sa), .int (sb), .int (nI k), .int (tk)].toArray s 0 0 (fun _ => False)) (F0 m 210 ls [])) (n : Nat) (i6 : Nat), i6 + n = nP σ → fX4_canPlay_L35 σ sa sb k tk cp κ n i6 = r → ∀ (ls : Array Slot), lv_has ls 9 [(0, .ref (β 0 0)), (1, .int (sa)), (2, .int (sb)), (3, .int (nI k)), (4, .int (tk)), (5, .int ((fX4_needed_2 sb k))), (6, .int (nI i6))] → W p l e { frames := fr0 + 3, cells := 0, slots := 0, locals := lo0 + 64 } s m [(.ref (β 0 0) : Value), .int (sa), .int (sb), .int (nI k), .int (tk)].toArray below meth c s.heap [] 0 0 (MQ below (qP (some (.int (bI r)))) [(.ref (β 0 0) : Value), .int (sa), .int (sb), .int (nI k), .int (tk)].toArray s 0 0 (fun _ => False)) (F0 m 35 ls []) := by
    intro  κ hκ n
    induction n with
    | zero =>
      intro i6 hn hR ls hl
      rw [fX4_canPlay_L35] at hR
      refine lv_iload hx hb dX4_canPlay_35 (lv_at hl 6 rfl) ?_
      refine lv_aload_n hx hb dX4_canPlay_37 rfl (lv_at hl 0 rfl) ?_
      refine gf (v := .ref (β 1 0)) (C := RX4) (T := TX4) (N := 13) (k := 3) hx hb hts hown hG cl_X4 in_X4 hM.ag (by decide) q1543 rfl dX4_canPlay_38 ?_
      refine pcV (As := []) (rest := [.int (nI i6)]) hS0 (met_ml_size l D E (j := 0) (by decide)) q1600 q336 q2080 q103 q338 hd_J2_size ⟨by show _ ≤ fr0 + 3; omega, by show _ ≤ lo0 + 64; omega⟩ hG (hM.lsR hG (j := 0) (by decide)) hM rfl hl.1 rfl (Nat.le_of_ble_eq_true rfl) dX4_canPlay_41 ⟨Nat.le_refl _, Nat.le_refl _⟩ ?_
      refine W.eq (g2 := F0 m 44 ls [.int (nI (nP σ)), .int (nI i6)]) rfl ?_
      refine lk_ge_out (k := i6) (N := nP σ) hx hb hn (tgt := 210) dX4_canPlay_44 (by decide) ?_
      exact hκ  ls hR (lv_sub hl [] rfl)
    | succ n ih =>
      intro i6 hn hR ls hl
      rw [fX4_canPlay_L35] at hR
      refine lv_iload hx hb dX4_canPlay_35 (lv_at hl 6 rfl) ?_
      refine lv_aload_n hx hb dX4_canPlay_37 rfl (lv_at hl 0 rfl) ?_
      refine gf (v := .ref (β 1 0)) (C := RX4) (T := TX4) (N := 13) (k := 3) hx hb hts hown hG cl_X4 in_X4 hM.ag (by decide) q1543 rfl dX4_canPlay_38 ?_
      refine pcV (As := []) (rest := [.int (nI i6)]) hS0 (met_ml_size l D E (j := 0) (by decide)) q1600 q336 q2080 q103 q338 hd_J2_size ⟨by show _ ≤ fr0 + 3; omega, by show _ ≤ lo0 + 64; omega⟩ hG (hM.lsR hG (j := 0) (by decide)) hM rfl hl.1 rfl (Nat.le_of_ble_eq_true rfl) dX4_canPlay_41 ⟨Nat.le_refl _, Nat.le_refl _⟩ ?_
      refine W.eq (g2 := F0 m 44 ls [.int (nI (nP σ)), .int (nI i6)]) rfl ?_
      have hki6 : i6 < nP σ := lk_lt hn
      refine lk_ge_in (k := i6) (N := nP σ) hx hb hki6 (by have := hM.nP10; omega) (tgt := 210) dX4_canPlay_44 (by decide) ?_
      refine lv_iload_n hx hb dX4_canPlay_47 rfl (lv_at hl 1 rfl) ?_
      refine lv_iload hx hb dX4_canPlay_48 (lv_at hl 4 rfl) ?_
      refine lv_iconst (v := (-1)) hx hb dX4_canPlay_50 (by decide) ?_
      refine lv_ixor hx hb dX4_canPlay_51 ?_
      refine lv_iand hx hb dX4_canPlay_52 ?_
      refine lv_iload hx hb dX4_canPlay_53 (lv_at hl 6 rfl) ?_
      refine pcS (As := [.int (sa &&& (tk ^^^ ((-1)))), .int (nI i6)]) (rest := []) hS0 (met_X4_isIn l D E (sa &&& (tk ^^^ ((-1)))) (nI i6)) q1654 q1655 q110 q1656 hd_X4_isIn ⟨by show _ ≤ fr0 + 3; omega, by show _ ≤ lo0 + 64; omega⟩ hG trivial rfl hl.1 rfl (Nat.le_of_ble_eq_true rfl) dX4_canPlay_55 ⟨Nat.le_refl _, Nat.le_refl _⟩ ?_
      refine W.eq (g2 := F0 m 58 ls [.int (bI ((fX4_isIn (sa &&& (tk ^^^ ((-1)))) (nI i6))))]) rfl ?_
      refine lb_if_eq (tgt := 204) hx hb dX4_canPlay_58 (by decide) (fun c2 => ?_) (fun c2 => ?_)
      · rw [if_neg c2] at hR
        refine lv_iinc (v := nI (i6 + 1)) (lv' := [(6, .int (nI (i6 + 1))), (0, .ref (β 0 0)), (1, .int (sa)), (2, .int (sb)), (3, .int (nI k)), (4, .int (tk)), (5, .int ((fX4_needed_2 sb k)))]) hx hb dX4_canPlay_204 hl (k := 6) rfl (nI_1 i6) (Nat.le_of_ble_eq_true rfl) rfl (fun ls hl => ?_)
        refine lv_goto (tgt := 35) hx hb dX4_canPlay_207 (by decide) ?_
        exact ih (i6 + 1) (lk_st hn) hR ls (lv_sub hl [1, 2, 3, 4, 5, 6, 0] rfl)
      · rw [if_pos c2] at hR
        refine lv_aload_n hx hb dX4_canPlay_61 rfl (lv_at hl 0 rfl) ?_
        refine gf (v := .ref (β 1 0)) (C := RX4) (T := TX4) (N := 13) (k := 3) hx hb hts hown hG cl_X4 in_X4 hM.ag (by decide) q1543 rfl dX4_canPlay_62 ?_
        refine lv_iload hx hb dX4_canPlay_65 (lv_at hl 6 rfl) ?_
        refine pcV (As := [.int (nI i6)]) (rest := []) hS0 (met_ml_get l D E (j := 0) (by decide) i6 hki6) q1639 q349 q2082 q103 q351 hd_J2_get ⟨by show _ ≤ fr0 + 3; omega, by show _ ≤ lo0 + 64; omega⟩ hG (hM.lsR hG (j := 0) (by decide)) hM rfl hl.1 rfl (Nat.le_of_ble_eq_true rfl) dX4_canPlay_67 ⟨Nat.le_refl _, Nat.le_refl _⟩ ?_
        refine W.eq (g2 := F0 m 70 ls [.ref (β 3 i6)]) rfl ?_
        refine gc (ci := 6) hx hb hown hG cl_X7 (rcv hG cl_X7 (hM.pl hki6)) (hts _ q1601) dX4_canPlay_70 ?_
        refine gfN (v := .int (pIns σ i6)) (C := RX7) (T := TX7) (N := 7) (k := 0) hx hb hts hown hG cl_X7 in_X7 (hM.pl hki6) (by decide) q1607 rfl dX4_canPlay_73 ?_
        refine lv_iload_n hx hb dX4_canPlay_76 rfl (lv_at hl 3 rfl) ?_
        refine pcS (As := [.int (pIns σ i6), .int (nI k)]) (rest := []) hS0 (met_X4_isIn l D E (pIns σ i6) (nI k)) q1654 q1655 q110 q1656 hd_X4_isIn ⟨by show _ ≤ fr0 + 3; omega, by show _ ≤ lo0 + 64; omega⟩ hG trivial rfl hl.1 rfl (Nat.le_of_ble_eq_true rfl) dX4_canPlay_77 ⟨Nat.le_refl _, Nat.le_refl _⟩ ?_
        refine W.eq (g2 := F0 m 80 ls [.int (bI ((fX4_isIn (pIns σ i6) (nI k))))]) rfl ?_
        refine lb_if_ne (tgt := 86) hx hb dX4_canPlay_80 (by decide) (fun c3 => ?_) (fun c3 => ?_)
        · rw [if_pos c3] at hR
          refine lv_iload hx hb dX4_canPlay_86 (lv_at hl 4 rfl) ?_
          refine lv_iconst (v := 1) hx hb dX4_canPlay_88 (by decide) ?_
          refine lv_iload hx hb dX4_canPlay_89 (lv_at hl 6 rfl) ?_
          refine lv_ishl hx hb dX4_canPlay_91 ?_
          refine lv_ior hx hb dX4_canPlay_92 ?_
          refine lv_istore (lv' := [(7, .int (tk ||| (1 <<< ((nI i6) &&& 31)))), (0, .ref (β 0 0)), (1, .int (sa)), (2, .int (sb)), (3, .int (nI k)), (4, .int (tk)), (5, .int ((fX4_needed_2 sb k))), (6, .int (nI i6))]) hx hb dX4_canPlay_93 hl (Nat.le_of_ble_eq_true rfl) rfl (fun ls hl => ?_)
          refine lv_iload hx hb dX4_canPlay_95 (lv_at hl 6 rfl) ?_
          refine lv_iconst (v := 1) hx hb dX4_canPlay_97 (by decide) ?_
          refine lv_icmp_ne (tgt := 117) hx hb dX4_canPlay_98 (by decide) (fun c4 => ?_) (fun c4 => ?_)
          · rw [if_neg c4] at hR
            refine lv_iload hx hb dX4_canPlay_117 (lv_at hl 7 rfl) ?_
            refine lv_iconst (v := 1) hx hb dX4_canPlay_119 (by decide) ?_
            refine lv_iadd hx hb dX4_canPlay_120 ?_
            refine lv_eq (nI_add i6 1) ?_
            refine lv_istore (lv' := [(8, .int (nI (i6 + 1))), (7, .int (tk ||| (1 <<< ((nI i6) &&& 31)))), (0, .ref (β 0 0)), (1, .int (sa)), (2, .int (sb)), (3, .int (nI k)), (4, .int (tk)), (5, .int ((fX4_needed_2 sb k))), (6, .int (nI i6))]) hx hb dX4_canPlay_121 hl (Nat.le_of_ble_eq_true rfl) rfl (fun ls hl => ?_)
            refine hL123 i6 hki6 _ (fun  ls hR hl => ?_) ((nP σ) - (i6 + 1)) (i6 + 1) (by omega) hR ls (lv_sub hl [2, 3, 4, 5, 6, 7, 8, 1, 0] rfl)
            refine lv_iinc (v := nI (i6 + 1)) (lv' := [(6, .int (nI (i6 + 1))), (0, .ref (β 0 0)), (1, .int (sa)), (2, .int (sb)), (3, .int (nI k)), (4, .int (tk)), (5, .int ((fX4_needed_2 sb k)))]) hx hb dX4_canPlay_204 hl (k := 6) rfl (nI_1 i6) (Nat.le_of_ble_eq_true rfl) rfl (fun ls hl => ?_)
            refine lv_goto (tgt := 35) hx hb dX4_canPlay_207 (by decide) ?_
            exact ih (i6 + 1) (lk_st hn) hR ls (lv_sub hl [1, 2, 3, 4, 5, 6, 0] rfl)
          · rw [if_pos c4] at hR
            refine lv_aload_n hx hb dX4_canPlay_101 rfl (lv_at hl 1 rfl) ?_
            refine lv_iload_n hx hb dX4_canPlay_102 rfl (lv_at hl 2 rfl) ?_
            refine lv_iload_n hx hb dX4_canPlay_103 rfl (lv_at hl 3 rfl) ?_
            refine lv_iload_n hx hb dX4_canPlay_104 rfl (lv_at hl 4 rfl) ?_
            refine lv_iconst (v := 1) hx hb dX4_canPlay_105 (by decide) ?_
            refine lv_iadd hx hb dX4_canPlay_106 ?_
            refine lv_eq (nI_add k 1) ?_
            refine lv_iload hx hb dX4_canPlay_107 (lv_at hl 0 rfl) ?_
            refine pcV (As := [.int (sa), .int (sb), .int (nI (k + 1)), .int (tk ||| (1 <<< ((nI i6) &&& 31)))]) (rest := []) hS0 (hcp (tk ||| (1 <<< ((nI i6) &&& 31)))) q1783 q1785 qs71 q110 q1786 hd_X4_canPlay ⟨by show _ ≤ fr0 + 3; omega, by show _ ≤ lo0 + 64; omega⟩ hG (rcv hG cl_X4 hM.ag) hM rfl hl.1 rfl (Nat.le_of_ble_eq_true rfl) dX4_canPlay_109 ⟨Nat.le_refl _, Nat.le_refl _⟩ ?_
            refine W.eq (g2 := F0 m 112 ls [.int (bI (cp (tk ||| (1 <<< ((nI i6) &&& 31)))))]) rfl ?_
            refine lb_if_eq (tgt := 117) hx hb dX4_canPlay_112 (by decide) (fun c9 => ?_) (fun c9 => ?_)
            · rw [if_neg c9] at hR
              refine lv_iload hx hb dX4_canPlay_117 (lv_at hl 7 rfl) ?_
              refine lv_iconst (v := 1) hx hb dX4_canPlay_119 (by decide) ?_
              refine lv_iadd hx hb dX4_canPlay_120 ?_
              refine lv_eq (nI_add i6 1) ?_
              refine lv_istore (lv' := [(8, .int (nI (i6 + 1))), (7, .int (tk ||| (1 <<< ((nI i6) &&& 31)))), (0, .ref (β 0 0)), (1, .int (sa)), (2, .int (sb)), (3, .int (nI k)), (4, .int (tk)), (5, .int ((fX4_needed_2 sb k))), (6, .int (nI i6))]) hx hb dX4_canPlay_121 hl (Nat.le_of_ble_eq_true rfl) rfl (fun ls hl => ?_)
              refine hL123 i6 hki6 _ (fun  ls hR hl => ?_) ((nP σ) - (i6 + 1)) (i6 + 1) (by omega) hR ls (lv_sub hl [2, 3, 4, 5, 6, 7, 8, 1, 0] rfl)
              refine lv_iinc (v := nI (i6 + 1)) (lv' := [(6, .int (nI (i6 + 1))), (0, .ref (β 0 0)), (1, .int (sa)), (2, .int (sb)), (3, .int (nI k)), (4, .int (tk)), (5, .int ((fX4_needed_2 sb k)))]) hx hb dX4_canPlay_204 hl (k := 6) rfl (nI_1 i6) (Nat.le_of_ble_eq_true rfl) rfl (fun ls hl => ?_)
              refine lv_goto (tgt := 35) hx hb dX4_canPlay_207 (by decide) ?_
              exact ih (i6 + 1) (lk_st hn) hR ls (lv_sub hl [1, 2, 3, 4, 5, 6, 0] rfl)
            · rw [if_pos c9] at hR
              refine lv_iconst (v := 1) hx hb dX4_canPlay_115 (by decide) ?_
              exact p_zret (b := true) hx hb hr hlocks dX4_canPlay_116 rfl (by rw [← hR])
        · rw [if_neg c3] at hR
          refine lv_goto (tgt := 204) hx hb dX4_canPlay_83 (by decide) ?_
          refine lv_iinc (v := nI (i6 + 1)) (lv' := [(6, .int (nI (i6 + 1))), (0, .ref (β 0 0)), (1, .int (sa)), (2, .int (sb)), (3, .int (nI k)), (4, .int (tk)), (5, .int ((fX4_needed_2 sb k)))]) hx hb dX4_canPlay_204 hl (k := 6) rfl (nI_1 i6) (Nat.le_of_ble_eq_true rfl) rfl (fun ls hl => ?_)
          refine lv_goto (tgt := 35) hx hb dX4_canPlay_207 (by decide) ?_
          exact ih (i6 + 1) (lk_st hn) hR ls (lv_sub hl [1, 2, 3, 4, 5, 6, 0] rfl)
  unfold fX4_canPlay at hR
  refine lv_iload_n hx hb dX4_canPlay_0 rfl (lv_at hl 3 rfl) ?_
  refine lv_bipush (v := 6) hx hb dX4_canPlay_1 (by decide) ?_
  refine lv_icmp_ne (tgt := 8) hx hb dX4_canPlay_3 (by decide) (fun _ => ?_) (fun c9 => absurd c9 (fun h => absurd ((nI_eq (a := k) (b := 6) (by omega) (by decide)).mp h) (by omega)))
  refine lv_iload_n hx hb dX4_canPlay_8 rfl (lv_at hl 2 rfl) ?_
  refine lv_iload_n hx hb dX4_canPlay_9 rfl (lv_at hl 3 rfl) ?_
  refine pcS (As := [.int (sb), .int (nI k)]) (rest := []) hS0 (met_X4_needed_2 l D E sb k h_k) q1675 q1676 q110 q1677 hd_X4_needed_2 ⟨by show _ ≤ fr0 + 3; omega, by show _ ≤ lo0 + 64; omega⟩ hG trivial rfl hl.1 rfl (Nat.le_of_ble_eq_true rfl) dX4_canPlay_10 ⟨Nat.le_refl _, Nat.le_refl _⟩ ?_
  refine W.eq (g2 := F0 m 13 ls [.int ((fX4_needed_2 sb k))]) rfl ?_
  refine lv_istore (lv' := [(5, .int ((fX4_needed_2 sb k))), (0, .ref (β 0 0)), (1, .int (sa)), (2, .int (sb)), (3, .int (nI k)), (4, .int (tk))]) hx hb dX4_canPlay_13 hl (Nat.le_of_ble_eq_true rfl) rfl (fun ls hl => ?_)
  refine lv_iload hx hb dX4_canPlay_15 (lv_at hl 0 rfl) ?_
  refine lv_if_ne (tgt := 32) hx hb dX4_canPlay_17 (by decide) (fun c1 => ?_) (fun c1 => ?_)
  · rw [if_neg c1] at hR
    refine lv_iconst (v := 0) hx hb dX4_canPlay_32 (by decide) ?_
    refine lv_istore (lv' := [(6, .int 0), (5, .int ((fX4_needed_2 sb k))), (0, .ref (β 0 0)), (1, .int (sa)), (2, .int (sb)), (3, .int (nI k)), (4, .int (tk))]) hx hb dX4_canPlay_33 hl (Nat.le_of_ble_eq_true rfl) rfl (fun ls hl => ?_)
    refine hL35  _ (fun  ls hR hl => ?_) (nP σ) 0 (Nat.zero_add _) hR ls (lv_sub hl [2, 3, 4, 5, 6, 1, 0] rfl)
    refine lv_iconst (v := 0) hx hb dX4_canPlay_210 (by decide) ?_
    exact p_zret (b := false) hx hb hr hlocks dX4_canPlay_211 rfl (by rw [← hR])
  · rw [if_pos c1] at hR
    refine lv_aload_n hx hb dX4_canPlay_20 rfl (lv_at hl 1 rfl) ?_
    refine lv_iload_n hx hb dX4_canPlay_21 rfl (lv_at hl 2 rfl) ?_
    refine lv_iload_n hx hb dX4_canPlay_22 rfl (lv_at hl 3 rfl) ?_
    refine lv_iload_n hx hb dX4_canPlay_23 rfl (lv_at hl 4 rfl) ?_
    refine lv_iconst (v := 1) hx hb dX4_canPlay_24 (by decide) ?_
    refine lv_iadd hx hb dX4_canPlay_25 ?_
    refine lv_eq (nI_add k 1) ?_
    refine lv_iload hx hb dX4_canPlay_26 (lv_at hl 5 rfl) ?_
    refine pcV (As := [.int (sa), .int (sb), .int (nI (k + 1)), .int (tk)]) (rest := []) hS0 (hcp tk) q1783 q1785 qs71 q110 q1786 hd_X4_canPlay ⟨by show _ ≤ fr0 + 3; omega, by show _ ≤ lo0 + 64; omega⟩ hG (rcv hG cl_X4 hM.ag) hM rfl hl.1 rfl (Nat.le_of_ble_eq_true rfl) dX4_canPlay_28 ⟨Nat.le_refl _, Nat.le_refl _⟩ ?_
    refine W.eq (g2 := F0 m 31 ls [.int (bI (cp tk))]) rfl ?_
    exact p_zret (b := cp tk) hx hb hr hlocks dX4_canPlay_31 rfl (by rw [← hR])

def canPlayR (σ : St) (sa sb : Int32) : Nat → Nat → Int32 → Bool
  | 0, _, _ => true
  | d + 1, k, t => fX4_canPlay σ sa sb k t (fun t' => canPlayR σ sa sb d (k + 1) t')
theorem met_canPlayR (l : Launch) (D : va_G) (E : Nat → Nat) {β : Nat → Nat → Nat} {F : Nat → Prop} {σ : St} {th ca : Int32} {sm : Int64} (sa sb : Int32) : ∀ (d k : Nat) (t : Int32), k + d = 6 → PM l D E yX4_canPlay cX4_canPlay 9 (Option.some Jvm.ClassFile.FieldType.boolean) (0 + d * 3) (0 + d * 64) [.ref (β 0 0), .int sa, .int sb, .int (nI k), .int t] (RM D E β F σ th ca sm) (some (.int (bI (canPlayR σ sa sb d k t)))) := by
  intro d
  induction d with
  | zero =>
    intro k t hk
    have e : k = 6 := hk
    subst e
    exact met_X4_canPlay0 l D E sa sb t
  | succ d ih =>
    intro k t hk
    have h := met_X4_canPlay l D E (fr0 := 0 + d * 3) (lo0 := 0 + d * 64) (th := th) (ca := ca) (sm := sm) sa sb k t (fun t' => canPlayR σ sa sb d (k + 1) t') (by omega) (fun t' => ih (k + 1) t' (by omega))
    have e1 : 0 + (d + 1) * 3 = 0 + d * 3 + 3 := by omega
    have e2 : 0 + (d + 1) * 64 = 0 + d * 64 + 64 := by omega
    rw [e1, e2]
    exact h
theorem met_canPlay (l : Launch) (D : va_G) (E : Nat → Nat) {β : Nat → Nat → Nat} {F : Nat → Prop} {σ : St} {th ca : Int32} {sm : Int64} (sa sb t : Int32) : PM l D E yX4_canPlay cX4_canPlay 9 (Option.some Jvm.ClassFile.FieldType.boolean) 18 384 [.ref (β 0 0), .int sa, .int sb, .int 0, .int t] (RM D E β F σ th ca sm) (some (.int (bI (canPlayR σ sa sb 6 0 t)))) := met_canPlayR l D E sa sb 6 0 t rfl

def fX4_isFilling (σ : St) (a : Int32) (wi : Nat) : Bool :=
  (if (nI (popc a)) = ((fX4_needed (bShape σ (wBand σ wi)))) then (if ((fX4_isPeaceful σ a)) = true then (if ((fX4_areKnown σ a (wSongs σ wi))) = true then (if (canPlayR σ a (bShape σ (wBand σ wi)) 6 0 0) = true then true else false) else false) else false) else false)
set_option maxHeartbeats 4000000 in
set_option maxRecDepth 100000 in
theorem met_X4_isFilling (l : Launch) (D : va_G) (E : Nat → Nat) {β : Nat → Nat → Nat} {F : Nat → Prop} {σ : St} {th ca : Int32} {sm : Int64} (a : Int32) (wi : Nat) (h_wi : wi < nW σ) : PM l D E yX4_isFilling cX4_isFilling 4 (Option.some Jvm.ClassFile.FieldType.boolean) 19 412 [.ref (β 0 0), .int (a), .ref (β 5 wi)] (RM D E β F σ th ca sm) (some (.int (bI (fX4_isFilling σ a wi)))) := by
  generalize hR : fX4_isFilling σ a wi = r
  refine PM.start (by decide) (Nat.le_of_ble_eq_true rfl) ?_
  intro p e s m below meth c ls hx hb hr hml hown hlocks hts hG hM hl
  have hown : s.vm.findClass RX4 = some m.cls := hown
  have hS0 : xS p m c cX4_isFilling 4 s _ RX4 := ⟨hx, hb, hml, hown, hts⟩
  have hl : lv_has ls 4 [(0, .ref (β 0 0)), (1, .int (a)), (2, .ref (β 5 wi))] := hl
  unfold fX4_isFilling at hR
  refine lv_aload_n hx hb dX4_isFilling_0 rfl (lv_at hl 0 rfl) ?_
  refine gf (v := .ref (β 1 1)) (C := RX4) (T := TX4) (N := 13) (k := 4) hx hb hts hown hG cl_X4 in_X4 hM.ag (by decide) q1544 rfl dX4_isFilling_1 ?_
  refine lv_aload_n hx hb dX4_isFilling_4 rfl (lv_at hl 2 rfl) ?_
  refine gfN (v := .int (nI (wBand σ wi))) (C := RX11) (T := TX11) (N := 12) (k := 0) hx hb hts hown hG cl_X11 in_X11 (hM.wd h_wi) (by decide) q1701 rfl dX4_isFilling_5 ?_
  refine pcV (As := [.int (nI (wBand σ wi))]) (rest := []) hS0 (met_ml_get l D E (j := 1) (by decide) (wBand σ wi) (hM.band h_wi)) q1639 q349 q2082 q103 q351 hd_J2_get ⟨Nat.le_of_ble_eq_true rfl, Nat.le_of_ble_eq_true rfl⟩ hG (hM.lsR hG (j := 1) (by decide)) hM rfl hl.1 rfl (Nat.le_of_ble_eq_true rfl) dX4_isFilling_8 ⟨Nat.le_refl _, Nat.le_refl _⟩ ?_
  refine W.eq (g2 := F0 m 11 ls [.ref (β 9 (wBand σ wi))]) rfl ?_
  refine gc (ci := 14) hx hb hown hG cl_J17 (hM.bxR hG (hM.band h_wi)) (hts _ q1769) dX4_isFilling_11 ?_
  refine pcV (As := []) (rest := []) hS0 (met_J17_intValue l D E (wBand σ wi) (hM.band h_wi)) q1770 q657 q658 q125 q659 hd_J17_intValue ⟨Nat.le_of_ble_eq_true rfl, Nat.le_of_ble_eq_true rfl⟩ hG (hM.bxR hG (hM.band h_wi)) hM rfl hl.1 rfl (Nat.le_of_ble_eq_true rfl) dX4_isFilling_14 ⟨Nat.le_refl _, Nat.le_refl _⟩ ?_
  refine W.eq (g2 := F0 m 17 ls [.int (bShape σ (wBand σ wi))]) rfl ?_
  refine lv_istore_n (lv' := [(3, .int (bShape σ (wBand σ wi))), (0, .ref (β 0 0)), (1, .int (a)), (2, .ref (β 5 wi))]) hx hb dX4_isFilling_17 rfl hl (Nat.le_of_ble_eq_true rfl) rfl (fun ls hl => ?_)
  refine lv_iload_n hx hb dX4_isFilling_18 rfl (lv_at hl 2 rfl) ?_
  refine pcS (As := [.int (a)]) (rest := []) hS0 (met_bitCount l D E a) q1640 q1641 q125 q1642 hd_J17_bitCount ⟨Nat.le_of_ble_eq_true rfl, Nat.le_of_ble_eq_true rfl⟩ hG trivial rfl hl.1 rfl (Nat.le_of_ble_eq_true rfl) dX4_isFilling_19 ⟨Nat.le_refl _, Nat.le_refl _⟩ ?_
  refine W.eq (g2 := F0 m 22 ls [.int (nI (popc a))]) rfl ?_
  refine lv_iload_n hx hb dX4_isFilling_22 rfl (lv_at hl 0 rfl) ?_
  refine pcS (As := [.int (bShape σ (wBand σ wi))]) (rest := [.int (nI (popc a))]) hS0 (met_X4_needed l D E (bShape σ (wBand σ wi))) q1672 q1673 q110 q1674 hd_X4_needed ⟨Nat.le_of_ble_eq_true rfl, Nat.le_of_ble_eq_true rfl⟩ hG trivial rfl hl.1 rfl (Nat.le_of_ble_eq_true rfl) dX4_isFilling_23 ⟨Nat.le_refl _, Nat.le_refl _⟩ ?_
  refine W.eq (g2 := F0 m 26 ls [.int ((fX4_needed (bShape σ (wBand σ wi)))), .int (nI (popc a))]) rfl ?_
  refine lv_icmp_ne (tgt := 64) hx hb dX4_isFilling_26 (by decide) (fun c1 => ?_) (fun c1 => ?_)
  · rw [if_neg c1] at hR
    refine lv_iconst (v := 0) hx hb dX4_isFilling_64 (by decide) ?_
    exact p_zret (b := false) hx hb hr hlocks dX4_isFilling_65 rfl (by rw [← hR])
  · rw [if_pos c1] at hR
    refine lv_aload_n hx hb dX4_isFilling_29 rfl (lv_at hl 1 rfl) ?_
    refine lv_iload_n hx hb dX4_isFilling_30 rfl (lv_at hl 2 rfl) ?_
    refine pcV (As := [.int (a)]) (rest := []) hS0 (met_X4_isPeaceful l D E a) q1771 q1773 qs68 q110 q1774 hd_X4_isPeaceful ⟨Nat.le_of_ble_eq_true rfl, Nat.le_of_ble_eq_true rfl⟩ hG (rcv hG cl_X4 hM.ag) hM rfl hl.1 rfl (Nat.le_of_ble_eq_true rfl) dX4_isFilling_31 ⟨Nat.le_refl _, Nat.le_refl _⟩ ?_
    refine W.eq (g2 := F0 m 34 ls [.int (bI ((fX4_isPeaceful σ a)))]) rfl ?_
    refine lb_if_eq (tgt := 64) hx hb dX4_isFilling_34 (by decide) (fun c2 => ?_) (fun c2 => ?_)
    · rw [if_neg c2] at hR
      refine lv_iconst (v := 0) hx hb dX4_isFilling_64 (by decide) ?_
      exact p_zret (b := false) hx hb hr hlocks dX4_isFilling_65 rfl (by rw [← hR])
    · rw [if_pos c2] at hR
      refine lv_aload_n hx hb dX4_isFilling_37 rfl (lv_at hl 1 rfl) ?_
      refine lv_iload_n hx hb dX4_isFilling_38 rfl (lv_at hl 2 rfl) ?_
      refine lv_aload_n hx hb dX4_isFilling_39 rfl (lv_at hl 3 rfl) ?_
      refine gfN (v := .int (wSongs σ wi)) (C := RX11) (T := TX11) (N := 12) (k := 5) hx hb hts hown hG cl_X11 in_X11 (hM.wd h_wi) (by decide) q1708 rfl dX4_isFilling_40 ?_
      refine pcV (As := [.int (a), .int (wSongs σ wi)]) (rest := []) hS0 (met_X4_areKnown l D E a (wSongs σ wi)) q1775 q1777 qs69 q110 q1778 hd_X4_areKnown ⟨Nat.le_of_ble_eq_true rfl, Nat.le_of_ble_eq_true rfl⟩ hG (rcv hG cl_X4 hM.ag) hM rfl hl.1 rfl (Nat.le_of_ble_eq_true rfl) dX4_isFilling_43 ⟨Nat.le_refl _, Nat.le_refl _⟩ ?_
      refine W.eq (g2 := F0 m 46 ls [.int (bI ((fX4_areKnown σ a (wSongs σ wi))))]) rfl ?_
      refine lb_if_eq (tgt := 64) hx hb dX4_isFilling_46 (by decide) (fun c3 => ?_) (fun c3 => ?_)
      · rw [if_neg c3] at hR
        refine lv_iconst (v := 0) hx hb dX4_isFilling_64 (by decide) ?_
        exact p_zret (b := false) hx hb hr hlocks dX4_isFilling_65 rfl (by rw [← hR])
      · rw [if_pos c3] at hR
        refine lv_aload_n hx hb dX4_isFilling_49 rfl (lv_at hl 1 rfl) ?_
        refine lv_iload_n hx hb dX4_isFilling_50 rfl (lv_at hl 2 rfl) ?_
        refine lv_iload_n hx hb dX4_isFilling_51 rfl (lv_at hl 0 rfl) ?_
        refine lv_iconst (v := 0) hx hb dX4_isFilling_52 (by decide) ?_
        refine lv_iconst (v := 0) hx hb dX4_isFilling_53 (by decide) ?_
        refine pcV (As := [.int (a), .int (bShape σ (wBand σ wi)), .int 0, .int 0]) (rest := []) hS0 (met_canPlay l D E a (bShape σ (wBand σ wi)) 0) q1783 q1785 qs71 q110 q1786 hd_X4_canPlay ⟨Nat.le_of_ble_eq_true rfl, Nat.le_of_ble_eq_true rfl⟩ hG (rcv hG cl_X4 hM.ag) hM rfl hl.1 rfl (Nat.le_of_ble_eq_true rfl) dX4_isFilling_54 ⟨Nat.le_refl _, Nat.le_refl _⟩ ?_
        refine W.eq (g2 := F0 m 57 ls [.int (bI (canPlayR σ a (bShape σ (wBand σ wi)) 6 0 0))]) rfl ?_
        refine lb_if_eq (tgt := 64) hx hb dX4_isFilling_57 (by decide) (fun c4 => ?_) (fun c4 => ?_)
        · rw [if_neg c4] at hR
          refine lv_iconst (v := 0) hx hb dX4_isFilling_64 (by decide) ?_
          exact p_zret (b := false) hx hb hr hlocks dX4_isFilling_65 rfl (by rw [← hR])
        · rw [if_pos c4] at hR
          refine lv_iconst (v := 1) hx hb dX4_isFilling_60 (by decide) ?_
          refine lv_goto (tgt := 65) hx hb dX4_isFilling_61 (by decide) ?_
          exact p_zret (b := true) hx hb hr hlocks dX4_isFilling_65 rfl (by rw [← hR])

theorem PM.ri {l : Launch} {D : va_G} {E : Nat → Nat} {y : MethodName} {cc : ByteArray} {maxL : Nat} {ret : Option FieldType} {fr lo : Nat} {av : List Value} {v : Option Value} {β : Nat → Nat → Nat} {F : Nat → Prop} {σ : St} {th ca : Int32} {sm : Int64} (h : RI σ → PM l D E y cc maxL ret fr lo av (RM D E β F σ th ca sm) v) : PM l D E y cc maxL ret fr lo av (RM D E β F σ th ca sm) v := by
  intro p e h1 h2 h3 s m args below h4 h5 h6 h7
  exact h h6.2.2.1 p e h1 h2 h3 s m args below h4 h5 h6 h7

def fX4_best_L38 (σ : St) (wi : Nat) (wo : Int32) (hd : Int32)  (κ : Int32 → Option Int32) : Nat → Int32 → Int32 → Option Int32
  | 0, a6, a7 => none
  | n + 1, a6, a7 => (if a7 ≤ 0 then κ a6 else (if ((fX4_isFilling σ a7 wi)) = true then (if a6 = ((-1)) then fX4_best_L38 σ wi wo hd κ n a7 ((a7 - (((fX4_freeFor σ wi)) &&& (wo ^^^ ((-1))))) &&& (((fX4_freeFor σ wi)) &&& (wo ^^^ ((-1))))) else (if ((fX4_isBetter σ a7 a6 hd wi)) = true then fX4_best_L38 σ wi wo hd κ n a7 ((a7 - (((fX4_freeFor σ wi)) &&& (wo ^^^ ((-1))))) &&& (((fX4_freeFor σ wi)) &&& (wo ^^^ ((-1))))) else fX4_best_L38 σ wi wo hd κ n a6 ((a7 - (((fX4_freeFor σ wi)) &&& (wo ^^^ ((-1))))) &&& (((fX4_freeFor σ wi)) &&& (wo ^^^ ((-1))))))) else fX4_best_L38 σ wi wo hd κ n a6 ((a7 - (((fX4_freeFor σ wi)) &&& (wo ^^^ ((-1))))) &&& (((fX4_freeFor σ wi)) &&& (wo ^^^ ((-1)))))))
def fX4_best (σ : St) (wi : Nat) (wo : Int32) (hd : Int32) : Option Int32 :=
  fX4_best_L38 σ wi wo hd (fun (a5 : Int32) => (some a5)) 1025 ((-1)) ((((fX4_freeFor σ wi)) &&& (wo ^^^ ((-1)))) &&& (-(((fX4_freeFor σ wi)) &&& (wo ^^^ ((-1))))))
set_option maxHeartbeats 4000000 in
set_option maxRecDepth 100000 in
theorem met_X4_best (l : Launch) (D : va_G) (E : Nat → Nat) {β : Nat → Nat → Nat} {F : Nat → Prop} {σ : St} {th ca : Int32} {sm : Int64} (wi : Nat) (wo : Int32) (hd : Int32) (h_wi : wi < nW σ) {r : Int32} (hR : fX4_best σ wi wo hd = some r) : PM l D E yX4_best cX4_best 9 (Option.some Jvm.ClassFile.FieldType.int) 20 435 [.ref (β 0 0), .int (nI wi), .int (wo), .int (hd)] (RM D E β F σ th ca sm) (some (.int r)) := by
  refine PM.start (by decide) (Nat.le_of_ble_eq_true rfl) ?_
  intro p e s m below meth c ls hx hb hr hml hown hlocks hts hG hM hl
  have hown : s.vm.findClass RX4 = some m.cls := hown
  have hS0 : xS p m c cX4_best 9 s _ RX4 := ⟨hx, hb, hml, hown, hts⟩
  have hl : lv_has ls 9 [(0, .ref (β 0 0)), (1, .int (nI wi)), (2, .int (wo)), (3, .int (hd))] := hl
  have hL38 : ∀ (κ : Int32 → Option Int32) (hκ : ∀ (a6 : Int32) (ls : Array Slot), κ a6 = some r → lv_has ls 9 [(6, .int (a6))] → W p l e { frames := 20, cells := 0, slots := 0, locals := 435 } s m [(.ref (β 0 0) : Value), .int (nI wi), .int (wo), .int (hd)].toArray below meth c s.heap [] 0 0 (MQ below (qP (some (.int r))) [(.ref (β 0 0) : Value), .int (nI wi), .int (wo), .int (hd)].toArray s 0 0 (fun _ => False)) (F0 m 95 ls [])) (n : Nat) (a6 : Int32) (a7 : Int32), fX4_best_L38 σ wi wo hd κ n a6 a7 = some r → ∀ (ls : Array Slot), lv_has ls 9 [(0, .ref (β 0 0)), (3, .int (hd)), (4, .ref (β 5 wi)), (5, .int (((fX4_freeFor σ wi)) &&& (wo ^^^ ((-1))))), (6, .int (a6)), (7, .int (a7))] → W p l e { frames := 20, cells := 0, slots := 0, locals := 435 } s m [(.ref (β 0 0) : Value), .int (nI wi), .int (wo), .int (hd)].toArray below meth c s.heap [] 0 0 (MQ below (qP (some (.int r))) [(.ref (β 0 0) : Value), .int (nI wi), .int (wo), .int (hd)].toArray s 0 0 (fun _ => False)) (F0 m 38 ls []) := by
    intro  κ hκ n
    induction n with
    | zero =>
      intro a6 a7 hR ls hl
      rw [fX4_best_L38] at hR
      cases hR
    | succ n ih =>
      intro a6 a7 hR ls hl
      rw [fX4_best_L38] at hR
      refine lv_iload hx hb dX4_best_38 (lv_at hl 5 rfl) ?_
      refine lv_if_le (tgt := 95) hx hb dX4_best_40 (by decide) (fun c1 => ?_) (fun c1 => ?_)
      · rw [if_pos c1] at hR
        exact hκ a6 ls hR (lv_sub hl [4] rfl)
      · rw [if_neg c1] at hR
        refine lv_iload hx hb dX4_best_43 (lv_at hl 5 rfl) ?_
        refine lv_iload hx hb dX4_best_45 (lv_at hl 3 rfl) ?_
        refine lv_isub hx hb dX4_best_47 ?_
        refine lv_iload hx hb dX4_best_48 (lv_at hl 3 rfl) ?_
        refine lv_iand hx hb dX4_best_50 ?_
        refine lv_istore (lv' := [(8, .int ((a7 - (((fX4_freeFor σ wi)) &&& (wo ^^^ ((-1))))) &&& (((fX4_freeFor σ wi)) &&& (wo ^^^ ((-1)))))), (0, .ref (β 0 0)), (3, .int (hd)), (4, .ref (β 5 wi)), (5, .int (((fX4_freeFor σ wi)) &&& (wo ^^^ ((-1))))), (6, .int (a6)), (7, .int (a7))]) hx hb dX4_best_51 hl (Nat.le_of_ble_eq_true rfl) rfl (fun ls hl => ?_)
        refine lv_aload_n hx hb dX4_best_53 rfl (lv_at hl 1 rfl) ?_
        refine lv_iload hx hb dX4_best_54 (lv_at hl 6 rfl) ?_
        refine lv_aload hx hb dX4_best_56 (lv_at hl 3 rfl) ?_
        refine pcV (As := [.int (a7), .ref (β 5 wi)]) (rest := []) hS0 (met_X4_isFilling l D E a7 wi h_wi) q1765 q1767 qs67 q110 q1768 hd_X4_isFilling ⟨Nat.le_of_ble_eq_true rfl, Nat.le_of_ble_eq_true rfl⟩ hG (rcv hG cl_X4 hM.ag) hM rfl hl.1 rfl (Nat.le_of_ble_eq_true rfl) dX4_best_58 ⟨Nat.le_refl _, Nat.le_refl _⟩ ?_
        refine W.eq (g2 := F0 m 61 ls [.int (bI ((fX4_isFilling σ a7 wi)))]) rfl ?_
        refine lb_if_eq (tgt := 88) hx hb dX4_best_61 (by decide) (fun c2 => ?_) (fun c2 => ?_)
        · rw [if_neg c2] at hR
          refine lv_iload hx hb dX4_best_88 (lv_at hl 0 rfl) ?_
          refine lv_istore (lv' := [(7, .int ((a7 - (((fX4_freeFor σ wi)) &&& (wo ^^^ ((-1))))) &&& (((fX4_freeFor σ wi)) &&& (wo ^^^ ((-1)))))), (8, .int ((a7 - (((fX4_freeFor σ wi)) &&& (wo ^^^ ((-1))))) &&& (((fX4_freeFor σ wi)) &&& (wo ^^^ ((-1)))))), (0, .ref (β 0 0)), (3, .int (hd)), (4, .ref (β 5 wi)), (5, .int (((fX4_freeFor σ wi)) &&& (wo ^^^ ((-1))))), (6, .int (a6))]) hx hb dX4_best_90 hl (Nat.le_of_ble_eq_true rfl) rfl (fun ls hl => ?_)
          refine lv_goto (tgt := 38) hx hb dX4_best_92 (by decide) ?_
          exact ih a6 ((a7 - (((fX4_freeFor σ wi)) &&& (wo ^^^ ((-1))))) &&& (((fX4_freeFor σ wi)) &&& (wo ^^^ ((-1)))))  hR ls (lv_sub hl [2, 3, 4, 5, 6, 0] rfl)
        · rw [if_pos c2] at hR
          refine lv_iload hx hb dX4_best_64 (lv_at hl 5 rfl) ?_
          refine lv_iconst (v := (-1)) hx hb dX4_best_66 (by decide) ?_
          refine lv_icmp_eq (tgt := 84) hx hb dX4_best_67 (by decide) (fun c3 => ?_) (fun c3 => ?_)
          · rw [if_pos c3] at hR
            refine lv_iload hx hb dX4_best_84 (lv_at hl 6 rfl) ?_
            refine lv_istore (lv' := [(6, .int (a7)), (8, .int ((a7 - (((fX4_freeFor σ wi)) &&& (wo ^^^ ((-1))))) &&& (((fX4_freeFor σ wi)) &&& (wo ^^^ ((-1)))))), (0, .ref (β 0 0)), (3, .int (hd)), (4, .ref (β 5 wi)), (5, .int (((fX4_freeFor σ wi)) &&& (wo ^^^ ((-1))))), (7, .int (a7))]) hx hb dX4_best_86 hl (Nat.le_of_ble_eq_true rfl) rfl (fun ls hl => ?_)
            refine lv_iload hx hb dX4_best_88 (lv_at hl 1 rfl) ?_
            refine lv_istore (lv' := [(7, .int ((a7 - (((fX4_freeFor σ wi)) &&& (wo ^^^ ((-1))))) &&& (((fX4_freeFor σ wi)) &&& (wo ^^^ ((-1)))))), (6, .int (a7)), (8, .int ((a7 - (((fX4_freeFor σ wi)) &&& (wo ^^^ ((-1))))) &&& (((fX4_freeFor σ wi)) &&& (wo ^^^ ((-1)))))), (0, .ref (β 0 0)), (3, .int (hd)), (4, .ref (β 5 wi)), (5, .int (((fX4_freeFor σ wi)) &&& (wo ^^^ ((-1)))))]) hx hb dX4_best_90 hl (Nat.le_of_ble_eq_true rfl) rfl (fun ls hl => ?_)
            refine lv_goto (tgt := 38) hx hb dX4_best_92 (by decide) ?_
            exact ih a7 ((a7 - (((fX4_freeFor σ wi)) &&& (wo ^^^ ((-1))))) &&& (((fX4_freeFor σ wi)) &&& (wo ^^^ ((-1)))))  hR ls (lv_sub hl [3, 4, 5, 6, 1, 0] rfl)
          · rw [if_neg c3] at hR
            refine lv_aload_n hx hb dX4_best_70 rfl (lv_at hl 1 rfl) ?_
            refine lv_iload hx hb dX4_best_71 (lv_at hl 6 rfl) ?_
            refine lv_iload hx hb dX4_best_73 (lv_at hl 5 rfl) ?_
            refine lv_iload_n hx hb dX4_best_75 rfl (lv_at hl 2 rfl) ?_
            refine lv_aload hx hb dX4_best_76 (lv_at hl 3 rfl) ?_
            refine pcV (As := [.int (a7), .int (a6), .int (hd), .ref (β 5 wi)]) (rest := []) hS0 (met_X4_isBetter l D E a7 a6 hd wi h_wi) q1787 q1789 qs72 q110 q1790 hd_X4_isBetter ⟨Nat.le_of_ble_eq_true rfl, Nat.le_of_ble_eq_true rfl⟩ hG (rcv hG cl_X4 hM.ag) hM rfl hl.1 rfl (Nat.le_of_ble_eq_true rfl) dX4_best_78 ⟨Nat.le_refl _, Nat.le_refl _⟩ ?_
            refine W.eq (g2 := F0 m 81 ls [.int (bI ((fX4_isBetter σ a7 a6 hd wi)))]) rfl ?_
            refine lb_if_eq (tgt := 88) hx hb dX4_best_81 (by decide) (fun c4 => ?_) (fun c4 => ?_)
            · rw [if_neg c4] at hR
              refine lv_iload hx hb dX4_best_88 (lv_at hl 0 rfl) ?_
              refine lv_istore (lv' := [(7, .int ((a7 - (((fX4_freeFor σ wi)) &&& (wo ^^^ ((-1))))) &&& (((fX4_freeFor σ wi)) &&& (wo ^^^ ((-1)))))), (8, .int ((a7 - (((fX4_freeFor σ wi)) &&& (wo ^^^ ((-1))))) &&& (((fX4_freeFor σ wi)) &&& (wo ^^^ ((-1)))))), (0, .ref (β 0 0)), (3, .int (hd)), (4, .ref (β 5 wi)), (5, .int (((fX4_freeFor σ wi)) &&& (wo ^^^ ((-1))))), (6, .int (a6))]) hx hb dX4_best_90 hl (Nat.le_of_ble_eq_true rfl) rfl (fun ls hl => ?_)
              refine lv_goto (tgt := 38) hx hb dX4_best_92 (by decide) ?_
              exact ih a6 ((a7 - (((fX4_freeFor σ wi)) &&& (wo ^^^ ((-1))))) &&& (((fX4_freeFor σ wi)) &&& (wo ^^^ ((-1)))))  hR ls (lv_sub hl [2, 3, 4, 5, 6, 0] rfl)
            · rw [if_pos c4] at hR
              refine lv_iload hx hb dX4_best_84 (lv_at hl 6 rfl) ?_
              refine lv_istore (lv' := [(6, .int (a7)), (8, .int ((a7 - (((fX4_freeFor σ wi)) &&& (wo ^^^ ((-1))))) &&& (((fX4_freeFor σ wi)) &&& (wo ^^^ ((-1)))))), (0, .ref (β 0 0)), (3, .int (hd)), (4, .ref (β 5 wi)), (5, .int (((fX4_freeFor σ wi)) &&& (wo ^^^ ((-1))))), (7, .int (a7))]) hx hb dX4_best_86 hl (Nat.le_of_ble_eq_true rfl) rfl (fun ls hl => ?_)
              refine lv_iload hx hb dX4_best_88 (lv_at hl 1 rfl) ?_
              refine lv_istore (lv' := [(7, .int ((a7 - (((fX4_freeFor σ wi)) &&& (wo ^^^ ((-1))))) &&& (((fX4_freeFor σ wi)) &&& (wo ^^^ ((-1)))))), (6, .int (a7)), (8, .int ((a7 - (((fX4_freeFor σ wi)) &&& (wo ^^^ ((-1))))) &&& (((fX4_freeFor σ wi)) &&& (wo ^^^ ((-1)))))), (0, .ref (β 0 0)), (3, .int (hd)), (4, .ref (β 5 wi)), (5, .int (((fX4_freeFor σ wi)) &&& (wo ^^^ ((-1)))))]) hx hb dX4_best_90 hl (Nat.le_of_ble_eq_true rfl) rfl (fun ls hl => ?_)
              refine lv_goto (tgt := 38) hx hb dX4_best_92 (by decide) ?_
              exact ih a7 ((a7 - (((fX4_freeFor σ wi)) &&& (wo ^^^ ((-1))))) &&& (((fX4_freeFor σ wi)) &&& (wo ^^^ ((-1)))))  hR ls (lv_sub hl [3, 4, 5, 6, 1, 0] rfl)
  unfold fX4_best at hR
  refine lv_aload_n hx hb dX4_best_0 rfl (lv_at hl 0 rfl) ?_
  refine gf (v := .ref (β 1 2)) (C := RX4) (T := TX4) (N := 13) (k := 5) hx hb hts hown hG cl_X4 in_X4 hM.ag (by decide) q1545 rfl dX4_best_1 ?_
  refine lv_iload_n hx hb dX4_best_4 rfl (lv_at hl 1 rfl) ?_
  refine pcV (As := [.int (nI wi)]) (rest := []) hS0 (met_ml_get l D E (j := 2) (by decide) wi h_wi) q1639 q349 q2082 q103 q351 hd_J2_get ⟨Nat.le_of_ble_eq_true rfl, Nat.le_of_ble_eq_true rfl⟩ hG (hM.lsR hG (j := 2) (by decide)) hM rfl hl.1 rfl (Nat.le_of_ble_eq_true rfl) dX4_best_5 ⟨Nat.le_refl _, Nat.le_refl _⟩ ?_
  refine W.eq (g2 := F0 m 8 ls [.ref (β 5 wi)]) rfl ?_
  refine gc (ci := 9) hx hb hown hG cl_X11 (rcv hG cl_X11 (hM.wd h_wi)) (hts _ q1695) dX4_best_8 ?_
  refine lv_astore (lv' := [(4, .ref (β 5 wi)), (0, .ref (β 0 0)), (1, .int (nI wi)), (2, .int (wo)), (3, .int (hd))]) hx hb dX4_best_11 hl (Nat.le_of_ble_eq_true rfl) rfl (fun ls hl => ?_)
  refine lv_aload_n hx hb dX4_best_13 rfl (lv_at hl 1 rfl) ?_
  refine lv_iload_n hx hb dX4_best_14 rfl (lv_at hl 2 rfl) ?_
  refine pcV (As := [.int (nI wi)]) (rest := []) hS0 (met_X4_freeFor l D E wi h_wi) q1757 q1759 qs65 q110 q1760 hd_X4_freeFor ⟨Nat.le_of_ble_eq_true rfl, Nat.le_of_ble_eq_true rfl⟩ hG (rcv hG cl_X4 hM.ag) hM rfl hl.1 rfl (Nat.le_of_ble_eq_true rfl) dX4_best_15 ⟨Nat.le_refl _, Nat.le_refl _⟩ ?_
  refine W.eq (g2 := F0 m 18 ls [.int ((fX4_freeFor σ wi))]) rfl ?_
  refine lv_iload_n hx hb dX4_best_18 rfl (lv_at hl 3 rfl) ?_
  refine lv_iconst (v := (-1)) hx hb dX4_best_19 (by decide) ?_
  refine lv_ixor hx hb dX4_best_20 ?_
  refine lv_iand hx hb dX4_best_21 ?_
  refine lv_istore (lv' := [(5, .int (((fX4_freeFor σ wi)) &&& (wo ^^^ ((-1))))), (4, .ref (β 5 wi)), (0, .ref (β 0 0)), (1, .int (nI wi)), (2, .int (wo)), (3, .int (hd))]) hx hb dX4_best_22 hl (Nat.le_of_ble_eq_true rfl) rfl (fun ls hl => ?_)
  refine lv_iconst (v := (-1)) hx hb dX4_best_24 (by decide) ?_
  refine lv_istore (lv' := [(6, .int (-1)), (5, .int (((fX4_freeFor σ wi)) &&& (wo ^^^ ((-1))))), (4, .ref (β 5 wi)), (0, .ref (β 0 0)), (1, .int (nI wi)), (2, .int (wo)), (3, .int (hd))]) hx hb dX4_best_25 hl (Nat.le_of_ble_eq_true rfl) rfl (fun ls hl => ?_)
  refine lv_iload hx hb dX4_best_27 (lv_at hl 1 rfl) ?_
  refine lv_iload hx hb dX4_best_29 (lv_at hl 1 rfl) ?_
  refine lv_ineg hx hb dX4_best_31 ?_
  refine lv_iand hx hb dX4_best_32 ?_
  refine lv_istore (lv' := [(7, .int ((((fX4_freeFor σ wi)) &&& (wo ^^^ ((-1)))) &&& (-(((fX4_freeFor σ wi)) &&& (wo ^^^ ((-1))))))), (6, .int (-1)), (5, .int (((fX4_freeFor σ wi)) &&& (wo ^^^ ((-1))))), (4, .ref (β 5 wi)), (0, .ref (β 0 0)), (1, .int (nI wi)), (2, .int (wo)), (3, .int (hd))]) hx hb dX4_best_33 hl (Nat.le_of_ble_eq_true rfl) rfl (fun ls hl => ?_)
  refine lv_iconst (v := 0) hx hb dX4_best_35 (by decide) ?_
  refine lv_istore (lv' := [(8, .int 0), (7, .int ((((fX4_freeFor σ wi)) &&& (wo ^^^ ((-1)))) &&& (-(((fX4_freeFor σ wi)) &&& (wo ^^^ ((-1))))))), (6, .int (-1)), (5, .int (((fX4_freeFor σ wi)) &&& (wo ^^^ ((-1))))), (4, .ref (β 5 wi)), (0, .ref (β 0 0)), (1, .int (nI wi)), (2, .int (wo)), (3, .int (hd))]) hx hb dX4_best_36 hl (Nat.le_of_ble_eq_true rfl) rfl (fun ls hl => ?_)
  refine hL38  _ (fun a5 ls hR hl => ?_) 1025 ((-1)) ((((fX4_freeFor σ wi)) &&& (wo ^^^ ((-1)))) &&& (-(((fX4_freeFor σ wi)) &&& (wo ^^^ ((-1))))))  hR ls (lv_sub hl [5, 8, 4, 3, 2, 1] rfl)
  refine lv_iload hx hb dX4_best_95 (lv_at hl 0 rfl) ?_
  exact p_iret hx hb hr hlocks dX4_best_97 (by cases hR; rfl)

def gX4_best (σ : St) (wi : Nat) (wo hd : Int32) : Int32 := (fX4_best σ wi wo hd).getD 0
theorem tot_X4_best (σ : St) (wi : Nat) (wo hd : Int32) (hI : RI σ) : ∃ x, fX4_best σ wi wo hd = some x := sorry
theorem met_gX4_best (l : Launch) (D : va_G) (E : Nat → Nat) {β : Nat → Nat → Nat} {F : Nat → Prop} {σ : St} {th ca : Int32} {sm : Int64} (wi : Nat) (wo hd : Int32) (h_wi : wi < nW σ) : PM l D E yX4_best cX4_best 9 (Option.some Jvm.ClassFile.FieldType.int) 20 435 [.ref (β 0 0), .int (nI wi), .int (wo), .int (hd)] (RM D E β F σ th ca sm) (some (.int (gX4_best σ wi wo hd))) := by
  refine PM.ri (fun hI => ?_)
  obtain ⟨x, hx⟩ := tot_X4_best σ wi wo hd hI
  have e : gX4_best σ wi wo hd = x := by unfold gX4_best; rw [hx]; rfl
  rw [e]
  exact met_X4_best l D E wi wo hd h_wi hx

def fX4_fillings_L24 (σ : St) (wi : Nat)  (κ : Int32 → Option Int32) : Nat → Int32 → Int32 → Option Int32
  | 0, a4, a5 => none
  | n + 1, a4, a5 => (if ((fX4_freeFor σ wi)) < a5 then κ a4 else (if (a5 &&& (((fX4_freeFor σ wi)) ^^^ ((-1)))) = 0 then (if ((fX4_isFilling σ a5 wi)) = true then fX4_fillings_L24 σ wi κ n (a4 + 1) (a5 + 1) else fX4_fillings_L24 σ wi κ n (a4 + 0) (a5 + 1)) else fX4_fillings_L24 σ wi κ n (a4 + 0) (a5 + 1)))
def fX4_fillings (σ : St) (wi : Nat) : Option Int32 :=
  fX4_fillings_L24 σ wi (fun (a4 : Int32) => (some a4)) 1025 0 1
set_option maxHeartbeats 4000000 in
set_option maxRecDepth 100000 in
theorem met_X4_fillings (l : Launch) (D : va_G) (E : Nat → Nat) {β : Nat → Nat → Nat} {F : Nat → Prop} {σ : St} {th ca : Int32} {sm : Int64} (wi : Nat) (h_wi : wi < nW σ) {r : Int32} (hR : fX4_fillings σ wi = some r) : PM l D E yX4_fillings cX4_fillings 6 (Option.some Jvm.ClassFile.FieldType.int) 20 435 [.ref (β 0 0), .int (nI wi)] (RM D E β F σ th ca sm) (some (.int r)) := by
  refine PM.start (by decide) (Nat.le_of_ble_eq_true rfl) ?_
  intro p e s m below meth c ls hx hb hr hml hown hlocks hts hG hM hl
  have hown : s.vm.findClass RX4 = some m.cls := hown
  have hS0 : xS p m c cX4_fillings 6 s _ RX4 := ⟨hx, hb, hml, hown, hts⟩
  have hl : lv_has ls 6 [(0, .ref (β 0 0)), (1, .int (nI wi))] := hl
  have hL24 : ∀ (κ : Int32 → Option Int32) (hκ : ∀ (a4 : Int32) (ls : Array Slot), κ a4 = some r → lv_has ls 6 [(4, .int (a4))] → W p l e { frames := 20, cells := 0, slots := 0, locals := 435 } s m [(.ref (β 0 0) : Value), .int (nI wi)].toArray below meth c s.heap [] 0 0 (MQ below (qP (some (.int r))) [(.ref (β 0 0) : Value), .int (nI wi)].toArray s 0 0 (fun _ => False)) (F0 m 65 ls [])) (n : Nat) (a4 : Int32) (a5 : Int32), fX4_fillings_L24 σ wi κ n a4 a5 = some r → ∀ (ls : Array Slot), lv_has ls 6 [(0, .ref (β 0 0)), (2, .ref (β 5 wi)), (3, .int ((fX4_freeFor σ wi))), (4, .int (a4)), (5, .int (a5))] → W p l e { frames := 20, cells := 0, slots := 0, locals := 435 } s m [(.ref (β 0 0) : Value), .int (nI wi)].toArray below meth c s.heap [] 0 0 (MQ below (qP (some (.int r))) [(.ref (β 0 0) : Value), .int (nI wi)].toArray s 0 0 (fun _ => False)) (F0 m 24 ls []) := by
    intro  κ hκ n
    induction n with
    | zero =>
      intro a4 a5 hR ls hl
      rw [fX4_fillings_L24] at hR
      cases hR
    | succ n ih =>
      intro a4 a5 hR ls hl
      rw [fX4_fillings_L24] at hR
      refine lv_iload hx hb dX4_fillings_24 (lv_at hl 4 rfl) ?_
      refine lv_iload_n hx hb dX4_fillings_26 rfl (lv_at hl 2 rfl) ?_
      refine lv_icmp_gt (tgt := 65) hx hb dX4_fillings_27 (by decide) (fun c1 => ?_) (fun c1 => ?_)
      · rw [if_pos c1] at hR
        exact hκ a4 ls hR (lv_sub hl [3] rfl)
      · rw [if_neg c1] at hR
        refine lv_iload hx hb dX4_fillings_30 (lv_at hl 3 rfl) ?_
        refine lv_iload hx hb dX4_fillings_32 (lv_at hl 4 rfl) ?_
        refine lv_iload_n hx hb dX4_fillings_34 rfl (lv_at hl 2 rfl) ?_
        refine lv_iconst (v := (-1)) hx hb dX4_fillings_35 (by decide) ?_
        refine lv_ixor hx hb dX4_fillings_36 ?_
        refine lv_iand hx hb dX4_fillings_37 ?_
        refine lv_if_ne (tgt := 55) hx hb dX4_fillings_38 (by decide) (fun c2 => ?_) (fun c2 => ?_)
        · rw [if_neg c2] at hR
          refine lv_iconst (v := 0) hx hb dX4_fillings_55 (by decide) ?_
          refine lv_iadd hx hb dX4_fillings_56 ?_
          refine lv_istore (lv' := [(4, .int (a4 + 0)), (0, .ref (β 0 0)), (2, .ref (β 5 wi)), (3, .int ((fX4_freeFor σ wi))), (5, .int (a5))]) hx hb dX4_fillings_57 hl (Nat.le_of_ble_eq_true rfl) rfl (fun ls hl => ?_)
          refine lv_iinc (v := a5 + 1) (lv' := [(5, .int (a5 + 1)), (4, .int (a4 + 0)), (0, .ref (β 0 0)), (2, .ref (β 5 wi)), (3, .int ((fX4_freeFor σ wi)))]) hx hb dX4_fillings_59 hl (k := 4) rfl rfl (Nat.le_of_ble_eq_true rfl) rfl (fun ls hl => ?_)
          refine lv_goto (tgt := 24) hx hb dX4_fillings_62 (by decide) ?_
          exact ih (a4 + 0) (a5 + 1)  hR ls (lv_sub hl [2, 3, 4, 1, 0] rfl)
        · rw [if_pos c2] at hR
          refine lv_aload_n hx hb dX4_fillings_41 rfl (lv_at hl 0 rfl) ?_
          refine lv_iload hx hb dX4_fillings_42 (lv_at hl 4 rfl) ?_
          refine lv_aload_n hx hb dX4_fillings_44 rfl (lv_at hl 1 rfl) ?_
          refine pcV (As := [.int (a5), .ref (β 5 wi)]) (rest := [.int (a4)]) hS0 (met_X4_isFilling l D E a5 wi h_wi) q1765 q1767 qs67 q110 q1768 hd_X4_isFilling ⟨Nat.le_of_ble_eq_true rfl, Nat.le_of_ble_eq_true rfl⟩ hG (rcv hG cl_X4 hM.ag) hM rfl hl.1 rfl (Nat.le_of_ble_eq_true rfl) dX4_fillings_45 ⟨Nat.le_refl _, Nat.le_refl _⟩ ?_
          refine W.eq (g2 := F0 m 48 ls [.int (bI ((fX4_isFilling σ a5 wi))), .int (a4)]) rfl ?_
          refine lb_if_eq (tgt := 55) hx hb dX4_fillings_48 (by decide) (fun c3 => ?_) (fun c3 => ?_)
          · rw [if_neg c3] at hR
            refine lv_iconst (v := 0) hx hb dX4_fillings_55 (by decide) ?_
            refine lv_iadd hx hb dX4_fillings_56 ?_
            refine lv_istore (lv' := [(4, .int (a4 + 0)), (0, .ref (β 0 0)), (2, .ref (β 5 wi)), (3, .int ((fX4_freeFor σ wi))), (5, .int (a5))]) hx hb dX4_fillings_57 hl (Nat.le_of_ble_eq_true rfl) rfl (fun ls hl => ?_)
            refine lv_iinc (v := a5 + 1) (lv' := [(5, .int (a5 + 1)), (4, .int (a4 + 0)), (0, .ref (β 0 0)), (2, .ref (β 5 wi)), (3, .int ((fX4_freeFor σ wi)))]) hx hb dX4_fillings_59 hl (k := 4) rfl rfl (Nat.le_of_ble_eq_true rfl) rfl (fun ls hl => ?_)
            refine lv_goto (tgt := 24) hx hb dX4_fillings_62 (by decide) ?_
            exact ih (a4 + 0) (a5 + 1)  hR ls (lv_sub hl [2, 3, 4, 1, 0] rfl)
          · rw [if_pos c3] at hR
            refine lv_iconst (v := 1) hx hb dX4_fillings_51 (by decide) ?_
            refine lv_goto (tgt := 56) hx hb dX4_fillings_52 (by decide) ?_
            refine lv_iadd hx hb dX4_fillings_56 ?_
            refine lv_istore (lv' := [(4, .int (a4 + 1)), (0, .ref (β 0 0)), (2, .ref (β 5 wi)), (3, .int ((fX4_freeFor σ wi))), (5, .int (a5))]) hx hb dX4_fillings_57 hl (Nat.le_of_ble_eq_true rfl) rfl (fun ls hl => ?_)
            refine lv_iinc (v := a5 + 1) (lv' := [(5, .int (a5 + 1)), (4, .int (a4 + 1)), (0, .ref (β 0 0)), (2, .ref (β 5 wi)), (3, .int ((fX4_freeFor σ wi)))]) hx hb dX4_fillings_59 hl (k := 4) rfl rfl (Nat.le_of_ble_eq_true rfl) rfl (fun ls hl => ?_)
            refine lv_goto (tgt := 24) hx hb dX4_fillings_62 (by decide) ?_
            exact ih (a4 + 1) (a5 + 1)  hR ls (lv_sub hl [2, 3, 4, 1, 0] rfl)
  unfold fX4_fillings at hR
  refine lv_aload_n hx hb dX4_fillings_0 rfl (lv_at hl 0 rfl) ?_
  refine gf (v := .ref (β 1 2)) (C := RX4) (T := TX4) (N := 13) (k := 5) hx hb hts hown hG cl_X4 in_X4 hM.ag (by decide) q1545 rfl dX4_fillings_1 ?_
  refine lv_iload_n hx hb dX4_fillings_4 rfl (lv_at hl 1 rfl) ?_
  refine pcV (As := [.int (nI wi)]) (rest := []) hS0 (met_ml_get l D E (j := 2) (by decide) wi h_wi) q1639 q349 q2082 q103 q351 hd_J2_get ⟨Nat.le_of_ble_eq_true rfl, Nat.le_of_ble_eq_true rfl⟩ hG (hM.lsR hG (j := 2) (by decide)) hM rfl hl.1 rfl (Nat.le_of_ble_eq_true rfl) dX4_fillings_5 ⟨Nat.le_refl _, Nat.le_refl _⟩ ?_
  refine W.eq (g2 := F0 m 8 ls [.ref (β 5 wi)]) rfl ?_
  refine gc (ci := 9) hx hb hown hG cl_X11 (rcv hG cl_X11 (hM.wd h_wi)) (hts _ q1695) dX4_fillings_8 ?_
  refine lv_astore_n (lv' := [(2, .ref (β 5 wi)), (0, .ref (β 0 0)), (1, .int (nI wi))]) hx hb dX4_fillings_11 rfl hl (Nat.le_of_ble_eq_true rfl) rfl (fun ls hl => ?_)
  refine lv_aload_n hx hb dX4_fillings_12 rfl (lv_at hl 1 rfl) ?_
  refine lv_iload_n hx hb dX4_fillings_13 rfl (lv_at hl 2 rfl) ?_
  refine pcV (As := [.int (nI wi)]) (rest := []) hS0 (met_X4_freeFor l D E wi h_wi) q1757 q1759 qs65 q110 q1760 hd_X4_freeFor ⟨Nat.le_of_ble_eq_true rfl, Nat.le_of_ble_eq_true rfl⟩ hG (rcv hG cl_X4 hM.ag) hM rfl hl.1 rfl (Nat.le_of_ble_eq_true rfl) dX4_fillings_14 ⟨Nat.le_refl _, Nat.le_refl _⟩ ?_
  refine W.eq (g2 := F0 m 17 ls [.int ((fX4_freeFor σ wi))]) rfl ?_
  refine lv_istore_n (lv' := [(3, .int ((fX4_freeFor σ wi))), (2, .ref (β 5 wi)), (0, .ref (β 0 0)), (1, .int (nI wi))]) hx hb dX4_fillings_17 rfl hl (Nat.le_of_ble_eq_true rfl) rfl (fun ls hl => ?_)
  refine lv_iconst (v := 0) hx hb dX4_fillings_18 (by decide) ?_
  refine lv_istore (lv' := [(4, .int 0), (3, .int ((fX4_freeFor σ wi))), (2, .ref (β 5 wi)), (0, .ref (β 0 0)), (1, .int (nI wi))]) hx hb dX4_fillings_19 hl (Nat.le_of_ble_eq_true rfl) rfl (fun ls hl => ?_)
  refine lv_iconst (v := 1) hx hb dX4_fillings_21 (by decide) ?_
  refine lv_istore (lv' := [(5, .int 1), (4, .int 0), (3, .int ((fX4_freeFor σ wi))), (2, .ref (β 5 wi)), (0, .ref (β 0 0)), (1, .int (nI wi))]) hx hb dX4_fillings_22 hl (Nat.le_of_ble_eq_true rfl) rfl (fun ls hl => ?_)
  refine hL24  _ (fun a4 ls hR hl => ?_) 1025 0 1  hR ls (lv_sub hl [4, 3, 2, 1, 0] rfl)
  refine lv_iload hx hb dX4_fillings_65 (lv_at hl 0 rfl) ?_
  exact p_iret hx hb hr hlocks dX4_fillings_67 (by cases hR; rfl)

def gX4_fillings (σ : St) (wi : Nat) : Int32 := (fX4_fillings σ wi).getD 0
theorem tot_X4_fillings (σ : St) (wi : Nat) (hI : RI σ) : ∃ x, fX4_fillings σ wi = some x := sorry
theorem met_gX4_fillings (l : Launch) (D : va_G) (E : Nat → Nat) {β : Nat → Nat → Nat} {F : Nat → Prop} {σ : St} {th ca : Int32} {sm : Int64} (wi : Nat) (h_wi : wi < nW σ) : PM l D E yX4_fillings cX4_fillings 6 (Option.some Jvm.ClassFile.FieldType.int) 20 435 [.ref (β 0 0), .int (nI wi)] (RM D E β F σ th ca sm) (some (.int (gX4_fillings σ wi))) := by
  refine PM.ri (fun hI => ?_)
  obtain ⟨x, hx⟩ := tot_X4_fillings σ wi hI
  have e : gX4_fillings σ wi = x := by unfold gX4_fillings; rw [hx]; rfl
  rw [e]
  exact met_X4_fillings l D E wi h_wi hx

def fX4_why_L70 (σ : St) (wi : Nat)  (κ : Int32 → Option Int32) : Nat → Int32 → Int32 → Option Int32
  | 0, a5, a6 => none
  | n + 1, a5, a6 => (if ((fX4_freeFor σ wi)) < a6 then κ a5 else (if (a6 &&& (((fX4_freeFor σ wi)) ^^^ ((-1)))) = 0 then (if (nI (popc a6)) = ((fX4_needed (bShape σ (wBand σ wi)))) then (if (canPlayR σ a6 (bShape σ (wBand σ wi)) 6 0 0) = true then (if ((fX4_areKnown σ a6 (wSongs σ wi))) = true then (some 3) else fX4_why_L70 σ wi κ n 4 (a6 + 1)) else fX4_why_L70 σ wi κ n a5 (a6 + 1)) else fX4_why_L70 σ wi κ n a5 (a6 + 1)) else fX4_why_L70 σ wi κ n a5 (a6 + 1)))
def fX4_why (σ : St) (wi : Nat) : Option Int32 :=
  (if ((fX4_needed (bShape σ (wBand σ wi)))) ≤ (nI (popc ((fX4_freeFor σ wi)))) then (if ((gX4_best σ wi 0 0)) = ((-1)) then fX4_why_L70 σ wi (fun (a8 : Int32) => (some a8)) 1025 2 1 else (some 0)) else (some 1))
set_option maxHeartbeats 4000000 in
set_option maxRecDepth 100000 in
theorem met_X4_why (l : Launch) (D : va_G) (E : Nat → Nat) {β : Nat → Nat → Nat} {F : Nat → Prop} {σ : St} {th ca : Int32} {sm : Int64} (wi : Nat) (h_wi : wi < nW σ) {r : Int32} (hR : fX4_why σ wi = some r) : PM l D E yX4_why cX4_why 7 (Option.some Jvm.ClassFile.FieldType.int) 21 463 [.ref (β 0 0), .int (nI wi)] (RM D E β F σ th ca sm) (some (.int r)) := by
  refine PM.start (by decide) (Nat.le_of_ble_eq_true rfl) ?_
  intro p e s m below meth c ls hx hb hr hml hown hlocks hts hG hM hl
  have hown : s.vm.findClass RX4 = some m.cls := hown
  have hS0 : xS p m c cX4_why 7 s _ RX4 := ⟨hx, hb, hml, hown, hts⟩
  have hl : lv_has ls 7 [(0, .ref (β 0 0)), (1, .int (nI wi))] := hl
  have hL70 : ∀ (κ : Int32 → Option Int32) (hκ : ∀ (a5 : Int32) (ls : Array Slot), κ a5 = some r → lv_has ls 7 [(5, .int (a5))] → W p l e { frames := 21, cells := 0, slots := 0, locals := 463 } s m [(.ref (β 0 0) : Value), .int (nI wi)].toArray below meth c s.heap [] 0 0 (MQ below (qP (some (.int r))) [(.ref (β 0 0) : Value), .int (nI wi)].toArray s 0 0 (fun _ => False)) (F0 m 138 ls [])) (n : Nat) (a5 : Int32) (a6 : Int32), fX4_why_L70 σ wi κ n a5 a6 = some r → ∀ (ls : Array Slot), lv_has ls 7 [(0, .ref (β 0 0)), (2, .ref (β 5 wi)), (3, .int (bShape σ (wBand σ wi))), (4, .int ((fX4_freeFor σ wi))), (5, .int (a5)), (6, .int (a6))] → W p l e { frames := 21, cells := 0, slots := 0, locals := 463 } s m [(.ref (β 0 0) : Value), .int (nI wi)].toArray below meth c s.heap [] 0 0 (MQ below (qP (some (.int r))) [(.ref (β 0 0) : Value), .int (nI wi)].toArray s 0 0 (fun _ => False)) (F0 m 70 ls []) := by
    intro  κ hκ n
    induction n with
    | zero =>
      intro a5 a6 hR ls hl
      rw [fX4_why_L70] at hR
      cases hR
    | succ n ih =>
      intro a5 a6 hR ls hl
      rw [fX4_why_L70] at hR
      refine lv_iload hx hb dX4_why_70 (lv_at hl 5 rfl) ?_
      refine lv_iload hx hb dX4_why_72 (lv_at hl 3 rfl) ?_
      refine lv_icmp_gt (tgt := 138) hx hb dX4_why_74 (by decide) (fun c3 => ?_) (fun c3 => ?_)
      · rw [if_pos c3] at hR
        exact hκ a5 ls hR (lv_sub hl [4] rfl)
      · rw [if_neg c3] at hR
        refine lv_iload hx hb dX4_why_77 (lv_at hl 5 rfl) ?_
        refine lv_iload hx hb dX4_why_79 (lv_at hl 3 rfl) ?_
        refine lv_iconst (v := (-1)) hx hb dX4_why_81 (by decide) ?_
        refine lv_ixor hx hb dX4_why_82 ?_
        refine lv_iand hx hb dX4_why_83 ?_
        refine lv_if_ne (tgt := 132) hx hb dX4_why_84 (by decide) (fun c4 => ?_) (fun c4 => ?_)
        · rw [if_neg c4] at hR
          refine lv_iinc (v := a6 + 1) (lv' := [(6, .int (a6 + 1)), (0, .ref (β 0 0)), (2, .ref (β 5 wi)), (3, .int (bShape σ (wBand σ wi))), (4, .int ((fX4_freeFor σ wi))), (5, .int (a5))]) hx hb dX4_why_132 hl (k := 5) rfl rfl (Nat.le_of_ble_eq_true rfl) rfl (fun ls hl => ?_)
          refine lv_goto (tgt := 70) hx hb dX4_why_135 (by decide) ?_
          exact ih a5 (a6 + 1)  hR ls (lv_sub hl [1, 2, 3, 4, 5, 0] rfl)
        · rw [if_pos c4] at hR
          refine lv_iload hx hb dX4_why_87 (lv_at hl 5 rfl) ?_
          refine pcS (As := [.int (a6)]) (rest := []) hS0 (met_bitCount l D E a6) q1640 q1641 q125 q1642 hd_J17_bitCount ⟨Nat.le_of_ble_eq_true rfl, Nat.le_of_ble_eq_true rfl⟩ hG trivial rfl hl.1 rfl (Nat.le_of_ble_eq_true rfl) dX4_why_89 ⟨Nat.le_refl _, Nat.le_refl _⟩ ?_
          refine W.eq (g2 := F0 m 92 ls [.int (nI (popc a6))]) rfl ?_
          refine lv_iload_n hx hb dX4_why_92 rfl (lv_at hl 2 rfl) ?_
          refine pcS (As := [.int (bShape σ (wBand σ wi))]) (rest := [.int (nI (popc a6))]) hS0 (met_X4_needed l D E (bShape σ (wBand σ wi))) q1672 q1673 q110 q1674 hd_X4_needed ⟨Nat.le_of_ble_eq_true rfl, Nat.le_of_ble_eq_true rfl⟩ hG trivial rfl hl.1 rfl (Nat.le_of_ble_eq_true rfl) dX4_why_93 ⟨Nat.le_refl _, Nat.le_refl _⟩ ?_
          refine W.eq (g2 := F0 m 96 ls [.int ((fX4_needed (bShape σ (wBand σ wi)))), .int (nI (popc a6))]) rfl ?_
          refine lv_icmp_ne (tgt := 132) hx hb dX4_why_96 (by decide) (fun c5 => ?_) (fun c5 => ?_)
          · rw [if_neg c5] at hR
            refine lv_iinc (v := a6 + 1) (lv' := [(6, .int (a6 + 1)), (0, .ref (β 0 0)), (2, .ref (β 5 wi)), (3, .int (bShape σ (wBand σ wi))), (4, .int ((fX4_freeFor σ wi))), (5, .int (a5))]) hx hb dX4_why_132 hl (k := 5) rfl rfl (Nat.le_of_ble_eq_true rfl) rfl (fun ls hl => ?_)
            refine lv_goto (tgt := 70) hx hb dX4_why_135 (by decide) ?_
            exact ih a5 (a6 + 1)  hR ls (lv_sub hl [1, 2, 3, 4, 5, 0] rfl)
          · rw [if_pos c5] at hR
            refine lv_aload_n hx hb dX4_why_99 rfl (lv_at hl 0 rfl) ?_
            refine lv_iload hx hb dX4_why_100 (lv_at hl 5 rfl) ?_
            refine lv_iload_n hx hb dX4_why_102 rfl (lv_at hl 2 rfl) ?_
            refine lv_iconst (v := 0) hx hb dX4_why_103 (by decide) ?_
            refine lv_iconst (v := 0) hx hb dX4_why_104 (by decide) ?_
            refine pcV (As := [.int (a6), .int (bShape σ (wBand σ wi)), .int 0, .int 0]) (rest := []) hS0 (met_canPlay l D E a6 (bShape σ (wBand σ wi)) 0) q1783 q1785 qs71 q110 q1786 hd_X4_canPlay ⟨Nat.le_of_ble_eq_true rfl, Nat.le_of_ble_eq_true rfl⟩ hG (rcv hG cl_X4 hM.ag) hM rfl hl.1 rfl (Nat.le_of_ble_eq_true rfl) dX4_why_105 ⟨Nat.le_refl _, Nat.le_refl _⟩ ?_
            refine W.eq (g2 := F0 m 108 ls [.int (bI (canPlayR σ a6 (bShape σ (wBand σ wi)) 6 0 0))]) rfl ?_
            refine lb_if_ne (tgt := 114) hx hb dX4_why_108 (by decide) (fun c6 => ?_) (fun c6 => ?_)
            · rw [if_pos c6] at hR
              refine lv_aload_n hx hb dX4_why_114 rfl (lv_at hl 0 rfl) ?_
              refine lv_iload hx hb dX4_why_115 (lv_at hl 5 rfl) ?_
              refine lv_aload_n hx hb dX4_why_117 rfl (lv_at hl 1 rfl) ?_
              refine gfN (v := .int (wSongs σ wi)) (C := RX11) (T := TX11) (N := 12) (k := 5) hx hb hts hown hG cl_X11 in_X11 (hM.wd h_wi) (by decide) q1708 rfl dX4_why_118 ?_
              refine pcV (As := [.int (a6), .int (wSongs σ wi)]) (rest := []) hS0 (met_X4_areKnown l D E a6 (wSongs σ wi)) q1775 q1777 qs69 q110 q1778 hd_X4_areKnown ⟨Nat.le_of_ble_eq_true rfl, Nat.le_of_ble_eq_true rfl⟩ hG (rcv hG cl_X4 hM.ag) hM rfl hl.1 rfl (Nat.le_of_ble_eq_true rfl) dX4_why_121 ⟨Nat.le_refl _, Nat.le_refl _⟩ ?_
              refine W.eq (g2 := F0 m 124 ls [.int (bI ((fX4_areKnown σ a6 (wSongs σ wi))))]) rfl ?_
              refine lb_if_eq (tgt := 129) hx hb dX4_why_124 (by decide) (fun c7 => ?_) (fun c7 => ?_)
              · rw [if_neg c7] at hR
                refine lv_iconst (v := 4) hx hb dX4_why_129 (by decide) ?_
                refine lv_istore (lv' := [(5, .int 4), (0, .ref (β 0 0)), (2, .ref (β 5 wi)), (3, .int (bShape σ (wBand σ wi))), (4, .int ((fX4_freeFor σ wi))), (6, .int (a6))]) hx hb dX4_why_130 hl (Nat.le_of_ble_eq_true rfl) rfl (fun ls hl => ?_)
                refine lv_iinc (v := a6 + 1) (lv' := [(6, .int (a6 + 1)), (5, .int 4), (0, .ref (β 0 0)), (2, .ref (β 5 wi)), (3, .int (bShape σ (wBand σ wi))), (4, .int ((fX4_freeFor σ wi)))]) hx hb dX4_why_132 hl (k := 5) rfl rfl (Nat.le_of_ble_eq_true rfl) rfl (fun ls hl => ?_)
                refine lv_goto (tgt := 70) hx hb dX4_why_135 (by decide) ?_
                exact ih 4 (a6 + 1)  hR ls (lv_sub hl [2, 3, 4, 5, 1, 0] rfl)
              · rw [if_pos c7] at hR
                refine lv_iconst (v := 3) hx hb dX4_why_127 (by decide) ?_
                exact p_iret hx hb hr hlocks dX4_why_128 (by cases hR; rfl)
            · rw [if_neg c6] at hR
              refine lv_goto (tgt := 132) hx hb dX4_why_111 (by decide) ?_
              refine lv_iinc (v := a6 + 1) (lv' := [(6, .int (a6 + 1)), (0, .ref (β 0 0)), (2, .ref (β 5 wi)), (3, .int (bShape σ (wBand σ wi))), (4, .int ((fX4_freeFor σ wi))), (5, .int (a5))]) hx hb dX4_why_132 hl (k := 5) rfl rfl (Nat.le_of_ble_eq_true rfl) rfl (fun ls hl => ?_)
              refine lv_goto (tgt := 70) hx hb dX4_why_135 (by decide) ?_
              exact ih a5 (a6 + 1)  hR ls (lv_sub hl [1, 2, 3, 4, 5, 0] rfl)
  unfold fX4_why at hR
  refine lv_aload_n hx hb dX4_why_0 rfl (lv_at hl 0 rfl) ?_
  refine gf (v := .ref (β 1 2)) (C := RX4) (T := TX4) (N := 13) (k := 5) hx hb hts hown hG cl_X4 in_X4 hM.ag (by decide) q1545 rfl dX4_why_1 ?_
  refine lv_iload_n hx hb dX4_why_4 rfl (lv_at hl 1 rfl) ?_
  refine pcV (As := [.int (nI wi)]) (rest := []) hS0 (met_ml_get l D E (j := 2) (by decide) wi h_wi) q1639 q349 q2082 q103 q351 hd_J2_get ⟨Nat.le_of_ble_eq_true rfl, Nat.le_of_ble_eq_true rfl⟩ hG (hM.lsR hG (j := 2) (by decide)) hM rfl hl.1 rfl (Nat.le_of_ble_eq_true rfl) dX4_why_5 ⟨Nat.le_refl _, Nat.le_refl _⟩ ?_
  refine W.eq (g2 := F0 m 8 ls [.ref (β 5 wi)]) rfl ?_
  refine gc (ci := 9) hx hb hown hG cl_X11 (rcv hG cl_X11 (hM.wd h_wi)) (hts _ q1695) dX4_why_8 ?_
  refine lv_astore_n (lv' := [(2, .ref (β 5 wi)), (0, .ref (β 0 0)), (1, .int (nI wi))]) hx hb dX4_why_11 rfl hl (Nat.le_of_ble_eq_true rfl) rfl (fun ls hl => ?_)
  refine lv_aload_n hx hb dX4_why_12 rfl (lv_at hl 1 rfl) ?_
  refine gf (v := .ref (β 1 1)) (C := RX4) (T := TX4) (N := 13) (k := 4) hx hb hts hown hG cl_X4 in_X4 hM.ag (by decide) q1544 rfl dX4_why_13 ?_
  refine lv_aload_n hx hb dX4_why_16 rfl (lv_at hl 0 rfl) ?_
  refine gfN (v := .int (nI (wBand σ wi))) (C := RX11) (T := TX11) (N := 12) (k := 0) hx hb hts hown hG cl_X11 in_X11 (hM.wd h_wi) (by decide) q1701 rfl dX4_why_17 ?_
  refine pcV (As := [.int (nI (wBand σ wi))]) (rest := []) hS0 (met_ml_get l D E (j := 1) (by decide) (wBand σ wi) (hM.band h_wi)) q1639 q349 q2082 q103 q351 hd_J2_get ⟨Nat.le_of_ble_eq_true rfl, Nat.le_of_ble_eq_true rfl⟩ hG (hM.lsR hG (j := 1) (by decide)) hM rfl hl.1 rfl (Nat.le_of_ble_eq_true rfl) dX4_why_20 ⟨Nat.le_refl _, Nat.le_refl _⟩ ?_
  refine W.eq (g2 := F0 m 23 ls [.ref (β 9 (wBand σ wi))]) rfl ?_
  refine gc (ci := 14) hx hb hown hG cl_J17 (hM.bxR hG (hM.band h_wi)) (hts _ q1769) dX4_why_23 ?_
  refine pcV (As := []) (rest := []) hS0 (met_J17_intValue l D E (wBand σ wi) (hM.band h_wi)) q1770 q657 q658 q125 q659 hd_J17_intValue ⟨Nat.le_of_ble_eq_true rfl, Nat.le_of_ble_eq_true rfl⟩ hG (hM.bxR hG (hM.band h_wi)) hM rfl hl.1 rfl (Nat.le_of_ble_eq_true rfl) dX4_why_26 ⟨Nat.le_refl _, Nat.le_refl _⟩ ?_
  refine W.eq (g2 := F0 m 29 ls [.int (bShape σ (wBand σ wi))]) rfl ?_
  refine lv_istore_n (lv' := [(3, .int (bShape σ (wBand σ wi))), (2, .ref (β 5 wi)), (0, .ref (β 0 0)), (1, .int (nI wi))]) hx hb dX4_why_29 rfl hl (Nat.le_of_ble_eq_true rfl) rfl (fun ls hl => ?_)
  refine lv_aload_n hx hb dX4_why_30 rfl (lv_at hl 2 rfl) ?_
  refine lv_iload_n hx hb dX4_why_31 rfl (lv_at hl 3 rfl) ?_
  refine pcV (As := [.int (nI wi)]) (rest := []) hS0 (met_X4_freeFor l D E wi h_wi) q1757 q1759 qs65 q110 q1760 hd_X4_freeFor ⟨Nat.le_of_ble_eq_true rfl, Nat.le_of_ble_eq_true rfl⟩ hG (rcv hG cl_X4 hM.ag) hM rfl hl.1 rfl (Nat.le_of_ble_eq_true rfl) dX4_why_32 ⟨Nat.le_refl _, Nat.le_refl _⟩ ?_
  refine W.eq (g2 := F0 m 35 ls [.int ((fX4_freeFor σ wi))]) rfl ?_
  refine lv_istore (lv' := [(4, .int ((fX4_freeFor σ wi))), (3, .int (bShape σ (wBand σ wi))), (2, .ref (β 5 wi)), (0, .ref (β 0 0)), (1, .int (nI wi))]) hx hb dX4_why_35 hl (Nat.le_of_ble_eq_true rfl) rfl (fun ls hl => ?_)
  refine lv_iload hx hb dX4_why_37 (lv_at hl 0 rfl) ?_
  refine pcS (As := [.int ((fX4_freeFor σ wi))]) (rest := []) hS0 (met_bitCount l D E ((fX4_freeFor σ wi))) q1640 q1641 q125 q1642 hd_J17_bitCount ⟨Nat.le_of_ble_eq_true rfl, Nat.le_of_ble_eq_true rfl⟩ hG trivial rfl hl.1 rfl (Nat.le_of_ble_eq_true rfl) dX4_why_39 ⟨Nat.le_refl _, Nat.le_refl _⟩ ?_
  refine W.eq (g2 := F0 m 42 ls [.int (nI (popc ((fX4_freeFor σ wi))))]) rfl ?_
  refine lv_iload_n hx hb dX4_why_42 rfl (lv_at hl 1 rfl) ?_
  refine pcS (As := [.int (bShape σ (wBand σ wi))]) (rest := [.int (nI (popc ((fX4_freeFor σ wi))))]) hS0 (met_X4_needed l D E (bShape σ (wBand σ wi))) q1672 q1673 q110 q1674 hd_X4_needed ⟨Nat.le_of_ble_eq_true rfl, Nat.le_of_ble_eq_true rfl⟩ hG trivial rfl hl.1 rfl (Nat.le_of_ble_eq_true rfl) dX4_why_43 ⟨Nat.le_refl _, Nat.le_refl _⟩ ?_
  refine W.eq (g2 := F0 m 46 ls [.int ((fX4_needed (bShape σ (wBand σ wi)))), .int (nI (popc ((fX4_freeFor σ wi))))]) rfl ?_
  refine lv_icmp_ge (tgt := 51) hx hb dX4_why_46 (by decide) (fun c1 => ?_) (fun c1 => ?_)
  · rw [if_pos c1] at hR
    refine lv_aload_n hx hb dX4_why_51 rfl (lv_at hl 3 rfl) ?_
    refine lv_iload_n hx hb dX4_why_52 rfl (lv_at hl 4 rfl) ?_
    refine lv_iconst (v := 0) hx hb dX4_why_53 (by decide) ?_
    refine lv_iconst (v := 0) hx hb dX4_why_54 (by decide) ?_
    refine pcV (As := [.int (nI wi), .int 0, .int 0]) (rest := []) hS0 (met_gX4_best l D E wi 0 0 h_wi) q1753 q1755 qs64 q110 q1756 hd_X4_best ⟨Nat.le_of_ble_eq_true rfl, Nat.le_of_ble_eq_true rfl⟩ hG (rcv hG cl_X4 hM.ag) hM rfl hl.1 rfl (Nat.le_of_ble_eq_true rfl) dX4_why_55 ⟨Nat.le_refl _, Nat.le_refl _⟩ ?_
    refine W.eq (g2 := F0 m 58 ls [.int ((gX4_best σ wi 0 0))]) rfl ?_
    refine lv_iconst (v := (-1)) hx hb dX4_why_58 (by decide) ?_
    refine lv_icmp_eq (tgt := 64) hx hb dX4_why_59 (by decide) (fun c2 => ?_) (fun c2 => ?_)
    · rw [if_pos c2] at hR
      refine lv_iconst (v := 2) hx hb dX4_why_64 (by decide) ?_
      refine lv_istore (lv' := [(5, .int 2), (4, .int ((fX4_freeFor σ wi))), (3, .int (bShape σ (wBand σ wi))), (2, .ref (β 5 wi)), (0, .ref (β 0 0)), (1, .int (nI wi))]) hx hb dX4_why_65 hl (Nat.le_of_ble_eq_true rfl) rfl (fun ls hl => ?_)
      refine lv_iconst (v := 1) hx hb dX4_why_67 (by decide) ?_
      refine lv_istore (lv' := [(6, .int 1), (5, .int 2), (4, .int ((fX4_freeFor σ wi))), (3, .int (bShape σ (wBand σ wi))), (2, .ref (β 5 wi)), (0, .ref (β 0 0)), (1, .int (nI wi))]) hx hb dX4_why_68 hl (Nat.le_of_ble_eq_true rfl) rfl (fun ls hl => ?_)
      refine hL70  _ (fun a8 ls hR hl => ?_) 1025 2 1  hR ls (lv_sub hl [5, 4, 3, 2, 1, 0] rfl)
      refine lv_iload hx hb dX4_why_138 (lv_at hl 0 rfl) ?_
      exact p_iret hx hb hr hlocks dX4_why_140 (by cases hR; rfl)
    · rw [if_neg c2] at hR
      refine lv_iconst (v := 0) hx hb dX4_why_62 (by decide) ?_
      exact p_iret hx hb hr hlocks dX4_why_63 (by cases hR; rfl)
  · rw [if_neg c1] at hR
    refine lv_iconst (v := 1) hx hb dX4_why_49 (by decide) ?_
    exact p_iret hx hb hr hlocks dX4_why_50 (by cases hR; rfl)

def gX4_why (σ : St) (wi : Nat) : Int32 := (fX4_why σ wi).getD 0
theorem tot_X4_why (σ : St) (wi : Nat) (hI : RI σ) : ∃ x, fX4_why σ wi = some x := sorry
theorem met_gX4_why (l : Launch) (D : va_G) (E : Nat → Nat) {β : Nat → Nat → Nat} {F : Nat → Prop} {σ : St} {th ca : Int32} {sm : Int64} (wi : Nat) (h_wi : wi < nW σ) : PM l D E yX4_why cX4_why 7 (Option.some Jvm.ClassFile.FieldType.int) 21 463 [.ref (β 0 0), .int (nI wi)] (RM D E β F σ th ca sm) (some (.int (gX4_why σ wi))) := by
  refine PM.ri (fun hI => ?_)
  obtain ⟨x, hx⟩ := tot_X4_why σ wi hI
  have e : gX4_why σ wi = x := by unfold gX4_why; rw [hx]; rfl
  rw [e]
  exact met_X4_why l D E wi h_wi hx

def fX4_fillingNow (σ : St) (wi : Nat) (q : Int32) : Int32 :=
  (if q = 2 then (gX4_fillings σ wi) else (if q = 3 then (gX4_why σ wi) else (if q = 0 then (gX4_best σ wi 0 0) else (if ((gX4_best σ wi 0 0)) = ((-1)) then (gX4_best σ wi 0 0) else (fX4_costOf σ ((gX4_best σ wi 0 0)) wi)))))
set_option maxHeartbeats 4000000 in
set_option maxRecDepth 100000 in
theorem met_X4_fillingNow (l : Launch) (D : va_G) (E : Nat → Nat) {β : Nat → Nat → Nat} {F : Nat → Prop} {σ : St} {th ca : Int32} {sm : Int64} (wi : Nat) (q : Int32) (h_wi : wi < nW σ) : PM l D E yX4_fillingNow cX4_fillingNow 4 (Option.some Jvm.ClassFile.FieldType.int) 22 489 [.ref (β 0 0), .int (nI wi), .int (q)] (RM D E β F σ th ca sm) (some (.int (fX4_fillingNow σ wi q))) := by
  generalize hR : fX4_fillingNow σ wi q = r
  refine PM.start (by decide) (Nat.le_of_ble_eq_true rfl) ?_
  intro p e s m below meth c ls hx hb hr hml hown hlocks hts hG hM hl
  have hown : s.vm.findClass RX4 = some m.cls := hown
  have hS0 : xS p m c cX4_fillingNow 4 s _ RX4 := ⟨hx, hb, hml, hown, hts⟩
  have hl : lv_has ls 4 [(0, .ref (β 0 0)), (1, .int (nI wi)), (2, .int (q))] := hl
  unfold fX4_fillingNow at hR
  refine lv_iload_n hx hb dX4_fillingNow_0 rfl (lv_at hl 2 rfl) ?_
  refine lv_iconst (v := 2) hx hb dX4_fillingNow_1 (by decide) ?_
  refine lv_icmp_ne (tgt := 11) hx hb dX4_fillingNow_2 (by decide) (fun c1 => ?_) (fun c1 => ?_)
  · rw [if_neg c1] at hR
    refine lv_iload_n hx hb dX4_fillingNow_11 rfl (lv_at hl 2 rfl) ?_
    refine lv_iconst (v := 3) hx hb dX4_fillingNow_12 (by decide) ?_
    refine lv_icmp_ne (tgt := 22) hx hb dX4_fillingNow_13 (by decide) (fun c2 => ?_) (fun c2 => ?_)
    · rw [if_neg c2] at hR
      refine lv_aload_n hx hb dX4_fillingNow_22 rfl (lv_at hl 0 rfl) ?_
      refine lv_iload_n hx hb dX4_fillingNow_23 rfl (lv_at hl 1 rfl) ?_
      refine lv_iconst (v := 0) hx hb dX4_fillingNow_24 (by decide) ?_
      refine lv_iconst (v := 0) hx hb dX4_fillingNow_25 (by decide) ?_
      refine pcV (As := [.int (nI wi), .int 0, .int 0]) (rest := []) hS0 (met_gX4_best l D E wi 0 0 h_wi) q1753 q1755 qs64 q110 q1756 hd_X4_best ⟨Nat.le_of_ble_eq_true rfl, Nat.le_of_ble_eq_true rfl⟩ hG (rcv hG cl_X4 hM.ag) hM rfl hl.1 rfl (Nat.le_of_ble_eq_true rfl) dX4_fillingNow_26 ⟨Nat.le_refl _, Nat.le_refl _⟩ ?_
      refine W.eq (g2 := F0 m 29 ls [.int ((gX4_best σ wi 0 0))]) rfl ?_
      refine lv_istore_n (lv' := [(3, .int ((gX4_best σ wi 0 0))), (0, .ref (β 0 0)), (1, .int (nI wi)), (2, .int (q))]) hx hb dX4_fillingNow_29 rfl hl (Nat.le_of_ble_eq_true rfl) rfl (fun ls hl => ?_)
      refine lv_iload_n hx hb dX4_fillingNow_30 rfl (lv_at hl 3 rfl) ?_
      refine lv_if_eq (tgt := 39) hx hb dX4_fillingNow_31 (by decide) (fun c3 => ?_) (fun c3 => ?_)
      · rw [if_pos c3] at hR
        refine lv_iload_n hx hb dX4_fillingNow_39 rfl (lv_at hl 0 rfl) ?_
        refine lv_goto (tgt := 59) hx hb dX4_fillingNow_40 (by decide) ?_
        exact p_iret hx hb hr hlocks dX4_fillingNow_59 (by rw [← hR])
      · rw [if_neg c3] at hR
        refine lv_iload_n hx hb dX4_fillingNow_34 rfl (lv_at hl 0 rfl) ?_
        refine lv_iconst (v := (-1)) hx hb dX4_fillingNow_35 (by decide) ?_
        refine lv_icmp_ne (tgt := 43) hx hb dX4_fillingNow_36 (by decide) (fun c4 => ?_) (fun c4 => ?_)
        · rw [if_neg c4] at hR
          refine lv_aload_n hx hb dX4_fillingNow_43 rfl (lv_at hl 1 rfl) ?_
          refine lv_iload_n hx hb dX4_fillingNow_44 rfl (lv_at hl 0 rfl) ?_
          refine lv_aload_n hx hb dX4_fillingNow_45 rfl (lv_at hl 1 rfl) ?_
          refine gf (v := .ref (β 1 2)) (C := RX4) (T := TX4) (N := 13) (k := 5) hx hb hts hown hG cl_X4 in_X4 hM.ag (by decide) q1545 rfl dX4_fillingNow_46 ?_
          refine lv_iload_n hx hb dX4_fillingNow_49 rfl (lv_at hl 2 rfl) ?_
          refine pcV (As := [.int (nI wi)]) (rest := [.int ((gX4_best σ wi 0 0)), .ref (β 0 0)]) hS0 (met_ml_get l D E (j := 2) (by decide) wi h_wi) q1639 q349 q2082 q103 q351 hd_J2_get ⟨Nat.le_of_ble_eq_true rfl, Nat.le_of_ble_eq_true rfl⟩ hG (hM.lsR hG (j := 2) (by decide)) hM rfl hl.1 rfl (Nat.le_of_ble_eq_true rfl) dX4_fillingNow_50 ⟨Nat.le_refl _, Nat.le_refl _⟩ ?_
          refine W.eq (g2 := F0 m 53 ls [.ref (β 5 wi), .int ((gX4_best σ wi 0 0)), .ref (β 0 0)]) rfl ?_
          refine gc (ci := 9) hx hb hown hG cl_X11 (rcv hG cl_X11 (hM.wd h_wi)) (hts _ q1695) dX4_fillingNow_53 ?_
          refine pcV (As := [.int ((gX4_best σ wi 0 0)), .ref (β 5 wi)]) (rest := []) hS0 (met_X4_costOf l D E ((gX4_best σ wi 0 0)) wi h_wi) q1791 q1793 qs73 q110 q1794 hd_X4_costOf ⟨Nat.le_of_ble_eq_true rfl, Nat.le_of_ble_eq_true rfl⟩ hG (rcv hG cl_X4 hM.ag) hM rfl hl.1 rfl (Nat.le_of_ble_eq_true rfl) dX4_fillingNow_56 ⟨Nat.le_refl _, Nat.le_refl _⟩ ?_
          refine W.eq (g2 := F0 m 59 ls [.int ((fX4_costOf σ ((gX4_best σ wi 0 0)) wi))]) rfl ?_
          exact p_iret hx hb hr hlocks dX4_fillingNow_59 (by rw [← hR])
        · rw [if_pos c4] at hR
          refine lv_iload_n hx hb dX4_fillingNow_39 rfl (lv_at hl 0 rfl) ?_
          refine lv_goto (tgt := 59) hx hb dX4_fillingNow_40 (by decide) ?_
          exact p_iret hx hb hr hlocks dX4_fillingNow_59 (by rw [← hR])
    · rw [if_pos c2] at hR
      refine lv_aload_n hx hb dX4_fillingNow_16 rfl (lv_at hl 0 rfl) ?_
      refine lv_iload_n hx hb dX4_fillingNow_17 rfl (lv_at hl 1 rfl) ?_
      refine pcV (As := [.int (nI wi)]) (rest := []) hS0 (met_gX4_why l D E wi h_wi) q1969 q1971 qs92 q110 q1972 hd_X4_why ⟨Nat.le_of_ble_eq_true rfl, Nat.le_of_ble_eq_true rfl⟩ hG (rcv hG cl_X4 hM.ag) hM rfl hl.1 rfl (Nat.le_of_ble_eq_true rfl) dX4_fillingNow_18 ⟨Nat.le_refl _, Nat.le_refl _⟩ ?_
      refine W.eq (g2 := F0 m 21 ls [.int ((gX4_why σ wi))]) rfl ?_
      exact p_iret hx hb hr hlocks dX4_fillingNow_21 (by rw [← hR])
  · rw [if_pos c1] at hR
    refine lv_aload_n hx hb dX4_fillingNow_5 rfl (lv_at hl 0 rfl) ?_
    refine lv_iload_n hx hb dX4_fillingNow_6 rfl (lv_at hl 1 rfl) ?_
    refine pcV (As := [.int (nI wi)]) (rest := []) hS0 (met_gX4_fillings l D E wi h_wi) q1965 q1967 qs91 q110 q1968 hd_X4_fillings ⟨Nat.le_of_ble_eq_true rfl, Nat.le_of_ble_eq_true rfl⟩ hG (rcv hG cl_X4 hM.ag) hM rfl hl.1 rfl (Nat.le_of_ble_eq_true rfl) dX4_fillingNow_7 ⟨Nat.le_refl _, Nat.le_refl _⟩ ?_
    refine W.eq (g2 := F0 m 10 ls [.int ((gX4_fillings σ wi))]) rfl ?_
    exact p_iret hx hb hr hlocks dX4_fillingNow_10 (by rw [← hR])

def fX4_ofBandNow_L54 (σ : St) (b : Nat) (q : Nat)  (κ : Int32 → Int32) : Nat → Nat → Int32 → Int32
  | 0, i4, a3 => κ a3
  | n + 1, i4, a3 => (if (nI (wBand σ i4)) = (nI b) then (if (nI q) = 7 then fX4_ofBandNow_L54 σ b q κ n (i4 + 1) (a3 + 1) else (if (nI (wState σ i4)) = 2 then fX4_ofBandNow_L54 σ b q κ n (i4 + 1) (a3 + 1) else fX4_ofBandNow_L54 σ b q κ n (i4 + 1) (a3 + 0))) else fX4_ofBandNow_L54 σ b q κ n (i4 + 1) (a3 + 0))
def fX4_ofBandNow (σ : St) (b : Nat) (q : Nat) : Int32 :=
  (if 6 ≤ (nI q) then (if (nI q) = 6 then (fX4_needed (bShape σ b)) else fX4_ofBandNow_L54 σ b q (fun (a6 : Int32) => a6) (nW σ) 0 0) else (fX4_needed_2 (bShape σ b) q))
set_option maxHeartbeats 4000000 in
set_option maxRecDepth 100000 in
theorem met_X4_ofBandNow (l : Launch) (D : va_G) (E : Nat → Nat) {β : Nat → Nat → Nat} {F : Nat → Prop} {σ : St} {th ca : Int32} {sm : Int64} (b : Nat) (q : Nat) (h_b : b < nB σ) (h_q : q < 9) : PM l D E yX4_ofBandNow cX4_ofBandNow 5 (Option.some Jvm.ClassFile.FieldType.int) 3 64 [.ref (β 0 0), .int (nI b), .int (nI q)] (RM D E β F σ th ca sm) (some (.int (fX4_ofBandNow σ b q))) := by
  generalize hR : fX4_ofBandNow σ b q = r
  refine PM.start (by decide) (Nat.le_of_ble_eq_true rfl) ?_
  intro p e s m below meth c ls hx hb hr hml hown hlocks hts hG hM hl
  have hown : s.vm.findClass RX4 = some m.cls := hown
  have hS0 : xS p m c cX4_ofBandNow 5 s _ RX4 := ⟨hx, hb, hml, hown, hts⟩
  have hl : lv_has ls 5 [(0, .ref (β 0 0)), (1, .int (nI b)), (2, .int (nI q))] := hl
  have hL54 : ∀ (κ : Int32 → Int32) (hκ : ∀ (a3 : Int32) (ls : Array Slot), κ a3 = r → lv_has ls 5 [(3, .int (a3))] → W p l e { frames := 3, cells := 0, slots := 0, locals := 64 } s m [(.ref (β 0 0) : Value), .int (nI b), .int (nI q)].toArray below meth c s.heap [] 0 0 (MQ below (qP (some (.int r))) [(.ref (β 0 0) : Value), .int (nI b), .int (nI q)].toArray s 0 0 (fun _ => False)) (F0 m 124 ls [])) (n : Nat) (i4 : Nat) (a3 : Int32), i4 + n = nW σ → fX4_ofBandNow_L54 σ b q κ n i4 a3 = r → ∀ (ls : Array Slot), lv_has ls 5 [(0, .ref (β 0 0)), (1, .int (nI b)), (2, .int (nI q)), (3, .int (a3)), (4, .int (nI i4))] → W p l e { frames := 3, cells := 0, slots := 0, locals := 64 } s m [(.ref (β 0 0) : Value), .int (nI b), .int (nI q)].toArray below meth c s.heap [] 0 0 (MQ below (qP (some (.int r))) [(.ref (β 0 0) : Value), .int (nI b), .int (nI q)].toArray s 0 0 (fun _ => False)) (F0 m 54 ls []) := by
    intro  κ hκ n
    induction n with
    | zero =>
      intro i4 a3 hn hR ls hl
      rw [fX4_ofBandNow_L54] at hR
      refine lv_iload hx hb dX4_ofBandNow_54 (lv_at hl 4 rfl) ?_
      refine lv_aload_n hx hb dX4_ofBandNow_56 rfl (lv_at hl 0 rfl) ?_
      refine gf (v := .ref (β 1 2)) (C := RX4) (T := TX4) (N := 13) (k := 5) hx hb hts hown hG cl_X4 in_X4 hM.ag (by decide) q1545 rfl dX4_ofBandNow_57 ?_
      refine pcV (As := []) (rest := [.int (nI i4)]) hS0 (met_ml_size l D E (j := 2) (by decide)) q1600 q336 q2080 q103 q338 hd_J2_size ⟨Nat.le_of_ble_eq_true rfl, Nat.le_of_ble_eq_true rfl⟩ hG (hM.lsR hG (j := 2) (by decide)) hM rfl hl.1 rfl (Nat.le_of_ble_eq_true rfl) dX4_ofBandNow_60 ⟨Nat.le_refl _, Nat.le_refl _⟩ ?_
      refine W.eq (g2 := F0 m 63 ls [.int (nI (nW σ)), .int (nI i4)]) rfl ?_
      refine lk_ge_out (k := i4) (N := nW σ) hx hb hn (tgt := 124) dX4_ofBandNow_63 (by decide) ?_
      exact hκ a3 ls hR (lv_sub hl [3] rfl)
    | succ n ih =>
      intro i4 a3 hn hR ls hl
      rw [fX4_ofBandNow_L54] at hR
      refine lv_iload hx hb dX4_ofBandNow_54 (lv_at hl 4 rfl) ?_
      refine lv_aload_n hx hb dX4_ofBandNow_56 rfl (lv_at hl 0 rfl) ?_
      refine gf (v := .ref (β 1 2)) (C := RX4) (T := TX4) (N := 13) (k := 5) hx hb hts hown hG cl_X4 in_X4 hM.ag (by decide) q1545 rfl dX4_ofBandNow_57 ?_
      refine pcV (As := []) (rest := [.int (nI i4)]) hS0 (met_ml_size l D E (j := 2) (by decide)) q1600 q336 q2080 q103 q338 hd_J2_size ⟨Nat.le_of_ble_eq_true rfl, Nat.le_of_ble_eq_true rfl⟩ hG (hM.lsR hG (j := 2) (by decide)) hM rfl hl.1 rfl (Nat.le_of_ble_eq_true rfl) dX4_ofBandNow_60 ⟨Nat.le_refl _, Nat.le_refl _⟩ ?_
      refine W.eq (g2 := F0 m 63 ls [.int (nI (nW σ)), .int (nI i4)]) rfl ?_
      have hki4 : i4 < nW σ := lk_lt hn
      refine lk_ge_in (k := i4) (N := nW σ) hx hb hki4 (by have := hM.nW14; omega) (tgt := 124) dX4_ofBandNow_63 (by decide) ?_
      refine lv_iload_n hx hb dX4_ofBandNow_66 rfl (lv_at hl 3 rfl) ?_
      refine lv_aload_n hx hb dX4_ofBandNow_67 rfl (lv_at hl 0 rfl) ?_
      refine gf (v := .ref (β 1 2)) (C := RX4) (T := TX4) (N := 13) (k := 5) hx hb hts hown hG cl_X4 in_X4 hM.ag (by decide) q1545 rfl dX4_ofBandNow_68 ?_
      refine lv_iload hx hb dX4_ofBandNow_71 (lv_at hl 4 rfl) ?_
      refine pcV (As := [.int (nI i4)]) (rest := [.int (a3)]) hS0 (met_ml_get l D E (j := 2) (by decide) i4 hki4) q1639 q349 q2082 q103 q351 hd_J2_get ⟨Nat.le_of_ble_eq_true rfl, Nat.le_of_ble_eq_true rfl⟩ hG (hM.lsR hG (j := 2) (by decide)) hM rfl hl.1 rfl (Nat.le_of_ble_eq_true rfl) dX4_ofBandNow_73 ⟨Nat.le_refl _, Nat.le_refl _⟩ ?_
      refine W.eq (g2 := F0 m 76 ls [.ref (β 5 i4), .int (a3)]) rfl ?_
      refine gc (ci := 9) hx hb hown hG cl_X11 (rcv hG cl_X11 (hM.wd hki4)) (hts _ q1695) dX4_ofBandNow_76 ?_
      refine gfN (v := .int (nI (wBand σ i4))) (C := RX11) (T := TX11) (N := 12) (k := 0) hx hb hts hown hG cl_X11 in_X11 (hM.wd hki4) (by decide) q1701 rfl dX4_ofBandNow_79 ?_
      refine lv_iload_n hx hb dX4_ofBandNow_82 rfl (lv_at hl 1 rfl) ?_
      refine lv_icmp_ne (tgt := 115) hx hb dX4_ofBandNow_83 (by decide) (fun c3 => ?_) (fun c3 => ?_)
      · rw [if_neg c3] at hR
        refine lv_iconst (v := 0) hx hb dX4_ofBandNow_115 (by decide) ?_
        refine lv_iadd hx hb dX4_ofBandNow_116 ?_
        refine lv_istore_n (lv' := [(3, .int (a3 + 0)), (0, .ref (β 0 0)), (1, .int (nI b)), (2, .int (nI q)), (4, .int (nI i4))]) hx hb dX4_ofBandNow_117 rfl hl (Nat.le_of_ble_eq_true rfl) rfl (fun ls hl => ?_)
        refine lv_iinc (v := nI (i4 + 1)) (lv' := [(4, .int (nI (i4 + 1))), (3, .int (a3 + 0)), (0, .ref (β 0 0)), (1, .int (nI b)), (2, .int (nI q))]) hx hb dX4_ofBandNow_118 hl (k := 4) rfl (nI_1 i4) (Nat.le_of_ble_eq_true rfl) rfl (fun ls hl => ?_)
        refine lv_goto (tgt := 54) hx hb dX4_ofBandNow_121 (by decide) ?_
        exact ih (i4 + 1) (a3 + 0) (lk_st hn) hR ls (lv_sub hl [2, 3, 4, 1, 0] rfl)
      · rw [if_pos c3] at hR
        refine lv_iload_n hx hb dX4_ofBandNow_86 rfl (lv_at hl 2 rfl) ?_
        refine lv_bipush (v := 7) hx hb dX4_ofBandNow_87 (by decide) ?_
        refine lv_icmp_eq (tgt := 111) hx hb dX4_ofBandNow_89 (by decide) (fun c4 => ?_) (fun c4 => ?_)
        · rw [if_pos c4] at hR
          refine lv_iconst (v := 1) hx hb dX4_ofBandNow_111 (by decide) ?_
          refine lv_goto (tgt := 116) hx hb dX4_ofBandNow_112 (by decide) ?_
          refine lv_iadd hx hb dX4_ofBandNow_116 ?_
          refine lv_istore_n (lv' := [(3, .int (a3 + 1)), (0, .ref (β 0 0)), (1, .int (nI b)), (2, .int (nI q)), (4, .int (nI i4))]) hx hb dX4_ofBandNow_117 rfl hl (Nat.le_of_ble_eq_true rfl) rfl (fun ls hl => ?_)
          refine lv_iinc (v := nI (i4 + 1)) (lv' := [(4, .int (nI (i4 + 1))), (3, .int (a3 + 1)), (0, .ref (β 0 0)), (1, .int (nI b)), (2, .int (nI q))]) hx hb dX4_ofBandNow_118 hl (k := 4) rfl (nI_1 i4) (Nat.le_of_ble_eq_true rfl) rfl (fun ls hl => ?_)
          refine lv_goto (tgt := 54) hx hb dX4_ofBandNow_121 (by decide) ?_
          exact ih (i4 + 1) (a3 + 1) (lk_st hn) hR ls (lv_sub hl [2, 3, 4, 1, 0] rfl)
        · rw [if_neg c4] at hR
          refine lv_aload_n hx hb dX4_ofBandNow_92 rfl (lv_at hl 0 rfl) ?_
          refine gf (v := .ref (β 1 2)) (C := RX4) (T := TX4) (N := 13) (k := 5) hx hb hts hown hG cl_X4 in_X4 hM.ag (by decide) q1545 rfl dX4_ofBandNow_93 ?_
          refine lv_iload hx hb dX4_ofBandNow_96 (lv_at hl 4 rfl) ?_
          refine pcV (As := [.int (nI i4)]) (rest := [.int (a3)]) hS0 (met_ml_get l D E (j := 2) (by decide) i4 hki4) q1639 q349 q2082 q103 q351 hd_J2_get ⟨Nat.le_of_ble_eq_true rfl, Nat.le_of_ble_eq_true rfl⟩ hG (hM.lsR hG (j := 2) (by decide)) hM rfl hl.1 rfl (Nat.le_of_ble_eq_true rfl) dX4_ofBandNow_98 ⟨Nat.le_refl _, Nat.le_refl _⟩ ?_
          refine W.eq (g2 := F0 m 101 ls [.ref (β 5 i4), .int (a3)]) rfl ?_
          refine gc (ci := 9) hx hb hown hG cl_X11 (rcv hG cl_X11 (hM.wd hki4)) (hts _ q1695) dX4_ofBandNow_101 ?_
          refine gfN (v := .int (nI (wState σ i4))) (C := RX11) (T := TX11) (N := 12) (k := 7) hx hb hts hown hG cl_X11 in_X11 (hM.wd hki4) (by decide) q1710 rfl dX4_ofBandNow_104 ?_
          refine lv_iconst (v := 2) hx hb dX4_ofBandNow_107 (by decide) ?_
          refine lv_icmp_ne (tgt := 115) hx hb dX4_ofBandNow_108 (by decide) (fun c5 => ?_) (fun c5 => ?_)
          · rw [if_neg c5] at hR
            refine lv_iconst (v := 0) hx hb dX4_ofBandNow_115 (by decide) ?_
            refine lv_iadd hx hb dX4_ofBandNow_116 ?_
            refine lv_istore_n (lv' := [(3, .int (a3 + 0)), (0, .ref (β 0 0)), (1, .int (nI b)), (2, .int (nI q)), (4, .int (nI i4))]) hx hb dX4_ofBandNow_117 rfl hl (Nat.le_of_ble_eq_true rfl) rfl (fun ls hl => ?_)
            refine lv_iinc (v := nI (i4 + 1)) (lv' := [(4, .int (nI (i4 + 1))), (3, .int (a3 + 0)), (0, .ref (β 0 0)), (1, .int (nI b)), (2, .int (nI q))]) hx hb dX4_ofBandNow_118 hl (k := 4) rfl (nI_1 i4) (Nat.le_of_ble_eq_true rfl) rfl (fun ls hl => ?_)
            refine lv_goto (tgt := 54) hx hb dX4_ofBandNow_121 (by decide) ?_
            exact ih (i4 + 1) (a3 + 0) (lk_st hn) hR ls (lv_sub hl [2, 3, 4, 1, 0] rfl)
          · rw [if_pos c5] at hR
            refine lv_iconst (v := 1) hx hb dX4_ofBandNow_111 (by decide) ?_
            refine lv_goto (tgt := 116) hx hb dX4_ofBandNow_112 (by decide) ?_
            refine lv_iadd hx hb dX4_ofBandNow_116 ?_
            refine lv_istore_n (lv' := [(3, .int (a3 + 1)), (0, .ref (β 0 0)), (1, .int (nI b)), (2, .int (nI q)), (4, .int (nI i4))]) hx hb dX4_ofBandNow_117 rfl hl (Nat.le_of_ble_eq_true rfl) rfl (fun ls hl => ?_)
            refine lv_iinc (v := nI (i4 + 1)) (lv' := [(4, .int (nI (i4 + 1))), (3, .int (a3 + 1)), (0, .ref (β 0 0)), (1, .int (nI b)), (2, .int (nI q))]) hx hb dX4_ofBandNow_118 hl (k := 4) rfl (nI_1 i4) (Nat.le_of_ble_eq_true rfl) rfl (fun ls hl => ?_)
            refine lv_goto (tgt := 54) hx hb dX4_ofBandNow_121 (by decide) ?_
            exact ih (i4 + 1) (a3 + 1) (lk_st hn) hR ls (lv_sub hl [2, 3, 4, 1, 0] rfl)
  unfold fX4_ofBandNow at hR
  refine lv_iload_n hx hb dX4_ofBandNow_0 rfl (lv_at hl 2 rfl) ?_
  refine lv_bipush (v := 6) hx hb dX4_ofBandNow_1 (by decide) ?_
  refine lv_icmp_ge (tgt := 25) hx hb dX4_ofBandNow_3 (by decide) (fun c1 => ?_) (fun c1 => ?_)
  · rw [if_pos c1] at hR
    refine lv_iload_n hx hb dX4_ofBandNow_25 rfl (lv_at hl 2 rfl) ?_
    refine lv_bipush (v := 6) hx hb dX4_ofBandNow_26 (by decide) ?_
    refine lv_icmp_ne (tgt := 49) hx hb dX4_ofBandNow_28 (by decide) (fun c2 => ?_) (fun c2 => ?_)
    · rw [if_neg c2] at hR
      refine lv_iconst (v := 0) hx hb dX4_ofBandNow_49 (by decide) ?_
      refine lv_istore_n (lv' := [(3, .int 0), (0, .ref (β 0 0)), (1, .int (nI b)), (2, .int (nI q))]) hx hb dX4_ofBandNow_50 rfl hl (Nat.le_of_ble_eq_true rfl) rfl (fun ls hl => ?_)
      refine lv_iconst (v := 0) hx hb dX4_ofBandNow_51 (by decide) ?_
      refine lv_istore (lv' := [(4, .int 0), (3, .int 0), (0, .ref (β 0 0)), (1, .int (nI b)), (2, .int (nI q))]) hx hb dX4_ofBandNow_52 hl (Nat.le_of_ble_eq_true rfl) rfl (fun ls hl => ?_)
      refine hL54  _ (fun a6 ls hR hl => ?_) (nW σ) 0 0 (Nat.zero_add _) hR ls (lv_sub hl [2, 3, 4, 1, 0] rfl)
      refine lv_iload_n hx hb dX4_ofBandNow_124 rfl (lv_at hl 0 rfl) ?_
      exact p_iret hx hb hr hlocks dX4_ofBandNow_125 (by rw [← hR])
    · rw [if_pos c2] at hR
      refine lv_aload_n hx hb dX4_ofBandNow_31 rfl (lv_at hl 0 rfl) ?_
      refine gf (v := .ref (β 1 1)) (C := RX4) (T := TX4) (N := 13) (k := 4) hx hb hts hown hG cl_X4 in_X4 hM.ag (by decide) q1544 rfl dX4_ofBandNow_32 ?_
      refine lv_iload_n hx hb dX4_ofBandNow_35 rfl (lv_at hl 1 rfl) ?_
      refine pcV (As := [.int (nI b)]) (rest := []) hS0 (met_ml_get l D E (j := 1) (by decide) b h_b) q1639 q349 q2082 q103 q351 hd_J2_get ⟨Nat.le_of_ble_eq_true rfl, Nat.le_of_ble_eq_true rfl⟩ hG (hM.lsR hG (j := 1) (by decide)) hM rfl hl.1 rfl (Nat.le_of_ble_eq_true rfl) dX4_ofBandNow_36 ⟨Nat.le_refl _, Nat.le_refl _⟩ ?_
      refine W.eq (g2 := F0 m 39 ls [.ref (β 9 b)]) rfl ?_
      refine gc (ci := 14) hx hb hown hG cl_J17 (hM.bxR hG h_b) (hts _ q1769) dX4_ofBandNow_39 ?_
      refine pcV (As := []) (rest := []) hS0 (met_J17_intValue l D E b h_b) q1770 q657 q658 q125 q659 hd_J17_intValue ⟨Nat.le_of_ble_eq_true rfl, Nat.le_of_ble_eq_true rfl⟩ hG (hM.bxR hG h_b) hM rfl hl.1 rfl (Nat.le_of_ble_eq_true rfl) dX4_ofBandNow_42 ⟨Nat.le_refl _, Nat.le_refl _⟩ ?_
      refine W.eq (g2 := F0 m 45 ls [.int (bShape σ b)]) rfl ?_
      refine pcS (As := [.int (bShape σ b)]) (rest := []) hS0 (met_X4_needed l D E (bShape σ b)) q1672 q1673 q110 q1674 hd_X4_needed ⟨Nat.le_of_ble_eq_true rfl, Nat.le_of_ble_eq_true rfl⟩ hG trivial rfl hl.1 rfl (Nat.le_of_ble_eq_true rfl) dX4_ofBandNow_45 ⟨Nat.le_refl _, Nat.le_refl _⟩ ?_
      refine W.eq (g2 := F0 m 48 ls [.int ((fX4_needed (bShape σ b)))]) rfl ?_
      exact p_iret hx hb hr hlocks dX4_ofBandNow_48 (by rw [← hR])
  · rw [if_neg c1] at hR
    refine lv_aload_n hx hb dX4_ofBandNow_6 rfl (lv_at hl 0 rfl) ?_
    refine gf (v := .ref (β 1 1)) (C := RX4) (T := TX4) (N := 13) (k := 4) hx hb hts hown hG cl_X4 in_X4 hM.ag (by decide) q1544 rfl dX4_ofBandNow_7 ?_
    refine lv_iload_n hx hb dX4_ofBandNow_10 rfl (lv_at hl 1 rfl) ?_
    refine pcV (As := [.int (nI b)]) (rest := []) hS0 (met_ml_get l D E (j := 1) (by decide) b h_b) q1639 q349 q2082 q103 q351 hd_J2_get ⟨Nat.le_of_ble_eq_true rfl, Nat.le_of_ble_eq_true rfl⟩ hG (hM.lsR hG (j := 1) (by decide)) hM rfl hl.1 rfl (Nat.le_of_ble_eq_true rfl) dX4_ofBandNow_11 ⟨Nat.le_refl _, Nat.le_refl _⟩ ?_
    refine W.eq (g2 := F0 m 14 ls [.ref (β 9 b)]) rfl ?_
    refine gc (ci := 14) hx hb hown hG cl_J17 (hM.bxR hG h_b) (hts _ q1769) dX4_ofBandNow_14 ?_
    refine pcV (As := []) (rest := []) hS0 (met_J17_intValue l D E b h_b) q1770 q657 q658 q125 q659 hd_J17_intValue ⟨Nat.le_of_ble_eq_true rfl, Nat.le_of_ble_eq_true rfl⟩ hG (hM.bxR hG h_b) hM rfl hl.1 rfl (Nat.le_of_ble_eq_true rfl) dX4_ofBandNow_17 ⟨Nat.le_refl _, Nat.le_refl _⟩ ?_
    refine W.eq (g2 := F0 m 20 ls [.int (bShape σ b)]) rfl ?_
    refine lv_iload_n hx hb dX4_ofBandNow_20 rfl (lv_at hl 2 rfl) ?_
    refine pcS (As := [.int (bShape σ b), .int (nI q)]) (rest := []) hS0 (met_X4_needed_2 l D E (bShape σ b) q (nlt_of (k := 6) (by decide) (by omega) c1)) q1675 q1676 q110 q1677 hd_X4_needed_2 ⟨Nat.le_of_ble_eq_true rfl, Nat.le_of_ble_eq_true rfl⟩ hG trivial rfl hl.1 rfl (Nat.le_of_ble_eq_true rfl) dX4_ofBandNow_21 ⟨Nat.le_refl _, Nat.le_refl _⟩ ?_
    refine W.eq (g2 := F0 m 24 ls [.int ((fX4_needed_2 (bShape σ b) q))]) rfl ?_
    exact p_iret hx hb hr hlocks dX4_ofBandNow_24 (by rw [← hR])

def fX4_deskNow10_L192 (σ : St)  (κ : Int32 → Int32) : Nat → Nat → Int32 → Int32
  | 0, i3, a2 => κ a2
  | n + 1, i3, a2 => fX4_deskNow10_L192 σ κ n (i3 + 1) (a2 + (pEarned σ i3))
def fX4_deskNow10 (σ : St) : Int32 :=
  fX4_deskNow10_L192 σ (fun (a1 : Int32) => a1) (nP σ) 0 0
set_option maxHeartbeats 4000000 in
set_option maxRecDepth 100000 in
theorem met_X4_deskNow10 (l : Launch) (D : va_G) (E : Nat → Nat) {β : Nat → Nat → Nat} {F : Nat → Prop} {σ : St} {th ca : Int32} {sm : Int64}   : PM l D E yX4_deskNow cX4_deskNow 8 (Option.some Jvm.ClassFile.FieldType.int) 3 64 [.ref (β 0 0), .int 10] (RM D E β F σ th ca sm) (some (.int (fX4_deskNow10 σ))) := by
  generalize hR : fX4_deskNow10 σ = r
  refine PM.start (by decide) (Nat.le_of_ble_eq_true rfl) ?_
  intro p e s m below meth c ls hx hb hr hml hown hlocks hts hG hM hl
  have hown : s.vm.findClass RX4 = some m.cls := hown
  have hS0 : xS p m c cX4_deskNow 8 s _ RX4 := ⟨hx, hb, hml, hown, hts⟩
  have hl : lv_has ls 8 [(0, .ref (β 0 0)), (1, .int 10)] := hl
  have hL192 : ∀ (κ : Int32 → Int32) (hκ : ∀ (a2 : Int32) (ls : Array Slot), κ a2 = r → lv_has ls 8 [(2, .int (a2))] → W p l e { frames := 3, cells := 0, slots := 0, locals := 64 } s m [(.ref (β 0 0) : Value), .int 10].toArray below meth c s.heap [] 0 0 (MQ below (qP (some (.int r))) [(.ref (β 0 0) : Value), .int 10].toArray s 0 0 (fun _ => False)) (F0 m 226 ls [])) (n : Nat) (i3 : Nat) (a2 : Int32), i3 + n = nP σ → fX4_deskNow10_L192 σ κ n i3 a2 = r → ∀ (ls : Array Slot), lv_has ls 8 [(0, .ref (β 0 0)), (2, .int (a2)), (3, .int (nI i3))] → W p l e { frames := 3, cells := 0, slots := 0, locals := 64 } s m [(.ref (β 0 0) : Value), .int 10].toArray below meth c s.heap [] 0 0 (MQ below (qP (some (.int r))) [(.ref (β 0 0) : Value), .int 10].toArray s 0 0 (fun _ => False)) (F0 m 192 ls []) := by
    intro  κ hκ n
    induction n with
    | zero =>
      intro i3 a2 hn hR ls hl
      rw [fX4_deskNow10_L192] at hR
      refine lv_iload_n hx hb dX4_deskNow_192 rfl (lv_at hl 2 rfl) ?_
      refine lv_aload_n hx hb dX4_deskNow_193 rfl (lv_at hl 0 rfl) ?_
      refine gf (v := .ref (β 1 0)) (C := RX4) (T := TX4) (N := 13) (k := 3) hx hb hts hown hG cl_X4 in_X4 hM.ag (by decide) q1543 rfl dX4_deskNow_194 ?_
      refine pcV (As := []) (rest := [.int (nI i3)]) hS0 (met_ml_size l D E (j := 0) (by decide)) q1600 q336 q2080 q103 q338 hd_J2_size ⟨Nat.le_of_ble_eq_true rfl, Nat.le_of_ble_eq_true rfl⟩ hG (hM.lsR hG (j := 0) (by decide)) hM rfl hl.1 rfl (Nat.le_of_ble_eq_true rfl) dX4_deskNow_197 ⟨Nat.le_refl _, Nat.le_refl _⟩ ?_
      refine W.eq (g2 := F0 m 200 ls [.int (nI (nP σ)), .int (nI i3)]) rfl ?_
      refine lk_ge_out (k := i3) (N := nP σ) hx hb hn (tgt := 226) dX4_deskNow_200 (by decide) ?_
      exact hκ a2 ls hR (lv_sub hl [1] rfl)
    | succ n ih =>
      intro i3 a2 hn hR ls hl
      rw [fX4_deskNow10_L192] at hR
      refine lv_iload_n hx hb dX4_deskNow_192 rfl (lv_at hl 2 rfl) ?_
      refine lv_aload_n hx hb dX4_deskNow_193 rfl (lv_at hl 0 rfl) ?_
      refine gf (v := .ref (β 1 0)) (C := RX4) (T := TX4) (N := 13) (k := 3) hx hb hts hown hG cl_X4 in_X4 hM.ag (by decide) q1543 rfl dX4_deskNow_194 ?_
      refine pcV (As := []) (rest := [.int (nI i3)]) hS0 (met_ml_size l D E (j := 0) (by decide)) q1600 q336 q2080 q103 q338 hd_J2_size ⟨Nat.le_of_ble_eq_true rfl, Nat.le_of_ble_eq_true rfl⟩ hG (hM.lsR hG (j := 0) (by decide)) hM rfl hl.1 rfl (Nat.le_of_ble_eq_true rfl) dX4_deskNow_197 ⟨Nat.le_refl _, Nat.le_refl _⟩ ?_
      refine W.eq (g2 := F0 m 200 ls [.int (nI (nP σ)), .int (nI i3)]) rfl ?_
      have hki3 : i3 < nP σ := lk_lt hn
      refine lk_ge_in (k := i3) (N := nP σ) hx hb hki3 (by have := hM.nP10; omega) (tgt := 226) dX4_deskNow_200 (by decide) ?_
      refine lv_iload_n hx hb dX4_deskNow_203 rfl (lv_at hl 1 rfl) ?_
      refine lv_aload_n hx hb dX4_deskNow_204 rfl (lv_at hl 0 rfl) ?_
      refine gf (v := .ref (β 1 0)) (C := RX4) (T := TX4) (N := 13) (k := 3) hx hb hts hown hG cl_X4 in_X4 hM.ag (by decide) q1543 rfl dX4_deskNow_205 ?_
      refine lv_iload_n hx hb dX4_deskNow_208 rfl (lv_at hl 2 rfl) ?_
      refine pcV (As := [.int (nI i3)]) (rest := [.int (a2)]) hS0 (met_ml_get l D E (j := 0) (by decide) i3 hki3) q1639 q349 q2082 q103 q351 hd_J2_get ⟨Nat.le_of_ble_eq_true rfl, Nat.le_of_ble_eq_true rfl⟩ hG (hM.lsR hG (j := 0) (by decide)) hM rfl hl.1 rfl (Nat.le_of_ble_eq_true rfl) dX4_deskNow_209 ⟨Nat.le_refl _, Nat.le_refl _⟩ ?_
      refine W.eq (g2 := F0 m 212 ls [.ref (β 3 i3), .int (a2)]) rfl ?_
      refine gc (ci := 6) hx hb hown hG cl_X7 (rcv hG cl_X7 (hM.pl hki3)) (hts _ q1601) dX4_deskNow_212 ?_
      refine gfN (v := .int (pEarned σ i3)) (C := RX7) (T := TX7) (N := 7) (k := 5) hx hb hts hown hG cl_X7 in_X7 (hM.pl hki3) (by decide) q1612 rfl dX4_deskNow_215 ?_
      refine lv_iadd hx hb dX4_deskNow_218 ?_
      refine lv_istore_n (lv' := [(2, .int (a2 + (pEarned σ i3))), (0, .ref (β 0 0)), (3, .int (nI i3))]) hx hb dX4_deskNow_219 rfl hl (Nat.le_of_ble_eq_true rfl) rfl (fun ls hl => ?_)
      refine lv_iinc (v := nI (i3 + 1)) (lv' := [(3, .int (nI (i3 + 1))), (2, .int (a2 + (pEarned σ i3))), (0, .ref (β 0 0))]) hx hb dX4_deskNow_220 hl (k := 2) rfl (nI_1 i3) (Nat.le_of_ble_eq_true rfl) rfl (fun ls hl => ?_)
      refine lv_goto (tgt := 192) hx hb dX4_deskNow_223 (by decide) ?_
      exact ih (i3 + 1) (a2 + (pEarned σ i3)) (lk_st hn) hR ls (lv_sub hl [2, 1, 0] rfl)
  unfold fX4_deskNow10 at hR
  refine lv_iconst (v := 0) hx hb dX4_deskNow_0 (by decide) ?_
  refine lv_istore_n (lv' := [(2, .int 0), (0, .ref (β 0 0)), (1, .int 10)]) hx hb dX4_deskNow_1 rfl hl (Nat.le_of_ble_eq_true rfl) rfl (fun ls hl => ?_)
  refine lv_iload_n hx hb dX4_deskNow_2 rfl (lv_at hl 2 rfl) ?_
  refine lv_tableIn (x := 10) (off := 187) (tgt := 190) hx hb dX4_deskNow_3 (by decide) (by decide) (by decide) (by decide) ?_
  refine lv_iconst (v := 0) hx hb dX4_deskNow_190 (by decide) ?_
  refine lv_istore_n (lv' := [(3, .int 0), (2, .int 0), (0, .ref (β 0 0)), (1, .int 10)]) hx hb dX4_deskNow_191 rfl hl (Nat.le_of_ble_eq_true rfl) rfl (fun ls hl => ?_)
  refine hL192  _ (fun a1 ls hR hl => ?_) (nP σ) 0 0 (Nat.zero_add _) hR ls (lv_sub hl [2, 1, 0] rfl)
  refine lv_iload_n hx hb dX4_deskNow_226 rfl (lv_at hl 0 rfl) ?_
  exact p_iret hx hb hr hlocks dX4_deskNow_227 (by rw [← hR])

def fX4_isSoundNow_L87 (σ : St) (ca : Int32) (i3 : Nat) (a1 : Int32) (κ : Bool) : Nat → Nat → Bool
  | 0, i5 => κ
  | n + 1, i5 => (if (nI (wState σ i5)) = 1 then (if (nI (wBand σ i5)) = (nI (wBand σ i3)) then (if (nI (wDay σ i5)) = (nI (wDay σ i3)) then false else fX4_isSoundNow_L87 σ ca i3 a1 κ n (i5 + 1)) else fX4_isSoundNow_L87 σ ca i3 a1 κ n (i5 + 1)) else fX4_isSoundNow_L87 σ ca i3 a1 κ n (i5 + 1))
def fX4_isSoundNow_L6 (σ : St) (ca : Int32)  (κ : Int32 → Bool) : Nat → Nat → Int32 → Bool
  | 0, i3, a1 => κ a1
  | n + 1, i3, a1 => (if (nI (wState σ i3)) = 1 then (if (nI (popc (wSet σ i3))) = ((fX4_needed (bShape σ (wBand σ i3)))) then fX4_isSoundNow_L87 σ ca i3 a1 (fX4_isSoundNow_L6 σ ca κ n (i3 + 1) (a1 + (wPaid σ i3))) i3 0 else false) else fX4_isSoundNow_L6 σ ca κ n (i3 + 1) (a1 + (wPaid σ i3)))
def fX4_isSoundNow_L158 (σ : St) (ca : Int32) (a6 : Int32) (κ : Int32 → Bool) : Nat → Nat → Int32 → Bool
  | 0, i3, a2 => κ a2
  | n + 1, i3, a2 => fX4_isSoundNow_L158 σ ca a6 κ n (i3 + 1) (a2 + ((fX4_share σ i3)))
def fX4_isSoundNow (σ : St) (ca : Int32) : Bool :=
  fX4_isSoundNow_L6 σ ca (fun (a6 : Int32) => fX4_isSoundNow_L158 σ ca a6 (fun (a7 : Int32) => (if ca = (a6 - ((fX4_deskNow10 σ))) then (if 1000 < a7 then false else true) else false)) 16 0 0) (nW σ) 0 0
set_option maxHeartbeats 4000000 in
set_option maxRecDepth 100000 in
theorem met_X4_isSoundNow (l : Launch) (D : va_G) (E : Nat → Nat) {β : Nat → Nat → Nat} {F : Nat → Prop} {σ : St} {th ca : Int32} {sm : Int64}   : PM l D E yX4_isSoundNow cX4_isSoundNow 7 (Option.some Jvm.ClassFile.FieldType.boolean) 4 91 [.ref (β 0 0)] (RM D E β F σ th ca sm) (some (.int (bI (fX4_isSoundNow σ ca)))) := by
  generalize hR : fX4_isSoundNow σ ca = r
  refine PM.start (by decide) (Nat.le_of_ble_eq_true rfl) ?_
  intro p e s m below meth c ls hx hb hr hml hown hlocks hts hG hM hl
  have hown : s.vm.findClass RX4 = some m.cls := hown
  have hS0 : xS p m c cX4_isSoundNow 7 s _ RX4 := ⟨hx, hb, hml, hown, hts⟩
  have hl : lv_has ls 7 [(0, .ref (β 0 0))] := hl
  have hL87 : ∀ (i3 : Nat) (a1 : Int32) (hki3 : i3 < nW σ) (κ : Bool) (hκ : ∀ (ls : Array Slot), κ = r → lv_has ls 7 [(0, .ref (β 0 0)), (1, .int (a1 + (wPaid σ i3))), (2, .int 0), (3, .int (nI i3))] → W p l e { frames := 4, cells := 0, slots := 0, locals := 91 } s m [(.ref (β 0 0) : Value)].toArray below meth c s.heap [] 0 0 (MQ below (qP (some (.int (bI r)))) [(.ref (β 0 0) : Value)].toArray s 0 0 (fun _ => False)) (F0 m 150 ls [])) (n : Nat) (i5 : Nat), i5 + n = i3 → fX4_isSoundNow_L87 σ ca i3 a1 κ n i5 = r → ∀ (ls : Array Slot), lv_has ls 7 [(0, .ref (β 0 0)), (1, .int (a1 + (wPaid σ i3))), (2, .int 0), (3, .int (nI i3)), (4, .ref (β 5 i3)), (5, .int (nI i5))] → W p l e { frames := 4, cells := 0, slots := 0, locals := 91 } s m [(.ref (β 0 0) : Value)].toArray below meth c s.heap [] 0 0 (MQ below (qP (some (.int (bI r)))) [(.ref (β 0 0) : Value)].toArray s 0 0 (fun _ => False)) (F0 m 87 ls []) := by
    intro i3 a1 hki3 κ hκ n
    induction n with
    | zero =>
      intro i5 hn hR ls hl
      rw [fX4_isSoundNow_L87] at hR
      refine lv_iload hx hb dX4_isSoundNow_87 (lv_at hl 5 rfl) ?_
      refine lv_iload_n hx hb dX4_isSoundNow_89 rfl (lv_at hl 3 rfl) ?_
      refine lk_ge_out (k := i5) (N := i3) hx hb hn (tgt := 150) dX4_isSoundNow_90 (by decide) ?_
      exact hκ  ls hR (lv_sub hl [0, 1, 2, 3] rfl)
    | succ n ih =>
      intro i5 hn hR ls hl
      rw [fX4_isSoundNow_L87] at hR
      refine lv_iload hx hb dX4_isSoundNow_87 (lv_at hl 5 rfl) ?_
      refine lv_iload_n hx hb dX4_isSoundNow_89 rfl (lv_at hl 3 rfl) ?_
      have hki5 : i5 < i3 := lk_lt hn
      refine lk_ge_in (k := i5) (N := i3) hx hb hki5 (by have := hM.nP10; have := hM.nW14; have := hM.nB6; omega) (tgt := 150) dX4_isSoundNow_90 (by decide) ?_
      refine lv_aload_n hx hb dX4_isSoundNow_93 rfl (lv_at hl 0 rfl) ?_
      refine gf (v := .ref (β 1 2)) (C := RX4) (T := TX4) (N := 13) (k := 5) hx hb hts hown hG cl_X4 in_X4 hM.ag (by decide) q1545 rfl dX4_isSoundNow_94 ?_
      refine lv_iload hx hb dX4_isSoundNow_97 (lv_at hl 5 rfl) ?_
      refine pcV (As := [.int (nI i5)]) (rest := []) hS0 (met_ml_get l D E (j := 2) (by decide) i5 (show i5 < nW σ from by have := hki5; omega)) q1639 q349 q2082 q103 q351 hd_J2_get ⟨Nat.le_of_ble_eq_true rfl, Nat.le_of_ble_eq_true rfl⟩ hG (hM.lsR hG (j := 2) (by decide)) hM rfl hl.1 rfl (Nat.le_of_ble_eq_true rfl) dX4_isSoundNow_99 ⟨Nat.le_refl _, Nat.le_refl _⟩ ?_
      refine W.eq (g2 := F0 m 102 ls [.ref (β 5 i5)]) rfl ?_
      refine gc (ci := 9) hx hb hown hG cl_X11 (rcv hG cl_X11 (hM.wd (show i5 < nW σ from by have := hki5; omega))) (hts _ q1695) dX4_isSoundNow_102 ?_
      refine lv_astore (lv' := [(6, .ref (β 5 i5)), (0, .ref (β 0 0)), (1, .int (a1 + (wPaid σ i3))), (2, .int 0), (3, .int (nI i3)), (4, .ref (β 5 i3)), (5, .int (nI i5))]) hx hb dX4_isSoundNow_105 hl (Nat.le_of_ble_eq_true rfl) rfl (fun ls hl => ?_)
      refine lv_aload hx hb dX4_isSoundNow_107 (lv_at hl 0 rfl) ?_
      refine gfN (v := .int (nI (wState σ i5))) (C := RX11) (T := TX11) (N := 12) (k := 7) hx hb hts hown hG cl_X11 in_X11 (hM.wd (show i5 < nW σ from by have := hki5; omega)) (by decide) q1710 rfl dX4_isSoundNow_109 ?_
      refine lv_iconst (v := 1) hx hb dX4_isSoundNow_112 (by decide) ?_
      refine lv_icmp_ne (tgt := 144) hx hb dX4_isSoundNow_113 (by decide) (fun c3 => ?_) (fun c3 => ?_)
      · rw [if_neg c3] at hR
        refine lv_iinc (v := nI (i5 + 1)) (lv' := [(5, .int (nI (i5 + 1))), (6, .ref (β 5 i5)), (0, .ref (β 0 0)), (1, .int (a1 + (wPaid σ i3))), (2, .int 0), (3, .int (nI i3)), (4, .ref (β 5 i3))]) hx hb dX4_isSoundNow_144 hl (k := 6) rfl (nI_1 i5) (Nat.le_of_ble_eq_true rfl) rfl (fun ls hl => ?_)
        refine lv_goto (tgt := 87) hx hb dX4_isSoundNow_147 (by decide) ?_
        exact ih (i5 + 1) (lk_st hn) hR ls (lv_sub hl [2, 3, 4, 5, 6, 0] rfl)
      · rw [if_pos c3] at hR
        refine lv_aload hx hb dX4_isSoundNow_116 (lv_at hl 0 rfl) ?_
        refine gfN (v := .int (nI (wBand σ i5))) (C := RX11) (T := TX11) (N := 12) (k := 0) hx hb hts hown hG cl_X11 in_X11 (hM.wd (show i5 < nW σ from by have := hki5; omega)) (by decide) q1701 rfl dX4_isSoundNow_118 ?_
        refine lv_aload hx hb dX4_isSoundNow_121 (lv_at hl 5 rfl) ?_
        refine gfN (v := .int (nI (wBand σ i3))) (C := RX11) (T := TX11) (N := 12) (k := 0) hx hb hts hown hG cl_X11 in_X11 (hM.wd hki3) (by decide) q1701 rfl dX4_isSoundNow_123 ?_
        refine lv_icmp_ne (tgt := 144) hx hb dX4_isSoundNow_126 (by decide) (fun c4 => ?_) (fun c4 => ?_)
        · rw [if_neg c4] at hR
          refine lv_iinc (v := nI (i5 + 1)) (lv' := [(5, .int (nI (i5 + 1))), (6, .ref (β 5 i5)), (0, .ref (β 0 0)), (1, .int (a1 + (wPaid σ i3))), (2, .int 0), (3, .int (nI i3)), (4, .ref (β 5 i3))]) hx hb dX4_isSoundNow_144 hl (k := 6) rfl (nI_1 i5) (Nat.le_of_ble_eq_true rfl) rfl (fun ls hl => ?_)
          refine lv_goto (tgt := 87) hx hb dX4_isSoundNow_147 (by decide) ?_
          exact ih (i5 + 1) (lk_st hn) hR ls (lv_sub hl [2, 3, 4, 5, 6, 0] rfl)
        · rw [if_pos c4] at hR
          refine lv_aload hx hb dX4_isSoundNow_129 (lv_at hl 0 rfl) ?_
          refine gfN (v := .int (nI (wDay σ i5))) (C := RX11) (T := TX11) (N := 12) (k := 1) hx hb hts hown hG cl_X11 in_X11 (hM.wd (show i5 < nW σ from by have := hki5; omega)) (by decide) q1702 rfl dX4_isSoundNow_131 ?_
          refine lv_aload hx hb dX4_isSoundNow_134 (lv_at hl 5 rfl) ?_
          refine gfN (v := .int (nI (wDay σ i3))) (C := RX11) (T := TX11) (N := 12) (k := 1) hx hb hts hown hG cl_X11 in_X11 (hM.wd hki3) (by decide) q1702 rfl dX4_isSoundNow_136 ?_
          refine lv_icmp_ne (tgt := 144) hx hb dX4_isSoundNow_139 (by decide) (fun c5 => ?_) (fun c5 => ?_)
          · rw [if_neg c5] at hR
            refine lv_iinc (v := nI (i5 + 1)) (lv' := [(5, .int (nI (i5 + 1))), (6, .ref (β 5 i5)), (0, .ref (β 0 0)), (1, .int (a1 + (wPaid σ i3))), (2, .int 0), (3, .int (nI i3)), (4, .ref (β 5 i3))]) hx hb dX4_isSoundNow_144 hl (k := 6) rfl (nI_1 i5) (Nat.le_of_ble_eq_true rfl) rfl (fun ls hl => ?_)
            refine lv_goto (tgt := 87) hx hb dX4_isSoundNow_147 (by decide) ?_
            exact ih (i5 + 1) (lk_st hn) hR ls (lv_sub hl [2, 3, 4, 5, 6, 0] rfl)
          · rw [if_pos c5] at hR
            refine lv_iconst (v := 0) hx hb dX4_isSoundNow_142 (by decide) ?_
            exact p_zret (b := false) hx hb hr hlocks dX4_isSoundNow_143 rfl (by rw [← hR])
  have hL6 : ∀ (κ : Int32 → Bool) (hκ : ∀ (a1 : Int32) (ls : Array Slot), κ a1 = r → lv_has ls 7 [(0, .ref (β 0 0)), (1, .int (a1)), (2, .int 0)] → W p l e { frames := 4, cells := 0, slots := 0, locals := 91 } s m [(.ref (β 0 0) : Value)].toArray below meth c s.heap [] 0 0 (MQ below (qP (some (.int (bI r)))) [(.ref (β 0 0) : Value)].toArray s 0 0 (fun _ => False)) (F0 m 156 ls [])) (n : Nat) (i3 : Nat) (a1 : Int32), i3 + n = nW σ → fX4_isSoundNow_L6 σ ca κ n i3 a1 = r → ∀ (ls : Array Slot), lv_has ls 7 [(0, .ref (β 0 0)), (1, .int (a1)), (2, .int 0), (3, .int (nI i3))] → W p l e { frames := 4, cells := 0, slots := 0, locals := 91 } s m [(.ref (β 0 0) : Value)].toArray below meth c s.heap [] 0 0 (MQ below (qP (some (.int (bI r)))) [(.ref (β 0 0) : Value)].toArray s 0 0 (fun _ => False)) (F0 m 6 ls []) := by
    intro  κ hκ n
    induction n with
    | zero =>
      intro i3 a1 hn hR ls hl
      rw [fX4_isSoundNow_L6] at hR
      refine lv_iload_n hx hb dX4_isSoundNow_6 rfl (lv_at hl 3 rfl) ?_
      refine lv_aload_n hx hb dX4_isSoundNow_7 rfl (lv_at hl 0 rfl) ?_
      refine gf (v := .ref (β 1 2)) (C := RX4) (T := TX4) (N := 13) (k := 5) hx hb hts hown hG cl_X4 in_X4 hM.ag (by decide) q1545 rfl dX4_isSoundNow_8 ?_
      refine pcV (As := []) (rest := [.int (nI i3)]) hS0 (met_ml_size l D E (j := 2) (by decide)) q1600 q336 q2080 q103 q338 hd_J2_size ⟨Nat.le_of_ble_eq_true rfl, Nat.le_of_ble_eq_true rfl⟩ hG (hM.lsR hG (j := 2) (by decide)) hM rfl hl.1 rfl (Nat.le_of_ble_eq_true rfl) dX4_isSoundNow_11 ⟨Nat.le_refl _, Nat.le_refl _⟩ ?_
      refine W.eq (g2 := F0 m 14 ls [.int (nI (nW σ)), .int (nI i3)]) rfl ?_
      refine lk_ge_out (k := i3) (N := nW σ) hx hb hn (tgt := 156) dX4_isSoundNow_14 (by decide) ?_
      exact hκ a1 ls hR (lv_sub hl [0, 1, 2] rfl)
    | succ n ih =>
      intro i3 a1 hn hR ls hl
      rw [fX4_isSoundNow_L6] at hR
      refine lv_iload_n hx hb dX4_isSoundNow_6 rfl (lv_at hl 3 rfl) ?_
      refine lv_aload_n hx hb dX4_isSoundNow_7 rfl (lv_at hl 0 rfl) ?_
      refine gf (v := .ref (β 1 2)) (C := RX4) (T := TX4) (N := 13) (k := 5) hx hb hts hown hG cl_X4 in_X4 hM.ag (by decide) q1545 rfl dX4_isSoundNow_8 ?_
      refine pcV (As := []) (rest := [.int (nI i3)]) hS0 (met_ml_size l D E (j := 2) (by decide)) q1600 q336 q2080 q103 q338 hd_J2_size ⟨Nat.le_of_ble_eq_true rfl, Nat.le_of_ble_eq_true rfl⟩ hG (hM.lsR hG (j := 2) (by decide)) hM rfl hl.1 rfl (Nat.le_of_ble_eq_true rfl) dX4_isSoundNow_11 ⟨Nat.le_refl _, Nat.le_refl _⟩ ?_
      refine W.eq (g2 := F0 m 14 ls [.int (nI (nW σ)), .int (nI i3)]) rfl ?_
      have hki3 : i3 < nW σ := lk_lt hn
      refine lk_ge_in (k := i3) (N := nW σ) hx hb hki3 (by have := hM.nW14; omega) (tgt := 156) dX4_isSoundNow_14 (by decide) ?_
      refine lv_aload_n hx hb dX4_isSoundNow_17 rfl (lv_at hl 0 rfl) ?_
      refine gf (v := .ref (β 1 2)) (C := RX4) (T := TX4) (N := 13) (k := 5) hx hb hts hown hG cl_X4 in_X4 hM.ag (by decide) q1545 rfl dX4_isSoundNow_18 ?_
      refine lv_iload_n hx hb dX4_isSoundNow_21 rfl (lv_at hl 3 rfl) ?_
      refine pcV (As := [.int (nI i3)]) (rest := []) hS0 (met_ml_get l D E (j := 2) (by decide) i3 hki3) q1639 q349 q2082 q103 q351 hd_J2_get ⟨Nat.le_of_ble_eq_true rfl, Nat.le_of_ble_eq_true rfl⟩ hG (hM.lsR hG (j := 2) (by decide)) hM rfl hl.1 rfl (Nat.le_of_ble_eq_true rfl) dX4_isSoundNow_22 ⟨Nat.le_refl _, Nat.le_refl _⟩ ?_
      refine W.eq (g2 := F0 m 25 ls [.ref (β 5 i3)]) rfl ?_
      refine gc (ci := 9) hx hb hown hG cl_X11 (rcv hG cl_X11 (hM.wd hki3)) (hts _ q1695) dX4_isSoundNow_25 ?_
      refine lv_astore (lv' := [(4, .ref (β 5 i3)), (0, .ref (β 0 0)), (1, .int (a1)), (2, .int 0), (3, .int (nI i3))]) hx hb dX4_isSoundNow_28 hl (Nat.le_of_ble_eq_true rfl) rfl (fun ls hl => ?_)
      refine lv_iload_n hx hb dX4_isSoundNow_30 rfl (lv_at hl 2 rfl) ?_
      refine lv_aload hx hb dX4_isSoundNow_31 (lv_at hl 0 rfl) ?_
      refine gfN (v := .int (wPaid σ i3)) (C := RX11) (T := TX11) (N := 12) (k := 11) hx hb hts hown hG cl_X11 in_X11 (hM.wd hki3) (by decide) q1715 rfl dX4_isSoundNow_33 ?_
      refine lv_iadd hx hb dX4_isSoundNow_36 ?_
      refine lv_istore_n (lv' := [(1, .int (a1 + (wPaid σ i3))), (4, .ref (β 5 i3)), (0, .ref (β 0 0)), (2, .int 0), (3, .int (nI i3))]) hx hb dX4_isSoundNow_37 rfl hl (Nat.le_of_ble_eq_true rfl) rfl (fun ls hl => ?_)
      refine lv_aload hx hb dX4_isSoundNow_38 (lv_at hl 1 rfl) ?_
      refine gfN (v := .int (nI (wState σ i3))) (C := RX11) (T := TX11) (N := 12) (k := 7) hx hb hts hown hG cl_X11 in_X11 (hM.wd hki3) (by decide) q1710 rfl dX4_isSoundNow_40 ?_
      refine lv_iconst (v := 1) hx hb dX4_isSoundNow_43 (by decide) ?_
      refine lv_icmp_eq (tgt := 50) hx hb dX4_isSoundNow_44 (by decide) (fun c1 => ?_) (fun c1 => ?_)
      · rw [if_pos c1] at hR
        refine lv_aload hx hb dX4_isSoundNow_50 (lv_at hl 1 rfl) ?_
        refine gfN (v := .int (wSet σ i3)) (C := RX11) (T := TX11) (N := 12) (k := 8) hx hb hts hown hG cl_X11 in_X11 (hM.wd hki3) (by decide) q1711 rfl dX4_isSoundNow_52 ?_
        refine pcS (As := [.int (wSet σ i3)]) (rest := []) hS0 (met_bitCount l D E (wSet σ i3)) q1640 q1641 q125 q1642 hd_J17_bitCount ⟨Nat.le_of_ble_eq_true rfl, Nat.le_of_ble_eq_true rfl⟩ hG trivial rfl hl.1 rfl (Nat.le_of_ble_eq_true rfl) dX4_isSoundNow_55 ⟨Nat.le_refl _, Nat.le_refl _⟩ ?_
        refine W.eq (g2 := F0 m 58 ls [.int (nI (popc (wSet σ i3)))]) rfl ?_
        refine lv_aload_n hx hb dX4_isSoundNow_58 rfl (lv_at hl 2 rfl) ?_
        refine gf (v := .ref (β 1 1)) (C := RX4) (T := TX4) (N := 13) (k := 4) hx hb hts hown hG cl_X4 in_X4 hM.ag (by decide) q1544 rfl dX4_isSoundNow_59 ?_
        refine lv_aload hx hb dX4_isSoundNow_62 (lv_at hl 1 rfl) ?_
        refine gfN (v := .int (nI (wBand σ i3))) (C := RX11) (T := TX11) (N := 12) (k := 0) hx hb hts hown hG cl_X11 in_X11 (hM.wd hki3) (by decide) q1701 rfl dX4_isSoundNow_64 ?_
        refine pcV (As := [.int (nI (wBand σ i3))]) (rest := [.int (nI (popc (wSet σ i3)))]) hS0 (met_ml_get l D E (j := 1) (by decide) (wBand σ i3) (hM.band hki3)) q1639 q349 q2082 q103 q351 hd_J2_get ⟨Nat.le_of_ble_eq_true rfl, Nat.le_of_ble_eq_true rfl⟩ hG (hM.lsR hG (j := 1) (by decide)) hM rfl hl.1 rfl (Nat.le_of_ble_eq_true rfl) dX4_isSoundNow_67 ⟨Nat.le_refl _, Nat.le_refl _⟩ ?_
        refine W.eq (g2 := F0 m 70 ls [.ref (β 9 (wBand σ i3)), .int (nI (popc (wSet σ i3)))]) rfl ?_
        refine gc (ci := 14) hx hb hown hG cl_J17 (hM.bxR hG (hM.band hki3)) (hts _ q1769) dX4_isSoundNow_70 ?_
        refine pcV (As := []) (rest := [.int (nI (popc (wSet σ i3)))]) hS0 (met_J17_intValue l D E (wBand σ i3) (hM.band hki3)) q1770 q657 q658 q125 q659 hd_J17_intValue ⟨Nat.le_of_ble_eq_true rfl, Nat.le_of_ble_eq_true rfl⟩ hG (hM.bxR hG (hM.band hki3)) hM rfl hl.1 rfl (Nat.le_of_ble_eq_true rfl) dX4_isSoundNow_73 ⟨Nat.le_refl _, Nat.le_refl _⟩ ?_
        refine W.eq (g2 := F0 m 76 ls [.int (bShape σ (wBand σ i3)), .int (nI (popc (wSet σ i3)))]) rfl ?_
        refine pcS (As := [.int (bShape σ (wBand σ i3))]) (rest := [.int (nI (popc (wSet σ i3)))]) hS0 (met_X4_needed l D E (bShape σ (wBand σ i3))) q1672 q1673 q110 q1674 hd_X4_needed ⟨Nat.le_of_ble_eq_true rfl, Nat.le_of_ble_eq_true rfl⟩ hG trivial rfl hl.1 rfl (Nat.le_of_ble_eq_true rfl) dX4_isSoundNow_76 ⟨Nat.le_refl _, Nat.le_refl _⟩ ?_
        refine W.eq (g2 := F0 m 79 ls [.int ((fX4_needed (bShape σ (wBand σ i3)))), .int (nI (popc (wSet σ i3)))]) rfl ?_
        refine lv_icmp_eq (tgt := 84) hx hb dX4_isSoundNow_79 (by decide) (fun c2 => ?_) (fun c2 => ?_)
        · rw [if_pos c2] at hR
          refine lv_iconst (v := 0) hx hb dX4_isSoundNow_84 (by decide) ?_
          refine lv_istore (lv' := [(5, .int 0), (1, .int (a1 + (wPaid σ i3))), (4, .ref (β 5 i3)), (0, .ref (β 0 0)), (2, .int 0), (3, .int (nI i3))]) hx hb dX4_isSoundNow_85 hl (Nat.le_of_ble_eq_true rfl) rfl (fun ls hl => ?_)
          refine hL87 i3 a1 hki3 _ (fun  ls hR hl => ?_) i3 0 (Nat.zero_add _) hR ls (lv_sub hl [3, 1, 4, 5, 2, 0] rfl)
          refine lv_iinc (v := nI (i3 + 1)) (lv' := [(3, .int (nI (i3 + 1))), (0, .ref (β 0 0)), (1, .int (a1 + (wPaid σ i3))), (2, .int 0)]) hx hb dX4_isSoundNow_150 hl (k := 3) rfl (nI_1 i3) (Nat.le_of_ble_eq_true rfl) rfl (fun ls hl => ?_)
          refine lv_goto (tgt := 6) hx hb dX4_isSoundNow_153 (by decide) ?_
          exact ih (i3 + 1) (a1 + (wPaid σ i3)) (lk_st hn) hR ls (lv_sub hl [1, 2, 3, 0] rfl)
        · rw [if_neg c2] at hR
          refine lv_iconst (v := 0) hx hb dX4_isSoundNow_82 (by decide) ?_
          exact p_zret (b := false) hx hb hr hlocks dX4_isSoundNow_83 rfl (by rw [← hR])
      · rw [if_neg c1] at hR
        refine lv_goto (tgt := 150) hx hb dX4_isSoundNow_47 (by decide) ?_
        refine lv_iinc (v := nI (i3 + 1)) (lv' := [(3, .int (nI (i3 + 1))), (1, .int (a1 + (wPaid σ i3))), (4, .ref (β 5 i3)), (0, .ref (β 0 0)), (2, .int 0)]) hx hb dX4_isSoundNow_150 hl (k := 4) rfl (nI_1 i3) (Nat.le_of_ble_eq_true rfl) rfl (fun ls hl => ?_)
        refine lv_goto (tgt := 6) hx hb dX4_isSoundNow_153 (by decide) ?_
        exact ih (i3 + 1) (a1 + (wPaid σ i3)) (lk_st hn) hR ls (lv_sub hl [3, 1, 4, 0] rfl)
  have hL158 : ∀ (a6 : Int32) (κ : Int32 → Bool) (hκ : ∀ (a2 : Int32) (ls : Array Slot), κ a2 = r → lv_has ls 7 [(0, .ref (β 0 0)), (1, .int (a6)), (2, .int (a2))] → W p l e { frames := 4, cells := 0, slots := 0, locals := 91 } s m [(.ref (β 0 0) : Value)].toArray below meth c s.heap [] 0 0 (MQ below (qP (some (.int (bI r)))) [(.ref (β 0 0) : Value)].toArray s 0 0 (fun _ => False)) (F0 m 178 ls [])) (n : Nat) (i3 : Nat) (a2 : Int32), i3 + n = 16 → fX4_isSoundNow_L158 σ ca a6 κ n i3 a2 = r → ∀ (ls : Array Slot), lv_has ls 7 [(0, .ref (β 0 0)), (1, .int (a6)), (2, .int (a2)), (3, .int (nI i3))] → W p l e { frames := 4, cells := 0, slots := 0, locals := 91 } s m [(.ref (β 0 0) : Value)].toArray below meth c s.heap [] 0 0 (MQ below (qP (some (.int (bI r)))) [(.ref (β 0 0) : Value)].toArray s 0 0 (fun _ => False)) (F0 m 158 ls []) := by
    intro a6 κ hκ n
    induction n with
    | zero =>
      intro i3 a2 hn hR ls hl
      rw [fX4_isSoundNow_L158] at hR
      refine lv_iload_n hx hb dX4_isSoundNow_158 rfl (lv_at hl 3 rfl) ?_
      refine lv_bipush (v := 16) hx hb dX4_isSoundNow_159 (by decide) ?_
      refine lk_ge_out (k := i3) (N := 16) hx hb hn (tgt := 178) dX4_isSoundNow_161 (by decide) ?_
      exact hκ a2 ls hR (lv_sub hl [0, 1, 2] rfl)
    | succ n ih =>
      intro i3 a2 hn hR ls hl
      rw [fX4_isSoundNow_L158] at hR
      refine lv_iload_n hx hb dX4_isSoundNow_158 rfl (lv_at hl 3 rfl) ?_
      refine lv_bipush (v := 16) hx hb dX4_isSoundNow_159 (by decide) ?_
      have hki3 : i3 < 16 := lk_lt hn
      refine lk_ge_in (k := i3) (N := 16) hx hb hki3 (by decide) (tgt := 178) dX4_isSoundNow_161 (by decide) ?_
      refine lv_iload_n hx hb dX4_isSoundNow_164 rfl (lv_at hl 2 rfl) ?_
      refine lv_aload_n hx hb dX4_isSoundNow_165 rfl (lv_at hl 0 rfl) ?_
      refine lv_iload_n hx hb dX4_isSoundNow_166 rfl (lv_at hl 3 rfl) ?_
      refine pcV (As := [.int (nI i3)]) (rest := [.int (a2)]) hS0 (met_X4_share l D E i3 hki3) q1929 q1931 qs87 q110 q1932 hd_X4_share ⟨Nat.le_of_ble_eq_true rfl, Nat.le_of_ble_eq_true rfl⟩ hG (rcv hG cl_X4 hM.ag) hM rfl hl.1 rfl (Nat.le_of_ble_eq_true rfl) dX4_isSoundNow_167 ⟨Nat.le_refl _, Nat.le_refl _⟩ ?_
      refine W.eq (g2 := F0 m 170 ls [.int ((fX4_share σ i3)), .int (a2)]) rfl ?_
      refine lv_iadd hx hb dX4_isSoundNow_170 ?_
      refine lv_istore_n (lv' := [(2, .int (a2 + ((fX4_share σ i3)))), (0, .ref (β 0 0)), (1, .int (a6)), (3, .int (nI i3))]) hx hb dX4_isSoundNow_171 rfl hl (Nat.le_of_ble_eq_true rfl) rfl (fun ls hl => ?_)
      refine lv_iinc (v := nI (i3 + 1)) (lv' := [(3, .int (nI (i3 + 1))), (2, .int (a2 + ((fX4_share σ i3)))), (0, .ref (β 0 0)), (1, .int (a6))]) hx hb dX4_isSoundNow_172 hl (k := 3) rfl (nI_1 i3) (Nat.le_of_ble_eq_true rfl) rfl (fun ls hl => ?_)
      refine lv_goto (tgt := 158) hx hb dX4_isSoundNow_175 (by decide) ?_
      exact ih (i3 + 1) (a2 + ((fX4_share σ i3))) (lk_st hn) hR ls (lv_sub hl [2, 3, 1, 0] rfl)
  unfold fX4_isSoundNow at hR
  refine lv_iconst (v := 0) hx hb dX4_isSoundNow_0 (by decide) ?_
  refine lv_istore_n (lv' := [(1, .int 0), (0, .ref (β 0 0))]) hx hb dX4_isSoundNow_1 rfl hl (Nat.le_of_ble_eq_true rfl) rfl (fun ls hl => ?_)
  refine lv_iconst (v := 0) hx hb dX4_isSoundNow_2 (by decide) ?_
  refine lv_istore_n (lv' := [(2, .int 0), (1, .int 0), (0, .ref (β 0 0))]) hx hb dX4_isSoundNow_3 rfl hl (Nat.le_of_ble_eq_true rfl) rfl (fun ls hl => ?_)
  refine lv_iconst (v := 0) hx hb dX4_isSoundNow_4 (by decide) ?_
  refine lv_istore_n (lv' := [(3, .int 0), (2, .int 0), (1, .int 0), (0, .ref (β 0 0))]) hx hb dX4_isSoundNow_5 rfl hl (Nat.le_of_ble_eq_true rfl) rfl (fun ls hl => ?_)
  refine hL6  _ (fun a6 ls hR hl => ?_) (nW σ) 0 0 (Nat.zero_add _) hR ls (lv_sub hl [3, 2, 1, 0] rfl)
  refine lv_iconst (v := 0) hx hb dX4_isSoundNow_156 (by decide) ?_
  refine lv_istore_n (lv' := [(3, .int 0), (0, .ref (β 0 0)), (1, .int (a6)), (2, .int 0)]) hx hb dX4_isSoundNow_157 rfl hl (Nat.le_of_ble_eq_true rfl) rfl (fun ls hl => ?_)
  refine hL158 a6 _ (fun a7 ls hR hl => ?_) 16 0 0 (Nat.zero_add _) hR ls (lv_sub hl [1, 2, 3, 0] rfl)
  refine lv_aload_n hx hb dX4_isSoundNow_178 rfl (lv_at hl 0 rfl) ?_
  refine gf (v := .int (ca)) (C := RX4) (T := TX4) (N := 13) (k := 2) hx hb hts hown hG cl_X4 in_X4 hM.ag (by decide) q1542 rfl dX4_isSoundNow_179 ?_
  refine lv_iload_n hx hb dX4_isSoundNow_182 rfl (lv_at hl 1 rfl) ?_
  refine lv_aload_n hx hb dX4_isSoundNow_183 rfl (lv_at hl 0 rfl) ?_
  refine lv_bipush (v := 10) hx hb dX4_isSoundNow_184 (by decide) ?_
  refine pcV (As := [.int 10]) (rest := [.int (a6), .int (ca)]) hS0 (met_X4_deskNow10 l D E ) q1998 q2000 qs94 q110 q2001 hd_X4_deskNow ⟨Nat.le_of_ble_eq_true rfl, Nat.le_of_ble_eq_true rfl⟩ hG (rcv hG cl_X4 hM.ag) hM rfl hl.1 rfl (Nat.le_of_ble_eq_true rfl) dX4_isSoundNow_186 ⟨Nat.le_refl _, Nat.le_refl _⟩ ?_
  refine W.eq (g2 := F0 m 189 ls [.int ((fX4_deskNow10 σ)), .int (a6), .int (ca)]) rfl ?_
  refine lv_isub hx hb dX4_isSoundNow_189 ?_
  refine lv_icmp_ne (tgt := 204) hx hb dX4_isSoundNow_190 (by decide) (fun c8 => ?_) (fun c8 => ?_)
  · rw [if_neg c8] at hR
    refine lv_iconst (v := 0) hx hb dX4_isSoundNow_204 (by decide) ?_
    exact p_zret (b := false) hx hb hr hlocks dX4_isSoundNow_205 rfl (by rw [← hR])
  · rw [if_pos c8] at hR
    refine lv_iload_n hx hb dX4_isSoundNow_193 rfl (lv_at hl 2 rfl) ?_
    refine lv_sipush (v := 1000) hx hb dX4_isSoundNow_194 (by decide) ?_
    refine lv_icmp_gt (tgt := 204) hx hb dX4_isSoundNow_197 (by decide) (fun c9 => ?_) (fun c9 => ?_)
    · rw [if_pos c9] at hR
      refine lv_iconst (v := 0) hx hb dX4_isSoundNow_204 (by decide) ?_
      exact p_zret (b := false) hx hb hr hlocks dX4_isSoundNow_205 rfl (by rw [← hR])
    · rw [if_neg c9] at hR
      refine lv_iconst (v := 1) hx hb dX4_isSoundNow_200 (by decide) ?_
      refine lv_goto (tgt := 205) hx hb dX4_isSoundNow_201 (by decide) ?_
      exact p_zret (b := true) hx hb hr hlocks dX4_isSoundNow_205 rfl (by rw [← hR])

def fX1_bandNow (σ : St) (b : Nat) (q : Nat) : Int32 :=
  (if (nI q) = 6 then (fX8_many σ b) else (if (nI q) = 7 then (fX1_weddingsOfBand σ b false) else (if (nI q) = 8 then (fX1_weddingsOfBand σ b true) else bNeed σ b q)))
set_option maxHeartbeats 4000000 in
set_option maxRecDepth 100000 in
theorem met_X1_bandNow (l : Launch) (D : va_G) (E : Nat → Nat) {α : Nat → Nat → Nat} {F : Nat → Prop} {σ : St} (b : Nat) (q : Nat) (h_b : b < nB σ) (h_q : q < 9) : PM l D E yX1_bandNow cX1_bandNow 4 (Option.some Jvm.ClassFile.FieldType.int) 4 88 [.ref (α 0 0), .int (nI b), .int (nI q)] (RX D E α F σ) (some (.int (fX1_bandNow σ b q))) := by
  generalize hR : fX1_bandNow σ b q = r
  refine PM.start (by decide) (Nat.le_of_ble_eq_true rfl) ?_
  intro p e s m below meth c ls hx hb hr hml hown hlocks hts hG hX hl
  have hown : s.vm.findClass RX1 = some m.cls := hown
  have hS0 : xS p m c cX1_bandNow 4 s _ RX1 := ⟨hx, hb, hml, hown, hts⟩
  have hl : lv_has ls 4 [(0, .ref (α 0 0)), (1, .int (nI b)), (2, .int (nI q))] := hl
  unfold fX1_bandNow at hR
  refine lv_aload_n hx hb dX1_bandNow_0 rfl (lv_at hl 0 rfl) ?_
  refine gf (v := .ref (α 1 2)) (C := RX1) (T := TX1) (N := 6) (k := 3) hx hb hts hown hG cl_X1 in_X1 hX.ag (by decide) q305 rfl dX1_bandNow_1 ?_
  refine lv_iload_n hx hb dX1_bandNow_4 rfl (lv_at hl 1 rfl) ?_
  refine pcF (x := xL_get) (ci := 13) (As := [.int (nI b)]) (rest := []) hG.fw_get hS0 (met_xl_get l D E (j := 2) (by decide) b h_b) q344 q347 q349 q103 q351 hd_xL_get ⟨Nat.le_of_ble_eq_true rfl, Nat.le_of_ble_eq_true rfl⟩ hG cl_J2 (hX.lsR hG (j := 2) (by decide)) hX rfl hl.1 rfl (Nat.le_of_ble_eq_true rfl) dX1_bandNow_5 ⟨Nat.le_refl _, Nat.le_refl _⟩ ?_
  refine W.eq (g2 := F0 m 10 ls [.ref (α 9 b)]) rfl ?_
  refine gc (ci := 7) hx hb hown hG cl_X8 (rcv hG cl_X8 (hX.sh h_b)) (hts _ q390) dX1_bandNow_10 ?_
  refine lv_astore_n (lv' := [(3, .ref (α 9 b)), (0, .ref (α 0 0)), (1, .int (nI b)), (2, .int (nI q))]) hx hb dX1_bandNow_13 rfl hl (Nat.le_of_ble_eq_true rfl) rfl (fun ls hl => ?_)
  refine lv_iload_n hx hb dX1_bandNow_14 rfl (lv_at hl 3 rfl) ?_
  by_cases c1 : (nI q) = 6
  · rw [if_pos c1] at hR
    refine lv_eq c1 ?_
    refine lv_tableIn (x := 6) (off := 25) (tgt := 40) hx hb dX1_bandNow_15 (by decide) (by decide) (by decide) (by decide) ?_
    refine lv_aload_n hx hb dX1_bandNow_40 rfl (lv_at hl 0 rfl) ?_
    refine pcV (As := []) (rest := []) hS0 (met_X8_many l D E b h_b) q391 q392 q393 q126 q394 hd_X8_many ⟨Nat.le_of_ble_eq_true rfl, Nat.le_of_ble_eq_true rfl⟩ hG (rcv hG cl_X8 (hX.sh h_b)) hX rfl hl.1 rfl (Nat.le_of_ble_eq_true rfl) dX1_bandNow_41 ⟨Nat.le_refl _, Nat.le_refl _⟩ ?_
    refine W.eq (g2 := F0 m 44 ls [.int ((fX8_many σ b))]) rfl ?_
    exact p_iret hx hb hr hlocks dX1_bandNow_44 (by rw [← hR])
  rw [if_neg c1] at hR
  by_cases c2 : (nI q) = 7
  · rw [if_pos c2] at hR
    refine lv_eq c2 ?_
    refine lv_tableIn (x := 7) (off := 30) (tgt := 45) hx hb dX1_bandNow_15 (by decide) (by decide) (by decide) (by decide) ?_
    refine lv_aload_n hx hb dX1_bandNow_45 rfl (lv_at hl 1 rfl) ?_
    refine lv_iload_n hx hb dX1_bandNow_46 rfl (lv_at hl 2 rfl) ?_
    refine lv_iconst (v := 0) hx hb dX1_bandNow_47 (by decide) ?_
    refine pcV (As := [.int (nI b), .int 0]) (rest := []) hS0 (met_X1_weddingsOfBand l D E b false) q462 q464 qs18 q100 q465 hd_X1_weddingsOfBand ⟨Nat.le_of_ble_eq_true rfl, Nat.le_of_ble_eq_true rfl⟩ hG (rcv hG cl_X1 hX.ag) hX rfl hl.1 rfl (Nat.le_of_ble_eq_true rfl) dX1_bandNow_48 ⟨Nat.le_refl _, Nat.le_refl _⟩ ?_
    refine W.eq (g2 := F0 m 51 ls [.int ((fX1_weddingsOfBand σ b false))]) rfl ?_
    exact p_iret hx hb hr hlocks dX1_bandNow_51 (by rw [← hR])
  rw [if_neg c2] at hR
  by_cases c3 : (nI q) = 8
  · rw [if_pos c3] at hR
    refine lv_eq c3 ?_
    refine lv_tableIn (x := 8) (off := 37) (tgt := 52) hx hb dX1_bandNow_15 (by decide) (by decide) (by decide) (by decide) ?_
    refine lv_aload_n hx hb dX1_bandNow_52 rfl (lv_at hl 1 rfl) ?_
    refine lv_iload_n hx hb dX1_bandNow_53 rfl (lv_at hl 2 rfl) ?_
    refine lv_iconst (v := 1) hx hb dX1_bandNow_54 (by decide) ?_
    refine pcV (As := [.int (nI b), .int 1]) (rest := []) hS0 (met_X1_weddingsOfBand l D E b true) q462 q464 qs18 q100 q465 hd_X1_weddingsOfBand ⟨Nat.le_of_ble_eq_true rfl, Nat.le_of_ble_eq_true rfl⟩ hG (rcv hG cl_X1 hX.ag) hX rfl hl.1 rfl (Nat.le_of_ble_eq_true rfl) dX1_bandNow_55 ⟨Nat.le_refl _, Nat.le_refl _⟩ ?_
    refine W.eq (g2 := F0 m 58 ls [.int ((fX1_weddingsOfBand σ b true))]) rfl ?_
    exact p_iret hx hb hr hlocks dX1_bandNow_58 (by rw [← hR])
  rw [if_neg c3] at hR
  refine lv_tableOut (tgt := 59) hx hb dX1_bandNow_15 (sw_out (lo := 6) (hi := 8) (by decide) (by decide) (fun z h1 h2 => by rcases (show z = 6 ∨ z = 7 ∨ z = 8 by omega) with rfl | rfl | rfl <;> first | exact c1 | exact c2 | exact c3)) (by decide) ?_
  refine lv_aload_n hx hb dX1_bandNow_59 rfl (lv_at hl 0 rfl) ?_
  refine gfN (v := .ref (α 10 b)) (C := RX8) (T := TX8) (N := 2) (k := 0) hx hb hts hown hG cl_X8 in_X8 (hX.sh h_b) (by decide) q985 rfl dX1_bandNow_60 ?_
  refine lv_iload_n hx hb dX1_bandNow_63 rfl (lv_at hl 3 rfl) ?_
  refine gaI (N := 6) (k := q) hx hb hG (hX.nd h_b) (sw6 h_q c1 c2 c3) (by decide) dX1_bandNow_64 ?_
  exact p_iret hx hb hr hlocks dX1_bandNow_65 (by rw [← hR])

