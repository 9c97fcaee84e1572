/-! the agency: who can fill a wedding -/
set_option maxRecDepth 100000
theorem bI_fit {b : Bool} : fits .boolean (.int (bI b)) = true := by cases b <;> rfl
theorem sW_back {σ : St} {f k : Nat} : sW (sW σ f k (σ.2.1 f k + 1)) f k ((sW σ f k (σ.2.1 f k + 1)).2.1 f k - 1) = σ := by
  have h : ∀ a b, (sW (sW σ f k (σ.2.1 f k + 1)) f k ((sW σ f k (σ.2.1 f k + 1)).2.1 f k - 1)).2.1 a b = σ.2.1 a b := by
    intro a b
    simp only [sW_21]
    by_cases h : a = f ∧ b = k
    · obtain ⟨rfl, rfl⟩ := h
      simp
    · simp [h]
  exact Prod.ext rfl (Prod.ext (funext fun a => funext fun b => h a b) rfl)
def fX8_gives_L8 (σ : St) (b : Nat) (a : Int32) (gv : St → Int32 → Option Bool)  (κ : Nat → Option (Bool)) : Nat → Nat → Option (Bool)
  | 0, a3 => none
  | n + 1, a3 => (if ((fX1_has a (nI a3))) = true then κ a3 else fX8_gives_L8 σ b a gv κ n (a3 + 1))
def fX8_gives_L25 (σ : St) (b : Nat) (a : Int32) (gv : St → Int32 → Option Bool) (i3 : Nat) (κ : Option (Bool)) : Nat → Nat → Option (Bool)
  | 0, i4 => κ
  | n + 1, i4 => (if ((fX1_has (pIns σ i3) (nI i4))) = true then (if (bNeed σ b i4) ≤ (bGiv σ b i4) then fX8_gives_L25 σ b a gv i3 κ n (i4 + 1) else (fun (σ1 : St) => (Option.bind (gv σ1 (a &&& (a - 1))) (fun (r7 : Bool) => (if r7 = true then (some true) else fX8_gives_L25 σ b a gv i3 κ n (i4 + 1))))) (sW σ (1000 + b) i4 ((bGiv σ b i4) + 1))) else fX8_gives_L25 σ b a gv i3 κ n (i4 + 1))
def fX8_gives (σ : St) (b : Nat) (a : Int32) (gv : St → Int32 → Option Bool) : Option (Bool) :=
  (if a = 0 then (some true) else fX8_gives_L8 σ b a gv (fun (i3 : Nat) => (if i3 < nP σ then fX8_gives_L25 σ b a gv i3 ((some false)) 6 0 else none)) 33 0)
set_option maxHeartbeats 4000000 in
set_option maxRecDepth 100000 in
theorem met_X8_gives (l : Launch) (D : va_G) (E : Nat → Nat) {α : Nat → Nat → Nat} {F : Nat → Prop} {σ : St} {fr0 lo0 : Nat} (b : Nat) (a : Int32) (gv : St → Int32 → Option Bool) (h_b : b < nB σ) (hgv : ∀ (F : Nat → Prop) (σ : St) (z : Int32) (r : Bool), b < nB σ → (∀ q, F q → E 0 ≤ q) → gv σ z = some r → GM l D E yX8_gives cX8_gives 6 (Option.some Jvm.ClassFile.FieldType.boolean) fr0 lo0 0 0 [.ref (α 9 b), .ref (α 1 0), .int z] (RX D E α F σ) F F (fun sz v h => v = some (.int (bI r)) ∧ RX D E α F σ h)) {r : Bool} (hR : fX8_gives σ b a gv = some r) : GM l D E yX8_gives cX8_gives 6 (Option.some Jvm.ClassFile.FieldType.boolean) (fr0 + 3) (lo0 + 64) 0 0 [.ref (α 9 b), .ref (α 1 0), .int (a)] (RX D E α F σ) F F (fun sz v h => v = some (.int (bI r)) ∧ RX D E α F σ h)  := by
  refine GM.start (by decide) (Nat.le_of_ble_eq_true rfl) ?_
  intro p e s m below meth c ls hx hb hr hml hown hlocks hnm hts hG hX hS hl
  have hown : s.vm.findClass RX8 = some m.cls := hown
  have hS0 : xS p m c cX8_gives 6 s _ RX8 := ⟨hx, hb, hml, hown, hts⟩
  have hl : lv_has ls 6 [(0, .ref (α 9 b)), (1, .ref (α 1 0)), (2, .int (a))] := hl
  have hG0 := hG
  have hX0 := hX
  have hb0P := hX0.nP10
  have hb0B := hX0.nB6
  have hb0W := hX0.nW14
  have hFE := hX.fE
  obtain ⟨Fc, hX, hFn⟩ := hX.nar
  have hFa : ∀ q, Fc q → F q := fun q z => (hFn q z).1
  have hFb : ∀ q, Fc q → q < s.heap.size := fun q z => (hFn q z).2
  have hcn : cnt σ σ := cnt.rf
  have hL8 : ∀  (κ : Nat → Option (Bool)) (hκ : ∀ (a3 : Nat) (H : Heap) (locs : List Loc) (Fc : Nat → Prop) (ls : Array Slot), κ a3 = some r → RX D E α Fc σ H → (∀ q, Fc q → F q) → (∀ q, Fc q → q < H.size) → xK F F s.heap H locs → lv_has ls 6 [(0, .ref (α 9 b)), (1, .ref (α 1 0)), (2, .int (a)), (3, .int (nI a3))] → W p l e { frames := fr0 + 3, cells := 0, slots := 0, locals := lo0 + 64 } s m [(.ref (α 9 b) : Value), .ref (α 1 0), .int (a)].toArray below meth c H locs 0 0 (MQ below (qG F ((fun sz v h => v = some (.int (bI r)) ∧ RX D E α F σ h) s.heap.size)) [(.ref (α 9 b) : Value), .ref (α 1 0), .int (a)].toArray s 0 0 (fN F s.heap.size)) (F0 m 22 ls [])) (n : Nat) (a3 : Nat) , fX8_gives_L8 σ b a gv κ n a3 = some r → ∀ (H : Heap) (locs : List Loc) (Fc : Nat → Prop), RX D E α Fc σ H → (∀ q, Fc q → F q) → (∀ q, Fc q → q < H.size) → xK F F s.heap H locs → ∀ (ls : Array Slot), lv_has ls 6 [(0, .ref (α 9 b)), (1, .ref (α 1 0)), (2, .int (a)), (3, .int (nI a3))] → W p l e { frames := fr0 + 3, cells := 0, slots := 0, locals := lo0 + 64 } s m [(.ref (α 9 b) : Value), .ref (α 1 0), .int (a)].toArray below meth c H locs 0 0 (MQ below (qG F ((fun sz v h => v = some (.int (bI r)) ∧ RX D E α F σ h) s.heap.size)) [(.ref (α 9 b) : Value), .ref (α 1 0), .int (a)].toArray s 0 0 (fN F s.heap.size)) (F0 m 8 ls []) := by
    intro  κ hκ n
    induction n with
    | zero =>
      intro a3 hR H locs Fc hX hFa hFb hS ls hl
      rw [fX8_gives_L8] at hR
      have hG := gE.ofS hG0 hS hFE
      cases hR
    | succ n ih =>
      intro a3 hR H locs Fc hX hFa hFb hS ls hl
      rw [fX8_gives_L8] at hR
      have hG := gE.ofS hG0 hS hFE
      refine lv_iload_n hx hb dX8_gives_8 rfl (lv_at hl 2 rfl) ?_
      refine lv_iload_n hx hb dX8_gives_9 rfl (lv_at hl 3 rfl) ?_
      refine pcSN (As := [.int (a), .int (nI a3)]) (rest := []) hS0 (met_X1_has l D E a (nI a3)) q551 q375 q100 q376 hd_X1_has ⟨by show _ ≤ fr0 + 3; omega, by show _ ≤ lo0 + 64; omega⟩ hG trivial rfl hl.1 rfl (Nat.le_of_ble_eq_true rfl) dX8_gives_10 ⟨Nat.le_of_ble_eq_true rfl, Nat.le_of_ble_eq_true rfl⟩ ?_
      refine W.eq (g2 := F0 m 13 ls [.int (bI ((fX1_has a (nI a3))))]) rfl ?_
      refine lb_if_ne (tgt := 22) hx hb dX8_gives_13 (by decide) (fun c2 => ?_) (fun c2 => ?_)
      · rw [if_pos c2] at hR
        exact hκ a3 _ _ _ ls hR hX hFa (fun q z => by have := hFb q z; omega) hS (lv_sub hl [0, 1, 2, 3] rfl)
      · rw [if_neg c2] at hR
        refine lv_iinc (v := nI (a3 + 1)) (lv' := [(3, .int (nI (a3 + 1))), (0, .ref (α 9 b)), (1, .ref (α 1 0)), (2, .int (a))]) hx hb dX8_gives_16 hl (k := 3) rfl (nI_1 a3) (Nat.le_of_ble_eq_true rfl) rfl (fun ls hl => ?_)
        refine lv_goto (tgt := 8) hx hb dX8_gives_19 (by decide) ?_
        exact ih (a3 + 1)  hR _ _ _ hX hFa (fun q z => by have := hFb q z; omega) hS ls (lv_sub hl [1, 2, 3, 0] rfl)
  have hL25 : ∀ (i3 : Nat) (hf25_0 : i3 < nP σ) (κ : Option (Bool)) (hκ : ∀ (H : Heap) (locs : List Loc) (Fc : Nat → Prop) (ls : Array Slot), κ = some r → RX D E α Fc σ H → (∀ q, Fc q → F q) → (∀ q, Fc q → q < H.size) → xK F F s.heap H locs → lv_has ls 6 [] → W p l e { frames := fr0 + 3, cells := 0, slots := 0, locals := lo0 + 64 } s m [(.ref (α 9 b) : Value), .ref (α 1 0), .int (a)].toArray below meth c H locs 0 0 (MQ below (qG F ((fun sz v h => v = some (.int (bI r)) ∧ RX D E α F σ h) s.heap.size)) [(.ref (α 9 b) : Value), .ref (α 1 0), .int (a)].toArray s 0 0 (fN F s.heap.size)) (F0 m 117 ls [])) (n : Nat) (i4 : Nat) , i4 + n = 6 → fX8_gives_L25 σ b a gv i3 κ n i4 = some r → ∀ (H : Heap) (locs : List Loc) (Fc : Nat → Prop), RX D E α Fc σ H → (∀ q, Fc q → F q) → (∀ q, Fc q → q < H.size) → xK F F s.heap H locs → ∀ (ls : Array Slot), lv_has ls 6 [(0, .ref (α 9 b)), (1, .ref (α 1 0)), (2, .int (a)), (3, .int (nI i3)), (4, .int (nI i4))] → W p l e { frames := fr0 + 3, cells := 0, slots := 0, locals := lo0 + 64 } s m [(.ref (α 9 b) : Value), .ref (α 1 0), .int (a)].toArray below meth c H locs 0 0 (MQ below (qG F ((fun sz v h => v = some (.int (bI r)) ∧ RX D E α F σ h) s.heap.size)) [(.ref (α 9 b) : Value), .ref (α 1 0), .int (a)].toArray s 0 0 (fN F s.heap.size)) (F0 m 25 ls []) := by
    intro i3 hf25_0 κ hκ n
    induction n with
    | zero =>
      intro i4 hn hR H locs Fc hX hFa hFb hS ls hl
      rw [fX8_gives_L25] at hR
      have hG := gE.ofS hG0 hS hFE
      refine lv_iload hx hb dX8_gives_25 (lv_at hl 4 rfl) ?_
      refine lv_bipush (v := 6) hx hb dX8_gives_27 (by decide) ?_
      refine lk_ge_out (k := i4) (N := 6) hx hb hn (tgt := 117) dX8_gives_29 (by decide) ?_
      exact hκ  _ _ _ ls hR hX hFa (fun q z => by have := hFb q z; omega) hS (lv_sub hl [] rfl)
    | succ n ih =>
      intro i4 hn hR H locs Fc hX hFa hFb hS ls hl
      rw [fX8_gives_L25] at hR
      have hG := gE.ofS hG0 hS hFE
      refine lv_iload hx hb dX8_gives_25 (lv_at hl 4 rfl) ?_
      refine lv_bipush (v := 6) hx hb dX8_gives_27 (by decide) ?_
      have hki4 : i4 < 6 := lk_lt hn
      refine lk_ge_in (k := i4) (N := 6) hx hb hki4 (by decide) (tgt := 117) dX8_gives_29 (by decide) ?_
      refine lv_aload_n hx hb dX8_gives_32 rfl (lv_at hl 1 rfl) ?_
      refine lv_iload_n hx hb dX8_gives_33 rfl (lv_at hl 3 rfl) ?_
      refine pcF (x := xL_get) (ci := 13) (As := [.int (nI i3)]) (rest := []) hG.fw_get hS0 (met_xl_get l D E (j := 0) (by decide) i3 hf25_0) q553 q347 q349 q103 q351 hd_xL_get ⟨by show _ ≤ fr0 + 3; omega, by show _ ≤ lo0 + 64; omega⟩ hG cl_J2 (hX.lsR hG (j := 0) (by decide)) hX rfl hl.1 rfl (Nat.le_of_ble_eq_true rfl) dX8_gives_34 ⟨Nat.le_of_ble_eq_true rfl, Nat.le_of_ble_eq_true rfl⟩ ?_
      refine W.eq (g2 := F0 m 39 ls [.ref (α 3 i3)]) rfl ?_
      refine gc (ci := 5) hx hb hown hG cl_X6 (rcv hG cl_X6 (hX.pl hf25_0)) (hts _ q554) dX8_gives_39 ?_
      refine gfN (v := .int (pIns σ i3)) (C := RX6) (T := TX6) (N := 7) (k := 0) hx hb hts hown hG cl_X6 in_X6 (hX.pl hf25_0) (by decide) q909 rfl dX8_gives_42 ?_
      refine lv_iload hx hb dX8_gives_45 (lv_at hl 4 rfl) ?_
      refine pcSN (As := [.int (pIns σ i3), .int (nI i4)]) (rest := []) hS0 (met_X1_has l D E (pIns σ i3) (nI i4)) q551 q375 q100 q376 hd_X1_has ⟨by show _ ≤ fr0 + 3; omega, by show _ ≤ lo0 + 64; omega⟩ hG trivial rfl hl.1 rfl (Nat.le_of_ble_eq_true rfl) dX8_gives_47 ⟨Nat.le_of_ble_eq_true rfl, Nat.le_of_ble_eq_true rfl⟩ ?_
      refine W.eq (g2 := F0 m 50 ls [.int (bI ((fX1_has (pIns σ i3) (nI i4))))]) rfl ?_
      refine lb_if_eq (tgt := 111) hx hb dX8_gives_50 (by decide) (fun c5 => ?_) (fun c5 => ?_)
      · rw [if_neg c5] at hR
        refine lv_iinc (v := nI (i4 + 1)) (lv' := [(4, .int (nI (i4 + 1))), (0, .ref (α 9 b)), (1, .ref (α 1 0)), (2, .int (a)), (3, .int (nI i3))]) hx hb dX8_gives_111 hl (k := 4) rfl (nI_1 i4) (Nat.le_of_ble_eq_true rfl) rfl (fun ls hl => ?_)
        refine lv_goto (tgt := 25) hx hb dX8_gives_114 (by decide) ?_
        exact ih (i4 + 1) (lk_st hn) hR _ _ _ hX hFa (fun q z => by have := hFb q z; omega) hS ls (lv_sub hl [1, 2, 3, 4, 0] rfl)
      · rw [if_pos c5] at hR
        refine lv_aload_n hx hb dX8_gives_53 rfl (lv_at hl 0 rfl) ?_
        refine gf (v := .ref (α 11 b)) (C := RX8) (T := TX8) (N := 2) (k := 1) hx hb hts hown hG cl_X8 in_X8 (hX.sh h_b) (by decide) q986 rfl dX8_gives_54 ?_
        refine lv_iload hx hb dX8_gives_57 (lv_at hl 4 rfl) ?_
        refine gaI (N := 6) (k := i4) hx hb hG (hX.gv h_b) hki4 (by decide) dX8_gives_59 ?_
        refine lv_aload_n hx hb dX8_gives_60 rfl (lv_at hl 0 rfl) ?_
        refine gf (v := .ref (α 10 b)) (C := RX8) (T := TX8) (N := 2) (k := 0) hx hb hts hown hG cl_X8 in_X8 (hX.sh h_b) (by decide) q984 rfl dX8_gives_61 ?_
        refine lv_iload hx hb dX8_gives_64 (lv_at hl 4 rfl) ?_
        refine gaI (N := 6) (k := i4) hx hb hG (hX.nd h_b) hki4 (by decide) dX8_gives_66 ?_
        refine lv_icmp_ge (tgt := 111) hx hb dX8_gives_67 (by decide) (fun c6 => ?_) (fun c6 => ?_)
        · rw [if_pos c6] at hR
          refine lv_iinc (v := nI (i4 + 1)) (lv' := [(4, .int (nI (i4 + 1))), (0, .ref (α 9 b)), (1, .ref (α 1 0)), (2, .int (a)), (3, .int (nI i3))]) hx hb dX8_gives_111 hl (k := 4) rfl (nI_1 i4) (Nat.le_of_ble_eq_true rfl) rfl (fun ls hl => ?_)
          refine lv_goto (tgt := 25) hx hb dX8_gives_114 (by decide) ?_
          exact ih (i4 + 1) (lk_st hn) hR _ _ _ hX hFa (fun q z => by have := hFb q z; omega) hS ls (lv_sub hl [1, 2, 3, 4, 0] rfl)
        · rw [if_neg c6] at hR
          refine lv_aload_n hx hb dX8_gives_70 rfl (lv_at hl 0 rfl) ?_
          refine gf (v := .ref (α 11 b)) (C := RX8) (T := TX8) (N := 2) (k := 1) hx hb hts hown hG cl_X8 in_X8 (hX.sh h_b) (by decide) q986 rfl dX8_gives_71 ?_
          refine lv_iload hx hb dX8_gives_74 (lv_at hl 4 rfl) ?_
          refine lv_dup2_11 hx hb dX8_gives_76 rfl rfl ?_
          refine gaI (N := 6) (k := i4) hx hb hG (hX.gv h_b) hki4 (by decide) dX8_gives_77 ?_
          refine lv_iconst (v := 1) hx hb dX8_gives_78 (by decide) ?_
          refine lv_iadd hx hb dX8_gives_79 ?_
          refine paI (N := 6) (k := i4) hx hb hG hS (hX.gv h_b) (Or.inl (hFa _ (hX.gvF h_b))) (Or.inl (hFa _ (hX.gvF h_b))) hki4 (by decide) dX8_gives_80 (fun H1 locs1 he hz hq hS => ?_)
          have hX := hX.Pgv h_b he hq
          have hG := gE.ofS hG0 hS hFE
          obtain ⟨σ1, hσ1⟩ : ∃ x, x = sW σ (1000 + b) i4 ((bGiv σ b i4) + 1) := ⟨_, rfl⟩
          rw [← hσ1] at hR hX
          have hcn : cnt σ1 σ := by rw [hσ1]; exact hcn.sW
          try dsimp only at hR
          refine lv_aload_n hx hb dX8_gives_81 rfl (lv_at hl 0 rfl) ?_
          refine lv_aload_n hx hb dX8_gives_82 rfl (lv_at hl 1 rfl) ?_
          refine lv_iload_n hx hb dX8_gives_83 rfl (lv_at hl 2 rfl) ?_
          refine lv_iload_n hx hb dX8_gives_84 rfl (lv_at hl 2 rfl) ?_
          refine lv_iconst (v := 1) hx hb dX8_gives_85 (by decide) ?_
          refine lv_isub hx hb dX8_gives_86 ?_
          refine lv_iand hx hb dX8_gives_87 ?_
          rcases hc_r7 : (gv σ1 (a &&& (a - 1))) with _ | r7
          · rw [hc_r7] at hR
            cases hR
          rw [hc_r7] at hR
          try dsimp only [Option.bind] at hR
          have hB := hS.1
          refine gcV (As := [.ref (α 1 0), .int (a &&& (a - 1))]) (rest := []) hS0 (hgv _ σ1 (a &&& (a - 1)) _ (hcn.b h_b) hX.fE hc_r7) q546 q548 qs29 q126 q550 hd_X8_gives ⟨by show _ ≤ fr0 + 3; omega, by show _ ≤ lo0 + 64; omega⟩ hG (rcv hG cl_X8 (hX.sh (hcn.b h_b))) hX rfl hl.1 rfl (Nat.le_of_ble_eq_true rfl) dX8_gives_88 ⟨Nat.le_of_ble_eq_true rfl, Nat.le_of_ble_eq_true rfl⟩ hS (fun q h => Or.inl (hFa q h)) (fun q h => Or.inl (hFa q h)) (fun v H1 locs1 hP hz hk hS => ?_)
          obtain ⟨rfl, hZ⟩ := hP
          have hX := hZ
          have hG := gE.ofS hG0 hS hFE
          refine W.eq (g2 := F0 m 91 ls [.int (bI r7)]) rfl ?_
          refine lv_istore (lv' := [(5, .int (bI r7)), (0, .ref (α 9 b)), (1, .ref (α 1 0)), (2, .int (a)), (3, .int (nI i3)), (4, .int (nI i4))]) hx hb dX8_gives_91 hl (Nat.le_of_ble_eq_true rfl) rfl (fun ls hl => ?_)
          refine lv_aload_n hx hb dX8_gives_93 rfl (lv_at hl 1 rfl) ?_
          refine gf (v := .ref (α 11 b)) (C := RX8) (T := TX8) (N := 2) (k := 1) hx hb hts hown hG cl_X8 in_X8 (hX.sh (hcn.b h_b)) (by decide) q986 rfl dX8_gives_94 ?_
          refine lv_iload hx hb dX8_gives_97 (lv_at hl 5 rfl) ?_
          refine lv_dup2_11 hx hb dX8_gives_99 rfl rfl ?_
          refine gaI (N := 6) (k := i4) hx hb hG (hX.gv (hcn.b h_b)) hki4 (by decide) dX8_gives_100 ?_
          refine lv_iconst (v := 1) hx hb dX8_gives_101 (by decide) ?_
          refine lv_isub hx hb dX8_gives_102 ?_
          refine paI (N := 6) (k := i4) hx hb hG hS (hX.gv (hcn.b h_b)) (Or.inl (hFa _ (hX.gvF (hcn.b h_b)))) (Or.inl (hFa _ (hX.gvF (hcn.b h_b)))) hki4 (by decide) dX8_gives_103 (fun H1 locs1 he hz hq hS => ?_)
          have hX := hX.Pgv (hcn.b h_b) he hq
          have hG := gE.ofS hG0 hS hFE
          subst hσ1
          have e9 := sW_back (σ := σ) (f := 1000 + b) (k := i4)
          rw [show sW (sW σ (1000 + b) i4 (bGiv σ b i4 + 1)) (1000 + b) i4 (bGiv (sW σ (1000 + b) i4 (bGiv σ b i4 + 1)) b i4 - 1) = σ from e9] at hX
          refine lv_iload hx hb dX8_gives_104 (lv_at hl 0 rfl) ?_
          refine lb_if_eq (tgt := 111) hx hb dX8_gives_106 (by decide) (fun c8 => ?_) (fun c8 => ?_)
          · rw [if_neg c8] at hR
            refine lv_iinc (v := nI (i4 + 1)) (lv' := [(4, .int (nI (i4 + 1))), (5, .int (bI r7)), (0, .ref (α 9 b)), (1, .ref (α 1 0)), (2, .int (a)), (3, .int (nI i3))]) hx hb dX8_gives_111 hl (k := 5) rfl (nI_1 i4) (Nat.le_of_ble_eq_true rfl) rfl (fun ls hl => ?_)
            refine lv_goto (tgt := 25) hx hb dX8_gives_114 (by decide) ?_
            exact ih (i4 + 1) (lk_st hn) hR _ _ _ hX hFa (fun q z => by have := hFb q z; omega) hS ls (lv_sub hl [2, 3, 4, 5, 0] rfl)
          · rw [if_pos c8] at hR
            refine lv_iconst (v := 1) hx hb dX8_gives_109 (by decide) ?_
            exact g_zret (b := true) hx hb hr hlocks hS ⟨Nat.le_of_ble_eq_true rfl, Nat.le_of_ble_eq_true rfl⟩ dX8_gives_110 rfl (by cases hR; exact ⟨rfl, (hX.mono (fun q _ z => hFa q z) hFE)⟩)
  unfold fX8_gives at hR
  refine lv_iload_n hx hb dX8_gives_0 rfl (lv_at hl 2 rfl) ?_
  refine lv_if_ne (tgt := 6) hx hb dX8_gives_1 (by decide) (fun c1 => ?_) (fun c1 => ?_)
  · rw [if_neg c1] at hR
    refine lv_iconst (v := 0) hx hb dX8_gives_6 (by decide) ?_
    refine lv_istore_n (lv' := [(3, .int 0), (0, .ref (α 9 b)), (1, .ref (α 1 0)), (2, .int (a))]) hx hb dX8_gives_7 rfl hl (Nat.le_of_ble_eq_true rfl) rfl (fun ls hl => ?_)
    refine hL8  _ (fun i3 H1 locs1 Fc ls hR hX hFa hFb hS hl => ?_) 33 0   hR _ _ _ hX hFa (fun q z => by have := hFb q z; omega) hS ls (lv_sub hl [1, 2, 3, 0] rfl)
    try dsimp only at hR
    have hG := gE.ofS hG0 hS hFE
    rcases (Decidable.em (i3 < nP σ)).symm with g4 | g4
    · rw [if_neg g4] at hR
      cases hR
    rw [if_pos g4] at hR
    refine lv_iconst (v := 0) hx hb dX8_gives_22 (by decide) ?_
    refine lv_istore (lv' := [(4, .int 0), (0, .ref (α 9 b)), (1, .ref (α 1 0)), (2, .int (a)), (3, .int (nI i3))]) hx hb dX8_gives_23 hl (Nat.le_of_ble_eq_true rfl) rfl (fun ls hl => ?_)
    refine hL25 i3 g4 _ (fun  H1 locs1 Fc ls hR hX hFa hFb hS hl => ?_) 6 0  (Nat.zero_add _) hR _ _ _ hX hFa (fun q z => by have := hFb q z; omega) hS ls (lv_sub hl [1, 2, 3, 4, 0] rfl)
    try dsimp only at hR
    have hG := gE.ofS hG0 hS hFE
    refine lv_iconst (v := 0) hx hb dX8_gives_117 (by decide) ?_
    exact g_zret (b := false) hx hb hr hlocks hS ⟨Nat.le_of_ble_eq_true rfl, Nat.le_of_ble_eq_true rfl⟩ dX8_gives_118 rfl (by cases hR; exact ⟨rfl, (hX.mono (fun q _ z => hFa q z) hFE)⟩)
  · rw [if_pos c1] at hR
    refine lv_iconst (v := 1) hx hb dX8_gives_4 (by decide) ?_
    exact g_zret (b := true) hx hb hr hlocks hS ⟨Nat.le_of_ble_eq_true rfl, Nat.le_of_ble_eq_true rfl⟩ dX8_gives_5 rfl (by cases hR; exact ⟨rfl, (hX.mono (fun q _ z => hFa q z) hFE)⟩)

def givesR (b : Nat) : Nat → St → Int32 → Option Bool
  | 0, _, _ => none
  | d + 1, σ, a => fX8_gives σ b a (fun σ' a' => givesR b d σ' a')
theorem met_givesR (l : Launch) (D : va_G) (E : Nat → Nat) {α : Nat → Nat → Nat} (b : Nat) : ∀ (d : Nat) (F : Nat → Prop) (σ : St) (z : Int32) (r : Bool), b < nB σ → (∀ q, F q → E 0 ≤ q) → givesR b d σ z = some r → GM l D E yX8_gives cX8_gives 6 (Option.some Jvm.ClassFile.FieldType.boolean) (d * 3) (d * 64) 0 0 [.ref (α 9 b), .ref (α 1 0), .int z] (RX D E α F σ) F F (fun sz v h => v = some (.int (bI r)) ∧ RX D E α F σ h) := by
  intro d
  induction d with
  | zero => intro F σ z r _ _ h; cases h
  | succ d ih =>
    intro F σ z r hb hE hR
    have h := met_X8_gives l D E (fr0 := d * 3) (lo0 := d * 64) (α := α) (F := F) b z (fun σ' a' => givesR b d σ' a') hb (fun F' σ' z' r' h1 h2 h3 => ih F' σ' z' r' h1 h2 h3) hR
    have e1 : (d + 1) * 3 = d * 3 + 3 := by omega
    have e2 : (d + 1) * 64 = d * 64 + 64 := by omega
    rw [e1, e2]
    exact h

def fX8_canBe (σ : St) (b : Nat) (a : Int32) : Option (Bool) :=
  (Option.bind (givesR b 11 σ a) (fun (r1 : Bool) => (some r1)))
set_option maxHeartbeats 4000000 in
set_option maxRecDepth 100000 in
theorem met_X8_canBe (l : Launch) (D : va_G) (E : Nat → Nat) {α : Nat → Nat → Nat} {F : Nat → Prop} {σ : St} (b : Nat) (a : Int32) (h_b : b < nB σ) {r : Bool} (hR : fX8_canBe σ b a = some r) : GM l D E yX8_canBe cX8_canBe 3 (Option.some Jvm.ClassFile.FieldType.boolean) 34 729 0 0 [.ref (α 9 b), .ref (α 1 0), .int (a)] (RX D E α F σ) F F (fun sz v h => v = some (.int (bI r)) ∧ RX D E α F σ h)  := by
  refine GM.start (by decide) (Nat.le_of_ble_eq_true rfl) ?_
  intro p e s m below meth c ls hx hb hr hml hown hlocks hnm hts hG hX hS hl
  have hown : s.vm.findClass RX8 = some m.cls := hown
  have hS0 : xS p m c cX8_canBe 3 s _ RX8 := ⟨hx, hb, hml, hown, hts⟩
  have hl : lv_has ls 3 [(0, .ref (α 9 b)), (1, .ref (α 1 0)), (2, .int (a))] := hl
  have hG0 := hG
  have hX0 := hX
  have hb0P := hX0.nP10
  have hb0B := hX0.nB6
  have hb0W := hX0.nW14
  have hFE := hX.fE
  obtain ⟨Fc, hX, hFn⟩ := hX.nar
  have hFa : ∀ q, Fc q → F q := fun q z => (hFn q z).1
  have hFb : ∀ q, Fc q → q < s.heap.size := fun q z => (hFn q z).2
  have hcn : cnt σ σ := cnt.rf
  unfold fX8_canBe at hR
  refine lv_aload_n hx hb dX8_canBe_0 rfl (lv_at hl 0 rfl) ?_
  refine lv_aload_n hx hb dX8_canBe_1 rfl (lv_at hl 1 rfl) ?_
  refine lv_iload_n hx hb dX8_canBe_2 rfl (lv_at hl 2 rfl) ?_
  rcases hc_r1 : (givesR b 11 σ a) with _ | r1
  · rw [hc_r1] at hR
    cases hR
  rw [hc_r1] at hR
  try dsimp only [Option.bind] at hR
  have hB := hS.1
  refine gcV (As := [.ref (α 1 0), .int (a)]) (rest := []) hS0 (met_givesR l D E b 11 _ σ a _ h_b hX.fE hc_r1) q546 q548 qs29 q126 q550 hd_X8_gives ⟨Nat.le_of_ble_eq_true rfl, Nat.le_of_ble_eq_true rfl⟩ hG (rcv hG cl_X8 (hX.sh h_b)) hX rfl hl.1 rfl (Nat.le_of_ble_eq_true rfl) dX8_canBe_3 ⟨Nat.le_of_ble_eq_true rfl, Nat.le_of_ble_eq_true rfl⟩ hS (fun q h => Or.inl (hFa q h)) (fun q h => Or.inl (hFa q h)) (fun v H1 locs1 hP hz hk hS => ?_)
  obtain ⟨rfl, hZ⟩ := hP
  have hX := hZ
  have hG := gE.ofS hG0 hS hFE
  refine W.eq (g2 := F0 m 6 ls [.int (bI r1)]) rfl ?_
  exact g_zret (b := r1) hx hb hr hlocks hS ⟨Nat.le_of_ble_eq_true rfl, Nat.le_of_ble_eq_true rfl⟩ dX8_canBe_6 rfl (by cases hR; exact ⟨rfl, (hX.mono (fun q _ z => hFa q z) hFE)⟩)

def fX12_costOf_L4 (a : Int32) (np : Nat) (fc : Nat → Int32)  (κ : Int32 → Int32) : Nat → Nat → Int32 → Int32
  | 0, i3, a2 => κ a2
  | n + 1, i3, a2 => (if ((fX1_has a (nI i3))) = true then fX12_costOf_L4 a np fc κ n (i3 + 1) (a2 + ((fc) i3)) else fX12_costOf_L4 a np fc κ n (i3 + 1) (a2 + 0))
def fX12_costOf (a : Int32) (np : Nat) (fc : Nat → Int32) : Int32 :=
  fX12_costOf_L4 a np fc (fun (a2 : Int32) => a2) np 0 0
set_option maxHeartbeats 4000000 in
set_option maxRecDepth 100000 in
theorem met_X12_costOf (l : Launch) (D : va_G) (E : Nat → Nat) {α : Nat → Nat → Nat} (q0 : Nat) (a : Int32) (wi : Nat) (bi : Nat) (wf : Bool) (hd : Int32) (qc : Nat) (cb : Bool) (mn : Int32) (bs : Int32) (np : Nat) (fc : Nat → Int32) (hnp : np ≤ 10) (hne_this_cs : q0 ≠ qc) : GM l D E yX12_costOf cX12_costOf 4 (Option.some Jvm.ClassFile.FieldType.int) 1 21 0 0 [.ref (q0), .int (a)] (fun h => va_at D vwCl (q0, .inr (10, [.ref (α 5 wi), .ref (α 9 bi), .int (bI wf), .int (hd), .ref (qc), .int (bI cb), .int (mn), .int (bs), .ref (α 0 0)])) h ∧ va_at D vwCl (qc, arI E np fc) h) (fun _ => False) (fun _ => False) (fun sz v h => v = some (.int (fX12_costOf a np fc)))  := by
  generalize hR : fX12_costOf a np fc = r
  refine GM.start (by decide) (Nat.le_of_ble_eq_true rfl) ?_
  intro p e s m below meth c ls hx hb hr hml hown hlocks hnm hts hG ⟨hT_this, hT_cs⟩ hS hl
  have hown : s.vm.findClass RX12 = some m.cls := hown
  have hS0 : xS p m c cX12_costOf 4 s _ RX12 := ⟨hx, hb, hml, hown, hts⟩
  have hl : lv_has ls 4 [(0, .ref (q0)), (1, .int (a))] := hl
  have hG0 := hG
  have hL4 : ∀ (hne_this_cs : q0 ≠ qc) (κ : Int32 → Int32) (hκ : ∀ (a2 : Int32) (H : Heap) (locs : List Loc) (ls : Array Slot), κ a2 = r → va_at D vwCl (q0, .inr (10, [.ref (α 5 wi), .ref (α 9 bi), .int (bI wf), .int (hd), .ref (qc), .int (bI cb), .int (mn), .int (bs), .ref (α 0 0)])) H → va_at D vwCl (qc, arI E np fc) H → xK (fun _ => False) (fun _ => False) s.heap H locs → lv_has ls 4 [(2, .int (a2))] → W p l e { frames := 1, cells := 0, slots := 0, locals := 21 } s m [(.ref (q0) : Value), .int (a)].toArray below meth c H locs 0 0 (MQ below (qG (fun _ => False) ((fun sz v h => v = some (.int r)) s.heap.size)) [(.ref (q0) : Value), .int (a)].toArray s 0 0 (fN (fun _ => False) s.heap.size)) (F0 m 40 ls [])) (n : Nat) (i3 : Nat) (a2 : Int32) , i3 + n = np → fX12_costOf_L4 a np fc κ n i3 a2 = r → ∀ (H : Heap) (locs : List Loc), va_at D vwCl (q0, .inr (10, [.ref (α 5 wi), .ref (α 9 bi), .int (bI wf), .int (hd), .ref (qc), .int (bI cb), .int (mn), .int (bs), .ref (α 0 0)])) H → va_at D vwCl (qc, arI E np fc) H → xK (fun _ => False) (fun _ => False) s.heap H locs → ∀ (ls : Array Slot), lv_has ls 4 [(0, .ref (q0)), (1, .int (a)), (2, .int (a2)), (3, .int (nI i3))] → W p l e { frames := 1, cells := 0, slots := 0, locals := 21 } s m [(.ref (q0) : Value), .int (a)].toArray below meth c H locs 0 0 (MQ below (qG (fun _ => False) ((fun sz v h => v = some (.int r)) s.heap.size)) [(.ref (q0) : Value), .int (a)].toArray s 0 0 (fN (fun _ => False) s.heap.size)) (F0 m 4 ls []) := by
    intro hne_this_cs κ hκ n
    induction n with
    | zero =>
      intro i3 a2 hn hR H locs hT_this hT_cs hS ls hl
      rw [fX12_costOf_L4] at hR
      have hG := gE.ofS hG0 hS (fun _ h => h.elim)
      refine lv_iload_n hx hb dX12_costOf_4 rfl (lv_at hl 3 rfl) ?_
      refine lv_aload_n hx hb dX12_costOf_5 rfl (lv_at hl 0 rfl) ?_
      refine gf (v := .ref (qc)) (C := RX12) (T := TX12) (N := 9) (k := 4) hx hb hts hown hG cl_X12 in_X12 hT_this (by decide) q578 rfl dX12_costOf_6 ?_
      refine gl (N := np) hx hb hG hT_cs (t := 0) rfl rfl dX12_costOf_9 ?_
      refine lk_ge_out (k := i3) (N := np) hx hb hn (tgt := 40) dX12_costOf_10 (by decide) ?_
      exact hκ a2 _ _ ls hR hT_this hT_cs hS (lv_sub hl [2] rfl)
    | succ n ih =>
      intro i3 a2 hn hR H locs hT_this hT_cs hS ls hl
      rw [fX12_costOf_L4] at hR
      have hG := gE.ofS hG0 hS (fun _ h => h.elim)
      refine lv_iload_n hx hb dX12_costOf_4 rfl (lv_at hl 3 rfl) ?_
      refine lv_aload_n hx hb dX12_costOf_5 rfl (lv_at hl 0 rfl) ?_
      refine gf (v := .ref (qc)) (C := RX12) (T := TX12) (N := 9) (k := 4) hx hb hts hown hG cl_X12 in_X12 hT_this (by decide) q578 rfl dX12_costOf_6 ?_
      refine gl (N := np) hx hb hG hT_cs (t := 0) rfl rfl dX12_costOf_9 ?_
      have hki3 : i3 < np := lk_lt hn
      refine lk_ge_in (k := i3) (N := np) hx hb hki3 (by omega) (tgt := 40) dX12_costOf_10 (by decide) ?_
      refine lv_iload_n hx hb dX12_costOf_13 rfl (lv_at hl 2 rfl) ?_
      refine lv_iload_n hx hb dX12_costOf_14 rfl (lv_at hl 1 rfl) ?_
      refine lv_iload_n hx hb dX12_costOf_15 rfl (lv_at hl 3 rfl) ?_
      refine pcSN (As := [.int (a), .int (nI i3)]) (rest := [.int (a2)]) hS0 (met_X1_has l D E a (nI i3)) q572 q375 q100 q376 hd_X1_has ⟨Nat.le_of_ble_eq_true rfl, Nat.le_of_ble_eq_true rfl⟩ hG trivial rfl hl.1 rfl (Nat.le_of_ble_eq_true rfl) dX12_costOf_16 ⟨Nat.le_of_ble_eq_true rfl, Nat.le_of_ble_eq_true rfl⟩ ?_
      refine W.eq (g2 := F0 m 19 ls [.int (bI ((fX1_has a (nI i3)))), .int (a2)]) rfl ?_
      refine lb_if_eq (tgt := 31) hx hb dX12_costOf_19 (by decide) (fun c1 => ?_) (fun c1 => ?_)
      · rw [if_neg c1] at hR
        refine lv_iconst (v := 0) hx hb dX12_costOf_31 (by decide) ?_
        refine lv_iadd hx hb dX12_costOf_32 ?_
        refine lv_istore_n (lv' := [(2, .int (a2 + 0)), (0, .ref (q0)), (1, .int (a)), (3, .int (nI i3))]) hx hb dX12_costOf_33 rfl hl (Nat.le_of_ble_eq_true rfl) rfl (fun ls hl => ?_)
        refine lv_iinc (v := nI (i3 + 1)) (lv' := [(3, .int (nI (i3 + 1))), (2, .int (a2 + 0)), (0, .ref (q0)), (1, .int (a))]) hx hb dX12_costOf_34 hl (k := 3) rfl (nI_1 i3) (Nat.le_of_ble_eq_true rfl) rfl (fun ls hl => ?_)
        refine lv_goto (tgt := 4) hx hb dX12_costOf_37 (by decide) ?_
        exact ih (i3 + 1) (a2 + 0) (lk_st hn) hR _ _ hT_this hT_cs hS ls (lv_sub hl [2, 3, 1, 0] rfl)
      · rw [if_pos c1] at hR
        refine lv_aload_n hx hb dX12_costOf_22 rfl (lv_at hl 0 rfl) ?_
        refine gf (v := .ref (qc)) (C := RX12) (T := TX12) (N := 9) (k := 4) hx hb hts hown hG cl_X12 in_X12 hT_this (by decide) q578 rfl dX12_costOf_23 ?_
        refine lv_iload_n hx hb dX12_costOf_26 rfl (lv_at hl 3 rfl) ?_
        refine gaI (N := np) (k := i3) hx hb hG hT_cs hki3 (by omega) dX12_costOf_27 ?_
        refine lv_goto (tgt := 32) hx hb dX12_costOf_28 (by decide) ?_
        refine lv_iadd hx hb dX12_costOf_32 ?_
        refine lv_istore_n (lv' := [(2, .int (a2 + ((fc) i3))), (0, .ref (q0)), (1, .int (a)), (3, .int (nI i3))]) hx hb dX12_costOf_33 rfl hl (Nat.le_of_ble_eq_true rfl) rfl (fun ls hl => ?_)
        refine lv_iinc (v := nI (i3 + 1)) (lv' := [(3, .int (nI (i3 + 1))), (2, .int (a2 + ((fc) i3))), (0, .ref (q0)), (1, .int (a))]) hx hb dX12_costOf_34 hl (k := 3) rfl (nI_1 i3) (Nat.le_of_ble_eq_true rfl) rfl (fun ls hl => ?_)
        refine lv_goto (tgt := 4) hx hb dX12_costOf_37 (by decide) ?_
        exact ih (i3 + 1) (a2 + ((fc) i3)) (lk_st hn) hR _ _ hT_this hT_cs hS ls (lv_sub hl [2, 3, 1, 0] rfl)
  unfold fX12_costOf at hR
  refine lv_iconst (v := 0) hx hb dX12_costOf_0 (by decide) ?_
  refine lv_istore_n (lv' := [(2, .int 0), (0, .ref (q0)), (1, .int (a))]) hx hb dX12_costOf_1 rfl hl (Nat.le_of_ble_eq_true rfl) rfl (fun ls hl => ?_)
  refine lv_iconst (v := 0) hx hb dX12_costOf_2 (by decide) ?_
  refine lv_istore_n (lv' := [(3, .int 0), (2, .int 0), (0, .ref (q0)), (1, .int (a))]) hx hb dX12_costOf_3 rfl hl (Nat.le_of_ble_eq_true rfl) rfl (fun ls hl => ?_)
  refine hL4 hne_this_cs _ (fun a2 H1 locs1 ls hR hT_this hT_cs hS hl => ?_) np 0 0  (Nat.zero_add _) hR _ _ hT_this hT_cs hS ls (lv_sub hl [2, 3, 1, 0] rfl)
  try dsimp only at hR
  have hG := gE.ofS hG0 hS (fun _ h => h.elim)
  refine lv_iload_n hx hb dX12_costOf_40 rfl (lv_at hl 0 rfl) ?_
  exact g_iret hx hb hr hlocks hS ⟨Nat.le_of_ble_eq_true rfl, Nat.le_of_ble_eq_true rfl⟩ dX12_costOf_41 (by subst hR; exact rfl)

def fX12_isAhead (a : Int32) (z : Int32) (hd : Int32) (np : Nat) (fc : Nat → Int32) : Bool :=
  (if 0 < ((nI (popc (a &&& hd))) - (nI (popc (z &&& hd)))) then true else (if ((nI (popc (a &&& hd))) - (nI (popc (z &&& hd)))) = 0 then (if 0 < (((fX12_costOf z np fc)) - ((fX12_costOf a np fc))) then true else (if (((fX12_costOf z np fc)) - ((fX12_costOf a np fc))) = 0 then (if z ≤ a then false else true) else false)) else false))
set_option maxHeartbeats 4000000 in
set_option maxRecDepth 100000 in
theorem met_X12_isAhead (l : Launch) (D : va_G) (E : Nat → Nat) {α : Nat → Nat → Nat} (q0 : Nat) (a : Int32) (z : Int32) (wi : Nat) (bi : Nat) (wf : Bool) (hd : Int32) (qc : Nat) (cb : Bool) (mn : Int32) (bs : Int32) (np : Nat) (fc : Nat → Int32) (hnp : np ≤ 10) (hne_this_cs : q0 ≠ qc) : GM l D E yX12_isAhead cX12_isAhead 5 (Option.some Jvm.ClassFile.FieldType.boolean) 2 44 0 0 [.ref (q0), .int (a), .int (z)] (fun h => va_at D vwCl (q0, .inr (10, [.ref (α 5 wi), .ref (α 9 bi), .int (bI wf), .int (hd), .ref (qc), .int (bI cb), .int (mn), .int (bs), .ref (α 0 0)])) h ∧ va_at D vwCl (qc, arI E np fc) h) (fun _ => False) (fun _ => False) (fun sz v h => v = some (.int (bI (fX12_isAhead a z hd np fc))))  := by
  generalize hR : fX12_isAhead a z hd np fc = r
  refine GM.start (by decide) (Nat.le_of_ble_eq_true rfl) ?_
  intro p e s m below meth c ls hx hb hr hml hown hlocks hnm hts hG ⟨hT_this, hT_cs⟩ hS hl
  have hown : s.vm.findClass RX12 = some m.cls := hown
  have hS0 : xS p m c cX12_isAhead 5 s _ RX12 := ⟨hx, hb, hml, hown, hts⟩
  have hl : lv_has ls 5 [(0, .ref (q0)), (1, .int (a)), (2, .int (z))] := hl
  have hG0 := hG
  unfold fX12_isAhead at hR
  refine lv_iload_n hx hb dX12_isAhead_0 rfl (lv_at hl 1 rfl) ?_
  refine lv_aload_n hx hb dX12_isAhead_1 rfl (lv_at hl 0 rfl) ?_
  refine gf (v := .int (hd)) (C := RX12) (T := TX12) (N := 9) (k := 3) hx hb hts hown hG cl_X12 in_X12 hT_this (by decide) q577 rfl dX12_isAhead_2 ?_
  refine lv_iand hx hb dX12_isAhead_5 ?_
  refine pcSN (As := [.int (a &&& hd)]) (rest := []) hS0 (met_size l D E (a &&& hd)) q567 q380 q100 q381 hd_X1_size ⟨Nat.le_of_ble_eq_true rfl, Nat.le_of_ble_eq_true rfl⟩ hG trivial rfl hl.1 rfl (Nat.le_of_ble_eq_true rfl) dX12_isAhead_6 ⟨Nat.le_of_ble_eq_true rfl, Nat.le_of_ble_eq_true rfl⟩ ?_
  refine W.eq (g2 := F0 m 9 ls [.int (nI (popc (a &&& hd)))]) rfl ?_
  refine lv_iload_n hx hb dX12_isAhead_9 rfl (lv_at hl 2 rfl) ?_
  refine lv_aload_n hx hb dX12_isAhead_10 rfl (lv_at hl 0 rfl) ?_
  refine gf (v := .int (hd)) (C := RX12) (T := TX12) (N := 9) (k := 3) hx hb hts hown hG cl_X12 in_X12 hT_this (by decide) q577 rfl dX12_isAhead_11 ?_
  refine lv_iand hx hb dX12_isAhead_14 ?_
  refine pcSN (As := [.int (z &&& hd)]) (rest := [.int (nI (popc (a &&& hd)))]) hS0 (met_size l D E (z &&& hd)) q567 q380 q100 q381 hd_X1_size ⟨Nat.le_of_ble_eq_true rfl, Nat.le_of_ble_eq_true rfl⟩ hG trivial rfl hl.1 rfl (Nat.le_of_ble_eq_true rfl) dX12_isAhead_15 ⟨Nat.le_of_ble_eq_true rfl, Nat.le_of_ble_eq_true rfl⟩ ?_
  refine W.eq (g2 := F0 m 18 ls [.int (nI (popc (z &&& hd))), .int (nI (popc (a &&& hd)))]) rfl ?_
  refine lv_isub hx hb dX12_isAhead_18 ?_
  refine lv_istore_n (lv' := [(3, .int ((nI (popc (a &&& hd))) - (nI (popc (z &&& hd))))), (0, .ref (q0)), (1, .int (a)), (2, .int (z))]) hx hb dX12_isAhead_19 rfl hl (Nat.le_of_ble_eq_true rfl) rfl (fun ls hl => ?_)
  refine lv_aload_n hx hb dX12_isAhead_20 rfl (lv_at hl 1 rfl) ?_
  refine lv_iload_n hx hb dX12_isAhead_21 rfl (lv_at hl 3 rfl) ?_
  have hB := hS.1
  have hL_this : q0 < _ := hT_this.lt
  have hL_cs : qc < _ := hT_cs.lt
  refine gcV (As := [.int (z)]) (rest := []) hS0 (met_X12_costOf l D E q0 z wi bi wf hd qc cb mn bs np fc (by omega) hne_this_cs) q568 q570 qs33 q132 q571 hd_X12_costOf ⟨Nat.le_of_ble_eq_true rfl, Nat.le_of_ble_eq_true rfl⟩ hG (rcv hG cl_X12 hT_this) ⟨hT_this, hT_cs⟩ rfl hl.1 rfl (Nat.le_of_ble_eq_true rfl) dX12_isAhead_22 ⟨Nat.le_of_ble_eq_true rfl, Nat.le_of_ble_eq_true rfl⟩ hS (fun q h => h.elim) (fun q h => h.elim) (fun v H1 locs1 hP hz hk hS => ?_)
  obtain rfl := hP
  have hT_this : va_at D vwCl (q0, .inr (10, [.ref (α 5 wi), .ref (α 9 bi), .int (bI wf), .int (hd), .ref (qc), .int (bI cb), .int (mn), .int (bs), .ref (α 0 0)])) H1 := hT_this.kept (hk _ hT_this.lt id)
  have hT_cs : va_at D vwCl (qc, arI E np fc) H1 := hT_cs.kept (hk _ hT_cs.lt id)
  have hG := gE.ofS hG0 hS (fun _ h => h.elim)
  refine W.eq (g2 := F0 m 25 ls [.int ((fX12_costOf z np fc))]) rfl ?_
  refine lv_aload_n hx hb dX12_isAhead_25 rfl (lv_at hl 1 rfl) ?_
  refine lv_iload_n hx hb dX12_isAhead_26 rfl (lv_at hl 2 rfl) ?_
  have hB := hS.1
  have hL_this : q0 < _ := hT_this.lt
  have hL_cs : qc < _ := hT_cs.lt
  refine gcV (As := [.int (a)]) (rest := [.int ((fX12_costOf z np fc))]) hS0 (met_X12_costOf l D E q0 a wi bi wf hd qc cb mn bs np fc (by omega) hne_this_cs) q568 q570 qs33 q132 q571 hd_X12_costOf ⟨Nat.le_of_ble_eq_true rfl, Nat.le_of_ble_eq_true rfl⟩ hG (rcv hG cl_X12 hT_this) ⟨hT_this, hT_cs⟩ rfl hl.1 rfl (Nat.le_of_ble_eq_true rfl) dX12_isAhead_27 ⟨Nat.le_of_ble_eq_true rfl, Nat.le_of_ble_eq_true rfl⟩ hS (fun q h => h.elim) (fun q h => h.elim) (fun v H1 locs1 hP hz hk hS => ?_)
  obtain rfl := hP
  have hT_this : va_at D vwCl (q0, .inr (10, [.ref (α 5 wi), .ref (α 9 bi), .int (bI wf), .int (hd), .ref (qc), .int (bI cb), .int (mn), .int (bs), .ref (α 0 0)])) H1 := hT_this.kept (hk _ hT_this.lt id)
  have hT_cs : va_at D vwCl (qc, arI E np fc) H1 := hT_cs.kept (hk _ hT_cs.lt id)
  have hG := gE.ofS hG0 hS (fun _ h => h.elim)
  refine W.eq (g2 := F0 m 30 ls [.int ((fX12_costOf a np fc)), .int ((fX12_costOf z np fc))]) rfl ?_
  refine lv_isub hx hb dX12_isAhead_30 ?_
  refine lv_istore (lv' := [(4, .int (((fX12_costOf z np fc)) - ((fX12_costOf a np fc)))), (3, .int ((nI (popc (a &&& hd))) - (nI (popc (z &&& hd))))), (0, .ref (q0)), (1, .int (a)), (2, .int (z))]) hx hb dX12_isAhead_31 hl (Nat.le_of_ble_eq_true rfl) rfl (fun ls hl => ?_)
  refine lv_iload_n hx hb dX12_isAhead_33 rfl (lv_at hl 1 rfl) ?_
  refine lv_if_gt (tgt := 56) hx hb dX12_isAhead_34 (by decide) (fun c1 => ?_) (fun c1 => ?_)
  · rw [if_pos c1] at hR
    refine lv_iconst (v := 1) hx hb dX12_isAhead_56 (by decide) ?_
    refine lv_goto (tgt := 61) hx hb dX12_isAhead_57 (by decide) ?_
    exact g_zret (b := true) hx hb hr hlocks hS ⟨Nat.le_of_ble_eq_true rfl, Nat.le_of_ble_eq_true rfl⟩ dX12_isAhead_61 rfl (by subst hR; exact rfl)
  · rw [if_neg c1] at hR
    refine lv_iload_n hx hb dX12_isAhead_37 rfl (lv_at hl 1 rfl) ?_
    refine lv_if_ne (tgt := 60) hx hb dX12_isAhead_38 (by decide) (fun c2 => ?_) (fun c2 => ?_)
    · rw [if_neg c2] at hR
      refine lv_iconst (v := 0) hx hb dX12_isAhead_60 (by decide) ?_
      exact g_zret (b := false) hx hb hr hlocks hS ⟨Nat.le_of_ble_eq_true rfl, Nat.le_of_ble_eq_true rfl⟩ dX12_isAhead_61 rfl (by subst hR; exact rfl)
    · rw [if_pos c2] at hR
      refine lv_iload hx hb dX12_isAhead_41 (lv_at hl 0 rfl) ?_
      refine lv_if_gt (tgt := 56) hx hb dX12_isAhead_43 (by decide) (fun c3 => ?_) (fun c3 => ?_)
      · rw [if_pos c3] at hR
        refine lv_iconst (v := 1) hx hb dX12_isAhead_56 (by decide) ?_
        refine lv_goto (tgt := 61) hx hb dX12_isAhead_57 (by decide) ?_
        exact g_zret (b := true) hx hb hr hlocks hS ⟨Nat.le_of_ble_eq_true rfl, Nat.le_of_ble_eq_true rfl⟩ dX12_isAhead_61 rfl (by subst hR; exact rfl)
      · rw [if_neg c3] at hR
        refine lv_iload hx hb dX12_isAhead_46 (lv_at hl 0 rfl) ?_
        refine lv_if_ne (tgt := 60) hx hb dX12_isAhead_48 (by decide) (fun c4 => ?_) (fun c4 => ?_)
        · rw [if_neg c4] at hR
          refine lv_iconst (v := 0) hx hb dX12_isAhead_60 (by decide) ?_
          exact g_zret (b := false) hx hb hr hlocks hS ⟨Nat.le_of_ble_eq_true rfl, Nat.le_of_ble_eq_true rfl⟩ dX12_isAhead_61 rfl (by subst hR; exact rfl)
        · rw [if_pos c4] at hR
          refine lv_iload_n hx hb dX12_isAhead_51 rfl (lv_at hl 3 rfl) ?_
          refine lv_iload_n hx hb dX12_isAhead_52 rfl (lv_at hl 4 rfl) ?_
          refine lv_icmp_ge (tgt := 60) hx hb dX12_isAhead_53 (by decide) (fun c5 => ?_) (fun c5 => ?_)
          · rw [if_pos c5] at hR
            refine lv_iconst (v := 0) hx hb dX12_isAhead_60 (by decide) ?_
            exact g_zret (b := false) hx hb hr hlocks hS ⟨Nat.le_of_ble_eq_true rfl, Nat.le_of_ble_eq_true rfl⟩ dX12_isAhead_61 rfl (by subst hR; exact rfl)
          · rw [if_neg c5] at hR
            refine lv_iconst (v := 1) hx hb dX12_isAhead_56 (by decide) ?_
            refine lv_goto (tgt := 61) hx hb dX12_isAhead_57 (by decide) ?_
            exact g_zret (b := true) hx hb hr hlocks hS ⟨Nat.le_of_ble_eq_true rfl, Nat.le_of_ble_eq_true rfl⟩ dX12_isAhead_61 rfl (by subst hR; exact rfl)

def fX12_cost (bs : Int32) (np : Nat) (fc : Nat → Int32) : Int32 :=
  (if bs = ((-1)) then (-1) else (fX12_costOf bs np fc))
set_option maxHeartbeats 4000000 in
set_option maxRecDepth 100000 in
theorem met_X12_cost (l : Launch) (D : va_G) (E : Nat → Nat) {α : Nat → Nat → Nat} (q0 : Nat) (wi : Nat) (bi : Nat) (wf : Bool) (hd : Int32) (qc : Nat) (cb : Bool) (mn : Int32) (bs : Int32) (np : Nat) (fc : Nat → Int32) (hnp : np ≤ 10) (hne_this_cs : q0 ≠ qc) : GM l D E yX12_cost cX12_cost 1 (Option.some Jvm.ClassFile.FieldType.int) 2 44 0 0 [.ref (q0)] (fun h => va_at D vwCl (q0, .inr (10, [.ref (α 5 wi), .ref (α 9 bi), .int (bI wf), .int (hd), .ref (qc), .int (bI cb), .int (mn), .int (bs), .ref (α 0 0)])) h ∧ va_at D vwCl (qc, arI E np fc) h) (fun _ => False) (fun _ => False) (fun sz v h => v = some (.int (fX12_cost bs np fc)))  := by
  generalize hR : fX12_cost bs np fc = r
  refine GM.start (by decide) (Nat.le_of_ble_eq_true rfl) ?_
  intro p e s m below meth c ls hx hb hr hml hown hlocks hnm hts hG ⟨hT_this, hT_cs⟩ hS hl
  have hown : s.vm.findClass RX12 = some m.cls := hown
  have hS0 : xS p m c cX12_cost 1 s _ RX12 := ⟨hx, hb, hml, hown, hts⟩
  have hl : lv_has ls 1 [(0, .ref (q0))] := hl
  have hG0 := hG
  unfold fX12_cost at hR
  refine lv_aload_n hx hb dX12_cost_0 rfl (lv_at hl 0 rfl) ?_
  refine gf (v := .int (bs)) (C := RX12) (T := TX12) (N := 9) (k := 7) hx hb hts hown hG cl_X12 in_X12 hT_this (by decide) q583 rfl dX12_cost_1 ?_
  refine lv_iconst (v := (-1)) hx hb dX12_cost_4 (by decide) ?_
  refine lv_icmp_ne (tgt := 12) hx hb dX12_cost_5 (by decide) (fun c1 => ?_) (fun c1 => ?_)
  · rw [if_neg c1] at hR
    refine lv_aload_n hx hb dX12_cost_12 rfl (lv_at hl 0 rfl) ?_
    refine lv_aload_n hx hb dX12_cost_13 rfl (lv_at hl 0 rfl) ?_
    refine gf (v := .int (bs)) (C := RX12) (T := TX12) (N := 9) (k := 7) hx hb hts hown hG cl_X12 in_X12 hT_this (by decide) q583 rfl dX12_cost_14 ?_
    have hB := hS.1
    have hL_this : q0 < _ := hT_this.lt
    have hL_cs : qc < _ := hT_cs.lt
    refine gcV (As := [.int (bs)]) (rest := []) hS0 (met_X12_costOf l D E q0 bs wi bi wf hd qc cb mn bs np fc (by omega) hne_this_cs) q568 q570 qs33 q132 q571 hd_X12_costOf ⟨Nat.le_of_ble_eq_true rfl, Nat.le_of_ble_eq_true rfl⟩ hG (rcv hG cl_X12 hT_this) ⟨hT_this, hT_cs⟩ rfl hl.1 rfl (Nat.le_of_ble_eq_true rfl) dX12_cost_17 ⟨Nat.le_of_ble_eq_true rfl, Nat.le_of_ble_eq_true rfl⟩ hS (fun q h => h.elim) (fun q h => h.elim) (fun v H1 locs1 hP hz hk hS => ?_)
    obtain rfl := hP
    have hT_this : va_at D vwCl (q0, .inr (10, [.ref (α 5 wi), .ref (α 9 bi), .int (bI wf), .int (hd), .ref (qc), .int (bI cb), .int (mn), .int (bs), .ref (α 0 0)])) H1 := hT_this.kept (hk _ hT_this.lt id)
    have hT_cs : va_at D vwCl (qc, arI E np fc) H1 := hT_cs.kept (hk _ hT_cs.lt id)
    have hG := gE.ofS hG0 hS (fun _ h => h.elim)
    refine W.eq (g2 := F0 m 20 ls [.int ((fX12_costOf bs np fc))]) rfl ?_
    exact g_iret hx hb hr hlocks hS ⟨Nat.le_of_ble_eq_true rfl, Nat.le_of_ble_eq_true rfl⟩ dX12_cost_20 (by subst hR; exact rfl)
  · rw [if_pos c1] at hR
    refine lv_iconst (v := (-1)) hx hb dX12_cost_8 (by decide) ?_
    refine lv_goto (tgt := 20) hx hb dX12_cost_9 (by decide) ?_
    exact g_iret hx hb hr hlocks hS ⟨Nat.le_of_ble_eq_true rfl, Nat.le_of_ble_eq_true rfl⟩ dX12_cost_20 (by subst hR; exact rfl)

def fX12_look (σ : St) (a : Int32) (wi : Nat) (bi : Nat) (wf : Bool) (hd : Int32) (cb : Bool) (mn : Int32) (bs : Int32) (np : Nat) (fc : Nat → Int32) : Option (Bool × Int32 × Int32) :=
  (Option.bind (fX8_canBe σ bi a) (fun (r1 : Bool) => (if r1 = true then (if ((wSongs σ wi) &&& (((fX1_playable σ a)) ^^^ ((-1)))) = 0 then (if wf = true then (if ((fX1_arePeaceful σ a)) = true then (if bs = ((-1)) then (some (true, mn + 1, a)) else (if ((fX12_isAhead a bs hd np fc)) = true then (some (true, mn + 1, a)) else (some (true, mn + 1, bs)))) else (some (true, mn, bs))) else (if bs = ((-1)) then (some (true, mn + 1, a)) else (if ((fX12_isAhead a bs hd np fc)) = true then (some (true, mn + 1, a)) else (some (true, mn + 1, bs))))) else (some (true, mn, bs))) else (some (cb, mn, bs)))))
set_option maxHeartbeats 4000000 in
set_option maxRecDepth 100000 in
theorem met_X12_look (l : Launch) (D : va_G) (E : Nat → Nat) {α : Nat → Nat → Nat} {F : Nat → Prop} {σ : St} (q0 : Nat) (a : Int32) (wi : Nat) (bi : Nat) (wf : Bool) (hd : Int32) (qc : Nat) (cb : Bool) (mn : Int32) (bs : Int32) (np : Nat) (fc : Nat → Int32) (hnp : np ≤ 10) (hne_this_cs : q0 ≠ qc) (hdF_this : ¬ F q0) (hdF_cs : ¬ F qc) (h_wi : wi < nW σ) (h_bi : bi < nB σ) {r : Bool × Int32 × Int32} (hR : fX12_look σ a wi bi wf hd cb mn bs np fc = some r) : GM l D E yX12_look cX12_look 3 (Option.none : Option Jvm.ClassFile.FieldType) 35 751 0 0 [.ref (q0), .int (a)] (fun h => RX D E α F σ h ∧ va_at D vwCl (q0, .inr (10, [.ref (α 5 wi), .ref (α 9 bi), .int (bI wf), .int (hd), .ref (qc), .int (bI cb), .int (mn), .int (bs), .ref (α 0 0)])) h ∧ va_at D vwCl (qc, arI E np fc) h ∧ E 0 ≤ q0) (fun z => z = q0 ∨ F z) (fun z => z = q0 ∨ F z) (fun sz v h => v = none ∧ RX D E α F σ h ∧ va_at D vwCl (q0, .inr (10, [.ref (α 5 wi), .ref (α 9 bi), .int (bI wf), .int (hd), .ref (qc), .int (bI r.1), .int (r.2.1), .int (r.2.2), .ref (α 0 0)])) h)  := by
  refine GM.start (by decide) (Nat.le_of_ble_eq_true rfl) ?_
  intro p e s m below meth c ls hx hb hr hml hown hlocks hnm hts hG ⟨hX, hT_this, hT_cs, hq0⟩ hS hl
  have hown : s.vm.findClass RX12 = some m.cls := hown
  have hS0 : xS p m c cX12_look 3 s _ RX12 := ⟨hx, hb, hml, hown, hts⟩
  have hl : lv_has ls 3 [(0, .ref (q0)), (1, .int (a))] := hl
  have hG0 := hG
  have hX0 := hX
  have hb0P := hX0.nP10
  have hb0B := hX0.nB6
  have hb0W := hX0.nW14
  have hFE := hX.fE
  obtain ⟨Fc, hX, hFn⟩ := hX.nar
  have hFa : ∀ q, Fc q → F q := fun q z => (hFn q z).1
  have hFb : ∀ q, Fc q → q < s.heap.size := fun q z => (hFn q z).2
  have hcn : cnt σ σ := cnt.rf
  have hd_this : ¬ Fc q0 := fun z => hdF_this (hFn _ z).1
  have hd_cs : ¬ Fc qc := fun z => hdF_cs (hFn _ z).1
  unfold fX12_look at hR
  refine lv_aload_n hx hb dX12_look_0 rfl (lv_at hl 0 rfl) ?_
  refine gf (v := .ref (α 9 bi)) (C := RX12) (T := TX12) (N := 9) (k := 1) hx hb hts hown hG cl_X12 in_X12 hT_this (by decide) q574 rfl dX12_look_1 ?_
  refine lv_aload_n hx hb dX12_look_4 rfl (lv_at hl 0 rfl) ?_
  refine gf (v := .ref (α 0 0)) (C := RX12) (T := TX12) (N := 9) (k := 8) hx hb hts hown hG cl_X12 in_X12 hT_this (by decide) q585 rfl dX12_look_5 ?_
  refine gfN (v := .ref (α 1 0)) (C := RX1) (T := TX1) (N := 6) (k := 0) hx hb hts hown hG cl_X1 in_X1 hX.ag (by decide) q300 rfl dX12_look_8 ?_
  refine lv_iload_n hx hb dX12_look_11 rfl (lv_at hl 1 rfl) ?_
  rcases hc_r1 : (fX8_canBe σ bi a) with _ | r1
  · rw [hc_r1] at hR
    cases hR
  rw [hc_r1] at hR
  try dsimp only [Option.bind] at hR
  have hB := hS.1
  have hL_this : q0 < _ := hT_this.lt
  have hL_cs : qc < _ := hT_cs.lt
  refine gcV (As := [.ref (α 1 0), .int (a)]) (rest := []) hS0 (met_X8_canBe l D E bi a h_bi hc_r1) q542 q543 q544 q126 q545 hd_X8_canBe ⟨Nat.le_of_ble_eq_true rfl, Nat.le_of_ble_eq_true rfl⟩ hG (rcv hG cl_X8 (hX.sh h_bi)) hX rfl hl.1 rfl (Nat.le_of_ble_eq_true rfl) dX12_look_12 ⟨Nat.le_of_ble_eq_true rfl, Nat.le_of_ble_eq_true rfl⟩ hS (fun q h => (Or.inl (Or.inr (hFa _ h)))) (fun q h => (Or.inl (Or.inr (hFa _ h)))) (fun v H1 locs1 hP hz hk hS => ?_)
  obtain ⟨rfl, hZ⟩ := hP
  have hT_this : va_at D vwCl (q0, .inr (10, [.ref (α 5 wi), .ref (α 9 bi), .int (bI wf), .int (hd), .ref (qc), .int (bI cb), .int (mn), .int (bs), .ref (α 0 0)])) H1 := hT_this.kept (hk _ hT_this.lt hd_this)
  have hT_cs : va_at D vwCl (qc, arI E np fc) H1 := hT_cs.kept (hk _ hT_cs.lt hd_cs)
  have hX := hZ
  have hG := gE.ofS hG0 hS (fun q h => h.elim (fun h => by rw [h]; exact hq0) (hFE q))
  refine W.eq (g2 := F0 m 15 ls [.int (bI r1)]) rfl ?_
  refine lb_if_ne (tgt := 19) hx hb dX12_look_15 (by decide) (fun c2 => ?_) (fun c2 => ?_)
  · rw [if_pos c2] at hR
    refine lv_aload_n hx hb dX12_look_19 rfl (lv_at hl 0 rfl) ?_
    refine lv_iconst (v := 1) hx hb dX12_look_20 (by decide) ?_
    have hB := hS.1
    have hL_this : q0 < _ := hT_this.lt
    have hL_cs : qc < _ := hT_cs.lt
    refine pf (ty0 := tyX12) (ty := tyX12 5) (v := .int 1) (C := RX12) (T := TX12) (N := 9) (k := 5) hx hb hts hown hG hS cl_X12 in_X12 tyX12_ok nmX12 hT_this (Or.inl (Or.inl rfl)) (Or.inl (Or.inl rfl)) (by decide) q579 rfl (tyX12_ok 5 (by decide)) rfl rfl (Nat.le_of_ble_eq_true rfl) dX12_look_21 (fun H1 locs1 he hz hq hS => ?_)
    have hT_cs : va_at D vwCl (qc, arI E np fc) H1 := hT_cs.kept (hq _ (fun e9 => absurd e9 hne_this_cs.symm))
    have hX := hX.kept (fun q h4 h5 => hq q (fun e9 => hd_this (e9 ▸ h5)))
    have hT_this : va_at D vwCl (q0, .inr (10, [.ref (α 5 wi), .ref (α 9 bi), .int (bI wf), .int (hd), .ref (qc), .int 1, .int (mn), .int (bs), .ref (α 0 0)])) H1 := he
    have hG := gE.ofS hG0 hS (fun q h => h.elim (fun h => by rw [h]; exact hq0) (hFE q))
    refine lv_aload_n hx hb dX12_look_24 rfl (lv_at hl 0 rfl) ?_
    refine gf (v := .ref (α 5 wi)) (C := RX12) (T := TX12) (N := 9) (k := 0) hx hb hts hown hG cl_X12 in_X12 hT_this (by decide) q573 rfl dX12_look_25 ?_
    refine gfN (v := .int (wSongs σ wi)) (C := RX10) (T := TX10) (N := 12) (k := 5) hx hb hts hown hG cl_X10 in_X10 (hX.wd h_wi) (by decide) q1020 rfl dX12_look_28 ?_
    refine lv_aload_n hx hb dX12_look_31 rfl (lv_at hl 0 rfl) ?_
    refine gf (v := .ref (α 0 0)) (C := RX12) (T := TX12) (N := 9) (k := 8) hx hb hts hown hG cl_X12 in_X12 hT_this (by decide) q585 rfl dX12_look_32 ?_
    refine lv_iload_n hx hb dX12_look_35 rfl (lv_at hl 1 rfl) ?_
    refine pcVN (As := [.int (a)]) (rest := [.int (wSongs σ wi)]) hS0 (met_X1_playable l D E a) q555 q557 qs30 q100 q558 hd_X1_playable ⟨Nat.le_of_ble_eq_true rfl, Nat.le_of_ble_eq_true rfl⟩ hG (rcv hG cl_X1 hX.ag) hX rfl hl.1 rfl (Nat.le_of_ble_eq_true rfl) dX12_look_36 ⟨Nat.le_of_ble_eq_true rfl, Nat.le_of_ble_eq_true rfl⟩ ?_
    refine W.eq (g2 := F0 m 39 ls [.int ((fX1_playable σ a)), .int (wSongs σ wi)]) rfl ?_
    refine lv_iconst (v := (-1)) hx hb dX12_look_39 (by decide) ?_
    refine lv_ixor hx hb dX12_look_40 ?_
    refine lv_iand hx hb dX12_look_41 ?_
    refine lv_if_ne (tgt := 49) hx hb dX12_look_42 (by decide) (fun c3 => ?_) (fun c3 => ?_)
    · rw [if_neg c3] at hR
      refine lv_iconst (v := 0) hx hb dX12_look_49 (by decide) ?_
      refine lv_istore_n (lv' := [(2, .int 0), (0, .ref (q0)), (1, .int (a))]) hx hb dX12_look_50 rfl hl (Nat.le_of_ble_eq_true rfl) rfl (fun ls hl => ?_)
      refine lv_iload_n hx hb dX12_look_51 rfl (lv_at hl 0 rfl) ?_
      refine lv_if_eq (tgt := 115) hx hb dX12_look_52 (by decide) (fun _ => ?_) (fun c9 => absurd (by decide) c9)
      exact g_vret hx hb hr hlocks hS ⟨Nat.le_of_ble_eq_true rfl, Nat.le_of_ble_eq_true rfl⟩ dX12_look_115 (by cases hR; exact ⟨rfl, (hX.mono (fun q _ z => hFa q z) hFE), hT_this⟩)
    · rw [if_pos c3] at hR
      refine lv_iconst (v := 1) hx hb dX12_look_45 (by decide) ?_
      refine lv_goto (tgt := 50) hx hb dX12_look_46 (by decide) ?_
      refine lv_istore_n (lv' := [(2, .int 1), (0, .ref (q0)), (1, .int (a))]) hx hb dX12_look_50 rfl hl (Nat.le_of_ble_eq_true rfl) rfl (fun ls hl => ?_)
      refine lv_iload_n hx hb dX12_look_51 rfl (lv_at hl 0 rfl) ?_
      refine lv_if_eq (tgt := 115) hx hb dX12_look_52 (by decide) (fun c9 => absurd c9 (by decide)) (fun _ => ?_)
      refine lv_aload_n hx hb dX12_look_55 rfl (lv_at hl 1 rfl) ?_
      refine gf (v := .int (bI wf)) (C := RX12) (T := TX12) (N := 9) (k := 2) hx hb hts hown hG cl_X12 in_X12 hT_this (by decide) q576 rfl dX12_look_56 ?_
      refine lb_if_eq (tgt := 73) hx hb dX12_look_59 (by decide) (fun c4 => ?_) (fun c4 => ?_)
      · rw [if_neg c4] at hR
        refine lv_aload_n hx hb dX12_look_73 rfl (lv_at hl 1 rfl) ?_
        refine lv_dup hx hb dX12_look_74 rfl ?_
        refine gf (v := .int (mn)) (C := RX12) (T := TX12) (N := 9) (k := 6) hx hb hts hown hG cl_X12 in_X12 hT_this (by decide) q581 rfl dX12_look_75 ?_
        refine lv_iconst (v := 1) hx hb dX12_look_78 (by decide) ?_
        refine lv_iadd hx hb dX12_look_79 ?_
        have hB := hS.1
        have hL_this : q0 < _ := hT_this.lt
        have hL_cs : qc < _ := hT_cs.lt
        refine pf (ty0 := tyX12) (ty := tyX12 6) (v := .int (mn + 1)) (C := RX12) (T := TX12) (N := 9) (k := 6) hx hb hts hown hG hS cl_X12 in_X12 tyX12_ok nmX12 hT_this (Or.inl (Or.inl rfl)) (Or.inl (Or.inl rfl)) (by decide) q581 rfl (tyX12_ok 6 (by decide)) rfl rfl (Nat.le_of_ble_eq_true rfl) dX12_look_80 (fun H1 locs1 he hz hq hS => ?_)
        have hT_cs : va_at D vwCl (qc, arI E np fc) H1 := hT_cs.kept (hq _ (fun e9 => absurd e9 hne_this_cs.symm))
        have hX := hX.kept (fun q h4 h5 => hq q (fun e9 => hd_this (e9 ▸ h5)))
        have hT_this : va_at D vwCl (q0, .inr (10, [.ref (α 5 wi), .ref (α 9 bi), .int (bI wf), .int (hd), .ref (qc), .int 1, .int (mn + 1), .int (bs), .ref (α 0 0)])) H1 := he
        have hG := gE.ofS hG0 hS (fun q h => h.elim (fun h => by rw [h]; exact hq0) (hFE q))
        refine lv_aload_n hx hb dX12_look_83 rfl (lv_at hl 1 rfl) ?_
        refine lv_aload_n hx hb dX12_look_84 rfl (lv_at hl 1 rfl) ?_
        refine gf (v := .int (bs)) (C := RX12) (T := TX12) (N := 9) (k := 7) hx hb hts hown hG cl_X12 in_X12 hT_this (by decide) q583 rfl dX12_look_85 ?_
        refine lv_iconst (v := (-1)) hx hb dX12_look_88 (by decide) ?_
        refine lv_icmp_eq (tgt := 104) hx hb dX12_look_89 (by decide) (fun c5 => ?_) (fun c5 => ?_)
        · rw [if_pos c5] at hR
          refine lv_iload_n hx hb dX12_look_104 rfl (lv_at hl 2 rfl) ?_
          refine lv_goto (tgt := 112) hx hb dX12_look_105 (by decide) ?_
          have hB := hS.1
          have hL_this : q0 < _ := hT_this.lt
          have hL_cs : qc < _ := hT_cs.lt
          refine pf (ty0 := tyX12) (ty := tyX12 7) (v := .int (a)) (C := RX12) (T := TX12) (N := 9) (k := 7) hx hb hts hown hG hS cl_X12 in_X12 tyX12_ok nmX12 hT_this (Or.inl (Or.inl rfl)) (Or.inl (Or.inl rfl)) (by decide) q583 rfl (tyX12_ok 7 (by decide)) rfl rfl (Nat.le_of_ble_eq_true rfl) dX12_look_112 (fun H1 locs1 he hz hq hS => ?_)
          have hT_cs : va_at D vwCl (qc, arI E np fc) H1 := hT_cs.kept (hq _ (fun e9 => absurd e9 hne_this_cs.symm))
          have hX := hX.kept (fun q h4 h5 => hq q (fun e9 => hd_this (e9 ▸ h5)))
          have hT_this : va_at D vwCl (q0, .inr (10, [.ref (α 5 wi), .ref (α 9 bi), .int (bI wf), .int (hd), .ref (qc), .int 1, .int (mn + 1), .int (a), .ref (α 0 0)])) H1 := he
          have hG := gE.ofS hG0 hS (fun q h => h.elim (fun h => by rw [h]; exact hq0) (hFE q))
          exact g_vret hx hb hr hlocks hS ⟨Nat.le_of_ble_eq_true rfl, Nat.le_of_ble_eq_true rfl⟩ dX12_look_115 (by cases hR; exact ⟨rfl, (hX.mono (fun q _ z => hFa q z) hFE), hT_this⟩)
        · rw [if_neg c5] at hR
          refine lv_aload_n hx hb dX12_look_92 rfl (lv_at hl 1 rfl) ?_
          refine lv_iload_n hx hb dX12_look_93 rfl (lv_at hl 2 rfl) ?_
          refine lv_aload_n hx hb dX12_look_94 rfl (lv_at hl 1 rfl) ?_
          refine gf (v := .int (bs)) (C := RX12) (T := TX12) (N := 9) (k := 7) hx hb hts hown hG cl_X12 in_X12 hT_this (by decide) q583 rfl dX12_look_95 ?_
          have hB := hS.1
          have hL_this : q0 < _ := hT_this.lt
          have hL_cs : qc < _ := hT_cs.lt
          refine gcV (As := [.int (a), .int (bs)]) (rest := [.ref (q0)]) hS0 (met_X12_isAhead l D E q0 a bs wi bi wf hd qc true (mn + 1) bs np fc (by omega) hne_this_cs) q563 q565 qs32 q132 q566 hd_X12_isAhead ⟨Nat.le_of_ble_eq_true rfl, Nat.le_of_ble_eq_true rfl⟩ hG (rcv hG cl_X12 hT_this) ⟨hT_this, hT_cs⟩ rfl hl.1 rfl (Nat.le_of_ble_eq_true rfl) dX12_look_98 ⟨Nat.le_of_ble_eq_true rfl, Nat.le_of_ble_eq_true rfl⟩ hS (fun q h => h.elim) (fun q h => h.elim) (fun v H1 locs1 hP hz hk hS => ?_)
          obtain rfl := hP
          have hT_this : va_at D vwCl (q0, .inr (10, [.ref (α 5 wi), .ref (α 9 bi), .int (bI wf), .int (hd), .ref (qc), .int 1, .int (mn + 1), .int (bs), .ref (α 0 0)])) H1 := hT_this.kept (hk _ hT_this.lt id)
          have hT_cs : va_at D vwCl (qc, arI E np fc) H1 := hT_cs.kept (hk _ hT_cs.lt id)
          have hX := hX.kept (fun q h4 _ => hk q h4 id)
          have hG := gE.ofS hG0 hS (fun q h => h.elim (fun h => by rw [h]; exact hq0) (hFE q))
          refine W.eq (g2 := F0 m 101 ls [.int (bI ((fX12_isAhead a bs hd np fc))), .ref (q0)]) rfl ?_
          refine lb_if_eq (tgt := 108) hx hb dX12_look_101 (by decide) (fun c6 => ?_) (fun c6 => ?_)
          · rw [if_neg c6] at hR
            refine lv_aload_n hx hb dX12_look_108 rfl (lv_at hl 1 rfl) ?_
            refine gf (v := .int (bs)) (C := RX12) (T := TX12) (N := 9) (k := 7) hx hb hts hown hG cl_X12 in_X12 hT_this (by decide) q583 rfl dX12_look_109 ?_
            have hB := hS.1
            have hL_this : q0 < _ := hT_this.lt
            have hL_cs : qc < _ := hT_cs.lt
            refine pf (ty0 := tyX12) (ty := tyX12 7) (v := .int (bs)) (C := RX12) (T := TX12) (N := 9) (k := 7) hx hb hts hown hG hS cl_X12 in_X12 tyX12_ok nmX12 hT_this (Or.inl (Or.inl rfl)) (Or.inl (Or.inl rfl)) (by decide) q583 rfl (tyX12_ok 7 (by decide)) rfl rfl (Nat.le_of_ble_eq_true rfl) dX12_look_112 (fun H1 locs1 he hz hq hS => ?_)
            have hT_cs : va_at D vwCl (qc, arI E np fc) H1 := hT_cs.kept (hq _ (fun e9 => absurd e9 hne_this_cs.symm))
            have hX := hX.kept (fun q h4 h5 => hq q (fun e9 => hd_this (e9 ▸ h5)))
            have hT_this : va_at D vwCl (q0, .inr (10, [.ref (α 5 wi), .ref (α 9 bi), .int (bI wf), .int (hd), .ref (qc), .int 1, .int (mn + 1), .int (bs), .ref (α 0 0)])) H1 := he
            have hG := gE.ofS hG0 hS (fun q h => h.elim (fun h => by rw [h]; exact hq0) (hFE q))
            exact g_vret hx hb hr hlocks hS ⟨Nat.le_of_ble_eq_true rfl, Nat.le_of_ble_eq_true rfl⟩ dX12_look_115 (by cases hR; exact ⟨rfl, (hX.mono (fun q _ z => hFa q z) hFE), hT_this⟩)
          · rw [if_pos c6] at hR
            refine lv_iload_n hx hb dX12_look_104 rfl (lv_at hl 2 rfl) ?_
            refine lv_goto (tgt := 112) hx hb dX12_look_105 (by decide) ?_
            have hB := hS.1
            have hL_this : q0 < _ := hT_this.lt
            have hL_cs : qc < _ := hT_cs.lt
            refine pf (ty0 := tyX12) (ty := tyX12 7) (v := .int (a)) (C := RX12) (T := TX12) (N := 9) (k := 7) hx hb hts hown hG hS cl_X12 in_X12 tyX12_ok nmX12 hT_this (Or.inl (Or.inl rfl)) (Or.inl (Or.inl rfl)) (by decide) q583 rfl (tyX12_ok 7 (by decide)) rfl rfl (Nat.le_of_ble_eq_true rfl) dX12_look_112 (fun H1 locs1 he hz hq hS => ?_)
            have hT_cs : va_at D vwCl (qc, arI E np fc) H1 := hT_cs.kept (hq _ (fun e9 => absurd e9 hne_this_cs.symm))
            have hX := hX.kept (fun q h4 h5 => hq q (fun e9 => hd_this (e9 ▸ h5)))
            have hT_this : va_at D vwCl (q0, .inr (10, [.ref (α 5 wi), .ref (α 9 bi), .int (bI wf), .int (hd), .ref (qc), .int 1, .int (mn + 1), .int (a), .ref (α 0 0)])) H1 := he
            have hG := gE.ofS hG0 hS (fun q h => h.elim (fun h => by rw [h]; exact hq0) (hFE q))
            exact g_vret hx hb hr hlocks hS ⟨Nat.le_of_ble_eq_true rfl, Nat.le_of_ble_eq_true rfl⟩ dX12_look_115 (by cases hR; exact ⟨rfl, (hX.mono (fun q _ z => hFa q z) hFE), hT_this⟩)
      · rw [if_pos c4] at hR
        refine lv_aload_n hx hb dX12_look_62 rfl (lv_at hl 1 rfl) ?_
        refine gf (v := .ref (α 0 0)) (C := RX12) (T := TX12) (N := 9) (k := 8) hx hb hts hown hG cl_X12 in_X12 hT_this (by decide) q585 rfl dX12_look_63 ?_
        refine lv_iload_n hx hb dX12_look_66 rfl (lv_at hl 2 rfl) ?_
        refine pcVN (As := [.int (a)]) (rest := []) hS0 (met_X1_arePeaceful l D E a) q559 q561 qs31 q100 q562 hd_X1_arePeaceful ⟨Nat.le_of_ble_eq_true rfl, Nat.le_of_ble_eq_true rfl⟩ hG (rcv hG cl_X1 hX.ag) hX rfl hl.1 rfl (Nat.le_of_ble_eq_true rfl) dX12_look_67 ⟨Nat.le_of_ble_eq_true rfl, Nat.le_of_ble_eq_true rfl⟩ ?_
        refine W.eq (g2 := F0 m 70 ls [.int (bI ((fX1_arePeaceful σ a)))]) rfl ?_
        refine lb_if_eq (tgt := 115) hx hb dX12_look_70 (by decide) (fun c7 => ?_) (fun c7 => ?_)
        · rw [if_neg c7] at hR
          exact g_vret hx hb hr hlocks hS ⟨Nat.le_of_ble_eq_true rfl, Nat.le_of_ble_eq_true rfl⟩ dX12_look_115 (by cases hR; exact ⟨rfl, (hX.mono (fun q _ z => hFa q z) hFE), hT_this⟩)
        · rw [if_pos c7] at hR
          refine lv_aload_n hx hb dX12_look_73 rfl (lv_at hl 1 rfl) ?_
          refine lv_dup hx hb dX12_look_74 rfl ?_
          refine gf (v := .int (mn)) (C := RX12) (T := TX12) (N := 9) (k := 6) hx hb hts hown hG cl_X12 in_X12 hT_this (by decide) q581 rfl dX12_look_75 ?_
          refine lv_iconst (v := 1) hx hb dX12_look_78 (by decide) ?_
          refine lv_iadd hx hb dX12_look_79 ?_
          have hB := hS.1
          have hL_this : q0 < _ := hT_this.lt
          have hL_cs : qc < _ := hT_cs.lt
          refine pf (ty0 := tyX12) (ty := tyX12 6) (v := .int (mn + 1)) (C := RX12) (T := TX12) (N := 9) (k := 6) hx hb hts hown hG hS cl_X12 in_X12 tyX12_ok nmX12 hT_this (Or.inl (Or.inl rfl)) (Or.inl (Or.inl rfl)) (by decide) q581 rfl (tyX12_ok 6 (by decide)) rfl rfl (Nat.le_of_ble_eq_true rfl) dX12_look_80 (fun H1 locs1 he hz hq hS => ?_)
          have hT_cs : va_at D vwCl (qc, arI E np fc) H1 := hT_cs.kept (hq _ (fun e9 => absurd e9 hne_this_cs.symm))
          have hX := hX.kept (fun q h4 h5 => hq q (fun e9 => hd_this (e9 ▸ h5)))
          have hT_this : va_at D vwCl (q0, .inr (10, [.ref (α 5 wi), .ref (α 9 bi), .int (bI wf), .int (hd), .ref (qc), .int 1, .int (mn + 1), .int (bs), .ref (α 0 0)])) H1 := he
          have hG := gE.ofS hG0 hS (fun q h => h.elim (fun h => by rw [h]; exact hq0) (hFE q))
          refine lv_aload_n hx hb dX12_look_83 rfl (lv_at hl 1 rfl) ?_
          refine lv_aload_n hx hb dX12_look_84 rfl (lv_at hl 1 rfl) ?_
          refine gf (v := .int (bs)) (C := RX12) (T := TX12) (N := 9) (k := 7) hx hb hts hown hG cl_X12 in_X12 hT_this (by decide) q583 rfl dX12_look_85 ?_
          refine lv_iconst (v := (-1)) hx hb dX12_look_88 (by decide) ?_
          refine lv_icmp_eq (tgt := 104) hx hb dX12_look_89 (by decide) (fun c8 => ?_) (fun c8 => ?_)
          · rw [if_pos c8] at hR
            refine lv_iload_n hx hb dX12_look_104 rfl (lv_at hl 2 rfl) ?_
            refine lv_goto (tgt := 112) hx hb dX12_look_105 (by decide) ?_
            have hB := hS.1
            have hL_this : q0 < _ := hT_this.lt
            have hL_cs : qc < _ := hT_cs.lt
            refine pf (ty0 := tyX12) (ty := tyX12 7) (v := .int (a)) (C := RX12) (T := TX12) (N := 9) (k := 7) hx hb hts hown hG hS cl_X12 in_X12 tyX12_ok nmX12 hT_this (Or.inl (Or.inl rfl)) (Or.inl (Or.inl rfl)) (by decide) q583 rfl (tyX12_ok 7 (by decide)) rfl rfl (Nat.le_of_ble_eq_true rfl) dX12_look_112 (fun H1 locs1 he hz hq hS => ?_)
            have hT_cs : va_at D vwCl (qc, arI E np fc) H1 := hT_cs.kept (hq _ (fun e9 => absurd e9 hne_this_cs.symm))
            have hX := hX.kept (fun q h4 h5 => hq q (fun e9 => hd_this (e9 ▸ h5)))
            have hT_this : va_at D vwCl (q0, .inr (10, [.ref (α 5 wi), .ref (α 9 bi), .int (bI wf), .int (hd), .ref (qc), .int 1, .int (mn + 1), .int (a), .ref (α 0 0)])) H1 := he
            have hG := gE.ofS hG0 hS (fun q h => h.elim (fun h => by rw [h]; exact hq0) (hFE q))
            exact g_vret hx hb hr hlocks hS ⟨Nat.le_of_ble_eq_true rfl, Nat.le_of_ble_eq_true rfl⟩ dX12_look_115 (by cases hR; exact ⟨rfl, (hX.mono (fun q _ z => hFa q z) hFE), hT_this⟩)
          · rw [if_neg c8] at hR
            refine lv_aload_n hx hb dX12_look_92 rfl (lv_at hl 1 rfl) ?_
            refine lv_iload_n hx hb dX12_look_93 rfl (lv_at hl 2 rfl) ?_
            refine lv_aload_n hx hb dX12_look_94 rfl (lv_at hl 1 rfl) ?_
            refine gf (v := .int (bs)) (C := RX12) (T := TX12) (N := 9) (k := 7) hx hb hts hown hG cl_X12 in_X12 hT_this (by decide) q583 rfl dX12_look_95 ?_
            have hB := hS.1
            have hL_this : q0 < _ := hT_this.lt
            have hL_cs : qc < _ := hT_cs.lt
            refine gcV (As := [.int (a), .int (bs)]) (rest := [.ref (q0)]) hS0 (met_X12_isAhead l D E q0 a bs wi bi wf hd qc true (mn + 1) bs np fc (by omega) hne_this_cs) q563 q565 qs32 q132 q566 hd_X12_isAhead ⟨Nat.le_of_ble_eq_true rfl, Nat.le_of_ble_eq_true rfl⟩ hG (rcv hG cl_X12 hT_this) ⟨hT_this, hT_cs⟩ rfl hl.1 rfl (Nat.le_of_ble_eq_true rfl) dX12_look_98 ⟨Nat.le_of_ble_eq_true rfl, Nat.le_of_ble_eq_true rfl⟩ hS (fun q h => h.elim) (fun q h => h.elim) (fun v H1 locs1 hP hz hk hS => ?_)
            obtain rfl := hP
            have hT_this : va_at D vwCl (q0, .inr (10, [.ref (α 5 wi), .ref (α 9 bi), .int (bI wf), .int (hd), .ref (qc), .int 1, .int (mn + 1), .int (bs), .ref (α 0 0)])) H1 := hT_this.kept (hk _ hT_this.lt id)
            have hT_cs : va_at D vwCl (qc, arI E np fc) H1 := hT_cs.kept (hk _ hT_cs.lt id)
            have hX := hX.kept (fun q h4 _ => hk q h4 id)
            have hG := gE.ofS hG0 hS (fun q h => h.elim (fun h => by rw [h]; exact hq0) (hFE q))
            refine W.eq (g2 := F0 m 101 ls [.int (bI ((fX12_isAhead a bs hd np fc))), .ref (q0)]) rfl ?_
            refine lb_if_eq (tgt := 108) hx hb dX12_look_101 (by decide) (fun c9 => ?_) (fun c9 => ?_)
            · rw [if_neg c9] at hR
              refine lv_aload_n hx hb dX12_look_108 rfl (lv_at hl 1 rfl) ?_
              refine gf (v := .int (bs)) (C := RX12) (T := TX12) (N := 9) (k := 7) hx hb hts hown hG cl_X12 in_X12 hT_this (by decide) q583 rfl dX12_look_109 ?_
              have hB := hS.1
              have hL_this : q0 < _ := hT_this.lt
              have hL_cs : qc < _ := hT_cs.lt
              refine pf (ty0 := tyX12) (ty := tyX12 7) (v := .int (bs)) (C := RX12) (T := TX12) (N := 9) (k := 7) hx hb hts hown hG hS cl_X12 in_X12 tyX12_ok nmX12 hT_this (Or.inl (Or.inl rfl)) (Or.inl (Or.inl rfl)) (by decide) q583 rfl (tyX12_ok 7 (by decide)) rfl rfl (Nat.le_of_ble_eq_true rfl) dX12_look_112 (fun H1 locs1 he hz hq hS => ?_)
              have hT_cs : va_at D vwCl (qc, arI E np fc) H1 := hT_cs.kept (hq _ (fun e9 => absurd e9 hne_this_cs.symm))
              have hX := hX.kept (fun q h4 h5 => hq q (fun e9 => hd_this (e9 ▸ h5)))
              have hT_this : va_at D vwCl (q0, .inr (10, [.ref (α 5 wi), .ref (α 9 bi), .int (bI wf), .int (hd), .ref (qc), .int 1, .int (mn + 1), .int (bs), .ref (α 0 0)])) H1 := he
              have hG := gE.ofS hG0 hS (fun q h => h.elim (fun h => by rw [h]; exact hq0) (hFE q))
              exact g_vret hx hb hr hlocks hS ⟨Nat.le_of_ble_eq_true rfl, Nat.le_of_ble_eq_true rfl⟩ dX12_look_115 (by cases hR; exact ⟨rfl, (hX.mono (fun q _ z => hFa q z) hFE), hT_this⟩)
            · rw [if_pos c9] at hR
              refine lv_iload_n hx hb dX12_look_104 rfl (lv_at hl 2 rfl) ?_
              refine lv_goto (tgt := 112) hx hb dX12_look_105 (by decide) ?_
              have hB := hS.1
              have hL_this : q0 < _ := hT_this.lt
              have hL_cs : qc < _ := hT_cs.lt
              refine pf (ty0 := tyX12) (ty := tyX12 7) (v := .int (a)) (C := RX12) (T := TX12) (N := 9) (k := 7) hx hb hts hown hG hS cl_X12 in_X12 tyX12_ok nmX12 hT_this (Or.inl (Or.inl rfl)) (Or.inl (Or.inl rfl)) (by decide) q583 rfl (tyX12_ok 7 (by decide)) rfl rfl (Nat.le_of_ble_eq_true rfl) dX12_look_112 (fun H1 locs1 he hz hq hS => ?_)
              have hT_cs : va_at D vwCl (qc, arI E np fc) H1 := hT_cs.kept (hq _ (fun e9 => absurd e9 hne_this_cs.symm))
              have hX := hX.kept (fun q h4 h5 => hq q (fun e9 => hd_this (e9 ▸ h5)))
              have hT_this : va_at D vwCl (q0, .inr (10, [.ref (α 5 wi), .ref (α 9 bi), .int (bI wf), .int (hd), .ref (qc), .int 1, .int (mn + 1), .int (a), .ref (α 0 0)])) H1 := he
              have hG := gE.ofS hG0 hS (fun q h => h.elim (fun h => by rw [h]; exact hq0) (hFE q))
              exact g_vret hx hb hr hlocks hS ⟨Nat.le_of_ble_eq_true rfl, Nat.le_of_ble_eq_true rfl⟩ dX12_look_115 (by cases hR; exact ⟨rfl, (hX.mono (fun q _ z => hFa q z) hFE), hT_this⟩)
  · rw [if_neg c2] at hR
    exact g_vret hx hb hr hlocks hS ⟨Nat.le_of_ble_eq_true rfl, Nat.le_of_ble_eq_true rfl⟩ dX12_look_18 (by cases hR; exact ⟨rfl, (hX.mono (fun q _ z => hFa q z) hFE), hT_this⟩)

def fX12_choose_L14 (σ : St) (k : Nat) (a : Int32) (fs : Int32) (z : Int32) (wi : Nat) (bi : Nat) (wf : Bool) (hd : Int32) (cb : Bool) (mn : Int32) (bs : Int32) (np : Nat) (fc : Nat → Int32) (ch : Nat → Int32 → Int32 → Bool → Int32 → Int32 → Option (Bool × Int32 × Int32))  (κ : Bool → Int32 → Int32 → Option (Bool × Int32 × Int32)) : Nat → Nat → Bool → Int32 → Int32 → Option (Bool × Int32 × Int32)
  | 0, i5, o_this5_14, o_this6_14, o_this7_14 => κ o_this5_14 o_this6_14 o_this7_14
  | n + 1, i5, o_this5_14, o_this6_14, o_this7_14 => (if ((fX1_has fs (nI i5))) = true then (Option.bind (ch (i5 + 1) (a ||| (1 <<< ((nI i5) &&& 31))) (z - 1) o_this5_14 o_this6_14 o_this7_14) (fun (r3 : Bool × Int32 × Int32) => fX12_choose_L14 σ k a fs z wi bi wf hd cb mn bs np fc ch κ n (i5 + 1) r3.1 r3.2.1 r3.2.2)) else fX12_choose_L14 σ k a fs z wi bi wf hd cb mn bs np fc ch κ n (i5 + 1) o_this5_14 o_this6_14 o_this7_14)
def fX12_choose (σ : St) (k : Nat) (a : Int32) (fs : Int32) (z : Int32) (wi : Nat) (bi : Nat) (wf : Bool) (hd : Int32) (cb : Bool) (mn : Int32) (bs : Int32) (np : Nat) (fc : Nat → Int32) (ch : Nat → Int32 → Int32 → Bool → Int32 → Int32 → Option (Bool × Int32 × Int32)) : Option (Bool × Int32 × Int32) :=
  (if z = 0 then (Option.bind (fX12_look σ a wi bi wf hd cb mn bs np fc) (fun (r7 : Bool × Int32 × Int32) => (some (r7.1, r7.2.1, r7.2.2)))) else fX12_choose_L14 σ k a fs z wi bi wf hd cb mn bs np fc ch (fun (t_this_4 : Bool) (t_this_5 : Int32) (t_this_6 : Int32) => (some (t_this_4, t_this_5, t_this_6))) ((nP σ) - k) k cb mn bs)
set_option maxHeartbeats 4000000 in
set_option maxRecDepth 100000 in
theorem met_X12_choose (l : Launch) (D : va_G) (E : Nat → Nat) {α : Nat → Nat → Nat} {F : Nat → Prop} {σ : St} {fr0 lo0 : Nat} (q0 : Nat) (k : Nat) (a : Int32) (fs : Int32) (z : Int32) (wi : Nat) (bi : Nat) (wf : Bool) (hd : Int32) (qc : Nat) (cb : Bool) (mn : Int32) (bs : Int32) (np : Nat) (fc : Nat → Int32) (ch : Nat → Int32 → Int32 → Bool → Int32 → Int32 → Option (Bool × Int32 × Int32)) (hnp : np ≤ 10) (hne_this_cs : q0 ≠ qc) (hdF_this : ¬ F q0) (hdF_cs : ¬ F qc) (h_wi : wi < nW σ) (h_bi : bi < nB σ) (hch : ∀ (F : Nat → Prop) (cb : Bool) (mn bs : Int32) (k : Nat) (a z : Int32) (r : Bool × Int32 × Int32), ¬ F q0 → ¬ F qc → (∀ q, F q → E 0 ≤ q) → k ≤ nP σ → ch k a z cb mn bs = some r → GM l D E yX12_choose cX12_choose 6 (Option.none : Option Jvm.ClassFile.FieldType) fr0 lo0 0 0 [.ref q0, .int (nI k), .int a, .int fs, .int z] (fun h => RX D E α F σ h ∧ va_at D vwCl (q0, .inr (10, [.ref (α 5 wi), .ref (α 9 bi), .int (bI wf), .int (hd), .ref (qc), .int (bI cb), .int (mn), .int (bs), .ref (α 0 0)])) h ∧ va_at D vwCl (qc, arI E np fc) h ∧ E 0 ≤ q0) (fun z => z = q0 ∨ F z) (fun z => z = q0 ∨ F z) (fun sz v h => v = none ∧ RX D E α F σ h ∧ va_at D vwCl (q0, .inr (10, [.ref (α 5 wi), .ref (α 9 bi), .int (bI wf), .int (hd), .ref (qc), .int (bI r.1), .int (r.2.1), .int (r.2.2), .ref (α 0 0)])) h)) (hkle : k ≤ nP σ) {r : Bool × Int32 × Int32} (hR : fX12_choose σ k a fs z wi bi wf hd cb mn bs np fc ch = some r) : GM l D E yX12_choose cX12_choose 6 (Option.none : Option Jvm.ClassFile.FieldType) (fr0 + 36) (lo0 + 773) 0 0 [.ref (q0), .int (nI k), .int (a), .int (fs), .int (z)] (fun h => RX D E α F σ h ∧ va_at D vwCl (q0, .inr (10, [.ref (α 5 wi), .ref (α 9 bi), .int (bI wf), .int (hd), .ref (qc), .int (bI cb), .int (mn), .int (bs), .ref (α 0 0)])) h ∧ va_at D vwCl (qc, arI E np fc) h ∧ E 0 ≤ q0) (fun z => z = q0 ∨ F z) (fun z => z = q0 ∨ F z) (fun sz v h => v = none ∧ RX D E α F σ h ∧ va_at D vwCl (q0, .inr (10, [.ref (α 5 wi), .ref (α 9 bi), .int (bI wf), .int (hd), .ref (qc), .int (bI r.1), .int (r.2.1), .int (r.2.2), .ref (α 0 0)])) h)  := by
  refine GM.start (by decide) (Nat.le_of_ble_eq_true rfl) ?_
  intro p e s m below meth c ls hx hb hr hml hown hlocks hnm hts hG ⟨hX, hT_this, hT_cs, hq0⟩ hS hl
  have hown : s.vm.findClass RX12 = some m.cls := hown
  have hS0 : xS p m c cX12_choose 6 s _ RX12 := ⟨hx, hb, hml, hown, hts⟩
  have hl : lv_has ls 6 [(0, .ref (q0)), (1, .int (nI k)), (2, .int (a)), (3, .int (fs)), (4, .int (z))] := hl
  have hG0 := hG
  have hX0 := hX
  have hb0P := hX0.nP10
  have hb0B := hX0.nB6
  have hb0W := hX0.nW14
  have hFE := hX.fE
  obtain ⟨Fc, hX, hFn⟩ := hX.nar
  have hFa : ∀ q, Fc q → F q := fun q z => (hFn q z).1
  have hFb : ∀ q, Fc q → q < s.heap.size := fun q z => (hFn q z).2
  have hcn : cnt σ σ := cnt.rf
  have hd_this : ¬ Fc q0 := fun z => hdF_this (hFn _ z).1
  have hd_cs : ¬ Fc qc := fun z => hdF_cs (hFn _ z).1
  have hL14 : ∀ (hne_this_cs : q0 ≠ qc) (κ : Bool → Int32 → Int32 → Option (Bool × Int32 × Int32)) (hκ : ∀ (o_this5_14 : Bool) (o_this6_14 : Int32) (o_this7_14 : Int32) (H : Heap) (locs : List Loc) (Fc : Nat → Prop) (ls : Array Slot), κ o_this5_14 o_this6_14 o_this7_14 = some r → RX D E α Fc σ H → (∀ q, Fc q → F q) → (∀ q, Fc q → q < H.size) → ¬ Fc q0 → ¬ Fc qc → va_at D vwCl (q0, .inr (10, [.ref (α 5 wi), .ref (α 9 bi), .int (bI wf), .int (hd), .ref (qc), .int (bI o_this5_14), .int (o_this6_14), .int (o_this7_14), .ref (α 0 0)])) H → va_at D vwCl (qc, arI E np fc) H → xK (fun z => z = q0 ∨ F z) (fun z => z = q0 ∨ F z) s.heap H locs → lv_has ls 6 [] → W p l e { frames := fr0 + 36, cells := 0, slots := 0, locals := lo0 + 773 } s m [(.ref (q0) : Value), .int (nI k), .int (a), .int (fs), .int (z)].toArray below meth c H locs 0 0 (MQ below (qG (fun z => z = q0 ∨ F z) ((fun sz v h => v = none ∧ RX D E α F σ h ∧ va_at D vwCl (q0, .inr (10, [.ref (α 5 wi), .ref (α 9 bi), .int (bI wf), .int (hd), .ref (qc), .int (bI r.1), .int (r.2.1), .int (r.2.2), .ref (α 0 0)])) h) s.heap.size)) [(.ref (q0) : Value), .int (nI k), .int (a), .int (fs), .int (z)].toArray s 0 0 (fN (fun z => z = q0 ∨ F z) s.heap.size)) (F0 m 65 ls [])) (n : Nat) (i5 : Nat) (o_this5_14 : Bool) (o_this6_14 : Int32) (o_this7_14 : Int32), i5 + n = nP σ → fX12_choose_L14 σ k a fs z wi bi wf hd cb mn bs np fc ch κ n i5 o_this5_14 o_this6_14 o_this7_14 = some r → ∀ (H : Heap) (locs : List Loc) (Fc : Nat → Prop), RX D E α Fc σ H → (∀ q, Fc q → F q) → (∀ q, Fc q → q < H.size) → ¬ Fc q0 → ¬ Fc qc → va_at D vwCl (q0, .inr (10, [.ref (α 5 wi), .ref (α 9 bi), .int (bI wf), .int (hd), .ref (qc), .int (bI o_this5_14), .int (o_this6_14), .int (o_this7_14), .ref (α 0 0)])) H → va_at D vwCl (qc, arI E np fc) H → xK (fun z => z = q0 ∨ F z) (fun z => z = q0 ∨ F z) s.heap H locs → ∀ (ls : Array Slot), lv_has ls 6 [(0, .ref (q0)), (2, .int (a)), (3, .int (fs)), (4, .int (z)), (5, .int (nI i5))] → W p l e { frames := fr0 + 36, cells := 0, slots := 0, locals := lo0 + 773 } s m [(.ref (q0) : Value), .int (nI k), .int (a), .int (fs), .int (z)].toArray below meth c H locs 0 0 (MQ below (qG (fun z => z = q0 ∨ F z) ((fun sz v h => v = none ∧ RX D E α F σ h ∧ va_at D vwCl (q0, .inr (10, [.ref (α 5 wi), .ref (α 9 bi), .int (bI wf), .int (hd), .ref (qc), .int (bI r.1), .int (r.2.1), .int (r.2.2), .ref (α 0 0)])) h) s.heap.size)) [(.ref (q0) : Value), .int (nI k), .int (a), .int (fs), .int (z)].toArray s 0 0 (fN (fun z => z = q0 ∨ F z) s.heap.size)) (F0 m 14 ls []) := by
    intro hne_this_cs κ hκ n
    induction n with
    | zero =>
      intro i5 o_this5_14 o_this6_14 o_this7_14 hn hR H locs Fc hX hFa hFb hd_this hd_cs hT_this hT_cs hS ls hl
      rw [fX12_choose_L14] at hR
      have hG := gE.ofS hG0 hS (fun q h => h.elim (fun h => by rw [h]; exact hq0) (hFE q))
      refine lv_iload hx hb dX12_choose_14 (lv_at hl 4 rfl) ?_
      refine lv_aload_n hx hb dX12_choose_16 rfl (lv_at hl 0 rfl) ?_
      refine gf (v := .ref (α 0 0)) (C := RX12) (T := TX12) (N := 9) (k := 8) hx hb hts hown hG cl_X12 in_X12 hT_this (by decide) q585 rfl dX12_choose_17 ?_
      refine gfN (v := .ref (α 1 0)) (C := RX1) (T := TX1) (N := 6) (k := 0) hx hb hts hown hG cl_X1 in_X1 hX.ag (by decide) q300 rfl dX12_choose_20 ?_
      refine pcF (x := xL_size) (ci := 13) (As := []) (rest := [.int (nI i5)]) hG.fw_size hS0 (met_xl_size l D E (j := 0) (by decide)) q524 q334 q336 q103 q338 hd_xL_size ⟨by show _ ≤ fr0 + 36; omega, by show _ ≤ lo0 + 773; omega⟩ hG cl_J2 (hX.lsR hG (j := 0) (by decide)) hX rfl hl.1 rfl (Nat.le_of_ble_eq_true rfl) dX12_choose_23 ⟨Nat.le_of_ble_eq_true rfl, Nat.le_of_ble_eq_true rfl⟩ ?_
      refine W.eq (g2 := F0 m 28 ls [.int (nI (nP σ)), .int (nI i5)]) rfl ?_
      refine lk_ge_out (k := i5) (N := nP σ) hx hb hn (tgt := 65) dX12_choose_28 (by decide) ?_
      exact hκ o_this5_14 o_this6_14 o_this7_14 _ _ _ ls hR hX hFa (fun q z => by have := hFb q z; omega) hd_this hd_cs hT_this hT_cs hS (lv_sub hl [] rfl)
    | succ n ih =>
      intro i5 o_this5_14 o_this6_14 o_this7_14 hn hR H locs Fc hX hFa hFb hd_this hd_cs hT_this hT_cs hS ls hl
      rw [fX12_choose_L14] at hR
      have hG := gE.ofS hG0 hS (fun q h => h.elim (fun h => by rw [h]; exact hq0) (hFE q))
      refine lv_iload hx hb dX12_choose_14 (lv_at hl 4 rfl) ?_
      refine lv_aload_n hx hb dX12_choose_16 rfl (lv_at hl 0 rfl) ?_
      refine gf (v := .ref (α 0 0)) (C := RX12) (T := TX12) (N := 9) (k := 8) hx hb hts hown hG cl_X12 in_X12 hT_this (by decide) q585 rfl dX12_choose_17 ?_
      refine gfN (v := .ref (α 1 0)) (C := RX1) (T := TX1) (N := 6) (k := 0) hx hb hts hown hG cl_X1 in_X1 hX.ag (by decide) q300 rfl dX12_choose_20 ?_
      refine pcF (x := xL_size) (ci := 13) (As := []) (rest := [.int (nI i5)]) hG.fw_size hS0 (met_xl_size l D E (j := 0) (by decide)) q524 q334 q336 q103 q338 hd_xL_size ⟨by show _ ≤ fr0 + 36; omega, by show _ ≤ lo0 + 773; omega⟩ hG cl_J2 (hX.lsR hG (j := 0) (by decide)) hX rfl hl.1 rfl (Nat.le_of_ble_eq_true rfl) dX12_choose_23 ⟨Nat.le_of_ble_eq_true rfl, Nat.le_of_ble_eq_true rfl⟩ ?_
      refine W.eq (g2 := F0 m 28 ls [.int (nI (nP σ)), .int (nI i5)]) rfl ?_
      have hki5 : i5 < nP σ := lk_lt hn
      refine lk_ge_in (k := i5) (N := nP σ) hx hb hki5 (by have := hX.nP10; have := hX.nW14; have := hX.nB6; omega) (tgt := 65) dX12_choose_28 (by decide) ?_
      refine lv_iload_n hx hb dX12_choose_31 rfl (lv_at hl 2 rfl) ?_
      refine lv_iload hx hb dX12_choose_32 (lv_at hl 4 rfl) ?_
      refine pcSN (As := [.int (fs), .int (nI i5)]) (rest := []) hS0 (met_X1_has l D E fs (nI i5)) q572 q375 q100 q376 hd_X1_has ⟨by show _ ≤ fr0 + 36; omega, by show _ ≤ lo0 + 773; omega⟩ hG trivial rfl hl.1 rfl (Nat.le_of_ble_eq_true rfl) dX12_choose_34 ⟨Nat.le_of_ble_eq_true rfl, Nat.le_of_ble_eq_true rfl⟩ ?_
      refine W.eq (g2 := F0 m 37 ls [.int (bI ((fX1_has fs (nI i5))))]) rfl ?_
      refine lb_if_eq (tgt := 59) hx hb dX12_choose_37 (by decide) (fun c2 => ?_) (fun c2 => ?_)
      · rw [if_neg c2] at hR
        refine lv_iinc (v := nI (i5 + 1)) (lv' := [(5, .int (nI (i5 + 1))), (0, .ref (q0)), (2, .int (a)), (3, .int (fs)), (4, .int (z))]) hx hb dX12_choose_59 hl (k := 4) rfl (nI_1 i5) (Nat.le_of_ble_eq_true rfl) rfl (fun ls hl => ?_)
        refine lv_goto (tgt := 14) hx hb dX12_choose_62 (by decide) ?_
        exact ih (i5 + 1) o_this5_14 o_this6_14 o_this7_14 (lk_st hn) hR _ _ _ hX hFa (fun q z => by have := hFb q z; omega) hd_this hd_cs hT_this hT_cs hS ls (lv_sub hl [1, 2, 3, 4, 0] rfl)
      · rw [if_pos c2] at hR
        refine lv_aload_n hx hb dX12_choose_40 rfl (lv_at hl 0 rfl) ?_
        refine lv_iload hx hb dX12_choose_41 (lv_at hl 4 rfl) ?_
        refine lv_iconst (v := 1) hx hb dX12_choose_43 (by decide) ?_
        refine lv_iadd hx hb dX12_choose_44 ?_
        refine lv_eq (nI_add i5 1) ?_
        refine lv_iload_n hx hb dX12_choose_45 rfl (lv_at hl 1 rfl) ?_
        refine lv_iconst (v := 1) hx hb dX12_choose_46 (by decide) ?_
        refine lv_iload hx hb dX12_choose_47 (lv_at hl 4 rfl) ?_
        refine lv_ishl hx hb dX12_choose_49 ?_
        refine lv_ior hx hb dX12_choose_50 ?_
        refine lv_iload_n hx hb dX12_choose_51 rfl (lv_at hl 2 rfl) ?_
        refine lv_iload hx hb dX12_choose_52 (lv_at hl 3 rfl) ?_
        refine lv_iconst (v := 1) hx hb dX12_choose_54 (by decide) ?_
        refine lv_isub hx hb dX12_choose_55 ?_
        rcases hc_r3 : (ch (i5 + 1) (a ||| (1 <<< ((nI i5) &&& 31))) (z - 1) o_this5_14 o_this6_14 o_this7_14) with _ | r3
        · rw [hc_r3] at hR
          cases hR
        rw [hc_r3] at hR
        try dsimp only [Option.bind] at hR
        have hB := hS.1
        have hL_this : q0 < _ := hT_this.lt
        have hL_cs : qc < _ := hT_cs.lt
        refine gcV (As := [.int (nI (i5 + 1)), .int (a ||| (1 <<< ((nI i5) &&& 31))), .int (fs), .int (z - 1)]) (rest := []) hS0 (hch _ o_this5_14 o_this6_14 o_this7_14 (i5 + 1) (a ||| (1 <<< ((nI i5) &&& 31))) (z - 1) _ hd_this hd_cs hX.fE (by omega) hc_r3) q534 q536 qs27 q132 q537 hd_X12_choose ⟨by show _ ≤ fr0 + 36; omega, by show _ ≤ lo0 + 773; omega⟩ hG (rcv hG cl_X12 hT_this) ⟨hX, hT_this, hT_cs, hq0⟩ rfl hl.1 rfl (Nat.le_of_ble_eq_true rfl) dX12_choose_56 ⟨Nat.le_of_ble_eq_true rfl, Nat.le_of_ble_eq_true rfl⟩ hS (fun q h => h.elim (fun h => by rw [h]; exact (Or.inl (Or.inl rfl))) (fun h => (Or.inl (Or.inr (hFa _ h))))) (fun q h => h.elim (fun h => by rw [h]; exact (Or.inl (Or.inl rfl))) (fun h => (Or.inl (Or.inr (hFa _ h))))) (fun v H1 locs1 hP hz hk hS => ?_)
        obtain ⟨rfl, hZ, hT9⟩ := hP
        have hT_cs : va_at D vwCl (qc, arI E np fc) H1 := hT_cs.kept (hk _ hT_cs.lt (fun e9 => e9.elim (fun e9 => absurd e9 hne_this_cs.symm) hd_cs))
        have hX := hZ
        have hT_this : va_at D vwCl (q0, .inr (10, [.ref (α 5 wi), .ref (α 9 bi), .int (bI wf), .int (hd), .ref (qc), .int (bI r3.1), .int (r3.2.1), .int (r3.2.2), .ref (α 0 0)])) H1 := hT9
        have hG := gE.ofS hG0 hS (fun q h => h.elim (fun h => by rw [h]; exact hq0) (hFE q))
        refine W.eq (g2 := F0 m 59 ls []) rfl ?_
        refine lv_iinc (v := nI (i5 + 1)) (lv' := [(5, .int (nI (i5 + 1))), (0, .ref (q0)), (2, .int (a)), (3, .int (fs)), (4, .int (z))]) hx hb dX12_choose_59 hl (k := 4) rfl (nI_1 i5) (Nat.le_of_ble_eq_true rfl) rfl (fun ls hl => ?_)
        refine lv_goto (tgt := 14) hx hb dX12_choose_62 (by decide) ?_
        exact ih (i5 + 1) r3.1 r3.2.1 r3.2.2 (lk_st hn) hR _ _ _ hX hFa (fun q z => by have := hFb q z; omega) hd_this hd_cs hT_this hT_cs hS ls (lv_sub hl [1, 2, 3, 4, 0] rfl)
  unfold fX12_choose at hR
  refine lv_iload hx hb dX12_choose_0 (lv_at hl 4 rfl) ?_
  refine lv_if_ne (tgt := 11) hx hb dX12_choose_2 (by decide) (fun c1 => ?_) (fun c1 => ?_)
  · rw [if_neg c1] at hR
    refine lv_iload_n hx hb dX12_choose_11 rfl (lv_at hl 1 rfl) ?_
    refine lv_istore (lv' := [(5, .int (nI k)), (0, .ref (q0)), (1, .int (nI k)), (2, .int (a)), (3, .int (fs)), (4, .int (z))]) hx hb dX12_choose_12 hl (Nat.le_of_ble_eq_true rfl) rfl (fun ls hl => ?_)
    refine hL14 hne_this_cs _ (fun t_this_4 t_this_5 t_this_6 H1 locs1 Fc ls hR hX hFa hFb hd_this hd_cs hT_this hT_cs hS hl => ?_) ((nP σ) - k) k cb mn bs (by omega) hR _ _ _ hX hFa (fun q z => by have := hFb q z; omega) hd_this hd_cs hT_this hT_cs hS ls (lv_sub hl [1, 3, 4, 5, 0] rfl)
    try dsimp only at hR
    have hG := gE.ofS hG0 hS (fun q h => h.elim (fun h => by rw [h]; exact hq0) (hFE q))
    exact g_vret hx hb hr hlocks hS ⟨Nat.le_of_ble_eq_true rfl, Nat.le_of_ble_eq_true rfl⟩ dX12_choose_65 (by cases hR; exact ⟨rfl, (hX.mono (fun q _ z => hFa q z) hFE), hT_this⟩)
  · rw [if_pos c1] at hR
    refine lv_aload_n hx hb dX12_choose_5 rfl (lv_at hl 0 rfl) ?_
    refine lv_iload_n hx hb dX12_choose_6 rfl (lv_at hl 2 rfl) ?_
    rcases hc_r7 : (fX12_look σ a wi bi wf hd cb mn bs np fc) with _ | r7
    · rw [hc_r7] at hR
      cases hR
    rw [hc_r7] at hR
    try dsimp only [Option.bind] at hR
    have hB := hS.1
    have hL_this : q0 < _ := hT_this.lt
    have hL_cs : qc < _ := hT_cs.lt
    refine gcV (As := [.int (a)]) (rest := []) hS0 (met_X12_look l D E q0 a wi bi wf hd qc cb mn bs np fc (by omega) hne_this_cs hd_this hd_cs h_wi h_bi hc_r7) q538 q540 qs28 q132 q541 hd_X12_look ⟨by show _ ≤ fr0 + 36; omega, by show _ ≤ lo0 + 773; omega⟩ hG (rcv hG cl_X12 hT_this) ⟨hX, hT_this, hT_cs, hq0⟩ rfl hl.1 rfl (Nat.le_of_ble_eq_true rfl) dX12_choose_7 ⟨Nat.le_of_ble_eq_true rfl, Nat.le_of_ble_eq_true rfl⟩ hS (fun q h => h.elim (fun h => by rw [h]; exact (Or.inl (Or.inl rfl))) (fun h => (Or.inl (Or.inr (hFa _ h))))) (fun q h => h.elim (fun h => by rw [h]; exact (Or.inl (Or.inl rfl))) (fun h => (Or.inl (Or.inr (hFa _ h))))) (fun v H1 locs1 hP hz hk hS => ?_)
    obtain ⟨rfl, hZ, hT9⟩ := hP
    have hT_cs : va_at D vwCl (qc, arI E np fc) H1 := hT_cs.kept (hk _ hT_cs.lt (fun e9 => e9.elim (fun e9 => absurd e9 hne_this_cs.symm) hd_cs))
    have hX := hZ
    have hT_this : va_at D vwCl (q0, .inr (10, [.ref (α 5 wi), .ref (α 9 bi), .int (bI wf), .int (hd), .ref (qc), .int (bI r7.1), .int (r7.2.1), .int (r7.2.2), .ref (α 0 0)])) H1 := hT9
    have hG := gE.ofS hG0 hS (fun q h => h.elim (fun h => by rw [h]; exact hq0) (hFE q))
    refine W.eq (g2 := F0 m 10 ls []) rfl ?_
    exact g_vret hx hb hr hlocks hS ⟨Nat.le_of_ble_eq_true rfl, Nat.le_of_ble_eq_true rfl⟩ dX12_choose_10 (by cases hR; exact ⟨rfl, (hX.mono (fun q _ z => hFa q z) hFE), hT_this⟩)

def chooseR (σ : St) (fs : Int32) (wi bi : Nat) (wf : Bool) (hd : Int32) (np : Nat) (fc : Nat → Int32) : Nat → Nat → Int32 → Int32 → Bool → Int32 → Int32 → Option (Bool × Int32 × Int32)
  | 0, _, _, _, _, _, _ => none
  | d + 1, k, a, z, cb, mn, bs => fX12_choose σ k a fs z wi bi wf hd cb mn bs np fc (fun k' a' z' cb' mn' bs' => chooseR σ fs wi bi wf hd np fc d k' a' z' cb' mn' bs')
theorem met_chooseR (l : Launch) (D : va_G) (E : Nat → Nat) {α : Nat → Nat → Nat} {σ : St} (q0 qc : Nat) (fs : Int32) (wi bi : Nat) (wf : Bool) (hd : Int32) (np : Nat) (fc : Nat → Int32) (hnp : np ≤ 10) (hne : q0 ≠ qc) (h_wi : wi < nW σ) (h_bi : bi < nB σ) : ∀ (d : Nat) (F : Nat → Prop) (cb : Bool) (mn bs : Int32) (k : Nat) (a z : Int32) (r : Bool × Int32 × Int32), ¬ F q0 → ¬ F qc → (∀ q, F q → E 0 ≤ q) → k ≤ nP σ → chooseR σ fs wi bi wf hd np fc d k a z cb mn bs = some r → GM l D E yX12_choose cX12_choose 6 (Option.none : Option Jvm.ClassFile.FieldType) (d * 36) (d * 773) 0 0 [.ref q0, .int (nI k), .int a, .int fs, .int z] (fun h => RX D E α F σ h ∧ va_at D vwCl (q0, .inr (10, [.ref (α 5 wi), .ref (α 9 bi), .int (bI wf), .int (hd), .ref (qc), .int (bI cb), .int (mn), .int (bs), .ref (α 0 0)])) h ∧ va_at D vwCl (qc, arI E np fc) h ∧ E 0 ≤ q0) (fun z => z = q0 ∨ F z) (fun z => z = q0 ∨ F z) (fun sz v h => v = none ∧ RX D E α F σ h ∧ va_at D vwCl (q0, .inr (10, [.ref (α 5 wi), .ref (α 9 bi), .int (bI wf), .int (hd), .ref (qc), .int (bI r.1), .int (r.2.1), .int (r.2.2), .ref (α 0 0)])) h) := by
  intro d
  induction d with
  | zero => intro F cb mn bs k a z r _ _ _ _ h; cases h
  | succ d ih =>
    intro F cb mn bs k a z r h1 h2 h3 h4 hR
    have h := met_X12_choose l D E (fr0 := d * 36) (lo0 := d * 773) (α := α) (F := F) (σ := σ) q0 k a fs z wi bi wf hd qc cb mn bs np fc (fun k' a' z' cb' mn' bs' => chooseR σ fs wi bi wf hd np fc d k' a' z' cb' mn' bs') hnp hne h1 h2 h_wi h_bi (fun F' cb' mn' bs' k' a' z' r' g1 g2 g3 g4 g5 => ih F' cb' mn' bs' k' a' z' r' g1 g2 g3 g4 g5) h4 hR
    have e1 : (d + 1) * 36 = d * 36 + 36 := by omega
    have e2 : (d + 1) * 773 = d * 773 + 773 := by omega
    rw [e1, e2]
    exact h

def fX12_init_L87 (σ : St) (wi : Nat) (fs : Int32) (hd : Int32) (wf : Bool)  (κ : (Nat → Int32) → Option ((Nat → Int32) × Bool × Int32 × Int32)) : Nat → Nat → (Nat → Int32) → Option ((Nat → Int32) × Bool × Int32 × Int32)
  | 0, i6, t_t22_87 => κ t_t22_87
  | n + 1, i6, t_t22_87 => (fun (f2 : Nat → Int32) => fX12_init_L87 σ wi fs hd wf κ n (i6 + 1) f2) (upd t_t22_87 i6 ((fX1_cost σ i6 wi)))
def fX12_init (σ : St) (wi : Nat) (fs : Int32) (hd : Int32) (wf : Bool) : Option ((Nat → Int32) × Bool × Int32 × Int32) :=
  fX12_init_L87 σ wi fs hd wf (fun (t_t22_1 : (Nat → Int32)) => (Option.bind (chooseR σ fs wi (wBand σ wi) wf hd (nP σ) t_t22_1 12 0 0 ((fX8_many σ (wBand σ wi))) false 0 ((-1))) (fun (r2 : Bool × Int32 × Int32) => (some (t_t22_1, r2.1, r2.2.1, r2.2.2))))) (nP σ) 0 (fun _ => 0)
set_option maxHeartbeats 4000000 in
set_option maxRecDepth 100000 in
theorem met_X12_init (l : Launch) (D : va_G) (E : Nat → Nat) {α : Nat → Nat → Nat} {F : Nat → Prop} {σ : St} (q0 : Nat) (wi : Nat) (fs : Int32) (hd : Int32) (wf : Bool) (h_wi : wi < nW σ) (hdF_this : ¬ F q0) {r : (Nat → Int32) × Bool × Int32 × Int32} (hR : fX12_init σ wi fs hd wf = some r) : GM l D E yX12_init cX12_init 7 (Option.none : Option Jvm.ClassFile.FieldType) 433 9301 1 10 [.ref (q0), .ref (α 0 0), .int (nI wi), .int (fs), .int (hd), .int (bI wf)] (fun h => RX D E α F σ h ∧ va_at D vwCl (q0, .inr (10, [.null, .null, .int 0, .int 0, .null, .int 0, .int 0, .int 0, .null])) h ∧ E 0 ≤ q0) (fun z => z = q0 ∨ F z) (fun z => z = q0 ∨ F z) (fun sz v h => ∃ qc, v = none ∧ sz ≤ qc ∧ RX D E α F σ h ∧ va_at D vwCl (q0, .inr (10, [.ref (α 5 wi), .ref (α 9 (wBand σ wi)), .int (bI wf), .int (hd), .ref (qc), .int (bI r.2.1), .int (r.2.2.1), .int (r.2.2.2), .ref (α 0 0)])) h ∧ va_at D vwCl (qc, arI E (nP σ) r.1) h)  := by
  refine GM.start (by decide) (Nat.le_of_ble_eq_true rfl) ?_
  intro p e s m below meth c ls hx hb hr hml hown hlocks hnm hts hG ⟨hX, hT_this, hq0⟩ hS hl
  have hown : s.vm.findClass RX12 = some m.cls := hown
  have hS0 : xS p m c cX12_init 7 s _ RX12 := ⟨hx, hb, hml, hown, hts⟩
  have hl : lv_has ls 7 [(0, .ref (q0)), (1, .ref (α 0 0)), (2, .int (nI wi)), (3, .int (fs)), (4, .int (hd)), (5, .int (bI wf))] := hl
  have hG0 := hG
  have hX0 := hX
  have hb0P := hX0.nP10
  have hb0B := hX0.nB6
  have hb0W := hX0.nW14
  have hFE := hX.fE
  obtain ⟨Fc, hX, hFn⟩ := hX.nar
  have hFa : ∀ q, Fc q → F q := fun q z => (hFn q z).1
  have hFb : ∀ q, Fc q → q < s.heap.size := fun q z => (hFn q z).2
  have hcn : cnt σ σ := cnt.rf
  have hd_this : ¬ Fc q0 := fun z => hdF_this (hFn _ z).1
  have hL87 : ∀ (q22 : Nat) (hne_this_t22 : q0 ≠ q22) (hge_t22 : s.heap.size ≤ q22) (κ : (Nat → Int32) → Option ((Nat → Int32) × Bool × Int32 × Int32)) (hκ : ∀ (t_t22_87 : (Nat → Int32)) (H : Heap) (locs : List Loc) (Fc : Nat → Prop) (ls : Array Slot), κ t_t22_87 = some r → RX D E α Fc σ H → (∀ q, Fc q → F q) → (∀ q, Fc q → q < H.size) → ¬ Fc q0 → ¬ Fc q22 → va_at D vwCl (q0, .inr (10, [.ref (α 5 wi), .ref (α 9 (wBand σ wi)), .int (bI wf), .int (hd), .ref (q22), .int 0, .int 0, .int (-1), .ref (α 0 0)])) H → va_at D vwCl (q22, arI E (nP σ) t_t22_87) H → xK (fun z => z = q0 ∨ F z) (fun z => z = q0 ∨ F z) s.heap H locs → lv_has ls 7 [(0, .ref (q0)), (3, .int (fs))] → W p l e { frames := 433, cells := 1, slots := 10, locals := 9301 } s m [(.ref (q0) : Value), .ref (α 0 0), .int (nI wi), .int (fs), .int (hd), .int (bI wf)].toArray below meth c H locs 1 10 (MQ below (qG (fun z => z = q0 ∨ F z) ((fun sz v h => ∃ qc, v = none ∧ sz ≤ qc ∧ RX D E α F σ h ∧ va_at D vwCl (q0, .inr (10, [.ref (α 5 wi), .ref (α 9 (wBand σ wi)), .int (bI wf), .int (hd), .ref (qc), .int (bI r.2.1), .int (r.2.2.1), .int (r.2.2.2), .ref (α 0 0)])) h ∧ va_at D vwCl (qc, arI E (nP σ) r.1) h) s.heap.size)) [(.ref (q0) : Value), .ref (α 0 0), .int (nI wi), .int (fs), .int (hd), .int (bI wf)].toArray s 1 10 (fN (fun z => z = q0 ∨ F z) s.heap.size)) (F0 m 120 ls [])) (n : Nat) (i6 : Nat) (t_t22_87 : (Nat → Int32)), i6 + n = nP σ → fX12_init_L87 σ wi fs hd wf κ n i6 t_t22_87 = some r → ∀ (H : Heap) (locs : List Loc) (Fc : Nat → Prop), RX D E α Fc σ H → (∀ q, Fc q → F q) → (∀ q, Fc q → q < H.size) → ¬ Fc q0 → ¬ Fc q22 → va_at D vwCl (q0, .inr (10, [.ref (α 5 wi), .ref (α 9 (wBand σ wi)), .int (bI wf), .int (hd), .ref (q22), .int 0, .int 0, .int (-1), .ref (α 0 0)])) H → va_at D vwCl (q22, arI E (nP σ) t_t22_87) H → xK (fun z => z = q0 ∨ F z) (fun z => z = q0 ∨ F z) s.heap H locs → ∀ (ls : Array Slot), lv_has ls 7 [(0, .ref (q0)), (1, .ref (α 0 0)), (3, .int (fs)), (6, .int (nI i6))] → W p l e { frames := 433, cells := 1, slots := 10, locals := 9301 } s m [(.ref (q0) : Value), .ref (α 0 0), .int (nI wi), .int (fs), .int (hd), .int (bI wf)].toArray below meth c H locs 1 10 (MQ below (qG (fun z => z = q0 ∨ F z) ((fun sz v h => ∃ qc, v = none ∧ sz ≤ qc ∧ RX D E α F σ h ∧ va_at D vwCl (q0, .inr (10, [.ref (α 5 wi), .ref (α 9 (wBand σ wi)), .int (bI wf), .int (hd), .ref (qc), .int (bI r.2.1), .int (r.2.2.1), .int (r.2.2.2), .ref (α 0 0)])) h ∧ va_at D vwCl (qc, arI E (nP σ) r.1) h) s.heap.size)) [(.ref (q0) : Value), .ref (α 0 0), .int (nI wi), .int (fs), .int (hd), .int (bI wf)].toArray s 1 10 (fN (fun z => z = q0 ∨ F z) s.heap.size)) (F0 m 87 ls []) := by
    intro q22 hne_this_t22 hge_t22 κ hκ n
    induction n with
    | zero =>
      intro i6 t_t22_87 hn hR H locs Fc hX hFa hFb hd_this hd_t22 hT_this hT_t22 hS ls hl
      rw [fX12_init_L87] at hR
      have hG := gE.ofS hG0 hS (fun q h => h.elim (fun h => by rw [h]; exact hq0) (hFE q))
      refine lv_iload hx hb dX12_init_87 (lv_at hl 3 rfl) ?_
      refine lv_aload_n hx hb dX12_init_89 rfl (lv_at hl 0 rfl) ?_
      refine gf (v := .ref (q22)) (C := RX12) (T := TX12) (N := 9) (k := 4) hx hb hts hown hG cl_X12 in_X12 hT_this (by decide) q578 rfl dX12_init_90 ?_
      refine gl (N := nP σ) hx hb hG hT_t22 (t := 0) rfl rfl dX12_init_93 ?_
      refine lk_ge_out (k := i6) (N := nP σ) hx hb hn (tgt := 120) dX12_init_94 (by decide) ?_
      exact hκ t_t22_87 _ _ _ ls hR hX hFa (fun q z => by have := hFb q z; omega) hd_this hd_t22 hT_this hT_t22 hS (lv_sub hl [0, 2] rfl)
    | succ n ih =>
      intro i6 t_t22_87 hn hR H locs Fc hX hFa hFb hd_this hd_t22 hT_this hT_t22 hS ls hl
      rw [fX12_init_L87] at hR
      have hG := gE.ofS hG0 hS (fun q h => h.elim (fun h => by rw [h]; exact hq0) (hFE q))
      refine lv_iload hx hb dX12_init_87 (lv_at hl 3 rfl) ?_
      refine lv_aload_n hx hb dX12_init_89 rfl (lv_at hl 0 rfl) ?_
      refine gf (v := .ref (q22)) (C := RX12) (T := TX12) (N := 9) (k := 4) hx hb hts hown hG cl_X12 in_X12 hT_this (by decide) q578 rfl dX12_init_90 ?_
      refine gl (N := nP σ) hx hb hG hT_t22 (t := 0) rfl rfl dX12_init_93 ?_
      have hki6 : i6 < nP σ := lk_lt hn
      refine lk_ge_in (k := i6) (N := nP σ) hx hb hki6 (by have := hX.nP10; have := hX.nW14; have := hX.nB6; omega) (tgt := 120) dX12_init_94 (by decide) ?_
      refine lv_aload_n hx hb dX12_init_97 rfl (lv_at hl 0 rfl) ?_
      refine gf (v := .ref (q22)) (C := RX12) (T := TX12) (N := 9) (k := 4) hx hb hts hown hG cl_X12 in_X12 hT_this (by decide) q578 rfl dX12_init_98 ?_
      refine lv_iload hx hb dX12_init_101 (lv_at hl 3 rfl) ?_
      refine lv_aload_n hx hb dX12_init_103 rfl (lv_at hl 1 rfl) ?_
      refine lv_iload hx hb dX12_init_104 (lv_at hl 3 rfl) ?_
      refine lv_aload_n hx hb dX12_init_106 rfl (lv_at hl 0 rfl) ?_
      refine gf (v := .ref (α 5 wi)) (C := RX12) (T := TX12) (N := 9) (k := 0) hx hb hts hown hG cl_X12 in_X12 hT_this (by decide) q573 rfl dX12_init_107 ?_
      refine pcVN (As := [.int (nI i6), .ref (α 5 wi)]) (rest := [.int (nI i6), .ref (q22)]) hS0 (met_X1_cost l D E i6 wi hki6 h_wi) q529 q531 qs26 q100 q532 hd_X1_cost ⟨Nat.le_of_ble_eq_true rfl, Nat.le_of_ble_eq_true rfl⟩ hG (rcv hG cl_X1 hX.ag) hX rfl hl.1 rfl (Nat.le_of_ble_eq_true rfl) dX12_init_110 ⟨Nat.le_of_ble_eq_true rfl, Nat.le_of_ble_eq_true rfl⟩ ?_
      refine W.eq (g2 := F0 m 113 ls [.int ((fX1_cost σ i6 wi)), .int (nI i6), .ref (q22)]) rfl ?_
      have hB := hS.1
      have hL_this : q0 < _ := hT_this.lt
      have hL_t22 : q22 < _ := hT_t22.lt
      refine paI (N := (nP σ)) (k := i6) hx hb hG hS hT_t22 (Or.inr hge_t22) (Or.inr hge_t22) hki6 (by omega) dX12_init_113 (fun H1 locs1 he hz hq hS => ?_)
      have hT_this : va_at D vwCl (q0, .inr (10, [.ref (α 5 wi), .ref (α 9 (wBand σ wi)), .int (bI wf), .int (hd), .ref (q22), .int 0, .int 0, .int (-1), .ref (α 0 0)])) H1 := hT_this.kept (hq _ (fun e9 => absurd e9 hne_this_t22))
      have hX := hX.kept (fun q h4 h5 => hq q (fun e9 => hd_t22 (e9 ▸ h5)))
      have hG := gE.ofS hG0 hS (fun q h => h.elim (fun h => by rw [h]; exact hq0) (hFE q))
      obtain ⟨f2, hf2⟩ : ∃ x, x = upd t_t22_87 i6 ((fX1_cost σ i6 wi)) := ⟨_, rfl⟩
      rw [← hf2] at hR he
      try dsimp only at hR
      have hT_t22 : va_at D vwCl (q22, arI E (nP σ) f2) H1 := he
      refine lv_iinc (v := nI (i6 + 1)) (lv' := [(6, .int (nI (i6 + 1))), (0, .ref (q0)), (1, .ref (α 0 0)), (3, .int (fs))]) hx hb dX12_init_114 hl (k := 3) rfl (nI_1 i6) (Nat.le_of_ble_eq_true rfl) rfl (fun ls hl => ?_)
      refine lv_goto (tgt := 87) hx hb dX12_init_117 (by decide) ?_
      exact ih (i6 + 1) f2 (lk_st hn) hR _ _ _ hX hFa (fun q z => by have := hFb q z; omega) hd_this hd_t22 hT_this hT_t22 hS ls (lv_sub hl [1, 2, 3, 0] rfl)
  unfold fX12_init at hR
  refine lv_aload_n hx hb dX12_init_0 rfl (lv_at hl 0 rfl) ?_
  refine lv_aload_n hx hb dX12_init_1 rfl (lv_at hl 1 rfl) ?_
  have hB := hS.1
  have hL_this : q0 < _ := hT_this.lt
  refine pfF (ty0 := tyX12) (ty := tyX12 8) (v := .ref (α 0 0)) (C := RX12) (T := TX12) (N := 9) (k := 8) hx hb hts hown hG hS cl_X12 in_X12 tyX12_ok nmX12 hT_this (Or.inl (Or.inl rfl)) (Or.inl (Or.inl rfl)) (by decide) q585 rfl hnm rfl (tyX12_ok 8 (by decide)) rfl rfl (Nat.le_of_ble_eq_true rfl) dX12_init_2 (fun H1 locs1 he hz hq hS => ?_)
  have hX := hX.kept (fun q h4 h5 => hq q (fun e9 => hd_this (e9 ▸ h5)))
  have hT_this : va_at D vwCl (q0, .inr (10, [.null, .null, .int 0, .int 0, .null, .int 0, .int 0, .int 0, .ref (α 0 0)])) H1 := he
  have hG := gE.ofS hG0 hS (fun q h => h.elim (fun h => by rw [h]; exact hq0) (hFE q))
  refine lv_aload_n hx hb dX12_init_5 rfl (lv_at hl 0 rfl) ?_
  refine W.objInit hx hb hown (hts _ q522) (hts _ q147) (hts _ q148) rfl (by rw [hml]; exact hl.1) rfl dX12_init_6 (Nat.le_of_ble_eq_true rfl) (Nat.le_of_ble_eq_true rfl) ?_
  refine W.eq (g2 := F0 m 9 ls []) rfl ?_
  refine lv_aload_n hx hb dX12_init_9 rfl (lv_at hl 0 rfl) ?_
  refine lv_aload_n hx hb dX12_init_10 rfl (lv_at hl 0 rfl) ?_
  refine gf (v := .ref (α 0 0)) (C := RX12) (T := TX12) (N := 9) (k := 8) hx hb hts hown hG cl_X12 in_X12 hT_this (by decide) q585 rfl dX12_init_11 ?_
  refine gfN (v := .ref (α 1 0)) (C := RX1) (T := TX1) (N := 6) (k := 0) hx hb hts hown hG cl_X1 in_X1 hX.ag (by decide) q300 rfl dX12_init_14 ?_
  refine pcF (x := xL_size) (ci := 13) (As := []) (rest := [.ref (q0)]) hG.fw_size hS0 (met_xl_size l D E (j := 0) (by decide)) q524 q334 q336 q103 q338 hd_xL_size ⟨Nat.le_of_ble_eq_true rfl, Nat.le_of_ble_eq_true rfl⟩ hG cl_J2 (hX.lsR hG (j := 0) (by decide)) hX rfl hl.1 rfl (Nat.le_of_ble_eq_true rfl) dX12_init_17 ⟨Nat.le_of_ble_eq_true rfl, Nat.le_of_ble_eq_true rfl⟩ ?_
  refine W.eq (g2 := F0 m 22 ls [.int (nI (nP σ)), .ref (q0)]) rfl ?_
  have hB := hS.1
  have hL_this : q0 < _ := hT_this.lt
  obtain hN9 : nP σ ≤ 10 := hX.nP10
  refine nwZ (atype := .int) (ty := .int) (t := 0) (cA := E 1) (N := (nP σ)) (z := (nP σ, .inl (fun _ => 0))) hx hb hts hG hS q199 rfl rfl trivial (fun _ => rfl) (by omega) (by show (nP σ) * 4 ≤ _; omega) ⟨by show _ ≤ 1; omega, by show _ ≤ 10; omega⟩ dX12_init_22 (fun q22 H1 hq9 hT_t22 hz ho hS => ?_)
  refine W.widen (k := 1) (n := 10) (by omega) (by omega) ?_
  have hT_this : va_at D vwCl (q0, .inr (10, [.null, .null, .int 0, .int 0, .null, .int 0, .int 0, .int 0, .ref (α 0 0)])) H1 := hT_this.kept (ho _ hT_this.lt)
  have hX := hX.kept (fun q h4 _ => ho q h4)
  have hG := gE.ofS hG0 hS (fun q h => h.elim (fun h => by rw [h]; exact hq0) (hFE q))
  have hne_this_t22 : q0 ≠ q22 := by have h9 := hL_this; omega
  have hge_t22 : s.heap.size ≤ q22 := by have := hB; omega
  have hd_t22 : ¬ Fc q22 := fun z => by have := hFb _ z; omega
  have hB := hS.1
  have hL_this : q0 < _ := hT_this.lt
  have hL_t22 : q22 < _ := hT_t22.lt
  refine pfF (ty0 := tyX12) (ty := tyX12 4) (v := .ref (q22)) (C := RX12) (T := TX12) (N := 9) (k := 4) hx hb hts hown hG hS cl_X12 in_X12 tyX12_ok nmX12 hT_this (Or.inl (Or.inl rfl)) (Or.inl (Or.inl rfl)) (by decide) q578 rfl hnm rfl (tyX12_ok 4 (by decide)) rfl rfl (Nat.le_of_ble_eq_true rfl) dX12_init_24 (fun H1 locs1 he hz hq hS => ?_)
  have hT_t22 : va_at D vwCl (q22, arI E (nP σ) (fun _ => 0)) H1 := hT_t22.kept (hq _ (fun e9 => absurd e9 hne_this_t22.symm))
  have hX := hX.kept (fun q h4 h5 => hq q (fun e9 => hd_this (e9 ▸ h5)))
  have hT_this : va_at D vwCl (q0, .inr (10, [.null, .null, .int 0, .int 0, .ref (q22), .int 0, .int 0, .int 0, .ref (α 0 0)])) H1 := he
  have hG := gE.ofS hG0 hS (fun q h => h.elim (fun h => by rw [h]; exact hq0) (hFE q))
  refine lv_aload_n hx hb dX12_init_27 rfl (lv_at hl 0 rfl) ?_
  refine lv_iconst (v := (-1)) hx hb dX12_init_28 (by decide) ?_
  have hB := hS.1
  have hL_this : q0 < _ := hT_this.lt
  have hL_t22 : q22 < _ := hT_t22.lt
  refine pf (ty0 := tyX12) (ty := tyX12 7) (v := .int (-1)) (C := RX12) (T := TX12) (N := 9) (k := 7) hx hb hts hown hG hS cl_X12 in_X12 tyX12_ok nmX12 hT_this (Or.inl (Or.inl rfl)) (Or.inl (Or.inl rfl)) (by decide) q583 rfl (tyX12_ok 7 (by decide)) rfl rfl (Nat.le_of_ble_eq_true rfl) dX12_init_29 (fun H1 locs1 he hz hq hS => ?_)
  have hT_t22 : va_at D vwCl (q22, arI E (nP σ) (fun _ => 0)) H1 := hT_t22.kept (hq _ (fun e9 => absurd e9 hne_this_t22.symm))
  have hX := hX.kept (fun q h4 h5 => hq q (fun e9 => hd_this (e9 ▸ h5)))
  have hT_this : va_at D vwCl (q0, .inr (10, [.null, .null, .int 0, .int 0, .ref (q22), .int 0, .int 0, .int (-1), .ref (α 0 0)])) H1 := he
  have hG := gE.ofS hG0 hS (fun q h => h.elim (fun h => by rw [h]; exact hq0) (hFE q))
  refine lv_aload_n hx hb dX12_init_32 rfl (lv_at hl 0 rfl) ?_
  refine lv_aload_n hx hb dX12_init_33 rfl (lv_at hl 1 rfl) ?_
  refine gfN (v := .ref (α 1 3)) (C := RX1) (T := TX1) (N := 6) (k := 4) hx hb hts hown hG cl_X1 in_X1 hX.ag (by decide) q306 rfl dX12_init_34 ?_
  refine lv_iload_n hx hb dX12_init_37 rfl (lv_at hl 2 rfl) ?_
  refine pcF (x := xL_get) (ci := 13) (As := [.int (nI wi)]) (rest := [.ref (q0)]) hG.fw_get hS0 (met_xl_get l D E (j := 3) (by decide) wi h_wi) q526 q347 q349 q103 q351 hd_xL_get ⟨Nat.le_of_ble_eq_true rfl, Nat.le_of_ble_eq_true rfl⟩ hG cl_J2 (hX.lsR hG (j := 3) (by decide)) hX rfl hl.1 rfl (Nat.le_of_ble_eq_true rfl) dX12_init_38 ⟨Nat.le_of_ble_eq_true rfl, Nat.le_of_ble_eq_true rfl⟩ ?_
  refine W.eq (g2 := F0 m 43 ls [.ref (α 5 wi), .ref (q0)]) rfl ?_
  refine gc (ci := 8) hx hb hown hG cl_X10 (rcv hG cl_X10 (hX.wd h_wi)) (hts _ q527) dX12_init_43 ?_
  have hB := hS.1
  have hL_this : q0 < _ := hT_this.lt
  have hL_t22 : q22 < _ := hT_t22.lt
  refine pfF (ty0 := tyX12) (ty := tyX12 0) (v := .ref (α 5 wi)) (C := RX12) (T := TX12) (N := 9) (k := 0) hx hb hts hown hG hS cl_X12 in_X12 tyX12_ok nmX12 hT_this (Or.inl (Or.inl rfl)) (Or.inl (Or.inl rfl)) (by decide) q573 rfl hnm rfl (tyX12_ok 0 (by decide)) rfl rfl (Nat.le_of_ble_eq_true rfl) dX12_init_46 (fun H1 locs1 he hz hq hS => ?_)
  have hT_t22 : va_at D vwCl (q22, arI E (nP σ) (fun _ => 0)) H1 := hT_t22.kept (hq _ (fun e9 => absurd e9 hne_this_t22.symm))
  have hX := hX.kept (fun q h4 h5 => hq q (fun e9 => hd_this (e9 ▸ h5)))
  have hT_this : va_at D vwCl (q0, .inr (10, [.ref (α 5 wi), .null, .int 0, .int 0, .ref (q22), .int 0, .int 0, .int (-1), .ref (α 0 0)])) H1 := he
  have hG := gE.ofS hG0 hS (fun q h => h.elim (fun h => by rw [h]; exact hq0) (hFE q))
  refine lv_aload_n hx hb dX12_init_49 rfl (lv_at hl 0 rfl) ?_
  refine lv_aload_n hx hb dX12_init_50 rfl (lv_at hl 1 rfl) ?_
  refine gfN (v := .ref (α 1 2)) (C := RX1) (T := TX1) (N := 6) (k := 3) hx hb hts hown hG cl_X1 in_X1 hX.ag (by decide) q304 rfl dX12_init_51 ?_
  refine lv_aload_n hx hb dX12_init_54 rfl (lv_at hl 0 rfl) ?_
  refine gf (v := .ref (α 5 wi)) (C := RX12) (T := TX12) (N := 9) (k := 0) hx hb hts hown hG cl_X12 in_X12 hT_this (by decide) q573 rfl dX12_init_55 ?_
  refine gfN (v := .int (nI (wBand σ wi))) (C := RX10) (T := TX10) (N := 12) (k := 0) hx hb hts hown hG cl_X10 in_X10 (hX.wd h_wi) (by decide) q1009 rfl dX12_init_58 ?_
  refine pcF (x := xL_get) (ci := 13) (As := [.int (nI (wBand σ wi))]) (rest := [.ref (q0)]) hG.fw_get hS0 (met_xl_get l D E (j := 2) (by decide) (wBand σ wi) (hX.band h_wi)) q526 q347 q349 q103 q351 hd_xL_get ⟨Nat.le_of_ble_eq_true rfl, Nat.le_of_ble_eq_true rfl⟩ hG cl_J2 (hX.lsR hG (j := 2) (by decide)) hX rfl hl.1 rfl (Nat.le_of_ble_eq_true rfl) dX12_init_61 ⟨Nat.le_of_ble_eq_true rfl, Nat.le_of_ble_eq_true rfl⟩ ?_
  refine W.eq (g2 := F0 m 66 ls [.ref (α 9 (wBand σ wi)), .ref (q0)]) rfl ?_
  refine gc (ci := 7) hx hb hown hG cl_X8 (rcv hG cl_X8 (hX.sh (hX.band h_wi))) (hts _ q528) dX12_init_66 ?_
  have hB := hS.1
  have hL_this : q0 < _ := hT_this.lt
  have hL_t22 : q22 < _ := hT_t22.lt
  refine pfF (ty0 := tyX12) (ty := tyX12 1) (v := .ref (α 9 (wBand σ wi))) (C := RX12) (T := TX12) (N := 9) (k := 1) hx hb hts hown hG hS cl_X12 in_X12 tyX12_ok nmX12 hT_this (Or.inl (Or.inl rfl)) (Or.inl (Or.inl rfl)) (by decide) q574 rfl hnm rfl (tyX12_ok 1 (by decide)) rfl rfl (Nat.le_of_ble_eq_true rfl) dX12_init_69 (fun H1 locs1 he hz hq hS => ?_)
  have hT_t22 : va_at D vwCl (q22, arI E (nP σ) (fun _ => 0)) H1 := hT_t22.kept (hq _ (fun e9 => absurd e9 hne_this_t22.symm))
  have hX := hX.kept (fun q h4 h5 => hq q (fun e9 => hd_this (e9 ▸ h5)))
  have hT_this : va_at D vwCl (q0, .inr (10, [.ref (α 5 wi), .ref (α 9 (wBand σ wi)), .int 0, .int 0, .ref (q22), .int 0, .int 0, .int (-1), .ref (α 0 0)])) H1 := he
  have hG := gE.ofS hG0 hS (fun q h => h.elim (fun h => by rw [h]; exact hq0) (hFE q))
  refine lv_aload_n hx hb dX12_init_72 rfl (lv_at hl 0 rfl) ?_
  refine lv_iload hx hb dX12_init_73 (lv_at hl 4 rfl) ?_
  have hB := hS.1
  have hL_this : q0 < _ := hT_this.lt
  have hL_t22 : q22 < _ := hT_t22.lt
  refine pfF (ty0 := tyX12) (ty := tyX12 3) (v := .int (hd)) (C := RX12) (T := TX12) (N := 9) (k := 3) hx hb hts hown hG hS cl_X12 in_X12 tyX12_ok nmX12 hT_this (Or.inl (Or.inl rfl)) (Or.inl (Or.inl rfl)) (by decide) q577 rfl hnm rfl (tyX12_ok 3 (by decide)) rfl rfl (Nat.le_of_ble_eq_true rfl) dX12_init_75 (fun H1 locs1 he hz hq hS => ?_)
  have hT_t22 : va_at D vwCl (q22, arI E (nP σ) (fun _ => 0)) H1 := hT_t22.kept (hq _ (fun e9 => absurd e9 hne_this_t22.symm))
  have hX := hX.kept (fun q h4 h5 => hq q (fun e9 => hd_this (e9 ▸ h5)))
  have hT_this : va_at D vwCl (q0, .inr (10, [.ref (α 5 wi), .ref (α 9 (wBand σ wi)), .int 0, .int (hd), .ref (q22), .int 0, .int 0, .int (-1), .ref (α 0 0)])) H1 := he
  have hG := gE.ofS hG0 hS (fun q h => h.elim (fun h => by rw [h]; exact hq0) (hFE q))
  refine lv_aload_n hx hb dX12_init_78 rfl (lv_at hl 0 rfl) ?_
  refine lv_iload hx hb dX12_init_79 (lv_at hl 5 rfl) ?_
  have hB := hS.1
  have hL_this : q0 < _ := hT_this.lt
  have hL_t22 : q22 < _ := hT_t22.lt
  refine pfF (ty0 := tyX12) (ty := tyX12 2) (v := .int (bI wf)) (C := RX12) (T := TX12) (N := 9) (k := 2) hx hb hts hown hG hS cl_X12 in_X12 tyX12_ok nmX12 hT_this (Or.inl (Or.inl rfl)) (Or.inl (Or.inl rfl)) (by decide) q576 rfl hnm rfl (tyX12_ok 2 (by decide)) bI_nar bI_fit (Nat.le_of_ble_eq_true rfl) dX12_init_81 (fun H1 locs1 he hz hq hS => ?_)
  have hT_t22 : va_at D vwCl (q22, arI E (nP σ) (fun _ => 0)) H1 := hT_t22.kept (hq _ (fun e9 => absurd e9 hne_this_t22.symm))
  have hX := hX.kept (fun q h4 h5 => hq q (fun e9 => hd_this (e9 ▸ h5)))
  have hT_this : va_at D vwCl (q0, .inr (10, [.ref (α 5 wi), .ref (α 9 (wBand σ wi)), .int (bI wf), .int (hd), .ref (q22), .int 0, .int 0, .int (-1), .ref (α 0 0)])) H1 := he
  have hG := gE.ofS hG0 hS (fun q h => h.elim (fun h => by rw [h]; exact hq0) (hFE q))
  refine lv_iconst (v := 0) hx hb dX12_init_84 (by decide) ?_
  refine lv_istore (lv' := [(6, .int 0), (0, .ref (q0)), (1, .ref (α 0 0)), (2, .int (nI wi)), (3, .int (fs)), (4, .int (hd)), (5, .int (bI wf))]) hx hb dX12_init_85 hl (Nat.le_of_ble_eq_true rfl) rfl (fun ls hl => ?_)
  refine hL87 q22 hne_this_t22 hge_t22 _ (fun t_t22_1 H1 locs1 Fc ls hR hX hFa hFb hd_this hd_t22 hT_this hT_t22 hS hl => ?_) (nP σ) 0 (fun _ => 0) (Nat.zero_add _) hR _ _ _ hX hFa (fun q z => by have := hFb q z; omega) hd_this hd_t22 hT_this hT_t22 hS ls (lv_sub hl [1, 2, 4, 0] rfl)
  try dsimp only at hR
  have hG := gE.ofS hG0 hS (fun q h => h.elim (fun h => by rw [h]; exact hq0) (hFE q))
  refine lv_aload_n hx hb dX12_init_120 rfl (lv_at hl 0 rfl) ?_
  refine lv_iconst (v := 0) hx hb dX12_init_121 (by decide) ?_
  refine lv_iconst (v := 0) hx hb dX12_init_122 (by decide) ?_
  refine lv_iload_n hx hb dX12_init_123 rfl (lv_at hl 1 rfl) ?_
  refine lv_aload_n hx hb dX12_init_124 rfl (lv_at hl 0 rfl) ?_
  refine gf (v := .ref (α 9 (wBand σ wi))) (C := RX12) (T := TX12) (N := 9) (k := 1) hx hb hts hown hG cl_X12 in_X12 hT_this (by decide) q574 rfl dX12_init_125 ?_
  refine pcV (As := []) (rest := [.int (fs), .int 0, .int 0, .ref (q0)]) hS0 (met_X8_many l D E (wBand σ wi) (hX.band h_wi)) q533 q392 q393 q126 q394 hd_X8_many ⟨Nat.le_of_ble_eq_true rfl, Nat.le_of_ble_eq_true rfl⟩ hG (rcv hG cl_X8 (hX.sh (hX.band h_wi))) hX rfl hl.1 rfl (Nat.le_of_ble_eq_true rfl) dX12_init_128 ⟨Nat.le_of_ble_eq_true rfl, Nat.le_of_ble_eq_true rfl⟩ ?_
  refine W.eq (g2 := F0 m 131 ls [.int ((fX8_many σ (wBand σ wi))), .int (fs), .int 0, .int 0, .ref (q0)]) rfl ?_
  rcases hc_r2 : (chooseR σ fs wi (wBand σ wi) wf hd (nP σ) t_t22_1 12 0 0 ((fX8_many σ (wBand σ wi))) false 0 ((-1))) with _ | r2
  · rw [hc_r2] at hR
    cases hR
  rw [hc_r2] at hR
  try dsimp only [Option.bind] at hR
  have hB := hS.1
  have hL_this : q0 < _ := hT_this.lt
  have hL_t22 : q22 < _ := hT_t22.lt
  refine gcV (As := [.int 0, .int 0, .int (fs), .int ((fX8_many σ (wBand σ wi)))]) (rest := []) hS0 (met_chooseR l D E q0 q22 fs wi (wBand σ wi) wf hd (nP σ) t_t22_1 (hX.nP10) hne_this_t22 h_wi (hX.band h_wi)  12 _ false 0 ((-1)) 0 0 ((fX8_many σ (wBand σ wi))) _ hd_this hd_t22 hX.fE (Nat.zero_le _) hc_r2) q534 q536 qs27 q132 q537 hd_X12_choose ⟨Nat.le_of_ble_eq_true rfl, Nat.le_of_ble_eq_true rfl⟩ hG (rcv hG cl_X12 hT_this) ⟨hX, hT_this, hT_t22, hq0⟩ rfl hl.1 rfl (Nat.le_of_ble_eq_true rfl) dX12_init_131 ⟨Nat.le_of_ble_eq_true rfl, Nat.le_of_ble_eq_true rfl⟩ hS (fun q h => h.elim (fun h => by rw [h]; exact (Or.inl (Or.inl rfl))) (fun h => (Or.inl (Or.inr (hFa _ h))))) (fun q h => h.elim (fun h => by rw [h]; exact (Or.inl (Or.inl rfl))) (fun h => (Or.inl (Or.inr (hFa _ h))))) (fun v H1 locs1 hP hz hk hS => ?_)
  obtain ⟨rfl, hZ, hT9⟩ := hP
  have hT_t22 : va_at D vwCl (q22, arI E (nP σ) t_t22_1) H1 := hT_t22.kept (hk _ hT_t22.lt (fun e9 => e9.elim (fun e9 => absurd e9 hne_this_t22.symm) hd_t22))
  have hX := hZ
  have hT_this : va_at D vwCl (q0, .inr (10, [.ref (α 5 wi), .ref (α 9 (wBand σ wi)), .int (bI wf), .int (hd), .ref (q22), .int (bI r2.1), .int (r2.2.1), .int (r2.2.2), .ref (α 0 0)])) H1 := hT9
  have hG := gE.ofS hG0 hS (fun q h => h.elim (fun h => by rw [h]; exact hq0) (hFE q))
  refine W.eq (g2 := F0 m 134 ls []) rfl ?_
  exact g_vret hx hb hr hlocks hS ⟨Nat.le_of_ble_eq_true rfl, Nat.le_of_ble_eq_true rfl⟩ dX12_init_134 (by cases hR; exact ⟨_, rfl, hge_t22, (hX.mono (fun q _ z => hFa q z) hFE), hT_this, hT_t22⟩)

def fX1_fillings (σ : St) (wi : Nat) : Option ((Nat → Int32) × Bool × Int32 × Int32) :=
  (Option.bind (fX12_init σ wi ((fX1_freeFor σ wi)) 0 true) (fun (r1 : (Nat → Int32) × Bool × Int32 × Int32) => (some (r1.1, r1.2.1, r1.2.2.1, r1.2.2.2))))
set_option maxHeartbeats 4000000 in
set_option maxRecDepth 100000 in
theorem met_X1_fillings (l : Launch) (D : va_G) (E : Nat → Nat) {α : Nat → Nat → Nat} {F : Nat → Prop} {σ : St} (wi : Nat) (h_wi : wi < nW σ) {r : (Nat → Int32) × Bool × Int32 × Int32} (hR : fX1_fillings σ wi = some r) : GM l D E yX1_fillings cX1_fillings 2 (Option.some (Jvm.ClassFile.FieldType.object "FirstdanceAgency$Fillings")) 434 9327 2 19 [.ref (α 0 0), .int (nI wi)] (RX D E α F σ) F F (fun sz v h => ∃ q qc, v = some (.ref q) ∧ sz ≤ q ∧ sz ≤ qc ∧ q ≠ qc ∧ RX D E α F σ h ∧ va_at D vwCl (q, .inr (10, [.ref (α 5 wi), .ref (α 9 (wBand σ wi)), .int (bI true), .int (0), .ref (qc), .int (bI r.2.1), .int (r.2.2.1), .int (r.2.2.2), .ref (α 0 0)])) h ∧ va_at D vwCl (qc, arI E (nP σ) r.1) h)  := by
  refine GM.start (by decide) (Nat.le_of_ble_eq_true rfl) ?_
  intro p e s m below meth c ls hx hb hr hml hown hlocks hnm hts hG hX hS hl
  have hown : s.vm.findClass RX1 = some m.cls := hown
  have hS0 : xS p m c cX1_fillings 2 s _ RX1 := ⟨hx, hb, hml, hown, hts⟩
  have hl : lv_has ls 2 [(0, .ref (α 0 0)), (1, .int (nI wi))] := hl
  have hG0 := hG
  have hX0 := hX
  have hb0P := hX0.nP10
  have hb0B := hX0.nB6
  have hb0W := hX0.nW14
  have hFE := hX.fE
  obtain ⟨Fc, hX, hFn⟩ := hX.nar
  have hFa : ∀ q, Fc q → F q := fun q z => (hFn q z).1
  have hFb : ∀ q, Fc q → q < s.heap.size := fun q z => (hFn q z).2
  have hcn : cnt σ σ := cnt.rf
  unfold fX1_fillings at hR
  have hB := hS.1
  refine nw (ci := 10) (C := RX12) (T := TX12) (N := 9) (fs := [.null, .null, .int 0, .int 0, .null, .int 0, .int 0, .int 0, .null]) (ty := tyX12) hx hb hts hown hG hS cl_X12 in_X12 tyX12_ok q503 q504 q132 (df_X12) ⟨Nat.le_of_ble_eq_true rfl, Nat.le_of_ble_eq_true rfl⟩ dX1_fillings_0 (fun q0 H1 hq9 hT_t0 hz ho hS => ?_)
  have hX := hX.kept (fun q h4 _ => ho q h4)
  have hG := gE.ofS hG0 hS hFE
  have hge_t0 : s.heap.size ≤ q0 := by have := hB; omega
  have hd_t0 : ¬ Fc q0 := fun z => by have := hFb _ z; omega
  refine lv_dup hx hb dX1_fillings_3 rfl ?_
  refine lv_aload_n hx hb dX1_fillings_4 rfl (lv_at hl 0 rfl) ?_
  refine lv_iload_n hx hb dX1_fillings_5 rfl (lv_at hl 1 rfl) ?_
  refine lv_aload_n hx hb dX1_fillings_6 rfl (lv_at hl 0 rfl) ?_
  refine lv_iload_n hx hb dX1_fillings_7 rfl (lv_at hl 1 rfl) ?_
  refine pcV (As := [.int (nI wi)]) (rest := [.int (nI wi), .ref (α 0 0), .ref (q0), .ref (q0)]) hS0 (met_X1_freeFor l D E wi h_wi) q505 q507 qs23 q100 q508 hd_X1_freeFor ⟨Nat.le_of_ble_eq_true rfl, Nat.le_of_ble_eq_true rfl⟩ hG (rcv hG cl_X1 hX.ag) hX rfl hl.1 rfl (Nat.le_of_ble_eq_true rfl) dX1_fillings_8 ⟨Nat.le_of_ble_eq_true rfl, Nat.le_of_ble_eq_true rfl⟩ ?_
  refine W.eq (g2 := F0 m 11 ls [.int ((fX1_freeFor σ wi)), .int (nI wi), .ref (α 0 0), .ref (q0), .ref (q0)]) rfl ?_
  refine lv_iconst (v := 0) hx hb dX1_fillings_11 (by decide) ?_
  refine lv_iconst (v := 1) hx hb dX1_fillings_12 (by decide) ?_
  rcases hc_r1 : (fX12_init σ wi ((fX1_freeFor σ wi)) 0 true) with _ | r1
  · rw [hc_r1] at hR
    cases hR
  rw [hc_r1] at hR
  try dsimp only [Option.bind] at hR
  have hB := hS.1
  have hL_t0 : q0 < _ := hT_t0.lt
  refine gcI (As := [.ref (α 0 0), .int (nI wi), .int ((fX1_freeFor σ wi)), .int 0, .int 1]) (rest := [.ref (q0)]) hS0 (met_X12_init l D E q0 wi ((fX1_freeFor σ wi)) 0 true h_wi hd_t0 hc_r1) q519 q520 q132 q521 rfl hd_X12_init ⟨Nat.le_of_ble_eq_true rfl, Nat.le_of_ble_eq_true rfl⟩ hG ⟨hX, hT_t0, (Nat.le_trans hG0.2.2.1 hge_t0)⟩ rfl hl.1 rfl (Nat.le_of_ble_eq_true rfl) dX1_fillings_13 ⟨Nat.le_of_ble_eq_true rfl, Nat.le_of_ble_eq_true rfl⟩ hS (fun q h => h.elim (fun h => by rw [h]; exact (Or.inr hge_t0)) (fun h => Or.inl (hFa q h))) (fun q h => h.elim (fun h => by rw [h]; exact (Or.inr hge_t0)) (fun h => Or.inl (hFa q h))) (fun v H1 locs1 hP hz hk hS => ?_)
  obtain ⟨qc13, rfl, hq9, hZ, hT9, hT_cs13⟩ := hP
  have hX := hZ
  have hT_t0 : va_at D vwCl (q0, .inr (10, [.ref (α 5 wi), .ref (α 9 (wBand σ wi)), .int (bI true), .int (0), .ref (qc13), .int (bI r1.2.1), .int (r1.2.2.1), .int (r1.2.2.2), .ref (α 0 0)])) H1 := hT9
  have hG := gE.ofS hG0 hS hFE
  have hne_t0_cs13 : q0 ≠ qc13 := by have h9 := hL_t0; omega
  have hge_cs13 : s.heap.size ≤ qc13 := by have := hB; omega
  have hd_cs13 : ¬ Fc qc13 := fun z => by have := hFb _ z; omega
  refine W.eq (g2 := F0 m 16 ls [.ref (q0)]) rfl ?_
  exact g_aret hx hb hr (Or.inl ⟨_, rfl⟩) hlocks hS ⟨Nat.le_of_ble_eq_true rfl, Nat.le_of_ble_eq_true rfl⟩ dX1_fillings_16 (by cases hR; exact ⟨_, _, rfl, hge_t0, hge_cs13, hne_t0_cs13, (hX.mono (fun q _ z => hFa q z) hFE), hT_t0, hT_cs13⟩)

def fX1_why (σ : St) (wi : Nat) (cb : Bool) (bs : Int32) : Option (Int32) :=
  (if bs = ((-1)) then (if ((fX8_many σ (wBand σ wi))) ≤ (nI (popc ((fX1_freeFor σ wi)))) then (if cb = true then (Option.bind (fX12_init σ wi ((fX1_freeFor σ wi)) 0 false) (fun (r4 : (Nat → Int32) × Bool × Int32 × Int32) => (if r4.2.2.2 = ((-1)) then (some 4) else (some 3)))) else (some 2)) else (some 1)) else (some 0))
set_option maxHeartbeats 4000000 in
set_option maxRecDepth 100000 in
theorem met_X1_why (l : Launch) (D : va_G) (E : Nat → Nat) {α : Nat → Nat → Nat} {F : Nat → Prop} {σ : St} (wi : Nat) (q0 : Nat) (wf : Bool) (hd : Int32) (qc : Nat) (cb : Bool) (mn : Int32) (bs : Int32) (h_wi : wi < nW σ) (hdF_all : ¬ F q0) {r : Int32} (hR : fX1_why σ wi cb bs = some r) : GM l D E yX1_why cX1_why 4 (Option.some Jvm.ClassFile.FieldType.int) 434 9327 2 19 [.ref (α 0 0), .int (nI wi), .ref (q0)] (fun h => RX D E α F σ h ∧ va_at D vwCl (q0, .inr (10, [.ref (α 5 wi), .ref (α 9 (wBand σ wi)), .int (bI wf), .int (hd), .ref (qc), .int (bI cb), .int (mn), .int (bs), .ref (α 0 0)])) h) F F (fun sz v h => v = some (.int r) ∧ RX D E α F σ h)  := by
  refine GM.start (by decide) (Nat.le_of_ble_eq_true rfl) ?_
  intro p e s m below meth c ls hx hb hr hml hown hlocks hnm hts hG ⟨hX, hT_all⟩ hS hl
  have hown : s.vm.findClass RX1 = some m.cls := hown
  have hS0 : xS p m c cX1_why 4 s _ RX1 := ⟨hx, hb, hml, hown, hts⟩
  have hl : lv_has ls 4 [(0, .ref (α 0 0)), (1, .int (nI wi)), (2, .ref (q0))] := hl
  have hG0 := hG
  have hX0 := hX
  have hb0P := hX0.nP10
  have hb0B := hX0.nB6
  have hb0W := hX0.nW14
  have hFE := hX.fE
  obtain ⟨Fc, hX, hFn⟩ := hX.nar
  have hFa : ∀ q, Fc q → F q := fun q z => (hFn q z).1
  have hFb : ∀ q, Fc q → q < s.heap.size := fun q z => (hFn q z).2
  have hcn : cnt σ σ := cnt.rf
  have hd_all : ¬ Fc q0 := fun z => hdF_all (hFn _ z).1
  unfold fX1_why at hR
  refine lv_aload_n hx hb dX1_why_0 rfl (lv_at hl 2 rfl) ?_
  refine gfN (v := .int (bs)) (C := RX12) (T := TX12) (N := 9) (k := 7) hx hb hts hown hG cl_X12 in_X12 hT_all (by decide) q584 rfl dX1_why_1 ?_
  refine lv_iconst (v := (-1)) hx hb dX1_why_4 (by decide) ?_
  refine lv_icmp_eq (tgt := 10) hx hb dX1_why_5 (by decide) (fun c1 => ?_) (fun c1 => ?_)
  · rw [if_pos c1] at hR
    refine lv_aload_n hx hb dX1_why_10 rfl (lv_at hl 0 rfl) ?_
    refine lv_iload_n hx hb dX1_why_11 rfl (lv_at hl 1 rfl) ?_
    refine pcV (As := [.int (nI wi)]) (rest := []) hS0 (met_X1_freeFor l D E wi h_wi) q505 q507 qs23 q100 q508 hd_X1_freeFor ⟨Nat.le_of_ble_eq_true rfl, Nat.le_of_ble_eq_true rfl⟩ hG (rcv hG cl_X1 hX.ag) hX rfl hl.1 rfl (Nat.le_of_ble_eq_true rfl) dX1_why_12 ⟨Nat.le_of_ble_eq_true rfl, Nat.le_of_ble_eq_true rfl⟩ ?_
    refine W.eq (g2 := F0 m 15 ls [.int ((fX1_freeFor σ wi))]) rfl ?_
    refine lv_istore_n (lv' := [(3, .int ((fX1_freeFor σ wi))), (0, .ref (α 0 0)), (1, .int (nI wi)), (2, .ref (q0))]) hx hb dX1_why_15 rfl hl (Nat.le_of_ble_eq_true rfl) rfl (fun ls hl => ?_)
    refine lv_iload_n hx hb dX1_why_16 rfl (lv_at hl 0 rfl) ?_
    refine pcS (As := [.int ((fX1_freeFor σ wi))]) (rest := []) hS0 (met_size l D E ((fX1_freeFor σ wi))) q379 q380 q100 q381 hd_X1_size ⟨Nat.le_of_ble_eq_true rfl, Nat.le_of_ble_eq_true rfl⟩ hG trivial rfl hl.1 rfl (Nat.le_of_ble_eq_true rfl) dX1_why_17 ⟨Nat.le_of_ble_eq_true rfl, Nat.le_of_ble_eq_true rfl⟩ ?_
    refine W.eq (g2 := F0 m 20 ls [.int (nI (popc ((fX1_freeFor σ wi))))]) rfl ?_
    refine lv_aload_n hx hb dX1_why_20 rfl (lv_at hl 3 rfl) ?_
    refine gfN (v := .ref (α 9 (wBand σ wi))) (C := RX12) (T := TX12) (N := 9) (k := 1) hx hb hts hown hG cl_X12 in_X12 hT_all (by decide) q575 rfl dX1_why_21 ?_
    refine pcV (As := []) (rest := [.int (nI (popc ((fX1_freeFor σ wi))))]) hS0 (met_X8_many l D E (wBand σ wi) (hX0.band h_wi)) q391 q392 q393 q126 q394 hd_X8_many ⟨Nat.le_of_ble_eq_true rfl, Nat.le_of_ble_eq_true rfl⟩ hG (rcv hG cl_X8 (hX.sh (hX0.band h_wi))) hX rfl hl.1 rfl (Nat.le_of_ble_eq_true rfl) dX1_why_24 ⟨Nat.le_of_ble_eq_true rfl, Nat.le_of_ble_eq_true rfl⟩ ?_
    refine W.eq (g2 := F0 m 27 ls [.int ((fX8_many σ (wBand σ wi))), .int (nI (popc ((fX1_freeFor σ wi))))]) rfl ?_
    refine lv_icmp_ge (tgt := 32) hx hb dX1_why_27 (by decide) (fun c2 => ?_) (fun c2 => ?_)
    · rw [if_pos c2] at hR
      refine lv_aload_n hx hb dX1_why_32 rfl (lv_at hl 3 rfl) ?_
      refine gfN (v := .int (bI cb)) (C := RX12) (T := TX12) (N := 9) (k := 5) hx hb hts hown hG cl_X12 in_X12 hT_all (by decide) q580 rfl dX1_why_33 ?_
      refine lb_if_ne (tgt := 41) hx hb dX1_why_36 (by decide) (fun c3 => ?_) (fun c3 => ?_)
      · rw [if_pos c3] at hR
        have hB := hS.1
        have hL_all : q0 < _ := hT_all.lt
        refine nw (ci := 10) (C := RX12) (T := TX12) (N := 9) (fs := [.null, .null, .int 0, .int 0, .null, .int 0, .int 0, .int 0, .null]) (ty := tyX12) hx hb hts hown hG hS cl_X12 in_X12 tyX12_ok q503 q504 q132 (df_X12) ⟨Nat.le_of_ble_eq_true rfl, Nat.le_of_ble_eq_true rfl⟩ dX1_why_41 (fun q41 H1 hq9 hT_t41 hz ho hS => ?_)
        have hT_all : va_at D vwCl (q0, .inr (10, [.ref (α 5 wi), .ref (α 9 (wBand σ wi)), .int (bI wf), .int (hd), .ref (qc), .int (bI cb), .int (mn), .int (bs), .ref (α 0 0)])) H1 := hT_all.kept (ho _ hT_all.lt)
        have hX := hX.kept (fun q h4 _ => ho q h4)
        have hG := gE.ofS hG0 hS hFE
        have hne_all_t41 : q0 ≠ q41 := by have h9 := hL_all; omega
        have hge_t41 : s.heap.size ≤ q41 := by have := hB; omega
        have hd_t41 : ¬ Fc q41 := fun z => by have := hFb _ z; omega
        refine lv_dup hx hb dX1_why_44 rfl ?_
        refine lv_aload_n hx hb dX1_why_45 rfl (lv_at hl 1 rfl) ?_
        refine lv_iload_n hx hb dX1_why_46 rfl (lv_at hl 2 rfl) ?_
        refine lv_iload_n hx hb dX1_why_47 rfl (lv_at hl 0 rfl) ?_
        refine lv_iconst (v := 0) hx hb dX1_why_48 (by decide) ?_
        refine lv_iconst (v := 0) hx hb dX1_why_49 (by decide) ?_
        rcases hc_r4 : (fX12_init σ wi ((fX1_freeFor σ wi)) 0 false) with _ | r4
        · rw [hc_r4] at hR
          cases hR
        rw [hc_r4] at hR
        try dsimp only [Option.bind] at hR
        have hB := hS.1
        have hL_all : q0 < _ := hT_all.lt
        have hL_t41 : q41 < _ := hT_t41.lt
        refine gcI (As := [.ref (α 0 0), .int (nI wi), .int ((fX1_freeFor σ wi)), .int 0, .int 0]) (rest := [.ref (q41)]) hS0 (met_X12_init l D E q41 wi ((fX1_freeFor σ wi)) 0 false h_wi hd_t41 hc_r4) q519 q520 q132 q521 rfl hd_X12_init ⟨Nat.le_of_ble_eq_true rfl, Nat.le_of_ble_eq_true rfl⟩ hG ⟨hX, hT_t41, (Nat.le_trans hG0.2.2.1 hge_t41)⟩ rfl hl.1 rfl (Nat.le_of_ble_eq_true rfl) dX1_why_50 ⟨Nat.le_of_ble_eq_true rfl, Nat.le_of_ble_eq_true rfl⟩ hS (fun q h => h.elim (fun h => by rw [h]; exact (Or.inr hge_t41)) (fun h => Or.inl (hFa q h))) (fun q h => h.elim (fun h => by rw [h]; exact (Or.inr hge_t41)) (fun h => Or.inl (hFa q h))) (fun v H1 locs1 hP hz hk hS => ?_)
        obtain ⟨qc50, rfl, hq9, hZ, hT9, hT_cs50⟩ := hP
        have hT_all : va_at D vwCl (q0, .inr (10, [.ref (α 5 wi), .ref (α 9 (wBand σ wi)), .int (bI wf), .int (hd), .ref (qc), .int (bI cb), .int (mn), .int (bs), .ref (α 0 0)])) H1 := hT_all.kept (hk _ hT_all.lt (fun e9 => e9.elim (fun e9 => absurd e9 hne_all_t41) hd_all))
        have hX := hZ
        have hT_t41 : va_at D vwCl (q41, .inr (10, [.ref (α 5 wi), .ref (α 9 (wBand σ wi)), .int (bI false), .int (0), .ref (qc50), .int (bI r4.2.1), .int (r4.2.2.1), .int (r4.2.2.2), .ref (α 0 0)])) H1 := hT9
        have hG := gE.ofS hG0 hS hFE
        have hne_all_cs50 : q0 ≠ qc50 := by have h9 := hL_all; omega
        have hne_t41_cs50 : q41 ≠ qc50 := by have h9 := hL_t41; omega
        have hge_cs50 : s.heap.size ≤ qc50 := by have := hB; omega
        have hd_cs50 : ¬ Fc qc50 := fun z => by have := hFb _ z; omega
        refine W.eq (g2 := F0 m 53 ls [.ref (q41)]) rfl ?_
        refine gfN (v := .int (r4.2.2.2)) (C := RX12) (T := TX12) (N := 9) (k := 7) hx hb hts hown hG cl_X12 in_X12 hT_t41 (by decide) q584 rfl dX1_why_53 ?_
        refine lv_iconst (v := (-1)) hx hb dX1_why_56 (by decide) ?_
        refine lv_icmp_eq (tgt := 64) hx hb dX1_why_57 (by decide) (fun c5 => ?_) (fun c5 => ?_)
        · rw [if_pos c5] at hR
          refine lv_iconst (v := 4) hx hb dX1_why_64 (by decide) ?_
          exact g_iret hx hb hr hlocks hS ⟨Nat.le_of_ble_eq_true rfl, Nat.le_of_ble_eq_true rfl⟩ dX1_why_65 (by cases hR; exact ⟨rfl, (hX.mono (fun q _ z => hFa q z) hFE)⟩)
        · rw [if_neg c5] at hR
          refine lv_iconst (v := 3) hx hb dX1_why_60 (by decide) ?_
          refine lv_goto (tgt := 65) hx hb dX1_why_61 (by decide) ?_
          exact g_iret hx hb hr hlocks hS ⟨Nat.le_of_ble_eq_true rfl, Nat.le_of_ble_eq_true rfl⟩ dX1_why_65 (by cases hR; exact ⟨rfl, (hX.mono (fun q _ z => hFa q z) hFE)⟩)
      · rw [if_neg c3] at hR
        refine lv_iconst (v := 2) hx hb dX1_why_39 (by decide) ?_
        exact g_iret hx hb hr hlocks hS ⟨Nat.le_of_ble_eq_true rfl, Nat.le_of_ble_eq_true rfl⟩ dX1_why_40 (by cases hR; exact ⟨rfl, (hX.mono (fun q _ z => hFa q z) hFE)⟩)
    · rw [if_neg c2] at hR
      refine lv_iconst (v := 1) hx hb dX1_why_30 (by decide) ?_
      exact g_iret hx hb hr hlocks hS ⟨Nat.le_of_ble_eq_true rfl, Nat.le_of_ble_eq_true rfl⟩ dX1_why_31 (by cases hR; exact ⟨rfl, (hX.mono (fun q _ z => hFa q z) hFE)⟩)
  · rw [if_neg c1] at hR
    refine lv_iconst (v := 0) hx hb dX1_why_8 (by decide) ?_
    exact g_iret hx hb hr hlocks hS ⟨Nat.le_of_ble_eq_true rfl, Nat.le_of_ble_eq_true rfl⟩ dX1_why_9 (by cases hR; exact ⟨rfl, (hX.mono (fun q _ z => hFa q z) hFE)⟩)

def fX1_fillingNow (σ : St) (wi : Nat) (q : Int32) (cb : Bool) (mn : Int32) (bs : Int32) (np : Nat) (fc : Nat → Int32) : Option (Int32) :=
  (if q = 0 then (some bs) else (if q = 1 then (some (fX12_cost bs np fc)) else (if q = 2 then (some mn) else (Option.bind (fX1_why σ wi cb bs) (fun (r4 : Int32) => (some r4))))))
set_option maxHeartbeats 4000000 in
set_option maxRecDepth 100000 in
theorem met_X1_fillingNow (l : Launch) (D : va_G) (E : Nat → Nat) {α : Nat → Nat → Nat} {F : Nat → Prop} {σ : St} (wi : Nat) (q0 : Nat) (q : Int32) (wf : Bool) (hd : Int32) (qc : Nat) (cb : Bool) (mn : Int32) (bs : Int32) (np : Nat) (fc : Nat → Int32) (h_wi : wi < nW σ) (hdF_all : ¬ F q0) (hdF_cs : ¬ F qc) (hne_all_cs : q0 ≠ qc) (hnp : np ≤ 10) {r : Int32} (hR : fX1_fillingNow σ wi q cb mn bs np fc = some r) : GM l D E yX1_fillingNow cX1_fillingNow 4 (Option.some Jvm.ClassFile.FieldType.int) 435 9350 2 19 [.ref (α 0 0), .int (nI wi), .ref (q0), .int (q)] (fun h => RX D E α F σ h ∧ va_at D vwCl (q0, .inr (10, [.ref (α 5 wi), .ref (α 9 (wBand σ wi)), .int (bI wf), .int (hd), .ref (qc), .int (bI cb), .int (mn), .int (bs), .ref (α 0 0)])) h ∧ va_at D vwCl (qc, arI E np fc) h) F F (fun sz v h => v = some (.int r) ∧ RX D E α F σ h)  := by
  refine GM.start (by decide) (Nat.le_of_ble_eq_true rfl) ?_
  intro p e s m below meth c ls hx hb hr hml hown hlocks hnm hts hG ⟨hX, hT_all, hT_cs⟩ hS hl
  have hown : s.vm.findClass RX1 = some m.cls := hown
  have hS0 : xS p m c cX1_fillingNow 4 s _ RX1 := ⟨hx, hb, hml, hown, hts⟩
  have hl : lv_has ls 4 [(0, .ref (α 0 0)), (1, .int (nI wi)), (2, .ref (q0)), (3, .int (q))] := hl
  have hG0 := hG
  have hX0 := hX
  have hb0P := hX0.nP10
  have hb0B := hX0.nB6
  have hb0W := hX0.nW14
  have hFE := hX.fE
  obtain ⟨Fc, hX, hFn⟩ := hX.nar
  have hFa : ∀ q, Fc q → F q := fun q z => (hFn q z).1
  have hFb : ∀ q, Fc q → q < s.heap.size := fun q z => (hFn q z).2
  have hcn : cnt σ σ := cnt.rf
  have hd_all : ¬ Fc q0 := fun z => hdF_all (hFn _ z).1
  have hd_cs : ¬ Fc qc := fun z => hdF_cs (hFn _ z).1
  unfold fX1_fillingNow at hR
  refine lv_iload_n hx hb dX1_fillingNow_0 rfl (lv_at hl 3 rfl) ?_
  by_cases c1 : q = 0
  · rw [if_pos c1] at hR
    refine lv_eq c1 ?_
    refine lv_tableIn (x := 0) (off := 27) (tgt := 28) hx hb dX1_fillingNow_1 (by decide) (by decide) (by decide) (by decide) ?_
    refine lv_aload_n hx hb dX1_fillingNow_28 rfl (lv_at hl 2 rfl) ?_
    refine gfN (v := .int (bs)) (C := RX12) (T := TX12) (N := 9) (k := 7) hx hb hts hown hG cl_X12 in_X12 hT_all (by decide) q584 rfl dX1_fillingNow_29 ?_
    exact g_iret hx hb hr hlocks hS ⟨Nat.le_of_ble_eq_true rfl, Nat.le_of_ble_eq_true rfl⟩ dX1_fillingNow_32 (by cases hR; exact ⟨rfl, (hX.mono (fun q _ z => hFa q z) hFE)⟩)
  rw [if_neg c1] at hR
  by_cases c2 : q = 1
  · rw [if_pos c2] at hR
    refine lv_eq c2 ?_
    refine lv_tableIn (x := 1) (off := 32) (tgt := 33) hx hb dX1_fillingNow_1 (by decide) (by decide) (by decide) (by decide) ?_
    refine lv_aload_n hx hb dX1_fillingNow_33 rfl (lv_at hl 2 rfl) ?_
    have hB := hS.1
    have hL_all : q0 < _ := hT_all.lt
    have hL_cs : qc < _ := hT_cs.lt
    refine gcV (As := []) (rest := []) hS0 (met_X12_cost l D E q0 wi (wBand σ wi) wf hd qc cb mn bs np fc (by omega) hne_all_cs) q609 q610 q611 q132 q612 hd_X12_cost ⟨Nat.le_of_ble_eq_true rfl, Nat.le_of_ble_eq_true rfl⟩ hG (rcv hG cl_X12 hT_all) ⟨hT_all, hT_cs⟩ rfl hl.1 rfl (Nat.le_of_ble_eq_true rfl) dX1_fillingNow_34 ⟨Nat.le_of_ble_eq_true rfl, Nat.le_of_ble_eq_true rfl⟩ hS (fun q h => h.elim) (fun q h => h.elim) (fun v H1 locs1 hP hz hk hS => ?_)
    obtain rfl := hP
    have hT_all : va_at D vwCl (q0, .inr (10, [.ref (α 5 wi), .ref (α 9 (wBand σ wi)), .int (bI wf), .int (hd), .ref (qc), .int (bI cb), .int (mn), .int (bs), .ref (α 0 0)])) H1 := hT_all.kept (hk _ hT_all.lt id)
    have hT_cs : va_at D vwCl (qc, arI E np fc) H1 := hT_cs.kept (hk _ hT_cs.lt id)
    have hX := hX.kept (fun q h4 _ => hk q h4 id)
    have hG := gE.ofS hG0 hS hFE
    refine W.eq (g2 := F0 m 37 ls [.int ((fX12_cost bs np fc))]) rfl ?_
    exact g_iret hx hb hr hlocks hS ⟨Nat.le_of_ble_eq_true rfl, Nat.le_of_ble_eq_true rfl⟩ dX1_fillingNow_37 (by cases hR; exact ⟨rfl, (hX.mono (fun q _ z => hFa q z) hFE)⟩)
  rw [if_neg c2] at hR
  by_cases c3 : q = 2
  · rw [if_pos c3] at hR
    refine lv_eq c3 ?_
    refine lv_tableIn (x := 2) (off := 37) (tgt := 38) hx hb dX1_fillingNow_1 (by decide) (by decide) (by decide) (by decide) ?_
    refine lv_aload_n hx hb dX1_fillingNow_38 rfl (lv_at hl 2 rfl) ?_
    refine gfN (v := .int (mn)) (C := RX12) (T := TX12) (N := 9) (k := 6) hx hb hts hown hG cl_X12 in_X12 hT_all (by decide) q582 rfl dX1_fillingNow_39 ?_
    exact g_iret hx hb hr hlocks hS ⟨Nat.le_of_ble_eq_true rfl, Nat.le_of_ble_eq_true rfl⟩ dX1_fillingNow_42 (by cases hR; exact ⟨rfl, (hX.mono (fun q _ z => hFa q z) hFE)⟩)
  rw [if_neg c3] at hR
  refine lv_tableOut (tgt := 43) hx hb dX1_fillingNow_1 (sw_out (lo := 0) (hi := 2) (by decide) (by decide) (fun z h1 h2 => by rcases (show z = 0 ∨ z = 1 ∨ z = 2 by omega) with rfl | rfl | rfl <;> first | exact c1 | exact c2 | exact c3)) (by decide) ?_
  refine lv_aload_n hx hb dX1_fillingNow_43 rfl (lv_at hl 0 rfl) ?_
  refine lv_iload_n hx hb dX1_fillingNow_44 rfl (lv_at hl 1 rfl) ?_
  refine lv_aload_n hx hb dX1_fillingNow_45 rfl (lv_at hl 2 rfl) ?_
  rcases hc_r4 : (fX1_why σ wi cb bs) with _ | r4
  · rw [hc_r4] at hR
    cases hR
  rw [hc_r4] at hR
  try dsimp only [Option.bind] at hR
  have hB := hS.1
  have hL_all : q0 < _ := hT_all.lt
  have hL_cs : qc < _ := hT_cs.lt
  refine gcV (As := [.int (nI wi), .ref (q0)]) (rest := []) hS0 (met_X1_why l D E wi q0 wf hd qc cb mn bs h_wi hd_all hc_r4) q613 q615 qs35 q100 q616 hd_X1_why ⟨Nat.le_of_ble_eq_true rfl, Nat.le_of_ble_eq_true rfl⟩ hG (rcv hG cl_X1 hX.ag) ⟨hX, hT_all⟩ rfl hl.1 rfl (Nat.le_of_ble_eq_true rfl) dX1_fillingNow_46 ⟨Nat.le_of_ble_eq_true rfl, Nat.le_of_ble_eq_true rfl⟩ hS (fun q h => Or.inl (hFa q h)) (fun q h => Or.inl (hFa q h)) (fun v H1 locs1 hP hz hk hS => ?_)
  obtain ⟨rfl, hZ⟩ := hP
  have hT_all : va_at D vwCl (q0, .inr (10, [.ref (α 5 wi), .ref (α 9 (wBand σ wi)), .int (bI wf), .int (hd), .ref (qc), .int (bI cb), .int (mn), .int (bs), .ref (α 0 0)])) H1 := hT_all.kept (hk _ hT_all.lt hd_all)
  have hT_cs : va_at D vwCl (qc, arI E np fc) H1 := hT_cs.kept (hk _ hT_cs.lt hd_cs)
  have hX := hZ
  have hG := gE.ofS hG0 hS hFE
  refine W.eq (g2 := F0 m 49 ls [.int (r4)]) rfl ?_
  exact g_iret hx hb hr hlocks hS ⟨Nat.le_of_ble_eq_true rfl, Nat.le_of_ble_eq_true rfl⟩ dX1_fillingNow_49 (by cases hR; exact ⟨rfl, (hX.mono (fun q _ z => hFa q z) hFE)⟩)

