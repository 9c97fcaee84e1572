/-! the model: fix, pass -/
set_option maxRecDepth 100000
theorem RM.lw {D : va_G} {E : Nat → Nat} {β : Nat → Nat → Nat} {F : Nat → Prop} {σ : St} {th ca : Int32} {sm : Int64} {H : Heap} {σ0 : St} (h : RM D E β F σ th ca sm H) (hc : cnt σ σ0) : va_at D vwCl (β 1 2, .inr (13, [.int (nI (nW σ0)), .ref (β 2 2), .int (nI (nW σ0))])) H ∧ (0 < nW σ0 → ∃ (cap : Nat) (g : Nat → Option Nat), va_at D vwCl (β 2 2, arQ E cap g) H ∧ nW σ0 ≤ cap ∧ cap ≤ 66 ∧ (∀ k, k < nW σ0 → g k = some (β 5 k)) ∧ F (β 2 2) ∧ β 1 2 ≠ β 2 2) := by
  obtain ⟨h1, -, γ, h2, h3⟩ := h
  rw [← hc.2.2]
  obtain ⟨q1, ⟨q2, q2'⟩, q3⟩ := h2.1 2 (by decide)
  have q2' : γ.2.1 2 ≤ 10 + 2 * nW σ := q2'
  have h14 := h1.2.2.1
  have hlc : cellM E σ th ca sm γ β 1 2 = some (.inr (13, [.int (nI (nW σ)), .ref (β 2 2), .int (nI (nW σ))])) := rfl
  refine ⟨(h3.1 1 2 _ hlc).1, fun h0 => ?_⟩
  have q1 : nW σ ≤ γ.2.1 2 := q1
  have hc0 : γ.2.1 2 ≠ 0 := by omega
  have hac : cellM E σ th ca sm γ β 2 2 = some (arQ E (γ.2.1 2) (fun k => if k < nW σ then some (β 5 k) else γ.2.2 2 k)) := if_pos ⟨by decide, hc0⟩
  refine ⟨_, _, (h3.1 2 2 _ hac).1, q1, by omega, fun k hk => if_pos hk, (h3.1 2 2 _ hac).2, fun e => ?_⟩
  have := (h3.2 1 2 2 2 _ _ hlc hac e).1
  omega
theorem is60_ix {a : Int32} (h : fX4_is a 1 60 = true) : a = nI a.toNatClampNeg ∧ a.toNatClampNeg < 61 := by
  obtain ⟨h1, h2⟩ := is_t.mp h
  exact is_ix (n := 60) (by decide) (is_t.mpr ⟨Int32.le_trans (show (0 : Int32) ≤ 1 by decide) h1, h2⟩)
def fX4_fix_L77 (σ : St) (th : Int32) (ca : Int32) (sm : Int64) (a : Int32)  (κ : St → Int32 → Int32 → Int64 → Nat → Int32 → Option (Int32 × MSt)) : Nat → St → Int32 → Int32 → Int64 → Nat → Int32 → Option (Int32 × MSt)
  | 0, σ3, th3, ca3, sm3, o_it720_77, o_it721_77 => none
  | n + 1, σ3, th3, ca3, sm3, o_it720_77, o_it721_77 => (if ((fJ19_hasNext o_it720_77 (nW σ))) = true then (if o_it720_77 < nW σ then (if (nI (wState σ3 o_it720_77)) = 0 then (if (nI (wBand σ3 o_it720_77)) = (nI (wBand σ3 ((Int32.toNatClampNeg a)))) then (if (nI (wDay σ3 o_it720_77)) = (nI (wDay σ3 ((Int32.toNatClampNeg a)))) then (fun (σ4 : St) => fX4_fix_L77 σ th ca sm a κ n σ4 th3 ca3 sm3 (o_it720_77 + 1) (nI o_it720_77)) (sN σ3 5 o_it720_77 3) else fX4_fix_L77 σ th ca sm a κ n σ3 th3 ca3 sm3 (o_it720_77 + 1) (nI o_it720_77)) else fX4_fix_L77 σ th ca sm a κ n σ3 th3 ca3 sm3 (o_it720_77 + 1) (nI o_it720_77)) else fX4_fix_L77 σ th ca sm a κ n σ3 th3 ca3 sm3 (o_it720_77 + 1) (nI o_it720_77)) else none) else κ σ3 th3 ca3 sm3 o_it720_77 o_it721_77)
def fX4_fix (σ : St) (th : Int32) (ca : Int32) (sm : Int64) (a : Int32) : Option (Int32 × MSt) :=
  (if ((fX4_isWedding σ a)) = true then (if ((fX4_place σ ((Int32.toNatClampNeg a)))) = 0 then (if ((gX4_best σ ((Int32.toNatClampNeg a)) 0 0)) = ((-1)) then (fun (σ6 : St) => (fun (th6 : Int32) => (fun (ca6 : Int32) => (fun (sm6 : Int64) => (fun (v6 : Int32) => (some (v6, ((σ6, th6, ca6, sm6) : MSt)))) ((fX4_refuse σ 0 ca sm 2).1)) ((fX4_refuse σ 0 ca sm 2).2.2.2.2)) ((fX4_refuse σ 0 ca sm 2).2.2.2.1)) ((fX4_refuse σ 0 ca sm 2).2.2.1)) ((fX4_refuse σ 0 ca sm 2).2.1) else (fun (σ2 : St) => (fun (th2 : Int32) => (fun (ca2 : Int32) => (fun (sm2 : Int64) => fX4_fix_L77 σ th ca sm a (fun (σ5 : St) (th5 : Int32) (ca5 : Int32) (sm5 : Int64) (t_it72_9 : Nat) (t_it72_10 : Int32) => (some (wPrice σ5 ((Int32.toNatClampNeg a)), ((σ5, th5, ca5, sm5) : MSt)))) 15 σ2 th2 ca2 sm2 0 ((-1))) ((fX4_fixNow σ 0 ca sm ((Int32.toNatClampNeg a)) ((gX4_best σ ((Int32.toNatClampNeg a)) 0 0))).2.2.2)) ((fX4_fixNow σ 0 ca sm ((Int32.toNatClampNeg a)) ((gX4_best σ ((Int32.toNatClampNeg a)) 0 0))).2.2.1)) ((fX4_fixNow σ 0 ca sm ((Int32.toNatClampNeg a)) ((gX4_best σ ((Int32.toNatClampNeg a)) 0 0))).2.1)) ((fX4_fixNow σ 0 ca sm ((Int32.toNatClampNeg a)) ((gX4_best σ ((Int32.toNatClampNeg a)) 0 0))).1)) else (fun (σ1 : St) => (fun (th1 : Int32) => (fun (ca1 : Int32) => (fun (sm1 : Int64) => (fun (v1 : Int32) => (some (v1, ((σ1, th1, ca1, sm1) : MSt)))) ((fX4_refuse σ 0 ca sm 2).1)) ((fX4_refuse σ 0 ca sm 2).2.2.2.2)) ((fX4_refuse σ 0 ca sm 2).2.2.2.1)) ((fX4_refuse σ 0 ca sm 2).2.2.1)) ((fX4_refuse σ 0 ca sm 2).2.1)) else (fun (σ7 : St) => (fun (th7 : Int32) => (fun (ca7 : Int32) => (fun (sm7 : Int64) => (fun (v7 : Int32) => (some (v7, ((σ7, th7, ca7, sm7) : MSt)))) ((fX4_refuse σ 0 ca sm 1).1)) ((fX4_refuse σ 0 ca sm 1).2.2.2.2)) ((fX4_refuse σ 0 ca sm 1).2.2.2.1)) ((fX4_refuse σ 0 ca sm 1).2.2.1)) ((fX4_refuse σ 0 ca sm 1).2.1))
set_option maxHeartbeats 4000000 in
set_option maxRecDepth 100000 in
theorem met_X4_fix (l : Launch) (D : va_G) (E : Nat → Nat) {β : Nat → Nat → Nat} {F : Nat → Prop} {σ : St} {th ca : Int32} {sm : Int64} (a : Int32)  {r : Int32 × MSt} (hR : fX4_fix σ th ca sm a = some r) : GM l D E yX4_fix cX4_fix 6 (Option.some Jvm.ClassFile.FieldType.int) 21 463 1 4 [.ref (β 0 0), .int (a)] (RM D E β F σ th ca sm) F F (fun sz v h => v = some (.int r.1) ∧ RM D E β (fN F sz) r.2.1 r.2.2.1 r.2.2.2.1 r.2.2.2.2 h ∧ cnt r.2.1 σ)  := by
  refine GM.start (by decide) (Nat.le_of_ble_eq_true rfl) ?_
  intro p e s m below meth c ls hx hb hr hml hown hlocks hnm hts hG hM hS hl
  have hown : s.vm.findClass RX4 = some m.cls := hown
  have hS0 : xS p m c cX4_fix 6 s _ RX4 := ⟨hx, hb, hml, hown, hts⟩
  have hl : lv_has ls 6 [(0, .ref (β 0 0)), (1, .int (a))] := hl
  have hG0 := hG
  have hM0 := hM
  have hb0P := hM0.nP10
  have hb0B := hM0.nB6
  have hb0W := hM0.nW14
  have hFE := hM.fE
  obtain ⟨Fc, hM, hFn⟩ := hM.nar
  have hFa : ∀ q, Fc q → fN F s.heap.size q := fun q z => Or.inl (hFn q z).1
  have hFb : ∀ q, Fc q → q < s.heap.size := fun q z => (hFn q z).2
  have hcn : cnt σ σ := cnt.rf
  have hL77 : ∀ (q72 : Nat) (hge_it72 : s.heap.size ≤ q72) (hf77_0 : (Int32.toNatClampNeg a) < nW σ) (hg77_0 : a = nI ((Int32.toNatClampNeg a))) (κ : St → Int32 → Int32 → Int64 → Nat → Int32 → Option (Int32 × MSt)) (hκ : ∀ (σ3 : St) (th3 : Int32) (ca3 : Int32) (sm3 : Int64) (o_it720_77 : Nat) (o_it721_77 : Int32) (H : Heap) (locs : List Loc) (Fc : Nat → Prop) (ls : Array Slot), κ σ3 th3 ca3 sm3 o_it720_77 o_it721_77 = some r → cnt σ3 σ → RM D E β Fc σ3 th3 ca3 sm3 H → (∀ q, Fc q → fN F s.heap.size q) → (∀ q, Fc q → q < H.size) → ¬ Fc q72 → va_at D vwCl (q72, .inr (15, [.int (nI o_it720_77), .int (o_it721_77), .int (nI (nW σ)), .ref (β 1 2)])) H → xK F F s.heap H locs → lv_has ls 6 [(3, .ref (β 5 ((Int32.toNatClampNeg a))))] → W p l e { frames := 21, cells := 1, slots := 4, locals := 463 } s m [(.ref (β 0 0) : Value), .int (a)].toArray below meth c H locs 1 4 (MQ below (qG F ((fun sz v h => v = some (.int r.1) ∧ RM D E β (fN F sz) r.2.1 r.2.2.1 r.2.2.2.1 r.2.2.2.2 h ∧ cnt r.2.1 σ) s.heap.size)) [(.ref (β 0 0) : Value), .int (a)].toArray s 1 4 (fN F s.heap.size)) (F0 m 140 ls [])) (n : Nat)  (σ3 : St) (th3 : Int32) (ca3 : Int32) (sm3 : Int64) (o_it720_77 : Nat) (o_it721_77 : Int32), fX4_fix_L77 σ th ca sm a κ n σ3 th3 ca3 sm3 o_it720_77 o_it721_77 = some r → ∀ (H : Heap) (locs : List Loc) (Fc : Nat → Prop), cnt σ3 σ → RM D E β Fc σ3 th3 ca3 sm3 H → (∀ q, Fc q → fN F s.heap.size q) → (∀ q, Fc q → q < H.size) → ¬ Fc q72 → va_at D vwCl (q72, .inr (15, [.int (nI o_it720_77), .int (o_it721_77), .int (nI (nW σ)), .ref (β 1 2)])) H → xK F F s.heap H locs → ∀ (ls : Array Slot), lv_has ls 6 [(3, .ref (β 5 ((Int32.toNatClampNeg a)))), (4, .ref (q72))] → W p l e { frames := 21, cells := 1, slots := 4, locals := 463 } s m [(.ref (β 0 0) : Value), .int (a)].toArray below meth c H locs 1 4 (MQ below (qG F ((fun sz v h => v = some (.int r.1) ∧ RM D E β (fN F sz) r.2.1 r.2.2.1 r.2.2.2.1 r.2.2.2.2 h ∧ cnt r.2.1 σ) s.heap.size)) [(.ref (β 0 0) : Value), .int (a)].toArray s 1 4 (fN F s.heap.size)) (F0 m 77 ls []) := by
    intro q72 hge_it72 hf77_0 hg77_0 κ hκ n
    induction n with
    | zero =>
      intro σ3 th3 ca3 sm3 o_it720_77 o_it721_77 hR H locs Fc hcn hM hFa hFb hd_it72 hT_it72 hS ls hl
      rw [fX4_fix_L77] at hR
      have hG := gE.ofS hG0 hS hFE
      cases hR
    | succ n ih =>
      intro σ3 th3 ca3 sm3 o_it720_77 o_it721_77 hR H locs Fc hcn hM hFa hFb hd_it72 hT_it72 hS ls hl
      rw [fX4_fix_L77] at hR
      have hG := gE.ofS hG0 hS hFE
      refine lv_aload hx hb dX4_fix_77 (lv_at hl 1 rfl) ?_
      have hB := hS.1
      have hL_it72 : q72 < _ := hT_it72.lt
      refine gcF (x := xI_hasNext) (ci := 15) (As := []) (rest := []) hG.fw_hasNext hS0 (met_J19_hasNext l D E q72 o_it720_77 o_it721_77 (nW σ) (β 1 2) (β 2 2) (fun e9 => hd_it72 (by rw [e9]; exact hM.lsF (k := 2) (by decide)))) q1830 q1834 q1836 q133 q1838 hd_xI_hasNext ⟨Nat.le_of_ble_eq_true rfl, Nat.le_of_ble_eq_true rfl⟩ hG cl_J19 (rcv hG cl_J19 hT_it72) ⟨hT_it72, (hM.lw hcn).1⟩ rfl hl.1 rfl (Nat.le_of_ble_eq_true rfl) dX4_fix_79 ⟨Nat.le_of_ble_eq_true rfl, Nat.le_of_ble_eq_true rfl⟩ hS (fun q h => h.elim) (fun q h => h.elim) (fun v H1 locs1 hP hz hk hS => ?_)
      obtain rfl := hP
      have hT_it72 : va_at D vwCl (q72, .inr (15, [.int (nI o_it720_77), .int (o_it721_77), .int (nI (nW σ)), .ref (β 1 2)])) H1 := hT_it72.kept (hk _ hT_it72.lt id)
      have hM := hM.kept (fun q h4 _ => hk q h4 id)
      have hG := gE.ofS hG0 hS hFE
      refine W.eq (g2 := F0 m 84 ls [.int (bI ((fJ19_hasNext o_it720_77 (nW σ))))]) rfl ?_
      refine lb_if_eq (tgt := 140) hx hb dX4_fix_84 (by decide) (fun c4 => ?_) (fun c4 => ?_)
      · rw [if_neg c4] at hR
        exact hκ σ3 th3 ca3 sm3 o_it720_77 o_it721_77 _ _ _ ls hR hcn hM hFa (fun q z => by have := hFb q z; omega) hd_it72 hT_it72 hS (lv_sub hl [0] rfl)
      · rw [if_pos c4] at hR
        refine lv_aload hx hb dX4_fix_87 (lv_at hl 1 rfl) ?_
        rcases (Decidable.em (o_it720_77 < nW σ)).symm with g5 | g5
        · rw [if_neg g5] at hR
          cases hR
        rw [if_pos g5] at hR
        obtain ⟨cap9, g9, hA9, hnc9, hcap9, hg9, hF9, hne9⟩ := (hM.lw hcn).2 (Nat.lt_of_le_of_lt (Nat.zero_le _) g5)
        have hB := hS.1
        have hL_it72 : q72 < _ := hT_it72.lt
        refine gcF (x := xI_next) (ci := 15) (As := []) (rest := []) hG.fw_next hS0 (met_J19_next l D E q72 o_it720_77 o_it721_77 (nW σ) (β 1 2) (β 2 2) cap9 g9 (β 5 o_it720_77) (fun e9 => hd_it72 (by rw [e9]; exact hM.lsF (k := 2) (by decide))) (fun e9 => hd_it72 (by rw [e9]; exact hF9)) hne9 (by omega) hnc9 g5 (hg9 _ g5)) q1840 q1843 q1845 q133 q1847 hd_xI_next ⟨Nat.le_of_ble_eq_true rfl, Nat.le_of_ble_eq_true rfl⟩ hG cl_J19 (rcv hG cl_J19 hT_it72) ⟨hT_it72, (hM.lw hcn).1, hA9, (Nat.le_trans hG0.2.2.1 hge_it72)⟩ rfl hl.1 rfl (Nat.le_of_ble_eq_true rfl) dX4_fix_89 ⟨Nat.le_of_ble_eq_true rfl, Nat.le_of_ble_eq_true rfl⟩ hS (fun q h => by have h : q = q72 := h; rw [h]; exact (Or.inr hge_it72)) (fun q h => by have h : q = q72 := h; rw [h]; exact (Or.inr hge_it72)) (fun v H1 locs1 hP hz hk hS => ?_)
        obtain ⟨rfl, hT9⟩ := hP
        have hM := hM.kept (fun q h4 h5 => hk q h4 (fun e9 => hd_it72 (e9 ▸ h5)))
        have hT_it72 : va_at D vwCl (q72, .inr (15, [.int (nI (o_it720_77 + 1)), .int (nI o_it720_77), .int (nI (nW σ)), .ref (β 1 2)])) H1 := hT9
        have hG := gE.ofS hG0 hS hFE
        refine W.eq (g2 := F0 m 94 ls [.ref (β 5 o_it720_77)]) rfl ?_
        refine gc (ci := 9) hx hb hown hG cl_X11 (rcv hG cl_X11 (hM.wd (hcn.w g5))) (hts _ q1695) dX4_fix_94 ?_
        refine lv_astore (lv' := [(5, .ref (β 5 o_it720_77)), (3, .ref (β 5 ((Int32.toNatClampNeg a)))), (4, .ref (q72))]) hx hb dX4_fix_97 hl (Nat.le_of_ble_eq_true rfl) rfl (fun ls hl => ?_)
        refine lv_aload hx hb dX4_fix_99 (lv_at hl 0 rfl) ?_
        refine gfN (v := .int (nI (wState σ3 o_it720_77))) (C := RX11) (T := TX11) (N := 12) (k := 7) hx hb hts hown hG cl_X11 in_X11 (hM.wd (hcn.w g5)) (by decide) q1710 rfl dX4_fix_101 ?_
        refine lv_if_ne (tgt := 137) hx hb dX4_fix_104 (by decide) (fun c6 => ?_) (fun c6 => ?_)
        · rw [if_neg c6] at hR
          refine lv_goto (tgt := 77) hx hb dX4_fix_137 (by decide) ?_
          exact ih σ3 th3 ca3 sm3 (o_it720_77 + 1) (nI o_it720_77)  hR _ _ _ hcn hM hFa (fun q z => by have := hFb q z; omega) hd_it72 hT_it72 hS ls (lv_sub hl [1, 2] rfl)
        · rw [if_pos c6] at hR
          refine lv_aload hx hb dX4_fix_107 (lv_at hl 0 rfl) ?_
          refine gfN (v := .int (nI (wBand σ3 o_it720_77))) (C := RX11) (T := TX11) (N := 12) (k := 0) hx hb hts hown hG cl_X11 in_X11 (hM.wd (hcn.w g5)) (by decide) q1701 rfl dX4_fix_109 ?_
          refine lv_aload_n hx hb dX4_fix_112 rfl (lv_at hl 1 rfl) ?_
          refine gfN (v := .int (nI (wBand σ3 ((Int32.toNatClampNeg a))))) (C := RX11) (T := TX11) (N := 12) (k := 0) hx hb hts hown hG cl_X11 in_X11 (hM.wd (hcn.w hf77_0)) (by decide) q1701 rfl dX4_fix_113 ?_
          refine lv_icmp_ne (tgt := 137) hx hb dX4_fix_116 (by decide) (fun c7 => ?_) (fun c7 => ?_)
          · rw [if_neg c7] at hR
            refine lv_goto (tgt := 77) hx hb dX4_fix_137 (by decide) ?_
            exact ih σ3 th3 ca3 sm3 (o_it720_77 + 1) (nI o_it720_77)  hR _ _ _ hcn hM hFa (fun q z => by have := hFb q z; omega) hd_it72 hT_it72 hS ls (lv_sub hl [1, 2] rfl)
          · rw [if_pos c7] at hR
            refine lv_aload hx hb dX4_fix_119 (lv_at hl 0 rfl) ?_
            refine gfN (v := .int (nI (wDay σ3 o_it720_77))) (C := RX11) (T := TX11) (N := 12) (k := 1) hx hb hts hown hG cl_X11 in_X11 (hM.wd (hcn.w g5)) (by decide) q1702 rfl dX4_fix_121 ?_
            refine lv_aload_n hx hb dX4_fix_124 rfl (lv_at hl 1 rfl) ?_
            refine gfN (v := .int (nI (wDay σ3 ((Int32.toNatClampNeg a))))) (C := RX11) (T := TX11) (N := 12) (k := 1) hx hb hts hown hG cl_X11 in_X11 (hM.wd (hcn.w hf77_0)) (by decide) q1702 rfl dX4_fix_125 ?_
            refine lv_icmp_ne (tgt := 137) hx hb dX4_fix_128 (by decide) (fun c8 => ?_) (fun c8 => ?_)
            · rw [if_neg c8] at hR
              refine lv_goto (tgt := 77) hx hb dX4_fix_137 (by decide) ?_
              exact ih σ3 th3 ca3 sm3 (o_it720_77 + 1) (nI o_it720_77)  hR _ _ _ hcn hM hFa (fun q z => by have := hFb q z; omega) hd_it72 hT_it72 hS ls (lv_sub hl [1, 2] rfl)
            · rw [if_pos c8] at hR
              refine lv_aload hx hb dX4_fix_131 (lv_at hl 0 rfl) ?_
              refine lv_iconst (v := 3) hx hb dX4_fix_133 (by decide) ?_
              refine pfN (ty0 := tyX11) (ty := tyX11 7) (v := .int 3) (C := RX11) (T := TX11) (N := 12) (k := 7) hx hb hts hown hG hS cl_X11 in_X11 tyX11_ok nmX11 (hM.wd (hcn.w g5)) (hFa _ (hM.wdF (hcn.w g5))) (hFa _ (hM.wdF (hcn.w g5))) (by decide) q1710 rfl (tyX11_ok 7 (by decide)) rfl rfl (Nat.le_of_ble_eq_true rfl) dX4_fix_134 (fun H1 locs1 he hz hq hS => ?_)
              have hT_it72 : va_at D vwCl (q72, .inr (15, [.int (nI (o_it720_77 + 1)), .int (nI o_it720_77), .int (nI (nW σ)), .ref (β 1 2)])) H1 := hT_it72.kept (hq _ (fun e9 => hd_it72 (by have e9 : q72 = _ := e9; rw [e9]; exact (hM.wdF (hcn.w g5)))))
              have hM := hM.Pwst (hcn.w g5) (v := 3) (by decide) he hq
              have hG := gE.ofS hG0 hS hFE
              obtain ⟨σ4, hσ4⟩ : ∃ x, x = sN σ3 5 o_it720_77 3 := ⟨_, rfl⟩
              rw [← hσ4] at hR hM
              have hcn : cnt σ4 σ := by rw [hσ4]; exact hcn.sN (by decide)
              try dsimp only at hR
              refine lv_goto (tgt := 77) hx hb dX4_fix_137 (by decide) ?_
              exact ih σ4 th3 ca3 sm3 (o_it720_77 + 1) (nI o_it720_77)  hR _ _ _ hcn hM hFa (fun q z => by have := hFb q z; omega) hd_it72 hT_it72 hS ls (lv_sub hl [1, 2] rfl)
  unfold fX4_fix at hR
  refine lv_aload_n hx hb dX4_fix_0 rfl (lv_at hl 0 rfl) ?_
  refine lv_iconst (v := 0) hx hb dX4_fix_1 (by decide) ?_
  refine pf (ty0 := tyX4) (ty := tyX4 0) (v := .int 0) (C := RX4) (T := TX4) (N := 13) (k := 0) hx hb hts hown hG hS cl_X4 in_X4 tyX4_ok nmX4 hM.ag (hFa _ hM.agF) (hFa _ hM.agF) (by decide) q1540 rfl (tyX4_ok 0 (by decide)) rfl rfl (Nat.le_of_ble_eq_true rfl) dX4_fix_2 (fun H1 locs1 he hz hq hS => ?_)
  have hM := hM.Pth  he hq
  have hG := gE.ofS hG0 hS hFE
  refine lv_aload_n hx hb dX4_fix_5 rfl (lv_at hl 0 rfl) ?_
  refine lv_iload_n hx hb dX4_fix_6 rfl (lv_at hl 1 rfl) ?_
  refine pcV (As := [.int (a)]) (rest := []) hS0 (met_X4_isWedding l D E a) q1745 q1747 qs62 q110 q1748 hd_X4_isWedding ⟨Nat.le_of_ble_eq_true rfl, Nat.le_of_ble_eq_true rfl⟩ hG (rcv hG cl_X4 hM.ag) hM rfl hl.1 rfl (Nat.le_of_ble_eq_true rfl) dX4_fix_7 ⟨Nat.le_of_ble_eq_true rfl, Nat.le_of_ble_eq_true rfl⟩ ?_
  refine W.eq (g2 := F0 m 10 ls [.int (bI ((fX4_isWedding σ a)))]) rfl ?_
  refine lb_if_ne (tgt := 19) hx hb dX4_fix_10 (by decide) (fun c1 => ?_) (fun c1 => ?_)
  · rw [if_pos c1] at hR
    have nc1 := isWedding_ix hM c1
    refine lv_aload_n hx hb dX4_fix_19 rfl (lv_at hl 0 rfl) ?_
    refine lv_iload_n hx hb dX4_fix_20 rfl (lv_at hl 1 rfl) ?_
    refine lv_eq nc1.1 ?_
    refine pcV (As := [.int (nI ((Int32.toNatClampNeg a)))]) (rest := []) hS0 (met_X4_place l D E ((Int32.toNatClampNeg a)) nc1.2) q1749 q1751 qs63 q110 q1752 hd_X4_place ⟨Nat.le_of_ble_eq_true rfl, Nat.le_of_ble_eq_true rfl⟩ hG (rcv hG cl_X4 hM.ag) hM rfl hl.1 rfl (Nat.le_of_ble_eq_true rfl) dX4_fix_21 ⟨Nat.le_of_ble_eq_true rfl, Nat.le_of_ble_eq_true rfl⟩ ?_
    refine W.eq (g2 := F0 m 24 ls [.int ((fX4_place σ ((Int32.toNatClampNeg a))))]) rfl ?_
    refine lv_if_ne (tgt := 37) hx hb dX4_fix_24 (by decide) (fun c2 => ?_) (fun c2 => ?_)
    · rw [if_neg c2] at hR
      refine lv_iconst (v := (-1)) hx hb dX4_fix_37 (by decide) ?_
      refine lv_istore_n (lv' := [(2, .int (-1)), (0, .ref (β 0 0)), (1, .int (a))]) hx hb dX4_fix_38 rfl hl (Nat.le_of_ble_eq_true rfl) rfl (fun ls hl => ?_)
      refine lv_iload_n hx hb dX4_fix_39 rfl (lv_at hl 0 rfl) ?_
      refine lv_iconst (v := (-1)) hx hb dX4_fix_40 (by decide) ?_
      refine lv_icmp_ne (tgt := 50) hx hb dX4_fix_41 (by decide) (fun c9 => absurd (by decide) c9) (fun _ => ?_)
      refine lv_aload_n hx hb dX4_fix_44 rfl (lv_at hl 1 rfl) ?_
      refine lv_iconst (v := 2) hx hb dX4_fix_45 (by decide) ?_
      have hB := hS.1
      refine gcV (As := [.int 2]) (rest := []) hS0 (met_X4_refuse l D E 2) q1591 q1593 qs55 q110 q1594 hd_X4_refuse ⟨Nat.le_of_ble_eq_true rfl, Nat.le_of_ble_eq_true rfl⟩ hG (rcv hG cl_X4 hM.ag) hM rfl hl.1 rfl (Nat.le_of_ble_eq_true rfl) dX4_fix_46 ⟨Nat.le_of_ble_eq_true rfl, Nat.le_of_ble_eq_true rfl⟩ hS (fun q h => hFa q h) (fun q h => hFa q h) (fun v H1 locs1 hP hz hk hS => ?_)
      obtain ⟨rfl, hZ, hc8⟩ := hP
      obtain ⟨Fd, hM, hFn⟩ := hZ.nar
      have hFa : ∀ q, Fd q → fN F s.heap.size q := fun q z => (hFn q z).1.elim (hFa q) (fun z9 => Or.inr (Nat.le_trans hB z9))
      have hFb : ∀ q, Fd q → q < H1.size := fun q z => (hFn q z).2
      clear hFn
      generalize Fd = Fc at hM hFa hFb
      have hG := gE.ofS hG0 hS hFE
      have hcn := hc8.tr hcn
      generalize hv_σ1 : (fX4_refuse σ 0 ca sm 2).2.1 = σ1 at hR hM hcn ⊢
      generalize hv_th1 : (fX4_refuse σ 0 ca sm 2).2.2.1 = th1 at hR hM hcn ⊢
      generalize hv_ca1 : (fX4_refuse σ 0 ca sm 2).2.2.2.1 = ca1 at hR hM hcn ⊢
      generalize hv_sm1 : (fX4_refuse σ 0 ca sm 2).2.2.2.2 = sm1 at hR hM hcn ⊢
      generalize hv_v1 : (fX4_refuse σ 0 ca sm 2).1 = v1 at hR hM hcn ⊢
      try dsimp only at hR
      refine W.eq (g2 := F0 m 49 ls [.int (v1)]) rfl ?_
      exact g_iret hx hb hr hlocks hS ⟨Nat.le_of_ble_eq_true rfl, Nat.le_of_ble_eq_true rfl⟩ dX4_fix_49 (by cases hR; exact ⟨rfl, (hM.mono (fun q _ z => hFa q z) (fN_E hFE hG0.2.2.1)), hcn⟩)
    · rw [if_pos c2] at hR
      refine lv_aload_n hx hb dX4_fix_27 rfl (lv_at hl 0 rfl) ?_
      refine lv_iload_n hx hb dX4_fix_28 rfl (lv_at hl 1 rfl) ?_
      refine lv_eq nc1.1 ?_
      refine lv_iconst (v := 0) hx hb dX4_fix_29 (by decide) ?_
      refine lv_iconst (v := 0) hx hb dX4_fix_30 (by decide) ?_
      refine pcV (As := [.int (nI ((Int32.toNatClampNeg a))), .int 0, .int 0]) (rest := []) hS0 (met_gX4_best l D E ((Int32.toNatClampNeg a)) 0 0 nc1.2) q1753 q1755 qs64 q110 q1756 hd_X4_best ⟨Nat.le_of_ble_eq_true rfl, Nat.le_of_ble_eq_true rfl⟩ hG (rcv hG cl_X4 hM.ag) hM rfl hl.1 rfl (Nat.le_of_ble_eq_true rfl) dX4_fix_31 ⟨Nat.le_of_ble_eq_true rfl, Nat.le_of_ble_eq_true rfl⟩ ?_
      refine W.eq (g2 := F0 m 34 ls [.int ((gX4_best σ ((Int32.toNatClampNeg a)) 0 0))]) rfl ?_
      refine lv_goto (tgt := 38) hx hb dX4_fix_34 (by decide) ?_
      refine lv_istore_n (lv' := [(2, .int ((gX4_best σ ((Int32.toNatClampNeg a)) 0 0))), (0, .ref (β 0 0)), (1, .int (a))]) hx hb dX4_fix_38 rfl hl (Nat.le_of_ble_eq_true rfl) rfl (fun ls hl => ?_)
      refine lv_iload_n hx hb dX4_fix_39 rfl (lv_at hl 0 rfl) ?_
      refine lv_iconst (v := (-1)) hx hb dX4_fix_40 (by decide) ?_
      refine lv_icmp_ne (tgt := 50) hx hb dX4_fix_41 (by decide) (fun c3 => ?_) (fun c3 => ?_)
      · rw [if_neg c3] at hR
        refine lv_aload_n hx hb dX4_fix_50 rfl (lv_at hl 1 rfl) ?_
        refine lv_iload_n hx hb dX4_fix_51 rfl (lv_at hl 2 rfl) ?_
        refine lv_eq nc1.1 ?_
        refine lv_iload_n hx hb dX4_fix_52 rfl (lv_at hl 0 rfl) ?_
        have hB := hS.1
        refine gcV (As := [.int (nI ((Int32.toNatClampNeg a))), .int ((gX4_best σ ((Int32.toNatClampNeg a)) 0 0))]) (rest := []) hS0 (met_X4_fixNow l D E ((Int32.toNatClampNeg a)) ((gX4_best σ ((Int32.toNatClampNeg a)) 0 0)) nc1.2) q1799 q1801 qs75 q110 q1802 hd_X4_fixNow ⟨Nat.le_of_ble_eq_true rfl, Nat.le_of_ble_eq_true rfl⟩ hG (rcv hG cl_X4 hM.ag) hM rfl hl.1 rfl (Nat.le_of_ble_eq_true rfl) dX4_fix_53 ⟨Nat.le_of_ble_eq_true rfl, Nat.le_of_ble_eq_true rfl⟩ hS (fun q h => hFa q h) (fun q h => hFa q h) (fun v H1 locs1 hP hz hk hS => ?_)
        obtain ⟨rfl, hZ, hc8⟩ := hP
        obtain ⟨Fd, hM, hFn⟩ := hZ.nar
        have hFa : ∀ q, Fd q → fN F s.heap.size q := fun q z => (hFn q z).1.elim (hFa q) (fun z9 => Or.inr (Nat.le_trans hB z9))
        have hFb : ∀ q, Fd q → q < H1.size := fun q z => (hFn q z).2
        clear hFn
        generalize Fd = Fc at hM hFa hFb
        have hG := gE.ofS hG0 hS hFE
        have hcn := hc8.tr hcn
        generalize hv_σ2 : (fX4_fixNow σ 0 ca sm ((Int32.toNatClampNeg a)) ((gX4_best σ ((Int32.toNatClampNeg a)) 0 0))).1 = σ2 at hR hM hcn ⊢
        generalize hv_th2 : (fX4_fixNow σ 0 ca sm ((Int32.toNatClampNeg a)) ((gX4_best σ ((Int32.toNatClampNeg a)) 0 0))).2.1 = th2 at hR hM hcn ⊢
        generalize hv_ca2 : (fX4_fixNow σ 0 ca sm ((Int32.toNatClampNeg a)) ((gX4_best σ ((Int32.toNatClampNeg a)) 0 0))).2.2.1 = ca2 at hR hM hcn ⊢
        generalize hv_sm2 : (fX4_fixNow σ 0 ca sm ((Int32.toNatClampNeg a)) ((gX4_best σ ((Int32.toNatClampNeg a)) 0 0))).2.2.2 = sm2 at hR hM hcn ⊢
        try dsimp only at hR
        refine W.eq (g2 := F0 m 56 ls []) rfl ?_
        refine lv_aload_n hx hb dX4_fix_56 rfl (lv_at hl 1 rfl) ?_
        refine gf (v := .ref (β 1 2)) (C := RX4) (T := TX4) (N := 13) (k := 5) hx hb hts hown hG cl_X4 in_X4 hM.ag (by decide) q1545 rfl dX4_fix_57 ?_
        refine lv_iload_n hx hb dX4_fix_60 rfl (lv_at hl 2 rfl) ?_
        refine lv_eq nc1.1 ?_
        refine pcV (As := [.int (nI ((Int32.toNatClampNeg a)))]) (rest := []) hS0 (met_ml_get l D E (j := 2) (by decide) ((Int32.toNatClampNeg a)) (hcn.w nc1.2)) q1639 q349 q2082 q103 q351 hd_J2_get ⟨Nat.le_of_ble_eq_true rfl, Nat.le_of_ble_eq_true rfl⟩ hG (hM.lsR hG (j := 2) (by decide)) hM rfl hl.1 rfl (Nat.le_of_ble_eq_true rfl) dX4_fix_61 ⟨Nat.le_of_ble_eq_true rfl, Nat.le_of_ble_eq_true rfl⟩ ?_
        refine W.eq (g2 := F0 m 64 ls [.ref (β 5 ((Int32.toNatClampNeg a)))]) rfl ?_
        refine gc (ci := 9) hx hb hown hG cl_X11 (rcv hG cl_X11 (hM.wd (hcn.w nc1.2))) (hts _ q1695) dX4_fix_64 ?_
        refine lv_astore_n (lv' := [(3, .ref (β 5 ((Int32.toNatClampNeg a)))), (2, .int ((gX4_best σ ((Int32.toNatClampNeg a)) 0 0))), (0, .ref (β 0 0)), (1, .int (a))]) hx hb dX4_fix_67 rfl hl (Nat.le_of_ble_eq_true rfl) rfl (fun ls hl => ?_)
        refine lv_aload_n hx hb dX4_fix_68 rfl (lv_at hl 2 rfl) ?_
        refine gf (v := .ref (β 1 2)) (C := RX4) (T := TX4) (N := 13) (k := 5) hx hb hts hown hG cl_X4 in_X4 hM.ag (by decide) q1545 rfl dX4_fix_69 ?_
        have hB := hS.1
        refine gcV (As := []) (rest := []) hS0 (met_J2_iterator l D E (β 1 2) (nW σ) (β 2 2)) q1806 q1807 q1808 q103 q1809 hd_J2_iterator ⟨Nat.le_of_ble_eq_true rfl, Nat.le_of_ble_eq_true rfl⟩ hG (hM.lsR hG (j := 2) (by decide)) (hM.lw hcn).1 rfl hl.1 rfl (Nat.le_of_ble_eq_true rfl) dX4_fix_72 ⟨Nat.le_of_ble_eq_true rfl, Nat.le_of_ble_eq_true rfl⟩ hS (fun q h => h.elim) (fun q h => h.elim) (fun v H1 locs1 hP hz hk hS => ?_)
        obtain ⟨q72, rfl, hq9, hT_it72⟩ := hP
        have hM := hM.kept (fun q h4 _ => hk q h4 id)
        have hG := gE.ofS hG0 hS hFE
        have hge_it72 : s.heap.size ≤ q72 := by have := hB; omega
        have hd_it72 : ¬ Fc q72 := fun z => by have := hFb _ z; omega
        refine W.eq (g2 := F0 m 75 ls [.ref (q72)]) rfl ?_
        refine lv_astore (lv' := [(4, .ref (q72)), (3, .ref (β 5 ((Int32.toNatClampNeg a)))), (2, .int ((gX4_best σ ((Int32.toNatClampNeg a)) 0 0))), (0, .ref (β 0 0)), (1, .int (a))]) hx hb dX4_fix_75 hl (Nat.le_of_ble_eq_true rfl) rfl (fun ls hl => ?_)
        refine hL77 q72 hge_it72 nc1.2 nc1.1 _ (fun σ5 th5 ca5 sm5 t_it72_9 t_it72_10 H1 locs1 Fc ls hR hcn hM hFa hFb hd_it72 hT_it72 hS hl => ?_) 15  σ2 th2 ca2 sm2 0 ((-1))  hR _ _ _ hcn hM hFa (fun q z => by have := hFb q z; omega) hd_it72 hT_it72 hS ls (lv_sub hl [1, 0] rfl)
        try dsimp only at hR
        have hG := gE.ofS hG0 hS hFE
        refine lv_aload_n hx hb dX4_fix_140 rfl (lv_at hl 0 rfl) ?_
        refine gfN (v := .int (wPrice σ5 ((Int32.toNatClampNeg a)))) (C := RX11) (T := TX11) (N := 12) (k := 9) hx hb hts hown hG cl_X11 in_X11 (hM.wd (hcn.w nc1.2)) (by decide) q1712 rfl dX4_fix_141 ?_
        exact g_iret hx hb hr hlocks hS ⟨Nat.le_of_ble_eq_true rfl, Nat.le_of_ble_eq_true rfl⟩ dX4_fix_144 (by cases hR; exact ⟨rfl, (hM.mono (fun q _ z => hFa q z) (fN_E hFE hG0.2.2.1)), hcn⟩)
      · rw [if_pos c3] at hR
        refine lv_aload_n hx hb dX4_fix_44 rfl (lv_at hl 1 rfl) ?_
        refine lv_iconst (v := 2) hx hb dX4_fix_45 (by decide) ?_
        have hB := hS.1
        refine gcV (As := [.int 2]) (rest := []) hS0 (met_X4_refuse l D E 2) q1591 q1593 qs55 q110 q1594 hd_X4_refuse ⟨Nat.le_of_ble_eq_true rfl, Nat.le_of_ble_eq_true rfl⟩ hG (rcv hG cl_X4 hM.ag) hM rfl hl.1 rfl (Nat.le_of_ble_eq_true rfl) dX4_fix_46 ⟨Nat.le_of_ble_eq_true rfl, Nat.le_of_ble_eq_true rfl⟩ hS (fun q h => hFa q h) (fun q h => hFa q h) (fun v H1 locs1 hP hz hk hS => ?_)
        obtain ⟨rfl, hZ, hc8⟩ := hP
        obtain ⟨Fd, hM, hFn⟩ := hZ.nar
        have hFa : ∀ q, Fd q → fN F s.heap.size q := fun q z => (hFn q z).1.elim (hFa q) (fun z9 => Or.inr (Nat.le_trans hB z9))
        have hFb : ∀ q, Fd q → q < H1.size := fun q z => (hFn q z).2
        clear hFn
        generalize Fd = Fc at hM hFa hFb
        have hG := gE.ofS hG0 hS hFE
        have hcn := hc8.tr hcn
        generalize hv_σ6 : (fX4_refuse σ 0 ca sm 2).2.1 = σ6 at hR hM hcn ⊢
        generalize hv_th6 : (fX4_refuse σ 0 ca sm 2).2.2.1 = th6 at hR hM hcn ⊢
        generalize hv_ca6 : (fX4_refuse σ 0 ca sm 2).2.2.2.1 = ca6 at hR hM hcn ⊢
        generalize hv_sm6 : (fX4_refuse σ 0 ca sm 2).2.2.2.2 = sm6 at hR hM hcn ⊢
        generalize hv_v6 : (fX4_refuse σ 0 ca sm 2).1 = v6 at hR hM hcn ⊢
        try dsimp only at hR
        refine W.eq (g2 := F0 m 49 ls [.int (v6)]) rfl ?_
        exact g_iret hx hb hr hlocks hS ⟨Nat.le_of_ble_eq_true rfl, Nat.le_of_ble_eq_true rfl⟩ dX4_fix_49 (by cases hR; exact ⟨rfl, (hM.mono (fun q _ z => hFa q z) (fN_E hFE hG0.2.2.1)), hcn⟩)
  · rw [if_neg c1] at hR
    refine lv_aload_n hx hb dX4_fix_13 rfl (lv_at hl 0 rfl) ?_
    refine lv_iconst (v := 1) hx hb dX4_fix_14 (by decide) ?_
    have hB := hS.1
    refine gcV (As := [.int 1]) (rest := []) hS0 (met_X4_refuse l D E 1) q1591 q1593 qs55 q110 q1594 hd_X4_refuse ⟨Nat.le_of_ble_eq_true rfl, Nat.le_of_ble_eq_true rfl⟩ hG (rcv hG cl_X4 hM.ag) hM rfl hl.1 rfl (Nat.le_of_ble_eq_true rfl) dX4_fix_15 ⟨Nat.le_of_ble_eq_true rfl, Nat.le_of_ble_eq_true rfl⟩ hS (fun q h => hFa q h) (fun q h => hFa q h) (fun v H1 locs1 hP hz hk hS => ?_)
    obtain ⟨rfl, hZ, hc8⟩ := hP
    obtain ⟨Fd, hM, hFn⟩ := hZ.nar
    have hFa : ∀ q, Fd q → fN F s.heap.size q := fun q z => (hFn q z).1.elim (hFa q) (fun z9 => Or.inr (Nat.le_trans hB z9))
    have hFb : ∀ q, Fd q → q < H1.size := fun q z => (hFn q z).2
    clear hFn
    generalize Fd = Fc at hM hFa hFb
    have hG := gE.ofS hG0 hS hFE
    have hcn := hc8.tr hcn
    generalize hv_σ7 : (fX4_refuse σ 0 ca sm 1).2.1 = σ7 at hR hM hcn ⊢
    generalize hv_th7 : (fX4_refuse σ 0 ca sm 1).2.2.1 = th7 at hR hM hcn ⊢
    generalize hv_ca7 : (fX4_refuse σ 0 ca sm 1).2.2.2.1 = ca7 at hR hM hcn ⊢
    generalize hv_sm7 : (fX4_refuse σ 0 ca sm 1).2.2.2.2 = sm7 at hR hM hcn ⊢
    generalize hv_v7 : (fX4_refuse σ 0 ca sm 1).1 = v7 at hR hM hcn ⊢
    try dsimp only at hR
    refine W.eq (g2 := F0 m 18 ls [.int (v7)]) rfl ?_
    exact g_iret hx hb hr hlocks hS ⟨Nat.le_of_ble_eq_true rfl, Nat.le_of_ble_eq_true rfl⟩ dX4_fix_18 (by cases hR; exact ⟨rfl, (hM.mono (fun q _ z => hFa q z) (fN_E hFE hG0.2.2.1)), hcn⟩)

def fX4_pass_L54 (σ : St) (th : Int32) (ca : Int32) (sm : Int64) (a : Int32) (i2 : Nat) (κ : St → Int32 → Int32 → Int64 → Nat → Int32 → Option (Int32 × MSt)) : Nat → St → Int32 → Int32 → Int64 → Nat → Int32 → Option (Int32 × MSt)
  | 0, σ2, th2, ca2, sm2, o_it500_54, o_it501_54 => none
  | n + 1, σ2, th2, ca2, sm2, o_it500_54, o_it501_54 => (if o_it500_54 ≤ 14 then (if ((fJ19_hasNext o_it500_54 (nW σ))) = true then (if o_it500_54 < nW σ then (if (nI (wState σ2 o_it500_54)) = 1 then (if (nI (wDay σ2 o_it500_54)) = (tod σ2) then (Option.bind (fX4_playNow σ2 th2 ca2 sm2 o_it500_54) (fun (r7 : MSt) => (fun (σ3 : St) => (fun (th3 : Int32) => (fun (ca3 : Int32) => (fun (sm3 : Int64) => fX4_pass_L54 σ th ca sm a i2 κ n σ3 th3 ca3 sm3 (o_it500_54 + 1) (nI o_it500_54)) (r7.2.2.2)) (r7.2.2.1)) (r7.2.1)) (r7.1))) else fX4_pass_L54 σ th ca sm a i2 κ n σ2 th2 ca2 sm2 (o_it500_54 + 1) (nI o_it500_54)) else fX4_pass_L54 σ th ca sm a i2 κ n σ2 th2 ca2 sm2 (o_it500_54 + 1) (nI o_it500_54)) else none) else κ σ2 th2 ca2 sm2 o_it500_54 o_it501_54) else none)
def fX4_pass_L112 (σ : St) (th : Int32) (ca : Int32) (sm : Int64) (a : Int32) (i2 : Nat) (κ : St → Int32 → Int32 → Int64 → Nat → Int32 → Option (Int32 × MSt)) : Nat → St → Int32 → Int32 → Int64 → Nat → Int32 → Option (Int32 × MSt)
  | 0, σ5, th5, ca5, sm5, o_it1080_112, o_it1081_112 => none
  | n + 1, σ5, th5, ca5, sm5, o_it1080_112, o_it1081_112 => (if ((fJ19_hasNext o_it1080_112 (nW σ))) = true then (if o_it1080_112 < nW σ then (if (nI (wState σ5 o_it1080_112)) = 0 then (if (nI (wDay σ5 o_it1080_112)) = (tod σ5) then (fun (σ6 : St) => fX4_pass_L112 σ th ca sm a i2 κ n σ6 th5 ca5 sm5 (o_it1080_112 + 1) (nI o_it1080_112)) (sN σ5 5 o_it1080_112 3) else fX4_pass_L112 σ th ca sm a i2 κ n σ5 th5 ca5 sm5 (o_it1080_112 + 1) (nI o_it1080_112)) else fX4_pass_L112 σ th ca sm a i2 κ n σ5 th5 ca5 sm5 (o_it1080_112 + 1) (nI o_it1080_112)) else none) else κ σ5 th5 ca5 sm5 o_it1080_112 o_it1081_112)
def fX4_pass_L179 (σ : St) (th : Int32) (ca : Int32) (sm : Int64) (a : Int32) (i2 : Nat) (κ : St → Int32 → Int32 → Int64 → Nat → Int32 → Option (Int32 × MSt)) : Nat → St → Int32 → Int32 → Int64 → Nat → Int32 → Option (Int32 × MSt)
  | 0, σ9, th9, ca9, sm9, o_it1750_179, o_it1751_179 => none
  | n + 1, σ9, th9, ca9, sm9, o_it1750_179, o_it1751_179 => (if ((fJ19_hasNext o_it1750_179 (nW σ))) = true then (if o_it1750_179 < nW σ then (if (nI (wState σ9 o_it1750_179)) = 0 then (if ((tod σ9) - (wTold σ9 o_it1750_179)) < 5 then fX4_pass_L179 σ th ca sm a i2 κ n σ9 th9 ca9 sm9 (o_it1750_179 + 1) (nI o_it1750_179) else (fun (σ10 : St) => fX4_pass_L179 σ th ca sm a i2 κ n σ10 th9 ca9 sm9 (o_it1750_179 + 1) (nI o_it1750_179)) (sN σ9 5 o_it1750_179 3)) else fX4_pass_L179 σ th ca sm a i2 κ n σ9 th9 ca9 sm9 (o_it1750_179 + 1) (nI o_it1750_179)) else none) else κ σ9 th9 ca9 sm9 o_it1750_179 o_it1751_179)
def fX4_pass_L41 (σ : St) (th : Int32) (ca : Int32) (sm : Int64) (a : Int32)  (κ : St → Int32 → Int32 → Int64 → Option (Int32 × MSt)) : Nat → Nat → St → Int32 → Int32 → Int64 → Option (Int32 × MSt)
  | 0, i2, σ1, th1, ca1, sm1 => κ σ1 th1 ca1 sm1
  | n + 1, i2, σ1, th1, ca1, sm1 => fX4_pass_L54 σ th ca sm a i2 (fun (σ4 : St) (th4 : Int32) (ca4 : Int32) (sm4 : Int64) (t_it50_8 : Nat) (t_it50_9 : Int32) => fX4_pass_L112 σ th ca sm a i2 (fun (σ7 : St) (th7 : Int32) (ca7 : Int32) (sm7 : Int64) (t_it108_14 : Nat) (t_it108_15 : Int32) => (fun (σ8 : St) => fX4_pass_L179 σ th ca sm a i2 (fun (σ11 : St) (th11 : Int32) (ca11 : Int32) (sm11 : Int64) (t_it175_20 : Nat) (t_it175_21 : Int32) => fX4_pass_L41 σ th ca sm a κ n (i2 + 1) σ11 th11 ca11 sm11) 15 σ8 th7 ca7 sm7 0 ((-1))) (sW σ7 0 0 ((tod σ7) + 1))) 15 σ4 th4 ca4 sm4 0 ((-1))) 15 σ1 th1 ca1 sm1 0 ((-1))
def fX4_pass (σ : St) (th : Int32) (ca : Int32) (sm : Int64) (a : Int32) : Option (Int32 × MSt) :=
  (if ((fX4_is a 1 60)) = true then (if ((tod σ) + (nI ((Int32.toNatClampNeg a)))) ≤ 365 then fX4_pass_L41 σ th ca sm a (fun (σ12 : St) (th12 : Int32) (ca12 : Int32) (sm12 : Int64) => (some (tod σ12, ((σ12, th12, ca12, sm12) : MSt)))) ((Int32.toNatClampNeg a)) 0 σ 0 ca sm else (fun (σ13 : St) => (fun (th13 : Int32) => (fun (ca13 : Int32) => (fun (sm13 : Int64) => (fun (v13 : Int32) => (some (v13, ((σ13, th13, ca13, sm13) : MSt)))) ((fX4_refuse σ 0 ca sm 2).1)) ((fX4_refuse σ 0 ca sm 2).2.2.2.2)) ((fX4_refuse σ 0 ca sm 2).2.2.2.1)) ((fX4_refuse σ 0 ca sm 2).2.2.1)) ((fX4_refuse σ 0 ca sm 2).2.1)) else (fun (σ14 : St) => (fun (th14 : Int32) => (fun (ca14 : Int32) => (fun (sm14 : Int64) => (fun (v14 : Int32) => (some (v14, ((σ14, th14, ca14, sm14) : MSt)))) ((fX4_refuse σ 0 ca sm 1).1)) ((fX4_refuse σ 0 ca sm 1).2.2.2.2)) ((fX4_refuse σ 0 ca sm 1).2.2.2.1)) ((fX4_refuse σ 0 ca sm 1).2.2.1)) ((fX4_refuse σ 0 ca sm 1).2.1))
set_option maxHeartbeats 4000000 in
set_option maxRecDepth 100000 in
theorem met_X4_pass (l : Launch) (D : va_G) (E : Nat → Nat) {β : Nat → Nat → Nat} {F : Nat → Prop} {σ : St} {th ca : Int32} {sm : Int64} (a : Int32)  {r : Int32 × MSt} (hR : fX4_pass σ th ca sm a = some r) : GM l D E yX4_pass cX4_pass 5 (Option.some Jvm.ClassFile.FieldType.int) 7 158 3601 55444 [.ref (β 0 0), .int (a)] (RM D E β F σ th ca sm) F F (fun sz v h => v = some (.int r.1) ∧ RM D E β (fN F sz) r.2.1 r.2.2.1 r.2.2.2.1 r.2.2.2.2 h ∧ cnt r.2.1 σ)  := by
  refine GM.start (by decide) (Nat.le_of_ble_eq_true rfl) ?_
  intro p e s m below meth c ls hx hb hr hml hown hlocks hnm hts hG hM hS hl
  have hown : s.vm.findClass RX4 = some m.cls := hown
  have hS0 : xS p m c cX4_pass 5 s _ RX4 := ⟨hx, hb, hml, hown, hts⟩
  have hl : lv_has ls 5 [(0, .ref (β 0 0)), (1, .int (a))] := hl
  have hG0 := hG
  have hM0 := hM
  have hb0P := hM0.nP10
  have hb0B := hM0.nB6
  have hb0W := hM0.nW14
  have hFE := hM.fE
  obtain ⟨Fc, hM, hFn⟩ := hM.nar
  have hFa : ∀ q, Fc q → fN F s.heap.size q := fun q z => Or.inl (hFn q z).1
  have hFb : ∀ q, Fc q → q < s.heap.size := fun q z => (hFn q z).2
  have hcn : cnt σ σ := cnt.rf
  have hL54 : ∀ (i2 : Nat) (q50 : Nat) (hge_it50 : s.heap.size ≤ q50) (hf54_0 : (Int32.toNatClampNeg a) < 61) (hf54_1 : i2 < (Int32.toNatClampNeg a)) (hg54_0 : a = nI ((Int32.toNatClampNeg a))) (hb_i2 : i2 ≤ 60) (κ : St → Int32 → Int32 → Int64 → Nat → Int32 → Option (Int32 × MSt)) (hκ : ∀ (σ2 : St) (th2 : Int32) (ca2 : Int32) (sm2 : Int64) (o_it500_54 : Nat) (o_it501_54 : Int32) (H : Heap) (locs : List Loc) (Fc : Nat → Prop) (ls : Array Slot), κ σ2 th2 ca2 sm2 o_it500_54 o_it501_54 = some r → cnt σ2 σ → RM D E β Fc σ2 th2 ca2 sm2 H → (∀ q, Fc q → fN F s.heap.size q) → (∀ q, Fc q → q < H.size) → ¬ Fc q50 → va_at D vwCl (q50, .inr (15, [.int (nI o_it500_54), .int (o_it501_54), .int (nI (nW σ)), .ref (β 1 2)])) H → xK F F s.heap H locs → lv_has ls 5 [(0, .ref (β 0 0)), (1, .int (a)), (2, .int (nI i2))] → W p l e { frames := 7, cells := 3601, slots := 55444, locals := 158 } s m [(.ref (β 0 0) : Value), .int (a)].toArray below meth c H locs ((0 + i2 * 59 + 1) + 56) ((0 + i2 * 908 + 4) + 896) (MQ below (qG F ((fun sz v h => v = some (.int r.1) ∧ RM D E β (fN F sz) r.2.1 r.2.2.1 r.2.2.2.1 r.2.2.2.2 h ∧ cnt r.2.1 σ) s.heap.size)) [(.ref (β 0 0) : Value), .int (a)].toArray s 3601 55444 (fN F s.heap.size)) (F0 m 104 ls [])) (n : Nat)  (σ2 : St) (th2 : Int32) (ca2 : Int32) (sm2 : Int64) (o_it500_54 : Nat) (o_it501_54 : Int32), fX4_pass_L54 σ th ca sm a i2 κ n σ2 th2 ca2 sm2 o_it500_54 o_it501_54 = some r → ∀ (H : Heap) (locs : List Loc) (Fc : Nat → Prop), cnt σ2 σ → RM D E β Fc σ2 th2 ca2 sm2 H → (∀ q, Fc q → fN F s.heap.size q) → (∀ q, Fc q → q < H.size) → ¬ Fc q50 → va_at D vwCl (q50, .inr (15, [.int (nI o_it500_54), .int (o_it501_54), .int (nI (nW σ)), .ref (β 1 2)])) H → xK F F s.heap H locs → ∀ (ls : Array Slot), lv_has ls 5 [(0, .ref (β 0 0)), (1, .int (a)), (2, .int (nI i2)), (3, .ref (q50))] → W p l e { frames := 7, cells := 3601, slots := 55444, locals := 158 } s m [(.ref (β 0 0) : Value), .int (a)].toArray below meth c H locs ((0 + i2 * 59 + 1) + o_it500_54 * 4) ((0 + i2 * 908 + 4) + o_it500_54 * 64) (MQ below (qG F ((fun sz v h => v = some (.int r.1) ∧ RM D E β (fN F sz) r.2.1 r.2.2.1 r.2.2.2.1 r.2.2.2.2 h ∧ cnt r.2.1 σ) s.heap.size)) [(.ref (β 0 0) : Value), .int (a)].toArray s 3601 55444 (fN F s.heap.size)) (F0 m 54 ls []) := by
    intro i2 q50 hge_it50 hf54_0 hf54_1 hg54_0 hb_i2 κ hκ n
    induction n with
    | zero =>
      intro σ2 th2 ca2 sm2 o_it500_54 o_it501_54 hR H locs Fc hcn hM hFa hFb hd_it50 hT_it50 hS ls hl
      rw [fX4_pass_L54] at hR
      have hG := gE.ofS hG0 hS hFE
      cases hR
    | succ n ih =>
      intro σ2 th2 ca2 sm2 o_it500_54 o_it501_54 hR H locs Fc hcn hM hFa hFb hd_it50 hT_it50 hS ls hl
      rw [fX4_pass_L54] at hR
      have hG := gE.ofS hG0 hS hFE
      refine lv_aload_n hx hb dX4_pass_54 rfl (lv_at hl 3 rfl) ?_
      rcases (Decidable.em (o_it500_54 ≤ 14)).symm with hb_o_it500_54 | hb_o_it500_54
      · rw [if_neg hb_o_it500_54] at hR
        cases hR
      rw [if_pos hb_o_it500_54] at hR
      have hB := hS.1
      have hL_it50 : q50 < _ := hT_it50.lt
      refine gcF (x := xI_hasNext) (ci := 15) (As := []) (rest := []) hG.fw_hasNext hS0 (met_J19_hasNext l D E q50 o_it500_54 o_it501_54 (nW σ) (β 1 2) (β 2 2) (fun e9 => hd_it50 (by rw [e9]; exact hM.lsF (k := 2) (by decide)))) q1830 q1834 q1836 q133 q1838 hd_xI_hasNext ⟨Nat.le_of_ble_eq_true rfl, Nat.le_of_ble_eq_true rfl⟩ hG cl_J19 (rcv hG cl_J19 hT_it50) ⟨hT_it50, (hM.lw hcn).1⟩ rfl hl.1 rfl (Nat.le_of_ble_eq_true rfl) dX4_pass_55 ⟨by show _ ≤ 3601; omega, by show _ ≤ 55444; omega⟩ hS (fun q h => h.elim) (fun q h => h.elim) (fun v H1 locs1 hP hz hk hS => ?_)
      obtain rfl := hP
      have hT_it50 : va_at D vwCl (q50, .inr (15, [.int (nI o_it500_54), .int (o_it501_54), .int (nI (nW σ)), .ref (β 1 2)])) H1 := hT_it50.kept (hk _ hT_it50.lt id)
      have hM := hM.kept (fun q h4 _ => hk q h4 id)
      have hG := gE.ofS hG0 hS hFE
      refine W.eq (g2 := F0 m 60 ls [.int (bI ((fJ19_hasNext o_it500_54 (nW σ))))]) rfl ?_
      refine lb_if_eq (tgt := 104) hx hb dX4_pass_60 (by decide) (fun c3 => ?_) (fun c3 => ?_)
      · rw [if_neg c3] at hR
        exact W.widen (by show _ ≤ _; omega) (by show _ ≤ _; omega) (hκ σ2 th2 ca2 sm2 o_it500_54 o_it501_54 _ _ _ ls hR hcn hM hFa (fun q z => by have := hFb q z; omega) hd_it50 hT_it50 hS (lv_sub hl [0, 1, 2] rfl))
      · rw [if_pos c3] at hR
        refine lv_aload_n hx hb dX4_pass_63 rfl (lv_at hl 3 rfl) ?_
        rcases (Decidable.em (o_it500_54 < nW σ)).symm with g4 | g4
        · rw [if_neg g4] at hR
          cases hR
        rw [if_pos g4] at hR
        obtain ⟨cap9, g9, hA9, hnc9, hcap9, hg9, hF9, hne9⟩ := (hM.lw hcn).2 (Nat.lt_of_le_of_lt (Nat.zero_le _) g4)
        have hB := hS.1
        have hL_it50 : q50 < _ := hT_it50.lt
        refine gcF (x := xI_next) (ci := 15) (As := []) (rest := []) hG.fw_next hS0 (met_J19_next l D E q50 o_it500_54 o_it501_54 (nW σ) (β 1 2) (β 2 2) cap9 g9 (β 5 o_it500_54) (fun e9 => hd_it50 (by rw [e9]; exact hM.lsF (k := 2) (by decide))) (fun e9 => hd_it50 (by rw [e9]; exact hF9)) hne9 (by omega) hnc9 g4 (hg9 _ g4)) q1840 q1843 q1845 q133 q1847 hd_xI_next ⟨Nat.le_of_ble_eq_true rfl, Nat.le_of_ble_eq_true rfl⟩ hG cl_J19 (rcv hG cl_J19 hT_it50) ⟨hT_it50, (hM.lw hcn).1, hA9, (Nat.le_trans hG0.2.2.1 hge_it50)⟩ rfl hl.1 rfl (Nat.le_of_ble_eq_true rfl) dX4_pass_64 ⟨by show _ ≤ 3601; omega, by show _ ≤ 55444; omega⟩ hS (fun q h => by have h : q = q50 := h; rw [h]; exact (Or.inr hge_it50)) (fun q h => by have h : q = q50 := h; rw [h]; exact (Or.inr hge_it50)) (fun v H1 locs1 hP hz hk hS => ?_)
        obtain ⟨rfl, hT9⟩ := hP
        have hM := hM.kept (fun q h4 h5 => hk q h4 (fun e9 => hd_it50 (e9 ▸ h5)))
        have hT_it50 : va_at D vwCl (q50, .inr (15, [.int (nI (o_it500_54 + 1)), .int (nI o_it500_54), .int (nI (nW σ)), .ref (β 1 2)])) H1 := hT9
        have hG := gE.ofS hG0 hS hFE
        refine W.eq (g2 := F0 m 69 ls [.ref (β 5 o_it500_54)]) rfl ?_
        refine gc (ci := 9) hx hb hown hG cl_X11 (rcv hG cl_X11 (hM.wd (hcn.w g4))) (hts _ q1695) dX4_pass_69 ?_
        refine lv_astore (lv' := [(4, .ref (β 5 o_it500_54)), (0, .ref (β 0 0)), (1, .int (a)), (2, .int (nI i2)), (3, .ref (q50))]) hx hb dX4_pass_72 hl (Nat.le_of_ble_eq_true rfl) rfl (fun ls hl => ?_)
        refine lv_aload hx hb dX4_pass_74 (lv_at hl 0 rfl) ?_
        refine gfN (v := .int (nI (wState σ2 o_it500_54))) (C := RX11) (T := TX11) (N := 12) (k := 7) hx hb hts hown hG cl_X11 in_X11 (hM.wd (hcn.w g4)) (by decide) q1710 rfl dX4_pass_76 ?_
        refine lv_iconst (v := 1) hx hb dX4_pass_79 (by decide) ?_
        refine lv_icmp_ne (tgt := 101) hx hb dX4_pass_80 (by decide) (fun c5 => ?_) (fun c5 => ?_)
        · rw [if_neg c5] at hR
          refine lv_goto (tgt := 54) hx hb dX4_pass_101 (by decide) ?_
          exact W.widen (by show _ ≤ _; omega) (by show _ ≤ _; omega) (ih σ2 th2 ca2 sm2 (o_it500_54 + 1) (nI o_it500_54)  hR _ _ _ hcn hM hFa (fun q z => by have := hFb q z; omega) hd_it50 hT_it50 hS ls (lv_sub hl [1, 2, 3, 4] rfl))
        · rw [if_pos c5] at hR
          refine lv_aload hx hb dX4_pass_83 (lv_at hl 0 rfl) ?_
          refine gfN (v := .int (nI (wDay σ2 o_it500_54))) (C := RX11) (T := TX11) (N := 12) (k := 1) hx hb hts hown hG cl_X11 in_X11 (hM.wd (hcn.w g4)) (by decide) q1702 rfl dX4_pass_85 ?_
          refine lv_aload_n hx hb dX4_pass_88 rfl (lv_at hl 1 rfl) ?_
          refine gf (v := .int (tod σ2)) (C := RX4) (T := TX4) (N := 13) (k := 1) hx hb hts hown hG cl_X4 in_X4 hM.ag (by decide) q1541 rfl dX4_pass_89 ?_
          refine lv_icmp_ne (tgt := 101) hx hb dX4_pass_92 (by decide) (fun c6 => ?_) (fun c6 => ?_)
          · rw [if_neg c6] at hR
            refine lv_goto (tgt := 54) hx hb dX4_pass_101 (by decide) ?_
            exact W.widen (by show _ ≤ _; omega) (by show _ ≤ _; omega) (ih σ2 th2 ca2 sm2 (o_it500_54 + 1) (nI o_it500_54)  hR _ _ _ hcn hM hFa (fun q z => by have := hFb q z; omega) hd_it50 hT_it50 hS ls (lv_sub hl [1, 2, 3, 4] rfl))
          · rw [if_pos c6] at hR
            refine lv_aload_n hx hb dX4_pass_95 rfl (lv_at hl 1 rfl) ?_
            refine lv_aload hx hb dX4_pass_96 (lv_at hl 0 rfl) ?_
            rcases hc_r7 : (fX4_playNow σ2 th2 ca2 sm2 o_it500_54) with _ | r7
            · rw [hc_r7] at hR
              cases hR
            rw [hc_r7] at hR
            try dsimp only [Option.bind] at hR
            have hB := hS.1
            have hL_it50 : q50 < _ := hT_it50.lt
            refine gcV (As := [.ref (β 5 o_it500_54)]) (rest := []) hS0 (met_X4_playNow l D E o_it500_54 (hcn.w g4) hc_r7) q1882 q1884 qs78 q110 q1885 hd_X4_playNow ⟨Nat.le_of_ble_eq_true rfl, Nat.le_of_ble_eq_true rfl⟩ hG (rcv hG cl_X4 hM.ag) hM rfl hl.1 rfl (Nat.le_of_ble_eq_true rfl) dX4_pass_98 ⟨by show _ ≤ 3601; omega, by show _ ≤ 55444; omega⟩ hS (fun q h => hFa q h) (fun q h => hFa q h) (fun v H1 locs1 hP hz hk hS => ?_)
            obtain ⟨rfl, hZ, hc8⟩ := hP
            have hT_it50 : va_at D vwCl (q50, .inr (15, [.int (nI (o_it500_54 + 1)), .int (nI o_it500_54), .int (nI (nW σ)), .ref (β 1 2)])) H1 := hT_it50.kept (hk _ hT_it50.lt hd_it50)
            obtain ⟨Fd, hM, hFn⟩ := hZ.nar
            have hd_it50 : ¬ Fd q50 := fun z => (hFn _ z).1.elim hd_it50 (fun z9 => absurd z9 (Nat.not_le.mpr hL_it50))
            have hFa : ∀ q, Fd q → fN F s.heap.size q := fun q z => (hFn q z).1.elim (hFa q) (fun z9 => Or.inr (Nat.le_trans hB z9))
            have hFb : ∀ q, Fd q → q < H1.size := fun q z => (hFn q z).2
            clear hFn
            generalize Fd = Fc at hM hFa hFb hd_it50
            have hG := gE.ofS hG0 hS hFE
            have hcn := hc8.tr hcn
            generalize hv_σ3 : r7.1 = σ3 at hR hM hcn ⊢
            generalize hv_th3 : r7.2.1 = th3 at hR hM hcn ⊢
            generalize hv_ca3 : r7.2.2.1 = ca3 at hR hM hcn ⊢
            generalize hv_sm3 : r7.2.2.2 = sm3 at hR hM hcn ⊢
            try dsimp only at hR
            refine W.eq (g2 := F0 m 101 ls []) rfl ?_
            refine lv_goto (tgt := 54) hx hb dX4_pass_101 (by decide) ?_
            exact W.widen (by show _ ≤ _; omega) (by show _ ≤ _; omega) (ih σ3 th3 ca3 sm3 (o_it500_54 + 1) (nI o_it500_54)  hR _ _ _ hcn hM hFa (fun q z => by have := hFb q z; omega) hd_it50 hT_it50 hS ls (lv_sub hl [1, 2, 3, 4] rfl))
  have hL112 : ∀ (i2 : Nat) (q108 : Nat) (hge_it108 : s.heap.size ≤ q108) (hf112_0 : (Int32.toNatClampNeg a) < 61) (hf112_1 : i2 < (Int32.toNatClampNeg a)) (hg112_0 : a = nI ((Int32.toNatClampNeg a))) (hb_i2 : i2 ≤ 60) (κ : St → Int32 → Int32 → Int64 → Nat → Int32 → Option (Int32 × MSt)) (hκ : ∀ (σ5 : St) (th5 : Int32) (ca5 : Int32) (sm5 : Int64) (o_it1080_112 : Nat) (o_it1081_112 : Int32) (H : Heap) (locs : List Loc) (Fc : Nat → Prop) (ls : Array Slot), κ σ5 th5 ca5 sm5 o_it1080_112 o_it1081_112 = some r → cnt σ5 σ → RM D E β Fc σ5 th5 ca5 sm5 H → (∀ q, Fc q → fN F s.heap.size q) → (∀ q, Fc q → q < H.size) → ¬ Fc q108 → va_at D vwCl (q108, .inr (15, [.int (nI o_it1080_112), .int (o_it1081_112), .int (nI (nW σ)), .ref (β 1 2)])) H → xK F F s.heap H locs → lv_has ls 5 [(0, .ref (β 0 0)), (1, .int (a)), (2, .int (nI i2))] → W p l e { frames := 7, cells := 3601, slots := 55444, locals := 158 } s m [(.ref (β 0 0) : Value), .int (a)].toArray below meth c H locs ((0 + i2 * 59 + 1) + 56 + 1) ((0 + i2 * 908 + 4) + 896 + 4) (MQ below (qG F ((fun sz v h => v = some (.int r.1) ∧ RM D E β (fN F sz) r.2.1 r.2.2.1 r.2.2.2.1 r.2.2.2.2 h ∧ cnt r.2.1 σ) s.heap.size)) [(.ref (β 0 0) : Value), .int (a)].toArray s 3601 55444 (fN F s.heap.size)) (F0 m 161 ls [])) (n : Nat)  (σ5 : St) (th5 : Int32) (ca5 : Int32) (sm5 : Int64) (o_it1080_112 : Nat) (o_it1081_112 : Int32), fX4_pass_L112 σ th ca sm a i2 κ n σ5 th5 ca5 sm5 o_it1080_112 o_it1081_112 = some r → ∀ (H : Heap) (locs : List Loc) (Fc : Nat → Prop), cnt σ5 σ → RM D E β Fc σ5 th5 ca5 sm5 H → (∀ q, Fc q → fN F s.heap.size q) → (∀ q, Fc q → q < H.size) → ¬ Fc q108 → va_at D vwCl (q108, .inr (15, [.int (nI o_it1080_112), .int (o_it1081_112), .int (nI (nW σ)), .ref (β 1 2)])) H → xK F F s.heap H locs → ∀ (ls : Array Slot), lv_has ls 5 [(0, .ref (β 0 0)), (1, .int (a)), (2, .int (nI i2)), (3, .ref (q108))] → W p l e { frames := 7, cells := 3601, slots := 55444, locals := 158 } s m [(.ref (β 0 0) : Value), .int (a)].toArray below meth c H locs ((0 + i2 * 59 + 1) + 56 + 1) ((0 + i2 * 908 + 4) + 896 + 4) (MQ below (qG F ((fun sz v h => v = some (.int r.1) ∧ RM D E β (fN F sz) r.2.1 r.2.2.1 r.2.2.2.1 r.2.2.2.2 h ∧ cnt r.2.1 σ) s.heap.size)) [(.ref (β 0 0) : Value), .int (a)].toArray s 3601 55444 (fN F s.heap.size)) (F0 m 112 ls []) := by
    intro i2 q108 hge_it108 hf112_0 hf112_1 hg112_0 hb_i2 κ hκ n
    induction n with
    | zero =>
      intro σ5 th5 ca5 sm5 o_it1080_112 o_it1081_112 hR H locs Fc hcn hM hFa hFb hd_it108 hT_it108 hS ls hl
      rw [fX4_pass_L112] at hR
      have hG := gE.ofS hG0 hS hFE
      cases hR
    | succ n ih =>
      intro σ5 th5 ca5 sm5 o_it1080_112 o_it1081_112 hR H locs Fc hcn hM hFa hFb hd_it108 hT_it108 hS ls hl
      rw [fX4_pass_L112] at hR
      have hG := gE.ofS hG0 hS hFE
      refine lv_aload_n hx hb dX4_pass_112 rfl (lv_at hl 3 rfl) ?_
      have hB := hS.1
      have hL_it108 : q108 < _ := hT_it108.lt
      refine gcF (x := xI_hasNext) (ci := 15) (As := []) (rest := []) hG.fw_hasNext hS0 (met_J19_hasNext l D E q108 o_it1080_112 o_it1081_112 (nW σ) (β 1 2) (β 2 2) (fun e9 => hd_it108 (by rw [e9]; exact hM.lsF (k := 2) (by decide)))) q1830 q1834 q1836 q133 q1838 hd_xI_hasNext ⟨Nat.le_of_ble_eq_true rfl, Nat.le_of_ble_eq_true rfl⟩ hG cl_J19 (rcv hG cl_J19 hT_it108) ⟨hT_it108, (hM.lw hcn).1⟩ rfl hl.1 rfl (Nat.le_of_ble_eq_true rfl) dX4_pass_113 ⟨by show _ ≤ 3601; omega, by show _ ≤ 55444; omega⟩ hS (fun q h => h.elim) (fun q h => h.elim) (fun v H1 locs1 hP hz hk hS => ?_)
      obtain rfl := hP
      have hT_it108 : va_at D vwCl (q108, .inr (15, [.int (nI o_it1080_112), .int (o_it1081_112), .int (nI (nW σ)), .ref (β 1 2)])) H1 := hT_it108.kept (hk _ hT_it108.lt id)
      have hM := hM.kept (fun q h4 _ => hk q h4 id)
      have hG := gE.ofS hG0 hS hFE
      refine W.eq (g2 := F0 m 118 ls [.int (bI ((fJ19_hasNext o_it1080_112 (nW σ))))]) rfl ?_
      refine lb_if_eq (tgt := 161) hx hb dX4_pass_118 (by decide) (fun c10 => ?_) (fun c10 => ?_)
      · rw [if_neg c10] at hR
        exact hκ σ5 th5 ca5 sm5 o_it1080_112 o_it1081_112 _ _ _ ls hR hcn hM hFa (fun q z => by have := hFb q z; omega) hd_it108 hT_it108 hS (lv_sub hl [0, 1, 2] rfl)
      · rw [if_pos c10] at hR
        refine lv_aload_n hx hb dX4_pass_121 rfl (lv_at hl 3 rfl) ?_
        rcases (Decidable.em (o_it1080_112 < nW σ)).symm with g11 | g11
        · rw [if_neg g11] at hR
          cases hR
        rw [if_pos g11] at hR
        obtain ⟨cap9, g9, hA9, hnc9, hcap9, hg9, hF9, hne9⟩ := (hM.lw hcn).2 (Nat.lt_of_le_of_lt (Nat.zero_le _) g11)
        have hB := hS.1
        have hL_it108 : q108 < _ := hT_it108.lt
        refine gcF (x := xI_next) (ci := 15) (As := []) (rest := []) hG.fw_next hS0 (met_J19_next l D E q108 o_it1080_112 o_it1081_112 (nW σ) (β 1 2) (β 2 2) cap9 g9 (β 5 o_it1080_112) (fun e9 => hd_it108 (by rw [e9]; exact hM.lsF (k := 2) (by decide))) (fun e9 => hd_it108 (by rw [e9]; exact hF9)) hne9 (by omega) hnc9 g11 (hg9 _ g11)) q1840 q1843 q1845 q133 q1847 hd_xI_next ⟨Nat.le_of_ble_eq_true rfl, Nat.le_of_ble_eq_true rfl⟩ hG cl_J19 (rcv hG cl_J19 hT_it108) ⟨hT_it108, (hM.lw hcn).1, hA9, (Nat.le_trans hG0.2.2.1 hge_it108)⟩ rfl hl.1 rfl (Nat.le_of_ble_eq_true rfl) dX4_pass_122 ⟨by show _ ≤ 3601; omega, by show _ ≤ 55444; omega⟩ hS (fun q h => by have h : q = q108 := h; rw [h]; exact (Or.inr hge_it108)) (fun q h => by have h : q = q108 := h; rw [h]; exact (Or.inr hge_it108)) (fun v H1 locs1 hP hz hk hS => ?_)
        obtain ⟨rfl, hT9⟩ := hP
        have hM := hM.kept (fun q h4 h5 => hk q h4 (fun e9 => hd_it108 (e9 ▸ h5)))
        have hT_it108 : va_at D vwCl (q108, .inr (15, [.int (nI (o_it1080_112 + 1)), .int (nI o_it1080_112), .int (nI (nW σ)), .ref (β 1 2)])) H1 := hT9
        have hG := gE.ofS hG0 hS hFE
        refine W.eq (g2 := F0 m 127 ls [.ref (β 5 o_it1080_112)]) rfl ?_
        refine gc (ci := 9) hx hb hown hG cl_X11 (rcv hG cl_X11 (hM.wd (hcn.w g11))) (hts _ q1695) dX4_pass_127 ?_
        refine lv_astore (lv' := [(4, .ref (β 5 o_it1080_112)), (0, .ref (β 0 0)), (1, .int (a)), (2, .int (nI i2)), (3, .ref (q108))]) hx hb dX4_pass_130 hl (Nat.le_of_ble_eq_true rfl) rfl (fun ls hl => ?_)
        refine lv_aload hx hb dX4_pass_132 (lv_at hl 0 rfl) ?_
        refine gfN (v := .int (nI (wState σ5 o_it1080_112))) (C := RX11) (T := TX11) (N := 12) (k := 7) hx hb hts hown hG cl_X11 in_X11 (hM.wd (hcn.w g11)) (by decide) q1710 rfl dX4_pass_134 ?_
        refine lv_if_ne (tgt := 158) hx hb dX4_pass_137 (by decide) (fun c12 => ?_) (fun c12 => ?_)
        · rw [if_neg c12] at hR
          refine lv_goto (tgt := 112) hx hb dX4_pass_158 (by decide) ?_
          exact ih σ5 th5 ca5 sm5 (o_it1080_112 + 1) (nI o_it1080_112)  hR _ _ _ hcn hM hFa (fun q z => by have := hFb q z; omega) hd_it108 hT_it108 hS ls (lv_sub hl [1, 2, 3, 4] rfl)
        · rw [if_pos c12] at hR
          refine lv_aload hx hb dX4_pass_140 (lv_at hl 0 rfl) ?_
          refine gfN (v := .int (nI (wDay σ5 o_it1080_112))) (C := RX11) (T := TX11) (N := 12) (k := 1) hx hb hts hown hG cl_X11 in_X11 (hM.wd (hcn.w g11)) (by decide) q1702 rfl dX4_pass_142 ?_
          refine lv_aload_n hx hb dX4_pass_145 rfl (lv_at hl 1 rfl) ?_
          refine gf (v := .int (tod σ5)) (C := RX4) (T := TX4) (N := 13) (k := 1) hx hb hts hown hG cl_X4 in_X4 hM.ag (by decide) q1541 rfl dX4_pass_146 ?_
          refine lv_icmp_ne (tgt := 158) hx hb dX4_pass_149 (by decide) (fun c13 => ?_) (fun c13 => ?_)
          · rw [if_neg c13] at hR
            refine lv_goto (tgt := 112) hx hb dX4_pass_158 (by decide) ?_
            exact ih σ5 th5 ca5 sm5 (o_it1080_112 + 1) (nI o_it1080_112)  hR _ _ _ hcn hM hFa (fun q z => by have := hFb q z; omega) hd_it108 hT_it108 hS ls (lv_sub hl [1, 2, 3, 4] rfl)
          · rw [if_pos c13] at hR
            refine lv_aload hx hb dX4_pass_152 (lv_at hl 0 rfl) ?_
            refine lv_iconst (v := 3) hx hb dX4_pass_154 (by decide) ?_
            refine pfN (ty0 := tyX11) (ty := tyX11 7) (v := .int 3) (C := RX11) (T := TX11) (N := 12) (k := 7) hx hb hts hown hG hS cl_X11 in_X11 tyX11_ok nmX11 (hM.wd (hcn.w g11)) (hFa _ (hM.wdF (hcn.w g11))) (hFa _ (hM.wdF (hcn.w g11))) (by decide) q1710 rfl (tyX11_ok 7 (by decide)) rfl rfl (Nat.le_of_ble_eq_true rfl) dX4_pass_155 (fun H1 locs1 he hz hq hS => ?_)
            have hT_it108 : va_at D vwCl (q108, .inr (15, [.int (nI (o_it1080_112 + 1)), .int (nI o_it1080_112), .int (nI (nW σ)), .ref (β 1 2)])) H1 := hT_it108.kept (hq _ (fun e9 => hd_it108 (by have e9 : q108 = _ := e9; rw [e9]; exact (hM.wdF (hcn.w g11)))))
            have hM := hM.Pwst (hcn.w g11) (v := 3) (by decide) he hq
            have hG := gE.ofS hG0 hS hFE
            obtain ⟨σ6, hσ6⟩ : ∃ x, x = sN σ5 5 o_it1080_112 3 := ⟨_, rfl⟩
            rw [← hσ6] at hR hM
            have hcn : cnt σ6 σ := by rw [hσ6]; exact hcn.sN (by decide)
            try dsimp only at hR
            refine lv_goto (tgt := 112) hx hb dX4_pass_158 (by decide) ?_
            exact ih σ6 th5 ca5 sm5 (o_it1080_112 + 1) (nI o_it1080_112)  hR _ _ _ hcn hM hFa (fun q z => by have := hFb q z; omega) hd_it108 hT_it108 hS ls (lv_sub hl [1, 2, 3, 4] rfl)
  have hL179 : ∀ (i2 : Nat) (q175 : Nat) (hge_it175 : s.heap.size ≤ q175) (hf179_0 : (Int32.toNatClampNeg a) < 61) (hf179_1 : i2 < (Int32.toNatClampNeg a)) (hg179_0 : a = nI ((Int32.toNatClampNeg a))) (hb_i2 : i2 ≤ 60) (κ : St → Int32 → Int32 → Int64 → Nat → Int32 → Option (Int32 × MSt)) (hκ : ∀ (σ9 : St) (th9 : Int32) (ca9 : Int32) (sm9 : Int64) (o_it1750_179 : Nat) (o_it1751_179 : Int32) (H : Heap) (locs : List Loc) (Fc : Nat → Prop) (ls : Array Slot), κ σ9 th9 ca9 sm9 o_it1750_179 o_it1751_179 = some r → cnt σ9 σ → RM D E β Fc σ9 th9 ca9 sm9 H → (∀ q, Fc q → fN F s.heap.size q) → (∀ q, Fc q → q < H.size) → ¬ Fc q175 → va_at D vwCl (q175, .inr (15, [.int (nI o_it1750_179), .int (o_it1751_179), .int (nI (nW σ)), .ref (β 1 2)])) H → xK F F s.heap H locs → lv_has ls 5 [(0, .ref (β 0 0)), (1, .int (a)), (2, .int (nI i2))] → W p l e { frames := 7, cells := 3601, slots := 55444, locals := 158 } s m [(.ref (β 0 0) : Value), .int (a)].toArray below meth c H locs ((0 + i2 * 59 + 1) + 56 + 2) ((0 + i2 * 908 + 4) + 896 + 8) (MQ below (qG F ((fun sz v h => v = some (.int r.1) ∧ RM D E β (fN F sz) r.2.1 r.2.2.1 r.2.2.2.1 r.2.2.2.2 h ∧ cnt r.2.1 σ) s.heap.size)) [(.ref (β 0 0) : Value), .int (a)].toArray s 3601 55444 (fN F s.heap.size)) (F0 m 230 ls [])) (n : Nat)  (σ9 : St) (th9 : Int32) (ca9 : Int32) (sm9 : Int64) (o_it1750_179 : Nat) (o_it1751_179 : Int32), fX4_pass_L179 σ th ca sm a i2 κ n σ9 th9 ca9 sm9 o_it1750_179 o_it1751_179 = some r → ∀ (H : Heap) (locs : List Loc) (Fc : Nat → Prop), cnt σ9 σ → RM D E β Fc σ9 th9 ca9 sm9 H → (∀ q, Fc q → fN F s.heap.size q) → (∀ q, Fc q → q < H.size) → ¬ Fc q175 → va_at D vwCl (q175, .inr (15, [.int (nI o_it1750_179), .int (o_it1751_179), .int (nI (nW σ)), .ref (β 1 2)])) H → xK F F s.heap H locs → ∀ (ls : Array Slot), lv_has ls 5 [(0, .ref (β 0 0)), (1, .int (a)), (2, .int (nI i2)), (3, .ref (q175))] → W p l e { frames := 7, cells := 3601, slots := 55444, locals := 158 } s m [(.ref (β 0 0) : Value), .int (a)].toArray below meth c H locs ((0 + i2 * 59 + 1) + 56 + 2) ((0 + i2 * 908 + 4) + 896 + 8) (MQ below (qG F ((fun sz v h => v = some (.int r.1) ∧ RM D E β (fN F sz) r.2.1 r.2.2.1 r.2.2.2.1 r.2.2.2.2 h ∧ cnt r.2.1 σ) s.heap.size)) [(.ref (β 0 0) : Value), .int (a)].toArray s 3601 55444 (fN F s.heap.size)) (F0 m 179 ls []) := by
    intro i2 q175 hge_it175 hf179_0 hf179_1 hg179_0 hb_i2 κ hκ n
    induction n with
    | zero =>
      intro σ9 th9 ca9 sm9 o_it1750_179 o_it1751_179 hR H locs Fc hcn hM hFa hFb hd_it175 hT_it175 hS ls hl
      rw [fX4_pass_L179] at hR
      have hG := gE.ofS hG0 hS hFE
      cases hR
    | succ n ih =>
      intro σ9 th9 ca9 sm9 o_it1750_179 o_it1751_179 hR H locs Fc hcn hM hFa hFb hd_it175 hT_it175 hS ls hl
      rw [fX4_pass_L179] at hR
      have hG := gE.ofS hG0 hS hFE
      refine lv_aload_n hx hb dX4_pass_179 rfl (lv_at hl 3 rfl) ?_
      have hB := hS.1
      have hL_it175 : q175 < _ := hT_it175.lt
      refine gcF (x := xI_hasNext) (ci := 15) (As := []) (rest := []) hG.fw_hasNext hS0 (met_J19_hasNext l D E q175 o_it1750_179 o_it1751_179 (nW σ) (β 1 2) (β 2 2) (fun e9 => hd_it175 (by rw [e9]; exact hM.lsF (k := 2) (by decide)))) q1830 q1834 q1836 q133 q1838 hd_xI_hasNext ⟨Nat.le_of_ble_eq_true rfl, Nat.le_of_ble_eq_true rfl⟩ hG cl_J19 (rcv hG cl_J19 hT_it175) ⟨hT_it175, (hM.lw hcn).1⟩ rfl hl.1 rfl (Nat.le_of_ble_eq_true rfl) dX4_pass_180 ⟨by show _ ≤ 3601; omega, by show _ ≤ 55444; omega⟩ hS (fun q h => h.elim) (fun q h => h.elim) (fun v H1 locs1 hP hz hk hS => ?_)
      obtain rfl := hP
      have hT_it175 : va_at D vwCl (q175, .inr (15, [.int (nI o_it1750_179), .int (o_it1751_179), .int (nI (nW σ)), .ref (β 1 2)])) H1 := hT_it175.kept (hk _ hT_it175.lt id)
      have hM := hM.kept (fun q h4 _ => hk q h4 id)
      have hG := gE.ofS hG0 hS hFE
      refine W.eq (g2 := F0 m 185 ls [.int (bI ((fJ19_hasNext o_it1750_179 (nW σ))))]) rfl ?_
      refine lb_if_eq (tgt := 230) hx hb dX4_pass_185 (by decide) (fun c16 => ?_) (fun c16 => ?_)
      · rw [if_neg c16] at hR
        exact hκ σ9 th9 ca9 sm9 o_it1750_179 o_it1751_179 _ _ _ ls hR hcn hM hFa (fun q z => by have := hFb q z; omega) hd_it175 hT_it175 hS (lv_sub hl [0, 1, 2] rfl)
      · rw [if_pos c16] at hR
        refine lv_aload_n hx hb dX4_pass_188 rfl (lv_at hl 3 rfl) ?_
        rcases (Decidable.em (o_it1750_179 < nW σ)).symm with g17 | g17
        · rw [if_neg g17] at hR
          cases hR
        rw [if_pos g17] at hR
        obtain ⟨cap9, g9, hA9, hnc9, hcap9, hg9, hF9, hne9⟩ := (hM.lw hcn).2 (Nat.lt_of_le_of_lt (Nat.zero_le _) g17)
        have hB := hS.1
        have hL_it175 : q175 < _ := hT_it175.lt
        refine gcF (x := xI_next) (ci := 15) (As := []) (rest := []) hG.fw_next hS0 (met_J19_next l D E q175 o_it1750_179 o_it1751_179 (nW σ) (β 1 2) (β 2 2) cap9 g9 (β 5 o_it1750_179) (fun e9 => hd_it175 (by rw [e9]; exact hM.lsF (k := 2) (by decide))) (fun e9 => hd_it175 (by rw [e9]; exact hF9)) hne9 (by omega) hnc9 g17 (hg9 _ g17)) q1840 q1843 q1845 q133 q1847 hd_xI_next ⟨Nat.le_of_ble_eq_true rfl, Nat.le_of_ble_eq_true rfl⟩ hG cl_J19 (rcv hG cl_J19 hT_it175) ⟨hT_it175, (hM.lw hcn).1, hA9, (Nat.le_trans hG0.2.2.1 hge_it175)⟩ rfl hl.1 rfl (Nat.le_of_ble_eq_true rfl) dX4_pass_189 ⟨by show _ ≤ 3601; omega, by show _ ≤ 55444; omega⟩ hS (fun q h => by have h : q = q175 := h; rw [h]; exact (Or.inr hge_it175)) (fun q h => by have h : q = q175 := h; rw [h]; exact (Or.inr hge_it175)) (fun v H1 locs1 hP hz hk hS => ?_)
        obtain ⟨rfl, hT9⟩ := hP
        have hM := hM.kept (fun q h4 h5 => hk q h4 (fun e9 => hd_it175 (e9 ▸ h5)))
        have hT_it175 : va_at D vwCl (q175, .inr (15, [.int (nI (o_it1750_179 + 1)), .int (nI o_it1750_179), .int (nI (nW σ)), .ref (β 1 2)])) H1 := hT9
        have hG := gE.ofS hG0 hS hFE
        refine W.eq (g2 := F0 m 194 ls [.ref (β 5 o_it1750_179)]) rfl ?_
        refine gc (ci := 9) hx hb hown hG cl_X11 (rcv hG cl_X11 (hM.wd (hcn.w g17))) (hts _ q1695) dX4_pass_194 ?_
        refine lv_astore (lv' := [(4, .ref (β 5 o_it1750_179)), (0, .ref (β 0 0)), (1, .int (a)), (2, .int (nI i2)), (3, .ref (q175))]) hx hb dX4_pass_197 hl (Nat.le_of_ble_eq_true rfl) rfl (fun ls hl => ?_)
        refine lv_aload hx hb dX4_pass_199 (lv_at hl 0 rfl) ?_
        refine gfN (v := .int (nI (wState σ9 o_it1750_179))) (C := RX11) (T := TX11) (N := 12) (k := 7) hx hb hts hown hG cl_X11 in_X11 (hM.wd (hcn.w g17)) (by decide) q1710 rfl dX4_pass_201 ?_
        refine lv_if_ne (tgt := 227) hx hb dX4_pass_204 (by decide) (fun c18 => ?_) (fun c18 => ?_)
        · rw [if_neg c18] at hR
          refine lv_goto (tgt := 179) hx hb dX4_pass_227 (by decide) ?_
          exact ih σ9 th9 ca9 sm9 (o_it1750_179 + 1) (nI o_it1750_179)  hR _ _ _ hcn hM hFa (fun q z => by have := hFb q z; omega) hd_it175 hT_it175 hS ls (lv_sub hl [1, 2, 3, 4] rfl)
        · rw [if_pos c18] at hR
          refine lv_aload_n hx hb dX4_pass_207 rfl (lv_at hl 1 rfl) ?_
          refine gf (v := .int (tod σ9)) (C := RX4) (T := TX4) (N := 13) (k := 1) hx hb hts hown hG cl_X4 in_X4 hM.ag (by decide) q1541 rfl dX4_pass_208 ?_
          refine lv_aload hx hb dX4_pass_211 (lv_at hl 0 rfl) ?_
          refine gfN (v := .int (wTold σ9 o_it1750_179)) (C := RX11) (T := TX11) (N := 12) (k := 6) hx hb hts hown hG cl_X11 in_X11 (hM.wd (hcn.w g17)) (by decide) q1709 rfl dX4_pass_213 ?_
          refine lv_isub hx hb dX4_pass_216 ?_
          refine lv_iconst (v := 5) hx hb dX4_pass_217 (by decide) ?_
          refine lv_icmp_lt (tgt := 227) hx hb dX4_pass_218 (by decide) (fun c19 => ?_) (fun c19 => ?_)
          · rw [if_pos c19] at hR
            refine lv_goto (tgt := 179) hx hb dX4_pass_227 (by decide) ?_
            exact ih σ9 th9 ca9 sm9 (o_it1750_179 + 1) (nI o_it1750_179)  hR _ _ _ hcn hM hFa (fun q z => by have := hFb q z; omega) hd_it175 hT_it175 hS ls (lv_sub hl [1, 2, 3, 4] rfl)
          · rw [if_neg c19] at hR
            refine lv_aload hx hb dX4_pass_221 (lv_at hl 0 rfl) ?_
            refine lv_iconst (v := 3) hx hb dX4_pass_223 (by decide) ?_
            refine pfN (ty0 := tyX11) (ty := tyX11 7) (v := .int 3) (C := RX11) (T := TX11) (N := 12) (k := 7) hx hb hts hown hG hS cl_X11 in_X11 tyX11_ok nmX11 (hM.wd (hcn.w g17)) (hFa _ (hM.wdF (hcn.w g17))) (hFa _ (hM.wdF (hcn.w g17))) (by decide) q1710 rfl (tyX11_ok 7 (by decide)) rfl rfl (Nat.le_of_ble_eq_true rfl) dX4_pass_224 (fun H1 locs1 he hz hq hS => ?_)
            have hT_it175 : va_at D vwCl (q175, .inr (15, [.int (nI (o_it1750_179 + 1)), .int (nI o_it1750_179), .int (nI (nW σ)), .ref (β 1 2)])) H1 := hT_it175.kept (hq _ (fun e9 => hd_it175 (by have e9 : q175 = _ := e9; rw [e9]; exact (hM.wdF (hcn.w g17)))))
            have hM := hM.Pwst (hcn.w g17) (v := 3) (by decide) he hq
            have hG := gE.ofS hG0 hS hFE
            obtain ⟨σ10, hσ10⟩ : ∃ x, x = sN σ9 5 o_it1750_179 3 := ⟨_, rfl⟩
            rw [← hσ10] at hR hM
            have hcn : cnt σ10 σ := by rw [hσ10]; exact hcn.sN (by decide)
            try dsimp only at hR
            refine lv_goto (tgt := 179) hx hb dX4_pass_227 (by decide) ?_
            exact ih σ10 th9 ca9 sm9 (o_it1750_179 + 1) (nI o_it1750_179)  hR _ _ _ hcn hM hFa (fun q z => by have := hFb q z; omega) hd_it175 hT_it175 hS ls (lv_sub hl [1, 2, 3, 4] rfl)
  have hL41 : ∀ (hf41_0 : (Int32.toNatClampNeg a) < 61) (hg41_0 : a = nI ((Int32.toNatClampNeg a))) (κ : St → Int32 → Int32 → Int64 → Option (Int32 × MSt)) (hκ : ∀ (σ1 : St) (th1 : Int32) (ca1 : Int32) (sm1 : Int64) (H : Heap) (locs : List Loc) (Fc : Nat → Prop) (ls : Array Slot), κ σ1 th1 ca1 sm1 = some r → cnt σ1 σ → RM D E β Fc σ1 th1 ca1 sm1 H → (∀ q, Fc q → fN F s.heap.size q) → (∀ q, Fc q → q < H.size) → xK F F s.heap H locs → lv_has ls 5 [(0, .ref (β 0 0))] → W p l e { frames := 7, cells := 3601, slots := 55444, locals := 158 } s m [(.ref (β 0 0) : Value), .int (a)].toArray below meth c H locs (0 + 3540) (0 + 54480) (MQ below (qG F ((fun sz v h => v = some (.int r.1) ∧ RM D E β (fN F sz) r.2.1 r.2.2.1 r.2.2.2.1 r.2.2.2.2 h ∧ cnt r.2.1 σ) s.heap.size)) [(.ref (β 0 0) : Value), .int (a)].toArray s 3601 55444 (fN F s.heap.size)) (F0 m 236 ls [])) (n : Nat) (i2 : Nat) (σ1 : St) (th1 : Int32) (ca1 : Int32) (sm1 : Int64), i2 + n = (Int32.toNatClampNeg a) → fX4_pass_L41 σ th ca sm a κ n i2 σ1 th1 ca1 sm1 = some r → ∀ (H : Heap) (locs : List Loc) (Fc : Nat → Prop), cnt σ1 σ → RM D E β Fc σ1 th1 ca1 sm1 H → (∀ q, Fc q → fN F s.heap.size q) → (∀ q, Fc q → q < H.size) → xK F F s.heap H locs → ∀ (ls : Array Slot), lv_has ls 5 [(0, .ref (β 0 0)), (1, .int (a)), (2, .int (nI i2))] → W p l e { frames := 7, cells := 3601, slots := 55444, locals := 158 } s m [(.ref (β 0 0) : Value), .int (a)].toArray below meth c H locs (0 + i2 * 59) (0 + i2 * 908) (MQ below (qG F ((fun sz v h => v = some (.int r.1) ∧ RM D E β (fN F sz) r.2.1 r.2.2.1 r.2.2.2.1 r.2.2.2.2 h ∧ cnt r.2.1 σ) s.heap.size)) [(.ref (β 0 0) : Value), .int (a)].toArray s 3601 55444 (fN F s.heap.size)) (F0 m 41 ls []) := by
    intro hf41_0 hg41_0 κ hκ n
    induction n with
    | zero =>
      intro i2 σ1 th1 ca1 sm1 hn hR H locs Fc hcn hM hFa hFb hS ls hl
      rw [fX4_pass_L41] at hR
      have hG := gE.ofS hG0 hS hFE
      have hb_i2 : i2 ≤ 60 := by have := hM0.nP10; have := hM0.nB6; have := hM0.nW14; omega
      refine lv_iload_n hx hb dX4_pass_41 rfl (lv_at hl 2 rfl) ?_
      refine lv_iload_n hx hb dX4_pass_42 rfl (lv_at hl 1 rfl) ?_
      refine lv_eq hg41_0 ?_
      refine lk_ge_out (k := i2) (N := (Int32.toNatClampNeg a)) hx hb hn (tgt := 236) dX4_pass_43 (by decide) ?_
      exact W.widen (by show _ ≤ _; omega) (by show _ ≤ _; omega) (hκ σ1 th1 ca1 sm1 _ _ _ ls hR hcn hM hFa (fun q z => by have := hFb q z; omega) hS (lv_sub hl [0] rfl))
    | succ n ih =>
      intro i2 σ1 th1 ca1 sm1 hn hR H locs Fc hcn hM hFa hFb hS ls hl
      rw [fX4_pass_L41] at hR
      have hG := gE.ofS hG0 hS hFE
      have hb_i2 : i2 ≤ 60 := by have := hM0.nP10; have := hM0.nB6; have := hM0.nW14; omega
      refine lv_iload_n hx hb dX4_pass_41 rfl (lv_at hl 2 rfl) ?_
      refine lv_iload_n hx hb dX4_pass_42 rfl (lv_at hl 1 rfl) ?_
      refine lv_eq hg41_0 ?_
      have hki2 : i2 < (Int32.toNatClampNeg a) := lk_lt hn
      refine lk_ge_in (k := i2) (N := (Int32.toNatClampNeg a)) hx hb hki2 (by omega) (tgt := 236) dX4_pass_43 (by decide) ?_
      refine lv_aload_n hx hb dX4_pass_46 rfl (lv_at hl 0 rfl) ?_
      refine gf (v := .ref (β 1 2)) (C := RX4) (T := TX4) (N := 13) (k := 5) hx hb hts hown hG cl_X4 in_X4 hM.ag (by decide) q1545 rfl dX4_pass_47 ?_
      have hB := hS.1
      refine gcV (As := []) (rest := []) hS0 (met_J2_iterator l D E (β 1 2) (nW σ) (β 2 2)) q1806 q1807 q1808 q103 q1809 hd_J2_iterator ⟨Nat.le_of_ble_eq_true rfl, Nat.le_of_ble_eq_true rfl⟩ hG (hM.lsR hG (j := 2) (by decide)) (hM.lw hcn).1 rfl hl.1 rfl (Nat.le_of_ble_eq_true rfl) dX4_pass_50 ⟨by show _ ≤ 3601; omega, by show _ ≤ 55444; omega⟩ hS (fun q h => h.elim) (fun q h => h.elim) (fun v H1 locs1 hP hz hk hS => ?_)
      obtain ⟨q50, rfl, hq9, hT_it50⟩ := hP
      have hM := hM.kept (fun q h4 _ => hk q h4 id)
      have hG := gE.ofS hG0 hS hFE
      have hge_it50 : s.heap.size ≤ q50 := by have := hB; omega
      have hd_it50 : ¬ Fc q50 := fun z => by have := hFb _ z; omega
      refine W.eq (g2 := F0 m 53 ls [.ref (q50)]) rfl ?_
      refine lv_astore_n (lv' := [(3, .ref (q50)), (0, .ref (β 0 0)), (1, .int (a)), (2, .int (nI i2))]) hx hb dX4_pass_53 rfl hl (Nat.le_of_ble_eq_true rfl) rfl (fun ls hl => ?_)
      refine W.widen (k := (0 + i2 * 59 + 1) + 0 * 4) (n := (0 + i2 * 908 + 4) + 0 * 64) (by show _ ≤ _; omega) (by show _ ≤ _; omega) ?_
      refine hL54 i2 q50 hge_it50 hf41_0 hki2 hg41_0 hb_i2 _ (fun σ4 th4 ca4 sm4 t_it50_8 t_it50_9 H1 locs1 Fc ls hR hcn hM hFa hFb hd_it50 hT_it50 hS hl => ?_) 15  σ1 th1 ca1 sm1 0 ((-1))  hR _ _ _ hcn hM hFa (fun q z => by have := hFb q z; omega) hd_it50 hT_it50 hS ls (lv_sub hl [1, 2, 3, 0] rfl)
      try dsimp only at hR
      have hG := gE.ofS hG0 hS hFE
      refine lv_aload_n hx hb dX4_pass_104 rfl (lv_at hl 0 rfl) ?_
      refine gf (v := .ref (β 1 2)) (C := RX4) (T := TX4) (N := 13) (k := 5) hx hb hts hown hG cl_X4 in_X4 hM.ag (by decide) q1545 rfl dX4_pass_105 ?_
      have hB := hS.1
      refine gcV (As := []) (rest := []) hS0 (met_J2_iterator l D E (β 1 2) (nW σ) (β 2 2)) q1806 q1807 q1808 q103 q1809 hd_J2_iterator ⟨Nat.le_of_ble_eq_true rfl, Nat.le_of_ble_eq_true rfl⟩ hG (hM.lsR hG (j := 2) (by decide)) (hM.lw hcn).1 rfl hl.1 rfl (Nat.le_of_ble_eq_true rfl) dX4_pass_108 ⟨by show _ ≤ 3601; omega, by show _ ≤ 55444; omega⟩ hS (fun q h => h.elim) (fun q h => h.elim) (fun v H1 locs1 hP hz hk hS => ?_)
      obtain ⟨q108, rfl, hq9, hT_it108⟩ := hP
      have hM := hM.kept (fun q h4 _ => hk q h4 id)
      have hG := gE.ofS hG0 hS hFE
      have hge_it108 : s.heap.size ≤ q108 := by have := hB; omega
      have hd_it108 : ¬ Fc q108 := fun z => by have := hFb _ z; omega
      refine W.eq (g2 := F0 m 111 ls [.ref (q108)]) rfl ?_
      refine lv_astore_n (lv' := [(3, .ref (q108)), (0, .ref (β 0 0)), (1, .int (a)), (2, .int (nI i2))]) hx hb dX4_pass_111 rfl hl (Nat.le_of_ble_eq_true rfl) rfl (fun ls hl => ?_)
      refine hL112 i2 q108 hge_it108 hf41_0 hki2 hg41_0 hb_i2 _ (fun σ7 th7 ca7 sm7 t_it108_14 t_it108_15 H1 locs1 Fc ls hR hcn hM hFa hFb hd_it108 hT_it108 hS hl => ?_) 15  σ4 th4 ca4 sm4 0 ((-1))  hR _ _ _ hcn hM hFa (fun q z => by have := hFb q z; omega) hd_it108 hT_it108 hS ls (lv_sub hl [1, 2, 3, 0] rfl)
      try dsimp only at hR
      have hG := gE.ofS hG0 hS hFE
      refine lv_aload_n hx hb dX4_pass_161 rfl (lv_at hl 0 rfl) ?_
      refine lv_dup hx hb dX4_pass_162 rfl ?_
      refine gf (v := .int (tod σ7)) (C := RX4) (T := TX4) (N := 13) (k := 1) hx hb hts hown hG cl_X4 in_X4 hM.ag (by decide) q1541 rfl dX4_pass_163 ?_
      refine lv_iconst (v := 1) hx hb dX4_pass_166 (by decide) ?_
      refine lv_iadd hx hb dX4_pass_167 ?_
      refine pf (ty0 := tyX4) (ty := tyX4 1) (v := .int ((tod σ7) + 1)) (C := RX4) (T := TX4) (N := 13) (k := 1) hx hb hts hown hG hS cl_X4 in_X4 tyX4_ok nmX4 hM.ag (hFa _ hM.agF) (hFa _ hM.agF) (by decide) q1541 rfl (tyX4_ok 1 (by decide)) rfl rfl (Nat.le_of_ble_eq_true rfl) dX4_pass_168 (fun H1 locs1 he hz hq hS => ?_)
      have hM := hM.Ptod  he hq
      have hG := gE.ofS hG0 hS hFE
      obtain ⟨σ8, hσ8⟩ : ∃ x, x = sW σ7 0 0 ((tod σ7) + 1) := ⟨_, rfl⟩
      rw [← hσ8] at hR hM
      have hcn : cnt σ8 σ := by rw [hσ8]; exact hcn.sW
      try dsimp only at hR
      refine lv_aload_n hx hb dX4_pass_171 rfl (lv_at hl 0 rfl) ?_
      refine gf (v := .ref (β 1 2)) (C := RX4) (T := TX4) (N := 13) (k := 5) hx hb hts hown hG cl_X4 in_X4 hM.ag (by decide) q1545 rfl dX4_pass_172 ?_
      have hB := hS.1
      refine gcV (As := []) (rest := []) hS0 (met_J2_iterator l D E (β 1 2) (nW σ) (β 2 2)) q1806 q1807 q1808 q103 q1809 hd_J2_iterator ⟨Nat.le_of_ble_eq_true rfl, Nat.le_of_ble_eq_true rfl⟩ hG (hM.lsR hG (j := 2) (by decide)) (hM.lw hcn).1 rfl hl.1 rfl (Nat.le_of_ble_eq_true rfl) dX4_pass_175 ⟨by show _ ≤ 3601; omega, by show _ ≤ 55444; omega⟩ hS (fun q h => h.elim) (fun q h => h.elim) (fun v H1 locs1 hP hz hk hS => ?_)
      obtain ⟨q175, rfl, hq9, hT_it175⟩ := hP
      have hM := hM.kept (fun q h4 _ => hk q h4 id)
      have hG := gE.ofS hG0 hS hFE
      have hge_it175 : s.heap.size ≤ q175 := by have := hB; omega
      have hd_it175 : ¬ Fc q175 := fun z => by have := hFb _ z; omega
      refine W.eq (g2 := F0 m 178 ls [.ref (q175)]) rfl ?_
      refine lv_astore_n (lv' := [(3, .ref (q175)), (0, .ref (β 0 0)), (1, .int (a)), (2, .int (nI i2))]) hx hb dX4_pass_178 rfl hl (Nat.le_of_ble_eq_true rfl) rfl (fun ls hl => ?_)
      refine hL179 i2 q175 hge_it175 hf41_0 hki2 hg41_0 hb_i2 _ (fun σ11 th11 ca11 sm11 t_it175_20 t_it175_21 H1 locs1 Fc ls hR hcn hM hFa hFb hd_it175 hT_it175 hS hl => ?_) 15  σ8 th7 ca7 sm7 0 ((-1))  hR _ _ _ hcn hM hFa (fun q z => by have := hFb q z; omega) hd_it175 hT_it175 hS ls (lv_sub hl [1, 2, 3, 0] rfl)
      try dsimp only at hR
      have hG := gE.ofS hG0 hS hFE
      refine lv_iinc (v := nI (i2 + 1)) (lv' := [(2, .int (nI (i2 + 1))), (0, .ref (β 0 0)), (1, .int (a))]) hx hb dX4_pass_230 hl (k := 2) rfl (nI_1 i2) (Nat.le_of_ble_eq_true rfl) rfl (fun ls hl => ?_)
      refine lv_goto (tgt := 41) hx hb dX4_pass_233 (by decide) ?_
      exact W.widen (by show _ ≤ _; omega) (by show _ ≤ _; omega) (ih (i2 + 1) σ11 th11 ca11 sm11 (lk_st hn) hR _ _ _ hcn hM hFa (fun q z => by have := hFb q z; omega) hS ls (lv_sub hl [1, 2, 0] rfl))
  unfold fX4_pass at hR
  refine lv_aload_n hx hb dX4_pass_0 rfl (lv_at hl 0 rfl) ?_
  refine lv_iconst (v := 0) hx hb dX4_pass_1 (by decide) ?_
  refine pf (ty0 := tyX4) (ty := tyX4 0) (v := .int 0) (C := RX4) (T := TX4) (N := 13) (k := 0) hx hb hts hown hG hS cl_X4 in_X4 tyX4_ok nmX4 hM.ag (hFa _ hM.agF) (hFa _ hM.agF) (by decide) q1540 rfl (tyX4_ok 0 (by decide)) rfl rfl (Nat.le_of_ble_eq_true rfl) dX4_pass_2 (fun H1 locs1 he hz hq hS => ?_)
  have hM := hM.Pth  he hq
  have hG := gE.ofS hG0 hS hFE
  refine lv_iload_n hx hb dX4_pass_5 rfl (lv_at hl 1 rfl) ?_
  refine lv_iconst (v := 1) hx hb dX4_pass_6 (by decide) ?_
  refine lv_bipush (v := 60) hx hb dX4_pass_7 (by decide) ?_
  refine pcS (As := [.int (a), .int 1, .int 60]) (rest := []) hS0 (met_X4_is l D E a 1 60) q1588 q1589 q110 q1590 hd_X4_is ⟨Nat.le_of_ble_eq_true rfl, Nat.le_of_ble_eq_true rfl⟩ hG trivial rfl hl.1 rfl (Nat.le_of_ble_eq_true rfl) dX4_pass_9 ⟨Nat.le_of_ble_eq_true rfl, Nat.le_of_ble_eq_true rfl⟩ ?_
  refine W.eq (g2 := F0 m 12 ls [.int (bI ((fX4_is a 1 60)))]) rfl ?_
  refine lb_if_ne (tgt := 21) hx hb dX4_pass_12 (by decide) (fun c1 => ?_) (fun c1 => ?_)
  · rw [if_pos c1] at hR
    have nc1 := is60_ix c1
    refine lv_aload_n hx hb dX4_pass_21 rfl (lv_at hl 0 rfl) ?_
    refine gf (v := .int (tod σ)) (C := RX4) (T := TX4) (N := 13) (k := 1) hx hb hts hown hG cl_X4 in_X4 hM.ag (by decide) q1541 rfl dX4_pass_22 ?_
    refine lv_iload_n hx hb dX4_pass_25 rfl (lv_at hl 1 rfl) ?_
    refine lv_eq nc1.1 ?_
    refine lv_iadd hx hb dX4_pass_26 ?_
    refine lv_sipush (v := 365) hx hb dX4_pass_27 (by decide) ?_
    refine lv_icmp_le (tgt := 39) hx hb dX4_pass_30 (by decide) (fun c2 => ?_) (fun c2 => ?_)
    · rw [if_pos c2] at hR
      refine lv_iconst (v := 0) hx hb dX4_pass_39 (by decide) ?_
      refine lv_istore_n (lv' := [(2, .int 0), (0, .ref (β 0 0)), (1, .int (a))]) hx hb dX4_pass_40 rfl hl (Nat.le_of_ble_eq_true rfl) rfl (fun ls hl => ?_)
      refine W.widen (k := 0 + 0 * 59) (n := 0 + 0 * 908) (by show _ ≤ _; omega) (by show _ ≤ _; omega) ?_
      refine hL41 nc1.2 nc1.1 _ (fun σ12 th12 ca12 sm12 H1 locs1 Fc ls hR hcn hM hFa hFb hS hl => ?_) ((Int32.toNatClampNeg a)) 0 σ 0 ca sm (Nat.zero_add _) hR _ _ _ hcn hM hFa (fun q z => by have := hFb q z; omega) hS ls (lv_sub hl [1, 2, 0] rfl)
      try dsimp only at hR
      have hG := gE.ofS hG0 hS hFE
      refine lv_aload_n hx hb dX4_pass_236 rfl (lv_at hl 0 rfl) ?_
      refine gf (v := .int (tod σ12)) (C := RX4) (T := TX4) (N := 13) (k := 1) hx hb hts hown hG cl_X4 in_X4 hM.ag (by decide) q1541 rfl dX4_pass_237 ?_
      exact g_iret hx hb hr hlocks hS ⟨by show _ ≤ 3601; omega, by show _ ≤ 55444; omega⟩ dX4_pass_240 (by cases hR; exact ⟨rfl, (hM.mono (fun q _ z => hFa q z) (fN_E hFE hG0.2.2.1)), hcn⟩)
    · rw [if_neg c2] at hR
      refine lv_aload_n hx hb dX4_pass_33 rfl (lv_at hl 0 rfl) ?_
      refine lv_iconst (v := 2) hx hb dX4_pass_34 (by decide) ?_
      have hB := hS.1
      refine gcV (As := [.int 2]) (rest := []) hS0 (met_X4_refuse l D E 2) q1591 q1593 qs55 q110 q1594 hd_X4_refuse ⟨Nat.le_of_ble_eq_true rfl, Nat.le_of_ble_eq_true rfl⟩ hG (rcv hG cl_X4 hM.ag) hM rfl hl.1 rfl (Nat.le_of_ble_eq_true rfl) dX4_pass_35 ⟨Nat.le_of_ble_eq_true rfl, Nat.le_of_ble_eq_true rfl⟩ hS (fun q h => hFa q h) (fun q h => hFa q h) (fun v H1 locs1 hP hz hk hS => ?_)
      obtain ⟨rfl, hZ, hc8⟩ := hP
      obtain ⟨Fd, hM, hFn⟩ := hZ.nar
      have hFa : ∀ q, Fd q → fN F s.heap.size q := fun q z => (hFn q z).1.elim (hFa q) (fun z9 => Or.inr (Nat.le_trans hB z9))
      have hFb : ∀ q, Fd q → q < H1.size := fun q z => (hFn q z).2
      clear hFn
      generalize Fd = Fc at hM hFa hFb
      have hG := gE.ofS hG0 hS hFE
      have hcn := hc8.tr hcn
      generalize hv_σ13 : (fX4_refuse σ 0 ca sm 2).2.1 = σ13 at hR hM hcn ⊢
      generalize hv_th13 : (fX4_refuse σ 0 ca sm 2).2.2.1 = th13 at hR hM hcn ⊢
      generalize hv_ca13 : (fX4_refuse σ 0 ca sm 2).2.2.2.1 = ca13 at hR hM hcn ⊢
      generalize hv_sm13 : (fX4_refuse σ 0 ca sm 2).2.2.2.2 = sm13 at hR hM hcn ⊢
      generalize hv_v13 : (fX4_refuse σ 0 ca sm 2).1 = v13 at hR hM hcn ⊢
      try dsimp only at hR
      refine W.eq (g2 := F0 m 38 ls [.int (v13)]) rfl ?_
      exact g_iret hx hb hr hlocks hS ⟨Nat.le_of_ble_eq_true rfl, Nat.le_of_ble_eq_true rfl⟩ dX4_pass_38 (by cases hR; exact ⟨rfl, (hM.mono (fun q _ z => hFa q z) (fN_E hFE hG0.2.2.1)), hcn⟩)
  · rw [if_neg c1] at hR
    refine lv_aload_n hx hb dX4_pass_15 rfl (lv_at hl 0 rfl) ?_
    refine lv_iconst (v := 1) hx hb dX4_pass_16 (by decide) ?_
    have hB := hS.1
    refine gcV (As := [.int 1]) (rest := []) hS0 (met_X4_refuse l D E 1) q1591 q1593 qs55 q110 q1594 hd_X4_refuse ⟨Nat.le_of_ble_eq_true rfl, Nat.le_of_ble_eq_true rfl⟩ hG (rcv hG cl_X4 hM.ag) hM rfl hl.1 rfl (Nat.le_of_ble_eq_true rfl) dX4_pass_17 ⟨Nat.le_of_ble_eq_true rfl, Nat.le_of_ble_eq_true rfl⟩ hS (fun q h => hFa q h) (fun q h => hFa q h) (fun v H1 locs1 hP hz hk hS => ?_)
    obtain ⟨rfl, hZ, hc8⟩ := hP
    obtain ⟨Fd, hM, hFn⟩ := hZ.nar
    have hFa : ∀ q, Fd q → fN F s.heap.size q := fun q z => (hFn q z).1.elim (hFa q) (fun z9 => Or.inr (Nat.le_trans hB z9))
    have hFb : ∀ q, Fd q → q < H1.size := fun q z => (hFn q z).2
    clear hFn
    generalize Fd = Fc at hM hFa hFb
    have hG := gE.ofS hG0 hS hFE
    have hcn := hc8.tr hcn
    generalize hv_σ14 : (fX4_refuse σ 0 ca sm 1).2.1 = σ14 at hR hM hcn ⊢
    generalize hv_th14 : (fX4_refuse σ 0 ca sm 1).2.2.1 = th14 at hR hM hcn ⊢
    generalize hv_ca14 : (fX4_refuse σ 0 ca sm 1).2.2.2.1 = ca14 at hR hM hcn ⊢
    generalize hv_sm14 : (fX4_refuse σ 0 ca sm 1).2.2.2.2 = sm14 at hR hM hcn ⊢
    generalize hv_v14 : (fX4_refuse σ 0 ca sm 1).1 = v14 at hR hM hcn ⊢
    try dsimp only at hR
    refine W.eq (g2 := F0 m 20 ls [.int (v14)]) rfl ?_
    exact g_iret hx hb hr hlocks hS ⟨Nat.le_of_ble_eq_true rfl, Nat.le_of_ble_eq_true rfl⟩ dX4_pass_20 (by cases hR; exact ⟨rfl, (hM.mono (fun q _ z => hFa q z) (fN_E hFE hG0.2.2.1)), hcn⟩)

