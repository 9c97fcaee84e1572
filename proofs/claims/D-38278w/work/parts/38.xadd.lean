/-! player, band, ask; song -/
set_option maxRecDepth 100000
theorem pl10 {n : Nat} (hn : n ≤ 10) (h : ¬ nI n = 10) : n < 10 := by
  rcases Nat.lt_or_ge n 10 with h1 | h1
  · exact h1
  · exact absurd (show nI n = 10 by have e : n = 10 := by omega
                                    subst e; decide) h
theorem bd6 {n : Nat} (hn : n ≤ 6) (h : ¬ nI n = 6) : n < 6 := by
  rcases Nat.lt_or_ge n 6 with h1 | h1
  · exact h1
  · exact absurd (show nI n = 6 by have e : n = 6 := by omega
                                   subst e; decide) h
theorem wd14 {n : Nat} (hn : n ≤ 14) (h : ¬ nI n = 14) : n < 14 := by
  rcases Nat.lt_or_ge n 14 with h1 | h1
  · exact h1
  · exact absurd (show nI n = 14 by have e : n = 14 := by omega
                                    subst e; decide) h
def fX1_player (σ : St) (a : Int32) (b : Int32) (c_ : Int32) (z : Int32) : Nat × Int32 × St :=
  (if 0 ≤ c_ ∧ c_ < 6 then (if 1 ≤ a ∧ a ≤ 63 then (if 0 ≤ b ∧ b ≤ 65535 then (if 1 ≤ z ∧ z ≤ 99 then (if 10 ≤ (nI (nP σ)) then (3, 0, σ) else (fun (σ1 : St) => (0, (nI (nP σ1)) - 1, σ1)) (adP σ a z b ((Int32.toNatClampNeg c_)))) else (2, 0, σ)) else (2, 0, σ)) else (2, 0, σ)) else (1, 0, σ))
set_option maxHeartbeats 4000000 in
set_option maxRecDepth 100000 in
theorem met_X1_player (l : Launch) (D : va_G) (E : Nat → Nat) (hlf : l.stackTraces = false) {α : Nat → Nat → Nat} {F : Nat → Prop} {σ : St} (a : Int32) (b : Int32) (c_ : Int32) (z : Int32)  : XM l D E yX1_player cX1_player 5 (Option.some Jvm.ClassFile.FieldType.int) 9 171 8 503 [.ref (α 0 0), .int (a), .int (b), .int (c_), .int (z)] (RX D E α F σ) F F (fun sz v h => (fX1_player σ a b c_ z).1 = 0 ∧ v = some (.int (fX1_player σ a b c_ z).2.1) ∧ ∃ α1 : Nat → Nat → Nat, α1 0 0 = α 0 0 ∧ RX D E α1 (fN F sz) (fX1_player σ a b c_ z).2.2 h) (fun sz X h => X = exN (fX1_player σ a b c_ z).1 ∧ (fX1_player σ a b c_ z).1 ≠ 0 ∧ RX D E α (fN F sz) σ h) := by
  generalize hR : fX1_player σ a b c_ z = r
  refine XM.start (by decide) (Nat.le_of_ble_eq_true rfl) ?_
  intro p e s m below meth c ls hx hb hr hml hown hlocks hex hts hG hX hS hl
  have hown : s.vm.findClass RX1 = some m.cls := hown
  have hS0 : xS p m c cX1_player 5 s _ RX1 := ⟨hx, hb, hml, hown, hts⟩
  have hl : lv_has ls 5 [(0, .ref (α 0 0)), (1, .int (a)), (2, .int (b)), (3, .int (c_)), (4, .int (z))] := hl
  have hG0 := hG
  have hX0 := hX
  have hb0P := hX0.nP10
  have hb0B := hX0.nB6
  have hb0W := hX0.nW14
  have hFE := hX.fE
  obtain ⟨Fc, hX, hFn⟩ := hX.nar
  have hFa : ∀ q, Fc q → fN F s.heap.size q := fun q z => Or.inl (hFn q z).1
  have hFb : ∀ q, Fc q → q < s.heap.size := fun q z => (hFn q z).2
  have hcn : cnt σ σ := cnt.rf
  unfold fX1_player at hR
  refine lv_iload_n hx hb dX1_player_0 rfl (lv_at hl 3 rfl) ?_
  refine lv_bipush (v := 6) hx hb dX1_player_1 (by decide) ?_
  have hB := hS.1
  refine xcS (As := [.int (c_), .int 6]) (rest := []) hS0 (met_X1_checkPlace l D E hlf c_ 6 _) q836 q837 q100 q838 hd_X1_checkPlace ⟨Nat.le_of_ble_eq_true rfl, Nat.le_of_ble_eq_true rfl⟩ hG rfl rfl hl.1 rfl (Nat.le_of_ble_eq_true rfl) dX1_player_3 ⟨Nat.le_of_ble_eq_true rfl, Nat.le_of_ble_eq_true rfl⟩ hS (fun q h => h.elim) (fun q h => h.elim) (fun X ce q9 H1 locs1 hP hz hk hS9 h1 h2 h3 => ?_) (fun v H1 locs1 hP hz hk hS9 => ?_)
  · obtain ⟨rfl, hc9⟩ := hP
    have hS := hS9
    clear hS9
    rw [if_neg hc9] at hR
    exact x_out hex hlocks h1 h2 h3 hS ⟨Nat.le_of_ble_eq_true rfl, Nat.le_of_ble_eq_true rfl⟩ (by subst hR; exact ⟨rfl, Nat.succ_ne_zero _, ((hX.kept (fun q h4 _ => hk q h4 id)).mono (fun q _ z => hFa q z) (fN_E hFE hG0.2.2.1))⟩)
  · obtain ⟨rfl, hc9, rfl⟩ := hP
    have hS := hS9
    clear hS9
    rw [if_pos hc9] at hR
    have k1 := hc9
    have nk1 := ck_ix k1 (by decide)
    refine W.eq (g2 := F0 m 6 ls []) rfl ?_
    refine lv_iload_n hx hb dX1_player_6 rfl (lv_at hl 1 rfl) ?_
    refine lv_iconst (v := 1) hx hb dX1_player_7 (by decide) ?_
    refine lv_bipush (v := 63) hx hb dX1_player_8 (by decide) ?_
    have hB := hS.1
    refine xcS (As := [.int (a), .int 1, .int 63]) (rest := []) hS0 (met_X1_mustBeIn l D E hlf a 1 63 _) q860 q861 q100 q862 hd_X1_mustBeIn ⟨Nat.le_of_ble_eq_true rfl, Nat.le_of_ble_eq_true rfl⟩ hG rfl rfl hl.1 rfl (Nat.le_of_ble_eq_true rfl) dX1_player_10 ⟨Nat.le_of_ble_eq_true rfl, Nat.le_of_ble_eq_true rfl⟩ hS (fun q h => h.elim) (fun q h => h.elim) (fun X ce q9 H1 locs1 hP hz hk hS9 h1 h2 h3 => ?_) (fun v H1 locs1 hP hz hk hS9 => ?_)
    · obtain ⟨rfl, hc9⟩ := hP
      have hS := hS9
      clear hS9
      rw [if_neg hc9] at hR
      exact x_out hex hlocks h1 h2 h3 hS ⟨Nat.le_of_ble_eq_true rfl, Nat.le_of_ble_eq_true rfl⟩ (by subst hR; exact ⟨rfl, Nat.succ_ne_zero _, ((hX.kept (fun q h4 _ => hk q h4 id)).mono (fun q _ z => hFa q z) (fN_E hFE hG0.2.2.1))⟩)
    · obtain ⟨rfl, hc9, rfl⟩ := hP
      have hS := hS9
      clear hS9
      rw [if_pos hc9] at hR
      have k2 := hc9
      refine W.eq (g2 := F0 m 13 ls []) rfl ?_
      refine lv_iload_n hx hb dX1_player_13 rfl (lv_at hl 2 rfl) ?_
      have hB := hS.1
      refine xcS (As := [.int (b)]) (rest := []) hS0 (met_X1_mustBeSongs l D E hlf b _) q881 q882 q100 q883 hd_X1_mustBeSongs ⟨Nat.le_of_ble_eq_true rfl, Nat.le_of_ble_eq_true rfl⟩ hG rfl rfl hl.1 rfl (Nat.le_of_ble_eq_true rfl) dX1_player_14 ⟨Nat.le_of_ble_eq_true rfl, Nat.le_of_ble_eq_true rfl⟩ hS (fun q h => h.elim) (fun q h => h.elim) (fun X ce q9 H1 locs1 hP hz hk hS9 h1 h2 h3 => ?_) (fun v H1 locs1 hP hz hk hS9 => ?_)
      · obtain ⟨rfl, hc9⟩ := hP
        have hS := hS9
        clear hS9
        rw [if_neg hc9] at hR
        exact x_out hex hlocks h1 h2 h3 hS ⟨Nat.le_of_ble_eq_true rfl, Nat.le_of_ble_eq_true rfl⟩ (by subst hR; exact ⟨rfl, Nat.succ_ne_zero _, ((hX.kept (fun q h4 _ => hk q h4 id)).mono (fun q _ z => hFa q z) (fN_E hFE hG0.2.2.1))⟩)
      · obtain ⟨rfl, hc9, rfl⟩ := hP
        have hS := hS9
        clear hS9
        rw [if_pos hc9] at hR
        have k3 := hc9
        refine W.eq (g2 := F0 m 17 ls []) rfl ?_
        refine lv_iload hx hb dX1_player_17 (lv_at hl 4 rfl) ?_
        refine lv_iconst (v := 1) hx hb dX1_player_19 (by decide) ?_
        refine lv_bipush (v := 99) hx hb dX1_player_20 (by decide) ?_
        have hB := hS.1
        refine xcS (As := [.int (z), .int 1, .int 99]) (rest := []) hS0 (met_X1_mustBeIn l D E hlf z 1 99 _) q860 q861 q100 q862 hd_X1_mustBeIn ⟨Nat.le_of_ble_eq_true rfl, Nat.le_of_ble_eq_true rfl⟩ hG rfl rfl hl.1 rfl (Nat.le_of_ble_eq_true rfl) dX1_player_22 ⟨Nat.le_of_ble_eq_true rfl, Nat.le_of_ble_eq_true rfl⟩ hS (fun q h => h.elim) (fun q h => h.elim) (fun X ce q9 H1 locs1 hP hz hk hS9 h1 h2 h3 => ?_) (fun v H1 locs1 hP hz hk hS9 => ?_)
        · obtain ⟨rfl, hc9⟩ := hP
          have hS := hS9
          clear hS9
          rw [if_neg hc9] at hR
          exact x_out hex hlocks h1 h2 h3 hS ⟨Nat.le_of_ble_eq_true rfl, Nat.le_of_ble_eq_true rfl⟩ (by subst hR; exact ⟨rfl, Nat.succ_ne_zero _, ((hX.kept (fun q h4 _ => hk q h4 id)).mono (fun q _ z => hFa q z) (fN_E hFE hG0.2.2.1))⟩)
        · obtain ⟨rfl, hc9, rfl⟩ := hP
          have hS := hS9
          clear hS9
          rw [if_pos hc9] at hR
          have k4 := hc9
          refine W.eq (g2 := F0 m 25 ls []) rfl ?_
          refine lv_aload_n hx hb dX1_player_25 rfl (lv_at hl 0 rfl) ?_
          refine gf (v := .ref (α 1 0)) (C := RX1) (T := TX1) (N := 6) (k := 0) hx hb hts hown hG cl_X1 in_X1 hX.ag (by decide) q301 rfl dX1_player_26 ?_
          refine pcF (x := xL_size) (ci := 13) (As := []) (rest := []) hG.fw_size hS0 (met_xl_size l D E (j := 0) (by decide)) q331 q334 q336 q103 q338 hd_xL_size ⟨Nat.le_of_ble_eq_true rfl, Nat.le_of_ble_eq_true rfl⟩ hG cl_J2 (hX.lsR hG (j := 0) (by decide)) hX rfl hl.1 rfl (Nat.le_of_ble_eq_true rfl) dX1_player_29 ⟨Nat.le_of_ble_eq_true rfl, Nat.le_of_ble_eq_true rfl⟩ ?_
          refine W.eq (g2 := F0 m 34 ls [.int (nI (nP σ))]) rfl ?_
          refine lv_bipush (v := 10) hx hb dX1_player_34 (by decide) ?_
          refine lv_icmp_ge (tgt := 43) hx hb dX1_player_36 (by decide) (fun c5 => ?_) (fun c5 => ?_)
          · rw [if_pos c5] at hR
            refine lv_iconst (v := 0) hx hb dX1_player_43 (by decide) ?_
            have hB := hS.1
            refine xcS (As := [.int 0]) (rest := []) hS0 (met_X1_checkState l D E hlf false _) q885 q886 q100 q887 hd_X1_checkState ⟨Nat.le_of_ble_eq_true rfl, Nat.le_of_ble_eq_true rfl⟩ hG rfl rfl hl.1 rfl (Nat.le_of_ble_eq_true rfl) dX1_player_44 ⟨Nat.le_of_ble_eq_true rfl, Nat.le_of_ble_eq_true rfl⟩ hS (fun q h => h.elim) (fun q h => h.elim) (fun X ce q9 H1 locs1 hP hz hk hS9 h1 h2 h3 => ?_) (fun v H1 locs1 hP hz hk hS9 => ?_)
            · obtain ⟨rfl, hc9⟩ := hP
              have hS := hS9
              clear hS9
              exact x_out hex hlocks h1 h2 h3 hS ⟨Nat.le_of_ble_eq_true rfl, Nat.le_of_ble_eq_true rfl⟩ (by subst hR; exact ⟨rfl, Nat.succ_ne_zero _, ((hX.kept (fun q h4 _ => hk q h4 id)).mono (fun q _ z => hFa q z) (fN_E hFE hG0.2.2.1))⟩)
            · exact absurd hP.2.1 (by decide)
          · rw [if_neg c5] at hR
            refine lv_iconst (v := 1) hx hb dX1_player_39 (by decide) ?_
            refine lv_goto (tgt := 44) hx hb dX1_player_40 (by decide) ?_
            have hB := hS.1
            refine xcS (As := [.int 1]) (rest := []) hS0 (met_X1_checkState l D E hlf true _) q885 q886 q100 q887 hd_X1_checkState ⟨Nat.le_of_ble_eq_true rfl, Nat.le_of_ble_eq_true rfl⟩ hG rfl rfl hl.1 rfl (Nat.le_of_ble_eq_true rfl) dX1_player_44 ⟨Nat.le_of_ble_eq_true rfl, Nat.le_of_ble_eq_true rfl⟩ hS (fun q h => h.elim) (fun q h => h.elim) (fun X ce q9 H1 locs1 hP hz hk hS9 h1 h2 h3 => ?_) (fun v H1 locs1 hP hz hk hS9 => ?_)
            · exact absurd rfl hP.2
            · obtain ⟨rfl, hc9, rfl⟩ := hP
              have hS := hS9
              clear hS9
              refine W.eq (g2 := F0 m 47 ls []) rfl ?_
              refine lv_aload_n hx hb dX1_player_47 rfl (lv_at hl 0 rfl) ?_
              refine gf (v := .ref (α 1 0)) (C := RX1) (T := TX1) (N := 6) (k := 0) hx hb hts hown hG cl_X1 in_X1 hX.ag (by decide) q301 rfl dX1_player_48 ?_
              have hB := hS.1
              refine nw (ci := 5) (C := RX6) (T := TX6) (N := 7) (fs := [.int 0, .int 0, .int 0, .int 0, .int 0, .int 0, .null]) (ty := tyX6) hx hb hts hown hG hS cl_X6 in_X6 tyX6_ok q362 q903 q120 (df_X6) ⟨Nat.le_of_ble_eq_true rfl, Nat.le_of_ble_eq_true rfl⟩ dX1_player_51 (fun q51 H1 hq9 hT_t51 hz ho hS => ?_)
              have hX := hX.kept (fun q h4 _ => ho q h4)
              have hG := gE.ofS hG0 hS hFE
              have hge_t51 : s.heap.size ≤ q51 := by have := hB; omega
              have hd_t51 : ¬ Fc q51 := fun z => by have := hFb _ z; omega
              refine lv_dup hx hb dX1_player_54 rfl ?_
              refine lv_iload_n hx hb dX1_player_55 rfl (lv_at hl 1 rfl) ?_
              refine lv_iload_n hx hb dX1_player_56 rfl (lv_at hl 2 rfl) ?_
              refine lv_iload_n hx hb dX1_player_57 rfl (lv_at hl 3 rfl) ?_
              refine lv_eq nk1.1 ?_
              refine lv_iload hx hb dX1_player_58 (lv_at hl 4 rfl) ?_
              have hB := hS.1
              have hL_t51 : q51 < _ := hT_t51.lt
              refine gcI (As := [.int (a), .int (b), .int (nI ((Int32.toNatClampNeg c_))), .int (z)]) (rest := [.ref (q51), .ref (α 1 0)]) hS0 (met_X6_init l D E q51 a b (nI ((Int32.toNatClampNeg c_))) z) q904 q905 q120 q906 rfl hd_X6_init ⟨Nat.le_of_ble_eq_true rfl, Nat.le_of_ble_eq_true rfl⟩ hG ⟨hT_t51, (Nat.le_trans hG0.2.2.1 hge_t51)⟩ rfl hl.1 rfl (Nat.le_of_ble_eq_true rfl) dX1_player_60 ⟨Nat.le_of_ble_eq_true rfl, Nat.le_of_ble_eq_true rfl⟩ hS (fun q h => by have h : q = q51 := h; rw [h]; exact (Or.inr hge_t51)) (fun q h => by have h : q = q51 := h; rw [h]; exact (Or.inr hge_t51)) (fun v H1 locs1 hP hz hk hS => ?_)
              obtain ⟨rfl, qt8_60, hq9_0, hT9, hT_t8_60⟩ := hP
              have hX := hX.kept (fun q h4 h5 => hk q h4 (fun e9 => hd_t51 (e9 ▸ h5)))
              have hT_t51 : va_at D vwCl (q51, .inr (5, [.int (a), .int (nI ((Int32.toNatClampNeg c_))), .int (z), .int (b), .int 0, .int 0, .ref (qt8_60)])) H1 := hT9
              have hG := gE.ofS hG0 hS hFE
              have hne_t51_t8_60 : q51 ≠ qt8_60 := by have h9 := hL_t51; omega
              have hge_t8_60 : s.heap.size ≤ qt8_60 := by have := hB; omega
              have hd_t8_60 : ¬ Fc qt8_60 := fun z => by have := hFb _ z; omega
              refine W.eq (g2 := F0 m 63 ls [.ref (q51), .ref (α 1 0)]) rfl ?_
              have hB := hS.1
              have hL_t51 : q51 < _ := hT_t51.lt
              have hL_t8_60 : qt8_60 < _ := hT_t8_60.lt
              refine gcF (x := xL_add) (ci := 13) (As := [.ref (q51)]) (rest := []) hG.fw_add hS0 (met_xaddP l D E q51 qt8_60 a z b ((Int32.toNatClampNeg c_))) q224 q228 q230 q103 q232 hd_xL_add ⟨Nat.le_of_ble_eq_true rfl, Nat.le_of_ble_eq_true rfl⟩ hG cl_J2 (hX.lsR hG (j := 0) (by decide)) ⟨hX, hT_t51, hd_t51, (Nat.le_trans hG0.2.2.1 hge_t51), hT_t8_60, hd_t8_60, (Nat.le_trans hG0.2.2.1 hge_t8_60), hne_t51_t8_60, (nlt_of (k := 10) (by decide) (by have := hX.nP10; omega) c5), nk1.2, (fun q z => by have := hFb q z; omega)⟩ rfl hl.1 rfl (Nat.le_of_ble_eq_true rfl) dX1_player_63 ⟨Nat.le_of_ble_eq_true rfl, Nat.le_of_ble_eq_true rfl⟩ hS (fun q h => hFa q h) (fun q h => hFa q h) (fun v H1 locs1 hP hz hk hS => ?_)
              obtain ⟨rfl, α, hα1, hX⟩ := hP
              rw [← hα1] at hl
              obtain ⟨σ1, hσ1⟩ : ∃ x, x = adP σ a z b ((Int32.toNatClampNeg c_)) := ⟨_, rfl⟩
              rw [← hσ1] at hR hX
              try dsimp only at hR
              obtain ⟨Fd, hX, hFn⟩ := hX.nar
              have hFa : ∀ q, Fd q → fN F s.heap.size q := fun q h7 => by
                rcases (hFn q h7).1 with h8 | rfl | rfl | h8
                · exact hFa q h8
                · exact Or.inr hge_t51
                · exact Or.inr hge_t8_60
                · exact Or.inr (by have := hB; omega)
              have hFb : ∀ q, Fd q → q < H1.size := fun q z => (hFn q z).2
              clear hFn
              generalize Fd = Fc at hX hFa hFb
              have hG := gE.ofS hG0 hS hFE
              refine W.eq (g2 := F0 m 68 ls [.int 1]) rfl ?_
              refine lv_pop hx hb dX1_player_68 rfl ?_
              refine lv_aload_n hx hb dX1_player_69 rfl (lv_at hl 0 rfl) ?_
              refine gf (v := .ref (α 1 0)) (C := RX1) (T := TX1) (N := 6) (k := 0) hx hb hts hown hG cl_X1 in_X1 hX.ag (by decide) q301 rfl dX1_player_70 ?_
              refine pcF (x := xL_size) (ci := 13) (As := []) (rest := []) hG.fw_size hS0 (met_xl_size l D E (j := 0) (by decide)) q331 q334 q336 q103 q338 hd_xL_size ⟨Nat.le_of_ble_eq_true rfl, Nat.le_of_ble_eq_true rfl⟩ hG cl_J2 (hX.lsR hG (j := 0) (by decide)) hX rfl hl.1 rfl (Nat.le_of_ble_eq_true rfl) dX1_player_73 ⟨Nat.le_of_ble_eq_true rfl, Nat.le_of_ble_eq_true rfl⟩ ?_
              refine W.eq (g2 := F0 m 78 ls [.int (nI (nP σ1))]) rfl ?_
              refine lv_iconst (v := 1) hx hb dX1_player_78 (by decide) ?_
              refine lv_isub hx hb dX1_player_79 ?_
              exact vx_ret (g_iret hx hb hr hlocks hS ⟨Nat.le_of_ble_eq_true rfl, Nat.le_of_ble_eq_true rfl⟩ dX1_player_80 (by subst hR; exact ⟨rfl, rfl, α, hα1, hX.mono (fun q _ z => hFa q z) (fN_E hFE hG0.2.2.1)⟩))

def fX1_ask (σ : St) (a : Int32) (b : Int32) (c_ : Int32) (d_ : Int32) (e_ : Int32) (z : Int32) : Nat × Int32 × St :=
  (if 0 ≤ a ∧ a < (nI (nB σ)) then (if 0 ≤ c_ ∧ c_ < 6 then (if (tod σ) ≤ b ∧ b ≤ 365 then (if 10 ≤ d_ ∧ d_ ≤ 22 then (if 1 ≤ e_ ∧ e_ ≤ 6 then (if 24 < (d_ + e_) then (2, 0, σ) else (if 0 ≤ z ∧ z ≤ 65535 then (if 14 ≤ (nI (nW σ)) then (3, 0, σ) else (if ((fX1_isFixed σ (nI ((Int32.toNatClampNeg a))) (nI ((Int32.toNatClampNeg b))))) = true then (3, 0, σ) else (fun (σ1 : St) => (0, (nI (nW σ1)) - 1, σ1)) (adW σ ((Int32.toNatClampNeg a)) ((Int32.toNatClampNeg b)) ((Int32.toNatClampNeg c_)) d_ e_ z (tod σ)))) else (2, 0, σ))) else (2, 0, σ)) else (2, 0, σ)) else (2, 0, σ)) else (1, 0, σ)) else (1, 0, σ))
set_option maxHeartbeats 4000000 in
set_option maxRecDepth 100000 in
theorem met_X1_ask (l : Launch) (D : va_G) (E : Nat → Nat) (hlf : l.stackTraces = false) {α : Nat → Nat → Nat} {F : Nat → Prop} {σ : St} (a : Int32) (b : Int32) (c_ : Int32) (d_ : Int32) (e_ : Int32) (z : Int32) (h0 : 0 ≤ tod σ) : XM l D E yX1_ask cX1_ask 7 (Option.some Jvm.ClassFile.FieldType.int) 9 171 10 160 [.ref (α 0 0), .int (a), .int (b), .int (c_), .int (d_), .int (e_), .int (z)] (RX D E α F σ) F F (fun sz v h => (fX1_ask σ a b c_ d_ e_ z).1 = 0 ∧ v = some (.int (fX1_ask σ a b c_ d_ e_ z).2.1) ∧ ∃ α1 : Nat → Nat → Nat, α1 0 0 = α 0 0 ∧ RX D E α1 (fN F sz) (fX1_ask σ a b c_ d_ e_ z).2.2 h) (fun sz X h => X = exN (fX1_ask σ a b c_ d_ e_ z).1 ∧ (fX1_ask σ a b c_ d_ e_ z).1 ≠ 0 ∧ RX D E α (fN F sz) σ h) := by
  generalize hR : fX1_ask σ a b c_ d_ e_ z = r
  refine XM.start (by decide) (Nat.le_of_ble_eq_true rfl) ?_
  intro p e s m below meth c ls hx hb hr hml hown hlocks hex hts hG hX hS hl
  have hown : s.vm.findClass RX1 = some m.cls := hown
  have hS0 : xS p m c cX1_ask 7 s _ RX1 := ⟨hx, hb, hml, hown, hts⟩
  have hl : lv_has ls 7 [(0, .ref (α 0 0)), (1, .int (a)), (2, .int (b)), (3, .int (c_)), (4, .int (d_)), (5, .int (e_)), (6, .int (z))] := hl
  have hG0 := hG
  have hX0 := hX
  have hb0P := hX0.nP10
  have hb0B := hX0.nB6
  have hb0W := hX0.nW14
  have hFE := hX.fE
  obtain ⟨Fc, hX, hFn⟩ := hX.nar
  have hFa : ∀ q, Fc q → fN F s.heap.size q := fun q z => Or.inl (hFn q z).1
  have hFb : ∀ q, Fc q → q < s.heap.size := fun q z => (hFn q z).2
  have hcn : cnt σ σ := cnt.rf
  unfold fX1_ask at hR
  refine lv_iload_n hx hb dX1_ask_0 rfl (lv_at hl 1 rfl) ?_
  refine lv_aload_n hx hb dX1_ask_1 rfl (lv_at hl 0 rfl) ?_
  refine gf (v := .ref (α 1 2)) (C := RX1) (T := TX1) (N := 6) (k := 3) hx hb hts hown hG cl_X1 in_X1 hX.ag (by decide) q305 rfl dX1_ask_2 ?_
  refine pcF (x := xL_size) (ci := 13) (As := []) (rest := [.int (a)]) hG.fw_size hS0 (met_xl_size l D E (j := 2) (by decide)) q331 q334 q336 q103 q338 hd_xL_size ⟨Nat.le_of_ble_eq_true rfl, Nat.le_of_ble_eq_true rfl⟩ hG cl_J2 (hX.lsR hG (j := 2) (by decide)) hX rfl hl.1 rfl (Nat.le_of_ble_eq_true rfl) dX1_ask_5 ⟨Nat.le_of_ble_eq_true rfl, Nat.le_of_ble_eq_true rfl⟩ ?_
  refine W.eq (g2 := F0 m 10 ls [.int (nI (nB σ)), .int (a)]) rfl ?_
  have hB := hS.1
  refine xcS (As := [.int (a), .int (nI (nB σ))]) (rest := []) hS0 (met_X1_checkPlace l D E hlf a (nI (nB σ)) _) q836 q837 q100 q838 hd_X1_checkPlace ⟨Nat.le_of_ble_eq_true rfl, Nat.le_of_ble_eq_true rfl⟩ hG rfl rfl hl.1 rfl (Nat.le_of_ble_eq_true rfl) dX1_ask_10 ⟨Nat.le_of_ble_eq_true rfl, Nat.le_of_ble_eq_true rfl⟩ hS (fun q h => h.elim) (fun q h => h.elim) (fun X ce q9 H1 locs1 hP hz hk hS9 h1 h2 h3 => ?_) (fun v H1 locs1 hP hz hk hS9 => ?_)
  · obtain ⟨rfl, hc9⟩ := hP
    have hS := hS9
    clear hS9
    rw [if_neg hc9] at hR
    exact x_out hex hlocks h1 h2 h3 hS ⟨Nat.le_of_ble_eq_true rfl, Nat.le_of_ble_eq_true rfl⟩ (by subst hR; exact ⟨rfl, Nat.succ_ne_zero _, ((hX.kept (fun q h4 _ => hk q h4 id)).mono (fun q _ z => hFa q z) (fN_E hFE hG0.2.2.1))⟩)
  · obtain ⟨rfl, hc9, rfl⟩ := hP
    have hS := hS9
    clear hS9
    rw [if_pos hc9] at hR
    have k1 := hc9
    have nk1 := ck_ix k1 (by have := hX.nP10; have := hX.nW14; have := hX.nB6; omega)
    refine W.eq (g2 := F0 m 13 ls []) rfl ?_
    refine lv_iload_n hx hb dX1_ask_13 rfl (lv_at hl 3 rfl) ?_
    refine lv_bipush (v := 6) hx hb dX1_ask_14 (by decide) ?_
    have hB := hS.1
    refine xcS (As := [.int (c_), .int 6]) (rest := []) hS0 (met_X1_checkPlace l D E hlf c_ 6 _) q836 q837 q100 q838 hd_X1_checkPlace ⟨Nat.le_of_ble_eq_true rfl, Nat.le_of_ble_eq_true rfl⟩ hG rfl rfl hl.1 rfl (Nat.le_of_ble_eq_true rfl) dX1_ask_16 ⟨Nat.le_of_ble_eq_true rfl, Nat.le_of_ble_eq_true rfl⟩ hS (fun q h => h.elim) (fun q h => h.elim) (fun X ce q9 H1 locs1 hP hz hk hS9 h1 h2 h3 => ?_) (fun v H1 locs1 hP hz hk hS9 => ?_)
    · obtain ⟨rfl, hc9⟩ := hP
      have hS := hS9
      clear hS9
      rw [if_neg hc9] at hR
      exact x_out hex hlocks h1 h2 h3 hS ⟨Nat.le_of_ble_eq_true rfl, Nat.le_of_ble_eq_true rfl⟩ (by subst hR; exact ⟨rfl, Nat.succ_ne_zero _, ((hX.kept (fun q h4 _ => hk q h4 id)).mono (fun q _ z => hFa q z) (fN_E hFE hG0.2.2.1))⟩)
    · obtain ⟨rfl, hc9, rfl⟩ := hP
      have hS := hS9
      clear hS9
      rw [if_pos hc9] at hR
      have k2 := hc9
      have nk2 := ck_ix k2 (by decide)
      refine W.eq (g2 := F0 m 19 ls []) rfl ?_
      refine lv_iload_n hx hb dX1_ask_19 rfl (lv_at hl 2 rfl) ?_
      refine lv_aload_n hx hb dX1_ask_20 rfl (lv_at hl 0 rfl) ?_
      refine gf (v := .int (tod σ)) (C := RX1) (T := TX1) (N := 6) (k := 5) hx hb hts hown hG cl_X1 in_X1 hX.ag (by decide) q308 rfl dX1_ask_21 ?_
      refine lv_sipush (v := 365) hx hb dX1_ask_24 (by decide) ?_
      have hB := hS.1
      refine xcS (As := [.int (b), .int (tod σ), .int 365]) (rest := []) hS0 (met_X1_mustBeIn l D E hlf b (tod σ) 365 _) q860 q861 q100 q862 hd_X1_mustBeIn ⟨Nat.le_of_ble_eq_true rfl, Nat.le_of_ble_eq_true rfl⟩ hG rfl rfl hl.1 rfl (Nat.le_of_ble_eq_true rfl) dX1_ask_27 ⟨Nat.le_of_ble_eq_true rfl, Nat.le_of_ble_eq_true rfl⟩ hS (fun q h => h.elim) (fun q h => h.elim) (fun X ce q9 H1 locs1 hP hz hk hS9 h1 h2 h3 => ?_) (fun v H1 locs1 hP hz hk hS9 => ?_)
      · obtain ⟨rfl, hc9⟩ := hP
        have hS := hS9
        clear hS9
        rw [if_neg hc9] at hR
        exact x_out hex hlocks h1 h2 h3 hS ⟨Nat.le_of_ble_eq_true rfl, Nat.le_of_ble_eq_true rfl⟩ (by subst hR; exact ⟨rfl, Nat.succ_ne_zero _, ((hX.kept (fun q h4 _ => hk q h4 id)).mono (fun q _ z => hFa q z) (fN_E hFE hG0.2.2.1))⟩)
      · obtain ⟨rfl, hc9, rfl⟩ := hP
        have hS := hS9
        clear hS9
        rw [if_pos hc9] at hR
        have k3 := hc9
        have nk3 := mb_ix (n := 365) (by decide) ⟨Int32.le_trans h0 k3.1, k3.2⟩
        refine W.eq (g2 := F0 m 30 ls []) rfl ?_
        refine lv_iload hx hb dX1_ask_30 (lv_at hl 4 rfl) ?_
        refine lv_bipush (v := 10) hx hb dX1_ask_32 (by decide) ?_
        refine lv_bipush (v := 22) hx hb dX1_ask_34 (by decide) ?_
        have hB := hS.1
        refine xcS (As := [.int (d_), .int 10, .int 22]) (rest := []) hS0 (met_X1_mustBeIn l D E hlf d_ 10 22 _) q860 q861 q100 q862 hd_X1_mustBeIn ⟨Nat.le_of_ble_eq_true rfl, Nat.le_of_ble_eq_true rfl⟩ hG rfl rfl hl.1 rfl (Nat.le_of_ble_eq_true rfl) dX1_ask_36 ⟨Nat.le_of_ble_eq_true rfl, Nat.le_of_ble_eq_true rfl⟩ hS (fun q h => h.elim) (fun q h => h.elim) (fun X ce q9 H1 locs1 hP hz hk hS9 h1 h2 h3 => ?_) (fun v H1 locs1 hP hz hk hS9 => ?_)
        · obtain ⟨rfl, hc9⟩ := hP
          have hS := hS9
          clear hS9
          rw [if_neg hc9] at hR
          exact x_out hex hlocks h1 h2 h3 hS ⟨Nat.le_of_ble_eq_true rfl, Nat.le_of_ble_eq_true rfl⟩ (by subst hR; exact ⟨rfl, Nat.succ_ne_zero _, ((hX.kept (fun q h4 _ => hk q h4 id)).mono (fun q _ z => hFa q z) (fN_E hFE hG0.2.2.1))⟩)
        · obtain ⟨rfl, hc9, rfl⟩ := hP
          have hS := hS9
          clear hS9
          rw [if_pos hc9] at hR
          have k4 := hc9
          refine W.eq (g2 := F0 m 39 ls []) rfl ?_
          refine lv_iload hx hb dX1_ask_39 (lv_at hl 5 rfl) ?_
          refine lv_iconst (v := 1) hx hb dX1_ask_41 (by decide) ?_
          refine lv_bipush (v := 6) hx hb dX1_ask_42 (by decide) ?_
          have hB := hS.1
          refine xcS (As := [.int (e_), .int 1, .int 6]) (rest := []) hS0 (met_X1_mustBeIn l D E hlf e_ 1 6 _) q860 q861 q100 q862 hd_X1_mustBeIn ⟨Nat.le_of_ble_eq_true rfl, Nat.le_of_ble_eq_true rfl⟩ hG rfl rfl hl.1 rfl (Nat.le_of_ble_eq_true rfl) dX1_ask_44 ⟨Nat.le_of_ble_eq_true rfl, Nat.le_of_ble_eq_true rfl⟩ hS (fun q h => h.elim) (fun q h => h.elim) (fun X ce q9 H1 locs1 hP hz hk hS9 h1 h2 h3 => ?_) (fun v H1 locs1 hP hz hk hS9 => ?_)
          · obtain ⟨rfl, hc9⟩ := hP
            have hS := hS9
            clear hS9
            rw [if_neg hc9] at hR
            exact x_out hex hlocks h1 h2 h3 hS ⟨Nat.le_of_ble_eq_true rfl, Nat.le_of_ble_eq_true rfl⟩ (by subst hR; exact ⟨rfl, Nat.succ_ne_zero _, ((hX.kept (fun q h4 _ => hk q h4 id)).mono (fun q _ z => hFa q z) (fN_E hFE hG0.2.2.1))⟩)
          · obtain ⟨rfl, hc9, rfl⟩ := hP
            have hS := hS9
            clear hS9
            rw [if_pos hc9] at hR
            have k5 := hc9
            refine W.eq (g2 := F0 m 47 ls []) rfl ?_
            refine lv_iload hx hb dX1_ask_47 (lv_at hl 4 rfl) ?_
            refine lv_iload hx hb dX1_ask_49 (lv_at hl 5 rfl) ?_
            refine lv_iadd hx hb dX1_ask_51 ?_
            refine lv_bipush (v := 24) hx hb dX1_ask_52 (by decide) ?_
            refine lv_icmp_gt (tgt := 61) hx hb dX1_ask_54 (by decide) (fun c6 => ?_) (fun c6 => ?_)
            · rw [if_pos c6] at hR
              refine lv_iconst (v := 0) hx hb dX1_ask_61 (by decide) ?_
              have hB := hS.1
              refine xcS (As := [.int 0]) (rest := []) hS0 (met_X1_must l D E hlf false _) q863 q864 q100 q865 hd_X1_must ⟨Nat.le_of_ble_eq_true rfl, Nat.le_of_ble_eq_true rfl⟩ hG rfl rfl hl.1 rfl (Nat.le_of_ble_eq_true rfl) dX1_ask_62 ⟨Nat.le_of_ble_eq_true rfl, Nat.le_of_ble_eq_true rfl⟩ hS (fun q h => h.elim) (fun q h => h.elim) (fun X ce q9 H1 locs1 hP hz hk hS9 h1 h2 h3 => ?_) (fun v H1 locs1 hP hz hk hS9 => ?_)
              · obtain ⟨rfl, hc9⟩ := hP
                have hS := hS9
                clear hS9
                exact x_out hex hlocks h1 h2 h3 hS ⟨Nat.le_of_ble_eq_true rfl, Nat.le_of_ble_eq_true rfl⟩ (by subst hR; exact ⟨rfl, Nat.succ_ne_zero _, ((hX.kept (fun q h4 _ => hk q h4 id)).mono (fun q _ z => hFa q z) (fN_E hFE hG0.2.2.1))⟩)
              · exact absurd hP.2.1 (by decide)
            · rw [if_neg c6] at hR
              refine lv_iconst (v := 1) hx hb dX1_ask_57 (by decide) ?_
              refine lv_goto (tgt := 62) hx hb dX1_ask_58 (by decide) ?_
              have hB := hS.1
              refine xcS (As := [.int 1]) (rest := []) hS0 (met_X1_must l D E hlf true _) q863 q864 q100 q865 hd_X1_must ⟨Nat.le_of_ble_eq_true rfl, Nat.le_of_ble_eq_true rfl⟩ hG rfl rfl hl.1 rfl (Nat.le_of_ble_eq_true rfl) dX1_ask_62 ⟨Nat.le_of_ble_eq_true rfl, Nat.le_of_ble_eq_true rfl⟩ hS (fun q h => h.elim) (fun q h => h.elim) (fun X ce q9 H1 locs1 hP hz hk hS9 h1 h2 h3 => ?_) (fun v H1 locs1 hP hz hk hS9 => ?_)
              · exact absurd rfl hP.2
              · obtain ⟨rfl, hc9, rfl⟩ := hP
                have hS := hS9
                clear hS9
                refine W.eq (g2 := F0 m 65 ls []) rfl ?_
                refine lv_iload hx hb dX1_ask_65 (lv_at hl 6 rfl) ?_
                have hB := hS.1
                refine xcS (As := [.int (z)]) (rest := []) hS0 (met_X1_mustBeSongs l D E hlf z _) q881 q882 q100 q883 hd_X1_mustBeSongs ⟨Nat.le_of_ble_eq_true rfl, Nat.le_of_ble_eq_true rfl⟩ hG rfl rfl hl.1 rfl (Nat.le_of_ble_eq_true rfl) dX1_ask_67 ⟨Nat.le_of_ble_eq_true rfl, Nat.le_of_ble_eq_true rfl⟩ hS (fun q h => h.elim) (fun q h => h.elim) (fun X ce q9 H1 locs1 hP hz hk hS9 h1 h2 h3 => ?_) (fun v H1 locs1 hP hz hk hS9 => ?_)
                · obtain ⟨rfl, hc9⟩ := hP
                  have hS := hS9
                  clear hS9
                  rw [if_neg hc9] at hR
                  exact x_out hex hlocks h1 h2 h3 hS ⟨Nat.le_of_ble_eq_true rfl, Nat.le_of_ble_eq_true rfl⟩ (by subst hR; exact ⟨rfl, Nat.succ_ne_zero _, ((hX.kept (fun q h4 _ => hk q h4 id)).mono (fun q _ z => hFa q z) (fN_E hFE hG0.2.2.1))⟩)
                · obtain ⟨rfl, hc9, rfl⟩ := hP
                  have hS := hS9
                  clear hS9
                  rw [if_pos hc9] at hR
                  have k8 := hc9
                  refine W.eq (g2 := F0 m 70 ls []) rfl ?_
                  refine lv_aload_n hx hb dX1_ask_70 rfl (lv_at hl 0 rfl) ?_
                  refine gf (v := .ref (α 1 3)) (C := RX1) (T := TX1) (N := 6) (k := 4) hx hb hts hown hG cl_X1 in_X1 hX.ag (by decide) q307 rfl dX1_ask_71 ?_
                  refine pcF (x := xL_size) (ci := 13) (As := []) (rest := []) hG.fw_size hS0 (met_xl_size l D E (j := 3) (by decide)) q331 q334 q336 q103 q338 hd_xL_size ⟨Nat.le_of_ble_eq_true rfl, Nat.le_of_ble_eq_true rfl⟩ hG cl_J2 (hX.lsR hG (j := 3) (by decide)) hX rfl hl.1 rfl (Nat.le_of_ble_eq_true rfl) dX1_ask_74 ⟨Nat.le_of_ble_eq_true rfl, Nat.le_of_ble_eq_true rfl⟩ ?_
                  refine W.eq (g2 := F0 m 79 ls [.int (nI (nW σ))]) rfl ?_
                  refine lv_bipush (v := 14) hx hb dX1_ask_79 (by decide) ?_
                  refine lv_icmp_ge (tgt := 97) hx hb dX1_ask_81 (by decide) (fun c9 => ?_) (fun c9 => ?_)
                  · rw [if_pos c9] at hR
                    refine lv_iconst (v := 0) hx hb dX1_ask_97 (by decide) ?_
                    have hB := hS.1
                    refine xcS (As := [.int 0]) (rest := []) hS0 (met_X1_checkState l D E hlf false _) q885 q886 q100 q887 hd_X1_checkState ⟨Nat.le_of_ble_eq_true rfl, Nat.le_of_ble_eq_true rfl⟩ hG rfl rfl hl.1 rfl (Nat.le_of_ble_eq_true rfl) dX1_ask_98 ⟨Nat.le_of_ble_eq_true rfl, Nat.le_of_ble_eq_true rfl⟩ hS (fun q h => h.elim) (fun q h => h.elim) (fun X ce q9 H1 locs1 hP hz hk hS9 h1 h2 h3 => ?_) (fun v H1 locs1 hP hz hk hS9 => ?_)
                    · obtain ⟨rfl, hc9⟩ := hP
                      have hS := hS9
                      clear hS9
                      exact x_out hex hlocks h1 h2 h3 hS ⟨Nat.le_of_ble_eq_true rfl, Nat.le_of_ble_eq_true rfl⟩ (by subst hR; exact ⟨rfl, Nat.succ_ne_zero _, ((hX.kept (fun q h4 _ => hk q h4 id)).mono (fun q _ z => hFa q z) (fN_E hFE hG0.2.2.1))⟩)
                    · exact absurd hP.2.1 (by decide)
                  · rw [if_neg c9] at hR
                    refine lv_aload_n hx hb dX1_ask_84 rfl (lv_at hl 0 rfl) ?_
                    refine lv_iload_n hx hb dX1_ask_85 rfl (lv_at hl 1 rfl) ?_
                    refine lv_eq nk1.1 ?_
                    refine lv_iload_n hx hb dX1_ask_86 rfl (lv_at hl 2 rfl) ?_
                    refine lv_eq nk3.1 ?_
                    refine pcV (As := [.int (nI ((Int32.toNatClampNeg a))), .int (nI ((Int32.toNatClampNeg b)))]) (rest := []) hS0 (met_X1_isFixed l D E (nI ((Int32.toNatClampNeg a))) (nI ((Int32.toNatClampNeg b)))) q999 q1001 qs41 q100 q1002 hd_X1_isFixed ⟨Nat.le_of_ble_eq_true rfl, Nat.le_of_ble_eq_true rfl⟩ hG (rcv hG cl_X1 hX.ag) hX rfl hl.1 rfl (Nat.le_of_ble_eq_true rfl) dX1_ask_87 ⟨Nat.le_of_ble_eq_true rfl, Nat.le_of_ble_eq_true rfl⟩ ?_
                    refine W.eq (g2 := F0 m 90 ls [.int (bI ((fX1_isFixed σ (nI ((Int32.toNatClampNeg a))) (nI ((Int32.toNatClampNeg b))))))]) rfl ?_
                    refine lb_if_ne (tgt := 97) hx hb dX1_ask_90 (by decide) (fun c10 => ?_) (fun c10 => ?_)
                    · rw [if_pos c10] at hR
                      refine lv_iconst (v := 0) hx hb dX1_ask_97 (by decide) ?_
                      have hB := hS.1
                      refine xcS (As := [.int 0]) (rest := []) hS0 (met_X1_checkState l D E hlf false _) q885 q886 q100 q887 hd_X1_checkState ⟨Nat.le_of_ble_eq_true rfl, Nat.le_of_ble_eq_true rfl⟩ hG rfl rfl hl.1 rfl (Nat.le_of_ble_eq_true rfl) dX1_ask_98 ⟨Nat.le_of_ble_eq_true rfl, Nat.le_of_ble_eq_true rfl⟩ hS (fun q h => h.elim) (fun q h => h.elim) (fun X ce q9 H1 locs1 hP hz hk hS9 h1 h2 h3 => ?_) (fun v H1 locs1 hP hz hk hS9 => ?_)
                      · obtain ⟨rfl, hc9⟩ := hP
                        have hS := hS9
                        clear hS9
                        exact x_out hex hlocks h1 h2 h3 hS ⟨Nat.le_of_ble_eq_true rfl, Nat.le_of_ble_eq_true rfl⟩ (by subst hR; exact ⟨rfl, Nat.succ_ne_zero _, ((hX.kept (fun q h4 _ => hk q h4 id)).mono (fun q _ z => hFa q z) (fN_E hFE hG0.2.2.1))⟩)
                      · exact absurd hP.2.1 (by decide)
                    · rw [if_neg c10] at hR
                      refine lv_iconst (v := 1) hx hb dX1_ask_93 (by decide) ?_
                      refine lv_goto (tgt := 98) hx hb dX1_ask_94 (by decide) ?_
                      have hB := hS.1
                      refine xcS (As := [.int 1]) (rest := []) hS0 (met_X1_checkState l D E hlf true _) q885 q886 q100 q887 hd_X1_checkState ⟨Nat.le_of_ble_eq_true rfl, Nat.le_of_ble_eq_true rfl⟩ hG rfl rfl hl.1 rfl (Nat.le_of_ble_eq_true rfl) dX1_ask_98 ⟨Nat.le_of_ble_eq_true rfl, Nat.le_of_ble_eq_true rfl⟩ hS (fun q h => h.elim) (fun q h => h.elim) (fun X ce q9 H1 locs1 hP hz hk hS9 h1 h2 h3 => ?_) (fun v H1 locs1 hP hz hk hS9 => ?_)
                      · exact absurd rfl hP.2
                      · obtain ⟨rfl, hc9, rfl⟩ := hP
                        have hS := hS9
                        clear hS9
                        refine W.eq (g2 := F0 m 101 ls []) rfl ?_
                        refine lv_aload_n hx hb dX1_ask_101 rfl (lv_at hl 0 rfl) ?_
                        refine gf (v := .ref (α 1 3)) (C := RX1) (T := TX1) (N := 6) (k := 4) hx hb hts hown hG cl_X1 in_X1 hX.ag (by decide) q307 rfl dX1_ask_102 ?_
                        have hB := hS.1
                        refine nw (ci := 8) (C := RX10) (T := TX10) (N := 12) (fs := [.int 0, .int 0, .int 0, .int 0, .int 0, .int 0, .int 0, .null, .int 0, .int 0, .int 0, .int 0]) (ty := tyX10) hx hb hts hown hG hS cl_X10 in_X10 tyX10_ok q369 q1003 q130 (df_X10) ⟨Nat.le_of_ble_eq_true rfl, Nat.le_of_ble_eq_true rfl⟩ dX1_ask_105 (fun q105 H1 hq9 hT_t105 hz ho hS => ?_)
                        have hX := hX.kept (fun q h4 _ => ho q h4)
                        have hG := gE.ofS hG0 hS hFE
                        have hge_t105 : s.heap.size ≤ q105 := by have := hB; omega
                        have hd_t105 : ¬ Fc q105 := fun z => by have := hFb _ z; omega
                        refine lv_dup hx hb dX1_ask_108 rfl ?_
                        refine lv_iload_n hx hb dX1_ask_109 rfl (lv_at hl 1 rfl) ?_
                        refine lv_eq nk1.1 ?_
                        refine lv_iload_n hx hb dX1_ask_110 rfl (lv_at hl 2 rfl) ?_
                        refine lv_eq nk3.1 ?_
                        refine lv_iload_n hx hb dX1_ask_111 rfl (lv_at hl 3 rfl) ?_
                        refine lv_eq nk2.1 ?_
                        refine lv_iload hx hb dX1_ask_112 (lv_at hl 4 rfl) ?_
                        refine lv_iload hx hb dX1_ask_114 (lv_at hl 5 rfl) ?_
                        refine lv_iload hx hb dX1_ask_116 (lv_at hl 6 rfl) ?_
                        refine lv_aload_n hx hb dX1_ask_118 rfl (lv_at hl 0 rfl) ?_
                        refine gf (v := .int (tod σ)) (C := RX1) (T := TX1) (N := 6) (k := 5) hx hb hts hown hG cl_X1 in_X1 hX.ag (by decide) q308 rfl dX1_ask_119 ?_
                        have hB := hS.1
                        have hL_t105 : q105 < _ := hT_t105.lt
                        refine gcI (As := [.int (nI ((Int32.toNatClampNeg a))), .int (nI ((Int32.toNatClampNeg b))), .int (nI ((Int32.toNatClampNeg c_))), .int (d_), .int (e_), .int (z), .int (tod σ)]) (rest := [.ref (q105), .ref (α 1 3)]) hS0 (met_X10_init l D E q105 (nI ((Int32.toNatClampNeg a))) (nI ((Int32.toNatClampNeg b))) (nI ((Int32.toNatClampNeg c_))) d_ e_ z (tod σ)) q1004 q1005 q130 q1006 rfl hd_X10_init ⟨Nat.le_of_ble_eq_true rfl, Nat.le_of_ble_eq_true rfl⟩ hG ⟨hT_t105, (Nat.le_trans hG0.2.2.1 hge_t105)⟩ rfl hl.1 rfl (Nat.le_of_ble_eq_true rfl) dX1_ask_122 ⟨Nat.le_of_ble_eq_true rfl, Nat.le_of_ble_eq_true rfl⟩ hS (fun q h => by have h : q = q105 := h; rw [h]; exact (Or.inr hge_t105)) (fun q h => by have h : q = q105 := h; rw [h]; exact (Or.inr hge_t105)) (fun v H1 locs1 hP hz hk hS => ?_)
                        obtain ⟨rfl, hT9⟩ := hP
                        have hX := hX.kept (fun q h4 h5 => hk q h4 (fun e9 => hd_t105 (e9 ▸ h5)))
                        have hT_t105 : va_at D vwCl (q105, .inr (8, [.int (nI ((Int32.toNatClampNeg a))), .int (nI ((Int32.toNatClampNeg b))), .int (nI ((Int32.toNatClampNeg c_))), .int (d_), .int (e_), .int (z), .int (tod σ), .ref (E (10 + 0)), .int 0, .int 0, .int 0, .int 0])) H1 := hT9
                        have hG := gE.ofS hG0 hS hFE
                        refine W.eq (g2 := F0 m 125 ls [.ref (q105), .ref (α 1 3)]) rfl ?_
                        have hB := hS.1
                        have hL_t105 : q105 < _ := hT_t105.lt
                        refine gcF (x := xL_add) (ci := 13) (As := [.ref (q105)]) (rest := []) hG.fw_add hS0 (met_xaddW l D E q105 ((Int32.toNatClampNeg a)) ((Int32.toNatClampNeg b)) ((Int32.toNatClampNeg c_)) d_ e_ z (tod σ)) q224 q228 q230 q103 q232 hd_xL_add ⟨Nat.le_of_ble_eq_true rfl, Nat.le_of_ble_eq_true rfl⟩ hG cl_J2 (hX.lsR hG (j := 3) (by decide)) ⟨hX, hT_t105, hd_t105, (Nat.le_trans hG0.2.2.1 hge_t105), (nlt_of (k := 14) (by decide) (by have := hX.nW14; omega) c9), nk1.2, nk3.2, nk2.2, (fun q z => by have := hFb q z; omega)⟩ rfl hl.1 rfl (Nat.le_of_ble_eq_true rfl) dX1_ask_125 ⟨Nat.le_of_ble_eq_true rfl, Nat.le_of_ble_eq_true rfl⟩ hS (fun q h => hFa q h) (fun q h => hFa q h) (fun v H1 locs1 hP hz hk hS => ?_)
                        obtain ⟨rfl, α, hα1, hX⟩ := hP
                        rw [← hα1] at hl
                        obtain ⟨σ1, hσ1⟩ : ∃ x, x = adW σ ((Int32.toNatClampNeg a)) ((Int32.toNatClampNeg b)) ((Int32.toNatClampNeg c_)) d_ e_ z (tod σ) := ⟨_, rfl⟩
                        rw [← hσ1] at hR hX
                        try dsimp only at hR
                        obtain ⟨Fd, hX, hFn⟩ := hX.nar
                        have hFa : ∀ q, Fd q → fN F s.heap.size q := fun q h7 => by
                          rcases (hFn q h7).1 with h8 | rfl | h8
                          · exact hFa q h8
                          · exact Or.inr hge_t105
                          · exact Or.inr (by have := hB; omega)
                        have hFb : ∀ q, Fd q → q < H1.size := fun q z => (hFn q z).2
                        clear hFn
                        generalize Fd = Fc at hX hFa hFb
                        have hG := gE.ofS hG0 hS hFE
                        refine W.eq (g2 := F0 m 130 ls [.int 1]) rfl ?_
                        refine lv_pop hx hb dX1_ask_130 rfl ?_
                        refine lv_aload_n hx hb dX1_ask_131 rfl (lv_at hl 0 rfl) ?_
                        refine gf (v := .ref (α 1 3)) (C := RX1) (T := TX1) (N := 6) (k := 4) hx hb hts hown hG cl_X1 in_X1 hX.ag (by decide) q307 rfl dX1_ask_132 ?_
                        refine pcF (x := xL_size) (ci := 13) (As := []) (rest := []) hG.fw_size hS0 (met_xl_size l D E (j := 3) (by decide)) q331 q334 q336 q103 q338 hd_xL_size ⟨Nat.le_of_ble_eq_true rfl, Nat.le_of_ble_eq_true rfl⟩ hG cl_J2 (hX.lsR hG (j := 3) (by decide)) hX rfl hl.1 rfl (Nat.le_of_ble_eq_true rfl) dX1_ask_135 ⟨Nat.le_of_ble_eq_true rfl, Nat.le_of_ble_eq_true rfl⟩ ?_
                        refine W.eq (g2 := F0 m 140 ls [.int (nI (nW σ1))]) rfl ?_
                        refine lv_iconst (v := 1) hx hb dX1_ask_140 (by decide) ?_
                        refine lv_isub hx hb dX1_ask_141 ?_
                        exact vx_ret (g_iret hx hb hr hlocks hS ⟨Nat.le_of_ble_eq_true rfl, Nat.le_of_ble_eq_true rfl⟩ dX1_ask_142 (by subst hR; exact ⟨rfl, rfl, α, hα1, hX.mono (fun q _ z => hFa q z) (fN_E hFE hG0.2.2.1)⟩))

def fX8_manyT_L13 (fn_ : Nat → Int32)  (κ : Int32 → Int32) : Nat → Nat → Int32 → Int32
  | 0, i4, a1 => κ a1
  | n + 1, i4, a1 => fX8_manyT_L13 fn_ κ n (i4 + 1) (a1 + ((fn_) i4))
def fX8_manyT (fn_ : Nat → Int32) : Int32 :=
  fX8_manyT_L13 fn_ (fun (a1 : Int32) => a1) 6 0 0
set_option maxHeartbeats 4000000 in
set_option maxRecDepth 100000 in
theorem met_X8_manyT (l : Launch) (D : va_G) (E : Nat → Nat) (q0 : Nat) (qn : Nat) (qg : Nat) (fn_ : Nat → Int32) (hne_this_nd : q0 ≠ qn) : GM l D E yX8_many cX8_many 6 (Option.some Jvm.ClassFile.FieldType.int) 0 0 0 0 [.ref (q0)] (fun h => va_at D vwCl (q0, .inr (7, [.ref qn, .ref qg])) h ∧ va_at D vwCl (qn, arI E 6 fn_) h) (fun _ => False) (fun _ => False) (fun sz v h => v = some (.int (fX8_manyT fn_)))  := by
  generalize hR : fX8_manyT fn_ = r
  refine GM.start (by decide) (Nat.le_of_ble_eq_true rfl) ?_
  intro p e s m below meth c ls hx hb hr hml hown hlocks hnm hts hG ⟨hT_this, hT_nd⟩ hS hl
  have hown : s.vm.findClass RX8 = some m.cls := hown
  have hS0 : xS p m c cX8_many 6 s _ RX8 := ⟨hx, hb, hml, hown, hts⟩
  have hl : lv_has ls 6 [(0, .ref (q0))] := hl
  have hG0 := hG
  have hL13 : ∀ (hne_this_nd : q0 ≠ qn) (κ : Int32 → Int32) (hκ : ∀ (a1 : Int32) (H : Heap) (locs : List Loc) (ls : Array Slot), κ a1 = r → va_at D vwCl (q0, .inr (7, [.ref (qn), .ref (qg)])) H → va_at D vwCl (qn, arI E 6 fn_) H → xK (fun _ => False) (fun _ => False) s.heap H locs → lv_has ls 6 [(1, .int (a1))] → W p l e { frames := 0, cells := 0, slots := 0, locals := 0 } s m [(.ref (q0) : Value)].toArray below meth c H locs 0 0 (MQ below (qG (fun _ => False) ((fun sz v h => v = some (.int r)) s.heap.size)) [(.ref (q0) : Value)].toArray s 0 0 (fN (fun _ => False) s.heap.size)) (F0 m 36 ls [])) (n : Nat) (i4 : Nat) (a1 : Int32) , i4 + n = 6 → fX8_manyT_L13 fn_ κ n i4 a1 = r → ∀ (H : Heap) (locs : List Loc), va_at D vwCl (q0, .inr (7, [.ref (qn), .ref (qg)])) H → va_at D vwCl (qn, arI E 6 fn_) H → xK (fun _ => False) (fun _ => False) s.heap H locs → ∀ (ls : Array Slot), lv_has ls 6 [(1, .int (a1)), (2, .ref (qn)), (3, .int (nI 6)), (4, .int (nI i4))] → W p l e { frames := 0, cells := 0, slots := 0, locals := 0 } s m [(.ref (q0) : Value)].toArray below meth c H locs 0 0 (MQ below (qG (fun _ => False) ((fun sz v h => v = some (.int r)) s.heap.size)) [(.ref (q0) : Value)].toArray s 0 0 (fN (fun _ => False) s.heap.size)) (F0 m 13 ls []) := by
    intro hne_this_nd κ hκ n
    induction n with
    | zero =>
      intro i4 a1 hn hR H locs hT_this hT_nd hS ls hl
      rw [fX8_manyT_L13] at hR
      have hG := gE.ofS hG0 hS (fun _ h => h.elim)
      refine lv_iload hx hb dX8_many_13 (lv_at hl 3 rfl) ?_
      refine lv_iload_n hx hb dX8_many_15 rfl (lv_at hl 2 rfl) ?_
      refine lk_ge_out (k := i4) (N := 6) hx hb hn (tgt := 36) dX8_many_16 (by decide) ?_
      exact hκ a1 _ _ ls hR hT_this hT_nd hS (lv_sub hl [0] rfl)
    | succ n ih =>
      intro i4 a1 hn hR H locs hT_this hT_nd hS ls hl
      rw [fX8_manyT_L13] at hR
      have hG := gE.ofS hG0 hS (fun _ h => h.elim)
      refine lv_iload hx hb dX8_many_13 (lv_at hl 3 rfl) ?_
      refine lv_iload_n hx hb dX8_many_15 rfl (lv_at hl 2 rfl) ?_
      have hki4 : i4 < 6 := lk_lt hn
      refine lk_ge_in (k := i4) (N := 6) hx hb hki4 (by decide) (tgt := 36) dX8_many_16 (by decide) ?_
      refine lv_aload_n hx hb dX8_many_19 rfl (lv_at hl 1 rfl) ?_
      refine lv_iload hx hb dX8_many_20 (lv_at hl 3 rfl) ?_
      refine gaI (N := 6) (k := i4) hx hb hG hT_nd hki4 (by decide) dX8_many_22 ?_
      refine lv_istore (lv' := [(5, .int ((fn_) i4)), (1, .int (a1)), (2, .ref (qn)), (3, .int (nI 6)), (4, .int (nI i4))]) hx hb dX8_many_23 hl (Nat.le_of_ble_eq_true rfl) rfl (fun ls hl => ?_)
      refine lv_iload_n hx hb dX8_many_25 rfl (lv_at hl 1 rfl) ?_
      refine lv_iload hx hb dX8_many_26 (lv_at hl 0 rfl) ?_
      refine lv_iadd hx hb dX8_many_28 ?_
      refine lv_istore_n (lv' := [(1, .int (a1 + ((fn_) i4))), (5, .int ((fn_) i4)), (2, .ref (qn)), (3, .int (nI 6)), (4, .int (nI i4))]) hx hb dX8_many_29 rfl hl (Nat.le_of_ble_eq_true rfl) rfl (fun ls hl => ?_)
      refine lv_iinc (v := nI (i4 + 1)) (lv' := [(4, .int (nI (i4 + 1))), (1, .int (a1 + ((fn_) i4))), (5, .int ((fn_) i4)), (2, .ref (qn)), (3, .int (nI 6))]) hx hb dX8_many_30 hl (k := 4) rfl (nI_1 i4) (Nat.le_of_ble_eq_true rfl) rfl (fun ls hl => ?_)
      refine lv_goto (tgt := 13) hx hb dX8_many_33 (by decide) ?_
      exact ih (i4 + 1) (a1 + ((fn_) i4)) (lk_st hn) hR _ _ hT_this hT_nd hS ls (lv_sub hl [1, 3, 4, 0] rfl)
  unfold fX8_manyT at hR
  refine lv_iconst (v := 0) hx hb dX8_many_0 (by decide) ?_
  refine lv_istore_n (lv' := [(1, .int 0), (0, .ref (q0))]) hx hb dX8_many_1 rfl hl (Nat.le_of_ble_eq_true rfl) rfl (fun ls hl => ?_)
  refine lv_aload_n hx hb dX8_many_2 rfl (lv_at hl 1 rfl) ?_
  refine gf (v := .ref (qn)) (C := RX8) (T := TX8) (N := 2) (k := 0) hx hb hts hown hG cl_X8 in_X8 hT_this (by decide) q984 rfl dX8_many_3 ?_
  refine lv_astore_n (lv' := [(2, .ref (qn)), (1, .int 0), (0, .ref (q0))]) hx hb dX8_many_6 rfl hl (Nat.le_of_ble_eq_true rfl) rfl (fun ls hl => ?_)
  refine lv_aload_n hx hb dX8_many_7 rfl (lv_at hl 0 rfl) ?_
  refine gl (N := 6) hx hb hG hT_nd (t := 0) rfl rfl dX8_many_8 ?_
  refine lv_istore_n (lv' := [(3, .int (nI 6)), (2, .ref (qn)), (1, .int 0), (0, .ref (q0))]) hx hb dX8_many_9 rfl hl (Nat.le_of_ble_eq_true rfl) rfl (fun ls hl => ?_)
  refine lv_iconst (v := 0) hx hb dX8_many_10 (by decide) ?_
  refine lv_istore (lv' := [(4, .int 0), (3, .int (nI 6)), (2, .ref (qn)), (1, .int 0), (0, .ref (q0))]) hx hb dX8_many_11 hl (Nat.le_of_ble_eq_true rfl) rfl (fun ls hl => ?_)
  refine hL13 hne_this_nd _ (fun a1 H1 locs1 ls hR hT_this hT_nd hS hl => ?_) 6 0 0  (Nat.zero_add _) hR _ _ hT_this hT_nd hS ls (lv_sub hl [3, 2, 1, 0] rfl)
  try dsimp only at hR
  have hG := gE.ofS hG0 hS (fun _ h => h.elim)
  refine lv_iload_n hx hb dX8_many_36 rfl (lv_at hl 0 rfl) ?_
  exact g_iret hx hb hr hlocks hS ⟨Nat.le_of_ble_eq_true rfl, Nat.le_of_ble_eq_true rfl⟩ dX8_many_37 (by subst hR; exact rfl)

theorem arI_congr {D : va_G} {E : Nat → Nat} {a N : Nat} {f g : Nat → Int32} {H : Heap} (h : va_at D vwCl (a, arI E N f) H) (he : ∀ k, k < N → f k = g k) : va_at D vwCl (a, arI E N g) H := by
  have h1 : H[a]? = some (vp_cell (E 1) (N, .inl f)) := h
  show H[a]? = some (vp_cell (E 1) (N, .inl g))
  rw [h1, vp_cell_i, vp_cell_i]
  unfold arrV
  congr 2
  congr 1
  funext j
  show Value.int (f j.val) = Value.int (g j.val)
  rw [he j.val j.isLt]
theorem X8_init_nd (a : Int32) : ∀ k, k < 6 → fX8_init a k = shNeed a k := by
  intro k hk
  have e : fX8_init a = upd (upd (upd (upd (upd (upd (fun _ => 0) 0 (a - a / 3 * 3)) 1 (a / 3 - a / 3 / 3 * 3)) 2 (a / 3 / 3 - a / 3 / 3 / 3 * 3)) 3 (a / 3 / 3 / 3 - a / 3 / 3 / 3 / 3 * 3)) 4 (a / 3 / 3 / 3 / 3 - a / 3 / 3 / 3 / 3 / 3 * 3)) 5 (a / 3 / 3 / 3 / 3 / 3 - a / 3 / 3 / 3 / 3 / 3 / 3 * 3) := rfl
  rw [e]
  match k, hk with
  | 0, _ => simp [upd, shNeed]
  | 1, _ => simp [upd, shNeed]
  | 2, _ => simp [upd, shNeed]
  | 3, _ => simp [upd, shNeed]
  | 4, _ => simp [upd, shNeed]
  | 5, _ => simp [upd, shNeed]

def fX1_band (σ : St) (a : Int32) : Nat × Int32 × St :=
  (if 1 ≤ a ∧ a ≤ 728 then (if 5 < ((fX8_manyT ((fX8_init a)))) then (2, 0, σ) else (if 6 ≤ (nI (nB σ)) then (3, 0, σ) else (fun (σ1 : St) => (0, (nI (nB σ1)) - 1, σ1)) (adB σ a))) else (2, 0, σ))
set_option maxHeartbeats 4000000 in
set_option maxRecDepth 100000 in
theorem met_X1_band (l : Launch) (D : va_G) (E : Nat → Nat) (hlf : l.stackTraces = false) {α : Nat → Nat → Nat} {F : Nat → Prop} {σ : St} (a : Int32) (hgz : ∀ x, bGiv σ (nB σ) x = 0) : XM l D E yX1_band cX1_band 3 (Option.some Jvm.ClassFile.FieldType.int) 8 171 7 132 [.ref (α 0 0), .int (a)] (RX D E α F σ) F F (fun sz v h => (fX1_band σ a).1 = 0 ∧ v = some (.int (fX1_band σ a).2.1) ∧ ∃ α1 : Nat → Nat → Nat, α1 0 0 = α 0 0 ∧ RX D E α1 (fN F sz) (fX1_band σ a).2.2 h) (fun sz X h => X = exN (fX1_band σ a).1 ∧ (fX1_band σ a).1 ≠ 0 ∧ RX D E α (fN F sz) σ h) := by
  generalize hR : fX1_band σ a = r
  refine XM.start (by decide) (Nat.le_of_ble_eq_true rfl) ?_
  intro p e s m below meth c ls hx hb hr hml hown hlocks hex hts hG hX hS hl
  have hown : s.vm.findClass RX1 = some m.cls := hown
  have hS0 : xS p m c cX1_band 3 s _ RX1 := ⟨hx, hb, hml, hown, hts⟩
  have hl : lv_has ls 3 [(0, .ref (α 0 0)), (1, .int (a))] := hl
  have hG0 := hG
  have hX0 := hX
  have hb0P := hX0.nP10
  have hb0B := hX0.nB6
  have hb0W := hX0.nW14
  have hFE := hX.fE
  obtain ⟨Fc, hX, hFn⟩ := hX.nar
  have hFa : ∀ q, Fc q → fN F s.heap.size q := fun q z => Or.inl (hFn q z).1
  have hFb : ∀ q, Fc q → q < s.heap.size := fun q z => (hFn q z).2
  have hcn : cnt σ σ := cnt.rf
  unfold fX1_band at hR
  refine lv_iload_n hx hb dX1_band_0 rfl (lv_at hl 1 rfl) ?_
  refine lv_iconst (v := 1) hx hb dX1_band_1 (by decide) ?_
  refine lv_sipush (v := 728) hx hb dX1_band_2 (by decide) ?_
  have hB := hS.1
  refine xcS (As := [.int (a), .int 1, .int 728]) (rest := []) hS0 (met_X1_mustBeIn l D E hlf a 1 728 _) q860 q861 q100 q862 hd_X1_mustBeIn ⟨Nat.le_of_ble_eq_true rfl, Nat.le_of_ble_eq_true rfl⟩ hG rfl rfl hl.1 rfl (Nat.le_of_ble_eq_true rfl) dX1_band_5 ⟨Nat.le_of_ble_eq_true rfl, Nat.le_of_ble_eq_true rfl⟩ hS (fun q h => h.elim) (fun q h => h.elim) (fun X ce q9 H1 locs1 hP hz hk hS9 h1 h2 h3 => ?_) (fun v H1 locs1 hP hz hk hS9 => ?_)
  · obtain ⟨rfl, hc9⟩ := hP
    have hS := hS9
    clear hS9
    rw [if_neg hc9] at hR
    exact x_out hex hlocks h1 h2 h3 hS ⟨Nat.le_of_ble_eq_true rfl, Nat.le_of_ble_eq_true rfl⟩ (by subst hR; exact ⟨rfl, Nat.succ_ne_zero _, ((hX.kept (fun q h4 _ => hk q h4 id)).mono (fun q _ z => hFa q z) (fN_E hFE hG0.2.2.1))⟩)
  · obtain ⟨rfl, hc9, rfl⟩ := hP
    have hS := hS9
    clear hS9
    rw [if_pos hc9] at hR
    have k1 := hc9
    refine W.eq (g2 := F0 m 8 ls []) rfl ?_
    have hB := hS.1
    refine nw (ci := 7) (C := RX8) (T := TX8) (N := 2) (fs := [.null, .null]) (ty := tyX8) hx hb hts hown hG hS cl_X8 in_X8 tyX8_ok q390 q549 q126 (df_X8) ⟨Nat.le_of_ble_eq_true rfl, Nat.le_of_ble_eq_true rfl⟩ dX1_band_8 (fun q8 H1 hq9 hT_t8 hz ho hS => ?_)
    have hX := hX.kept (fun q h4 _ => ho q h4)
    have hG := gE.ofS hG0 hS hFE
    have hge_t8 : s.heap.size ≤ q8 := by have := hB; omega
    have hd_t8 : ¬ Fc q8 := fun z => by have := hFb _ z; omega
    refine lv_dup hx hb dX1_band_11 rfl ?_
    refine lv_iload_n hx hb dX1_band_12 rfl (lv_at hl 1 rfl) ?_
    have hB := hS.1
    have hL_t8 : q8 < _ := hT_t8.lt
    refine gcI (As := [.int (a)]) (rest := [.ref (q8)]) hS0 (met_X8_init l D E q8 a) q980 q981 q126 q982 rfl hd_X8_init ⟨Nat.le_of_ble_eq_true rfl, Nat.le_of_ble_eq_true rfl⟩ hG ⟨hT_t8, (Nat.le_trans hG0.2.2.1 hge_t8)⟩ rfl hl.1 rfl (Nat.le_of_ble_eq_true rfl) dX1_band_13 ⟨Nat.le_of_ble_eq_true rfl, Nat.le_of_ble_eq_true rfl⟩ hS (fun q h => by have h : q = q8 := h; rw [h]; exact (Or.inr hge_t8)) (fun q h => by have h : q = q8 := h; rw [h]; exact (Or.inr hge_t8)) (fun v H1 locs1 hP hz hk hS => ?_)
    obtain ⟨rfl, qt7_13, qt15_13, hq9_0, hq9_1, hne_t7_13_t15_13, hT9, hT_t7_13, hT_t15_13⟩ := hP
    have hX := hX.kept (fun q h4 h5 => hk q h4 (fun e9 => hd_t8 (e9 ▸ h5)))
    have hT_t8 : va_at D vwCl (q8, .inr (7, [.ref (qt7_13), .ref (qt15_13)])) H1 := hT9
    have hG := gE.ofS hG0 hS hFE
    have hne_t8_t7_13 : q8 ≠ qt7_13 := by have h9 := hL_t8; omega
    have hge_t7_13 : s.heap.size ≤ qt7_13 := by have := hB; omega
    have hd_t7_13 : ¬ Fc qt7_13 := fun z => by have := hFb _ z; omega
    have hne_t8_t15_13 : q8 ≠ qt15_13 := by have h9 := hL_t8; omega
    have hge_t15_13 : s.heap.size ≤ qt15_13 := by have := hB; omega
    have hd_t15_13 : ¬ Fc qt15_13 := fun z => by have := hFb _ z; omega
    refine W.eq (g2 := F0 m 16 ls [.ref (q8)]) rfl ?_
    refine lv_astore_n (lv' := [(2, .ref (q8)), (0, .ref (α 0 0)), (1, .int (a))]) hx hb dX1_band_16 rfl hl (Nat.le_of_ble_eq_true rfl) rfl (fun ls hl => ?_)
    refine lv_aload_n hx hb dX1_band_17 rfl (lv_at hl 0 rfl) ?_
    have hB := hS.1
    have hL_t8 : q8 < _ := hT_t8.lt
    have hL_t7_13 : qt7_13 < _ := hT_t7_13.lt
    have hL_t15_13 : qt15_13 < _ := hT_t15_13.lt
    refine gcV (As := []) (rest := []) hS0 (met_X8_manyT l D E q8 qt7_13 qt15_13 ((fX8_init a)) hne_t8_t7_13) q391 q392 q393 q126 q394 hd_X8_many ⟨Nat.le_of_ble_eq_true rfl, Nat.le_of_ble_eq_true rfl⟩ hG (rcv hG cl_X8 hT_t8) ⟨hT_t8, hT_t7_13⟩ rfl hl.1 rfl (Nat.le_of_ble_eq_true rfl) dX1_band_18 ⟨Nat.le_of_ble_eq_true rfl, Nat.le_of_ble_eq_true rfl⟩ hS (fun q h => h.elim) (fun q h => h.elim) (fun v H1 locs1 hP hz hk hS => ?_)
    obtain rfl := hP
    have hT_t8 : va_at D vwCl (q8, .inr (7, [.ref (qt7_13), .ref (qt15_13)])) H1 := hT_t8.kept (hk _ hT_t8.lt id)
    have hT_t7_13 : va_at D vwCl (qt7_13, arI E 6 ((fX8_init a))) H1 := hT_t7_13.kept (hk _ hT_t7_13.lt id)
    have hT_t15_13 : va_at D vwCl (qt15_13, arI E 6 (fun _ => 0)) H1 := hT_t15_13.kept (hk _ hT_t15_13.lt id)
    have hX := hX.kept (fun q h4 _ => hk q h4 id)
    have hG := gE.ofS hG0 hS hFE
    refine W.eq (g2 := F0 m 21 ls [.int ((fX8_manyT ((fX8_init a))))]) rfl ?_
    refine lv_iconst (v := 5) hx hb dX1_band_21 (by decide) ?_
    refine lv_icmp_gt (tgt := 29) hx hb dX1_band_22 (by decide) (fun c2 => ?_) (fun c2 => ?_)
    · rw [if_pos c2] at hR
      refine lv_iconst (v := 0) hx hb dX1_band_29 (by decide) ?_
      have hB := hS.1
      have hL_t8 : q8 < _ := hT_t8.lt
      have hL_t7_13 : qt7_13 < _ := hT_t7_13.lt
      have hL_t15_13 : qt15_13 < _ := hT_t15_13.lt
      refine xcS (As := [.int 0]) (rest := []) hS0 (met_X1_must l D E hlf false _) q863 q864 q100 q865 hd_X1_must ⟨Nat.le_of_ble_eq_true rfl, Nat.le_of_ble_eq_true rfl⟩ hG rfl rfl hl.1 rfl (Nat.le_of_ble_eq_true rfl) dX1_band_30 ⟨Nat.le_of_ble_eq_true rfl, Nat.le_of_ble_eq_true rfl⟩ hS (fun q h => h.elim) (fun q h => h.elim) (fun X ce q9 H1 locs1 hP hz hk hS9 h1 h2 h3 => ?_) (fun v H1 locs1 hP hz hk hS9 => ?_)
      · obtain ⟨rfl, hc9⟩ := hP
        have hS := hS9
        clear hS9
        exact x_out hex hlocks h1 h2 h3 hS ⟨Nat.le_of_ble_eq_true rfl, Nat.le_of_ble_eq_true rfl⟩ (by subst hR; exact ⟨rfl, Nat.succ_ne_zero _, ((hX.kept (fun q h4 _ => hk q h4 id)).mono (fun q _ z => hFa q z) (fN_E hFE hG0.2.2.1))⟩)
      · exact absurd hP.2.1 (by decide)
    · rw [if_neg c2] at hR
      refine lv_iconst (v := 1) hx hb dX1_band_25 (by decide) ?_
      refine lv_goto (tgt := 30) hx hb dX1_band_26 (by decide) ?_
      have hB := hS.1
      have hL_t8 : q8 < _ := hT_t8.lt
      have hL_t7_13 : qt7_13 < _ := hT_t7_13.lt
      have hL_t15_13 : qt15_13 < _ := hT_t15_13.lt
      refine xcS (As := [.int 1]) (rest := []) hS0 (met_X1_must l D E hlf true _) q863 q864 q100 q865 hd_X1_must ⟨Nat.le_of_ble_eq_true rfl, Nat.le_of_ble_eq_true rfl⟩ hG rfl rfl hl.1 rfl (Nat.le_of_ble_eq_true rfl) dX1_band_30 ⟨Nat.le_of_ble_eq_true rfl, Nat.le_of_ble_eq_true rfl⟩ hS (fun q h => h.elim) (fun q h => h.elim) (fun X ce q9 H1 locs1 hP hz hk hS9 h1 h2 h3 => ?_) (fun v H1 locs1 hP hz hk hS9 => ?_)
      · exact absurd rfl hP.2
      · obtain ⟨rfl, hc9, rfl⟩ := hP
        have hS := hS9
        clear hS9
        refine W.eq (g2 := F0 m 33 ls []) rfl ?_
        refine lv_aload_n hx hb dX1_band_33 rfl (lv_at hl 1 rfl) ?_
        refine gf (v := .ref (α 1 2)) (C := RX1) (T := TX1) (N := 6) (k := 3) hx hb hts hown hG cl_X1 in_X1 hX.ag (by decide) q305 rfl dX1_band_34 ?_
        refine pcF (x := xL_size) (ci := 13) (As := []) (rest := []) hG.fw_size hS0 (met_xl_size l D E (j := 2) (by decide)) q331 q334 q336 q103 q338 hd_xL_size ⟨Nat.le_of_ble_eq_true rfl, Nat.le_of_ble_eq_true rfl⟩ hG cl_J2 (hX.lsR hG (j := 2) (by decide)) hX rfl hl.1 rfl (Nat.le_of_ble_eq_true rfl) dX1_band_37 ⟨Nat.le_of_ble_eq_true rfl, Nat.le_of_ble_eq_true rfl⟩ ?_
        refine W.eq (g2 := F0 m 42 ls [.int (nI (nB σ))]) rfl ?_
        refine lv_bipush (v := 6) hx hb dX1_band_42 (by decide) ?_
        refine lv_icmp_ge (tgt := 51) hx hb dX1_band_44 (by decide) (fun c4 => ?_) (fun c4 => ?_)
        · rw [if_pos c4] at hR
          refine lv_iconst (v := 0) hx hb dX1_band_51 (by decide) ?_
          have hB := hS.1
          have hL_t8 : q8 < _ := hT_t8.lt
          have hL_t7_13 : qt7_13 < _ := hT_t7_13.lt
          have hL_t15_13 : qt15_13 < _ := hT_t15_13.lt
          refine xcS (As := [.int 0]) (rest := []) hS0 (met_X1_checkState l D E hlf false _) q885 q886 q100 q887 hd_X1_checkState ⟨Nat.le_of_ble_eq_true rfl, Nat.le_of_ble_eq_true rfl⟩ hG rfl rfl hl.1 rfl (Nat.le_of_ble_eq_true rfl) dX1_band_52 ⟨Nat.le_of_ble_eq_true rfl, Nat.le_of_ble_eq_true rfl⟩ hS (fun q h => h.elim) (fun q h => h.elim) (fun X ce q9 H1 locs1 hP hz hk hS9 h1 h2 h3 => ?_) (fun v H1 locs1 hP hz hk hS9 => ?_)
          · obtain ⟨rfl, hc9⟩ := hP
            have hS := hS9
            clear hS9
            exact x_out hex hlocks h1 h2 h3 hS ⟨Nat.le_of_ble_eq_true rfl, Nat.le_of_ble_eq_true rfl⟩ (by subst hR; exact ⟨rfl, Nat.succ_ne_zero _, ((hX.kept (fun q h4 _ => hk q h4 id)).mono (fun q _ z => hFa q z) (fN_E hFE hG0.2.2.1))⟩)
          · exact absurd hP.2.1 (by decide)
        · rw [if_neg c4] at hR
          refine lv_iconst (v := 1) hx hb dX1_band_47 (by decide) ?_
          refine lv_goto (tgt := 52) hx hb dX1_band_48 (by decide) ?_
          have hB := hS.1
          have hL_t8 : q8 < _ := hT_t8.lt
          have hL_t7_13 : qt7_13 < _ := hT_t7_13.lt
          have hL_t15_13 : qt15_13 < _ := hT_t15_13.lt
          refine xcS (As := [.int 1]) (rest := []) hS0 (met_X1_checkState l D E hlf true _) q885 q886 q100 q887 hd_X1_checkState ⟨Nat.le_of_ble_eq_true rfl, Nat.le_of_ble_eq_true rfl⟩ hG rfl rfl hl.1 rfl (Nat.le_of_ble_eq_true rfl) dX1_band_52 ⟨Nat.le_of_ble_eq_true rfl, Nat.le_of_ble_eq_true rfl⟩ hS (fun q h => h.elim) (fun q h => h.elim) (fun X ce q9 H1 locs1 hP hz hk hS9 h1 h2 h3 => ?_) (fun v H1 locs1 hP hz hk hS9 => ?_)
          · exact absurd rfl hP.2
          · obtain ⟨rfl, hc9, rfl⟩ := hP
            have hS := hS9
            clear hS9
            refine W.eq (g2 := F0 m 55 ls []) rfl ?_
            refine lv_aload_n hx hb dX1_band_55 rfl (lv_at hl 1 rfl) ?_
            refine gf (v := .ref (α 1 2)) (C := RX1) (T := TX1) (N := 6) (k := 3) hx hb hts hown hG cl_X1 in_X1 hX.ag (by decide) q305 rfl dX1_band_56 ?_
            refine lv_aload_n hx hb dX1_band_59 rfl (lv_at hl 0 rfl) ?_
            have hT_t7_13 := arI_congr hT_t7_13 (X8_init_nd a)
            have hB := hS.1
            have hL_t8 : q8 < _ := hT_t8.lt
            have hL_t7_13 : qt7_13 < _ := hT_t7_13.lt
            have hL_t15_13 : qt15_13 < _ := hT_t15_13.lt
            refine gcF (x := xL_add) (ci := 13) (As := [.ref (q8)]) (rest := []) hG.fw_add hS0 (met_xaddB l D E q8 qt7_13 qt15_13 a) q224 q228 q230 q103 q232 hd_xL_add ⟨Nat.le_of_ble_eq_true rfl, Nat.le_of_ble_eq_true rfl⟩ hG cl_J2 (hX.lsR hG (j := 2) (by decide)) ⟨hX, hT_t8, hd_t8, (Nat.le_trans hG0.2.2.1 hge_t8), hT_t7_13, hd_t7_13, (Nat.le_trans hG0.2.2.1 hge_t7_13), hT_t15_13, hd_t15_13, (Nat.le_trans hG0.2.2.1 hge_t15_13), hne_t8_t7_13, hne_t8_t15_13, hne_t7_13_t15_13, (nlt_of (k := 6) (by decide) (by have := hX.nB6; omega) c4), hgz, (fun q z => by have := hFb q z; omega)⟩ rfl hl.1 rfl (Nat.le_of_ble_eq_true rfl) dX1_band_60 ⟨Nat.le_of_ble_eq_true rfl, Nat.le_of_ble_eq_true rfl⟩ hS (fun q h => hFa q h) (fun q h => hFa q h) (fun v H1 locs1 hP hz hk hS => ?_)
            obtain ⟨rfl, α, hα1, hX⟩ := hP
            rw [← hα1] at hl
            obtain ⟨σ1, hσ1⟩ : ∃ x, x = adB σ a := ⟨_, rfl⟩
            rw [← hσ1] at hR hX
            try dsimp only at hR
            obtain ⟨Fd, hX, hFn⟩ := hX.nar
            have hFa : ∀ q, Fd q → fN F s.heap.size q := fun q h7 => by
              rcases (hFn q h7).1 with h8 | rfl | rfl | rfl | h8
              · exact hFa q h8
              · exact Or.inr hge_t8
              · exact Or.inr hge_t7_13
              · exact Or.inr hge_t15_13
              · exact Or.inr (by have := hB; omega)
            have hFb : ∀ q, Fd q → q < H1.size := fun q z => (hFn q z).2
            clear hFn
            generalize Fd = Fc at hX hFa hFb
            have hG := gE.ofS hG0 hS hFE
            refine W.eq (g2 := F0 m 65 ls [.int 1]) rfl ?_
            refine lv_pop hx hb dX1_band_65 rfl ?_
            refine lv_aload_n hx hb dX1_band_66 rfl (lv_at hl 1 rfl) ?_
            refine gf (v := .ref (α 1 2)) (C := RX1) (T := TX1) (N := 6) (k := 3) hx hb hts hown hG cl_X1 in_X1 hX.ag (by decide) q305 rfl dX1_band_67 ?_
            refine pcF (x := xL_size) (ci := 13) (As := []) (rest := []) hG.fw_size hS0 (met_xl_size l D E (j := 2) (by decide)) q331 q334 q336 q103 q338 hd_xL_size ⟨Nat.le_of_ble_eq_true rfl, Nat.le_of_ble_eq_true rfl⟩ hG cl_J2 (hX.lsR hG (j := 2) (by decide)) hX rfl hl.1 rfl (Nat.le_of_ble_eq_true rfl) dX1_band_70 ⟨Nat.le_of_ble_eq_true rfl, Nat.le_of_ble_eq_true rfl⟩ ?_
            refine W.eq (g2 := F0 m 75 ls [.int (nI (nB σ1))]) rfl ?_
            refine lv_iconst (v := 1) hx hb dX1_band_75 (by decide) ?_
            refine lv_isub hx hb dX1_band_76 ?_
            exact vx_ret (g_iret hx hb hr hlocks hS ⟨Nat.le_of_ble_eq_true rfl, Nat.le_of_ble_eq_true rfl⟩ dX1_band_77 (by subst hR; exact ⟨rfl, rfl, α, hα1, hX.mono (fun q _ z => hFa q z) (fN_E hFE hG0.2.2.1)⟩))

theorem RX.apS {D : va_G} {E : Nat → Nat} {α : Nat → Nat → Nat} {F : Nat → Prop} {σ : St} {H : Heap} (h : RX D E α F σ H) {k : Nat} (hk : k < 16) : α 6 k ≠ α 2 1 := by
  obtain ⟨-, -, γ, h2, h3⟩ := h
  have h4 : 16 ≤ γ.2.1 1 := (h2 1 (by decide)).1
  have hc : cellX E σ γ α 2 1 = some (arQ E (γ.2.1 1) (fun k => if k < xCnt σ 1 then some (α 6 k) else γ.2.2 1 k)) := if_pos ⟨by decide, by omega⟩
  intro e
  have := (h3.2 6 k 2 1 _ _ (if_pos hk) hc e).1
  omega

def fX1_song (σ : St) (a : Int32) (b : Int32) (c_ : Int32) (z : Int32) : Nat × Int32 × St :=
  (if 0 ≤ a ∧ a < 16 then (if 0 ≤ b ∧ b ≤ 11 then (if 0 ≤ c_ ∧ c_ ≤ 9 then (if 2 ≤ z ∧ z ≤ 9 then (fun (σ1 : St) => (0, sMin σ ((Int32.toNatClampNeg a)), σ1)) (stS σ ((Int32.toNatClampNeg a)) b c_ z (sPlayed σ ((Int32.toNatClampNeg a)))) else (2, 0, σ)) else (2, 0, σ)) else (2, 0, σ)) else (1, 0, σ))
set_option maxHeartbeats 4000000 in
set_option maxRecDepth 100000 in
theorem met_X1_song (l : Launch) (D : va_G) (E : Nat → Nat) (hlf : l.stackTraces = false) {α : Nat → Nat → Nat} {F : Nat → Prop} {σ : St} (a : Int32) (b : Int32) (c_ : Int32) (z : Int32)  : XM l D E yX1_song cX1_song 6 (Option.some Jvm.ClassFile.FieldType.int) 8 142 5 28 [.ref (α 0 0), .int (a), .int (b), .int (c_), .int (z)] (RX D E α F σ) F F (fun sz v h => (fX1_song σ a b c_ z).1 = 0 ∧ v = some (.int (fX1_song σ a b c_ z).2.1) ∧ ∃ α1 : Nat → Nat → Nat, α1 0 0 = α 0 0 ∧ RX D E α1 (fN F sz) (fX1_song σ a b c_ z).2.2 h) (fun sz X h => X = exN (fX1_song σ a b c_ z).1 ∧ (fX1_song σ a b c_ z).1 ≠ 0 ∧ RX D E α (fN F sz) σ h) := by
  generalize hR : fX1_song σ a b c_ z = r
  refine XM.start (by decide) (Nat.le_of_ble_eq_true rfl) ?_
  intro p e s m below meth c ls hx hb hr hml hown hlocks hex hts hG hX hS hl
  have hown : s.vm.findClass RX1 = some m.cls := hown
  have hS0 : xS p m c cX1_song 6 s _ RX1 := ⟨hx, hb, hml, hown, hts⟩
  have hl : lv_has ls 6 [(0, .ref (α 0 0)), (1, .int (a)), (2, .int (b)), (3, .int (c_)), (4, .int (z))] := hl
  have hG0 := hG
  have hX0 := hX
  have hb0P := hX0.nP10
  have hb0B := hX0.nB6
  have hb0W := hX0.nW14
  have hFE := hX.fE
  obtain ⟨Fc, hX, hFn⟩ := hX.nar
  have hFa : ∀ q, Fc q → fN F s.heap.size q := fun q z => Or.inl (hFn q z).1
  have hFb : ∀ q, Fc q → q < s.heap.size := fun q z => (hFn q z).2
  have hcn : cnt σ σ := cnt.rf
  unfold fX1_song at hR
  refine lv_iload_n hx hb dX1_song_0 rfl (lv_at hl 1 rfl) ?_
  refine lv_bipush (v := 16) hx hb dX1_song_1 (by decide) ?_
  have hB := hS.1
  refine xcS (As := [.int (a), .int 16]) (rest := []) hS0 (met_X1_checkPlace l D E hlf a 16 _) q836 q837 q100 q838 hd_X1_checkPlace ⟨Nat.le_of_ble_eq_true rfl, Nat.le_of_ble_eq_true rfl⟩ hG rfl rfl hl.1 rfl (Nat.le_of_ble_eq_true rfl) dX1_song_3 ⟨Nat.le_of_ble_eq_true rfl, Nat.le_of_ble_eq_true rfl⟩ hS (fun q h => h.elim) (fun q h => h.elim) (fun X ce q9 H1 locs1 hP hz hk hS9 h1 h2 h3 => ?_) (fun v H1 locs1 hP hz hk hS9 => ?_)
  · obtain ⟨rfl, hc9⟩ := hP
    have hS := hS9
    clear hS9
    rw [if_neg hc9] at hR
    exact x_out hex hlocks h1 h2 h3 hS ⟨Nat.le_of_ble_eq_true rfl, Nat.le_of_ble_eq_true rfl⟩ (by subst hR; exact ⟨rfl, Nat.succ_ne_zero _, ((hX.kept (fun q h4 _ => hk q h4 id)).mono (fun q _ z => hFa q z) (fN_E hFE hG0.2.2.1))⟩)
  · obtain ⟨rfl, hc9, rfl⟩ := hP
    have hS := hS9
    clear hS9
    rw [if_pos hc9] at hR
    have k1 := hc9
    have nk1 := ck_ix k1 (by decide)
    refine W.eq (g2 := F0 m 6 ls []) rfl ?_
    refine lv_iload_n hx hb dX1_song_6 rfl (lv_at hl 2 rfl) ?_
    refine lv_iconst (v := 0) hx hb dX1_song_7 (by decide) ?_
    refine lv_bipush (v := 11) hx hb dX1_song_8 (by decide) ?_
    have hB := hS.1
    refine xcS (As := [.int (b), .int 0, .int 11]) (rest := []) hS0 (met_X1_mustBeIn l D E hlf b 0 11 _) q860 q861 q100 q862 hd_X1_mustBeIn ⟨Nat.le_of_ble_eq_true rfl, Nat.le_of_ble_eq_true rfl⟩ hG rfl rfl hl.1 rfl (Nat.le_of_ble_eq_true rfl) dX1_song_10 ⟨Nat.le_of_ble_eq_true rfl, Nat.le_of_ble_eq_true rfl⟩ hS (fun q h => h.elim) (fun q h => h.elim) (fun X ce q9 H1 locs1 hP hz hk hS9 h1 h2 h3 => ?_) (fun v H1 locs1 hP hz hk hS9 => ?_)
    · obtain ⟨rfl, hc9⟩ := hP
      have hS := hS9
      clear hS9
      rw [if_neg hc9] at hR
      exact x_out hex hlocks h1 h2 h3 hS ⟨Nat.le_of_ble_eq_true rfl, Nat.le_of_ble_eq_true rfl⟩ (by subst hR; exact ⟨rfl, Nat.succ_ne_zero _, ((hX.kept (fun q h4 _ => hk q h4 id)).mono (fun q _ z => hFa q z) (fN_E hFE hG0.2.2.1))⟩)
    · obtain ⟨rfl, hc9, rfl⟩ := hP
      have hS := hS9
      clear hS9
      rw [if_pos hc9] at hR
      have k2 := hc9
      refine W.eq (g2 := F0 m 13 ls []) rfl ?_
      refine lv_iload_n hx hb dX1_song_13 rfl (lv_at hl 3 rfl) ?_
      refine lv_iconst (v := 0) hx hb dX1_song_14 (by decide) ?_
      refine lv_bipush (v := 9) hx hb dX1_song_15 (by decide) ?_
      have hB := hS.1
      refine xcS (As := [.int (c_), .int 0, .int 9]) (rest := []) hS0 (met_X1_mustBeIn l D E hlf c_ 0 9 _) q860 q861 q100 q862 hd_X1_mustBeIn ⟨Nat.le_of_ble_eq_true rfl, Nat.le_of_ble_eq_true rfl⟩ hG rfl rfl hl.1 rfl (Nat.le_of_ble_eq_true rfl) dX1_song_17 ⟨Nat.le_of_ble_eq_true rfl, Nat.le_of_ble_eq_true rfl⟩ hS (fun q h => h.elim) (fun q h => h.elim) (fun X ce q9 H1 locs1 hP hz hk hS9 h1 h2 h3 => ?_) (fun v H1 locs1 hP hz hk hS9 => ?_)
      · obtain ⟨rfl, hc9⟩ := hP
        have hS := hS9
        clear hS9
        rw [if_neg hc9] at hR
        exact x_out hex hlocks h1 h2 h3 hS ⟨Nat.le_of_ble_eq_true rfl, Nat.le_of_ble_eq_true rfl⟩ (by subst hR; exact ⟨rfl, Nat.succ_ne_zero _, ((hX.kept (fun q h4 _ => hk q h4 id)).mono (fun q _ z => hFa q z) (fN_E hFE hG0.2.2.1))⟩)
      · obtain ⟨rfl, hc9, rfl⟩ := hP
        have hS := hS9
        clear hS9
        rw [if_pos hc9] at hR
        have k3 := hc9
        refine W.eq (g2 := F0 m 20 ls []) rfl ?_
        refine lv_iload hx hb dX1_song_20 (lv_at hl 4 rfl) ?_
        refine lv_iconst (v := 2) hx hb dX1_song_22 (by decide) ?_
        refine lv_bipush (v := 9) hx hb dX1_song_23 (by decide) ?_
        have hB := hS.1
        refine xcS (As := [.int (z), .int 2, .int 9]) (rest := []) hS0 (met_X1_mustBeIn l D E hlf z 2 9 _) q860 q861 q100 q862 hd_X1_mustBeIn ⟨Nat.le_of_ble_eq_true rfl, Nat.le_of_ble_eq_true rfl⟩ hG rfl rfl hl.1 rfl (Nat.le_of_ble_eq_true rfl) dX1_song_25 ⟨Nat.le_of_ble_eq_true rfl, Nat.le_of_ble_eq_true rfl⟩ hS (fun q h => h.elim) (fun q h => h.elim) (fun X ce q9 H1 locs1 hP hz hk hS9 h1 h2 h3 => ?_) (fun v H1 locs1 hP hz hk hS9 => ?_)
        · obtain ⟨rfl, hc9⟩ := hP
          have hS := hS9
          clear hS9
          rw [if_neg hc9] at hR
          exact x_out hex hlocks h1 h2 h3 hS ⟨Nat.le_of_ble_eq_true rfl, Nat.le_of_ble_eq_true rfl⟩ (by subst hR; exact ⟨rfl, Nat.succ_ne_zero _, ((hX.kept (fun q h4 _ => hk q h4 id)).mono (fun q _ z => hFa q z) (fN_E hFE hG0.2.2.1))⟩)
        · obtain ⟨rfl, hc9, rfl⟩ := hP
          have hS := hS9
          clear hS9
          rw [if_pos hc9] at hR
          have k4 := hc9
          refine W.eq (g2 := F0 m 28 ls []) rfl ?_
          refine lv_aload_n hx hb dX1_song_28 rfl (lv_at hl 0 rfl) ?_
          refine gf (v := .ref (α 1 1)) (C := RX1) (T := TX1) (N := 6) (k := 1) hx hb hts hown hG cl_X1 in_X1 hX.ag (by decide) q302 rfl dX1_song_29 ?_
          refine lv_iload_n hx hb dX1_song_32 rfl (lv_at hl 1 rfl) ?_
          refine lv_eq nk1.1 ?_
          have hB := hS.1
          refine nw (ci := 2) (C := RX3) (T := TX3) (N := 4) (fs := [.int 0, .int 0, .int 0, .int 0]) (ty := tyX3) hx hb hts hown hG hS cl_X3 in_X3 tyX3_ok q200 q201 q105 (df_X3) ⟨Nat.le_of_ble_eq_true rfl, Nat.le_of_ble_eq_true rfl⟩ dX1_song_33 (fun q33 H1 hq9 hT_t33 hz ho hS => ?_)
          have hX := hX.kept (fun q h4 _ => ho q h4)
          have hG := gE.ofS hG0 hS hFE
          have hge_t33 : s.heap.size ≤ q33 := by have := hB; omega
          have hd_t33 : ¬ Fc q33 := fun z => by have := hFb _ z; omega
          refine lv_dup hx hb dX1_song_36 rfl ?_
          refine lv_iload_n hx hb dX1_song_37 rfl (lv_at hl 2 rfl) ?_
          refine lv_iload_n hx hb dX1_song_38 rfl (lv_at hl 3 rfl) ?_
          refine lv_iload hx hb dX1_song_39 (lv_at hl 4 rfl) ?_
          refine lv_aload_n hx hb dX1_song_41 rfl (lv_at hl 0 rfl) ?_
          refine gf (v := .ref (α 1 1)) (C := RX1) (T := TX1) (N := 6) (k := 1) hx hb hts hown hG cl_X1 in_X1 hX.ag (by decide) q302 rfl dX1_song_42 ?_
          refine lv_iload_n hx hb dX1_song_45 rfl (lv_at hl 1 rfl) ?_
          refine lv_eq nk1.1 ?_
          refine pcF (x := xL_get) (ci := 13) (As := [.int (nI ((Int32.toNatClampNeg a)))]) (rest := [.int (z), .int (c_), .int (b), .ref (q33), .ref (q33), .int (nI ((Int32.toNatClampNeg a))), .ref (α 1 1)]) hG.fw_get hS0 (met_xl_get l D E (j := 1) (by decide) ((Int32.toNatClampNeg a)) nk1.2) q344 q347 q349 q103 q351 hd_xL_get ⟨Nat.le_of_ble_eq_true rfl, Nat.le_of_ble_eq_true rfl⟩ hG cl_J2 (hX.lsR hG (j := 1) (by decide)) hX rfl hl.1 rfl (Nat.le_of_ble_eq_true rfl) dX1_song_46 ⟨Nat.le_of_ble_eq_true rfl, Nat.le_of_ble_eq_true rfl⟩ ?_
          refine W.eq (g2 := F0 m 51 ls [.ref (α 6 ((Int32.toNatClampNeg a))), .int (z), .int (c_), .int (b), .ref (q33), .ref (q33), .int (nI ((Int32.toNatClampNeg a))), .ref (α 1 1)]) rfl ?_
          refine gc (ci := 2) hx hb hown hG cl_X3 (rcv hG cl_X3 (hX.sg nk1.2)) (hts _ q200) dX1_song_51 ?_
          refine gfN (v := .int (sPlayed σ ((Int32.toNatClampNeg a)))) (C := RX3) (T := TX3) (N := 4) (k := 3) hx hb hts hown hG cl_X3 in_X3 (hX.sg nk1.2) (by decide) q213 rfl dX1_song_54 ?_
          have hB := hS.1
          have hL_t33 : q33 < _ := hT_t33.lt
          refine gcI (As := [.int (b), .int (c_), .int (z), .int (sPlayed σ ((Int32.toNatClampNeg a)))]) (rest := [.ref (q33), .int (nI ((Int32.toNatClampNeg a))), .ref (α 1 1)]) hS0 (met_X3_init l D E q33 b c_ z (sPlayed σ ((Int32.toNatClampNeg a)))) q202 q203 q105 q204 rfl hd_X3_init ⟨Nat.le_of_ble_eq_true rfl, Nat.le_of_ble_eq_true rfl⟩ hG ⟨hT_t33, (Nat.le_trans hG0.2.2.1 hge_t33)⟩ rfl hl.1 rfl (Nat.le_of_ble_eq_true rfl) dX1_song_57 ⟨Nat.le_of_ble_eq_true rfl, Nat.le_of_ble_eq_true rfl⟩ hS (fun q h => by have h : q = q33 := h; rw [h]; exact (Or.inr hge_t33)) (fun q h => by have h : q = q33 := h; rw [h]; exact (Or.inr hge_t33)) (fun v H1 locs1 hP hz hk hS => ?_)
          obtain ⟨rfl, hT9⟩ := hP
          have hX := hX.kept (fun q h4 h5 => hk q h4 (fun e9 => hd_t33 (e9 ▸ h5)))
          have hT_t33 : va_at D vwCl (q33, .inr (2, [.int (b), .int (c_), .int (z), .int (sPlayed σ ((Int32.toNatClampNeg a)))])) H1 := hT9
          have hG := gE.ofS hG0 hS hFE
          refine W.eq (g2 := F0 m 60 ls [.ref (q33), .int (nI ((Int32.toNatClampNeg a))), .ref (α 1 1)]) rfl ?_
          obtain ⟨cap9, mc9, g9, hL9, hA9, hg9, hF9, hcap9, hnc9, hne9, hcl9⟩ := hX.setS (F' := fun q => Fc q ∨ q = q33) nk1.2
          obtain ⟨zo, hzo⟩ : ∃ x, x = α 6 ((Int32.toNatClampNeg a)) := ⟨_, rfl⟩
          have hB := hS.1
          have hL_t33 : q33 < _ := hT_t33.lt
          refine gcF (x := xL_set) (ci := 13) (As := [.int (nI ((Int32.toNatClampNeg a))), .ref (q33)]) (rest := []) hG.fw_set hS0 (met_J2_set l D E ((Int32.toNatClampNeg a)) (α 1 1) (α 2 1) mc9 16 cap9 g9 q33 zo hne9 (by omega) hnc9 nk1.2 (by rw [hzo]; exact hg9)) q724 q727 q729 q103 q731 hd_xL_set ⟨Nat.le_of_ble_eq_true rfl, Nat.le_of_ble_eq_true rfl⟩ hG cl_J2 (hX.lsR hG (j := 1) (by decide)) ⟨hL9.1, hA9, Or.inl ⟨_, _, hT_t33⟩, hX.fE _ hF9⟩ rfl hl.1 rfl (Nat.le_of_ble_eq_true rfl) dX1_song_60 ⟨Nat.le_of_ble_eq_true rfl, Nat.le_of_ble_eq_true rfl⟩ hS (fun q h => by have h : q = α 2 1 := h; rw [h]; exact (hFa _ hF9)) (fun q h => by have h : q = α 2 1 := h; rw [h]; exact (hFa _ hF9)) (fun v H1 locs1 hP hz hk hS => ?_)
          obtain ⟨rfl, hA8⟩ := hP
          have hT_old : va_at D vwCl (zo, .inr (2, [.int (sKey σ ((Int32.toNatClampNeg a))), .int (sEnergy σ ((Int32.toNatClampNeg a))), .int (sMin σ ((Int32.toNatClampNeg a))), .int (sPlayed σ ((Int32.toNatClampNeg a)))])) H1 := by rw [hzo]; exact (hX.sg nk1.2).kept (hk _ (hX.sg nk1.2).lt (fun e => hX.apS nk1.2 e))
          have hZ := hcl9 H1 q33 b c_ z (sPlayed σ ((Int32.toNatClampNeg a))) hA8 (fun q h1 h2 => hk q h1 h2) (hT_t33.kept (hk _ hT_t33.lt (fun e => hd_t33 (by have e : q33 = α 2 1 := e; rw [e]; exact hF9)))) hd_t33 (fun q h => Or.inl h) (Or.inr rfl) (fun q h => h.elim (hX.fE q) (fun h => by rw [h]; exact Nat.le_trans hG0.2.2.1 hge_t33))
          have hα9 : KA 6 α (adS α ((Int32.toNatClampNeg a)) q33) := KA.up
          generalize adS α ((Int32.toNatClampNeg a)) q33 = α9 at hZ hα9
          have hl : lv_has ls 6 [(0, .ref (α9 0 0)), (1, .int (a)), (2, .int (b)), (3, .int (c_)), (4, .int (z))] := by
            rw [hα9 0 0 (by decide)]
            exact hl
          obtain ⟨α, hα1, hX, hl⟩ : ∃ α, α 0 0 = α9 0 0 ∧ RX D E α (fun q => Fc q ∨ q = q33) (stS σ ((Int32.toNatClampNeg a)) b c_ z (sPlayed σ ((Int32.toNatClampNeg a)))) H1 ∧ lv_has ls 6 [(0, .ref (α 0 0)), (1, .int (a)), (2, .int (b)), (3, .int (c_)), (4, .int (z))] := ⟨α9, rfl, hZ, hl⟩
          have hα1 := hα1.trans (hα9 0 0 (by decide))
          have hcn : cnt (stS σ ((Int32.toNatClampNeg a)) b c_ z (sPlayed σ ((Int32.toNatClampNeg a)))) σ := hcn
          obtain ⟨σ1, hσ1⟩ : ∃ x, x = stS σ ((Int32.toNatClampNeg a)) b c_ z (sPlayed σ ((Int32.toNatClampNeg a))) := ⟨_, rfl⟩
          rw [← hσ1] at hR hX hcn
          try dsimp only at hR
          obtain ⟨Fd, hX, hFn⟩ := hX.nar
          have hFa : ∀ q, Fd q → fN F s.heap.size q := fun q h7 => (hFn q h7).1.elim (hFa q) (fun h => by rw [h]; exact Or.inr hge_t33)
          have hFb : ∀ q, Fd q → q < H1.size := fun q z => (hFn q z).2
          clear hFn
          generalize Fd = Fc at hX hFa hFb
          have hG := gE.ofS hG0 hS hFE
          refine W.eq (g2 := F0 m 65 ls [.ref (zo)]) rfl ?_
          refine gc (ci := 2) hx hb hown hG cl_X3 (rcv hG cl_X3 hT_old) (hts _ q200) dX1_song_65 ?_
          refine lv_astore (lv' := [(5, .ref (zo)), (0, .ref (α 0 0)), (1, .int (a)), (2, .int (b)), (3, .int (c_)), (4, .int (z))]) hx hb dX1_song_68 hl (Nat.le_of_ble_eq_true rfl) rfl (fun ls hl => ?_)
          refine lv_aload hx hb dX1_song_70 (lv_at hl 0 rfl) ?_
          refine gfN (v := .int (sMin σ ((Int32.toNatClampNeg a)))) (C := RX3) (T := TX3) (N := 4) (k := 2) hx hb hts hown hG cl_X3 in_X3 hT_old (by decide) q211 rfl dX1_song_72 ?_
          exact vx_ret (g_iret hx hb hr hlocks hS ⟨Nat.le_of_ble_eq_true rfl, Nat.le_of_ble_eq_true rfl⟩ dX1_song_75 (by subst hR; exact ⟨rfl, rfl, α, hα1, hX.mono (fun q _ z => hFa q z) (fN_E hFE hG0.2.2.1)⟩))

