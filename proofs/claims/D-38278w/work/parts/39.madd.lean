/-! the model: player, band, ask -/
set_option maxRecDepth 100000
section GCN
variable {p : Program} {l : Launch} {e : Env} {R : Room} {s : State} {m : MethodId} {args : Array Value} {below : List Frame} {meth : Method} {c : Code} {H : Heap} {locs : List Loc} {cells slots mc ms : Nat} {Q : State → Prop}
variable {pc : Nat} {ls : Array Slot} {rest st0 As : List Value} {D : va_G} {E : Nat → Nat} {Ph : Heap → Prop} {Fr A Fr1 A1 : Nat → Prop} {x y : MethodName} {cc bytes : ByteArray} {maxL nL n fr lo index b count : Nat} {ret : Option FieldType} {own C : String}
theorem gcIN {host : String} {Post : Nat → Option Value → Heap → Prop} (S : xS p m c cc nL s args own) (hM : GM l D E y bytes maxL none fr lo mc ms (.ref b :: As) Ph Fr1 A1 Post) (h1 : Cond.methodLinkNest own index y host ∈ lw_tbl) (h2 : Cond.instanceMethod y ∈ lw_all) (h4 : Cond.initialized y.cls ∈ lw_all) (h5 : Cond.code y bytes maxL none ∈ lw_all) (hin : y.name = "<init>")
    (hd : y.cls ≠ "java/lang/invoke/MethodHandle" ∧ y.cls ≠ "java/lang/invoke/VarHandle" ∧ (parseMethodDescriptor y.desc).map (fun d => d.parameters.length) = some n) (hR : fr + 1 ≤ R.frames ∧ 8 + (maxL + 11) + lo ≤ R.locals) (hG : gE D E s H) (hPh : Ph H)
    (hn : As.length = n) (hsize : ls.size = nL) (hstack : st0 = As.reverse ++ .ref b :: rest) (hW : (rest.map fun v => v.category).sum ≤ 8) (hdg : decode cc pc = .ok (.invokespecial index, 3)) (hf : cells + mc ≤ R.cells ∧ slots + ms ≤ R.slots)
    (hS : xK Fr A s.heap H locs) (hA : ∀ q, A1 q → fN A s.heap.size q) (hF : ∀ q, Fr1 q → fN Fr s.heap.size q)
    (kk : ∀ (v : Option Value) (H1 : Heap) (locs1 : List Loc), Post H.size v H1 → H.size ≤ H1.size → (∀ q : Nat, q < H.size → ¬ A1 q → H1[q]? = H[q]?) → xK Fr A s.heap H1 locs1 → W p l e R s m args below meth c H1 locs1 (cells + mc) (slots + ms) Q (F0 m (pc + 3) ls (v.toList ++ rest))) : W p l e R s m args below meth c H locs cells slots Q (F0 m pc ls st0) :=
  gc_run (rest := rest) (a := (Value.ref b :: As).toArray) (va_Run.run (va_runIN (As := As) (rest := rest) S (hM H.size) ⟨va_cnB n S.2.2.2.2 (lw_meth h5) rfl rfl rfl (hG.2.1.1 _ h1 rfl) (S.2.2.2.2 _ h4) hd hR, hin, S.2.2.2.2 _ h2⟩ ⟨pG_blind, fun U hU hW => ⟨rfl, by rw [hU]; exact hG.warm hW, by rw [hU], by rw [hU]; exact hPh⟩⟩ rfl hn hsize hstack (lv_room hW) hdg hf)) hS hA hF kk
end GCN
set_option maxHeartbeats 4000000 in
set_option maxRecDepth 100000 in
theorem met_J17_valueOf_c2 (l : Launch) (D : va_G) (E : Nat → Nat) (k : Nat) (hk : k ≤ 127) : GM l D E yJ17_valueOf cJ17_valueOf 1 (Option.some (Jvm.ClassFile.FieldType.object "java/lang/Integer")) 3 53 1 1 [.int (nI k)] (fun _ => True) (fun _ => False) (fun _ => False) (fun sz v h => v = some (.ref (E (300 + (k + 128)))))  := by
  refine GM.start (by decide) (Nat.le_of_ble_eq_true rfl) ?_
  intro p e s m below meth c ls hx hb hr hml hown hlocks hnm hts hG hTriv hS hl
  have hown : s.vm.findClass RJ17 = some m.cls := hown
  have hS0 : xS p m c cJ17_valueOf 1 s _ RJ17 := ⟨hx, hb, hml, hown, hts⟩
  have hl : lv_has ls 1 [(0, .int (nI k))] := hl
  have hG0 := hG
  refine lv_iload_n hx hb dJ17_valueOf_0 rfl (lv_at hl 0 rfl) ?_
  refine lv_bipush (v := (-128)) hx hb dJ17_valueOf_1 (by decide) ?_
  refine lv_icmp_lt (tgt := 23) hx hb dJ17_valueOf_3 (by decide) (fun c9 => absurd c9 ((by have h9 : nI 0 ≤ nI k := nI_le (by omega) (by omega); exact fun z => i_nle z (Int32.le_trans (by decide) h9)))) (fun _ => ?_)
  refine lv_iload_n hx hb dJ17_valueOf_6 rfl (lv_at hl 0 rfl) ?_
  refine gs hx hb hG.hi hown (hts _ q633) (fun _ h => h) dJ17_valueOf_7 ?_
  refine lv_icmp_gt (tgt := 23) hx hb dJ17_valueOf_10 (by decide) (fun c9 => absurd c9 ((by have h9 : nI k ≤ nI 127 := nI_le hk (by decide); exact fun z => i_nle z h9))) (fun _ => ?_)
  refine gs hx hb hG.ic hown (hts _ q635) (fun _ h => h) dJ17_valueOf_13 ?_
  refine lv_iload_n hx hb dJ17_valueOf_16 rfl (lv_at hl 0 rfl) ?_
  refine lv_sipush (v := 128) hx hb dJ17_valueOf_17 (by decide) ?_
  refine lv_iadd hx hb dJ17_valueOf_20 ?_
  refine lv_eq (nI_add k 128) ?_
  refine vb_tq (i := nI (k + 128)) (v := .ref (E (300 + (k + 128)))) hx hb hG.2.2.2.2.2.2.2.1 ⟨Nat.le_refl _, fun _ _ _ => rfl, fun _ h => by cases h⟩ (vp_in_nI (by omega) (by decide)) (by rw [nI_clamp (by omega)]) dJ17_valueOf_21 ?_
  exact g_aret hx hb hr (Or.inl ⟨_, rfl⟩) hlocks hS ⟨Nat.le_of_ble_eq_true rfl, Nat.le_of_ble_eq_true rfl⟩ dJ17_valueOf_22 (by skip; exact rfl)

theorem met_valueOf_any (l : Launch) (D : va_G) (E : Nat → Nat) (x : Int32) (h1 : 1 ≤ x) (h2 : x ≤ 1000) : GM l D E yJ17_valueOf cJ17_valueOf 1 (Option.some (Jvm.ClassFile.FieldType.object "java/lang/Integer")) 3 53 1 1 [.int x] (fun _ => True) (fun _ => False) (fun _ => False) (fun sz v h => ∃ q, v = some (.ref q) ∧ (127 < x → sz ≤ q ∧ va_at D vwCl (q, .inr (14, [.int x])) h) ∧ (¬ 127 < x → q = E (300 + (x + 128).toNatClampNeg))) := by
  obtain ⟨k, hk, rfl⟩ : ∃ k : Nat, k ≤ 1000 ∧ x = nI k := nI_of2 (M := 1000) (n := 1000) (by decide) (fun h => i_nle h (Int32.le_trans (show (0 : Int32) ≤ 1 by decide) h1)) h2
  by_cases h127 : 127 < k
  · refine GM.ex (ι := Unit) (P2 := fun _ _ => True) (fun _ => met_J17_valueOf_n l D E k h127 hk) (fun s H hG _ => ⟨(), trivial, fun q z => z.elim, fun q z => z, fun v H1 hp hz hk9 => ?_⟩)
    obtain ⟨q, e, h3, h4⟩ := hp
    exact ⟨q, e, fun _ => ⟨h3, h4⟩, fun z => absurd (nI_lt (a := 127) (b := k) h127 (by omega)) z⟩
  · refine GM.ex (ι := Unit) (P2 := fun _ _ => True) (fun _ => met_J17_valueOf_c2 l D E k (by omega)) (fun s H hG _ => ⟨(), trivial, fun q z => z.elim, fun q z => z, fun v H1 hp hz hk9 => ?_⟩)
    refine ⟨_, hp, fun z => absurd z (fun z => i_nle z (by have h9 : nI k ≤ nI 127 := nI_le (by omega) (by decide); exact h9)), fun _ => ?_⟩
    have e : nI k + 128 = nI (k + 128) := nI_add k 128
    rw [e, nI_clamp (by omega)]

def fX4_player (σ : St) (th : Int32) (ca : Int32) (sm : Int64) (a : Int32) (b : Int32) (c_ : Int32) (z : Int32) : Int32 × MSt :=
  (if ((fX4_is c_ 0 5)) = true then (if ((fX4_is a 1 63)) = true then (if ((fX4_areSongs σ b)) = true then (if ((fX4_is z 1 99)) = true then (if (nI (nP σ)) = 10 then (fun (σ4 : St) => (fun (th4 : Int32) => (fun (ca4 : Int32) => (fun (sm4 : Int64) => (fun (v4 : Int32) => (v4, ((σ4, th4, ca4, sm4) : MSt))) ((fX4_refuse σ 0 ca sm 3).1)) ((fX4_refuse σ 0 ca sm 3).2.2.2.2)) ((fX4_refuse σ 0 ca sm 3).2.2.2.1)) ((fX4_refuse σ 0 ca sm 3).2.2.1)) ((fX4_refuse σ 0 ca sm 3).2.1) else (fun (σ3 : St) => ((nI (nP σ3)) - 1, ((σ3, 0, ca, sm) : MSt))) (adP σ a z b ((Int32.toNatClampNeg c_)))) else (fun (σ5 : St) => (fun (th5 : Int32) => (fun (ca5 : Int32) => (fun (sm5 : Int64) => (fun (v5 : Int32) => (v5, ((σ5, th5, ca5, sm5) : MSt))) ((fX4_refuse σ 0 ca sm 2).1)) ((fX4_refuse σ 0 ca sm 2).2.2.2.2)) ((fX4_refuse σ 0 ca sm 2).2.2.2.1)) ((fX4_refuse σ 0 ca sm 2).2.2.1)) ((fX4_refuse σ 0 ca sm 2).2.1)) else (fun (σ2 : St) => (fun (th2 : Int32) => (fun (ca2 : Int32) => (fun (sm2 : Int64) => (fun (v2 : Int32) => (v2, ((σ2, th2, ca2, sm2) : MSt))) ((fX4_refuse σ 0 ca sm 2).1)) ((fX4_refuse σ 0 ca sm 2).2.2.2.2)) ((fX4_refuse σ 0 ca sm 2).2.2.2.1)) ((fX4_refuse σ 0 ca sm 2).2.2.1)) ((fX4_refuse σ 0 ca sm 2).2.1)) else (fun (σ1 : St) => (fun (th1 : Int32) => (fun (ca1 : Int32) => (fun (sm1 : Int64) => (fun (v1 : Int32) => (v1, ((σ1, th1, ca1, sm1) : MSt))) ((fX4_refuse σ 0 ca sm 2).1)) ((fX4_refuse σ 0 ca sm 2).2.2.2.2)) ((fX4_refuse σ 0 ca sm 2).2.2.2.1)) ((fX4_refuse σ 0 ca sm 2).2.2.1)) ((fX4_refuse σ 0 ca sm 2).2.1)) else (fun (σ6 : St) => (fun (th6 : Int32) => (fun (ca6 : Int32) => (fun (sm6 : Int64) => (fun (v6 : Int32) => (v6, ((σ6, th6, ca6, sm6) : MSt))) ((fX4_refuse σ 0 ca sm 1).1)) ((fX4_refuse σ 0 ca sm 1).2.2.2.2)) ((fX4_refuse σ 0 ca sm 1).2.2.2.1)) ((fX4_refuse σ 0 ca sm 1).2.2.1)) ((fX4_refuse σ 0 ca sm 1).2.1))
set_option maxHeartbeats 4000000 in
set_option maxRecDepth 100000 in
theorem met_X4_player (l : Launch) (D : va_G) (E : Nat → Nat) {β : Nat → Nat → Nat} {F : Nat → Prop} {σ : St} {th ca : Int32} {sm : Int64} (a : Int32) (b : Int32) (c_ : Int32) (z : Int32)  : GM l D E yX4_player cX4_player 6 (Option.some Jvm.ClassFile.FieldType.int) 7 171 3 473 [.ref (β 0 0), .int (a), .int (b), .int (c_), .int (z)] (RM D E β F σ th ca sm) F F (fun sz v h => v = some (.int (fX4_player σ th ca sm a b c_ z).1) ∧ ∃ β1 : Nat → Nat → Nat, β1 0 0 = β 0 0 ∧ RM D E β1 (fN F sz) (fX4_player σ th ca sm a b c_ z).2.1 (fX4_player σ th ca sm a b c_ z).2.2.1 (fX4_player σ th ca sm a b c_ z).2.2.2.1 (fX4_player σ th ca sm a b c_ z).2.2.2.2 h)  := by
  generalize hR : fX4_player σ th ca sm a b c_ z = r
  refine GM.start (by decide) (Nat.le_of_ble_eq_true rfl) ?_
  intro p e s m below meth c ls hx hb hr hml hown hlocks hnm hts hG hM hS hl
  have hown : s.vm.findClass RX4 = some m.cls := hown
  have hS0 : xS p m c cX4_player 6 s _ RX4 := ⟨hx, hb, hml, hown, hts⟩
  have hl : lv_has ls 6 [(0, .ref (β 0 0)), (1, .int (a)), (2, .int (b)), (3, .int (c_)), (4, .int (z))] := hl
  have hG0 := hG
  have hM0 := hM
  have hb0P := hM0.nP10
  have hb0B := hM0.nB6
  have hb0W := hM0.nW14
  have hFE := hM.fE
  obtain ⟨Fc, hM, hFn⟩ := hM.nar
  have hFa : ∀ q, Fc q → fN F s.heap.size q := fun q z => Or.inl (hFn q z).1
  have hFb : ∀ q, Fc q → q < s.heap.size := fun q z => (hFn q z).2
  have hcn : cnt σ σ := cnt.rf
  have hα1 : β 0 0 = β 0 0 := rfl
  unfold fX4_player at hR
  refine lv_aload_n hx hb dX4_player_0 rfl (lv_at hl 0 rfl) ?_
  refine lv_iconst (v := 0) hx hb dX4_player_1 (by decide) ?_
  refine pf (ty0 := tyX4) (ty := tyX4 0) (v := .int 0) (C := RX4) (T := TX4) (N := 13) (k := 0) hx hb hts hown hG hS cl_X4 in_X4 tyX4_ok nmX4 hM.ag (hFa _ hM.agF) (hFa _ hM.agF) (by decide) q1540 rfl (tyX4_ok 0 (by decide)) rfl rfl (Nat.le_of_ble_eq_true rfl) dX4_player_2 (fun H1 locs1 he hz hq hS => ?_)
  have hM := hM.Pth  he hq
  have hG := gE.ofS hG0 hS hFE
  refine lv_iload_n hx hb dX4_player_5 rfl (lv_at hl 3 rfl) ?_
  refine lv_iconst (v := 0) hx hb dX4_player_6 (by decide) ?_
  refine lv_iconst (v := 5) hx hb dX4_player_7 (by decide) ?_
  refine pcS (As := [.int (c_), .int 0, .int 5]) (rest := []) hS0 (met_X4_is l D E c_ 0 5) q1588 q1589 q110 q1590 hd_X4_is ⟨Nat.le_of_ble_eq_true rfl, Nat.le_of_ble_eq_true rfl⟩ hG trivial rfl hl.1 rfl (Nat.le_of_ble_eq_true rfl) dX4_player_8 ⟨Nat.le_of_ble_eq_true rfl, Nat.le_of_ble_eq_true rfl⟩ ?_
  refine W.eq (g2 := F0 m 11 ls [.int (bI ((fX4_is c_ 0 5)))]) rfl ?_
  refine lb_if_ne (tgt := 20) hx hb dX4_player_11 (by decide) (fun c1 => ?_) (fun c1 => ?_)
  · rw [if_pos c1] at hR
    have nc1 := is_ix (n := 5) (by decide) c1
    refine lv_iload_n hx hb dX4_player_20 rfl (lv_at hl 1 rfl) ?_
    refine lv_iconst (v := 1) hx hb dX4_player_21 (by decide) ?_
    refine lv_bipush (v := 63) hx hb dX4_player_22 (by decide) ?_
    refine pcS (As := [.int (a), .int 1, .int 63]) (rest := []) hS0 (met_X4_is l D E a 1 63) q1588 q1589 q110 q1590 hd_X4_is ⟨Nat.le_of_ble_eq_true rfl, Nat.le_of_ble_eq_true rfl⟩ hG trivial rfl hl.1 rfl (Nat.le_of_ble_eq_true rfl) dX4_player_24 ⟨Nat.le_of_ble_eq_true rfl, Nat.le_of_ble_eq_true rfl⟩ ?_
    refine W.eq (g2 := F0 m 27 ls [.int (bI ((fX4_is a 1 63)))]) rfl ?_
    refine lb_if_eq (tgt := 49) hx hb dX4_player_27 (by decide) (fun c2 => ?_) (fun c2 => ?_)
    · rw [if_neg c2] at hR
      refine lv_aload_n hx hb dX4_player_49 rfl (lv_at hl 0 rfl) ?_
      refine lv_iconst (v := 2) hx hb dX4_player_50 (by decide) ?_
      have hB := hS.1
      refine gcV (As := [.int 2]) (rest := []) hS0 (met_X4_refuse l D E 2) q1591 q1593 qs55 q110 q1594 hd_X4_refuse ⟨Nat.le_of_ble_eq_true rfl, Nat.le_of_ble_eq_true rfl⟩ hG (rcv hG cl_X4 hM.ag) hM rfl hl.1 rfl (Nat.le_of_ble_eq_true rfl) dX4_player_51 ⟨Nat.le_of_ble_eq_true rfl, Nat.le_of_ble_eq_true rfl⟩ hS (fun q h => hFa q h) (fun q h => hFa q h) (fun v H1 locs1 hP hz hk hS => ?_)
      obtain ⟨rfl, hZ, hc8⟩ := hP
      obtain ⟨Fd, hM, hFn⟩ := hZ.nar
      have hFa : ∀ q, Fd q → fN F s.heap.size q := fun q z => (hFn q z).1.elim (hFa q) (fun z9 => Or.inr (Nat.le_trans hB z9))
      have hFb : ∀ q, Fd q → q < H1.size := fun q z => (hFn q z).2
      clear hFn
      generalize Fd = Fc at hM hFa hFb
      have hG := gE.ofS hG0 hS hFE
      have hcn := hc8.tr hcn
      generalize hv_σ1 : (fX4_refuse σ 0 ca sm 2).2.1 = σ1 at hR hM hcn ⊢
      generalize hv_th1 : (fX4_refuse σ 0 ca sm 2).2.2.1 = th1 at hR hM hcn ⊢
      generalize hv_ca1 : (fX4_refuse σ 0 ca sm 2).2.2.2.1 = ca1 at hR hM hcn ⊢
      generalize hv_sm1 : (fX4_refuse σ 0 ca sm 2).2.2.2.2 = sm1 at hR hM hcn ⊢
      generalize hv_v1 : (fX4_refuse σ 0 ca sm 2).1 = v1 at hR hM hcn ⊢
      try dsimp only at hR
      refine W.eq (g2 := F0 m 54 ls [.int (v1)]) rfl ?_
      exact g_iret hx hb hr hlocks hS ⟨Nat.le_of_ble_eq_true rfl, Nat.le_of_ble_eq_true rfl⟩ dX4_player_54 (by subst hR; exact ⟨rfl, β, hα1, hM.mono (fun q _ z => hFa q z) (fN_E hFE hG0.2.2.1)⟩)
    · rw [if_pos c2] at hR
      refine lv_aload_n hx hb dX4_player_30 rfl (lv_at hl 0 rfl) ?_
      refine lv_iload_n hx hb dX4_player_31 rfl (lv_at hl 2 rfl) ?_
      refine pcV (As := [.int (b)]) (rest := []) hS0 (met_X4_areSongs l D E b) q1595 q1597 qs56 q110 q1598 hd_X4_areSongs ⟨Nat.le_of_ble_eq_true rfl, Nat.le_of_ble_eq_true rfl⟩ hG (rcv hG cl_X4 hM.ag) hM rfl hl.1 rfl (Nat.le_of_ble_eq_true rfl) dX4_player_32 ⟨Nat.le_of_ble_eq_true rfl, Nat.le_of_ble_eq_true rfl⟩ ?_
      refine W.eq (g2 := F0 m 35 ls [.int (bI ((fX4_areSongs σ b)))]) rfl ?_
      refine lb_if_eq (tgt := 49) hx hb dX4_player_35 (by decide) (fun c3 => ?_) (fun c3 => ?_)
      · rw [if_neg c3] at hR
        refine lv_aload_n hx hb dX4_player_49 rfl (lv_at hl 0 rfl) ?_
        refine lv_iconst (v := 2) hx hb dX4_player_50 (by decide) ?_
        have hB := hS.1
        refine gcV (As := [.int 2]) (rest := []) hS0 (met_X4_refuse l D E 2) q1591 q1593 qs55 q110 q1594 hd_X4_refuse ⟨Nat.le_of_ble_eq_true rfl, Nat.le_of_ble_eq_true rfl⟩ hG (rcv hG cl_X4 hM.ag) hM rfl hl.1 rfl (Nat.le_of_ble_eq_true rfl) dX4_player_51 ⟨Nat.le_of_ble_eq_true rfl, Nat.le_of_ble_eq_true rfl⟩ hS (fun q h => hFa q h) (fun q h => hFa q h) (fun v H1 locs1 hP hz hk hS => ?_)
        obtain ⟨rfl, hZ, hc8⟩ := hP
        obtain ⟨Fd, hM, hFn⟩ := hZ.nar
        have hFa : ∀ q, Fd q → fN F s.heap.size q := fun q z => (hFn q z).1.elim (hFa q) (fun z9 => Or.inr (Nat.le_trans hB z9))
        have hFb : ∀ q, Fd q → q < H1.size := fun q z => (hFn q z).2
        clear hFn
        generalize Fd = Fc at hM hFa hFb
        have hG := gE.ofS hG0 hS hFE
        have hcn := hc8.tr hcn
        generalize hv_σ2 : (fX4_refuse σ 0 ca sm 2).2.1 = σ2 at hR hM hcn ⊢
        generalize hv_th2 : (fX4_refuse σ 0 ca sm 2).2.2.1 = th2 at hR hM hcn ⊢
        generalize hv_ca2 : (fX4_refuse σ 0 ca sm 2).2.2.2.1 = ca2 at hR hM hcn ⊢
        generalize hv_sm2 : (fX4_refuse σ 0 ca sm 2).2.2.2.2 = sm2 at hR hM hcn ⊢
        generalize hv_v2 : (fX4_refuse σ 0 ca sm 2).1 = v2 at hR hM hcn ⊢
        try dsimp only at hR
        refine W.eq (g2 := F0 m 54 ls [.int (v2)]) rfl ?_
        exact g_iret hx hb hr hlocks hS ⟨Nat.le_of_ble_eq_true rfl, Nat.le_of_ble_eq_true rfl⟩ dX4_player_54 (by subst hR; exact ⟨rfl, β, hα1, hM.mono (fun q _ z => hFa q z) (fN_E hFE hG0.2.2.1)⟩)
      · rw [if_pos c3] at hR
        refine lv_iload hx hb dX4_player_38 (lv_at hl 4 rfl) ?_
        refine lv_iconst (v := 1) hx hb dX4_player_40 (by decide) ?_
        refine lv_bipush (v := 99) hx hb dX4_player_41 (by decide) ?_
        refine pcS (As := [.int (z), .int 1, .int 99]) (rest := []) hS0 (met_X4_is l D E z 1 99) q1588 q1589 q110 q1590 hd_X4_is ⟨Nat.le_of_ble_eq_true rfl, Nat.le_of_ble_eq_true rfl⟩ hG trivial rfl hl.1 rfl (Nat.le_of_ble_eq_true rfl) dX4_player_43 ⟨Nat.le_of_ble_eq_true rfl, Nat.le_of_ble_eq_true rfl⟩ ?_
        refine W.eq (g2 := F0 m 46 ls [.int (bI ((fX4_is z 1 99)))]) rfl ?_
        refine lb_if_ne (tgt := 55) hx hb dX4_player_46 (by decide) (fun c4 => ?_) (fun c4 => ?_)
        · rw [if_pos c4] at hR
          refine lv_aload_n hx hb dX4_player_55 rfl (lv_at hl 0 rfl) ?_
          refine gf (v := .ref (β 1 0)) (C := RX4) (T := TX4) (N := 13) (k := 3) hx hb hts hown hG cl_X4 in_X4 hM.ag (by decide) q1543 rfl dX4_player_56 ?_
          refine pcV (As := []) (rest := []) hS0 (met_ml_size l D E (j := 0) (by decide)) q1600 q336 q2080 q103 q338 hd_J2_size ⟨Nat.le_of_ble_eq_true rfl, Nat.le_of_ble_eq_true rfl⟩ hG (hM.lsR hG (j := 0) (by decide)) hM rfl hl.1 rfl (Nat.le_of_ble_eq_true rfl) dX4_player_59 ⟨Nat.le_of_ble_eq_true rfl, Nat.le_of_ble_eq_true rfl⟩ ?_
          refine W.eq (g2 := F0 m 62 ls [.int (nI (nP σ))]) rfl ?_
          refine lv_bipush (v := 10) hx hb dX4_player_62 (by decide) ?_
          refine lv_icmp_ne (tgt := 73) hx hb dX4_player_64 (by decide) (fun c5 => ?_) (fun c5 => ?_)
          · rw [if_neg c5] at hR
            have hB := hS.1
            refine nw (ci := 6) (C := RX7) (T := TX7) (N := 7) (fs := [.int 0, .int 0, .int 0, .int 0, .int 0, .int 0, .null]) (ty := tyX7) hx hb hts hown hG hS cl_X7 in_X7 tyX7_ok q1601 q1602 q121 (df_X7) ⟨Nat.le_of_ble_eq_true rfl, Nat.le_of_ble_eq_true rfl⟩ dX4_player_73 (fun q73 H1 hq9 hT_t73 hz ho hS => ?_)
            have hM := hM.kept (fun q h4 _ => ho q h4)
            have hG := gE.ofS hG0 hS hFE
            have hge_t73 : s.heap.size ≤ q73 := by have := hB; omega
            have hd_t73 : ¬ Fc q73 := fun z => by have := hFb _ z; omega
            refine lv_dup hx hb dX4_player_76 rfl ?_
            have hB := hS.1
            have hL_t73 : q73 < _ := hT_t73.lt
            refine gcIN (As := []) (rest := [.ref (q73)]) hS0 (met_X7_init l D E q73) q1603 q1604 q121 q1605 rfl hd_X7_init ⟨Nat.le_of_ble_eq_true rfl, Nat.le_of_ble_eq_true rfl⟩ hG ⟨hT_t73, (Nat.le_trans hG0.2.2.1 hge_t73)⟩ rfl hl.1 rfl (Nat.le_of_ble_eq_true rfl) dX4_player_77 ⟨Nat.le_of_ble_eq_true rfl, Nat.le_of_ble_eq_true rfl⟩ hS (fun q h => by have h : q = q73 := h; rw [h]; exact (Or.inr hge_t73)) (fun q h => by have h : q = q73 := h; rw [h]; exact (Or.inr hge_t73)) (fun v H1 locs1 hP hz hk hS => ?_)
            obtain ⟨rfl, qt8_77, hq9_0, hT9, hT_t8_77⟩ := hP
            have hM := hM.kept (fun q h4 h5 => hk q h4 (fun e9 => hd_t73 (e9 ▸ h5)))
            have hT_t73 : va_at D vwCl (q73, .inr (6, [.int 0, .int 0, .int 0, .int 0, .int 0, .int 0, .ref (qt8_77)])) H1 := hT9
            have hG := gE.ofS hG0 hS hFE
            have hne_t73_t8_77 : q73 ≠ qt8_77 := by have h9 := hL_t73; omega
            have hge_t8_77 : s.heap.size ≤ qt8_77 := by have := hB; omega
            have hd_t8_77 : ¬ Fc qt8_77 := fun z => by have := hFb _ z; omega
            refine W.eq (g2 := F0 m 80 ls [.ref (q73)]) rfl ?_
            refine lv_astore (lv' := [(5, .ref (q73)), (0, .ref (β 0 0)), (1, .int (a)), (2, .int (b)), (3, .int (c_)), (4, .int (z))]) hx hb dX4_player_80 hl (Nat.le_of_ble_eq_true rfl) rfl (fun ls hl => ?_)
            refine lv_aload hx hb dX4_player_82 (lv_at hl 0 rfl) ?_
            refine lv_iload_n hx hb dX4_player_84 rfl (lv_at hl 2 rfl) ?_
            have hB := hS.1
            have hL_t73 : q73 < _ := hT_t73.lt
            have hL_t8_77 : qt8_77 < _ := hT_t8_77.lt
            refine pfN (ty0 := tyX7) (ty := tyX7 0) (v := .int (a)) (C := RX7) (T := TX7) (N := 7) (k := 0) hx hb hts hown hG hS cl_X7 in_X7 tyX7_ok nmX7 hT_t73 (Or.inr hge_t73) (Or.inr hge_t73) (by decide) q1607 rfl (tyX7_ok 0 (by decide)) rfl rfl (Nat.le_of_ble_eq_true rfl) dX4_player_85 (fun H1 locs1 he hz hq hS => ?_)
            have hT_t8_77 : va_at D vwCl (qt8_77, arZ E 366 (fun _ => 0)) H1 := hT_t8_77.kept (hq _ (fun e9 => absurd e9 hne_t73_t8_77.symm))
            have hM := hM.kept (fun q h4 h5 => hq q (fun e9 => hd_t73 (e9 ▸ h5)))
            have hT_t73 : va_at D vwCl (q73, .inr (6, [.int (a), .int 0, .int 0, .int 0, .int 0, .int 0, .ref (qt8_77)])) H1 := he
            have hG := gE.ofS hG0 hS hFE
            refine lv_aload hx hb dX4_player_88 (lv_at hl 0 rfl) ?_
            refine lv_iload_n hx hb dX4_player_90 rfl (lv_at hl 3 rfl) ?_
            have hB := hS.1
            have hL_t73 : q73 < _ := hT_t73.lt
            have hL_t8_77 : qt8_77 < _ := hT_t8_77.lt
            refine pfN (ty0 := tyX7) (ty := tyX7 1) (v := .int (b)) (C := RX7) (T := TX7) (N := 7) (k := 1) hx hb hts hown hG hS cl_X7 in_X7 tyX7_ok nmX7 hT_t73 (Or.inr hge_t73) (Or.inr hge_t73) (by decide) q1608 rfl (tyX7_ok 1 (by decide)) rfl rfl (Nat.le_of_ble_eq_true rfl) dX4_player_91 (fun H1 locs1 he hz hq hS => ?_)
            have hT_t8_77 : va_at D vwCl (qt8_77, arZ E 366 (fun _ => 0)) H1 := hT_t8_77.kept (hq _ (fun e9 => absurd e9 hne_t73_t8_77.symm))
            have hM := hM.kept (fun q h4 h5 => hq q (fun e9 => hd_t73 (e9 ▸ h5)))
            have hT_t73 : va_at D vwCl (q73, .inr (6, [.int (a), .int (b), .int 0, .int 0, .int 0, .int 0, .ref (qt8_77)])) H1 := he
            have hG := gE.ofS hG0 hS hFE
            refine lv_aload hx hb dX4_player_94 (lv_at hl 0 rfl) ?_
            refine lv_iload_n hx hb dX4_player_96 rfl (lv_at hl 4 rfl) ?_
            refine lv_eq nc1.1 ?_
            have hB := hS.1
            have hL_t73 : q73 < _ := hT_t73.lt
            have hL_t8_77 : qt8_77 < _ := hT_t8_77.lt
            refine pfN (ty0 := tyX7) (ty := tyX7 2) (v := .int (nI ((Int32.toNatClampNeg c_)))) (C := RX7) (T := TX7) (N := 7) (k := 2) hx hb hts hown hG hS cl_X7 in_X7 tyX7_ok nmX7 hT_t73 (Or.inr hge_t73) (Or.inr hge_t73) (by decide) q1609 rfl (tyX7_ok 2 (by decide)) rfl rfl (Nat.le_of_ble_eq_true rfl) dX4_player_97 (fun H1 locs1 he hz hq hS => ?_)
            have hT_t8_77 : va_at D vwCl (qt8_77, arZ E 366 (fun _ => 0)) H1 := hT_t8_77.kept (hq _ (fun e9 => absurd e9 hne_t73_t8_77.symm))
            have hM := hM.kept (fun q h4 h5 => hq q (fun e9 => hd_t73 (e9 ▸ h5)))
            have hT_t73 : va_at D vwCl (q73, .inr (6, [.int (a), .int (b), .int (nI ((Int32.toNatClampNeg c_))), .int 0, .int 0, .int 0, .ref (qt8_77)])) H1 := he
            have hG := gE.ofS hG0 hS hFE
            refine lv_aload hx hb dX4_player_100 (lv_at hl 0 rfl) ?_
            refine lv_iload hx hb dX4_player_102 (lv_at hl 5 rfl) ?_
            have hB := hS.1
            have hL_t73 : q73 < _ := hT_t73.lt
            have hL_t8_77 : qt8_77 < _ := hT_t8_77.lt
            refine pfN (ty0 := tyX7) (ty := tyX7 3) (v := .int (z)) (C := RX7) (T := TX7) (N := 7) (k := 3) hx hb hts hown hG hS cl_X7 in_X7 tyX7_ok nmX7 hT_t73 (Or.inr hge_t73) (Or.inr hge_t73) (by decide) q1610 rfl (tyX7_ok 3 (by decide)) rfl rfl (Nat.le_of_ble_eq_true rfl) dX4_player_104 (fun H1 locs1 he hz hq hS => ?_)
            have hT_t8_77 : va_at D vwCl (qt8_77, arZ E 366 (fun _ => 0)) H1 := hT_t8_77.kept (hq _ (fun e9 => absurd e9 hne_t73_t8_77.symm))
            have hM := hM.kept (fun q h4 h5 => hq q (fun e9 => hd_t73 (e9 ▸ h5)))
            have hT_t73 : va_at D vwCl (q73, .inr (6, [.int (a), .int (b), .int (nI ((Int32.toNatClampNeg c_))), .int (z), .int 0, .int 0, .ref (qt8_77)])) H1 := he
            have hG := gE.ofS hG0 hS hFE
            refine lv_aload_n hx hb dX4_player_107 rfl (lv_at hl 1 rfl) ?_
            refine gf (v := .ref (β 1 0)) (C := RX4) (T := TX4) (N := 13) (k := 3) hx hb hts hown hG cl_X4 in_X4 hM.ag (by decide) q1543 rfl dX4_player_108 ?_
            refine lv_aload hx hb dX4_player_111 (lv_at hl 0 rfl) ?_
            have hB := hS.1
            have hL_t73 : q73 < _ := hT_t73.lt
            have hL_t8_77 : qt8_77 < _ := hT_t8_77.lt
            refine gcV (As := [.ref (q73)]) (rest := []) hS0 (met_maddP l D E q73 qt8_77 a z b ((Int32.toNatClampNeg c_))) q1630 q230 q2081 q103 q232 hd_J2_add ⟨Nat.le_of_ble_eq_true rfl, Nat.le_of_ble_eq_true rfl⟩ hG (hM.lsR hG (j := 0) (by decide)) ⟨hM, hT_t73, hd_t73, (Nat.le_trans hG0.2.2.1 hge_t73), hT_t8_77, hd_t8_77, (Nat.le_trans hG0.2.2.1 hge_t8_77), hne_t73_t8_77, (pl10 hM.nP10 c5), nc1.2, (fun q z => by have := hFb q z; omega)⟩ rfl hl.1 rfl (Nat.le_of_ble_eq_true rfl) dX4_player_113 ⟨Nat.le_of_ble_eq_true rfl, Nat.le_of_ble_eq_true rfl⟩ hS (fun q h => hFa q h) (fun q h => hFa q h) (fun v H1 locs1 hP hz hk hS => ?_)
            obtain ⟨rfl, β, hα1, hM⟩ := hP
            rw [← hα1] at hl
            obtain ⟨σ3, hσ3⟩ : ∃ x, x = adP σ a z b ((Int32.toNatClampNeg c_)) := ⟨_, rfl⟩
            rw [← hσ3] at hR hM
            try dsimp only at hR
            obtain ⟨Fd, hM, hFn⟩ := hM.nar
            have hFa : ∀ q, Fd q → fN F s.heap.size q := fun q h7 => by
              rcases (hFn q h7).1 with h8 | rfl | rfl | h8
              · exact hFa q h8
              · exact Or.inr hge_t73
              · exact Or.inr hge_t8_77
              · exact Or.inr (by have := hB; omega)
            have hFb : ∀ q, Fd q → q < H1.size := fun q z => (hFn q z).2
            clear hFn
            generalize Fd = Fc at hM hFa hFb
            have hG := gE.ofS hG0 hS hFE
            refine W.eq (g2 := F0 m 116 ls [.int 1]) rfl ?_
            refine lv_pop hx hb dX4_player_116 rfl ?_
            refine lv_aload_n hx hb dX4_player_117 rfl (lv_at hl 1 rfl) ?_
            refine gf (v := .ref (β 1 0)) (C := RX4) (T := TX4) (N := 13) (k := 3) hx hb hts hown hG cl_X4 in_X4 hM.ag (by decide) q1543 rfl dX4_player_118 ?_
            refine pcV (As := []) (rest := []) hS0 (met_ml_size l D E (j := 0) (by decide)) q1600 q336 q2080 q103 q338 hd_J2_size ⟨Nat.le_of_ble_eq_true rfl, Nat.le_of_ble_eq_true rfl⟩ hG (hM.lsR hG (j := 0) (by decide)) hM rfl hl.1 rfl (Nat.le_of_ble_eq_true rfl) dX4_player_121 ⟨Nat.le_of_ble_eq_true rfl, Nat.le_of_ble_eq_true rfl⟩ ?_
            refine W.eq (g2 := F0 m 124 ls [.int (nI (nP σ3))]) rfl ?_
            refine lv_iconst (v := 1) hx hb dX4_player_124 (by decide) ?_
            refine lv_isub hx hb dX4_player_125 ?_
            exact g_iret hx hb hr hlocks hS ⟨Nat.le_of_ble_eq_true rfl, Nat.le_of_ble_eq_true rfl⟩ dX4_player_126 (by subst hR; exact ⟨rfl, β, hα1, hM.mono (fun q _ z => hFa q z) (fN_E hFE hG0.2.2.1)⟩)
          · rw [if_pos c5] at hR
            refine lv_aload_n hx hb dX4_player_67 rfl (lv_at hl 0 rfl) ?_
            refine lv_iconst (v := 3) hx hb dX4_player_68 (by decide) ?_
            have hB := hS.1
            refine gcV (As := [.int 3]) (rest := []) hS0 (met_X4_refuse l D E 3) q1591 q1593 qs55 q110 q1594 hd_X4_refuse ⟨Nat.le_of_ble_eq_true rfl, Nat.le_of_ble_eq_true rfl⟩ hG (rcv hG cl_X4 hM.ag) hM rfl hl.1 rfl (Nat.le_of_ble_eq_true rfl) dX4_player_69 ⟨Nat.le_of_ble_eq_true rfl, Nat.le_of_ble_eq_true rfl⟩ hS (fun q h => hFa q h) (fun q h => hFa q h) (fun v H1 locs1 hP hz hk hS => ?_)
            obtain ⟨rfl, hZ, hc8⟩ := hP
            obtain ⟨Fd, hM, hFn⟩ := hZ.nar
            have hFa : ∀ q, Fd q → fN F s.heap.size q := fun q z => (hFn q z).1.elim (hFa q) (fun z9 => Or.inr (Nat.le_trans hB z9))
            have hFb : ∀ q, Fd q → q < H1.size := fun q z => (hFn q z).2
            clear hFn
            generalize Fd = Fc at hM hFa hFb
            have hG := gE.ofS hG0 hS hFE
            have hcn := hc8.tr hcn
            generalize hv_σ4 : (fX4_refuse σ 0 ca sm 3).2.1 = σ4 at hR hM hcn ⊢
            generalize hv_th4 : (fX4_refuse σ 0 ca sm 3).2.2.1 = th4 at hR hM hcn ⊢
            generalize hv_ca4 : (fX4_refuse σ 0 ca sm 3).2.2.2.1 = ca4 at hR hM hcn ⊢
            generalize hv_sm4 : (fX4_refuse σ 0 ca sm 3).2.2.2.2 = sm4 at hR hM hcn ⊢
            generalize hv_v4 : (fX4_refuse σ 0 ca sm 3).1 = v4 at hR hM hcn ⊢
            try dsimp only at hR
            refine W.eq (g2 := F0 m 72 ls [.int (v4)]) rfl ?_
            exact g_iret hx hb hr hlocks hS ⟨Nat.le_of_ble_eq_true rfl, Nat.le_of_ble_eq_true rfl⟩ dX4_player_72 (by subst hR; exact ⟨rfl, β, hα1, hM.mono (fun q _ z => hFa q z) (fN_E hFE hG0.2.2.1)⟩)
        · rw [if_neg c4] at hR
          refine lv_aload_n hx hb dX4_player_49 rfl (lv_at hl 0 rfl) ?_
          refine lv_iconst (v := 2) hx hb dX4_player_50 (by decide) ?_
          have hB := hS.1
          refine gcV (As := [.int 2]) (rest := []) hS0 (met_X4_refuse l D E 2) q1591 q1593 qs55 q110 q1594 hd_X4_refuse ⟨Nat.le_of_ble_eq_true rfl, Nat.le_of_ble_eq_true rfl⟩ hG (rcv hG cl_X4 hM.ag) hM rfl hl.1 rfl (Nat.le_of_ble_eq_true rfl) dX4_player_51 ⟨Nat.le_of_ble_eq_true rfl, Nat.le_of_ble_eq_true rfl⟩ hS (fun q h => hFa q h) (fun q h => hFa q h) (fun v H1 locs1 hP hz hk hS => ?_)
          obtain ⟨rfl, hZ, hc8⟩ := hP
          obtain ⟨Fd, hM, hFn⟩ := hZ.nar
          have hFa : ∀ q, Fd q → fN F s.heap.size q := fun q z => (hFn q z).1.elim (hFa q) (fun z9 => Or.inr (Nat.le_trans hB z9))
          have hFb : ∀ q, Fd q → q < H1.size := fun q z => (hFn q z).2
          clear hFn
          generalize Fd = Fc at hM hFa hFb
          have hG := gE.ofS hG0 hS hFE
          have hcn := hc8.tr hcn
          generalize hv_σ5 : (fX4_refuse σ 0 ca sm 2).2.1 = σ5 at hR hM hcn ⊢
          generalize hv_th5 : (fX4_refuse σ 0 ca sm 2).2.2.1 = th5 at hR hM hcn ⊢
          generalize hv_ca5 : (fX4_refuse σ 0 ca sm 2).2.2.2.1 = ca5 at hR hM hcn ⊢
          generalize hv_sm5 : (fX4_refuse σ 0 ca sm 2).2.2.2.2 = sm5 at hR hM hcn ⊢
          generalize hv_v5 : (fX4_refuse σ 0 ca sm 2).1 = v5 at hR hM hcn ⊢
          try dsimp only at hR
          refine W.eq (g2 := F0 m 54 ls [.int (v5)]) rfl ?_
          exact g_iret hx hb hr hlocks hS ⟨Nat.le_of_ble_eq_true rfl, Nat.le_of_ble_eq_true rfl⟩ dX4_player_54 (by subst hR; exact ⟨rfl, β, hα1, hM.mono (fun q _ z => hFa q z) (fN_E hFE hG0.2.2.1)⟩)
  · rw [if_neg c1] at hR
    refine lv_aload_n hx hb dX4_player_14 rfl (lv_at hl 0 rfl) ?_
    refine lv_iconst (v := 1) hx hb dX4_player_15 (by decide) ?_
    have hB := hS.1
    refine gcV (As := [.int 1]) (rest := []) hS0 (met_X4_refuse l D E 1) q1591 q1593 qs55 q110 q1594 hd_X4_refuse ⟨Nat.le_of_ble_eq_true rfl, Nat.le_of_ble_eq_true rfl⟩ hG (rcv hG cl_X4 hM.ag) hM rfl hl.1 rfl (Nat.le_of_ble_eq_true rfl) dX4_player_16 ⟨Nat.le_of_ble_eq_true rfl, Nat.le_of_ble_eq_true rfl⟩ hS (fun q h => hFa q h) (fun q h => hFa q h) (fun v H1 locs1 hP hz hk hS => ?_)
    obtain ⟨rfl, hZ, hc8⟩ := hP
    obtain ⟨Fd, hM, hFn⟩ := hZ.nar
    have hFa : ∀ q, Fd q → fN F s.heap.size q := fun q z => (hFn q z).1.elim (hFa q) (fun z9 => Or.inr (Nat.le_trans hB z9))
    have hFb : ∀ q, Fd q → q < H1.size := fun q z => (hFn q z).2
    clear hFn
    generalize Fd = Fc at hM hFa hFb
    have hG := gE.ofS hG0 hS hFE
    have hcn := hc8.tr hcn
    generalize hv_σ6 : (fX4_refuse σ 0 ca sm 1).2.1 = σ6 at hR hM hcn ⊢
    generalize hv_th6 : (fX4_refuse σ 0 ca sm 1).2.2.1 = th6 at hR hM hcn ⊢
    generalize hv_ca6 : (fX4_refuse σ 0 ca sm 1).2.2.2.1 = ca6 at hR hM hcn ⊢
    generalize hv_sm6 : (fX4_refuse σ 0 ca sm 1).2.2.2.2 = sm6 at hR hM hcn ⊢
    generalize hv_v6 : (fX4_refuse σ 0 ca sm 1).1 = v6 at hR hM hcn ⊢
    try dsimp only at hR
    refine W.eq (g2 := F0 m 19 ls [.int (v6)]) rfl ?_
    exact g_iret hx hb hr hlocks hS ⟨Nat.le_of_ble_eq_true rfl, Nat.le_of_ble_eq_true rfl⟩ dX4_player_19 (by subst hR; exact ⟨rfl, β, hα1, hM.mono (fun q _ z => hFa q z) (fN_E hFE hG0.2.2.1)⟩)

def fX4_band (σ : St) (th : Int32) (ca : Int32) (sm : Int64) (a : Int32) : Int32 × MSt :=
  (if ((fX4_is a 1 728)) = true then (if ((fX4_needed a)) ≤ 5 then (if (nI (nB σ)) = 6 then (fun (σ3 : St) => (fun (th3 : Int32) => (fun (ca3 : Int32) => (fun (sm3 : Int64) => (fun (v3 : Int32) => (v3, ((σ3, th3, ca3, sm3) : MSt))) ((fX4_refuse σ 0 ca sm 2).1)) ((fX4_refuse σ 0 ca sm 2).2.2.2.2)) ((fX4_refuse σ 0 ca sm 2).2.2.2.1)) ((fX4_refuse σ 0 ca sm 2).2.2.1)) ((fX4_refuse σ 0 ca sm 2).2.1) else (fun (σ2 : St) => ((nI (nB σ2)) - 1, ((σ2, 0, ca, sm) : MSt))) (adB σ a)) else (fun (σ4 : St) => (fun (th4 : Int32) => (fun (ca4 : Int32) => (fun (sm4 : Int64) => (fun (v4 : Int32) => (v4, ((σ4, th4, ca4, sm4) : MSt))) ((fX4_refuse σ 0 ca sm 1).1)) ((fX4_refuse σ 0 ca sm 1).2.2.2.2)) ((fX4_refuse σ 0 ca sm 1).2.2.2.1)) ((fX4_refuse σ 0 ca sm 1).2.2.1)) ((fX4_refuse σ 0 ca sm 1).2.1)) else (fun (σ1 : St) => (fun (th1 : Int32) => (fun (ca1 : Int32) => (fun (sm1 : Int64) => (fun (v1 : Int32) => (v1, ((σ1, th1, ca1, sm1) : MSt))) ((fX4_refuse σ 0 ca sm 1).1)) ((fX4_refuse σ 0 ca sm 1).2.2.2.2)) ((fX4_refuse σ 0 ca sm 1).2.2.2.1)) ((fX4_refuse σ 0 ca sm 1).2.2.1)) ((fX4_refuse σ 0 ca sm 1).2.1))
set_option maxHeartbeats 4000000 in
set_option maxRecDepth 100000 in
theorem met_X4_band (l : Launch) (D : va_G) (E : Nat → Nat) {β : Nat → Nat → Nat} {F : Nat → Prop} {σ : St} {th ca : Int32} {sm : Int64} (a : Int32)  : GM l D E yX4_band cX4_band 2 (Option.some Jvm.ClassFile.FieldType.int) 7 171 2 101 [.ref (β 0 0), .int (a)] (RM D E β F σ th ca sm) F F (fun sz v h => v = some (.int (fX4_band σ th ca sm a).1) ∧ ∃ β1 : Nat → Nat → Nat, β1 0 0 = β 0 0 ∧ RM D E β1 (fN F sz) (fX4_band σ th ca sm a).2.1 (fX4_band σ th ca sm a).2.2.1 (fX4_band σ th ca sm a).2.2.2.1 (fX4_band σ th ca sm a).2.2.2.2 h)  := by
  generalize hR : fX4_band σ th ca sm a = r
  refine GM.start (by decide) (Nat.le_of_ble_eq_true rfl) ?_
  intro p e s m below meth c ls hx hb hr hml hown hlocks hnm hts hG hM hS hl
  have hown : s.vm.findClass RX4 = some m.cls := hown
  have hS0 : xS p m c cX4_band 2 s _ RX4 := ⟨hx, hb, hml, hown, hts⟩
  have hl : lv_has ls 2 [(0, .ref (β 0 0)), (1, .int (a))] := hl
  have hG0 := hG
  have hM0 := hM
  have hb0P := hM0.nP10
  have hb0B := hM0.nB6
  have hb0W := hM0.nW14
  have hFE := hM.fE
  obtain ⟨Fc, hM, hFn⟩ := hM.nar
  have hFa : ∀ q, Fc q → fN F s.heap.size q := fun q z => Or.inl (hFn q z).1
  have hFb : ∀ q, Fc q → q < s.heap.size := fun q z => (hFn q z).2
  have hcn : cnt σ σ := cnt.rf
  have hα1 : β 0 0 = β 0 0 := rfl
  unfold fX4_band at hR
  refine lv_aload_n hx hb dX4_band_0 rfl (lv_at hl 0 rfl) ?_
  refine lv_iconst (v := 0) hx hb dX4_band_1 (by decide) ?_
  refine pf (ty0 := tyX4) (ty := tyX4 0) (v := .int 0) (C := RX4) (T := TX4) (N := 13) (k := 0) hx hb hts hown hG hS cl_X4 in_X4 tyX4_ok nmX4 hM.ag (hFa _ hM.agF) (hFa _ hM.agF) (by decide) q1540 rfl (tyX4_ok 0 (by decide)) rfl rfl (Nat.le_of_ble_eq_true rfl) dX4_band_2 (fun H1 locs1 he hz hq hS => ?_)
  have hM := hM.Pth  he hq
  have hG := gE.ofS hG0 hS hFE
  refine lv_iload_n hx hb dX4_band_5 rfl (lv_at hl 1 rfl) ?_
  refine lv_iconst (v := 1) hx hb dX4_band_6 (by decide) ?_
  refine lv_sipush (v := 728) hx hb dX4_band_7 (by decide) ?_
  refine pcS (As := [.int (a), .int 1, .int 728]) (rest := []) hS0 (met_X4_is l D E a 1 728) q1588 q1589 q110 q1590 hd_X4_is ⟨Nat.le_of_ble_eq_true rfl, Nat.le_of_ble_eq_true rfl⟩ hG trivial rfl hl.1 rfl (Nat.le_of_ble_eq_true rfl) dX4_band_10 ⟨Nat.le_of_ble_eq_true rfl, Nat.le_of_ble_eq_true rfl⟩ ?_
  refine W.eq (g2 := F0 m 13 ls [.int (bI ((fX4_is a 1 728)))]) rfl ?_
  refine lb_if_eq (tgt := 24) hx hb dX4_band_13 (by decide) (fun c1 => ?_) (fun c1 => ?_)
  · rw [if_neg c1] at hR
    refine lv_aload_n hx hb dX4_band_24 rfl (lv_at hl 0 rfl) ?_
    refine lv_iconst (v := 1) hx hb dX4_band_25 (by decide) ?_
    have hB := hS.1
    refine gcV (As := [.int 1]) (rest := []) hS0 (met_X4_refuse l D E 1) q1591 q1593 qs55 q110 q1594 hd_X4_refuse ⟨Nat.le_of_ble_eq_true rfl, Nat.le_of_ble_eq_true rfl⟩ hG (rcv hG cl_X4 hM.ag) hM rfl hl.1 rfl (Nat.le_of_ble_eq_true rfl) dX4_band_26 ⟨Nat.le_of_ble_eq_true rfl, Nat.le_of_ble_eq_true rfl⟩ hS (fun q h => hFa q h) (fun q h => hFa q h) (fun v H1 locs1 hP hz hk hS => ?_)
    obtain ⟨rfl, hZ, hc8⟩ := hP
    obtain ⟨Fd, hM, hFn⟩ := hZ.nar
    have hFa : ∀ q, Fd q → fN F s.heap.size q := fun q z => (hFn q z).1.elim (hFa q) (fun z9 => Or.inr (Nat.le_trans hB z9))
    have hFb : ∀ q, Fd q → q < H1.size := fun q z => (hFn q z).2
    clear hFn
    generalize Fd = Fc at hM hFa hFb
    have hG := gE.ofS hG0 hS hFE
    have hcn := hc8.tr hcn
    generalize hv_σ1 : (fX4_refuse σ 0 ca sm 1).2.1 = σ1 at hR hM hcn ⊢
    generalize hv_th1 : (fX4_refuse σ 0 ca sm 1).2.2.1 = th1 at hR hM hcn ⊢
    generalize hv_ca1 : (fX4_refuse σ 0 ca sm 1).2.2.2.1 = ca1 at hR hM hcn ⊢
    generalize hv_sm1 : (fX4_refuse σ 0 ca sm 1).2.2.2.2 = sm1 at hR hM hcn ⊢
    generalize hv_v1 : (fX4_refuse σ 0 ca sm 1).1 = v1 at hR hM hcn ⊢
    try dsimp only at hR
    refine W.eq (g2 := F0 m 29 ls [.int (v1)]) rfl ?_
    exact g_iret hx hb hr hlocks hS ⟨Nat.le_of_ble_eq_true rfl, Nat.le_of_ble_eq_true rfl⟩ dX4_band_29 (by subst hR; exact ⟨rfl, β, hα1, hM.mono (fun q _ z => hFa q z) (fN_E hFE hG0.2.2.1)⟩)
  · rw [if_pos c1] at hR
    refine lv_iload_n hx hb dX4_band_16 rfl (lv_at hl 1 rfl) ?_
    refine pcS (As := [.int (a)]) (rest := []) hS0 (met_X4_needed l D E a) q1672 q1673 q110 q1674 hd_X4_needed ⟨Nat.le_of_ble_eq_true rfl, Nat.le_of_ble_eq_true rfl⟩ hG trivial rfl hl.1 rfl (Nat.le_of_ble_eq_true rfl) dX4_band_17 ⟨Nat.le_of_ble_eq_true rfl, Nat.le_of_ble_eq_true rfl⟩ ?_
    refine W.eq (g2 := F0 m 20 ls [.int ((fX4_needed a))]) rfl ?_
    refine lv_iconst (v := 5) hx hb dX4_band_20 (by decide) ?_
    refine lv_icmp_le (tgt := 30) hx hb dX4_band_21 (by decide) (fun c2 => ?_) (fun c2 => ?_)
    · rw [if_pos c2] at hR
      refine lv_aload_n hx hb dX4_band_30 rfl (lv_at hl 0 rfl) ?_
      refine gf (v := .ref (β 1 1)) (C := RX4) (T := TX4) (N := 13) (k := 4) hx hb hts hown hG cl_X4 in_X4 hM.ag (by decide) q1544 rfl dX4_band_31 ?_
      refine pcV (As := []) (rest := []) hS0 (met_ml_size l D E (j := 1) (by decide)) q1600 q336 q2080 q103 q338 hd_J2_size ⟨Nat.le_of_ble_eq_true rfl, Nat.le_of_ble_eq_true rfl⟩ hG (hM.lsR hG (j := 1) (by decide)) hM rfl hl.1 rfl (Nat.le_of_ble_eq_true rfl) dX4_band_34 ⟨Nat.le_of_ble_eq_true rfl, Nat.le_of_ble_eq_true rfl⟩ ?_
      refine W.eq (g2 := F0 m 37 ls [.int (nI (nB σ))]) rfl ?_
      refine lv_bipush (v := 6) hx hb dX4_band_37 (by decide) ?_
      refine lv_icmp_ne (tgt := 48) hx hb dX4_band_39 (by decide) (fun c3 => ?_) (fun c3 => ?_)
      · rw [if_neg c3] at hR
        have hs1 := (is_t.mp c1).1
        have hs2 : a ≤ 1000 := Int32.le_trans (is_t.mp c1).2 (by decide)
        refine lv_aload_n hx hb dX4_band_48 rfl (lv_at hl 0 rfl) ?_
        refine gf (v := .ref (β 1 1)) (C := RX4) (T := TX4) (N := 13) (k := 4) hx hb hts hown hG cl_X4 in_X4 hM.ag (by decide) q1544 rfl dX4_band_49 ?_
        refine lv_iload_n hx hb dX4_band_52 rfl (lv_at hl 1 rfl) ?_
        have hB := hS.1
        refine gcS (As := [.int (a)]) (rest := [.ref (β 1 1)]) hS0 (met_valueOf_any l D E a hs1 hs2) q1678 q631 q125 q632 hd_J17_valueOf ⟨Nat.le_of_ble_eq_true rfl, Nat.le_of_ble_eq_true rfl⟩ hG trivial rfl hl.1 rfl (Nat.le_of_ble_eq_true rfl) dX4_band_53 ⟨Nat.le_of_ble_eq_true rfl, Nat.le_of_ble_eq_true rfl⟩ hS (fun q h => h.elim) (fun q h => h.elim) (fun v H1 locs1 hP hz hk hS => ?_)
        obtain ⟨q53, rfl, hv1, hv2⟩ := hP
        have hbx9 : (127 < a → va_at D vwCl (q53, .inr (14, [.int a])) H1 ∧ ¬ Fc q53 ∧ E 0 ≤ q53) ∧ (¬ 127 < a → q53 = E (300 + (a + 128).toNatClampNeg)) := ⟨fun h => ⟨(hv1 h).2, fun z => by have h8 := hFb _ z; have h9 := (hv1 h).1; omega, Nat.le_trans hG0.2.2.1 (by have h9 := (hv1 h).1; omega)⟩, hv2⟩
        have hbn9 : 127 < a → s.heap.size ≤ q53 := fun h => by have h9 := (hv1 h).1; omega
        have hM := hM.kept (fun q h4 _ => hk q h4 id)
        have hG := gE.ofS hG0 hS hFE
        refine W.eq (g2 := F0 m 56 ls [.ref (q53), .ref (β 1 1)]) rfl ?_
        have hB := hS.1
        refine gcV (As := [.ref (q53)]) (rest := []) hS0 (met_maddB l D E q53 a) q1630 q230 q2081 q103 q232 hd_J2_add ⟨Nat.le_of_ble_eq_true rfl, Nat.le_of_ble_eq_true rfl⟩ hG (hM.lsR hG (j := 1) (by decide)) ⟨hM, hbx9.1, hs1, hbx9.2, (bd6 hM.nB6 c3), (fun q z => by have := hFb q z; omega)⟩ rfl hl.1 rfl (Nat.le_of_ble_eq_true rfl) dX4_band_56 ⟨Nat.le_of_ble_eq_true rfl, Nat.le_of_ble_eq_true rfl⟩ hS (fun q h => hFa q h) (fun q h => hFa q h) (fun v H1 locs1 hP hz hk hS => ?_)
        obtain ⟨rfl, β, hα1, hM⟩ := hP
        rw [← hα1] at hl
        obtain ⟨σ2, hσ2⟩ : ∃ x, x = adB σ a := ⟨_, rfl⟩
        rw [← hσ2] at hR hM
        try dsimp only at hR
        obtain ⟨Fd, hM, hFn⟩ := hM.nar
        have hFa : ∀ q, Fd q → fN F s.heap.size q := fun q h7 => by
          rcases (hFn q h7).1 with h8 | ⟨rfl, h9⟩ | h8
          · exact hFa q h8
          · exact Or.inr (hbn9 h9)
          · exact Or.inr (by have := hB; omega)
        have hFb : ∀ q, Fd q → q < H1.size := fun q z => (hFn q z).2
        clear hFn
        generalize Fd = Fc at hM hFa hFb
        have hG := gE.ofS hG0 hS hFE
        refine W.eq (g2 := F0 m 59 ls [.int 1]) rfl ?_
        refine lv_pop hx hb dX4_band_59 rfl ?_
        refine lv_aload_n hx hb dX4_band_60 rfl (lv_at hl 0 rfl) ?_
        refine gf (v := .ref (β 1 1)) (C := RX4) (T := TX4) (N := 13) (k := 4) hx hb hts hown hG cl_X4 in_X4 hM.ag (by decide) q1544 rfl dX4_band_61 ?_
        refine pcV (As := []) (rest := []) hS0 (met_ml_size l D E (j := 1) (by decide)) q1600 q336 q2080 q103 q338 hd_J2_size ⟨Nat.le_of_ble_eq_true rfl, Nat.le_of_ble_eq_true rfl⟩ hG (hM.lsR hG (j := 1) (by decide)) hM rfl hl.1 rfl (Nat.le_of_ble_eq_true rfl) dX4_band_64 ⟨Nat.le_of_ble_eq_true rfl, Nat.le_of_ble_eq_true rfl⟩ ?_
        refine W.eq (g2 := F0 m 67 ls [.int (nI (nB σ2))]) rfl ?_
        refine lv_iconst (v := 1) hx hb dX4_band_67 (by decide) ?_
        refine lv_isub hx hb dX4_band_68 ?_
        exact g_iret hx hb hr hlocks hS ⟨Nat.le_of_ble_eq_true rfl, Nat.le_of_ble_eq_true rfl⟩ dX4_band_69 (by subst hR; exact ⟨rfl, β, hα1, hM.mono (fun q _ z => hFa q z) (fN_E hFE hG0.2.2.1)⟩)
      · rw [if_pos c3] at hR
        refine lv_aload_n hx hb dX4_band_42 rfl (lv_at hl 0 rfl) ?_
        refine lv_iconst (v := 2) hx hb dX4_band_43 (by decide) ?_
        have hB := hS.1
        refine gcV (As := [.int 2]) (rest := []) hS0 (met_X4_refuse l D E 2) q1591 q1593 qs55 q110 q1594 hd_X4_refuse ⟨Nat.le_of_ble_eq_true rfl, Nat.le_of_ble_eq_true rfl⟩ hG (rcv hG cl_X4 hM.ag) hM rfl hl.1 rfl (Nat.le_of_ble_eq_true rfl) dX4_band_44 ⟨Nat.le_of_ble_eq_true rfl, Nat.le_of_ble_eq_true rfl⟩ hS (fun q h => hFa q h) (fun q h => hFa q h) (fun v H1 locs1 hP hz hk hS => ?_)
        obtain ⟨rfl, hZ, hc8⟩ := hP
        obtain ⟨Fd, hM, hFn⟩ := hZ.nar
        have hFa : ∀ q, Fd q → fN F s.heap.size q := fun q z => (hFn q z).1.elim (hFa q) (fun z9 => Or.inr (Nat.le_trans hB z9))
        have hFb : ∀ q, Fd q → q < H1.size := fun q z => (hFn q z).2
        clear hFn
        generalize Fd = Fc at hM hFa hFb
        have hG := gE.ofS hG0 hS hFE
        have hcn := hc8.tr hcn
        generalize hv_σ3 : (fX4_refuse σ 0 ca sm 2).2.1 = σ3 at hR hM hcn ⊢
        generalize hv_th3 : (fX4_refuse σ 0 ca sm 2).2.2.1 = th3 at hR hM hcn ⊢
        generalize hv_ca3 : (fX4_refuse σ 0 ca sm 2).2.2.2.1 = ca3 at hR hM hcn ⊢
        generalize hv_sm3 : (fX4_refuse σ 0 ca sm 2).2.2.2.2 = sm3 at hR hM hcn ⊢
        generalize hv_v3 : (fX4_refuse σ 0 ca sm 2).1 = v3 at hR hM hcn ⊢
        try dsimp only at hR
        refine W.eq (g2 := F0 m 47 ls [.int (v3)]) rfl ?_
        exact g_iret hx hb hr hlocks hS ⟨Nat.le_of_ble_eq_true rfl, Nat.le_of_ble_eq_true rfl⟩ dX4_band_47 (by subst hR; exact ⟨rfl, β, hα1, hM.mono (fun q _ z => hFa q z) (fN_E hFE hG0.2.2.1)⟩)
    · rw [if_neg c2] at hR
      refine lv_aload_n hx hb dX4_band_24 rfl (lv_at hl 0 rfl) ?_
      refine lv_iconst (v := 1) hx hb dX4_band_25 (by decide) ?_
      have hB := hS.1
      refine gcV (As := [.int 1]) (rest := []) hS0 (met_X4_refuse l D E 1) q1591 q1593 qs55 q110 q1594 hd_X4_refuse ⟨Nat.le_of_ble_eq_true rfl, Nat.le_of_ble_eq_true rfl⟩ hG (rcv hG cl_X4 hM.ag) hM rfl hl.1 rfl (Nat.le_of_ble_eq_true rfl) dX4_band_26 ⟨Nat.le_of_ble_eq_true rfl, Nat.le_of_ble_eq_true rfl⟩ hS (fun q h => hFa q h) (fun q h => hFa q h) (fun v H1 locs1 hP hz hk hS => ?_)
      obtain ⟨rfl, hZ, hc8⟩ := hP
      obtain ⟨Fd, hM, hFn⟩ := hZ.nar
      have hFa : ∀ q, Fd q → fN F s.heap.size q := fun q z => (hFn q z).1.elim (hFa q) (fun z9 => Or.inr (Nat.le_trans hB z9))
      have hFb : ∀ q, Fd q → q < H1.size := fun q z => (hFn q z).2
      clear hFn
      generalize Fd = Fc at hM hFa hFb
      have hG := gE.ofS hG0 hS hFE
      have hcn := hc8.tr hcn
      generalize hv_σ4 : (fX4_refuse σ 0 ca sm 1).2.1 = σ4 at hR hM hcn ⊢
      generalize hv_th4 : (fX4_refuse σ 0 ca sm 1).2.2.1 = th4 at hR hM hcn ⊢
      generalize hv_ca4 : (fX4_refuse σ 0 ca sm 1).2.2.2.1 = ca4 at hR hM hcn ⊢
      generalize hv_sm4 : (fX4_refuse σ 0 ca sm 1).2.2.2.2 = sm4 at hR hM hcn ⊢
      generalize hv_v4 : (fX4_refuse σ 0 ca sm 1).1 = v4 at hR hM hcn ⊢
      try dsimp only at hR
      refine W.eq (g2 := F0 m 29 ls [.int (v4)]) rfl ?_
      exact g_iret hx hb hr hlocks hS ⟨Nat.le_of_ble_eq_true rfl, Nat.le_of_ble_eq_true rfl⟩ dX4_band_29 (by subst hR; exact ⟨rfl, β, hα1, hM.mono (fun q _ z => hFa q z) (fN_E hFE hG0.2.2.1)⟩)

def fX4_ask (σ : St) (th : Int32) (ca : Int32) (sm : Int64) (a : Int32) (b : Int32) (c_ : Int32) (d_ : Int32) (e_ : Int32) (z : Int32) : Int32 × MSt :=
  (if ((fX4_isBand σ a)) = true then (if ((fX4_isTown c_)) = true then (if ((fX4_isDay σ b)) = true then (if ((fX4_is d_ 10 22)) = true then (if ((fX4_is e_ 1 6)) = true then (if 24 < (d_ + e_) then (fun (σ5 : St) => (fun (th5 : Int32) => (fun (ca5 : Int32) => (fun (sm5 : Int64) => (fun (v5 : Int32) => (v5, ((σ5, th5, ca5, sm5) : MSt))) ((fX4_refuse σ 0 ca sm 2).1)) ((fX4_refuse σ 0 ca sm 2).2.2.2.2)) ((fX4_refuse σ 0 ca sm 2).2.2.2.1)) ((fX4_refuse σ 0 ca sm 2).2.2.1)) ((fX4_refuse σ 0 ca sm 2).2.1) else (if ((fX4_areSongs σ z)) = true then (if (nI (nW σ)) = 14 then (fun (σ6 : St) => (fun (th6 : Int32) => (fun (ca6 : Int32) => (fun (sm6 : Int64) => (fun (v6 : Int32) => (v6, ((σ6, th6, ca6, sm6) : MSt))) ((fX4_refuse σ 0 ca sm 3).1)) ((fX4_refuse σ 0 ca sm 3).2.2.2.2)) ((fX4_refuse σ 0 ca sm 3).2.2.2.1)) ((fX4_refuse σ 0 ca sm 3).2.2.1)) ((fX4_refuse σ 0 ca sm 3).2.1) else (if ((fX4_isFixed σ (nI ((Int32.toNatClampNeg a))) (nI ((Int32.toNatClampNeg b))))) = true then (fun (σ8 : St) => (fun (th8 : Int32) => (fun (ca8 : Int32) => (fun (sm8 : Int64) => (fun (v8 : Int32) => (v8, ((σ8, th8, ca8, sm8) : MSt))) ((fX4_refuse σ 0 ca sm 3).1)) ((fX4_refuse σ 0 ca sm 3).2.2.2.2)) ((fX4_refuse σ 0 ca sm 3).2.2.2.1)) ((fX4_refuse σ 0 ca sm 3).2.2.1)) ((fX4_refuse σ 0 ca sm 3).2.1) else (fun (σ7 : St) => ((nI (nW σ7)) - 1, ((σ7, 0, ca, sm) : MSt))) (adW σ ((Int32.toNatClampNeg a)) ((Int32.toNatClampNeg b)) ((Int32.toNatClampNeg c_)) d_ e_ z (tod σ)))) else (fun (σ9 : St) => (fun (th9 : Int32) => (fun (ca9 : Int32) => (fun (sm9 : Int64) => (fun (v9 : Int32) => (v9, ((σ9, th9, ca9, sm9) : MSt))) ((fX4_refuse σ 0 ca sm 2).1)) ((fX4_refuse σ 0 ca sm 2).2.2.2.2)) ((fX4_refuse σ 0 ca sm 2).2.2.2.1)) ((fX4_refuse σ 0 ca sm 2).2.2.1)) ((fX4_refuse σ 0 ca sm 2).2.1))) else (fun (σ4 : St) => (fun (th4 : Int32) => (fun (ca4 : Int32) => (fun (sm4 : Int64) => (fun (v4 : Int32) => (v4, ((σ4, th4, ca4, sm4) : MSt))) ((fX4_refuse σ 0 ca sm 2).1)) ((fX4_refuse σ 0 ca sm 2).2.2.2.2)) ((fX4_refuse σ 0 ca sm 2).2.2.2.1)) ((fX4_refuse σ 0 ca sm 2).2.2.1)) ((fX4_refuse σ 0 ca sm 2).2.1)) else (fun (σ3 : St) => (fun (th3 : Int32) => (fun (ca3 : Int32) => (fun (sm3 : Int64) => (fun (v3 : Int32) => (v3, ((σ3, th3, ca3, sm3) : MSt))) ((fX4_refuse σ 0 ca sm 2).1)) ((fX4_refuse σ 0 ca sm 2).2.2.2.2)) ((fX4_refuse σ 0 ca sm 2).2.2.2.1)) ((fX4_refuse σ 0 ca sm 2).2.2.1)) ((fX4_refuse σ 0 ca sm 2).2.1)) else (fun (σ2 : St) => (fun (th2 : Int32) => (fun (ca2 : Int32) => (fun (sm2 : Int64) => (fun (v2 : Int32) => (v2, ((σ2, th2, ca2, sm2) : MSt))) ((fX4_refuse σ 0 ca sm 2).1)) ((fX4_refuse σ 0 ca sm 2).2.2.2.2)) ((fX4_refuse σ 0 ca sm 2).2.2.2.1)) ((fX4_refuse σ 0 ca sm 2).2.2.1)) ((fX4_refuse σ 0 ca sm 2).2.1)) else (fun (σ10 : St) => (fun (th10 : Int32) => (fun (ca10 : Int32) => (fun (sm10 : Int64) => (fun (v10 : Int32) => (v10, ((σ10, th10, ca10, sm10) : MSt))) ((fX4_refuse σ 0 ca sm 1).1)) ((fX4_refuse σ 0 ca sm 1).2.2.2.2)) ((fX4_refuse σ 0 ca sm 1).2.2.2.1)) ((fX4_refuse σ 0 ca sm 1).2.2.1)) ((fX4_refuse σ 0 ca sm 1).2.1)) else (fun (σ1 : St) => (fun (th1 : Int32) => (fun (ca1 : Int32) => (fun (sm1 : Int64) => (fun (v1 : Int32) => (v1, ((σ1, th1, ca1, sm1) : MSt))) ((fX4_refuse σ 0 ca sm 1).1)) ((fX4_refuse σ 0 ca sm 1).2.2.2.2)) ((fX4_refuse σ 0 ca sm 1).2.2.2.1)) ((fX4_refuse σ 0 ca sm 1).2.2.1)) ((fX4_refuse σ 0 ca sm 1).2.1))
set_option maxHeartbeats 4000000 in
set_option maxRecDepth 100000 in
theorem met_X4_ask (l : Launch) (D : va_G) (E : Nat → Nat) {β : Nat → Nat → Nat} {F : Nat → Prop} {σ : St} {th ca : Int32} {sm : Int64} (a : Int32) (b : Int32) (c_ : Int32) (d_ : Int32) (e_ : Int32) (z : Int32) (h0 : 0 ≤ tod σ) : GM l D E yX4_ask cX4_ask 8 (Option.some Jvm.ClassFile.FieldType.int) 7 171 2 112 [.ref (β 0 0), .int (a), .int (b), .int (c_), .int (d_), .int (e_), .int (z)] (RM D E β F σ th ca sm) F F (fun sz v h => v = some (.int (fX4_ask σ th ca sm a b c_ d_ e_ z).1) ∧ ∃ β1 : Nat → Nat → Nat, β1 0 0 = β 0 0 ∧ RM D E β1 (fN F sz) (fX4_ask σ th ca sm a b c_ d_ e_ z).2.1 (fX4_ask σ th ca sm a b c_ d_ e_ z).2.2.1 (fX4_ask σ th ca sm a b c_ d_ e_ z).2.2.2.1 (fX4_ask σ th ca sm a b c_ d_ e_ z).2.2.2.2 h)  := by
  generalize hR : fX4_ask σ th ca sm a b c_ d_ e_ z = r
  refine GM.start (by decide) (Nat.le_of_ble_eq_true rfl) ?_
  intro p e s m below meth c ls hx hb hr hml hown hlocks hnm hts hG hM hS hl
  have hown : s.vm.findClass RX4 = some m.cls := hown
  have hS0 : xS p m c cX4_ask 8 s _ RX4 := ⟨hx, hb, hml, hown, hts⟩
  have hl : lv_has ls 8 [(0, .ref (β 0 0)), (1, .int (a)), (2, .int (b)), (3, .int (c_)), (4, .int (d_)), (5, .int (e_)), (6, .int (z))] := hl
  have hG0 := hG
  have hM0 := hM
  have hb0P := hM0.nP10
  have hb0B := hM0.nB6
  have hb0W := hM0.nW14
  have hFE := hM.fE
  obtain ⟨Fc, hM, hFn⟩ := hM.nar
  have hFa : ∀ q, Fc q → fN F s.heap.size q := fun q z => Or.inl (hFn q z).1
  have hFb : ∀ q, Fc q → q < s.heap.size := fun q z => (hFn q z).2
  have hcn : cnt σ σ := cnt.rf
  have hα1 : β 0 0 = β 0 0 := rfl
  unfold fX4_ask at hR
  refine lv_aload_n hx hb dX4_ask_0 rfl (lv_at hl 0 rfl) ?_
  refine lv_iconst (v := 0) hx hb dX4_ask_1 (by decide) ?_
  refine pf (ty0 := tyX4) (ty := tyX4 0) (v := .int 0) (C := RX4) (T := TX4) (N := 13) (k := 0) hx hb hts hown hG hS cl_X4 in_X4 tyX4_ok nmX4 hM.ag (hFa _ hM.agF) (hFa _ hM.agF) (by decide) q1540 rfl (tyX4_ok 0 (by decide)) rfl rfl (Nat.le_of_ble_eq_true rfl) dX4_ask_2 (fun H1 locs1 he hz hq hS => ?_)
  have hM := hM.Pth  he hq
  have hG := gE.ofS hG0 hS hFE
  refine lv_aload_n hx hb dX4_ask_5 rfl (lv_at hl 0 rfl) ?_
  refine lv_iload_n hx hb dX4_ask_6 rfl (lv_at hl 1 rfl) ?_
  refine pcV (As := [.int (a)]) (rest := []) hS0 (met_X4_isBand l D E a) q1683 q1685 qs59 q110 q1686 hd_X4_isBand ⟨Nat.le_of_ble_eq_true rfl, Nat.le_of_ble_eq_true rfl⟩ hG (rcv hG cl_X4 hM.ag) hM rfl hl.1 rfl (Nat.le_of_ble_eq_true rfl) dX4_ask_7 ⟨Nat.le_of_ble_eq_true rfl, Nat.le_of_ble_eq_true rfl⟩ ?_
  refine W.eq (g2 := F0 m 10 ls [.int (bI ((fX4_isBand σ a)))]) rfl ?_
  refine lb_if_eq (tgt := 20) hx hb dX4_ask_10 (by decide) (fun c1 => ?_) (fun c1 => ?_)
  · rw [if_neg c1] at hR
    refine lv_aload_n hx hb dX4_ask_20 rfl (lv_at hl 0 rfl) ?_
    refine lv_iconst (v := 1) hx hb dX4_ask_21 (by decide) ?_
    have hB := hS.1
    refine gcV (As := [.int 1]) (rest := []) hS0 (met_X4_refuse l D E 1) q1591 q1593 qs55 q110 q1594 hd_X4_refuse ⟨Nat.le_of_ble_eq_true rfl, Nat.le_of_ble_eq_true rfl⟩ hG (rcv hG cl_X4 hM.ag) hM rfl hl.1 rfl (Nat.le_of_ble_eq_true rfl) dX4_ask_22 ⟨Nat.le_of_ble_eq_true rfl, Nat.le_of_ble_eq_true rfl⟩ hS (fun q h => hFa q h) (fun q h => hFa q h) (fun v H1 locs1 hP hz hk hS => ?_)
    obtain ⟨rfl, hZ, hc8⟩ := hP
    obtain ⟨Fd, hM, hFn⟩ := hZ.nar
    have hFa : ∀ q, Fd q → fN F s.heap.size q := fun q z => (hFn q z).1.elim (hFa q) (fun z9 => Or.inr (Nat.le_trans hB z9))
    have hFb : ∀ q, Fd q → q < H1.size := fun q z => (hFn q z).2
    clear hFn
    generalize Fd = Fc at hM hFa hFb
    have hG := gE.ofS hG0 hS hFE
    have hcn := hc8.tr hcn
    generalize hv_σ1 : (fX4_refuse σ 0 ca sm 1).2.1 = σ1 at hR hM hcn ⊢
    generalize hv_th1 : (fX4_refuse σ 0 ca sm 1).2.2.1 = th1 at hR hM hcn ⊢
    generalize hv_ca1 : (fX4_refuse σ 0 ca sm 1).2.2.2.1 = ca1 at hR hM hcn ⊢
    generalize hv_sm1 : (fX4_refuse σ 0 ca sm 1).2.2.2.2 = sm1 at hR hM hcn ⊢
    generalize hv_v1 : (fX4_refuse σ 0 ca sm 1).1 = v1 at hR hM hcn ⊢
    try dsimp only at hR
    refine W.eq (g2 := F0 m 25 ls [.int (v1)]) rfl ?_
    exact g_iret hx hb hr hlocks hS ⟨Nat.le_of_ble_eq_true rfl, Nat.le_of_ble_eq_true rfl⟩ dX4_ask_25 (by subst hR; exact ⟨rfl, β, hα1, hM.mono (fun q _ z => hFa q z) (fN_E hFE hG0.2.2.1)⟩)
  · rw [if_pos c1] at hR
    have nc1 := isBand_ix hM c1
    refine lv_iload_n hx hb dX4_ask_13 rfl (lv_at hl 3 rfl) ?_
    refine pcS (As := [.int (c_)]) (rest := []) hS0 (met_X4_isTown l D E c_) q1661 q1662 q110 q1663 hd_X4_isTown ⟨Nat.le_of_ble_eq_true rfl, Nat.le_of_ble_eq_true rfl⟩ hG trivial rfl hl.1 rfl (Nat.le_of_ble_eq_true rfl) dX4_ask_14 ⟨Nat.le_of_ble_eq_true rfl, Nat.le_of_ble_eq_true rfl⟩ ?_
    refine W.eq (g2 := F0 m 17 ls [.int (bI ((fX4_isTown c_)))]) rfl ?_
    refine lb_if_ne (tgt := 26) hx hb dX4_ask_17 (by decide) (fun c2 => ?_) (fun c2 => ?_)
    · rw [if_pos c2] at hR
      have nc2 := isTown_ix c2
      refine lv_aload_n hx hb dX4_ask_26 rfl (lv_at hl 0 rfl) ?_
      refine lv_iload_n hx hb dX4_ask_27 rfl (lv_at hl 2 rfl) ?_
      refine pcV (As := [.int (b)]) (rest := []) hS0 (met_X4_isDay l D E b) q1687 q1689 qs60 q110 q1690 hd_X4_isDay ⟨Nat.le_of_ble_eq_true rfl, Nat.le_of_ble_eq_true rfl⟩ hG (rcv hG cl_X4 hM.ag) hM rfl hl.1 rfl (Nat.le_of_ble_eq_true rfl) dX4_ask_28 ⟨Nat.le_of_ble_eq_true rfl, Nat.le_of_ble_eq_true rfl⟩ ?_
      refine W.eq (g2 := F0 m 31 ls [.int (bI ((fX4_isDay σ b)))]) rfl ?_
      refine lb_if_eq (tgt := 76) hx hb dX4_ask_31 (by decide) (fun c3 => ?_) (fun c3 => ?_)
      · rw [if_neg c3] at hR
        refine lv_aload_n hx hb dX4_ask_76 rfl (lv_at hl 0 rfl) ?_
        refine lv_iconst (v := 2) hx hb dX4_ask_77 (by decide) ?_
        have hB := hS.1
        refine gcV (As := [.int 2]) (rest := []) hS0 (met_X4_refuse l D E 2) q1591 q1593 qs55 q110 q1594 hd_X4_refuse ⟨Nat.le_of_ble_eq_true rfl, Nat.le_of_ble_eq_true rfl⟩ hG (rcv hG cl_X4 hM.ag) hM rfl hl.1 rfl (Nat.le_of_ble_eq_true rfl) dX4_ask_78 ⟨Nat.le_of_ble_eq_true rfl, Nat.le_of_ble_eq_true rfl⟩ hS (fun q h => hFa q h) (fun q h => hFa q h) (fun v H1 locs1 hP hz hk hS => ?_)
        obtain ⟨rfl, hZ, hc8⟩ := hP
        obtain ⟨Fd, hM, hFn⟩ := hZ.nar
        have hFa : ∀ q, Fd q → fN F s.heap.size q := fun q z => (hFn q z).1.elim (hFa q) (fun z9 => Or.inr (Nat.le_trans hB z9))
        have hFb : ∀ q, Fd q → q < H1.size := fun q z => (hFn q z).2
        clear hFn
        generalize Fd = Fc at hM hFa hFb
        have hG := gE.ofS hG0 hS hFE
        have hcn := hc8.tr hcn
        generalize hv_σ2 : (fX4_refuse σ 0 ca sm 2).2.1 = σ2 at hR hM hcn ⊢
        generalize hv_th2 : (fX4_refuse σ 0 ca sm 2).2.2.1 = th2 at hR hM hcn ⊢
        generalize hv_ca2 : (fX4_refuse σ 0 ca sm 2).2.2.2.1 = ca2 at hR hM hcn ⊢
        generalize hv_sm2 : (fX4_refuse σ 0 ca sm 2).2.2.2.2 = sm2 at hR hM hcn ⊢
        generalize hv_v2 : (fX4_refuse σ 0 ca sm 2).1 = v2 at hR hM hcn ⊢
        try dsimp only at hR
        refine W.eq (g2 := F0 m 81 ls [.int (v2)]) rfl ?_
        exact g_iret hx hb hr hlocks hS ⟨Nat.le_of_ble_eq_true rfl, Nat.le_of_ble_eq_true rfl⟩ dX4_ask_81 (by subst hR; exact ⟨rfl, β, hα1, hM.mono (fun q _ z => hFa q z) (fN_E hFE hG0.2.2.1)⟩)
      · rw [if_pos c3] at hR
        have nc3 := isDay_ix h0 c3
        refine lv_iload hx hb dX4_ask_34 (lv_at hl 4 rfl) ?_
        refine lv_bipush (v := 10) hx hb dX4_ask_36 (by decide) ?_
        refine lv_bipush (v := 22) hx hb dX4_ask_38 (by decide) ?_
        refine pcS (As := [.int (d_), .int 10, .int 22]) (rest := []) hS0 (met_X4_is l D E d_ 10 22) q1588 q1589 q110 q1590 hd_X4_is ⟨Nat.le_of_ble_eq_true rfl, Nat.le_of_ble_eq_true rfl⟩ hG trivial rfl hl.1 rfl (Nat.le_of_ble_eq_true rfl) dX4_ask_40 ⟨Nat.le_of_ble_eq_true rfl, Nat.le_of_ble_eq_true rfl⟩ ?_
        refine W.eq (g2 := F0 m 43 ls [.int (bI ((fX4_is d_ 10 22)))]) rfl ?_
        refine lb_if_eq (tgt := 76) hx hb dX4_ask_43 (by decide) (fun c4 => ?_) (fun c4 => ?_)
        · rw [if_neg c4] at hR
          refine lv_aload_n hx hb dX4_ask_76 rfl (lv_at hl 0 rfl) ?_
          refine lv_iconst (v := 2) hx hb dX4_ask_77 (by decide) ?_
          have hB := hS.1
          refine gcV (As := [.int 2]) (rest := []) hS0 (met_X4_refuse l D E 2) q1591 q1593 qs55 q110 q1594 hd_X4_refuse ⟨Nat.le_of_ble_eq_true rfl, Nat.le_of_ble_eq_true rfl⟩ hG (rcv hG cl_X4 hM.ag) hM rfl hl.1 rfl (Nat.le_of_ble_eq_true rfl) dX4_ask_78 ⟨Nat.le_of_ble_eq_true rfl, Nat.le_of_ble_eq_true rfl⟩ hS (fun q h => hFa q h) (fun q h => hFa q h) (fun v H1 locs1 hP hz hk hS => ?_)
          obtain ⟨rfl, hZ, hc8⟩ := hP
          obtain ⟨Fd, hM, hFn⟩ := hZ.nar
          have hFa : ∀ q, Fd q → fN F s.heap.size q := fun q z => (hFn q z).1.elim (hFa q) (fun z9 => Or.inr (Nat.le_trans hB z9))
          have hFb : ∀ q, Fd q → q < H1.size := fun q z => (hFn q z).2
          clear hFn
          generalize Fd = Fc at hM hFa hFb
          have hG := gE.ofS hG0 hS hFE
          have hcn := hc8.tr hcn
          generalize hv_σ3 : (fX4_refuse σ 0 ca sm 2).2.1 = σ3 at hR hM hcn ⊢
          generalize hv_th3 : (fX4_refuse σ 0 ca sm 2).2.2.1 = th3 at hR hM hcn ⊢
          generalize hv_ca3 : (fX4_refuse σ 0 ca sm 2).2.2.2.1 = ca3 at hR hM hcn ⊢
          generalize hv_sm3 : (fX4_refuse σ 0 ca sm 2).2.2.2.2 = sm3 at hR hM hcn ⊢
          generalize hv_v3 : (fX4_refuse σ 0 ca sm 2).1 = v3 at hR hM hcn ⊢
          try dsimp only at hR
          refine W.eq (g2 := F0 m 81 ls [.int (v3)]) rfl ?_
          exact g_iret hx hb hr hlocks hS ⟨Nat.le_of_ble_eq_true rfl, Nat.le_of_ble_eq_true rfl⟩ dX4_ask_81 (by subst hR; exact ⟨rfl, β, hα1, hM.mono (fun q _ z => hFa q z) (fN_E hFE hG0.2.2.1)⟩)
        · rw [if_pos c4] at hR
          refine lv_iload hx hb dX4_ask_46 (lv_at hl 5 rfl) ?_
          refine lv_iconst (v := 1) hx hb dX4_ask_48 (by decide) ?_
          refine lv_bipush (v := 6) hx hb dX4_ask_49 (by decide) ?_
          refine pcS (As := [.int (e_), .int 1, .int 6]) (rest := []) hS0 (met_X4_is l D E e_ 1 6) q1588 q1589 q110 q1590 hd_X4_is ⟨Nat.le_of_ble_eq_true rfl, Nat.le_of_ble_eq_true rfl⟩ hG trivial rfl hl.1 rfl (Nat.le_of_ble_eq_true rfl) dX4_ask_51 ⟨Nat.le_of_ble_eq_true rfl, Nat.le_of_ble_eq_true rfl⟩ ?_
          refine W.eq (g2 := F0 m 54 ls [.int (bI ((fX4_is e_ 1 6)))]) rfl ?_
          refine lb_if_eq (tgt := 76) hx hb dX4_ask_54 (by decide) (fun c5 => ?_) (fun c5 => ?_)
          · rw [if_neg c5] at hR
            refine lv_aload_n hx hb dX4_ask_76 rfl (lv_at hl 0 rfl) ?_
            refine lv_iconst (v := 2) hx hb dX4_ask_77 (by decide) ?_
            have hB := hS.1
            refine gcV (As := [.int 2]) (rest := []) hS0 (met_X4_refuse l D E 2) q1591 q1593 qs55 q110 q1594 hd_X4_refuse ⟨Nat.le_of_ble_eq_true rfl, Nat.le_of_ble_eq_true rfl⟩ hG (rcv hG cl_X4 hM.ag) hM rfl hl.1 rfl (Nat.le_of_ble_eq_true rfl) dX4_ask_78 ⟨Nat.le_of_ble_eq_true rfl, Nat.le_of_ble_eq_true rfl⟩ hS (fun q h => hFa q h) (fun q h => hFa q h) (fun v H1 locs1 hP hz hk hS => ?_)
            obtain ⟨rfl, hZ, hc8⟩ := hP
            obtain ⟨Fd, hM, hFn⟩ := hZ.nar
            have hFa : ∀ q, Fd q → fN F s.heap.size q := fun q z => (hFn q z).1.elim (hFa q) (fun z9 => Or.inr (Nat.le_trans hB z9))
            have hFb : ∀ q, Fd q → q < H1.size := fun q z => (hFn q z).2
            clear hFn
            generalize Fd = Fc at hM hFa hFb
            have hG := gE.ofS hG0 hS hFE
            have hcn := hc8.tr hcn
            generalize hv_σ4 : (fX4_refuse σ 0 ca sm 2).2.1 = σ4 at hR hM hcn ⊢
            generalize hv_th4 : (fX4_refuse σ 0 ca sm 2).2.2.1 = th4 at hR hM hcn ⊢
            generalize hv_ca4 : (fX4_refuse σ 0 ca sm 2).2.2.2.1 = ca4 at hR hM hcn ⊢
            generalize hv_sm4 : (fX4_refuse σ 0 ca sm 2).2.2.2.2 = sm4 at hR hM hcn ⊢
            generalize hv_v4 : (fX4_refuse σ 0 ca sm 2).1 = v4 at hR hM hcn ⊢
            try dsimp only at hR
            refine W.eq (g2 := F0 m 81 ls [.int (v4)]) rfl ?_
            exact g_iret hx hb hr hlocks hS ⟨Nat.le_of_ble_eq_true rfl, Nat.le_of_ble_eq_true rfl⟩ dX4_ask_81 (by subst hR; exact ⟨rfl, β, hα1, hM.mono (fun q _ z => hFa q z) (fN_E hFE hG0.2.2.1)⟩)
          · rw [if_pos c5] at hR
            refine lv_iload hx hb dX4_ask_57 (lv_at hl 4 rfl) ?_
            refine lv_iload hx hb dX4_ask_59 (lv_at hl 5 rfl) ?_
            refine lv_iadd hx hb dX4_ask_61 ?_
            refine lv_bipush (v := 24) hx hb dX4_ask_62 (by decide) ?_
            refine lv_icmp_gt (tgt := 76) hx hb dX4_ask_64 (by decide) (fun c6 => ?_) (fun c6 => ?_)
            · rw [if_pos c6] at hR
              refine lv_aload_n hx hb dX4_ask_76 rfl (lv_at hl 0 rfl) ?_
              refine lv_iconst (v := 2) hx hb dX4_ask_77 (by decide) ?_
              have hB := hS.1
              refine gcV (As := [.int 2]) (rest := []) hS0 (met_X4_refuse l D E 2) q1591 q1593 qs55 q110 q1594 hd_X4_refuse ⟨Nat.le_of_ble_eq_true rfl, Nat.le_of_ble_eq_true rfl⟩ hG (rcv hG cl_X4 hM.ag) hM rfl hl.1 rfl (Nat.le_of_ble_eq_true rfl) dX4_ask_78 ⟨Nat.le_of_ble_eq_true rfl, Nat.le_of_ble_eq_true rfl⟩ hS (fun q h => hFa q h) (fun q h => hFa q h) (fun v H1 locs1 hP hz hk hS => ?_)
              obtain ⟨rfl, hZ, hc8⟩ := hP
              obtain ⟨Fd, hM, hFn⟩ := hZ.nar
              have hFa : ∀ q, Fd q → fN F s.heap.size q := fun q z => (hFn q z).1.elim (hFa q) (fun z9 => Or.inr (Nat.le_trans hB z9))
              have hFb : ∀ q, Fd q → q < H1.size := fun q z => (hFn q z).2
              clear hFn
              generalize Fd = Fc at hM hFa hFb
              have hG := gE.ofS hG0 hS hFE
              have hcn := hc8.tr hcn
              generalize hv_σ5 : (fX4_refuse σ 0 ca sm 2).2.1 = σ5 at hR hM hcn ⊢
              generalize hv_th5 : (fX4_refuse σ 0 ca sm 2).2.2.1 = th5 at hR hM hcn ⊢
              generalize hv_ca5 : (fX4_refuse σ 0 ca sm 2).2.2.2.1 = ca5 at hR hM hcn ⊢
              generalize hv_sm5 : (fX4_refuse σ 0 ca sm 2).2.2.2.2 = sm5 at hR hM hcn ⊢
              generalize hv_v5 : (fX4_refuse σ 0 ca sm 2).1 = v5 at hR hM hcn ⊢
              try dsimp only at hR
              refine W.eq (g2 := F0 m 81 ls [.int (v5)]) rfl ?_
              exact g_iret hx hb hr hlocks hS ⟨Nat.le_of_ble_eq_true rfl, Nat.le_of_ble_eq_true rfl⟩ dX4_ask_81 (by subst hR; exact ⟨rfl, β, hα1, hM.mono (fun q _ z => hFa q z) (fN_E hFE hG0.2.2.1)⟩)
            · rw [if_neg c6] at hR
              refine lv_aload_n hx hb dX4_ask_67 rfl (lv_at hl 0 rfl) ?_
              refine lv_iload hx hb dX4_ask_68 (lv_at hl 6 rfl) ?_
              refine pcV (As := [.int (z)]) (rest := []) hS0 (met_X4_areSongs l D E z) q1595 q1597 qs56 q110 q1598 hd_X4_areSongs ⟨Nat.le_of_ble_eq_true rfl, Nat.le_of_ble_eq_true rfl⟩ hG (rcv hG cl_X4 hM.ag) hM rfl hl.1 rfl (Nat.le_of_ble_eq_true rfl) dX4_ask_70 ⟨Nat.le_of_ble_eq_true rfl, Nat.le_of_ble_eq_true rfl⟩ ?_
              refine W.eq (g2 := F0 m 73 ls [.int (bI ((fX4_areSongs σ z)))]) rfl ?_
              refine lb_if_ne (tgt := 82) hx hb dX4_ask_73 (by decide) (fun c7 => ?_) (fun c7 => ?_)
              · rw [if_pos c7] at hR
                refine lv_aload_n hx hb dX4_ask_82 rfl (lv_at hl 0 rfl) ?_
                refine gf (v := .ref (β 1 2)) (C := RX4) (T := TX4) (N := 13) (k := 5) hx hb hts hown hG cl_X4 in_X4 hM.ag (by decide) q1545 rfl dX4_ask_83 ?_
                refine pcV (As := []) (rest := []) hS0 (met_ml_size l D E (j := 2) (by decide)) q1600 q336 q2080 q103 q338 hd_J2_size ⟨Nat.le_of_ble_eq_true rfl, Nat.le_of_ble_eq_true rfl⟩ hG (hM.lsR hG (j := 2) (by decide)) hM rfl hl.1 rfl (Nat.le_of_ble_eq_true rfl) dX4_ask_86 ⟨Nat.le_of_ble_eq_true rfl, Nat.le_of_ble_eq_true rfl⟩ ?_
                refine W.eq (g2 := F0 m 89 ls [.int (nI (nW σ))]) rfl ?_
                refine lv_bipush (v := 14) hx hb dX4_ask_89 (by decide) ?_
                refine lv_icmp_eq (tgt := 103) hx hb dX4_ask_91 (by decide) (fun c8 => ?_) (fun c8 => ?_)
                · rw [if_pos c8] at hR
                  refine lv_aload_n hx hb dX4_ask_103 rfl (lv_at hl 0 rfl) ?_
                  refine lv_iconst (v := 3) hx hb dX4_ask_104 (by decide) ?_
                  have hB := hS.1
                  refine gcV (As := [.int 3]) (rest := []) hS0 (met_X4_refuse l D E 3) q1591 q1593 qs55 q110 q1594 hd_X4_refuse ⟨Nat.le_of_ble_eq_true rfl, Nat.le_of_ble_eq_true rfl⟩ hG (rcv hG cl_X4 hM.ag) hM rfl hl.1 rfl (Nat.le_of_ble_eq_true rfl) dX4_ask_105 ⟨Nat.le_of_ble_eq_true rfl, Nat.le_of_ble_eq_true rfl⟩ hS (fun q h => hFa q h) (fun q h => hFa q h) (fun v H1 locs1 hP hz hk hS => ?_)
                  obtain ⟨rfl, hZ, hc8⟩ := hP
                  obtain ⟨Fd, hM, hFn⟩ := hZ.nar
                  have hFa : ∀ q, Fd q → fN F s.heap.size q := fun q z => (hFn q z).1.elim (hFa q) (fun z9 => Or.inr (Nat.le_trans hB z9))
                  have hFb : ∀ q, Fd q → q < H1.size := fun q z => (hFn q z).2
                  clear hFn
                  generalize Fd = Fc at hM hFa hFb
                  have hG := gE.ofS hG0 hS hFE
                  have hcn := hc8.tr hcn
                  generalize hv_σ6 : (fX4_refuse σ 0 ca sm 3).2.1 = σ6 at hR hM hcn ⊢
                  generalize hv_th6 : (fX4_refuse σ 0 ca sm 3).2.2.1 = th6 at hR hM hcn ⊢
                  generalize hv_ca6 : (fX4_refuse σ 0 ca sm 3).2.2.2.1 = ca6 at hR hM hcn ⊢
                  generalize hv_sm6 : (fX4_refuse σ 0 ca sm 3).2.2.2.2 = sm6 at hR hM hcn ⊢
                  generalize hv_v6 : (fX4_refuse σ 0 ca sm 3).1 = v6 at hR hM hcn ⊢
                  try dsimp only at hR
                  refine W.eq (g2 := F0 m 108 ls [.int (v6)]) rfl ?_
                  exact g_iret hx hb hr hlocks hS ⟨Nat.le_of_ble_eq_true rfl, Nat.le_of_ble_eq_true rfl⟩ dX4_ask_108 (by subst hR; exact ⟨rfl, β, hα1, hM.mono (fun q _ z => hFa q z) (fN_E hFE hG0.2.2.1)⟩)
                · rw [if_neg c8] at hR
                  refine lv_aload_n hx hb dX4_ask_94 rfl (lv_at hl 0 rfl) ?_
                  refine lv_iload_n hx hb dX4_ask_95 rfl (lv_at hl 1 rfl) ?_
                  refine lv_eq nc1.1 ?_
                  refine lv_iload_n hx hb dX4_ask_96 rfl (lv_at hl 2 rfl) ?_
                  refine lv_eq nc3.1 ?_
                  refine pcV (As := [.int (nI ((Int32.toNatClampNeg a))), .int (nI ((Int32.toNatClampNeg b)))]) (rest := []) hS0 (met_X4_isFixed l D E (nI ((Int32.toNatClampNeg a))) (nI ((Int32.toNatClampNeg b)))) q1691 q1693 qs61 q110 q1694 hd_X4_isFixed ⟨Nat.le_of_ble_eq_true rfl, Nat.le_of_ble_eq_true rfl⟩ hG (rcv hG cl_X4 hM.ag) hM rfl hl.1 rfl (Nat.le_of_ble_eq_true rfl) dX4_ask_97 ⟨Nat.le_of_ble_eq_true rfl, Nat.le_of_ble_eq_true rfl⟩ ?_
                  refine W.eq (g2 := F0 m 100 ls [.int (bI ((fX4_isFixed σ (nI ((Int32.toNatClampNeg a))) (nI ((Int32.toNatClampNeg b))))))]) rfl ?_
                  refine lb_if_eq (tgt := 109) hx hb dX4_ask_100 (by decide) (fun c9 => ?_) (fun c9 => ?_)
                  · rw [if_neg c9] at hR
                    have hB := hS.1
                    refine nw (ci := 9) (C := RX11) (T := TX11) (N := 12) (fs := [.int 0, .int 0, .int 0, .int 0, .int 0, .int 0, .int 0, .int 0, .int 0, .int 0, .int 0, .int 0]) (ty := tyX11) hx hb hts hown hG hS cl_X11 in_X11 tyX11_ok q1695 q1696 q131 (df_X11) ⟨Nat.le_of_ble_eq_true rfl, Nat.le_of_ble_eq_true rfl⟩ dX4_ask_109 (fun q109 H1 hq9 hT_t109 hz ho hS => ?_)
                    have hM := hM.kept (fun q h4 _ => ho q h4)
                    have hG := gE.ofS hG0 hS hFE
                    have hge_t109 : s.heap.size ≤ q109 := by have := hB; omega
                    have hd_t109 : ¬ Fc q109 := fun z => by have := hFb _ z; omega
                    refine lv_dup hx hb dX4_ask_112 rfl ?_
                    have hB := hS.1
                    have hL_t109 : q109 < _ := hT_t109.lt
                    refine gcIN (As := []) (rest := [.ref (q109)]) hS0 (met_X11_init l D E q109) q1697 q1698 q131 q1699 rfl hd_X11_init ⟨Nat.le_of_ble_eq_true rfl, Nat.le_of_ble_eq_true rfl⟩ hG ⟨hT_t109, (Nat.le_trans hG0.2.2.1 hge_t109)⟩ rfl hl.1 rfl (Nat.le_of_ble_eq_true rfl) dX4_ask_113 ⟨Nat.le_of_ble_eq_true rfl, Nat.le_of_ble_eq_true rfl⟩ hS (fun q h => by have h : q = q109 := h; rw [h]; exact (Or.inr hge_t109)) (fun q h => by have h : q = q109 := h; rw [h]; exact (Or.inr hge_t109)) (fun v H1 locs1 hP hz hk hS => ?_)
                    obtain ⟨rfl, hT9⟩ := hP
                    have hM := hM.kept (fun q h4 h5 => hk q h4 (fun e9 => hd_t109 (e9 ▸ h5)))
                    have hT_t109 : va_at D vwCl (q109, .inr (9, [.int 0, .int 0, .int 0, .int 0, .int 0, .int 0, .int 0, .int 0, .int 0, .int 0, .int 0, .int 0])) H1 := hT9
                    have hG := gE.ofS hG0 hS hFE
                    refine W.eq (g2 := F0 m 116 ls [.ref (q109)]) rfl ?_
                    refine lv_astore (lv' := [(7, .ref (q109)), (0, .ref (β 0 0)), (1, .int (a)), (2, .int (b)), (3, .int (c_)), (4, .int (d_)), (5, .int (e_)), (6, .int (z))]) hx hb dX4_ask_116 hl (Nat.le_of_ble_eq_true rfl) rfl (fun ls hl => ?_)
                    refine lv_aload hx hb dX4_ask_118 (lv_at hl 0 rfl) ?_
                    refine lv_iload_n hx hb dX4_ask_120 rfl (lv_at hl 2 rfl) ?_
                    refine lv_eq nc1.1 ?_
                    have hB := hS.1
                    have hL_t109 : q109 < _ := hT_t109.lt
                    refine pfN (ty0 := tyX11) (ty := tyX11 0) (v := .int (nI ((Int32.toNatClampNeg a)))) (C := RX11) (T := TX11) (N := 12) (k := 0) hx hb hts hown hG hS cl_X11 in_X11 tyX11_ok nmX11 hT_t109 (Or.inr hge_t109) (Or.inr hge_t109) (by decide) q1701 rfl (tyX11_ok 0 (by decide)) rfl rfl (Nat.le_of_ble_eq_true rfl) dX4_ask_121 (fun H1 locs1 he hz hq hS => ?_)
                    have hM := hM.kept (fun q h4 h5 => hq q (fun e9 => hd_t109 (e9 ▸ h5)))
                    have hT_t109 : va_at D vwCl (q109, .inr (9, [.int (nI ((Int32.toNatClampNeg a))), .int 0, .int 0, .int 0, .int 0, .int 0, .int 0, .int 0, .int 0, .int 0, .int 0, .int 0])) H1 := he
                    have hG := gE.ofS hG0 hS hFE
                    refine lv_aload hx hb dX4_ask_124 (lv_at hl 0 rfl) ?_
                    refine lv_iload_n hx hb dX4_ask_126 rfl (lv_at hl 3 rfl) ?_
                    refine lv_eq nc3.1 ?_
                    have hB := hS.1
                    have hL_t109 : q109 < _ := hT_t109.lt
                    refine pfN (ty0 := tyX11) (ty := tyX11 1) (v := .int (nI ((Int32.toNatClampNeg b)))) (C := RX11) (T := TX11) (N := 12) (k := 1) hx hb hts hown hG hS cl_X11 in_X11 tyX11_ok nmX11 hT_t109 (Or.inr hge_t109) (Or.inr hge_t109) (by decide) q1702 rfl (tyX11_ok 1 (by decide)) rfl rfl (Nat.le_of_ble_eq_true rfl) dX4_ask_127 (fun H1 locs1 he hz hq hS => ?_)
                    have hM := hM.kept (fun q h4 h5 => hq q (fun e9 => hd_t109 (e9 ▸ h5)))
                    have hT_t109 : va_at D vwCl (q109, .inr (9, [.int (nI ((Int32.toNatClampNeg a))), .int (nI ((Int32.toNatClampNeg b))), .int 0, .int 0, .int 0, .int 0, .int 0, .int 0, .int 0, .int 0, .int 0, .int 0])) H1 := he
                    have hG := gE.ofS hG0 hS hFE
                    refine lv_aload hx hb dX4_ask_130 (lv_at hl 0 rfl) ?_
                    refine lv_iload_n hx hb dX4_ask_132 rfl (lv_at hl 4 rfl) ?_
                    refine lv_eq nc2.1 ?_
                    have hB := hS.1
                    have hL_t109 : q109 < _ := hT_t109.lt
                    refine pfN (ty0 := tyX11) (ty := tyX11 2) (v := .int (nI ((Int32.toNatClampNeg c_)))) (C := RX11) (T := TX11) (N := 12) (k := 2) hx hb hts hown hG hS cl_X11 in_X11 tyX11_ok nmX11 hT_t109 (Or.inr hge_t109) (Or.inr hge_t109) (by decide) q1703 rfl (tyX11_ok 2 (by decide)) rfl rfl (Nat.le_of_ble_eq_true rfl) dX4_ask_133 (fun H1 locs1 he hz hq hS => ?_)
                    have hM := hM.kept (fun q h4 h5 => hq q (fun e9 => hd_t109 (e9 ▸ h5)))
                    have hT_t109 : va_at D vwCl (q109, .inr (9, [.int (nI ((Int32.toNatClampNeg a))), .int (nI ((Int32.toNatClampNeg b))), .int (nI ((Int32.toNatClampNeg c_))), .int 0, .int 0, .int 0, .int 0, .int 0, .int 0, .int 0, .int 0, .int 0])) H1 := he
                    have hG := gE.ofS hG0 hS hFE
                    refine lv_aload hx hb dX4_ask_136 (lv_at hl 0 rfl) ?_
                    refine lv_iload hx hb dX4_ask_138 (lv_at hl 5 rfl) ?_
                    have hB := hS.1
                    have hL_t109 : q109 < _ := hT_t109.lt
                    refine pfN (ty0 := tyX11) (ty := tyX11 3) (v := .int (d_)) (C := RX11) (T := TX11) (N := 12) (k := 3) hx hb hts hown hG hS cl_X11 in_X11 tyX11_ok nmX11 hT_t109 (Or.inr hge_t109) (Or.inr hge_t109) (by decide) q1705 rfl (tyX11_ok 3 (by decide)) rfl rfl (Nat.le_of_ble_eq_true rfl) dX4_ask_140 (fun H1 locs1 he hz hq hS => ?_)
                    have hM := hM.kept (fun q h4 h5 => hq q (fun e9 => hd_t109 (e9 ▸ h5)))
                    have hT_t109 : va_at D vwCl (q109, .inr (9, [.int (nI ((Int32.toNatClampNeg a))), .int (nI ((Int32.toNatClampNeg b))), .int (nI ((Int32.toNatClampNeg c_))), .int (d_), .int 0, .int 0, .int 0, .int 0, .int 0, .int 0, .int 0, .int 0])) H1 := he
                    have hG := gE.ofS hG0 hS hFE
                    refine lv_aload hx hb dX4_ask_143 (lv_at hl 0 rfl) ?_
                    refine lv_iload hx hb dX4_ask_145 (lv_at hl 6 rfl) ?_
                    have hB := hS.1
                    have hL_t109 : q109 < _ := hT_t109.lt
                    refine pfN (ty0 := tyX11) (ty := tyX11 4) (v := .int (e_)) (C := RX11) (T := TX11) (N := 12) (k := 4) hx hb hts hown hG hS cl_X11 in_X11 tyX11_ok nmX11 hT_t109 (Or.inr hge_t109) (Or.inr hge_t109) (by decide) q1707 rfl (tyX11_ok 4 (by decide)) rfl rfl (Nat.le_of_ble_eq_true rfl) dX4_ask_147 (fun H1 locs1 he hz hq hS => ?_)
                    have hM := hM.kept (fun q h4 h5 => hq q (fun e9 => hd_t109 (e9 ▸ h5)))
                    have hT_t109 : va_at D vwCl (q109, .inr (9, [.int (nI ((Int32.toNatClampNeg a))), .int (nI ((Int32.toNatClampNeg b))), .int (nI ((Int32.toNatClampNeg c_))), .int (d_), .int (e_), .int 0, .int 0, .int 0, .int 0, .int 0, .int 0, .int 0])) H1 := he
                    have hG := gE.ofS hG0 hS hFE
                    refine lv_aload hx hb dX4_ask_150 (lv_at hl 0 rfl) ?_
                    refine lv_iload hx hb dX4_ask_152 (lv_at hl 7 rfl) ?_
                    have hB := hS.1
                    have hL_t109 : q109 < _ := hT_t109.lt
                    refine pfN (ty0 := tyX11) (ty := tyX11 5) (v := .int (z)) (C := RX11) (T := TX11) (N := 12) (k := 5) hx hb hts hown hG hS cl_X11 in_X11 tyX11_ok nmX11 hT_t109 (Or.inr hge_t109) (Or.inr hge_t109) (by decide) q1708 rfl (tyX11_ok 5 (by decide)) rfl rfl (Nat.le_of_ble_eq_true rfl) dX4_ask_154 (fun H1 locs1 he hz hq hS => ?_)
                    have hM := hM.kept (fun q h4 h5 => hq q (fun e9 => hd_t109 (e9 ▸ h5)))
                    have hT_t109 : va_at D vwCl (q109, .inr (9, [.int (nI ((Int32.toNatClampNeg a))), .int (nI ((Int32.toNatClampNeg b))), .int (nI ((Int32.toNatClampNeg c_))), .int (d_), .int (e_), .int (z), .int 0, .int 0, .int 0, .int 0, .int 0, .int 0])) H1 := he
                    have hG := gE.ofS hG0 hS hFE
                    refine lv_aload hx hb dX4_ask_157 (lv_at hl 0 rfl) ?_
                    refine lv_aload_n hx hb dX4_ask_159 rfl (lv_at hl 1 rfl) ?_
                    refine gf (v := .int (tod σ)) (C := RX4) (T := TX4) (N := 13) (k := 1) hx hb hts hown hG cl_X4 in_X4 hM.ag (by decide) q1541 rfl dX4_ask_160 ?_
                    have hB := hS.1
                    have hL_t109 : q109 < _ := hT_t109.lt
                    refine pfN (ty0 := tyX11) (ty := tyX11 6) (v := .int (tod σ)) (C := RX11) (T := TX11) (N := 12) (k := 6) hx hb hts hown hG hS cl_X11 in_X11 tyX11_ok nmX11 hT_t109 (Or.inr hge_t109) (Or.inr hge_t109) (by decide) q1709 rfl (tyX11_ok 6 (by decide)) rfl rfl (Nat.le_of_ble_eq_true rfl) dX4_ask_163 (fun H1 locs1 he hz hq hS => ?_)
                    have hM := hM.kept (fun q h4 h5 => hq q (fun e9 => hd_t109 (e9 ▸ h5)))
                    have hT_t109 : va_at D vwCl (q109, .inr (9, [.int (nI ((Int32.toNatClampNeg a))), .int (nI ((Int32.toNatClampNeg b))), .int (nI ((Int32.toNatClampNeg c_))), .int (d_), .int (e_), .int (z), .int (tod σ), .int 0, .int 0, .int 0, .int 0, .int 0])) H1 := he
                    have hG := gE.ofS hG0 hS hFE
                    refine lv_aload_n hx hb dX4_ask_166 rfl (lv_at hl 1 rfl) ?_
                    refine gf (v := .ref (β 1 2)) (C := RX4) (T := TX4) (N := 13) (k := 5) hx hb hts hown hG cl_X4 in_X4 hM.ag (by decide) q1545 rfl dX4_ask_167 ?_
                    refine lv_aload hx hb dX4_ask_170 (lv_at hl 0 rfl) ?_
                    have hB := hS.1
                    have hL_t109 : q109 < _ := hT_t109.lt
                    refine gcV (As := [.ref (q109)]) (rest := []) hS0 (met_maddW l D E q109 ((Int32.toNatClampNeg a)) ((Int32.toNatClampNeg b)) ((Int32.toNatClampNeg c_)) d_ e_ z (tod σ)) q1630 q230 q2081 q103 q232 hd_J2_add ⟨Nat.le_of_ble_eq_true rfl, Nat.le_of_ble_eq_true rfl⟩ hG (hM.lsR hG (j := 2) (by decide)) ⟨hM, hT_t109, hd_t109, (Nat.le_trans hG0.2.2.1 hge_t109), (wd14 hM.nW14 c8), nc1.2, nc3.2, nc2.2, (fun q z => by have := hFb q z; omega)⟩ rfl hl.1 rfl (Nat.le_of_ble_eq_true rfl) dX4_ask_172 ⟨Nat.le_of_ble_eq_true rfl, Nat.le_of_ble_eq_true rfl⟩ hS (fun q h => hFa q h) (fun q h => hFa q h) (fun v H1 locs1 hP hz hk hS => ?_)
                    obtain ⟨rfl, β, hα1, hM⟩ := hP
                    rw [← hα1] at hl
                    obtain ⟨σ7, hσ7⟩ : ∃ x, x = adW σ ((Int32.toNatClampNeg a)) ((Int32.toNatClampNeg b)) ((Int32.toNatClampNeg c_)) d_ e_ z (tod σ) := ⟨_, rfl⟩
                    rw [← hσ7] at hR hM
                    try dsimp only at hR
                    obtain ⟨Fd, hM, hFn⟩ := hM.nar
                    have hFa : ∀ q, Fd q → fN F s.heap.size q := fun q h7 => by
                      rcases (hFn q h7).1 with h8 | rfl | h8
                      · exact hFa q h8
                      · exact Or.inr hge_t109
                      · exact Or.inr (by have := hB; omega)
                    have hFb : ∀ q, Fd q → q < H1.size := fun q z => (hFn q z).2
                    clear hFn
                    generalize Fd = Fc at hM hFa hFb
                    have hG := gE.ofS hG0 hS hFE
                    refine W.eq (g2 := F0 m 175 ls [.int 1]) rfl ?_
                    refine lv_pop hx hb dX4_ask_175 rfl ?_
                    refine lv_aload_n hx hb dX4_ask_176 rfl (lv_at hl 1 rfl) ?_
                    refine gf (v := .ref (β 1 2)) (C := RX4) (T := TX4) (N := 13) (k := 5) hx hb hts hown hG cl_X4 in_X4 hM.ag (by decide) q1545 rfl dX4_ask_177 ?_
                    refine pcV (As := []) (rest := []) hS0 (met_ml_size l D E (j := 2) (by decide)) q1600 q336 q2080 q103 q338 hd_J2_size ⟨Nat.le_of_ble_eq_true rfl, Nat.le_of_ble_eq_true rfl⟩ hG (hM.lsR hG (j := 2) (by decide)) hM rfl hl.1 rfl (Nat.le_of_ble_eq_true rfl) dX4_ask_180 ⟨Nat.le_of_ble_eq_true rfl, Nat.le_of_ble_eq_true rfl⟩ ?_
                    refine W.eq (g2 := F0 m 183 ls [.int (nI (nW σ7))]) rfl ?_
                    refine lv_iconst (v := 1) hx hb dX4_ask_183 (by decide) ?_
                    refine lv_isub hx hb dX4_ask_184 ?_
                    exact g_iret hx hb hr hlocks hS ⟨Nat.le_of_ble_eq_true rfl, Nat.le_of_ble_eq_true rfl⟩ dX4_ask_185 (by subst hR; exact ⟨rfl, β, hα1, hM.mono (fun q _ z => hFa q z) (fN_E hFE hG0.2.2.1)⟩)
                  · rw [if_pos c9] at hR
                    refine lv_aload_n hx hb dX4_ask_103 rfl (lv_at hl 0 rfl) ?_
                    refine lv_iconst (v := 3) hx hb dX4_ask_104 (by decide) ?_
                    have hB := hS.1
                    refine gcV (As := [.int 3]) (rest := []) hS0 (met_X4_refuse l D E 3) q1591 q1593 qs55 q110 q1594 hd_X4_refuse ⟨Nat.le_of_ble_eq_true rfl, Nat.le_of_ble_eq_true rfl⟩ hG (rcv hG cl_X4 hM.ag) hM rfl hl.1 rfl (Nat.le_of_ble_eq_true rfl) dX4_ask_105 ⟨Nat.le_of_ble_eq_true rfl, Nat.le_of_ble_eq_true rfl⟩ hS (fun q h => hFa q h) (fun q h => hFa q h) (fun v H1 locs1 hP hz hk hS => ?_)
                    obtain ⟨rfl, hZ, hc8⟩ := hP
                    obtain ⟨Fd, hM, hFn⟩ := hZ.nar
                    have hFa : ∀ q, Fd q → fN F s.heap.size q := fun q z => (hFn q z).1.elim (hFa q) (fun z9 => Or.inr (Nat.le_trans hB z9))
                    have hFb : ∀ q, Fd q → q < H1.size := fun q z => (hFn q z).2
                    clear hFn
                    generalize Fd = Fc at hM hFa hFb
                    have hG := gE.ofS hG0 hS hFE
                    have hcn := hc8.tr hcn
                    generalize hv_σ8 : (fX4_refuse σ 0 ca sm 3).2.1 = σ8 at hR hM hcn ⊢
                    generalize hv_th8 : (fX4_refuse σ 0 ca sm 3).2.2.1 = th8 at hR hM hcn ⊢
                    generalize hv_ca8 : (fX4_refuse σ 0 ca sm 3).2.2.2.1 = ca8 at hR hM hcn ⊢
                    generalize hv_sm8 : (fX4_refuse σ 0 ca sm 3).2.2.2.2 = sm8 at hR hM hcn ⊢
                    generalize hv_v8 : (fX4_refuse σ 0 ca sm 3).1 = v8 at hR hM hcn ⊢
                    try dsimp only at hR
                    refine W.eq (g2 := F0 m 108 ls [.int (v8)]) rfl ?_
                    exact g_iret hx hb hr hlocks hS ⟨Nat.le_of_ble_eq_true rfl, Nat.le_of_ble_eq_true rfl⟩ dX4_ask_108 (by subst hR; exact ⟨rfl, β, hα1, hM.mono (fun q _ z => hFa q z) (fN_E hFE hG0.2.2.1)⟩)
              · rw [if_neg c7] at hR
                refine lv_aload_n hx hb dX4_ask_76 rfl (lv_at hl 0 rfl) ?_
                refine lv_iconst (v := 2) hx hb dX4_ask_77 (by decide) ?_
                have hB := hS.1
                refine gcV (As := [.int 2]) (rest := []) hS0 (met_X4_refuse l D E 2) q1591 q1593 qs55 q110 q1594 hd_X4_refuse ⟨Nat.le_of_ble_eq_true rfl, Nat.le_of_ble_eq_true rfl⟩ hG (rcv hG cl_X4 hM.ag) hM rfl hl.1 rfl (Nat.le_of_ble_eq_true rfl) dX4_ask_78 ⟨Nat.le_of_ble_eq_true rfl, Nat.le_of_ble_eq_true rfl⟩ hS (fun q h => hFa q h) (fun q h => hFa q h) (fun v H1 locs1 hP hz hk hS => ?_)
                obtain ⟨rfl, hZ, hc8⟩ := hP
                obtain ⟨Fd, hM, hFn⟩ := hZ.nar
                have hFa : ∀ q, Fd q → fN F s.heap.size q := fun q z => (hFn q z).1.elim (hFa q) (fun z9 => Or.inr (Nat.le_trans hB z9))
                have hFb : ∀ q, Fd q → q < H1.size := fun q z => (hFn q z).2
                clear hFn
                generalize Fd = Fc at hM hFa hFb
                have hG := gE.ofS hG0 hS hFE
                have hcn := hc8.tr hcn
                generalize hv_σ9 : (fX4_refuse σ 0 ca sm 2).2.1 = σ9 at hR hM hcn ⊢
                generalize hv_th9 : (fX4_refuse σ 0 ca sm 2).2.2.1 = th9 at hR hM hcn ⊢
                generalize hv_ca9 : (fX4_refuse σ 0 ca sm 2).2.2.2.1 = ca9 at hR hM hcn ⊢
                generalize hv_sm9 : (fX4_refuse σ 0 ca sm 2).2.2.2.2 = sm9 at hR hM hcn ⊢
                generalize hv_v9 : (fX4_refuse σ 0 ca sm 2).1 = v9 at hR hM hcn ⊢
                try dsimp only at hR
                refine W.eq (g2 := F0 m 81 ls [.int (v9)]) rfl ?_
                exact g_iret hx hb hr hlocks hS ⟨Nat.le_of_ble_eq_true rfl, Nat.le_of_ble_eq_true rfl⟩ dX4_ask_81 (by subst hR; exact ⟨rfl, β, hα1, hM.mono (fun q _ z => hFa q z) (fN_E hFE hG0.2.2.1)⟩)
    · rw [if_neg c2] at hR
      refine lv_aload_n hx hb dX4_ask_20 rfl (lv_at hl 0 rfl) ?_
      refine lv_iconst (v := 1) hx hb dX4_ask_21 (by decide) ?_
      have hB := hS.1
      refine gcV (As := [.int 1]) (rest := []) hS0 (met_X4_refuse l D E 1) q1591 q1593 qs55 q110 q1594 hd_X4_refuse ⟨Nat.le_of_ble_eq_true rfl, Nat.le_of_ble_eq_true rfl⟩ hG (rcv hG cl_X4 hM.ag) hM rfl hl.1 rfl (Nat.le_of_ble_eq_true rfl) dX4_ask_22 ⟨Nat.le_of_ble_eq_true rfl, Nat.le_of_ble_eq_true rfl⟩ hS (fun q h => hFa q h) (fun q h => hFa q h) (fun v H1 locs1 hP hz hk hS => ?_)
      obtain ⟨rfl, hZ, hc8⟩ := hP
      obtain ⟨Fd, hM, hFn⟩ := hZ.nar
      have hFa : ∀ q, Fd q → fN F s.heap.size q := fun q z => (hFn q z).1.elim (hFa q) (fun z9 => Or.inr (Nat.le_trans hB z9))
      have hFb : ∀ q, Fd q → q < H1.size := fun q z => (hFn q z).2
      clear hFn
      generalize Fd = Fc at hM hFa hFb
      have hG := gE.ofS hG0 hS hFE
      have hcn := hc8.tr hcn
      generalize hv_σ10 : (fX4_refuse σ 0 ca sm 1).2.1 = σ10 at hR hM hcn ⊢
      generalize hv_th10 : (fX4_refuse σ 0 ca sm 1).2.2.1 = th10 at hR hM hcn ⊢
      generalize hv_ca10 : (fX4_refuse σ 0 ca sm 1).2.2.2.1 = ca10 at hR hM hcn ⊢
      generalize hv_sm10 : (fX4_refuse σ 0 ca sm 1).2.2.2.2 = sm10 at hR hM hcn ⊢
      generalize hv_v10 : (fX4_refuse σ 0 ca sm 1).1 = v10 at hR hM hcn ⊢
      try dsimp only at hR
      refine W.eq (g2 := F0 m 25 ls [.int (v10)]) rfl ?_
      exact g_iret hx hb hr hlocks hS ⟨Nat.le_of_ble_eq_true rfl, Nat.le_of_ble_eq_true rfl⟩ dX4_ask_25 (by subst hR; exact ⟨rfl, β, hα1, hM.mono (fun q _ z => hFa q z) (fN_E hFE hG0.2.2.1)⟩)

