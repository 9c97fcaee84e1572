/-! adding to the pictures' lists -/
set_option maxRecDepth 100000
theorem GM.ex {l : Launch} {D : va_G} {E : Nat → Nat} {y : MethodName} {cc : ByteArray} {maxL : Nat} {ret : Option FieldType} {fr lo mc ms : Nat} {av : List Value} {Ph : Heap → Prop} {Fr A : Nat → Prop} {Post : Nat → Option Value → Heap → Prop} {ι : Type} {P2 : ι → Heap → Prop} {Fr1 A1 : ι → Nat → Prop} {Post2 : ι → Nat → Option Value → Heap → Prop}
    (h : ∀ x, GM l D E y cc maxL ret fr lo mc ms av (P2 x) (Fr1 x) (A1 x) (Post2 x))
    (hP : ∀ (s : State) (H : Heap), gE D E s H → Ph H → ∃ x, P2 x H ∧ (∀ q, Fr1 x q → fN Fr H.size q) ∧ (∀ q, A1 x q → A q) ∧ ∀ v H1, Post2 x H.size v H1 → H.size ≤ H1.size → (∀ q : Nat, q < H.size → ¬ A1 x q → H1[q]? = H[q]?) → Post H.size v H1) : GM l D E y cc maxL ret fr lo mc ms av Ph Fr A Post := by
  intro sz p e h1 h2 h3 s m args below h4 h5 h6 h7
  obtain ⟨q0, q1, q2, q3⟩ := h6
  obtain ⟨x, hx, hF, hA, hK⟩ := hP s s.heap q1 q3
  obtain ⟨n, o, g1, g2, g3, ⟨⟨⟨v, hv, hp⟩, hz, hk⟩, L, hL, hLf⟩⟩ := h x sz p e h1 h2 h3 s m args below h4 h5 ⟨q0, q1, q2, hx⟩ h7
  subst q2
  exact ⟨n, o, g1, g2, g3, ⟨⟨⟨v, hv, hK v _ hp hz hk⟩, hz, fun q a b => hk q a (fun z => b (hA q z))⟩, L, hL, fun q hq => (hLf q hq).elim (fun z => hF _ z) (fun z => Or.inr z)⟩⟩
theorem gE.e6 {D : va_G} {E : Nat → Nat} {s : State} {H : Heap} (hG : gE D E s H) : E 6 < E 0 := Nat.not_le.mp (hG.2.2.2.2.2.2.2.2.2.1.out)
theorem gE.ebox {D : va_G} {E : Nat → Nat} {s : State} {H : Heap} (hG : gE D E s H) {k : Nat} (hk : k < 256) : E (300 + k) < E 0 := by
  obtain ⟨c, -, -, -, h⟩ := hG.2.2.2.2.1.1 k hk
  exact Nat.not_le.mp h
theorem RX.apEP {D : va_G} {E : Nat → Nat} {α : Nat → Nat → Nat} {F : Nat → Prop} {σ : St} {H : Heap} (h : RX D E α F σ H) {k : Nat} (hk : k < nP σ) : α 3 k ≠ α 1 0 := by
  obtain ⟨-, -, γ, -, h3⟩ := h
  intro e
  have := (h3.2 3 k 1 0 _ _ (if_pos hk) rfl e).1
  omega
theorem RX.apEB {D : va_G} {E : Nat → Nat} {α : Nat → Nat → Nat} {F : Nat → Prop} {σ : St} {H : Heap} (h : RX D E α F σ H) {k : Nat} (hk : k < nB σ) : α 9 k ≠ α 1 2 := by
  obtain ⟨-, -, γ, -, h3⟩ := h
  intro e
  have := (h3.2 9 k 1 2 _ _ (if_pos hk) rfl e).1
  omega
theorem RX.apEW {D : va_G} {E : Nat → Nat} {α : Nat → Nat → Nat} {F : Nat → Prop} {σ : St} {H : Heap} (h : RX D E α F σ H) {k : Nat} (hk : k < nW σ) : α 5 k ≠ α 1 3 := by
  obtain ⟨-, -, γ, -, h3⟩ := h
  intro e
  have := (h3.2 5 k 1 3 _ _ (if_pos hk) rfl e).1
  omega
theorem RM.apEP {D : va_G} {E : Nat → Nat} {β : Nat → Nat → Nat} {F : Nat → Prop} {σ : St} {th ca : Int32} {sm : Int64} {H : Heap} (h : RM D E β F σ th ca sm H) {k : Nat} (hk : k < nP σ) : β 3 k ≠ β 1 0 := by
  obtain ⟨-, -, γ, -, h3⟩ := h
  intro e
  have := (h3.2 3 k 1 0 _ _ (if_pos hk) rfl e).1
  omega
theorem RM.apEW {D : va_G} {E : Nat → Nat} {β : Nat → Nat → Nat} {F : Nat → Prop} {σ : St} {th ca : Int32} {sm : Int64} {H : Heap} (h : RM D E β F σ th ca sm H) {k : Nat} (hk : k < nW σ) : β 5 k ≠ β 1 2 := by
  obtain ⟨-, -, γ, -, h3⟩ := h
  intro e
  have := (h3.2 5 k 1 2 _ _ (if_pos hk) rfl e).1
  omega
theorem RM.bxO {D : va_G} {E : Nat → Nat} {β : Nat → Nat → Nat} {F : Nat → Prop} {σ : St} {th ca : Int32} {sm : Int64} {H : Heap} (h : RM D E β F σ th ca sm H) {k : Nat} (hk : k < nB σ) : oK D E (β 9 k) H := by
  obtain ⟨h1, h2 | h2⟩ := h.bx hk
  · exact Or.inl ⟨_, _, h2.2⟩
  · exact Or.inr (Or.inl ⟨_, (bx_ix h1 h2.1).1, h2.2⟩)
theorem RM.apEB {D : va_G} {E : Nat → Nat} {β : Nat → Nat → Nat} {F : Nat → Prop} {σ : St} {th ca : Int32} {sm : Int64} {H : Heap} {s : State} (h : RM D E β F σ th ca sm H) (hG : gE D E s H) {k : Nat} (hk : k < nB σ) : β 9 k ≠ β 1 1 := by
  intro e
  obtain ⟨h1, h2 | h2⟩ := h.bx hk
  · obtain ⟨-, -, γ, -, h3⟩ := h
    have := (h3.2 9 k 1 1 _ _ (if_pos ⟨hk, h2.1⟩) rfl e).1
    omega
  · have h4 := hG.ebox (bx_ix h1 h2.1).1
    have h5 := h.fE _ (h.lsF (k := 1) (by decide))
    have h6 := h2.2
    omega

set_option maxHeartbeats 1000000 in
theorem met_xaddP (l : Launch) (D : va_G) (E : Nat → Nat) {α : Nat → Nat → Nat} {F : Nat → Prop} {σ : St} (z z2 : Nat) (ins fee songs : Int32) (home : Nat) : GM l D E yJ2_add cJ2_add 2 (Option.some Jvm.ClassFile.FieldType.boolean) 6 150 1 100 [.ref (α 1 0), .ref z] (fun h => RX D E α F σ h ∧ va_at D vwCl (z, .inr (5, [.int ins, .int (nI home), .int fee, .int songs, .int 0, .int 0, .ref z2])) h ∧ ¬ F z ∧ E 0 ≤ z ∧ va_at D vwCl (z2, arZ E 366 (fun _ => 0)) h ∧ ¬ F z2 ∧ E 0 ≤ z2 ∧ z ≠ z2 ∧ (nP σ < 10) ∧ (home < 6) ∧ (∀ q, F q → q < h.size)) F F (fun sz v h => v = some (.int 1) ∧ ∃ α1 : Nat → Nat → Nat, α1 0 0 = α 0 0 ∧ RX D E α1 (fun q => F q ∨ q = z ∨ q = z2 ∨ sz ≤ q) (adP σ ins fee songs home) h) := by
  refine GM.ex (ι := Nat × Int32 × (Nat → Option Nat)) (P2 := fun x h => (LR D E (α 1 0) (α 2 0) (nP σ) x.1 x.2.1 x.2.2 h ∧ (∀ i y, i < nP σ → x.2.2 i = some y → oK D E y h) ∧ oK D E z h ∧ E 0 ≤ α 1 0 ∧ (x.1 ≠ 0 → E 0 ≤ α 2 0)) ∧ (α 1 0 ≠ α 2 0 ∧ x.1 ≤ 66 ∧ z ≠ α 1 0 ∧ (x.1 ≠ 0 → z ≠ α 2 0) ∧ ∀ i y, i < nP σ → x.2.2 i = some y → y ≠ α 1 0)) (Fr1 := fun x q => q = α 1 0 ∨ (q = α 2 0 ∧ x.1 ≠ 0)) (A1 := fun x q => q = α 1 0 ∨ (q = α 2 0 ∧ x.1 ≠ 0)) (Post2 := fun x sz v h => v = some (.int 1) ∧ ∃ a2 cap2 g2, LR D E (α 1 0) a2 (nP σ + 1) cap2 (x.2.1 + 1) g2 h ∧ (cap2 ≤ 100 ∧ (cap2 ≤ 2 * nP σ + 10 ∨ cap2 = x.1)) ∧ cap2 ≠ 0 ∧ (∀ i, i < nP σ → g2 i = x.2.2 i) ∧ g2 (nP σ) = some z ∧ ((a2 = α 2 0 ∧ x.1 ≠ 0) ∨ sz ≤ a2)) (fun x => ?_) (fun s H hG hP => ?_)
  · intro sz p e h1 h2 h3 s m args below h4 h5 h6 h7
    obtain ⟨p0, p1, p2, hp, c1, c2, c3, c4, c5⟩ := h6
    exact met_J2_add l D E (α 1 0) (α 2 0) x.2.1 (nP σ) x.1 x.2.2 z c1 c2 c3 c4 c5 sz p e h1 h2 h3 s m args below h4 h5 ⟨p0, p1, p2, hp⟩ h7
  · obtain ⟨hX, hz_z, hn_z, hE_z, hz_z2, hn_z2, hE_z2, hap_z_z2, hy0, hy1, hFl⟩ := hP
    obtain ⟨cap, mc, g, hL, hg, hF1, hF2, hcb, hne, hcl⟩ := hX.gwP
    have hn := hX.nP10
    have hFE := hX.fE
    have h1E := hFE _ hF1
    have hnU : α 1 0 ≠ α 2 0 := fun e => by
      by_cases hc0 : cap = 0
      · rcases hL.2.2.2 with ⟨-, h8⟩ | ⟨h8, -⟩
        · have h9 := hG.e6; omega
        · exact h8 hc0
      · exact hne hc0 e
    have hx_z : z ≠ α 1 0 := fun e => hn_z (e ▸ hF1)
    have hw_z : cap ≠ 0 → z ≠ α 2 0 := fun hc0 e => hn_z (e ▸ hF2 hc0)
    have hx_z2 : z2 ≠ α 1 0 := fun e => hn_z2 (e ▸ hF1)
    have hw_z2 : cap ≠ 0 → z2 ≠ α 2 0 := fun hc0 e => hn_z2 (e ▸ hF2 hc0)
    have hzl := hx_z
    have hza := hw_z
    refine ⟨(cap, mc, g), ⟨⟨hL, fun i y hi hy => ?_, Or.inl ⟨_, _, hz_z⟩, h1E, fun hc0 => hFE _ (hF2 hc0)⟩, hnU, by show cap ≤ 66; omega, hzl, hza, fun i y hi hy => ?_⟩, (fun q z => z.elim (fun z => Or.inl (z ▸ hF1)) (fun z => Or.inl (z.1 ▸ hF2 z.2))), (fun q z => z.elim (fun z => z ▸ hF1) (fun z => z.1 ▸ hF2 z.2)), fun v H1 hP2 hz hk => ?_⟩
    · have hy : g i = some y := hy
      rw [hg i hi] at hy
      cases hy
      exact Or.inl ⟨_, _, hX.pl hi⟩
    · have hy : g i = some y := hy
      rw [hg i hi] at hy
      cases hy
      exact hX.apEP hi
    · obtain ⟨rfl, a2, cap2, g2, hL2, hcb2, hc2, hg2, hgn, ha2⟩ := hP2
      have ha3 : (a2 = α 2 0 ∧ cap ≠ 0) ∨ (¬ F a2 ∧ (fun q => F q ∨ q = z ∨ q = z2 ∨ H.size ≤ q) a2) := ha2.elim Or.inl (fun z => Or.inr ⟨fun z9 => absurd (hFl _ z9) (by have z : H.size ≤ a2 := z; omega), Or.inr (Or.inr (Or.inr (z)))⟩)
      refine ⟨rfl, _, ?_, hcl H1 a2 z z2 cap2 g2 ins fee songs home hL2 hc2 hcb2 hg2 hgn ha3 (fun q h1 h2 h3 => hk q h1 (fun z => z.elim h2 (fun z => h3 z.2 z.1))) (hz_z.kept (hk _ hz_z.lt (fun e => e.elim (fun e => hx_z e) (fun e => hw_z e.2 e.1)))) (hz_z2.kept (hk _ hz_z2.lt (fun e => e.elim (fun e => hx_z2 e) (fun e => hw_z2 e.2 e.1)))) hn_z (Or.inr (Or.inl rfl)) hn_z2 (Or.inr (Or.inr (Or.inl rfl))) (fun e => ha2.elim (fun h => hw_z h.2 (e.symm.trans h.1)) (fun h => by have h8 : z < H.size := hz_z.lt; have h : H.size ≤ a2 := h; omega)) (fun e => ha2.elim (fun h => hw_z2 h.2 (e.symm.trans h.1)) (fun h => by have h8 : z2 < H.size := hz_z2.lt; have h : H.size ≤ a2 := h; omega)) hap_z_z2 (fun q z => Or.inl z) (fun q hq => ?_) hy0 hy1⟩
      · unfold adXP
        rw [if_neg (by omega), if_neg (by omega), if_neg (by omega)]
      · rcases hq with hq | rfl | rfl | hq
        · exact hFE q hq
        · exact hE_z
        · exact hE_z2
        · exact Nat.le_trans hG.2.2.1 hq

set_option maxHeartbeats 1000000 in
theorem met_xaddB (l : Launch) (D : va_G) (E : Nat → Nat) {α : Nat → Nat → Nat} {F : Nat → Prop} {σ : St} (z z2 z3 : Nat) (sh : Int32) : GM l D E yJ2_add cJ2_add 2 (Option.some Jvm.ClassFile.FieldType.boolean) 6 150 1 100 [.ref (α 1 2), .ref z] (fun h => RX D E α F σ h ∧ va_at D vwCl (z, .inr (7, [.ref z2, .ref z3])) h ∧ ¬ F z ∧ E 0 ≤ z ∧ va_at D vwCl (z2, arI E 6 (shNeed sh)) h ∧ ¬ F z2 ∧ E 0 ≤ z2 ∧ va_at D vwCl (z3, arI E 6 (fun _ => 0)) h ∧ ¬ F z3 ∧ E 0 ≤ z3 ∧ z ≠ z2 ∧ z ≠ z3 ∧ z2 ≠ z3 ∧ (nB σ < 6) ∧ (∀ x, bGiv σ (nB σ) x = 0) ∧ (∀ q, F q → q < h.size)) F F (fun sz v h => v = some (.int 1) ∧ ∃ α1 : Nat → Nat → Nat, α1 0 0 = α 0 0 ∧ RX D E α1 (fun q => F q ∨ q = z ∨ q = z2 ∨ q = z3 ∨ sz ≤ q) (adB σ sh) h) := by
  refine GM.ex (ι := Nat × Int32 × (Nat → Option Nat)) (P2 := fun x h => (LR D E (α 1 2) (α 2 2) (nB σ) x.1 x.2.1 x.2.2 h ∧ (∀ i y, i < nB σ → x.2.2 i = some y → oK D E y h) ∧ oK D E z h ∧ E 0 ≤ α 1 2 ∧ (x.1 ≠ 0 → E 0 ≤ α 2 2)) ∧ (α 1 2 ≠ α 2 2 ∧ x.1 ≤ 66 ∧ z ≠ α 1 2 ∧ (x.1 ≠ 0 → z ≠ α 2 2) ∧ ∀ i y, i < nB σ → x.2.2 i = some y → y ≠ α 1 2)) (Fr1 := fun x q => q = α 1 2 ∨ (q = α 2 2 ∧ x.1 ≠ 0)) (A1 := fun x q => q = α 1 2 ∨ (q = α 2 2 ∧ x.1 ≠ 0)) (Post2 := fun x sz v h => v = some (.int 1) ∧ ∃ a2 cap2 g2, LR D E (α 1 2) a2 (nB σ + 1) cap2 (x.2.1 + 1) g2 h ∧ (cap2 ≤ 100 ∧ (cap2 ≤ 2 * nB σ + 10 ∨ cap2 = x.1)) ∧ cap2 ≠ 0 ∧ (∀ i, i < nB σ → g2 i = x.2.2 i) ∧ g2 (nB σ) = some z ∧ ((a2 = α 2 2 ∧ x.1 ≠ 0) ∨ sz ≤ a2)) (fun x => ?_) (fun s H hG hP => ?_)
  · intro sz p e h1 h2 h3 s m args below h4 h5 h6 h7
    obtain ⟨p0, p1, p2, hp, c1, c2, c3, c4, c5⟩ := h6
    exact met_J2_add l D E (α 1 2) (α 2 2) x.2.1 (nB σ) x.1 x.2.2 z c1 c2 c3 c4 c5 sz p e h1 h2 h3 s m args below h4 h5 ⟨p0, p1, p2, hp⟩ h7
  · obtain ⟨hX, hz_z, hn_z, hE_z, hz_z2, hn_z2, hE_z2, hz_z3, hn_z3, hE_z3, hap_z_z2, hap_z_z3, hap_z2_z3, hy0, hy1, hFl⟩ := hP
    obtain ⟨cap, mc, g, hL, hg, hF1, hF2, hcb, hne, hcl⟩ := hX.gwB
    have hn := hX.nB6
    have hFE := hX.fE
    have h1E := hFE _ hF1
    have hnU : α 1 2 ≠ α 2 2 := fun e => by
      by_cases hc0 : cap = 0
      · rcases hL.2.2.2 with ⟨-, h8⟩ | ⟨h8, -⟩
        · have h9 := hG.e6; omega
        · exact h8 hc0
      · exact hne hc0 e
    have hx_z : z ≠ α 1 2 := fun e => hn_z (e ▸ hF1)
    have hw_z : cap ≠ 0 → z ≠ α 2 2 := fun hc0 e => hn_z (e ▸ hF2 hc0)
    have hx_z2 : z2 ≠ α 1 2 := fun e => hn_z2 (e ▸ hF1)
    have hw_z2 : cap ≠ 0 → z2 ≠ α 2 2 := fun hc0 e => hn_z2 (e ▸ hF2 hc0)
    have hx_z3 : z3 ≠ α 1 2 := fun e => hn_z3 (e ▸ hF1)
    have hw_z3 : cap ≠ 0 → z3 ≠ α 2 2 := fun hc0 e => hn_z3 (e ▸ hF2 hc0)
    have hzl := hx_z
    have hza := hw_z
    refine ⟨(cap, mc, g), ⟨⟨hL, fun i y hi hy => ?_, Or.inl ⟨_, _, hz_z⟩, h1E, fun hc0 => hFE _ (hF2 hc0)⟩, hnU, by show cap ≤ 66; omega, hzl, hza, fun i y hi hy => ?_⟩, (fun q z => z.elim (fun z => Or.inl (z ▸ hF1)) (fun z => Or.inl (z.1 ▸ hF2 z.2))), (fun q z => z.elim (fun z => z ▸ hF1) (fun z => z.1 ▸ hF2 z.2)), fun v H1 hP2 hz hk => ?_⟩
    · have hy : g i = some y := hy
      rw [hg i hi] at hy
      cases hy
      exact Or.inl ⟨_, _, hX.sh hi⟩
    · have hy : g i = some y := hy
      rw [hg i hi] at hy
      cases hy
      exact hX.apEB hi
    · obtain ⟨rfl, a2, cap2, g2, hL2, hcb2, hc2, hg2, hgn, ha2⟩ := hP2
      have ha3 : (a2 = α 2 2 ∧ cap ≠ 0) ∨ (¬ F a2 ∧ (fun q => F q ∨ q = z ∨ q = z2 ∨ q = z3 ∨ H.size ≤ q) a2) := ha2.elim Or.inl (fun z => Or.inr ⟨fun z9 => absurd (hFl _ z9) (by have z : H.size ≤ a2 := z; omega), Or.inr (Or.inr (Or.inr (Or.inr (z))))⟩)
      refine ⟨rfl, _, ?_, hcl H1 a2 z z2 z3 cap2 g2 sh hL2 hc2 hcb2 hg2 hgn ha3 (fun q h1 h2 h3 => hk q h1 (fun z => z.elim h2 (fun z => h3 z.2 z.1))) (hz_z.kept (hk _ hz_z.lt (fun e => e.elim (fun e => hx_z e) (fun e => hw_z e.2 e.1)))) (hz_z2.kept (hk _ hz_z2.lt (fun e => e.elim (fun e => hx_z2 e) (fun e => hw_z2 e.2 e.1)))) (hz_z3.kept (hk _ hz_z3.lt (fun e => e.elim (fun e => hx_z3 e) (fun e => hw_z3 e.2 e.1)))) hn_z (Or.inr (Or.inl rfl)) hn_z2 (Or.inr (Or.inr (Or.inl rfl))) hn_z3 (Or.inr (Or.inr (Or.inr (Or.inl rfl)))) (fun e => ha2.elim (fun h => hw_z h.2 (e.symm.trans h.1)) (fun h => by have h8 : z < H.size := hz_z.lt; have h : H.size ≤ a2 := h; omega)) (fun e => ha2.elim (fun h => hw_z2 h.2 (e.symm.trans h.1)) (fun h => by have h8 : z2 < H.size := hz_z2.lt; have h : H.size ≤ a2 := h; omega)) (fun e => ha2.elim (fun h => hw_z3 h.2 (e.symm.trans h.1)) (fun h => by have h8 : z3 < H.size := hz_z3.lt; have h : H.size ≤ a2 := h; omega)) hap_z_z2 hap_z_z3 hap_z2_z3 (fun q z => Or.inl z) (fun q hq => ?_) hy0 hy1⟩
      · unfold adXB
        rw [if_neg (by omega), if_neg (by omega), if_neg (by omega), if_neg (by omega)]
      · rcases hq with hq | rfl | rfl | rfl | hq
        · exact hFE q hq
        · exact hE_z
        · exact hE_z2
        · exact hE_z3
        · exact Nat.le_trans hG.2.2.1 hq

set_option maxHeartbeats 1000000 in
theorem met_xaddW (l : Launch) (D : va_G) (E : Nat → Nat) {α : Nat → Nat → Nat} {F : Nat → Prop} {σ : St} (z : Nat) (band day town : Nat) (start len songs told : Int32) : GM l D E yJ2_add cJ2_add 2 (Option.some Jvm.ClassFile.FieldType.boolean) 6 150 1 100 [.ref (α 1 3), .ref z] (fun h => RX D E α F σ h ∧ va_at D vwCl (z, .inr (8, [.int (nI band), .int (nI day), .int (nI town), .int start, .int len, .int songs, .int told, .ref (E (10 + 0)), .int 0, .int 0, .int 0, .int 0])) h ∧ ¬ F z ∧ E 0 ≤ z ∧ (nW σ < 14) ∧ (band < nB σ) ∧ (day < 366) ∧ (town < 6) ∧ (∀ q, F q → q < h.size)) F F (fun sz v h => v = some (.int 1) ∧ ∃ α1 : Nat → Nat → Nat, α1 0 0 = α 0 0 ∧ RX D E α1 (fun q => F q ∨ q = z ∨ sz ≤ q) (adW σ band day town start len songs told) h) := by
  refine GM.ex (ι := Nat × Int32 × (Nat → Option Nat)) (P2 := fun x h => (LR D E (α 1 3) (α 2 3) (nW σ) x.1 x.2.1 x.2.2 h ∧ (∀ i y, i < nW σ → x.2.2 i = some y → oK D E y h) ∧ oK D E z h ∧ E 0 ≤ α 1 3 ∧ (x.1 ≠ 0 → E 0 ≤ α 2 3)) ∧ (α 1 3 ≠ α 2 3 ∧ x.1 ≤ 66 ∧ z ≠ α 1 3 ∧ (x.1 ≠ 0 → z ≠ α 2 3) ∧ ∀ i y, i < nW σ → x.2.2 i = some y → y ≠ α 1 3)) (Fr1 := fun x q => q = α 1 3 ∨ (q = α 2 3 ∧ x.1 ≠ 0)) (A1 := fun x q => q = α 1 3 ∨ (q = α 2 3 ∧ x.1 ≠ 0)) (Post2 := fun x sz v h => v = some (.int 1) ∧ ∃ a2 cap2 g2, LR D E (α 1 3) a2 (nW σ + 1) cap2 (x.2.1 + 1) g2 h ∧ (cap2 ≤ 100 ∧ (cap2 ≤ 2 * nW σ + 10 ∨ cap2 = x.1)) ∧ cap2 ≠ 0 ∧ (∀ i, i < nW σ → g2 i = x.2.2 i) ∧ g2 (nW σ) = some z ∧ ((a2 = α 2 3 ∧ x.1 ≠ 0) ∨ sz ≤ a2)) (fun x => ?_) (fun s H hG hP => ?_)
  · intro sz p e h1 h2 h3 s m args below h4 h5 h6 h7
    obtain ⟨p0, p1, p2, hp, c1, c2, c3, c4, c5⟩ := h6
    exact met_J2_add l D E (α 1 3) (α 2 3) x.2.1 (nW σ) x.1 x.2.2 z c1 c2 c3 c4 c5 sz p e h1 h2 h3 s m args below h4 h5 ⟨p0, p1, p2, hp⟩ h7
  · obtain ⟨hX, hz_z, hn_z, hE_z, hy0, hy1, hy2, hy3, hFl⟩ := hP
    obtain ⟨cap, mc, g, hL, hg, hF1, hF2, hcb, hne, hcl⟩ := hX.gwW
    have hn := hX.nW14
    have hFE := hX.fE
    have h1E := hFE _ hF1
    have hnU : α 1 3 ≠ α 2 3 := fun e => by
      by_cases hc0 : cap = 0
      · rcases hL.2.2.2 with ⟨-, h8⟩ | ⟨h8, -⟩
        · have h9 := hG.e6; omega
        · exact h8 hc0
      · exact hne hc0 e
    have hx_z : z ≠ α 1 3 := fun e => hn_z (e ▸ hF1)
    have hw_z : cap ≠ 0 → z ≠ α 2 3 := fun hc0 e => hn_z (e ▸ hF2 hc0)
    have hzl := hx_z
    have hza := hw_z
    refine ⟨(cap, mc, g), ⟨⟨hL, fun i y hi hy => ?_, Or.inl ⟨_, _, hz_z⟩, h1E, fun hc0 => hFE _ (hF2 hc0)⟩, hnU, by show cap ≤ 66; omega, hzl, hza, fun i y hi hy => ?_⟩, (fun q z => z.elim (fun z => Or.inl (z ▸ hF1)) (fun z => Or.inl (z.1 ▸ hF2 z.2))), (fun q z => z.elim (fun z => z ▸ hF1) (fun z => z.1 ▸ hF2 z.2)), fun v H1 hP2 hz hk => ?_⟩
    · have hy : g i = some y := hy
      rw [hg i hi] at hy
      cases hy
      exact Or.inl ⟨_, _, hX.wd hi⟩
    · have hy : g i = some y := hy
      rw [hg i hi] at hy
      cases hy
      exact hX.apEW hi
    · obtain ⟨rfl, a2, cap2, g2, hL2, hcb2, hc2, hg2, hgn, ha2⟩ := hP2
      have ha3 : (a2 = α 2 3 ∧ cap ≠ 0) ∨ (¬ F a2 ∧ (fun q => F q ∨ q = z ∨ H.size ≤ q) a2) := ha2.elim Or.inl (fun z => Or.inr ⟨fun z9 => absurd (hFl _ z9) (by have z : H.size ≤ a2 := z; omega), Or.inr (Or.inr (z))⟩)
      refine ⟨rfl, _, ?_, hcl H1 a2 z cap2 g2 band day town start len songs told hL2 hc2 hcb2 hg2 hgn ha3 (fun q h1 h2 h3 => hk q h1 (fun z => z.elim h2 (fun z => h3 z.2 z.1))) (hz_z.kept (hk _ hz_z.lt (fun e => e.elim (fun e => hx_z e) (fun e => hw_z e.2 e.1)))) hn_z (Or.inr (Or.inl rfl)) (fun e => ha2.elim (fun h => hw_z h.2 (e.symm.trans h.1)) (fun h => by have h8 : z < H.size := hz_z.lt; have h : H.size ≤ a2 := h; omega))  (fun q z => Or.inl z) (fun q hq => ?_) hy0 hy1 hy2 hy3⟩
      · unfold adXW
        rw [if_neg (by omega), if_neg (by omega)]
      · rcases hq with hq | rfl | hq
        · exact hFE q hq
        · exact hE_z
        · exact Nat.le_trans hG.2.2.1 hq

set_option maxHeartbeats 1000000 in
theorem met_maddP (l : Launch) (D : va_G) (E : Nat → Nat) {β : Nat → Nat → Nat} {F : Nat → Prop} {σ : St} {th ca : Int32} {sm : Int64} (z z2 : Nat) (ins fee songs : Int32) (home : Nat) : GM l D E yJ2_add cJ2_add 2 (Option.some Jvm.ClassFile.FieldType.boolean) 6 150 1 100 [.ref (β 1 0), .ref z] (fun h => RM D E β F σ th ca sm h ∧ va_at D vwCl (z, .inr (6, [.int ins, .int songs, .int (nI home), .int fee, .int 0, .int 0, .ref z2])) h ∧ ¬ F z ∧ E 0 ≤ z ∧ va_at D vwCl (z2, arZ E 366 (fun _ => 0)) h ∧ ¬ F z2 ∧ E 0 ≤ z2 ∧ z ≠ z2 ∧ (nP σ < 10) ∧ (home < 6) ∧ (∀ q, F q → q < h.size)) F F (fun sz v h => v = some (.int 1) ∧ ∃ β1 : Nat → Nat → Nat, β1 0 0 = β 0 0 ∧ RM D E β1 (fun q => F q ∨ q = z ∨ q = z2 ∨ sz ≤ q) (adP σ ins fee songs home) th ca sm h) := by
  refine GM.ex (ι := Nat × Int32 × (Nat → Option Nat)) (P2 := fun x h => (LR D E (β 1 0) (β 2 0) (nP σ) x.1 x.2.1 x.2.2 h ∧ (∀ i y, i < nP σ → x.2.2 i = some y → oK D E y h) ∧ oK D E z h ∧ E 0 ≤ β 1 0 ∧ (x.1 ≠ 0 → E 0 ≤ β 2 0)) ∧ (β 1 0 ≠ β 2 0 ∧ x.1 ≤ 66 ∧ z ≠ β 1 0 ∧ (x.1 ≠ 0 → z ≠ β 2 0) ∧ ∀ i y, i < nP σ → x.2.2 i = some y → y ≠ β 1 0)) (Fr1 := fun x q => q = β 1 0 ∨ (q = β 2 0 ∧ x.1 ≠ 0)) (A1 := fun x q => q = β 1 0 ∨ (q = β 2 0 ∧ x.1 ≠ 0)) (Post2 := fun x sz v h => v = some (.int 1) ∧ ∃ a2 cap2 g2, LR D E (β 1 0) a2 (nP σ + 1) cap2 (x.2.1 + 1) g2 h ∧ (cap2 ≤ 100 ∧ (cap2 ≤ 2 * nP σ + 10 ∨ cap2 = x.1)) ∧ cap2 ≠ 0 ∧ (∀ i, i < nP σ → g2 i = x.2.2 i) ∧ g2 (nP σ) = some z ∧ ((a2 = β 2 0 ∧ x.1 ≠ 0) ∨ sz ≤ a2)) (fun x => ?_) (fun s H hG hP => ?_)
  · intro sz p e h1 h2 h3 s m args below h4 h5 h6 h7
    obtain ⟨p0, p1, p2, hp, c1, c2, c3, c4, c5⟩ := h6
    exact met_J2_add l D E (β 1 0) (β 2 0) x.2.1 (nP σ) x.1 x.2.2 z c1 c2 c3 c4 c5 sz p e h1 h2 h3 s m args below h4 h5 ⟨p0, p1, p2, hp⟩ h7
  · obtain ⟨hX, hz_z, hn_z, hE_z, hz_z2, hn_z2, hE_z2, hap_z_z2, hy0, hy1, hFl⟩ := hP
    obtain ⟨cap, mc, g, hL, hmc, hg, hF1, hF2, hcb, hne, hcl⟩ := hX.gwP
    have hn := hX.nP10
    have hFE := hX.fE
    have h1E := hFE _ hF1
    have hnU : β 1 0 ≠ β 2 0 := fun e => by
      by_cases hc0 : cap = 0
      · rcases hL.2.2.2 with ⟨-, h8⟩ | ⟨h8, -⟩
        · have h9 := hG.e6; omega
        · exact h8 hc0
      · exact hne hc0 e
    have hx_z : z ≠ β 1 0 := fun e => hn_z (e ▸ hF1)
    have hw_z : cap ≠ 0 → z ≠ β 2 0 := fun hc0 e => hn_z (e ▸ hF2 hc0)
    have hx_z2 : z2 ≠ β 1 0 := fun e => hn_z2 (e ▸ hF1)
    have hw_z2 : cap ≠ 0 → z2 ≠ β 2 0 := fun hc0 e => hn_z2 (e ▸ hF2 hc0)
    have hzl := hx_z
    have hza := hw_z
    refine ⟨(cap, mc, g), ⟨⟨hL, fun i y hi hy => ?_, Or.inl ⟨_, _, hz_z⟩, h1E, fun hc0 => hFE _ (hF2 hc0)⟩, hnU, by show cap ≤ 66; omega, hzl, hza, fun i y hi hy => ?_⟩, (fun q z => z.elim (fun z => Or.inl (z ▸ hF1)) (fun z => Or.inl (z.1 ▸ hF2 z.2))), (fun q z => z.elim (fun z => z ▸ hF1) (fun z => z.1 ▸ hF2 z.2)), fun v H1 hP2 hz hk => ?_⟩
    · have hy : g i = some y := hy
      rw [hg i hi] at hy
      cases hy
      exact Or.inl ⟨_, _, hX.pl hi⟩
    · have hy : g i = some y := hy
      rw [hg i hi] at hy
      cases hy
      exact hX.apEP hi
    · obtain ⟨rfl, a2, cap2, g2, hL2, hcb2, hc2, hg2, hgn, ha2⟩ := hP2
      have ha3 : (a2 = β 2 0 ∧ cap ≠ 0) ∨ (¬ F a2 ∧ (fun q => F q ∨ q = z ∨ q = z2 ∨ H.size ≤ q) a2) := ha2.elim Or.inl (fun z => Or.inr ⟨fun z9 => absurd (hFl _ z9) (by have z : H.size ≤ a2 := z; omega), Or.inr (Or.inr (Or.inr (z)))⟩)
      refine ⟨rfl, _, ?_, hcl H1 a2 z z2 cap2 g2 ins fee songs home hL2 hc2 hcb2 hg2 hgn ha3 (fun q h1 h2 h3 => hk q h1 (fun z => z.elim h2 (fun z => h3 z.2 z.1))) (hz_z.kept (hk _ hz_z.lt (fun e => e.elim (fun e => hx_z e) (fun e => hw_z e.2 e.1)))) (hz_z2.kept (hk _ hz_z2.lt (fun e => e.elim (fun e => hx_z2 e) (fun e => hw_z2 e.2 e.1)))) hn_z (Or.inr (Or.inl rfl)) hn_z2 (Or.inr (Or.inr (Or.inl rfl))) (fun e => ha2.elim (fun h => hw_z h.2 (e.symm.trans h.1)) (fun h => by have h8 : z < H.size := hz_z.lt; have h : H.size ≤ a2 := h; omega)) (fun e => ha2.elim (fun h => hw_z2 h.2 (e.symm.trans h.1)) (fun h => by have h8 : z2 < H.size := hz_z2.lt; have h : H.size ≤ a2 := h; omega)) hap_z_z2 (fun q z => Or.inl z) (fun q hq => ?_) hy0 hy1⟩
      · unfold adMP
        rw [if_neg (by omega), if_neg (by omega), if_neg (by omega)]
      · rcases hq with hq | rfl | rfl | hq
        · exact hFE q hq
        · exact hE_z
        · exact hE_z2
        · exact Nat.le_trans hG.2.2.1 hq

set_option maxHeartbeats 1000000 in
theorem met_maddB (l : Launch) (D : va_G) (E : Nat → Nat) {β : Nat → Nat → Nat} {F : Nat → Prop} {σ : St} {th ca : Int32} {sm : Int64} (z : Nat) (sh : Int32) : GM l D E yJ2_add cJ2_add 2 (Option.some Jvm.ClassFile.FieldType.boolean) 6 150 1 100 [.ref (β 1 1), .ref z] (fun h => RM D E β F σ th ca sm h ∧ (127 < sh → va_at D vwCl (z, .inr (14, [.int sh])) h ∧ ¬ F z ∧ E 0 ≤ z) ∧ 1 ≤ sh ∧ (¬ 127 < sh → z = E (300 + (sh + 128).toNatClampNeg)) ∧ (nB σ < 6) ∧ (∀ q, F q → q < h.size)) F F (fun sz v h => v = some (.int 1) ∧ ∃ β1 : Nat → Nat → Nat, β1 0 0 = β 0 0 ∧ RM D E β1 (fun q => F q ∨ (q = z ∧ 127 < sh) ∨ sz ≤ q) (adB σ sh) th ca sm h) := by
  refine GM.ex (ι := Nat × Int32 × (Nat → Option Nat)) (P2 := fun x h => (LR D E (β 1 1) (β 2 1) (nB σ) x.1 x.2.1 x.2.2 h ∧ (∀ i y, i < nB σ → x.2.2 i = some y → oK D E y h) ∧ oK D E z h ∧ E 0 ≤ β 1 1 ∧ (x.1 ≠ 0 → E 0 ≤ β 2 1)) ∧ (β 1 1 ≠ β 2 1 ∧ x.1 ≤ 66 ∧ z ≠ β 1 1 ∧ (x.1 ≠ 0 → z ≠ β 2 1) ∧ ∀ i y, i < nB σ → x.2.2 i = some y → y ≠ β 1 1)) (Fr1 := fun x q => q = β 1 1 ∨ (q = β 2 1 ∧ x.1 ≠ 0)) (A1 := fun x q => q = β 1 1 ∨ (q = β 2 1 ∧ x.1 ≠ 0)) (Post2 := fun x sz v h => v = some (.int 1) ∧ ∃ a2 cap2 g2, LR D E (β 1 1) a2 (nB σ + 1) cap2 (x.2.1 + 1) g2 h ∧ (cap2 ≤ 100 ∧ (cap2 ≤ 2 * nB σ + 10 ∨ cap2 = x.1)) ∧ cap2 ≠ 0 ∧ (∀ i, i < nB σ → g2 i = x.2.2 i) ∧ g2 (nB σ) = some z ∧ ((a2 = β 2 1 ∧ x.1 ≠ 0) ∨ sz ≤ a2)) (fun x => ?_) (fun s H hG hP => ?_)
  · intro sz p e h1 h2 h3 s m args below h4 h5 h6 h7
    obtain ⟨p0, p1, p2, hp, c1, c2, c3, c4, c5⟩ := h6
    exact met_J2_add l D E (β 1 1) (β 2 1) x.2.1 (nB σ) x.1 x.2.2 z c1 c2 c3 c4 c5 sz p e h1 h2 h3 s m args below h4 h5 ⟨p0, p1, p2, hp⟩ h7
  · obtain ⟨hX, hzz, hs1, hce, hy0, hFl⟩ := hP
    obtain ⟨cap, mc, g, hL, hmc, hg, hF1, hF2, hcb, hne, hcl⟩ := hX.gwB
    have hn := hX.nB6
    have hFE := hX.fE
    have h1E := hFE _ hF1
    have hnU : β 1 1 ≠ β 2 1 := fun e => by
      by_cases hc0 : cap = 0
      · rcases hL.2.2.2 with ⟨-, h8⟩ | ⟨h8, -⟩
        · have h9 := hG.e6; omega
        · exact h8 hc0
      · exact hne hc0 e
    have hzb : ¬ 127 < sh → z < E 0 := fun h127 => by have h9 := hce h127; have h8 := hG.ebox (bx_ix hs1 h127).1; omega
    have hzl : z ≠ β 1 1 := fun e => by
      by_cases h127 : 127 < sh
      · exact (hzz h127).2.1 (e ▸ hF1)
      · have := hzb h127; omega
    have hza : cap ≠ 0 → z ≠ β 2 1 := fun hc0 e => by
      by_cases h127 : 127 < sh
      · exact (hzz h127).2.1 (e ▸ hF2 hc0)
      · have := hzb h127; have := hFE _ (hF2 hc0); omega
    refine ⟨(cap, mc, g), ⟨⟨hL, fun i y hi hy => ?_, (if h127 : 127 < sh then Or.inl ⟨_, _, (hzz h127).1⟩ else Or.inr (Or.inl ⟨(sh + 128).toNatClampNeg, (bx_ix hs1 h127).1, hce h127⟩)), h1E, fun hc0 => hFE _ (hF2 hc0)⟩, hnU, by show cap ≤ 66; omega, hzl, hza, fun i y hi hy => ?_⟩, (fun q z => z.elim (fun z => Or.inl (z ▸ hF1)) (fun z => Or.inl (z.1 ▸ hF2 z.2))), (fun q z => z.elim (fun z => z ▸ hF1) (fun z => z.1 ▸ hF2 z.2)), fun v H1 hP2 hz hk => ?_⟩
    · have hy : g i = some y := hy
      rw [hg i hi] at hy
      cases hy
      exact hX.bxO hi
    · have hy : g i = some y := hy
      rw [hg i hi] at hy
      cases hy
      exact hX.apEB hG hi
    · obtain ⟨rfl, a2, cap2, g2, hL2, hcb2, hc2, hg2, hgn, ha2⟩ := hP2
      have ha3 : (a2 = β 2 1 ∧ cap ≠ 0) ∨ (¬ F a2 ∧ (fun q => F q ∨ (q = z ∧ 127 < sh) ∨ H.size ≤ q) a2) := ha2.elim Or.inl (fun z => Or.inr ⟨fun z9 => absurd (hFl _ z9) (by have z : H.size ≤ a2 := z; omega), Or.inr (Or.inr z)⟩)
      refine ⟨rfl, _, ?_, hcl H1 a2 z cap2 g2 sh hL2 hc2 hcb2 hg2 hgn ha3 (fun q h1 h2 h3 => hk q h1 (fun z => z.elim h2 (fun z => h3 z.2 z.1))) (fun h127 => (hzz h127).1.kept (hk _ (hzz h127).1.lt (fun e => e.elim (fun e => hzl e) (fun e => hza e.2 e.1)))) (fun h127 => ⟨(hzz h127).2.1, Or.inr (Or.inl ⟨rfl, h127⟩)⟩) hs1 hce (fun h127 e => ?_) (fun q z => Or.inl z) (fun q hq => ?_) hy0⟩
      · show (if 0 = 2 ∧ 0 = 1 then a2 else if 0 = 9 ∧ 0 = nB σ then z else β 0 0) = β 0 0
        rw [if_neg (by omega), if_neg (by omega)]
      · rcases ha2 with ha2 | ha2
        · exact hza ha2.2 (e.symm.trans ha2.1)
        · have h8 := (hzz h127).1.lt; have ha2 : H.size ≤ a2 := ha2; omega
      · rcases hq with hq | ⟨rfl, hq⟩ | hq
        · exact hFE q hq
        · exact (hzz hq).2.2
        · exact Nat.le_trans hG.2.2.1 hq

set_option maxHeartbeats 1000000 in
theorem met_maddW (l : Launch) (D : va_G) (E : Nat → Nat) {β : Nat → Nat → Nat} {F : Nat → Prop} {σ : St} {th ca : Int32} {sm : Int64} (z : Nat) (band day town : Nat) (start len songs told : Int32) : GM l D E yJ2_add cJ2_add 2 (Option.some Jvm.ClassFile.FieldType.boolean) 6 150 1 100 [.ref (β 1 2), .ref z] (fun h => RM D E β F σ th ca sm h ∧ va_at D vwCl (z, .inr (9, [.int (nI band), .int (nI day), .int (nI town), .int start, .int len, .int songs, .int told, .int (nI 0), .int 0, .int 0, .int 0, .int 0])) h ∧ ¬ F z ∧ E 0 ≤ z ∧ (nW σ < 14) ∧ (band < nB σ) ∧ (day < 366) ∧ (town < 6) ∧ (∀ q, F q → q < h.size)) F F (fun sz v h => v = some (.int 1) ∧ ∃ β1 : Nat → Nat → Nat, β1 0 0 = β 0 0 ∧ RM D E β1 (fun q => F q ∨ q = z ∨ sz ≤ q) (adW σ band day town start len songs told) th ca sm h) := by
  refine GM.ex (ι := Nat × Int32 × (Nat → Option Nat)) (P2 := fun x h => (LR D E (β 1 2) (β 2 2) (nW σ) x.1 x.2.1 x.2.2 h ∧ (∀ i y, i < nW σ → x.2.2 i = some y → oK D E y h) ∧ oK D E z h ∧ E 0 ≤ β 1 2 ∧ (x.1 ≠ 0 → E 0 ≤ β 2 2)) ∧ (β 1 2 ≠ β 2 2 ∧ x.1 ≤ 66 ∧ z ≠ β 1 2 ∧ (x.1 ≠ 0 → z ≠ β 2 2) ∧ ∀ i y, i < nW σ → x.2.2 i = some y → y ≠ β 1 2)) (Fr1 := fun x q => q = β 1 2 ∨ (q = β 2 2 ∧ x.1 ≠ 0)) (A1 := fun x q => q = β 1 2 ∨ (q = β 2 2 ∧ x.1 ≠ 0)) (Post2 := fun x sz v h => v = some (.int 1) ∧ ∃ a2 cap2 g2, LR D E (β 1 2) a2 (nW σ + 1) cap2 (x.2.1 + 1) g2 h ∧ (cap2 ≤ 100 ∧ (cap2 ≤ 2 * nW σ + 10 ∨ cap2 = x.1)) ∧ cap2 ≠ 0 ∧ (∀ i, i < nW σ → g2 i = x.2.2 i) ∧ g2 (nW σ) = some z ∧ ((a2 = β 2 2 ∧ x.1 ≠ 0) ∨ sz ≤ a2)) (fun x => ?_) (fun s H hG hP => ?_)
  · intro sz p e h1 h2 h3 s m args below h4 h5 h6 h7
    obtain ⟨p0, p1, p2, hp, c1, c2, c3, c4, c5⟩ := h6
    exact met_J2_add l D E (β 1 2) (β 2 2) x.2.1 (nW σ) x.1 x.2.2 z c1 c2 c3 c4 c5 sz p e h1 h2 h3 s m args below h4 h5 ⟨p0, p1, p2, hp⟩ h7
  · obtain ⟨hX, hz_z, hn_z, hE_z, hy0, hy1, hy2, hy3, hFl⟩ := hP
    obtain ⟨cap, mc, g, hL, hmc, hg, hF1, hF2, hcb, hne, hcl⟩ := hX.gwW
    have hn := hX.nW14
    have hFE := hX.fE
    have h1E := hFE _ hF1
    have hnU : β 1 2 ≠ β 2 2 := fun e => by
      by_cases hc0 : cap = 0
      · rcases hL.2.2.2 with ⟨-, h8⟩ | ⟨h8, -⟩
        · have h9 := hG.e6; omega
        · exact h8 hc0
      · exact hne hc0 e
    have hx_z : z ≠ β 1 2 := fun e => hn_z (e ▸ hF1)
    have hw_z : cap ≠ 0 → z ≠ β 2 2 := fun hc0 e => hn_z (e ▸ hF2 hc0)
    have hzl := hx_z
    have hza := hw_z
    refine ⟨(cap, mc, g), ⟨⟨hL, fun i y hi hy => ?_, Or.inl ⟨_, _, hz_z⟩, h1E, fun hc0 => hFE _ (hF2 hc0)⟩, hnU, by show cap ≤ 66; omega, hzl, hza, fun i y hi hy => ?_⟩, (fun q z => z.elim (fun z => Or.inl (z ▸ hF1)) (fun z => Or.inl (z.1 ▸ hF2 z.2))), (fun q z => z.elim (fun z => z ▸ hF1) (fun z => z.1 ▸ hF2 z.2)), fun v H1 hP2 hz hk => ?_⟩
    · have hy : g i = some y := hy
      rw [hg i hi] at hy
      cases hy
      exact Or.inl ⟨_, _, hX.wd hi⟩
    · have hy : g i = some y := hy
      rw [hg i hi] at hy
      cases hy
      exact hX.apEW hi
    · obtain ⟨rfl, a2, cap2, g2, hL2, hcb2, hc2, hg2, hgn, ha2⟩ := hP2
      have ha3 : (a2 = β 2 2 ∧ cap ≠ 0) ∨ (¬ F a2 ∧ (fun q => F q ∨ q = z ∨ H.size ≤ q) a2) := ha2.elim Or.inl (fun z => Or.inr ⟨fun z9 => absurd (hFl _ z9) (by have z : H.size ≤ a2 := z; omega), Or.inr (Or.inr (z))⟩)
      refine ⟨rfl, _, ?_, hcl H1 a2 z cap2 g2 band day town start len songs told hL2 hc2 hcb2 hg2 hgn ha3 (fun q h1 h2 h3 => hk q h1 (fun z => z.elim h2 (fun z => h3 z.2 z.1))) (hz_z.kept (hk _ hz_z.lt (fun e => e.elim (fun e => hx_z e) (fun e => hw_z e.2 e.1)))) hn_z (Or.inr (Or.inl rfl)) (fun e => ha2.elim (fun h => hw_z h.2 (e.symm.trans h.1)) (fun h => by have h8 : z < H.size := hz_z.lt; have h : H.size ≤ a2 := h; omega))  (fun q z => Or.inl z) (fun q hq => ?_) hy0 hy1 hy2 hy3⟩
      · unfold adMW
        rw [if_neg (by omega), if_neg (by omega)]
      · rcases hq with hq | rfl | hq
        · exact hFE q hq
        · exact hE_z
        · exact Nat.le_trans hG.2.2.1 hq

