/-! pictures with one element more, or with an element replaced -/
set_option maxRecDepth 100000
def upA (r : Nat) (α : Nat → Nat → Nat) (f : Nat → Nat) : Nat → Nat → Nat := fun i j => if i = r then f j else α i j
/-- the same addresses, but for one row -/
def KA (r : Nat) (α0 α : Nat → Nat → Nat) : Prop := ∀ i j, i ≠ r → α i j = α0 i j
theorem KA.rf {r : Nat} {α : Nat → Nat → Nat} : KA r α α := fun _ _ _ => rfl
theorem KA.tr {r : Nat} {a b c : Nat → Nat → Nat} (h : KA r a b) (g : KA r b c) : KA r a c := fun i j hi => (g i j hi).trans (h i j hi)
theorem KA.up {r : Nat} {α : Nat → Nat → Nat} {f : Nat → Nat} : KA r α (upA r α f) := fun _ _ hi => if_neg hi
theorem Rep.re {D : va_G} {C C' : Nat → Nat → Option va_E} {α α' : Nat → Nat → Nat} {F F' : Nat → Prop} {H H1 : Heap} (N : Nat → Nat → Prop) (h : Rep D C α F H) (hF : ∀ q, F q → F' q)
    (hall : ∀ i j e', C' i j = some e' → va_at D vwCl (α' i j, e') H1 ∧ ((¬ N i j ∧ (∃ e, C i j = some e) ∧ α' i j = α i j) ∨ (N i j ∧ F' (α' i j) ∧ ¬ F (α' i j))))
    (hinj : ∀ i j i' j' e e', N i j → N i' j' → C' i j = some e → C' i' j' = some e' → α' i j = α' i' j' → i = i' ∧ j = j') : Rep D C' α' F' H1 := by
  refine ⟨fun i j e he => ⟨(hall i j e he).1, ?_⟩, fun i j i' j' e e' he he' hab => ?_⟩
  · rcases (hall i j e he).2 with ⟨-, ⟨e0, h0⟩, ha⟩ | ⟨-, hf, -⟩
    · rw [ha]; exact hF _ (h.1 i j e0 h0).2
    · exact hf
  · rcases (hall i j e he).2 with ⟨n1, ⟨e0, h0⟩, ha⟩ | ⟨n1, hf1, hg1⟩
    · rcases (hall i' j' e' he').2 with ⟨n2, ⟨e1, h1⟩, hb⟩ | ⟨n2, hf2, hg2⟩
      · rw [ha, hb] at hab; exact h.2 i j i' j' e0 e1 h0 h1 hab
      · rw [← hab, ha] at hg2; exact absurd (h.1 i j e0 h0).2 hg2
    · rcases (hall i' j' e' he').2 with ⟨n2, ⟨e1, h1⟩, hb⟩ | ⟨n2, hf2, hg2⟩
      · rw [hab, hb] at hg1; exact absurd (h.1 i' j' e1 h1).2 hg1
      · exact hinj i j i' j' e e' n1 n2 he he' hab
section SETS
variable {D : va_G} {E : Nat → Nat} {α : Nat → Nat → Nat} {F F' : Nat → Prop} {σ : St} {H : Heap}
def sgCell (a b c d : Int32) : va_E := .inr (2, [.int a, .int b, .int c, .int d])
def stS (σ : St) (k : Nat) (a b c d : Int32) : St := sW (sW (sW (sW σ 30 k a) 31 k b) 32 k c) 33 k d
def adS (α : Nat → Nat → Nat) (k z : Nat) : Nat → Nat → Nat := upA 6 α (fun j => if j = k then z else α 6 j)
set_option maxHeartbeats 4000000 in
/-- the songs' list is opened; a song is put in -/
theorem RX.setS (h : RX D E α F σ H) {k : Nat} (hk : k < 16) : ∃ (cap : Nat) (mc : Int32) (g : Nat → Option Nat), LR D E (α 1 1) (α 2 1) 16 cap mc g H ∧ va_at D vwCl (α 2 1, arQ E cap g) H ∧ g k = some (α 6 k) ∧ F (α 2 1) ∧ cap ≤ 66 ∧ 16 ≤ cap ∧ α 1 1 ≠ α 2 1 ∧
    ∀ (H1 : Heap) (z : Nat) (a b c d : Int32), va_at D vwCl (α 2 1, arQ E cap (va_up g k (some z))) H1 → (∀ q : Nat, q < H.size → q ≠ α 2 1 → H1[q]? = H[q]?) → va_at D vwCl (z, sgCell a b c d) H1 → ¬ F z → (∀ q, F q → F' q) → F' z → (∀ q, F' q → E 0 ≤ q) → RX D E (adS α k z) F' (stS σ k a b c d) H1 := by
  obtain ⟨h1, h0, γ, h2, h3⟩ := h
  obtain ⟨q1, ⟨q2, q2'⟩, q3⟩ := h2 1 (by decide)
  have q1 : 16 ≤ γ.2.1 1 := q1
  have q2' : γ.2.1 1 ≤ 10 + 2 * 16 := q2'
  have hc0 : γ.2.1 1 ≠ 0 := by omega
  have hl := h3.1 1 1 (.inr (13, [.int (γ.1 1), .ref (α 2 1), .int (nI (xCnt σ 1))])) rfl
  have ha := h3.1 2 1 _ (if_pos ⟨by decide, hc0⟩)
  refine ⟨γ.2.1 1, γ.1 1, fun k => if k < xCnt σ 1 then some (α (xEl 1) k) else γ.2.2 1 k, ⟨hl.1, q1, by omega, Or.inr ⟨hc0, ha.1⟩⟩, ha.1, if_pos hk, ha.2, by omega, q1, ?_, ?_⟩
  · intro e
    have := (h3.2 1 1 2 1 (.inr (13, [.int (γ.1 1), .ref (α 2 1), .int (nI (xCnt σ 1))])) _ rfl (if_pos ⟨by decide, hc0⟩) e).1
    omega
  · intro H1 z a b c d hA hq hz hzF hFF hz' hE
    have hkeep : ∀ i j e, cellX E σ γ α i j = some e → (i ≠ 2 ∨ j ≠ 1) → va_at D vwCl (α i j, e) H1 := by
      intro i j e he hij
      refine (h3.1 i j e he).1.kept (hq _ (h3.1 i j e he).1.lt (fun z => ?_))
      have := h3.2 i j 2 1 _ _ he (if_pos ⟨by decide, hc0⟩) z
      omega
    refine ⟨h1, hE, γ, fun j hj => ?_, Rep.re (fun i j => i = 6 ∧ j = k) h3 hFF (fun i j e' he' => ?_) (fun i j i' j' e e' n1 n2 _ _ _ => ⟨n1.1.trans n2.1.symm, n1.2.trans n2.2.symm⟩)⟩
    · have e1 : xCnt (stS σ k a b c d) j = xCnt σ j := by unfold stS; rw [xCnt_sW, xCnt_sW, xCnt_sW, xCnt_sW]
      rw [e1]
      exact h2 j hj
    · have same : ∀ i, i ≠ 2 → i ≠ 6 → cellX E (stS σ k a b c d) γ (adS α k z) i j = cellX E σ γ α i j := by
        intro i hi2 hi6
        match i, hi2, hi6 with
        | 0, _, _ => rfl
        | 1, _, _ => simp only [cellX, stS, xCnt_sW]; rfl
        | 3, _, _ => rfl
        | 4, _, _ => rfl
        | 5, _, _ => rfl
        | 7, _, _ => rfl
        | 8, _, _ => rfl
        | 9, _, _ => rfl
        | 10, _, _ => rfl
        | 11, _, _ =>
          have e9 : bGiv (stS σ k a b c d) j = bGiv σ j := by unfold stS; rw [sW_gv (by omega), sW_gv (by omega), sW_gv (by omega), sW_gv (by omega)]
          show (if j < nB σ then some (arI E 6 (bGiv (stS σ k a b c d) j)) else none) = _
          rw [e9]
          rfl
        | n + 12, _, _ => rfl
      by_cases hi6 : i = 6
      · subst hi6
        by_cases hj : j = k
        · subst hj
          have e1 : adS α j z 6 j = z := by unfold adS upA; rw [if_pos rfl]; exact if_pos rfl
          rw [e1]
          have e2 : e' = sgCell a b c d := by
            have he' := he'
            simp only [cellX, stS, sKey, sEnergy, sMin, sPlayed, sW_21] at he'
            rw [if_pos hk] at he'
            simp at he'
            exact he'.symm
          rw [e2]
          exact ⟨hz, Or.inr ⟨⟨rfl, rfl⟩, hz', hzF⟩⟩
        · have e1 : adS α k z 6 j = α 6 j := by unfold adS upA; rw [if_pos rfl]; exact if_neg hj
          have e2 : cellX E (stS σ k a b c d) γ (adS α k z) 6 j = cellX E σ γ α 6 j := by
            simp [cellX, stS, sKey, sEnergy, sMin, sPlayed, sW_21, hj]
          rw [e2] at he'
          rw [e1]
          exact ⟨hkeep 6 j e' he' (Or.inl (by decide)), Or.inl ⟨fun z => hj z.2, ⟨e', he'⟩, rfl⟩⟩
      · by_cases hi2 : i = 2
        · subst hi2
          by_cases hj : j = 1
          · subst hj
            have e2 : e' = arQ E (γ.2.1 1) (va_up (fun k => if k < xCnt σ 1 then some (α (xEl 1) k) else γ.2.2 1 k) k (some z)) := by
              have he' := he'
              have hcnt : xCnt (stS σ k a b c d) 1 = 16 := rfl
              simp only [cellX] at he'
              rw [if_pos ⟨by decide, hc0⟩] at he'
              rw [← Option.some.inj he']
              congr 1
              funext x
              rw [hcnt]
              show (if x < 16 then some (adS α k z 6 x) else γ.2.2 1 x) = va_up (fun k => if k < 16 then some (α 6 k) else γ.2.2 1 k) k (some z) x
              unfold va_up adS upA
              by_cases hx : x = k
              · subst hx; rw [if_pos hk, if_pos rfl, if_pos rfl]; exact congrArg some (if_pos rfl)
              · rw [if_neg hx, if_pos rfl]; show (if x < 16 then some (if x = k then z else α 6 x) else γ.2.2 1 x) = _; rw [if_neg hx]
            rw [e2]
            exact ⟨hA, Or.inl ⟨fun z => absurd z.1 (by decide), ⟨_, if_pos ⟨by decide, hc0⟩⟩, rfl⟩⟩
          · have e2 : cellX E (stS σ k a b c d) γ (adS α k z) 2 j = cellX E σ γ α 2 j := by
              unfold stS
              match j, hj with
              | 0, _ => rfl
              | 2, _ => rfl
              | 3, _ => rfl
              | j + 4, _ => simp only [cellX]; rw [if_neg (by omega), if_neg (by omega)]
            rw [e2] at he'
            exact ⟨hkeep 2 j e' he' (Or.inr hj), Or.inl ⟨fun z => absurd z.1 (by decide), ⟨e', he'⟩, rfl⟩⟩
        · rw [same i hi2 hi6] at he'
          have e1 : adS α k z i j = α i j := by unfold adS upA; rw [if_neg hi6]
          rw [e1]
          exact ⟨hkeep i j e' he' (Or.inl hi2), Or.inl ⟨fun z => hi6 z.1, ⟨e', he'⟩, rfl⟩⟩
end SETS
