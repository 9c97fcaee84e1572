/-! a wedding put back -/
set_option maxRecDepth 100000
section SETS
variable {D : va_G} {E : Nat → Nat} {α : Nat → Nat → Nat} {F F' : Nat → Prop} {σ : St} {H : Heap}
def wdCell (E : Nat → Nat) (σ : St) (k : Nat) : va_E := .inr (8, [.int (nI (wBand σ k)), .int (nI (wDay σ k)), .int (nI (wTown σ k)), .int (wStart σ k), .int (wLen σ k), .int (wSongs σ k), .int (wTold σ k), .ref (E (10 + wState σ k)), .int (wSet σ k), .int (wPrice σ k), .int (wPaid σ k), .int (wLate σ k)])
def adWk (α : Nat → Nat → Nat) (k z : Nat) : Nat → Nat → Nat := upA 5 α (fun j => if j = k then z else α 5 j)
set_option maxHeartbeats 4000000 in
/-- the weddings' list is opened; a wedding is put in as it stood in another state -/
theorem RX.setW (h : RX D E α F σ H) {k : Nat} (hk : k < nW σ) : ∃ (cap : Nat) (mc : Int32) (g : Nat → Option Nat), LR D E (α 1 3) (α 2 3) (nW σ) cap mc g H ∧ va_at D vwCl (α 2 3, arQ E cap g) H ∧ g k = some (α 5 k) ∧ F (α 2 3) ∧ cap ≤ 66 ∧ nW σ ≤ cap ∧ α 1 3 ≠ α 2 3 ∧
    ∀ (H1 : Heap) (z : Nat) (σ0 : St), va_at D vwCl (α 2 3, arQ E cap (va_up g k (some z))) H1 → (∀ q : Nat, q < H.size → q ≠ α 2 3 → H1[q]? = H[q]?) → va_at D vwCl (z, wdCell E σ0 k) H1 → ¬ F z → (∀ q, F q → F' q) → F' z → (∀ q, F' q → E 0 ≤ q) → RI σ0 → cnt σ0 σ → RX D E (adWk α k z) F' (cpW σ0 σ k) H1 := by
  obtain ⟨h1, h0, γ, h2, h3⟩ := h
  obtain ⟨q1, ⟨q2, q2'⟩, q3⟩ := h2 3 (by decide)
  have q1 : nW σ ≤ γ.2.1 3 := q1
  have q2' : γ.2.1 3 ≤ 10 + 2 * nW σ := q2'
  have h14 := h1.2.2.1
  have hc0 : γ.2.1 3 ≠ 0 := by omega
  have hl := h3.1 1 3 (.inr (13, [.int (γ.1 3), .ref (α 2 3), .int (nI (xCnt σ 3))])) rfl
  have ha := h3.1 2 3 _ (if_pos ⟨by decide, hc0⟩)
  refine ⟨γ.2.1 3, γ.1 3, fun k => if k < xCnt σ 3 then some (α (xEl 3) k) else γ.2.2 3 k, ⟨hl.1, q1, by omega, Or.inr ⟨hc0, ha.1⟩⟩, ha.1, if_pos hk, ha.2, by omega, q1, ?_, ?_⟩
  · intro e
    have := (h3.2 1 3 2 3 (.inr (13, [.int (γ.1 3), .ref (α 2 3), .int (nI (xCnt σ 3))])) _ rfl (if_pos ⟨by decide, hc0⟩) e).1
    omega
  · intro H1 z σ0 hA hq hz hzF hFF hz' hE hI0 hc0σ
    have hkeep : ∀ i j e, cellX E σ γ α i j = some e → (i ≠ 2 ∨ j ≠ 3) → va_at D vwCl (α i j, e) H1 := by
      intro i j e he hij
      refine (h3.1 i j e he).1.kept (hq _ (h3.1 i j e he).1.lt (fun z => ?_))
      have := h3.2 i j 2 3 _ _ he (if_pos ⟨by decide, hc0⟩) z
      omega
    refine ⟨cpW_RI h1 hI0 hc0σ hk, hE, γ, fun j hj => ?_, Rep.re (fun i j => i = 5 ∧ j = k) h3 hFF (fun i j e' he' => ?_) (fun i j i' j' e e' n1 n2 _ _ _ => ⟨n1.1.trans n2.1.symm, n1.2.trans n2.2.symm⟩)⟩
    · have e1 : xCnt (cpW σ0 σ k) j = xCnt σ j := by match j, hj with
        | 0, _ => rfl
        | 1, _ => rfl
        | 2, _ => rfl
        | 3, _ => rfl
        | x + 4, _ => exact absurd hj (by omega)
      rw [e1]
      exact h2 j hj
    · have same : ∀ i, i ≠ 2 → i ≠ 5 → cellX E (cpW σ0 σ k) γ (adWk α k z) i j = cellX E σ γ α i j := by
        intro i hi2 hi5
        match i, hi2, hi5 with
        | 0, _, _ => rfl
        | 1, _, _ =>
          match j with
          | 0 => rfl
          | 1 => rfl
          | 2 => rfl
          | 3 => rfl
          | x + 4 => simp only [cellX]; rw [if_neg (by omega), if_neg (by omega)]
        | 3, _, _ => rfl
        | 4, _, _ => rfl
        | 6, _, _ => rfl
        | 7, _, _ => rfl
        | 8, _, _ => rfl
        | 9, _, _ => rfl
        | 10, _, _ => rfl
        | 11, _, _ =>
          have e9 : bGiv (cpW σ0 σ k) j = bGiv σ j := cpW_gv
          show (if j < nB σ then some (arI E 6 (bGiv (cpW σ0 σ k) j)) else none) = _
          rw [e9]
          rfl
        | n + 12, _, _ => rfl
      by_cases hi5 : i = 5
      · subst hi5
        by_cases hj : j = k
        · subst hj
          have e1 : adWk α j z 5 j = z := by unfold adWk upA; rw [if_pos rfl]; exact if_pos rfl
          rw [e1]
          have hc : cellX E (cpW σ0 σ j) γ (adWk α j z) 5 j = some (wdCell E σ0 j) := by
            refine (if_pos hk).trans ?_
            simp [cpW, wdCell, nP, nB, nW, pHome, wTown, wBand, wDay, wState, wStart, wLen, wSongs, wTold, wSet, wPrice, wPaid, wLate]
          have e2 : e' = wdCell E σ0 j := Option.some.inj (he'.symm.trans hc)
          rw [e2]
          exact ⟨hz, Or.inr ⟨⟨rfl, rfl⟩, hz', hzF⟩⟩
        · have e1 : adWk α k z 5 j = α 5 j := by unfold adWk upA; rw [if_pos rfl]; exact if_neg hj
          have e2 : cellX E (cpW σ0 σ k) γ (adWk α k z) 5 j = cellX E σ γ α 5 j := by
            by_cases hjn : j < nW σ
            · refine (if_pos hjn).trans (Eq.trans ?_ (if_pos hjn).symm)
              simp [cpW, nP, nB, nW, pHome, wTown, wBand, wDay, wState, wStart, wLen, wSongs, wTold, wSet, wPrice, wPaid, wLate, hj]
            · exact (if_neg hjn).trans (if_neg hjn).symm
          rw [e2] at he'
          rw [e1]
          exact ⟨hkeep 5 j e' he' (Or.inl (by decide)), Or.inl ⟨fun z => hj z.2, ⟨e', he'⟩, rfl⟩⟩
      · by_cases hi2 : i = 2
        · subst hi2
          by_cases hj : j = 3
          · subst hj
            have e2 : e' = arQ E (γ.2.1 3) (va_up (fun k => if k < xCnt σ 3 then some (α (xEl 3) k) else γ.2.2 3 k) k (some z)) := by
              have he' := he'
              have hcnt : xCnt (cpW σ0 σ k) 3 = nW σ := rfl
              simp only [cellX] at he'
              rw [if_pos ⟨by decide, hc0⟩] at he'
              rw [← Option.some.inj he']
              congr 1
              funext x
              rw [hcnt]
              show (if x < nW σ then some (adWk α k z 5 x) else γ.2.2 3 x) = va_up (fun k => if k < nW σ then some (α 5 k) else γ.2.2 3 k) k (some z) x
              unfold va_up adWk upA
              by_cases hx : x = k
              · subst hx; rw [if_pos hk, if_pos rfl, if_pos rfl]; exact congrArg some (if_pos rfl)
              · rw [if_neg hx, if_pos rfl]; show (if x < nW σ then some (if x = k then z else α 5 x) else γ.2.2 3 x) = _; rw [if_neg hx]
            rw [e2]
            exact ⟨hA, Or.inl ⟨fun z => absurd z.1 (by decide), ⟨_, if_pos ⟨by decide, hc0⟩⟩, rfl⟩⟩
          · have e2 : cellX E (cpW σ0 σ k) γ (adWk α k z) 2 j = cellX E σ γ α 2 j := by
              match j, hj with
              | 0, _ => rfl
              | 1, _ => rfl
              | 2, _ => rfl
              | j + 4, _ => simp only [cellX]; rw [if_neg (by omega), if_neg (by omega)]
            rw [e2] at he'
            exact ⟨hkeep 2 j e' he' (Or.inr hj), Or.inl ⟨fun z => absurd z.1 (by decide), ⟨e', he'⟩, rfl⟩⟩
        · rw [same i hi2 hi5] at he'
          have e1 : adWk α k z i j = α i j := by unfold adWk upA; rw [if_neg hi5]
          rw [e1]
          exact ⟨hkeep i j e' he' (Or.inl hi2), Or.inl ⟨fun z => hi5 z.1, ⟨e', he'⟩, rfl⟩⟩
end SETS
